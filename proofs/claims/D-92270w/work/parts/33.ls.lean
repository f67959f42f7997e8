set_option maxRecDepth 100000
/-! ===== small methods of both sides ===== -/
theorem one_ne : ((1 : Int32) = 0) = False := by decide
theorem wz_n {b : Bool} {Q : Int32 → Prop} : wif (b = false) (Q 1) (Q 0) = Q (zI (!b)) := by cases b <;> simp [wif, zI]
theorem wz_p {b : Bool} {Q : Int32 → Prop} : wif (b = false) (Q 0) (Q 1) = Q (zI b) := by cases b <;> simp [wif, zI]
theorem wz_lt {a b : Int32} {Q : Int32 → Prop} : wif (a < b) (Q 0) (Q 1) = Q (zI (decide (b ≤ a))) := by
  by_cases h : a < b
  · rw [decide_eq_false (Int32.not_le.mpr h)]
    exact propext ⟨fun q => q.1 h, fun q => wif_y h q⟩
  · rw [decide_eq_true (Int32.not_lt.mp h)]
    exact propext ⟨fun q => q.2 h, fun q => wif_n h q⟩
theorem tc0 : Int32.toNatClampNeg 0 = 0 := by decide
theorem tc1 : Int32.toNatClampNeg 1 = 1 := by decide
theorem tc2 : Int32.toNatClampNeg 2 = 2 := by decide
theorem tc3 : Int32.toNatClampNeg 3 = 3 := by decide
theorem tc4 : Int32.toNatClampNeg 4 = 4 := by decide
theorem tc5 : Int32.toNatClampNeg 5 = 5 := by decide
theorem tc6 : Int32.toNatClampNeg 6 = 6 := by decide
theorem vz0 {N : Nat} (h : 0 < N) (hN : N < 2 ^ 31) : vp_in 0 N := vp_in_nI (n := 0) h hN
theorem vz1 {N : Nat} (h : 1 < N) (hN : N < 2 ^ 31) : vp_in 1 N := vp_in_nI (n := 1) h hN
theorem vz2 {N : Nat} (h : 2 < N) (hN : N < 2 ^ 31) : vp_in 2 N := vp_in_nI (n := 2) h hN
theorem vz3 {N : Nat} (h : 3 < N) (hN : N < 2 ^ 31) : vp_in 3 N := vp_in_nI (n := 3) h hN
theorem vz4 {N : Nat} (h : 4 < N) (hN : N < 2 ^ 31) : vp_in 4 N := vp_in_nI (n := 4) h hN
theorem vz5 {N : Nat} (h : 5 < N) (hN : N < 2 ^ 31) : vp_in 5 N := vp_in_nI (n := 5) h hN
theorem vz6 {N : Nat} (h : 6 < N) (hN : N < 2 ^ 31) : vp_in 6 N := vp_in_nI (n := 6) h hN
section
variable {G : xG} {S : xH} {o : Nat} {M : xM} {x y : Int32} {Q : Int32 → Prop} {m : Nat}
theorem Inv.m0 (h : Inv G S o M) : Inv G S o (m1 M 0 0) := h
theorem c_isStreet (h : Inv G S o M) : w_X0_isStreet S o x Q = Q (zI (rg x 0 (nI (gN G 1) - 1))) := by simp only [w_X0_isStreet, h.O_t, h.O_c50, wif_T, wif_F, nm_eq, jn_eq, jn0_eq, jn2_eq, jn3_eq, jn4_eq, zI_t, zI_f, zI0, x_B_zI, x_B_0, x_B_1, isIn_eq, in_eq, Bool.true_eq_false, Bool.false_eq_true, eq_self, true_and, and_true, Option.some.injEq, exists_eq_left', exists_eq_left, reduceCtorEq, not_true_eq_false, not_false_eq_true, one_ne, if_true, if_false]
theorem c_isMan (h : Inv G S o M) : w_X0_isMan S o x Q = Q (zI (rg x 0 (nI (gN G 5) - 1))) := by simp only [w_X0_isMan, h.O_t, h.O_c53, wif_T, wif_F, nm_eq, jn_eq, jn0_eq, jn2_eq, jn3_eq, jn4_eq, zI_t, zI_f, zI0, x_B_zI, x_B_0, x_B_1, isIn_eq, in_eq, Bool.true_eq_false, Bool.false_eq_true, eq_self, true_and, and_true, Option.some.injEq, exists_eq_left', exists_eq_left, reduceCtorEq, not_true_eq_false, not_false_eq_true, one_ne, if_true, if_false]
theorem c_isPaper (h : Inv G S o M) : w_X0_isPaper S o x Q = Q (zI (rg x 0 (nI (gN G 15) - 1))) := by simp only [w_X0_isPaper, h.O_t, h.O_c58, wif_T, wif_F, nm_eq, jn_eq, jn0_eq, jn2_eq, jn3_eq, jn4_eq, zI_t, zI_f, zI0, x_B_zI, x_B_0, x_B_1, isIn_eq, in_eq, Bool.true_eq_false, Bool.false_eq_true, eq_self, true_and, and_true, Option.some.injEq, exists_eq_left', exists_eq_left, reduceCtorEq, not_true_eq_false, not_false_eq_true, one_ne, if_true, if_false]
theorem c_isAct (h : Inv G S o M) : w_X0_isAct S o x Q = Q (zI (rg x 0 (nI (gN G 17) - 1))) := by simp only [w_X0_isAct, h.O_t, h.O_c60, wif_T, wif_F, nm_eq, jn_eq, jn0_eq, jn2_eq, jn3_eq, jn4_eq, zI_t, zI_f, zI0, x_B_zI, x_B_0, x_B_1, isIn_eq, in_eq, Bool.true_eq_false, Bool.false_eq_true, eq_self, true_and, and_true, Option.some.injEq, exists_eq_left', exists_eq_left, reduceCtorEq, not_true_eq_false, not_false_eq_true, one_ne, if_true, if_false]
theorem c_isShip (h : Inv G S o M) : w_X0_isShip S o x Q = Q (zI (rg x 0 (nI (gN G 9) - 1))) := by simp only [w_X0_isShip, h.O_t, h.O_c65, wif_T, wif_F, nm_eq, jn_eq, jn0_eq, jn2_eq, jn3_eq, jn4_eq, zI_t, zI_f, zI0, x_B_zI, x_B_0, x_B_1, isIn_eq, in_eq, Bool.true_eq_false, Bool.false_eq_true, eq_self, true_and, and_true, Option.some.injEq, exists_eq_left', exists_eq_left, reduceCtorEq, not_true_eq_false, not_false_eq_true, one_ne, if_true, if_false]
theorem c_isTicket (h : Inv G S o M) : w_X0_isTicket S o x Q = Q (zI (rg x 0 (nI (gN G 31) - 1))) := by simp only [w_X0_isTicket, h.O_t, h.O_c67, wif_T, wif_F, nm_eq, jn_eq, jn0_eq, jn2_eq, jn3_eq, jn4_eq, zI_t, zI_f, zI0, x_B_zI, x_B_0, x_B_1, isIn_eq, in_eq, Bool.true_eq_false, Bool.false_eq_true, eq_self, true_and, and_true, Option.some.injEq, exists_eq_left', exists_eq_left, reduceCtorEq, not_true_eq_false, not_false_eq_true, one_ne, if_true, if_false]
theorem c_isTide : w_X0_isTide S x Q = Q (zI (rg x 0 899)) := by simp only [w_X0_isTide, wif_T, wif_F, nm_eq, jn_eq, jn0_eq, jn2_eq, jn3_eq, jn4_eq, zI_t, zI_f, zI0, x_B_zI, x_B_0, x_B_1, isIn_eq, in_eq, Bool.true_eq_false, Bool.false_eq_true, eq_self, true_and, and_true, Option.some.injEq, exists_eq_left', exists_eq_left, reduceCtorEq, not_true_eq_false, not_false_eq_true, one_ne, if_true, if_false]
theorem c_isHolder : w_X0_isHolder S x Q = Q (zI (rg x 0 9)) := by simp only [w_X0_isHolder, wif_T, wif_F, nm_eq, jn_eq, jn0_eq, jn2_eq, jn3_eq, jn4_eq, zI_t, zI_f, zI0, x_B_zI, x_B_0, x_B_1, isIn_eq, in_eq, Bool.true_eq_false, Bool.false_eq_true, eq_self, true_and, and_true, Option.some.injEq, exists_eq_left', exists_eq_left, reduceCtorEq, not_true_eq_false, not_false_eq_true, one_ne, if_true, if_false]
theorem c_isWeather : w_X0_isWeather S x Q = Q (zI (rg x 0 3)) := by simp only [w_X0_isWeather, wif_T, wif_F, nm_eq, jn_eq, jn0_eq, jn2_eq, jn3_eq, jn4_eq, zI_t, zI_f, zI0, x_B_zI, x_B_0, x_B_1, isIn_eq, in_eq, Bool.true_eq_false, Bool.false_eq_true, eq_self, true_and, and_true, Option.some.injEq, exists_eq_left', exists_eq_left, reduceCtorEq, not_true_eq_false, not_false_eq_true, one_ne, if_true, if_false]
theorem m_noStreet (h : mI G M) : w_X1_noStreet M x Q = Q (zI (!rg x 0 (nI (gN G 1) - 1))) := by simp only [w_X1_noStreet, h.d1, l64_0, wif_T, wif_F, nm_eq, jn_eq, jn0_eq, jn2_eq, jn3_eq, jn4_eq, zI_t, zI_f, zI0, x_B_zI, x_B_0, x_B_1, isIn_eq, in_eq, Bool.true_eq_false, Bool.false_eq_true, eq_self, true_and, and_true, Option.some.injEq, exists_eq_left', exists_eq_left, reduceCtorEq, not_true_eq_false, not_false_eq_true, one_ne, if_true, if_false, wz_n]
theorem m_noMan (h : mI G M) : w_X1_noMan M x Q = Q (zI (!rg x 0 (nI (gN G 5) - 1))) := by simp only [w_X1_noMan, h.d5, l64_0, wif_T, wif_F, nm_eq, jn_eq, jn0_eq, jn2_eq, jn3_eq, jn4_eq, zI_t, zI_f, zI0, x_B_zI, x_B_0, x_B_1, isIn_eq, in_eq, Bool.true_eq_false, Bool.false_eq_true, eq_self, true_and, and_true, Option.some.injEq, exists_eq_left', exists_eq_left, reduceCtorEq, not_true_eq_false, not_false_eq_true, one_ne, if_true, if_false, wz_n]
theorem m_noPaper (h : mI G M) : w_X1_noPaper M x Q = Q (zI (!rg x 0 (nI (gN G 15) - 1))) := by simp only [w_X1_noPaper, h.d15, l64_0, wif_T, wif_F, nm_eq, jn_eq, jn0_eq, jn2_eq, jn3_eq, jn4_eq, zI_t, zI_f, zI0, x_B_zI, x_B_0, x_B_1, isIn_eq, in_eq, Bool.true_eq_false, Bool.false_eq_true, eq_self, true_and, and_true, Option.some.injEq, exists_eq_left', exists_eq_left, reduceCtorEq, not_true_eq_false, not_false_eq_true, one_ne, if_true, if_false, wz_n]
theorem m_noShip (h : mI G M) : w_X1_noShip M x Q = Q (zI (!rg x 0 (nI (gN G 9) - 1))) := by simp only [w_X1_noShip, h.d9, l64_0, wif_T, wif_F, nm_eq, jn_eq, jn0_eq, jn2_eq, jn3_eq, jn4_eq, zI_t, zI_f, zI0, x_B_zI, x_B_0, x_B_1, isIn_eq, in_eq, Bool.true_eq_false, Bool.false_eq_true, eq_self, true_and, and_true, Option.some.injEq, exists_eq_left', exists_eq_left, reduceCtorEq, not_true_eq_false, not_false_eq_true, one_ne, if_true, if_false, wz_n]
theorem m_noTicket (h : mI G M) : w_X1_noTicket M x Q = Q (zI (!rg x 0 (nI (gN G 31) - 1))) := by simp only [w_X1_noTicket, h.d31, l64_0, wif_T, wif_F, nm_eq, jn_eq, jn0_eq, jn2_eq, jn3_eq, jn4_eq, zI_t, zI_f, zI0, x_B_zI, x_B_0, x_B_1, isIn_eq, in_eq, Bool.true_eq_false, Bool.false_eq_true, eq_self, true_and, and_true, Option.some.injEq, exists_eq_left', exists_eq_left, reduceCtorEq, not_true_eq_false, not_false_eq_true, one_ne, if_true, if_false, wz_n]
theorem m_noTide : w_X1_noTide M x Q = Q (zI (!rg x 0 899)) := by simp only [w_X1_noTide, l64_0, l64_899, wif_T, wif_F, nm_eq, jn_eq, jn0_eq, jn2_eq, jn3_eq, jn4_eq, zI_t, zI_f, zI0, x_B_zI, x_B_0, x_B_1, isIn_eq, in_eq, Bool.true_eq_false, Bool.false_eq_true, eq_self, true_and, and_true, Option.some.injEq, exists_eq_left', exists_eq_left, reduceCtorEq, not_true_eq_false, not_false_eq_true, one_ne, if_true, if_false, wz_n]
theorem m_noHolder : w_X1_noHolder M x Q = Q (zI (!rg x 0 9)) := by simp only [w_X1_noHolder, l64_0, l64_9, wif_T, wif_F, nm_eq, jn_eq, jn0_eq, jn2_eq, jn3_eq, jn4_eq, zI_t, zI_f, zI0, x_B_zI, x_B_0, x_B_1, isIn_eq, in_eq, Bool.true_eq_false, Bool.false_eq_true, eq_self, true_and, and_true, Option.some.injEq, exists_eq_left', exists_eq_left, reduceCtorEq, not_true_eq_false, not_false_eq_true, one_ne, if_true, if_false, wz_n]
theorem m_badWeather : w_X1_badWeather M x Q = Q (zI (!rg x 0 3)) := by simp only [w_X1_badWeather, l64_0, l64_3, wif_T, wif_F, nm_eq, jn_eq, jn0_eq, jn2_eq, jn3_eq, jn4_eq, zI_t, zI_f, zI0, x_B_zI, x_B_0, x_B_1, isIn_eq, in_eq, Bool.true_eq_false, Bool.false_eq_true, eq_self, true_and, and_true, Option.some.injEq, exists_eq_left', exists_eq_left, reduceCtorEq, not_true_eq_false, not_false_eq_true, one_ne, if_true, if_false, wz_n]
theorem m_isStreet : w_X1_isStreet M x Q = Q (zI (rg x 0 7)) := by simp only [w_X1_isStreet, l64_0, l64_7, wif_T, wif_F, nm_eq, jn_eq, jn0_eq, jn2_eq, jn3_eq, jn4_eq, zI_t, zI_f, zI0, x_B_zI, x_B_0, x_B_1, isIn_eq, in_eq, Bool.true_eq_false, Bool.false_eq_true, eq_self, true_and, and_true, Option.some.injEq, exists_eq_left', exists_eq_left, reduceCtorEq, not_true_eq_false, not_false_eq_true, one_ne, if_true, if_false]
theorem m_isAboard : w_X1_isAboard M x Q = Q (zI (rg x 10 19)) := by simp only [w_X1_isAboard, l64_10, l64_19, wif_T, wif_F, nm_eq, jn_eq, jn0_eq, jn2_eq, jn3_eq, jn4_eq, zI_t, zI_f, zI0, x_B_zI, x_B_0, x_B_1, isIn_eq, in_eq, Bool.true_eq_false, Bool.false_eq_true, eq_self, true_and, and_true, Option.some.injEq, exists_eq_left', exists_eq_left, reduceCtorEq, not_true_eq_false, not_false_eq_true, one_ne, if_true, if_false]
theorem m_placeOf (h : mI G M) (hm : m < gN G 5) : w_X1_placeOf M (nI m) Q = Q (M2 M 8 (40 * gN G 4 + m)) := by
  have n4 := h.n4
  have n5 := h.n5
  have hv : vp_in (nI (40 * gN G 4 + m)) 36000 := vp_in_nI (by omega) (by decide)
  simp only [w_X1_placeOf, h.d4, im40, nI_add, hv, nI_clamp (show 40 * gN G 4 + m < 2 ^ 31 by omega), wif_T, wif_F, nm_eq, jn_eq, jn0_eq, jn2_eq, jn3_eq, jn4_eq, zI_t, zI_f, zI0, x_B_zI, x_B_0, x_B_1, isIn_eq, in_eq, Bool.true_eq_false, Bool.false_eq_true, eq_self, true_and, and_true, Option.some.injEq, exists_eq_left', exists_eq_left, reduceCtorEq, not_true_eq_false, not_false_eq_true, one_ne, if_true, if_false]
theorem m_go (h : mI G M) (hm : m < gN G 5) {Q : xM → Prop} : w_X1_go M (nI m) x Q = Q (m2 M 8 (40 * gN G 4 + m) x) := by
  have n4 := h.n4
  have n5 := h.n5
  have hv : vp_in (nI (40 * gN G 4 + m)) 36000 := vp_in_nI (by omega) (by decide)
  simp only [w_X1_go, h.d4, im40, nI_add, hv, nI_clamp (show 40 * gN G 4 + m < 2 ^ 31 by omega), wif_T, wif_F, nm_eq, jn_eq, jn0_eq, jn2_eq, jn3_eq, jn4_eq, zI_t, zI_f, zI0, x_B_zI, x_B_0, x_B_1, isIn_eq, in_eq, Bool.true_eq_false, Bool.false_eq_true, eq_self, true_and, and_true, Option.some.injEq, exists_eq_left', exists_eq_left, reduceCtorEq, not_true_eq_false, not_false_eq_true, one_ne, if_true, if_false]
theorem c_hi (h : Inv G S o M) (hm : m < gN G 5) : ∃ a, xR S 152 (gA G 2 m) = some a ∧ xT S a = 4 ∧ xI S 201 a = M2 M 8 (40 * gN G 4 + m) ∧ xI S 200 a ≤ nI (gN G 4) ∧ (M2 M 8 (40 * gN G 4 + m) = 21 → xI S 200 a = M2 M 7 m) := by
  obtain ⟨n, f, b1, b2, b3, b4, b5, b6, b7, b8⟩ := h.M_hi hm
  have e := b6 (gN G 4) (Nat.le_refl _) 0 (Nat.zero_le _) (fun i hi => absurd hi (Nat.not_lt_zero i)) (b5 0 (Nat.zero_le _))
  exact ⟨f 0, b1, b2 0 (Nat.zero_le _), e.symm, b5 0 (Nat.zero_le _), fun q => b7 (by rw [← e]; exact q)⟩
theorem c_place (h : Inv G S o M) (hm : m < gN G 5) : w_X2_place S (gA G 2 m) Q = Q (M2 M 8 (40 * gN G 4 + m)) := by
  obtain ⟨a, h1, h2, h3, -, -⟩ := c_hi h hm
  simp only [w_X2_place, h.M_T hm, h1, h2, h3, wif_T, wif_F, nm_eq, jn_eq, jn0_eq, jn2_eq, jn3_eq, jn4_eq, zI_t, zI_f, zI0, x_B_zI, x_B_0, x_B_1, isIn_eq, in_eq, Bool.true_eq_false, Bool.false_eq_true, eq_self, true_and, and_true, Option.some.injEq, exists_eq_left', exists_eq_left, reduceCtorEq, not_true_eq_false, not_false_eq_true, one_ne, if_true, if_false]
theorem c_home (h : Inv G S o M) (hm : m < gN G 5) : w_X2_home S (gA G 2 m) Q = Q (M2 M 6 (8 * m + 6)) := by
  simp only [w_X2_home, h.M_T hm, h.M_ab hm, h.M_aT hm, h.M_aL hm, vz6 (show 6 < 7 by decide) (by decide), tc6, h.M_av hm 6 (by decide), wif_T, wif_F, nm_eq, jn_eq, jn0_eq, jn2_eq, jn3_eq, jn4_eq, zI_t, zI_f, zI0, x_B_zI, x_B_0, x_B_1, isIn_eq, in_eq, Bool.true_eq_false, Bool.false_eq_true, eq_self, true_and, and_true, Option.some.injEq, exists_eq_left', exists_eq_left, reduceCtorEq, not_true_eq_false, not_false_eq_true, one_ne, if_true, if_false]
theorem c_isSeaman (h : Inv G S o M) (hm : m < gN G 5) : w_X2_isSeaman S (gA G 2 m) Q = Q (zI (decide (3 ≤ M2 M 6 (8 * m + 5)))) := by
  simp only [w_X2_isSeaman, h.M_T hm, h.M_ab hm, h.M_aT hm, h.M_aL hm, vz5 (show 5 < 7 by decide) (by decide), tc5, h.M_av hm 5 (by decide), wif_T, wif_F, nm_eq, jn_eq, jn0_eq, jn2_eq, jn3_eq, jn4_eq, zI_t, zI_f, zI0, x_B_zI, x_B_0, x_B_1, isIn_eq, in_eq, Bool.true_eq_false, Bool.false_eq_true, eq_self, true_and, and_true, Option.some.injEq, exists_eq_left', exists_eq_left, reduceCtorEq, not_true_eq_false, not_false_eq_true, one_ne, if_true, if_false, wz_lt]
/-- how many men are at a place; y: seamen alone -/
def mf (M : xM) (t : Nat) (x y : Int32) (m : Nat) : Int32 := if M2 M 8 (40 * t + m) = x ∧ (y = 0 ∨ 3 ≤ M2 M 6 (8 * m + 5)) then 1 else 0
def mA (M : xM) (t n : Nat) (x y : Int32) : Int32 := sm (mf M t x y) n
theorem c_menAt (h : Inv G S o M) (hQ : Q (mA M (gN G 4) (gN G 5) x y)) : w_X0_menAt S o x y Q := by
  have n5 := h.O_n5
  unfold w_X0_menAt
  refine lf2_u (gN G 5) (fun i a b => a = sm (mf M (gN G 4) x y) i ∧ b = nI i) ?_ 0 0 ⟨rfl, rfl⟩
  rintro P i a b hi ⟨rfl, rfl⟩ hP
  refine ⟨h.O_t, ?_⟩
  rw [h.O_c53]
  by_cases e : i = gN G 5
  · rw [e]
    exact wif_y (Int32.le_refl _) hQ
  · have hlt : i < gN G 5 := by omega
    refine wif_n (nI_ge hlt (by omega)) ?_
    have hv : vp_in (nI i) 40 := vp_in_nI (by omega) (by decide)
    simp only [h.O_t, h.R_r52, h.R_t52, h.R_l52, hv, nI_clamp (show i < 2 ^ 31 by omega), h.M_q hlt, h.M_T hlt, c_place h hlt, c_isSeaman h hlt, wif_T, wif_F, nm_eq, jn_eq, jn0_eq, jn2_eq, jn3_eq, jn4_eq, zI_t, zI_f, zI0, x_B_zI, x_B_0, x_B_1, isIn_eq, in_eq, Bool.true_eq_false, Bool.false_eq_true, eq_self, true_and, and_true, Option.some.injEq, exists_eq_left', exists_eq_left, reduceCtorEq, not_true_eq_false, not_false_eq_true, one_ne, if_true, if_false]
    have st : ∀ v, v = mf M (gN G 4) x y i → P (sm (mf M (gN G 4) x y) i + v) (nI i + 1) := fun v hv => hP _ _ hlt ⟨by rw [hv]; rfl, nI_1 i⟩
    by_cases h1 : M2 M 8 (40 * gN G 4 + i) = x
    · refine wif_y h1 ?_
      by_cases h2 : y = 0
      · exact wif_y h2 (st 1 (by rw [mf, if_pos ⟨h1, Or.inl h2⟩]))
      · refine wif_n h2 ?_
        by_cases h3 : 3 ≤ M2 M 6 (8 * i + 5)
        · exact wif_n (by simp [h3]) (st 1 (by rw [mf, if_pos ⟨h1, Or.inr h3⟩]))
        · exact wif_y (by simp [h3]) (st 0 (by rw [mf, if_neg (fun q => q.2.elim h2 h3)]))
    · exact wif_n h1 (st 0 (by rw [mf, if_neg (fun q => h1 q.1)]))
theorem m_many (h : mI G M) (hQ : Q (mA M (gN G 4) (gN G 5) x 0)) : w_X1_many M x Q := by
  have n5 := h.n5
  unfold w_X1_many
  refine lf2_u (gN G 5) (fun i a b => a = sm (mf M (gN G 4) x 0) i ∧ b = nI i) ?_ 0 0 ⟨rfl, rfl⟩
  rintro P i a b hi ⟨rfl, rfl⟩ hP
  rw [h.d5]
  by_cases e : i = gN G 5
  · rw [e]
    exact wif_y (Int32.le_refl _) hQ
  · have hlt : i < gN G 5 := by omega
    refine wif_n (nI_ge hlt (by omega)) ?_
    simp only [m_placeOf h hlt, wif_T, wif_F, nm_eq, jn_eq, jn0_eq, jn2_eq, jn3_eq, jn4_eq, zI_t, zI_f, zI0, x_B_zI, x_B_0, x_B_1, isIn_eq, in_eq, Bool.true_eq_false, Bool.false_eq_true, eq_self, true_and, and_true, Option.some.injEq, exists_eq_left', exists_eq_left, reduceCtorEq, not_true_eq_false, not_false_eq_true, one_ne, if_true, if_false]
    have st : ∀ v, v = mf M (gN G 4) x 0 i → P (sm (mf M (gN G 4) x 0) i + v) (nI i + 1) := fun v hv => hP _ _ hlt ⟨by rw [hv]; rfl, nI_1 i⟩
    by_cases h1 : M2 M 8 (40 * gN G 4 + i) = x
    · exact wif_y h1 (st 1 (by rw [mf, if_pos ⟨h1, Or.inl rfl⟩]))
    · exact wif_n h1 (st 0 (by rw [mf, if_neg (fun q => h1 q.1)]))
theorem m1_le {t : Nat} (h : t < 2 ^ 31) : (-1 : Int32) ≤ nI t := by
  rw [Int32.le_iff_toInt_le, nI_toInt h]
  have e : (-1 : Int32).toInt = -1 := by decide
  omega
theorem lt2_ge3 (v : Int32) : 2 < v ↔ 3 ≤ v := by
  rw [Int32.lt_iff_toInt_lt, Int32.le_iff_toInt_le]
  have e2 : (2 : Int32).toInt = 2 := by decide
  have e3 : (3 : Int32).toInt = 3 := by decide
  omega
theorem m_skilled (h : mI G M) (hQ : Q (mA M (gN G 4) (gN G 5) x 1)) : w_X1_skilled M x Q := by
  have n5 := h.n5
  unfold w_X1_skilled
  refine lf2_u (gN G 5) (fun i a b => a = sm (mf M (gN G 4) x 1) i ∧ b = nI i) ?_ 0 0 ⟨rfl, rfl⟩
  rintro P i a b hi ⟨rfl, rfl⟩ hP
  rw [h.d5]
  by_cases e : i = gN G 5
  · rw [e]
    exact wif_y (Int32.le_refl _) hQ
  · have hlt : i < gN G 5 := by omega
    refine wif_n (nI_ge hlt (by omega)) ?_
    have hv : vp_in (nI (8 * i + 5)) 320 := vp_in_nI (by omega) (by decide)
    simp only [m_placeOf h hlt, im8, ia5, hv, nI_clamp (show 8 * i + 5 < 2 ^ 31 by omega), wif_T, wif_F, nm_eq, jn_eq, jn0_eq, jn2_eq, jn3_eq, jn4_eq, zI_t, zI_f, zI0, x_B_zI, x_B_0, x_B_1, isIn_eq, in_eq, Bool.true_eq_false, Bool.false_eq_true, eq_self, true_and, and_true, Option.some.injEq, exists_eq_left', exists_eq_left, reduceCtorEq, not_true_eq_false, not_false_eq_true, one_ne, if_true, if_false]
    have st : ∀ v, v = mf M (gN G 4) x 1 i → P (sm (mf M (gN G 4) x 1) i + v) (nI i + 1) := fun v hv => hP _ _ hlt ⟨by rw [hv]; rfl, nI_1 i⟩
    have n10 : ¬ (1 : Int32) = 0 := by decide
    by_cases h1 : M2 M 8 (40 * gN G 4 + i) = x
    · refine wif_y h1 ?_
      by_cases h3 : M2 M 6 (8 * i + 5) ≤ 2
      · exact wif_y h3 (st 0 (by rw [mf, if_neg (fun q => q.2.elim n10 (fun q3 => Int32.not_lt.mpr h3 ((lt2_ge3 _).mpr q3)))]))
      · exact wif_n h3 (st 1 (by rw [mf, if_pos ⟨h1, Or.inr ((lt2_ge3 _).mp (Int32.not_le.mp h3))⟩]))
    · exact wif_n h1 (st 0 (by rw [mf, if_neg (fun q => h1 q.1)]))
theorem c_asOf {n : Nat} {f : Nat → Nat} {a : Nat} {Q : Option Nat → Prop} (hT : xT S a = 3) (b1 : xR S 152 a = some (f 0)) (b2 : ∀ j, j ≤ n → xT S (f j) = 4) (b3 : ∀ j, j < n → xR S 202 (f j) = some (f (j + 1)) ∧ 0 ≤ xI S 200 (f j)) (b4 : xI S 200 (f n) = -1) (hx : -1 ≤ x) (hQ : ∀ j, j ≤ n → (∀ i, i < j → x < xI S 200 (f i)) → xI S 200 (f j) ≤ x → Q (some (f j))) : w_X2_asOf S a x Q := by
  unfold w_X2_asOf
  refine ⟨hT, f 0, b1, ?_⟩
  refine lf1_u n (fun j c => c = f j ∧ ∀ i, i < j → x < xI S 200 (f i)) ?_ (f 0) ⟨rfl, fun i hi => absurd hi (Nat.not_lt_zero i)⟩
  rintro P j c hj ⟨rfl, hlt⟩ hP
  refine ⟨b2 j hj, ?_⟩
  by_cases hle : xI S 200 (f j) ≤ x
  · exact wif_y hle (hQ j hj hlt hle)
  · have hjn : j < n := by
      by_cases e : j = n
      · rw [e, b4] at hle
        exact absurd hx hle
      · omega
    refine wif_n hle ⟨b2 j hj, f (j + 1), (b3 j hjn).1, hP _ hjn ⟨rfl, fun i hi => ?_⟩⟩
    by_cases e : i = j
    · rw [e]
      exact Int32.not_le.mp hle
    · exact hlt i (by omega)
theorem rgN {q a b : Nat} (hq : q < 2 ^ 31) (ha : a < 2 ^ 31) (hb : b < 2 ^ 31) : rg (nI q) (nI a) (nI b) = (decide (a ≤ q) && decide (q ≤ b)) := by
  unfold rg
  simp only [nI_leI ha hq, nI_leI hq hb]
theorem pv_n {p : Int32} (hp : pv G p) (n1 : gN G 1 ≤ 8) (n9 : gN G 9 ≤ 10) : ∃ q, q < 24 ∧ p = nI q ∧ (q < gN G 1 ∨ 10 ≤ q ∧ q < 10 + gN G 9 ∨ 20 ≤ q ∧ q < 24) := by
  rcases hp with hp | ⟨s, hs, e⟩ | ⟨j, hj, e⟩
  · obtain ⟨j, hj, e⟩ := vp_in_of hp (by omega)
    exact ⟨j, by omega, e, Or.inl hj⟩
  · exact ⟨10 + s, by omega, e, by omega⟩
  · exact ⟨20 + j, by omega, e, by omega⟩
theorem c_pq (h : Inv G S o M) (hm : m < gN G 5) : ∃ q, q < 24 ∧ M2 M 8 (40 * gN G 4 + m) = nI q ∧ (q < gN G 1 ∨ 10 ≤ q ∧ q < 10 + gN G 9 ∨ 20 ≤ q ∧ q < 24) := pv_n (h.M_pl hm _ (Nat.le_refl _)) h.O_n1 h.O_n9
theorem c_ix (h : Inv G S o M) (hx : rg x 0 (nI (gN G 5) - 1) = true) : ∃ m, m < gN G 5 ∧ x = nI m := by
  have n5 := h.O_n5
  exact vp_in_of ((rg_in (by omega)).mp hx) (by omega)
theorem c_sx (h : Inv G S o M) (hx : rg x 0 (nI (gN G 1) - 1) = true) : ∃ m, m < gN G 1 ∧ x = nI m := by
  have n5 := h.O_n1
  exact vp_in_of ((rg_in (by omega)).mp hx) (by omega)
theorem c_px (h : Inv G S o M) (hx : rg x 0 (nI (gN G 15) - 1) = true) : ∃ m, m < gN G 15 ∧ x = nI m := by
  have n5 := h.O_n15
  exact vp_in_of ((rg_in (by omega)).mp hx) (by omega)
theorem c_ax (h : Inv G S o M) (hx : rg x 0 (nI (gN G 17) - 1) = true) : ∃ m, m < gN G 17 ∧ x = nI m := by
  have n5 := h.O_n17
  exact vp_in_of ((rg_in (by omega)).mp hx) (by omega)
theorem c_hx (h : Inv G S o M) (hx : rg x 0 (nI (gN G 9) - 1) = true) : ∃ m, m < gN G 9 ∧ x = nI m := by
  have n5 := h.O_n9
  exact vp_in_of ((rg_in (by omega)).mp hx) (by omega)
theorem c_tx (h : Inv G S o M) (hx : rg x 0 (nI (gN G 31) - 1) = true) : ∃ m, m < gN G 31 ∧ x = nI m := by
  have n5 := h.O_n31
  exact vp_in_of ((rg_in (by omega)).mp hx) (by omega)
end
/-- both have answered alike, and stand for one another -/
def xF (o : Nat) (r : Int32) (S : xH) (r' : Int32) (M : xM) : Prop := r = r' ∧ ∃ G, Inv G S o M
