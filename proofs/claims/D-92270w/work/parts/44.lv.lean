set_option maxRecDepth 100000
/-! ===== ships ===== -/
section
variable {G : xG} {S : xH} {o : Nat} {M : xM} {x y z : Int32} {Q : Int32 → Prop} {s m : Nat}
/-- a ship's crew -/
def crw (G : xG) (M : xM) (s : Nat) (y : Int32) : Int32 := mA M (gN G 4) (gN G 5) (nI (10 + s)) y
theorem c_crew (h : Inv G S o M) (hQ : Q (crw G M s y)) : w_X0_crew S o (nI s) y Q := ⟨h.O_t, by rw [ja10]; exact c_menAt h hQ⟩
theorem m_crew (h : mI G M) (hQ : Q (crw G M s 0)) : w_X1_many M (10 + nI s) Q := by rw [ja10]; exact m_many h hQ
theorem m_crewS (h : mI G M) (hQ : Q (crw G M s 1)) : w_X1_skilled M (10 + nI s) Q := by rw [ja10]; exact m_skilled h hQ
theorem hS_v (h : Inv G S o M) (hs : s < gN G 9) : vp_in (nI s) 10 ∧ (nI s).toNatClampNeg = s := by
  have n9 := h.O_n9
  exact ⟨vp_in_nI (by omega) (by decide), nI_clamp (by omega)⟩
theorem e_of (h : Inv G S o M) : w_X0_of S o x y (fun r => w_X1_of M x y (fun r' M' => xF o r S r' M')) := by
  simp only [w_X1_of, nm_eq]
  generalize hN : m1 M 0 0 = N
  replace h : Inv G S o N := by rw [← hN]; exact h.m0
  cases h1 : rg x 0 (nI (gN G 9) - 1)
  · simp only [w_X0_of, c_isShip h, m_noShip h.mI, h1, h.O_t, Bool.not_false, wif_T, wif_F, nm_eq, jn_eq, jn0_eq, jn2_eq, jn3_eq, jn4_eq, zI_t, zI_f, zI0, x_B_zI, x_B_0, x_B_1, isIn_eq, in_eq, Bool.true_eq_false, Bool.false_eq_true, eq_self, true_and, and_true, Option.some.injEq, exists_eq_left', exists_eq_left, reduceCtorEq, not_true_eq_false, not_false_eq_true, one_ne, if_true, if_false, one_ne]
    exact ⟨rfl, G, h⟩
  obtain ⟨s, hs, rfl⟩ := c_hx h h1
  have hv := hS_v h hs
  simp only [w_X0_of, c_isShip h, m_noShip h.mI, h1, h.O_t, h.R_r64, h.R_t64, h.R_l64, hv, h.S_q hs, h.S_T hs, h.S_k0 hs, h.S_k1 hs, h.S_k2 hs, h.S_k3 hs, h.S_hm hs, Bool.not_true, wif_T, wif_F, nm_eq, jn_eq, jn0_eq, jn2_eq, jn3_eq, jn4_eq, zI_t, zI_f, zI0, x_B_zI, x_B_0, x_B_1, isIn_eq, in_eq, Bool.true_eq_false, Bool.false_eq_true, eq_self, true_and, and_true, Option.some.injEq, exists_eq_left', exists_eq_left, reduceCtorEq, not_true_eq_false, not_false_eq_true, one_ne, if_true, if_false, one_ne]
  by_cases e0 : y = 0
  · exact wif_y e0 (wif_y e0 ⟨rfl, G, h⟩)
  refine wif_n e0 ?_
  by_cases e1 : y = 1
  · exact wif_y e1 (wif_n e0 (wif_y e1 ⟨rfl, G, h⟩))
  refine wif_n e1 ?_
  by_cases e2 : y = 2
  · exact wif_y e2 (wif_n e0 (wif_n e1 (wif_y e2 ⟨rfl, G, h⟩)))
  refine wif_n e2 ?_
  by_cases e3 : y = 3
  · exact wif_y e3 (wif_n e0 (wif_n e1 (wif_n e2 (wif_y e3 ⟨rfl, G, h⟩))))
  refine wif_n e3 ?_
  by_cases e4 : y = 4
  · refine wif_y e4 ?_
    by_cases c : N.2 14 s = 0
    · have c' : M2 N 14 s = 0 := c
      rw [decide_eq_true c']
      exact wif_n (by decide) (wif_n e0 (wif_n e1 (wif_n e2 (wif_n e3 (wif_y e4 (wif_y c' ⟨rfl, G, h⟩))))))
    · have c' : ¬ M2 N 14 s = 0 := c
      rw [decide_eq_false c']
      exact wif_y rfl (wif_n e0 (wif_n e1 (wif_n e2 (wif_n e3 (wif_y e4 (wif_n c' ⟨rfl, G, h⟩))))))
  refine wif_n e4 ?_
  by_cases e5 : y = 5
  · exact wif_y e5 (c_crew h (wif_n e0 (wif_n e1 (wif_n e2 (wif_n e3 (wif_n e4 (wif_y e5 (m_crew h.mI ⟨rfl, G, h⟩))))))))
  refine wif_n e5 ?_
  by_cases e6 : y = 6
  · exact wif_y e6 (c_crew h (wif_n e0 (wif_n e1 (wif_n e2 (wif_n e3 (wif_n e4 (wif_n e5 (wif_y e6 (m_crewS h.mI ⟨rfl, G, h⟩)))))))))
  exact wif_n e6 (wif_n e0 (wif_n e1 (wif_n e2 (wif_n e3 (wif_n e4 (wif_n e5 (wif_n e6 ⟨rfl, G, h⟩)))))))
/-- what a ship can spare -/
def spr (G : xG) (M : xM) (s : Nat) (w : Int32) : Int32 := if 0 < crw G M s 0 - M2 M 13 s - w then crw G M s 0 - M2 M 13 s - w else 0
theorem c_spareOf (h : Inv G S o M) (hs : s < gN G 9) (hQ : Q (spr G M s x)) : w_X0_spareOf S o (nI s) x Q := by
  have hv := hS_v h hs
  refine ⟨h.O_t, c_crew h ?_⟩
  simp only [h.O_t, h.R_r64, h.R_t64, h.R_l64, hv, h.S_q hs, h.S_T hs, h.S_k3 hs, wif_T, wif_F, nm_eq, jn_eq, jn0_eq, jn2_eq, jn3_eq, jn4_eq, zI_t, zI_f, zI0, x_B_zI, x_B_0, x_B_1, isIn_eq, in_eq, Bool.true_eq_false, Bool.false_eq_true, eq_self, true_and, and_true, Option.some.injEq, exists_eq_left', exists_eq_left, reduceCtorEq, not_true_eq_false, not_false_eq_true, one_ne, if_true, if_false]
  exact hQ
theorem m_spared (h : mI G M) (hs : s < 10) (hQ : Q (spr G M s x)) : w_X1_spared M (nI s) x Q := by
  have hv : vp_in (nI s) 10 := vp_in_nI hs (by decide)
  refine m_crew h ⟨hv, ?_⟩
  rw [nm_eq, nI_clamp (by omega)]
  unfold spr at hQ
  by_cases c : crw G M s 0 - M2 M 13 s - x ≤ 0
  · rw [if_neg (Int32.not_lt.mpr c)] at hQ
    exact wif_y c hQ
  · rw [if_pos (Int32.not_le.mp c)] at hQ
    exact wif_n c hQ
theorem e_spare (h : Inv G S o M) : w_X0_spare S o x y (fun r => w_X1_spare M x y (fun r' M' => xF o r S r' M')) := by
  simp only [w_X1_spare, nm_eq]
  generalize hN : m1 M 0 0 = N
  replace h : Inv G S o N := by rw [← hN]; exact h.m0
  have n9 := h.O_n9
  cases h1 : rg x 0 (nI (gN G 9) - 1)
  · simp only [w_X0_spare, c_isShip h, m_noShip h.mI, h1, h.O_t, Bool.not_false, wif_T, wif_F, nm_eq, jn_eq, jn0_eq, jn2_eq, jn3_eq, jn4_eq, zI_t, zI_f, zI0, x_B_zI, x_B_0, x_B_1, isIn_eq, in_eq, Bool.true_eq_false, Bool.false_eq_true, eq_self, true_and, and_true, Option.some.injEq, exists_eq_left', exists_eq_left, reduceCtorEq, not_true_eq_false, not_false_eq_true, one_ne, if_true, if_false, one_ne]
    exact ⟨rfl, G, h⟩
  obtain ⟨s, hs, rfl⟩ := c_hx h h1
  cases h2 : rg y 0 3
  · simp only [w_X0_spare, c_isShip h, m_noShip h.mI, c_isWeather, m_badWeather, h1, h2, h.O_t, Bool.not_false, Bool.not_true, wif_T, wif_F, nm_eq, jn_eq, jn0_eq, jn2_eq, jn3_eq, jn4_eq, zI_t, zI_f, zI0, x_B_zI, x_B_0, x_B_1, isIn_eq, in_eq, Bool.true_eq_false, Bool.false_eq_true, eq_self, true_and, and_true, Option.some.injEq, exists_eq_left', exists_eq_left, reduceCtorEq, not_true_eq_false, not_false_eq_true, one_ne, if_true, if_false, one_ne]
    exact ⟨rfl, G, h⟩
  have hv := hS_v h hs
  simp only [w_X0_spare, c_isShip h, m_noShip h.mI, c_isWeather, m_badWeather, h1, h2, h.O_t, h.R_r64, h.R_t64, h.R_l64, hv, h.S_q hs, h.S_T hs, h.S_k0 hs, Bool.not_true, wif_T, wif_F, nm_eq, jn_eq, jn0_eq, jn2_eq, jn3_eq, jn4_eq, zI_t, zI_f, zI0, x_B_zI, x_B_0, x_B_1, isIn_eq, in_eq, Bool.true_eq_false, Bool.false_eq_true, eq_self, true_and, and_true, Option.some.injEq, exists_eq_left', exists_eq_left, reduceCtorEq, not_true_eq_false, not_false_eq_true, one_ne, if_true, if_false, one_ne]
  by_cases c : M2 N 10 s = 0
  · exact wif_y c (wif_y c ⟨rfl, G, h⟩)
  · exact wif_n c (c_spareOf h hs (wif_n c (m_spared h.mI (by omega) ⟨rfl, G, h⟩)))
theorem c_isCrowded (h : Inv G S o M) (hs : s < gN G 9) (hQ : wif (crw G M s 0 < 2 * M2 M 11 s) (Q 0) (Q 1)) : w_X0_isCrowded S o (nI s) Q := by
  have hv := hS_v h hs
  refine ⟨h.O_t, c_crew h ?_⟩
  simp only [h.O_t, h.R_r64, h.R_t64, h.R_l64, hv, h.S_q hs, h.S_T hs, h.S_k1 hs, wif_T, wif_F, nm_eq, jn_eq, jn0_eq, jn2_eq, jn3_eq, jn4_eq, zI_t, zI_f, zI0, x_B_zI, x_B_0, x_B_1, isIn_eq, in_eq, Bool.true_eq_false, Bool.false_eq_true, eq_self, true_and, and_true, Option.some.injEq, exists_eq_left', exists_eq_left, reduceCtorEq, not_true_eq_false, not_false_eq_true, one_ne, if_true, if_false]
  exact hQ
theorem pv_ship (hs : s < gN G 9) : pv G (nI (10 + s)) := Or.inr (Or.inl ⟨s, hs, rfl⟩)
theorem ship21 (h : Inv G S o M) (hs : s < gN G 9) : nI (10 + s) ≠ 21 := fun e => by
  have n9 := h.O_n9
  have := (eqk_21 (by omega)).mp e
  omega
theorem e_board (h : Inv G S o M) {k n : Nat} (hk : 1 ≤ k) (hn : 3 ≤ n) : w_X0_board k n S o x y (fun r S' => w_X1_board M x y (fun r' M' => xF o r S' r' M')) := by
  simp only [w_X1_board, nm_eq]
  generalize hN : m1 M 0 0 = N
  replace h : Inv G S o N := by rw [← hN]; exact h.m0
  have n5 := h.O_n5
  have n1 := h.O_n1
  cases h1 : rg x 0 (nI (gN G 5) - 1)
  · simp only [w_X0_board, c_isMan h, m_noMan h.mI, h1, h.O_t, Bool.not_false, wif_T, wif_F, nm_eq, jn_eq, jn0_eq, jn2_eq, jn3_eq, jn4_eq, zI_t, zI_f, zI0, x_B_zI, x_B_0, x_B_1, isIn_eq, in_eq, Bool.true_eq_false, Bool.false_eq_true, eq_self, true_and, and_true, Option.some.injEq, exists_eq_left', exists_eq_left, reduceCtorEq, not_true_eq_false, not_false_eq_true, one_ne, if_true, if_false, one_ne]
    exact ⟨rfl, G, h⟩
  cases h2 : rg y 0 (nI (gN G 9) - 1)
  · simp only [w_X0_board, c_isMan h, m_noMan h.mI, c_isShip h, m_noShip h.mI, h1, h2, h.O_t, Bool.not_false, Bool.not_true, wif_T, wif_F, nm_eq, jn_eq, jn0_eq, jn2_eq, jn3_eq, jn4_eq, zI_t, zI_f, zI0, x_B_zI, x_B_0, x_B_1, isIn_eq, in_eq, Bool.true_eq_false, Bool.false_eq_true, eq_self, true_and, and_true, Option.some.injEq, exists_eq_left', exists_eq_left, reduceCtorEq, not_true_eq_false, not_false_eq_true, one_ne, if_true, if_false, one_ne]
    exact ⟨rfl, G, h⟩
  obtain ⟨m, hm, rfl⟩ := c_ix h h1
  obtain ⟨s, hs, rfl⟩ := c_hx h h2
  have hv : vp_in (nI m) 40 := vp_in_nI (by omega) (by decide)
  have hvs := hS_v h hs
  obtain ⟨q, hq24, hq, hqq⟩ := c_pq h hm
  simp only [w_X0_board, c_isMan h, m_noMan h.mI, c_isShip h, m_noShip h.mI, c_place h hm, m_placeOf h.mI hm, m_go h.mI hm, m_isStreet, h1, h2, h.O_t, h.O_c54, h.R_r52, h.R_t52, h.R_l52, h.R_r64, h.R_t64, h.R_l64, hv, hvs, h.M_q hm, h.M_T hm, h.S_q hs, h.S_T hs, h.S_hm hs, hq, ja10, nI_clamp (show m < 2 ^ 31 by omega), Bool.not_true, wif_T, wif_F, nm_eq, jn_eq, jn0_eq, jn2_eq, jn3_eq, jn4_eq, zI_t, zI_f, zI0, x_B_zI, x_B_0, x_B_1, isIn_eq, in_eq, Bool.true_eq_false, Bool.false_eq_true, eq_self, true_and, and_true, Option.some.injEq, exists_eq_left', exists_eq_left, reduceCtorEq, not_true_eq_false, not_false_eq_true, one_ne, if_true, if_false, one_ne]
  by_cases p : 10 ≤ q
  · have r7 : rg (nI q) 0 7 = false := rg7f.mpr (fun z => by have := (vi (by omega)).mp z; omega)
    exact wif_y ((kle_10 (by omega)).mpr p) (wif_y r7 ⟨rfl, G, h⟩)
  · have r7 : rg (nI q) 0 7 = true := rg7.mpr ((vi (by omega)).mpr (by omega))
    refine wif_n (fun z => p ((kle_10 (by omega)).mp z)) ?_
    simp only [r7, wif_T, wif_F, nm_eq, jn_eq, jn0_eq, jn2_eq, jn3_eq, jn4_eq, zI_t, zI_f, zI0, x_B_zI, x_B_0, x_B_1, isIn_eq, in_eq, Bool.true_eq_false, Bool.false_eq_true, eq_self, true_and, and_true, Option.some.injEq, exists_eq_left', exists_eq_left, reduceCtorEq, not_true_eq_false, not_false_eq_true, one_ne, if_true, if_false]
    by_cases c : M2 N 14 s = 0
    · rw [decide_eq_true c]
      refine wif_n (by decide) (c_isCrowded h hs ?_)
      by_cases cr : crw G N s 0 < 2 * M2 N 11 s
      · refine wif_y cr (wif_y rfl ⟨1, 3, hk, hn, c_go h hm (pv_ship hs) (ship21 h hs) (Nat.le_refl _) (Nat.le_refl _) (fun S' h' => ⟨h'.O_t, c_crew h' (wif_y c ?_)⟩)⟩)
        rw [← ja10]
        refine m_crew h.mI (wif_y cr (m_crew h'.mI ⟨rfl, G, ?_⟩))
        rw [ja10]
        exact h'
      · refine wif_n cr (wif_n (by decide) (wif_y c ?_))
        rw [← ja10]
        exact m_crew h.mI (wif_n cr ⟨rfl, G, h⟩)
    · rw [decide_eq_false c]
      exact wif_y rfl (wif_n c ⟨rfl, G, h⟩)
theorem home_inv (h : Inv G S o M) (hs : s < gN G 9) {b : Bool} : Inv G (sI S 954 (gA G 9 s) (zI b)) o (m2 M 14 s (zI (!b))) := by
  have n9 := h.O_n9
  have hS : iS G (sI S 954 (gA G 9 s) (zI b)) o (m2 M 14 s (zI (!b))) := by
    intro s' hs'
    refine ⟨h.S_q hs', h.S_T hs', h.S_r hs', h.S_k0 hs', h.S_k1 hs', h.S_k2 hs', h.S_k3 hs', ?_, h.S_kB hs', ?_⟩
    · by_cases e : s' = s
      · subst e
        have k : M2 (m2 M 14 s' (zI (!b))) 14 s' = zI (!b) := by simp [m2, M2, x_u2]
        rw [xI_at, k]
        cases b <;> decide
      · have hne : gA G 9 s' ≠ gA G 9 s := fun q => e (by have := congrArg (gR G) q; rw [h.S_r hs', h.S_r hs] at this; exact this)
        have k : M2 (m2 M 14 s (zI (!b))) 14 s' = M2 M 14 s' := by simp [m2, M2, x_u2, e]
        rw [(eqc_sI hne).2.2.1 954 (by decide) (by decide), k]
        exact h.S_hm hs'
    · by_cases e : s' = s
      · subst e
        have k : M2 (m2 M 14 s' (zI (!b))) 14 s' = zI (!b) := by simp [m2, M2, x_u2]
        rw [k]
        cases b
        · exact Or.inr rfl
        · exact Or.inl rfl
      · have k : M2 (m2 M 14 s (zI (!b))) 14 s' = M2 M 14 s' := by simp [m2, M2, x_u2, e]
        rw [k]
        exact h.S_oB hs'
  have hZ : iZ G (sI S 954 (gA G 9 s) (zI b)) o (m2 M 14 s (zI (!b))) := ⟨h.Z_l, h.Z_g, fun s' h1 h2 => by
    have e : ¬ s' = s := by omega
    have k : M2 (m2 M 14 s (zI (!b))) 14 s' = M2 M 14 s' := by simp [m2, M2, x_u2, e]
    rw [k]
    exact h.Z_s s' h1 h2, h.Z_a, h.Z_t⟩
  exact ⟨h.iO, h.iR, h.iW, h.iM, h.iP, h.iA, h.iK, hS, h.iT, h.iU, hZ⟩
theorem e_comeHome (h : Inv G S o M) : w_X0_comeHome S o x (fun r S' => w_X1_comeHome M x (fun r' M' => xF o r S' r' M')) := by
  simp only [w_X1_comeHome, nm_eq]
  generalize hN : m1 M 0 0 = N
  replace h : Inv G S o N := by rw [← hN]; exact h.m0
  cases h1 : rg x 0 (nI (gN G 9) - 1)
  · simp only [w_X0_comeHome, c_isShip h, m_noShip h.mI, h1, h.O_t, Bool.not_false, wif_T, wif_F, nm_eq, jn_eq, jn0_eq, jn2_eq, jn3_eq, jn4_eq, zI_t, zI_f, zI0, x_B_zI, x_B_0, x_B_1, isIn_eq, in_eq, Bool.true_eq_false, Bool.false_eq_true, eq_self, true_and, and_true, Option.some.injEq, exists_eq_left', exists_eq_left, reduceCtorEq, not_true_eq_false, not_false_eq_true, one_ne, if_true, if_false, one_ne]
    exact ⟨rfl, G, h⟩
  obtain ⟨s, hs, rfl⟩ := c_hx h h1
  have hv := hS_v h hs
  simp only [w_X0_comeHome, c_isShip h, m_noShip h.mI, h1, h.O_t, h.R_r64, h.R_t64, h.R_l64, hv, h.S_q hs, h.S_T hs, h.S_hm hs, Bool.not_true, wif_T, wif_F, nm_eq, jn_eq, jn0_eq, jn2_eq, jn3_eq, jn4_eq, zI_t, zI_f, zI0, x_B_zI, x_B_0, x_B_1, isIn_eq, in_eq, Bool.true_eq_false, Bool.false_eq_true, eq_self, true_and, and_true, Option.some.injEq, exists_eq_left', exists_eq_left, reduceCtorEq, not_true_eq_false, not_false_eq_true, one_ne, if_true, if_false, one_ne]
  have f := home_inv h hs (b := true)
  by_cases c : M2 N 14 s = 0
  · rw [decide_eq_true c]
    exact wif_n (by decide) (wif_y c ⟨rfl, G, h⟩)
  · rw [decide_eq_false c]
    exact wif_y rfl ⟨f.O_t, c_crew f (wif_n c (m_crew f.mI ⟨rfl, G, f⟩))⟩
theorem e_sail (h : Inv G S o M) : w_X0_sail S o x (fun r S' => w_X1_sail M x (fun r' M' => xF o r S' r' M')) := by
  simp only [w_X1_sail, nm_eq]
  generalize hN : m1 M 0 0 = N
  replace h : Inv G S o N := by rw [← hN]; exact h.m0
  cases h1 : rg x 0 (nI (gN G 9) - 1)
  · simp only [w_X0_sail, c_isShip h, m_noShip h.mI, h1, h.O_t, Bool.not_false, wif_T, wif_F, nm_eq, jn_eq, jn0_eq, jn2_eq, jn3_eq, jn4_eq, zI_t, zI_f, zI0, x_B_zI, x_B_0, x_B_1, isIn_eq, in_eq, Bool.true_eq_false, Bool.false_eq_true, eq_self, true_and, and_true, Option.some.injEq, exists_eq_left', exists_eq_left, reduceCtorEq, not_true_eq_false, not_false_eq_true, one_ne, if_true, if_false, one_ne]
    exact ⟨rfl, G, h⟩
  obtain ⟨s, hs, rfl⟩ := c_hx h h1
  have hv := hS_v h hs
  simp only [w_X0_sail, c_isShip h, m_noShip h.mI, h1, h.O_t, h.R_r64, h.R_t64, h.R_l64, hv, h.S_q hs, h.S_T hs, h.S_hm hs, h.S_k1 hs, h.S_k2 hs, Bool.not_true, wif_T, wif_F, nm_eq, jn_eq, jn0_eq, jn2_eq, jn3_eq, jn4_eq, zI_t, zI_f, zI0, x_B_zI, x_B_0, x_B_1, isIn_eq, in_eq, Bool.true_eq_false, Bool.false_eq_true, eq_self, true_and, and_true, Option.some.injEq, exists_eq_left', exists_eq_left, reduceCtorEq, not_true_eq_false, not_false_eq_true, one_ne, if_true, if_false, one_ne]
  have f := home_inv h hs (b := false)
  by_cases c : M2 N 14 s = 0
  · rw [decide_eq_true c]
    refine wif_n (by decide) (c_crew h ?_)
    by_cases c1 : crw G N s 0 < M2 N 11 s
    · exact wif_y c1 (wif_y c (m_crew h.mI (wif_y c1 ⟨rfl, G, h⟩)))
    · refine wif_n c1 (c_crew h ?_)
      by_cases c2 : M2 N 12 s ≤ crw G N s 1
      · exact wif_y c2 ⟨f.O_t, c_crew f (wif_y c (m_crew h.mI (wif_n c1 (m_crewS h.mI (wif_y c2 (m_crew f.mI ⟨rfl, G, f⟩))))))⟩
      · exact wif_n c2 (wif_y c (m_crew h.mI (wif_n c1 (m_crewS h.mI (wif_n c2 ⟨rfl, G, h⟩)))))
  · rw [decide_eq_false c]
    exact wif_y rfl (wif_n c ⟨rfl, G, h⟩)
end
