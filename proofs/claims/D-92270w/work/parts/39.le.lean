set_option maxRecDepth 100000
section
variable {G : xG} {S : xH} {o : Nat} {M : xM} {x y z : Int32}
theorem ltN {a b : Nat} (h : a ≠ b) : (a = b) = False := eq_false h
theorem way_inv (h : Inv G S o M) {a b : Nat} (ha : a < gN G 1) (hb : b < gN G 1) (hz : x_B z) : Inv G (sA (sA S (gA G 1 a) b z) (gA G 1 b) a z) o (m2 (m2 M 2 (8 * a + b) z) 2 (8 * b + a) z) := by
  have n1 := h.O_n1
  have ha8 : a < 8 := by omega
  have hb8 : b < 8 := by omega
  have E : ∀ t, t ≠ 102 → ∀ c, xT S c = t → eqc S (sA (sA S (gA G 1 a) b z) (gA G 1 b) a z) c := by
    intro t ht c hc
    have e1 : c ≠ gA G 1 a := fun e => ht (by rw [← hc, e, h.W_T ha8])
    have e2 : c ≠ gA G 1 b := fun e => ht (by rw [← hc, e, h.W_T hb8])
    exact (eqc_sA e1).trans (eqc_sA e2)
  have Eo : ∀ c, c = o → eqc S (sA (sA S (gA G 1 a) b z) (gA G 1 b) a z) c := fun c hc => by rw [hc]; exact E 1 (by decide) o h.O_t
  have inj : ∀ i j, i < 8 → j < 8 → gA G 1 i = gA G 1 j → i = j := fun i j hi hj e => by have := congrArg (gR G) e; rw [h.W_r hi, h.W_r hj] at this; exact this
  have kA : ∀ i j, i < 8 → j < 8 → xA (sA (sA S (gA G 1 a) b z) (gA G 1 b) a z) (gA G 1 i) j = if i = b ∧ j = a then z else if i = a ∧ j = b then z else xA S (gA G 1 i) j := by
    intro i j hi hj
    have q1 : gA G 1 i = gA G 1 b ↔ i = b := ⟨inj i b hi hb8, fun e => by rw [e]⟩
    have q2 : gA G 1 i = gA G 1 a ↔ i = a := ⟨inj i a hi ha8, fun e => by rw [e]⟩
    simp only [sA, xA, x_u2, q1, q2]
  have kM : ∀ i j, i < 8 → j < 8 → M2 (m2 (m2 M 2 (8 * a + b) z) 2 (8 * b + a) z) 2 (8 * i + j) = if i = b ∧ j = a then z else if i = a ∧ j = b then z else M2 M 2 (8 * i + j) := by
    intro i j hi hj
    have q1 : 8 * i + j = 8 * b + a ↔ i = b ∧ j = a := by omega
    have q2 : 8 * i + j = 8 * a + b ↔ i = a ∧ j = b := by omega
    simp only [m2, M2, x_u2, q1, q2, true_and]
  have hW : iW G (sA (sA S (gA G 1 a) b z) (gA G 1 b) a z) o (m2 (m2 M 2 (8 * a + b) z) 2 (8 * b + a) z) := by
    intro i hi
    refine ⟨h.W_q hi, h.W_T hi, h.W_L hi, h.W_r hi, fun j hj => by rw [kA i j hi hj, kM i j hi hj, h.W_v hi j hj], fun j hj => ?_, fun j hj => ?_, fun j hj => ?_⟩
    · rw [kM i j hi hj]
      split
      · exact hz
      · split
        · exact hz
        · exact h.W_B hi j hj
    · rw [kM i j hi hj, kM j i hj hi, h.W_y hi j hj]
      by_cases c1 : i = b ∧ j = a
      · by_cases c2 : i = a ∧ j = b
        · rw [if_pos c1, if_pos ⟨c1.2.trans (c2.1.symm.trans c1.1) |>.trans rfl, by omega⟩]
        · rw [if_pos c1, if_neg (by omega), if_pos (by omega)]
      · by_cases c2 : i = a ∧ j = b
        · rw [if_neg c1, if_pos c2, if_pos (by omega)]
        · rw [if_neg c1, if_neg c2, if_neg (by omega), if_neg (by omega)]
    · rw [kM i j hi hj]
      split
      · intro _; omega
      · split
        · intro _; omega
        · exact h.W_z hi j hj
  exact ⟨fr_O (M := M) h Eo, fr_R (M := M) h Eo (fun c hc => E _ (by omega) c rfl) (fun c hc => E 101 (by decide) c hc.1), hW, fr_M (M := M) h (E _ (by decide)) (E _ (by decide)) (E _ (by decide)) (fun c hc => E 101 (by decide) c hc.1), fr_P (M := M) h (E _ (by decide)) (E _ (by decide)) (fun c hc => E 101 (by decide) c hc.1), fr_A (M := M) h (E _ (by decide)) (E _ (by decide)) (fun c hc => E 101 (by decide) c hc.1), fr_K (M := M) h (E _ (by decide)) (E _ (by decide)), fr_S (M := M) h (E _ (by decide)) (E _ (by decide)), fr_T (M := M) h (E _ (by decide)) (E _ (by decide)), fr_U (M := M) h (fun c hc => E 101 (by decide) c hc.1), h.iZ⟩
theorem e_way (h : Inv G S o M) (hz : x_B z) : w_X0_way S o x y z (fun r S' => w_X1_way M x y z (fun r' M' => xF o r S' r' M')) := by
  simp only [w_X1_way, nm_eq]
  generalize hN : m1 M 0 0 = N
  replace h : Inv G S o N := by rw [← hN]; exact h.m0
  have n1 := h.O_n1
  cases h1 : rg x 0 (nI (gN G 1) - 1)
  · simp only [w_X0_way, c_isStreet h, m_noStreet h.mI, h1, h.O_t, Bool.not_false, wif_T, wif_F, nm_eq, jn_eq, jn0_eq, jn2_eq, jn3_eq, jn4_eq, zI_t, zI_f, zI0, x_B_zI, x_B_0, x_B_1, isIn_eq, in_eq, Bool.true_eq_false, Bool.false_eq_true, eq_self, true_and, and_true, Option.some.injEq, exists_eq_left', exists_eq_left, reduceCtorEq, not_true_eq_false, not_false_eq_true, one_ne, if_true, if_false, one_ne]
    exact ⟨rfl, G, h⟩
  cases h2 : rg y 0 (nI (gN G 1) - 1)
  · simp only [w_X0_way, c_isStreet h, m_noStreet h.mI, h1, h2, h.O_t, Bool.not_false, Bool.not_true, wif_T, wif_F, nm_eq, jn_eq, jn0_eq, jn2_eq, jn3_eq, jn4_eq, zI_t, zI_f, zI0, x_B_zI, x_B_0, x_B_1, isIn_eq, in_eq, Bool.true_eq_false, Bool.false_eq_true, eq_self, true_and, and_true, Option.some.injEq, exists_eq_left', exists_eq_left, reduceCtorEq, not_true_eq_false, not_false_eq_true, one_ne, if_true, if_false, one_ne]
    exact ⟨rfl, G, h⟩
  obtain ⟨a, ha, rfl⟩ := c_sx h h1
  obtain ⟨b, hb, rfl⟩ := c_sx h h2
  by_cases e : a = b
  · subst e
    simp only [w_X0_way, c_isStreet h, m_noStreet h.mI, h1, h.O_t, Bool.not_true, wif_T, wif_F, nm_eq, jn_eq, jn0_eq, jn2_eq, jn3_eq, jn4_eq, zI_t, zI_f, zI0, x_B_zI, x_B_0, x_B_1, isIn_eq, in_eq, Bool.true_eq_false, Bool.false_eq_true, eq_self, true_and, and_true, Option.some.injEq, exists_eq_left', exists_eq_left, reduceCtorEq, not_true_eq_false, not_false_eq_true, one_ne, if_true, if_false, one_ne]
    exact ⟨rfl, G, h⟩
  have ne : ¬ nI a = nI b := fun q => e ((nI_eq (by omega) (by omega)).mp q)
  have ha8 : a < 8 := by omega
  have hb8 : b < 8 := by omega
  have va8 : vp_in (nI a) 8 := vp_in_nI (by omega) (by decide)
  have vb8 : vp_in (nI b) 8 := vp_in_nI (by omega) (by decide)
  have v1 : vp_in (nI (8 * a + b)) 64 := vp_in_nI (by omega) (by decide)
  have v2 : vp_in (nI (8 * b + a)) 64 := vp_in_nI (by omega) (by decide)
  simp only [w_X0_way, c_isStreet h, m_noStreet h.mI, h1, h2, h.O_t, ne, h.R_r51, h.R_t51, h.R_l51, va8, vb8, h.W_q ha8, h.W_q hb8, h.W_T ha8, h.W_T hb8, h.W_L ha8, h.W_L hb8, h.W_v ha8 b hb8, hz, im8, nI_add, v1, v2, nI_clamp (show a < 2 ^ 31 by omega), nI_clamp (show b < 2 ^ 31 by omega), nI_clamp (show 8 * a + b < 2 ^ 31 by omega), nI_clamp (show 8 * b + a < 2 ^ 31 by omega), xT_sI, xL_sI, xR_sI, xA_sI, xQ_sI, xT_sR, xL_sR, xI_sR, xA_sR, xQ_sR, xT_sA, xL_sA, xI_sA, xR_sA, xQ_sA, xT_sQ, xL_sQ, xI_sQ, xR_sQ, xA_sQ, xT_sB, xL_sB, xI_sB, xR_sB, xQ_sB, Bool.not_true, wif_T, wif_F, nm_eq, jn_eq, jn0_eq, jn2_eq, jn3_eq, jn4_eq, zI_t, zI_f, zI0, x_B_zI, x_B_0, x_B_1, isIn_eq, in_eq, Bool.true_eq_false, Bool.false_eq_true, eq_self, true_and, and_true, Option.some.injEq, exists_eq_left', exists_eq_left, reduceCtorEq, not_true_eq_false, not_false_eq_true, one_ne, if_true, if_false, one_ne]
  have f := way_inv h ha hb hz
  by_cases p : M2 N 2 (8 * a + b) = 0
  · exact wif_y p (wif_y p ⟨rfl, G, f⟩)
  · exact wif_n p (wif_n p ⟨rfl, G, f⟩)
theorem e_far (h : Inv G S o M) {k n : Nat} (hk : 1 ≤ k) (hn : 8 ≤ n) : w_X0_far k n S o x y (fun r S' => w_X1_far M x y (fun r' M' => xF o r S' r' M')) := by
  simp only [w_X1_far, nm_eq]
  generalize hN : m1 M 0 0 = N
  replace h : Inv G S o N := by rw [← hN]; exact h.m0
  have n1 := h.O_n1
  cases h1 : rg x 0 (nI (gN G 1) - 1)
  · simp only [w_X0_far, c_isStreet h, m_noStreet h.mI, h1, h.O_t, Bool.not_false, wif_T, wif_F, nm_eq, jn_eq, jn0_eq, jn2_eq, jn3_eq, jn4_eq, zI_t, zI_f, zI0, x_B_zI, x_B_0, x_B_1, isIn_eq, in_eq, Bool.true_eq_false, Bool.false_eq_true, eq_self, true_and, and_true, Option.some.injEq, exists_eq_left', exists_eq_left, reduceCtorEq, not_true_eq_false, not_false_eq_true, one_ne, if_true, if_false, one_ne]
    exact ⟨rfl, G, h⟩
  cases h2 : rg y 0 (nI (gN G 1) - 1)
  · simp only [w_X0_far, c_isStreet h, m_noStreet h.mI, h1, h2, h.O_t, Bool.not_false, Bool.not_true, wif_T, wif_F, nm_eq, jn_eq, jn0_eq, jn2_eq, jn3_eq, jn4_eq, zI_t, zI_f, zI0, x_B_zI, x_B_0, x_B_1, isIn_eq, in_eq, Bool.true_eq_false, Bool.false_eq_true, eq_self, true_and, and_true, Option.some.injEq, exists_eq_left', exists_eq_left, reduceCtorEq, not_true_eq_false, not_false_eq_true, one_ne, if_true, if_false, one_ne]
    exact ⟨rfl, G, h⟩
  obtain ⟨a, ha, rfl⟩ := c_sx h h1
  obtain ⟨b, hb, rfl⟩ := c_sx h h2
  simp only [w_X0_far, c_isStreet h, m_noStreet h.mI, h1, h2, h.O_t, Bool.not_true, wif_T, wif_F, nm_eq, jn_eq, jn0_eq, jn2_eq, jn3_eq, jn4_eq, zI_t, zI_f, zI0, x_B_zI, x_B_0, x_B_1, isIn_eq, in_eq, Bool.true_eq_false, Bool.false_eq_true, eq_self, true_and, and_true, Option.some.injEq, exists_eq_left', exists_eq_left, reduceCtorEq, not_true_eq_false, not_false_eq_true, one_ne, if_true, if_false, one_ne]
  refine ⟨1, 8, hk, hn, c_farFrom h ha (Nat.le_refl _) (Nat.le_refl _) (fun q F hq hF => ?_)⟩
  have hT : xT (sB (sV S q 101 8) q F) q = 101 := by simp [sB, sV, xT, va_up]
  have hL : xL (sB (sV S q 101 8) q F) q = 8 := by simp [sB, sV, xL, va_up]
  have hX : xA (sB (sV S q 101 8) q F) q = F := by simp [sB, sV, xA, va_up]
  have h' : Inv G (sB (sV S q 101 8) q F) o (msr N) := h.ext (((xE.refl S).v hq).b hq)
  refine ⟨q, rfl, hT, by rw [hL]; exact vp_in_nI (by omega) (by decide), m_measure ?_⟩
  have v1 : vp_in (nI (8 * a + b)) 64 := vp_in_nI (by omega) (by decide)
  have le := dst_le (A := adj N) (a := a) (b := b)
  have f3 : M2 (msr N) 3 (8 * a + b) = nI (dst (adj N) a b) := fr3_msr a b (by omega) (by omega)
  simp only [hX, nI_clamp (show b < 2 ^ 31 by omega), hF b (by omega), im8, nI_add, v1, nI_clamp (show 8 * a + b < 2 ^ 31 by omega), f3, true_and]
  unfold fD
  by_cases p : dst (adj N) a b < 100
  · rw [if_pos p]
    exact wif_n (fun q => by have := (kle_100 (by omega)).mp q; omega) ⟨rfl, G, h'⟩
  · rw [if_neg p]
    exact wif_y ((kle_100 (by omega)).mpr (by omega)) ⟨rfl, G, h'⟩
theorem e_heard (h : Inv G S o M) {k n : Nat} (hk : 1 ≤ k) (hn : 8 ≤ n) : w_X0_heard k n S o x (fun r S' => w_X1_heard M x (fun r' M' => xF o r S' r' M')) := by
  simp only [w_X1_heard, nm_eq]
  generalize hN : m1 M 0 0 = N
  replace h : Inv G S o N := by rw [← hN]; exact h.m0
  have n1 := h.O_n1
  cases h1 : rg x 0 (nI (gN G 1) - 1)
  · simp only [w_X0_heard, c_isStreet h, m_noStreet h.mI, h1, h.O_t, Bool.not_false, wif_T, wif_F, nm_eq, jn_eq, jn0_eq, jn2_eq, jn3_eq, jn4_eq, zI_t, zI_f, zI0, x_B_zI, x_B_0, x_B_1, isIn_eq, in_eq, Bool.true_eq_false, Bool.false_eq_true, eq_self, true_and, and_true, Option.some.injEq, exists_eq_left', exists_eq_left, reduceCtorEq, not_true_eq_false, not_false_eq_true, one_ne, if_true, if_false, one_ne]
    exact ⟨rfl, G, h⟩
  obtain ⟨a, ha, rfl⟩ := c_sx h h1
  simp only [w_X0_heard, c_isStreet h, m_noStreet h.mI, h1, h.O_t, Bool.not_true, wif_T, wif_F, nm_eq, jn_eq, jn0_eq, jn2_eq, jn3_eq, jn4_eq, zI_t, zI_f, zI0, x_B_zI, x_B_0, x_B_1, isIn_eq, in_eq, Bool.true_eq_false, Bool.false_eq_true, eq_self, true_and, and_true, Option.some.injEq, exists_eq_left', exists_eq_left, reduceCtorEq, not_true_eq_false, not_false_eq_true, one_ne, if_true, if_false, one_ne]
  refine ⟨1, 8, hk, hn, c_heardBy h ha (Nat.le_refl _) (Nat.le_refl _) (fun S' hE => m_measure ?_)⟩
  have h' : Inv G S o (msr N) := h
  exact m_heardAt h'.mI fr3_msr (by omega) ⟨rfl, G, h'.ext hE⟩
end
