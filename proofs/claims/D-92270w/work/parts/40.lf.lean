set_option maxRecDepth 100000
section
variable {G : xG} {S : xH} {o : Nat} {M : xM} {x y z : Int32}
theorem e_at (h : Inv G S o M) : w_X0_at S o x (fun r => w_X1_at M x (fun r' M' => xF o r S r' M')) := by
  simp only [w_X1_at, nm_eq]
  generalize hN : m1 M 0 0 = N
  replace h : Inv G S o N := by rw [← hN]; exact h.m0
  have n9 := h.O_n9
  have e10 : nI (10 + gN G 9) - 1 = nI (9 + gN G 9) := by rw [show 10 + gN G 9 = 9 + gN G 9 + 1 by omega]; exact nI_pred _
  have fin : w_X0_menAt S o x 0 (fun r => w_X1_many N x (fun r' => xF o r S r' N)) := c_menAt h (m_many h.mI ⟨rfl, G, h⟩)
  simp only [w_X0_at, c_isStreet h, h.O_t, h.O_c65, h.O_d1, h.O_d9, l64_0, l64_10, l64_20, l64_23, ja10, ja9, e10, wif_T, wif_F, nm_eq, jn_eq, jn0_eq, jn2_eq, jn3_eq, jn4_eq, zI_t, zI_f, zI0, x_B_zI, x_B_0, x_B_1, isIn_eq, in_eq, Bool.true_eq_false, Bool.false_eq_true, eq_self, true_and, and_true, Option.some.injEq, exists_eq_left', exists_eq_left, reduceCtorEq, not_true_eq_false, not_false_eq_true, one_ne, if_true, if_false]
  cases h1 : rg x 0 (nI (gN G 1) - 1)
  · cases h2 : rg x 10 (nI (9 + gN G 9))
    · cases h3 : rg x 20 23
      · simp only [wif_T, wif_F, nm_eq, jn_eq, jn0_eq, jn2_eq, jn3_eq, jn4_eq, zI_t, zI_f, zI0, x_B_zI, x_B_0, x_B_1, isIn_eq, in_eq, Bool.true_eq_false, Bool.false_eq_true, eq_self, true_and, and_true, Option.some.injEq, exists_eq_left', exists_eq_left, reduceCtorEq, not_true_eq_false, not_false_eq_true, one_ne, if_true, if_false]
        exact ⟨rfl, G, h⟩
      · simp only [wif_T, wif_F, nm_eq, jn_eq, jn0_eq, jn2_eq, jn3_eq, jn4_eq, zI_t, zI_f, zI0, x_B_zI, x_B_0, x_B_1, isIn_eq, in_eq, Bool.true_eq_false, Bool.false_eq_true, eq_self, true_and, and_true, Option.some.injEq, exists_eq_left', exists_eq_left, reduceCtorEq, not_true_eq_false, not_false_eq_true, one_ne, if_true, if_false, one_ne]
        exact fin
    · simp only [wif_T, wif_F, nm_eq, jn_eq, jn0_eq, jn2_eq, jn3_eq, jn4_eq, zI_t, zI_f, zI0, x_B_zI, x_B_0, x_B_1, isIn_eq, in_eq, Bool.true_eq_false, Bool.false_eq_true, eq_self, true_and, and_true, Option.some.injEq, exists_eq_left', exists_eq_left, reduceCtorEq, not_true_eq_false, not_false_eq_true, one_ne, if_true, if_false, one_ne]
      exact fin
  · simp only [wif_T, wif_F, nm_eq, jn_eq, jn0_eq, jn2_eq, jn3_eq, jn4_eq, zI_t, zI_f, zI0, x_B_zI, x_B_0, x_B_1, isIn_eq, in_eq, Bool.true_eq_false, Bool.false_eq_true, eq_self, true_and, and_true, Option.some.injEq, exists_eq_left', exists_eq_left, reduceCtorEq, not_true_eq_false, not_false_eq_true, one_ne, if_true, if_false, one_ne]
    exact fin
theorem e_about (h : Inv G S o M) : w_X0_about S o x y (fun r => w_X1_about M x y (fun r' M' => xF o r S r' M')) := by
  simp only [w_X1_about, nm_eq]
  generalize hN : m1 M 0 0 = N
  replace h : Inv G S o N := by rw [← hN]; exact h.m0
  have n5 := h.O_n5
  cases h1 : rg x 0 (nI (gN G 5) - 1)
  · simp only [w_X0_about, c_isMan h, m_noMan h.mI, h1, h.O_t, Bool.not_false, wif_T, wif_F, nm_eq, jn_eq, jn0_eq, jn2_eq, jn3_eq, jn4_eq, zI_t, zI_f, zI0, x_B_zI, x_B_0, x_B_1, isIn_eq, in_eq, Bool.true_eq_false, Bool.false_eq_true, eq_self, true_and, and_true, Option.some.injEq, exists_eq_left', exists_eq_left, reduceCtorEq, not_true_eq_false, not_false_eq_true, one_ne, if_true, if_false, one_ne]
    exact ⟨rfl, G, h⟩
  obtain ⟨m, hm, rfl⟩ := c_ix h h1
  have hv : vp_in (nI m) 40 := vp_in_nI (by omega) (by decide)
  cases h2 : rg y 0 7
  · have ne7 : ¬ y = 7 := fun q => by rw [q] at h2; exact absurd h2 (by decide)
    have h6 : rg y 0 6 = false := by
      cases h6 : rg y 0 6
      · rfl
      · have q := (rg_le (n := 6) (by decide)).mp h6
        have : vp_in y 8 := by rw [vp_in_iff] at q ⊢; omega
        rw [rg7.mpr this] at h2
        exact absurd h2 (by decide)
    simp only [w_X0_about, c_isMan h, m_noMan h.mI, h1, h2, h6, ne7, h.O_t, l64_0, l64_7, Bool.not_true, wif_T, wif_F, nm_eq, jn_eq, jn0_eq, jn2_eq, jn3_eq, jn4_eq, zI_t, zI_f, zI0, x_B_zI, x_B_0, x_B_1, isIn_eq, in_eq, Bool.true_eq_false, Bool.false_eq_true, eq_self, true_and, and_true, Option.some.injEq, exists_eq_left', exists_eq_left, reduceCtorEq, not_true_eq_false, not_false_eq_true, one_ne, if_true, if_false, one_ne]
    exact ⟨rfl, G, h⟩
  obtain ⟨j, hj, rfl⟩ := vp_in_of (rg7.mp h2) (by decide)
  have v1 : vp_in (nI (8 * m + j)) 320 := vp_in_nI (by omega) (by decide)
  by_cases e7 : j = 7
  · subst e7
    have t7 : (nI 7 = 7) = True := eq_true rfl
    simp only [w_X0_about, c_isMan h, m_noMan h.mI, h1, h2, t7, h.O_t, h.R_r52, h.R_t52, h.R_l52, hv, h.M_q hm, h.M_T hm, h.M_sh hm, l64_0, l64_7, im8, nI_add, v1, nI_clamp (show m < 2 ^ 31 by omega), nI_clamp (show 8 * m + 7 < 2 ^ 31 by omega), Bool.not_true, wif_T, wif_F, nm_eq, jn_eq, jn0_eq, jn2_eq, jn3_eq, jn4_eq, zI_t, zI_f, zI0, x_B_zI, x_B_0, x_B_1, isIn_eq, in_eq, Bool.true_eq_false, Bool.false_eq_true, eq_self, true_and, and_true, Option.some.injEq, exists_eq_left', exists_eq_left, reduceCtorEq, not_true_eq_false, not_false_eq_true, one_ne, if_true, if_false, one_ne]
    rcases h.M_sB hm with p | p
    · exact wif_y p ⟨p.symm, G, h⟩
    · exact wif_n (by rw [p]; decide) ⟨p.symm, G, h⟩
  · have ne7 : ¬ nI j = 7 := fun q => e7 ((eqk_7 (by omega)).mp q)
    have h6 : rg (nI j) 0 6 = true := (rg_le (n := 6) (by decide)).mpr (vp_in_nI (by omega) (by decide))
    have v2 : vp_in (nI j) 7 := vp_in_nI (by omega) (by decide)
    simp only [w_X0_about, c_isMan h, m_noMan h.mI, h1, h2, h6, ne7, h.O_t, h.R_r52, h.R_t52, h.R_l52, hv, h.M_q hm, h.M_T hm, h.M_ab hm, h.M_aT hm, h.M_aL hm, v2, h.M_av hm j (by omega), l64_0, l64_7, im8, nI_add, v1, nI_clamp (show m < 2 ^ 31 by omega), nI_clamp (show j < 2 ^ 31 by omega), nI_clamp (show 8 * m + j < 2 ^ 31 by omega), Bool.not_true, wif_T, wif_F, nm_eq, jn_eq, jn0_eq, jn2_eq, jn3_eq, jn4_eq, zI_t, zI_f, zI0, x_B_zI, x_B_0, x_B_1, isIn_eq, in_eq, Bool.true_eq_false, Bool.false_eq_true, eq_self, true_and, and_true, Option.some.injEq, exists_eq_left', exists_eq_left, reduceCtorEq, not_true_eq_false, not_false_eq_true, one_ne, if_true, if_false, one_ne]
    exact ⟨rfl, G, h⟩
theorem shy_inv (h : Inv G S o M) {m : Nat} (hm : m < gN G 5) (hz : x_B z) : Inv G (sI S 151 (gA G 2 m) z) o (m2 M 6 (8 * m + 7) z) := by
  have n5 := h.O_n5
  have E : ∀ b, b ≠ gA G 2 m → eqc S (sI S 151 (gA G 2 m) z) b := fun b hb => eqc_sI hb
  have E3 : ∀ t, t ≠ 3 → ∀ b, xT S b = t → eqc S (sI S 151 (gA G 2 m) z) b := fun t h3 b hb => E b (fun e => h3 (by rw [← hb, e, h.M_T hm]))
  have k6 : ∀ m' j, m' < gN G 5 → j < 7 → M2 (m2 M 6 (8 * m + 7) z) 6 (8 * m' + j) = M2 M 6 (8 * m' + j) := fun m' j _ hj => by
    have : ¬ 8 * m' + j = 8 * m + 7 := by omega
    exact m2_ne this
  have hM : iM G (sI S 151 (gA G 2 m) z) o (m2 M 6 (8 * m + 7) z) := by
    intro m' hm'
    refine ⟨h.M_q hm', h.M_T hm', h.M_r hm', h.M_ab hm', h.M_aT hm', h.M_aL hm', h.M_ar hm', fun j hj => by rw [k6 m' j hm' hj]; exact h.M_av hm' j hj, fun j hj => by rw [k6 m' j hm' hj]; exact h.M_ap hm' j hj, by rw [k6 m' 6 hm' (by decide)]; exact h.M_hm hm', ?_, ?_, h.M_go hm', h.M_tk hm', h.M_hi hm', h.M_pl hm'⟩
    · by_cases e : m' = m
      · subst e
        rw [xI_at]
        exact m2_at.symm
      · have hne : gA G 2 m' ≠ gA G 2 m := fun q => e (by have := congrArg (gR G) q; rw [h.M_r hm', h.M_r hm] at this; exact this)
        have : ¬ 8 * m' + 7 = 8 * m + 7 := by omega
        rw [(E _ hne).2.2.1 151 (by decide) (by decide), h.M_sh hm']
        exact (m2_ne this).symm
    · by_cases e : m' = m
      · subst e
        have : M2 (m2 M 6 (8 * m' + 7) z) 6 (8 * m' + 7) = z := m2_at
        rw [this]
        exact hz
      · have : ¬ 8 * m' + 7 = 8 * m + 7 := by omega
        have : M2 (m2 M 6 (8 * m + 7) z) 6 (8 * m' + 7) = M2 M 6 (8 * m' + 7) := m2_ne this
        rw [this]
        exact h.M_sB hm'
  exact ⟨h.iO, h.iR, h.iW, hM, h.iP, h.iA, h.iK, h.iS, h.iT, h.iU, h.iZ⟩
theorem e_shy (h : Inv G S o M) (hy : x_B y) : w_X0_shy S o x y (fun r S' => w_X1_shy M x y (fun r' M' => xF o r S' r' M')) := by
  simp only [w_X1_shy, nm_eq]
  generalize hN : m1 M 0 0 = N
  replace h : Inv G S o N := by rw [← hN]; exact h.m0
  have n5 := h.O_n5
  cases h1 : rg x 0 (nI (gN G 5) - 1)
  · simp only [w_X0_shy, c_isMan h, m_noMan h.mI, h1, h.O_t, Bool.not_false, wif_T, wif_F, nm_eq, jn_eq, jn0_eq, jn2_eq, jn3_eq, jn4_eq, zI_t, zI_f, zI0, x_B_zI, x_B_0, x_B_1, isIn_eq, in_eq, Bool.true_eq_false, Bool.false_eq_true, eq_self, true_and, and_true, Option.some.injEq, exists_eq_left', exists_eq_left, reduceCtorEq, not_true_eq_false, not_false_eq_true, one_ne, if_true, if_false, one_ne]
    exact ⟨rfl, G, h⟩
  obtain ⟨m, hm, rfl⟩ := c_ix h h1
  have hv : vp_in (nI m) 40 := vp_in_nI (by omega) (by decide)
  have v1 : vp_in (nI (8 * m + 7)) 320 := vp_in_nI (by omega) (by decide)
  have f := shy_inv h hm hy
  simp only [w_X0_shy, c_isMan h, m_noMan h.mI, h1, h.O_t, h.R_r52, h.R_t52, h.R_l52, hv, h.M_q hm, h.M_T hm, h.M_sh hm, hy, im8, ia7, v1, nI_clamp (show m < 2 ^ 31 by omega), nI_clamp (show 8 * m + 7 < 2 ^ 31 by omega), Bool.not_true, wif_T, wif_F, nm_eq, jn_eq, jn0_eq, jn2_eq, jn3_eq, jn4_eq, zI_t, zI_f, zI0, x_B_zI, x_B_0, x_B_1, isIn_eq, in_eq, Bool.true_eq_false, Bool.false_eq_true, eq_self, true_and, and_true, Option.some.injEq, exists_eq_left', exists_eq_left, reduceCtorEq, not_true_eq_false, not_false_eq_true, one_ne, if_true, if_false, one_ne]
  have fin : ∀ r, r = M2 N 6 (8 * m + 7) → wif (y = 0) (xF o r (sI S 151 (gA G 2 m) y) (M2 N 6 (8 * m + 7)) (m2 N 6 (8 * m + 7) 0)) (xF o r (sI S 151 (gA G 2 m) y) (M2 N 6 (8 * m + 7)) (m2 N 6 (8 * m + 7) 1)) := fun r hr => by
    rcases hy with rfl | rfl
    · exact wif_y rfl ⟨hr, G, f⟩
    · exact wif_n (by decide) ⟨hr, G, f⟩
  rcases h.M_sB hm with p | p
  · exact wif_y p (fin 0 p.symm)
  · exact wif_n (by rw [p]; decide) (fin 1 p.symm)
theorem e_run (h : Inv G S o M) {k n : Nat} (hk : 1 ≤ k) (hn : 3 ≤ n) : w_X0_run k n S o x (fun r S' => w_X1_run M x (fun r' M' => xF o r S' r' M')) := by
  simp only [w_X1_run, nm_eq]
  generalize hN : m1 M 0 0 = N
  replace h : Inv G S o N := by rw [← hN]; exact h.m0
  have n5 := h.O_n5
  cases h1 : rg x 0 (nI (gN G 5) - 1)
  · simp only [w_X0_run, c_isMan h, m_noMan h.mI, h1, h.O_t, Bool.not_false, wif_T, wif_F, nm_eq, jn_eq, jn0_eq, jn2_eq, jn3_eq, jn4_eq, zI_t, zI_f, zI0, x_B_zI, x_B_0, x_B_1, isIn_eq, in_eq, Bool.true_eq_false, Bool.false_eq_true, eq_self, true_and, and_true, Option.some.injEq, exists_eq_left', exists_eq_left, reduceCtorEq, not_true_eq_false, not_false_eq_true, one_ne, if_true, if_false, one_ne]
    exact ⟨rfl, G, h⟩
  obtain ⟨m, hm, rfl⟩ := c_ix h h1
  have hv : vp_in (nI m) 40 := vp_in_nI (by omega) (by decide)
  simp only [w_X0_run, c_isMan h, m_noMan h.mI, m_placeOf h.mI hm, m_go h.mI hm, c_place h hm, h1, h.O_t, h.R_r52, h.R_t52, h.R_l52, hv, h.M_q hm, h.M_T hm, nI_clamp (show m < 2 ^ 31 by omega), Bool.not_true, wif_T, wif_F, nm_eq, jn_eq, jn0_eq, jn2_eq, jn3_eq, jn4_eq, zI_t, zI_f, zI0, x_B_zI, x_B_0, x_B_1, isIn_eq, in_eq, Bool.true_eq_false, Bool.false_eq_true, eq_self, true_and, and_true, Option.some.injEq, exists_eq_left', exists_eq_left, reduceCtorEq, not_true_eq_false, not_false_eq_true, one_ne, if_true, if_false, one_ne]
  by_cases p : M2 N 8 (40 * gN G 4 + m) = 23
  · exact wif_y p (wif_y p ⟨rfl, G, h⟩)
  · refine wif_n p ⟨1, 3, hk, hn, c_send h hm (Or.inr (Or.inr ⟨3, by decide, rfl⟩)) (by decide) (Nat.le_refl _) (Nat.le_refl _) (fun S' h' => wif_n p ⟨rfl, G, h'⟩)⟩
theorem e_walk (h : Inv G S o M) {k n : Nat} (hk : 1 ≤ k) (hn : 3 ≤ n) : w_X0_walk k n S o x y (fun r S' => w_X1_walk M x y (fun r' M' => xF o r S' r' M')) := by
  simp only [w_X1_walk, nm_eq]
  generalize hN : m1 M 0 0 = N
  replace h : Inv G S o N := by rw [← hN]; exact h.m0
  have n5 := h.O_n5
  have n1 := h.O_n1
  cases h1 : rg x 0 (nI (gN G 5) - 1)
  · simp only [w_X0_walk, c_isMan h, m_noMan h.mI, h1, h.O_t, Bool.not_false, wif_T, wif_F, nm_eq, jn_eq, jn0_eq, jn2_eq, jn3_eq, jn4_eq, zI_t, zI_f, zI0, x_B_zI, x_B_0, x_B_1, isIn_eq, in_eq, Bool.true_eq_false, Bool.false_eq_true, eq_self, true_and, and_true, Option.some.injEq, exists_eq_left', exists_eq_left, reduceCtorEq, not_true_eq_false, not_false_eq_true, one_ne, if_true, if_false, one_ne]
    exact ⟨rfl, G, h⟩
  cases h2 : rg y 0 (nI (gN G 1) - 1)
  · simp only [w_X0_walk, c_isMan h, m_noMan h.mI, c_isStreet h, m_noStreet h.mI, h1, h2, h.O_t, Bool.not_true, Bool.not_false, wif_T, wif_F, nm_eq, jn_eq, jn0_eq, jn2_eq, jn3_eq, jn4_eq, zI_t, zI_f, zI0, x_B_zI, x_B_0, x_B_1, isIn_eq, in_eq, Bool.true_eq_false, Bool.false_eq_true, eq_self, true_and, and_true, Option.some.injEq, exists_eq_left', exists_eq_left, reduceCtorEq, not_true_eq_false, not_false_eq_true, one_ne, if_true, if_false, one_ne]
    exact ⟨rfl, G, h⟩
  obtain ⟨m, hm, rfl⟩ := c_ix h h1
  obtain ⟨s, hs, rfl⟩ := c_sx h h2
  have hv : vp_in (nI m) 40 := vp_in_nI (by omega) (by decide)
  obtain ⟨a, a1, a2, a3, -, -⟩ := c_hi h hm
  obtain ⟨q, hq24, hq, hqq⟩ := c_pq h hm
  simp only [w_X0_walk, w_X3_isAshore, c_isMan h, m_noMan h.mI, c_isStreet h, m_noStreet h.mI, m_placeOf h.mI hm, m_go h.mI hm, m_isStreet, h1, h2, h.O_t, h.R_r52, h.R_t52, h.R_l52, hv, h.M_q hm, h.M_T hm, a1, a2, a3, hq, nI_clamp (show m < 2 ^ 31 by omega), Bool.not_true, wif_T, wif_F, nm_eq, jn_eq, jn0_eq, jn2_eq, jn3_eq, jn4_eq, zI_t, zI_f, zI0, x_B_zI, x_B_0, x_B_1, isIn_eq, in_eq, Bool.true_eq_false, Bool.false_eq_true, eq_self, true_and, and_true, Option.some.injEq, exists_eq_left', exists_eq_left, reduceCtorEq, not_true_eq_false, not_false_eq_true, one_ne, if_true, if_false, one_ne]
  have snd : ∀ {Q : Int32 → xH → Prop}, (∀ S', Inv G S' o (m2 N 8 (40 * gN G 4 + m) (nI s)) → Q (nI q) S') → w_X0_send 1 3 S o (gA G 2 m) (nI s) Q := fun hQ => c_send h hm (Or.inl (vp_in_nI hs (by omega))) (fun e => by have := (eqk_21 (by omega)).mp e; omega) (Nat.le_refl _) (Nat.le_refl _) (fun S' h' => by rw [hq]; exact hQ S' h')
  by_cases p : q < 10
  · have r7 : rg (nI q) 0 7 = true := rg7.mpr ((vi (by omega)).mpr (by omega))
    refine wif_y ((ltk_10 (by omega)).mpr p) ?_
    simp only [r7, wif_T, wif_F, nm_eq, jn_eq, jn0_eq, jn2_eq, jn3_eq, jn4_eq, zI_t, zI_f, zI0, x_B_zI, x_B_0, x_B_1, isIn_eq, in_eq, Bool.true_eq_false, Bool.false_eq_true, eq_self, true_and, and_true, Option.some.injEq, exists_eq_left', exists_eq_left, reduceCtorEq, not_true_eq_false, not_false_eq_true, one_ne, if_true, if_false, one_ne]
    exact ⟨1, 3, hk, hn, snd (fun S' h' => ⟨rfl, G, h'⟩)⟩
  · have r7 : rg (nI q) 0 7 = false := rg7f.mpr (fun z => by have := (vi (by omega)).mp z; omega)
    refine wif_n (fun z => p ((ltk_10 (by omega)).mp z)) ?_
    by_cases p2 : q = 22
    · subst p2
      refine wif_y rfl ?_
      simp only [r7, wif_T, wif_F, nm_eq, jn_eq, jn0_eq, jn2_eq, jn3_eq, jn4_eq, zI_t, zI_f, zI0, x_B_zI, x_B_0, x_B_1, isIn_eq, in_eq, Bool.true_eq_false, Bool.false_eq_true, eq_self, true_and, and_true, Option.some.injEq, exists_eq_left', exists_eq_left, reduceCtorEq, not_true_eq_false, not_false_eq_true, one_ne, if_true, if_false, one_ne]
      exact ⟨1, 3, hk, hn, snd (fun S' h' => wif_y rfl ⟨rfl, G, h'⟩)⟩
    · have ne : ¬ nI q = 22 := fun z => p2 ((eqk_22 (by omega)).mp z)
      refine wif_n ne ?_
      simp only [r7, wif_T, wif_F, nm_eq, jn_eq, jn0_eq, jn2_eq, jn3_eq, jn4_eq, zI_t, zI_f, zI0, x_B_zI, x_B_0, x_B_1, isIn_eq, in_eq, Bool.true_eq_false, Bool.false_eq_true, eq_self, true_and, and_true, Option.some.injEq, exists_eq_left', exists_eq_left, reduceCtorEq, not_true_eq_false, not_false_eq_true, one_ne, if_true, if_false, one_ne]
      exact wif_n ne ⟨rfl, G, h⟩
end
