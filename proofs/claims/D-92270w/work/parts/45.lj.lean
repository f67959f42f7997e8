set_option maxRecDepth 100000
/-! ===== tickets ===== -/
section
variable {G : xG} {S : xH} {o : Nat} {M : xM} {x y z v : Int32} {t m : Nat}
theorem got_inv (h : Inv G S o M) (hm : m < gN G 5) : Inv G (sI S 154 (gA G 2 m) v) o (m2 M 38 m v) := by
  have hM : iM G (sI S 154 (gA G 2 m) v) o (m2 M 38 m v) := by
    intro m' hm'
    refine ⟨h.M_q hm', h.M_T hm', h.M_r hm', h.M_ab hm', h.M_aT hm', h.M_aL hm', h.M_ar hm', h.M_av hm', h.M_ap hm', h.M_hm hm', h.M_sh hm', h.M_sB hm', ?_, h.M_tk hm', h.M_hi hm', h.M_pl hm'⟩
    by_cases e : m' = m
    · subst e
      rw [xI_at, m2_at]
    · have hne : gA G 2 m' ≠ gA G 2 m := fun q => e (by have := congrArg (gR G) q; rw [h.M_r hm', h.M_r hm] at this; exact this)
      rw [(eqc_sI hne).2.2.1 154 (by decide) (by decide), m2_ne e]
      exact h.M_go hm'
  have hZ : iZ G (sI S 154 (gA G 2 m) v) o (m2 M 38 m v) := ⟨h.Z_l, fun m' h1 h2 => by rw [m2_ne (by omega)]; exact h.Z_g m' h1 h2, h.Z_s, h.Z_a, h.Z_t⟩
  exact ⟨h.iO, h.iR, h.iW, hM, h.iP, h.iA, h.iK, h.iS, h.iT, h.iU, hZ⟩
theorem pur_inv (h : Inv G S o M) {j : Nat} : Inv G (sA S (gA G 0 68) j v) o (m2 M 37 j v) := by
  have E : ∀ b, b ≠ gA G 0 68 → eqc S (sA S (gA G 0 68) j v) b := fun b hb => eqc_sA hb
  have E1 : ∀ c, c ≠ 101 → ∀ b, xT S b = c → eqc S (sA S (gA G 0 68) j v) b := fun c hc b hb => E b (fun e => hc (by rw [← hb, e, h.R_t68]))
  have E2 : ∀ b, gR G b ≠ 2 → eqc S (sA S (gA G 0 68) j v) b := fun b hb => E b (fun e => hb (by rw [e, h.U_r]))
  have hU : iU G (sA S (gA G 0 68) j v) o (m2 M 37 j v) := by
    refine ⟨fun i hi => ?_, h.U_r⟩
    by_cases e : i = j
    · rw [e, xA_at, m2_at]
    · rw [xA_ni S v e, m2_ne e]
      exact h.U_v i hi
  exact ⟨h.iO, h.iR, fr_W (M := M) h (E1 _ (by decide)) (E1 _ (by decide)), fr_M (M := M) h (E1 _ (by decide)) (E1 _ (by decide)) (E1 _ (by decide)) (fun b hb => E2 b (by omega)), fr_P (M := M) h (E1 _ (by decide)) (E1 _ (by decide)) (fun b hb => E2 b (by omega)), fr_A (M := M) h (E1 _ (by decide)) (E1 _ (by decide)) (fun b hb => E2 b (by omega)), fr_K (M := M) h (E1 _ (by decide)) (E1 _ (by decide)), fr_S (M := M) h (E1 _ (by decide)) (E1 _ (by decide)), fr_T (M := M) h (E1 _ (by decide)) (E1 _ (by decide)), hU, h.iZ⟩
theorem hol_inv (h : Inv G S o M) (ht : t < gN G 31) (hc : v = -9 ∨ vp_in v 10) : Inv G (sI S 1002 (gA G 10 t) v) o (m2 M 34 t v) := by
  have hT : iT G (sI S 1002 (gA G 10 t) v) o (m2 M 34 t v) := by
    intro t' hb
    exact ⟨h.T_q hb, h.T_T hb, h.T_r hb, h.T_of hb, h.T_om hb, h.T_wo hb, (by
      by_cases e : t' = t
      · subst e
        rw [xI_at, m2_at]
      · have hne : gA G 10 t' ≠ gA G 10 t := fun q => e (by have := congrArg (gR G) q; rw [h.T_r hb, h.T_r ht] at this; exact this)
        rw [(eqc_sI hne).2.2.1 1002 (by decide) (by decide), m2_ne e]
        exact h.T_ho hb), h.T_pa hb, h.T_fa hb, h.T_th hb, (by
      by_cases e : t' = t
      · subst e
        rw [m2_at]
        exact hc
      · rw [m2_ne e]
        exact h.T_hB hb), h.T_pB hb⟩
  have hZ : iZ G (sI S 1002 (gA G 10 t) v) o (m2 M 34 t v) := h.iZ
  exact ⟨h.iO, h.iR, h.iW, h.iM, h.iP, h.iA, h.iK, h.iS, hT, h.iU, hZ⟩
theorem pai_inv (h : Inv G S o M) (ht : t < gN G 31) (hc : x_B v) : Inv G (sI S 1003 (gA G 10 t) v) o (m2 M 35 t v) := by
  have hT : iT G (sI S 1003 (gA G 10 t) v) o (m2 M 35 t v) := by
    intro t' hb
    exact ⟨h.T_q hb, h.T_T hb, h.T_r hb, h.T_of hb, h.T_om hb, h.T_wo hb, h.T_ho hb, (by
      by_cases e : t' = t
      · subst e
        rw [xI_at, m2_at]
      · have hne : gA G 10 t' ≠ gA G 10 t := fun q => e (by have := congrArg (gR G) q; rw [h.T_r hb, h.T_r ht] at this; exact this)
        rw [(eqc_sI hne).2.2.1 1003 (by decide) (by decide), m2_ne e]
        exact h.T_pa hb), h.T_fa hb, h.T_th hb, h.T_hB hb, (by
      by_cases e : t' = t
      · subst e
        rw [m2_at]
        exact hc
      · rw [m2_ne e]
        exact h.T_pB hb)⟩
  have hZ : iZ G (sI S 1003 (gA G 10 t) v) o (m2 M 35 t v) := ⟨h.Z_l, h.Z_g, h.Z_s, h.Z_a, fun t' h1 h2 => by
    have := h.Z_t t' h1 h2
    exact ⟨by rw [m2_ne (by omega)]; exact this.1, this.2⟩⟩
  exact ⟨h.iO, h.iR, h.iW, h.iM, h.iP, h.iA, h.iK, h.iS, hT, h.iU, hZ⟩
theorem fal_inv (h : Inv G S o M) (ht : t < gN G 31) : Inv G (sI S 1004 (gA G 10 t) v) o (m2 M 36 t v) := by
  have hT : iT G (sI S 1004 (gA G 10 t) v) o (m2 M 36 t v) := by
    intro t' hb
    exact ⟨h.T_q hb, h.T_T hb, h.T_r hb, h.T_of hb, h.T_om hb, h.T_wo hb, h.T_ho hb, h.T_pa hb, (by
      by_cases e : t' = t
      · subst e
        rw [xI_at, m2_at]
      · have hne : gA G 10 t' ≠ gA G 10 t := fun q => e (by have := congrArg (gR G) q; rw [h.T_r hb, h.T_r ht] at this; exact this)
        rw [(eqc_sI hne).2.2.1 1004 (by decide) (by decide), m2_ne e]
        exact h.T_fa hb), h.T_th hb, h.T_hB hb, h.T_pB hb⟩
  have hZ : iZ G (sI S 1004 (gA G 10 t) v) o (m2 M 36 t v) := ⟨h.Z_l, h.Z_g, h.Z_s, h.Z_a, fun t' h1 h2 => by
    have := h.Z_t t' h1 h2
    exact ⟨this.1, by rw [m2_ne (by omega)]; exact this.2⟩⟩
  exact ⟨h.iO, h.iR, h.iW, h.iM, h.iP, h.iA, h.iK, h.iS, hT, h.iU, hZ⟩
/-- money comes to a holder, or to the man of a ticket -/
def giv (M : xM) (t : Nat) (y v : Int32) : xM := if y = -9 then m2 M 38 (M2 M 32 t).toNatClampNeg (M2 M 38 (M2 M 32 t).toNatClampNeg + v) else m2 M 37 y.toNatClampNeg (M2 M 37 y.toNatClampNeg + v)
theorem giv_k {k : Nat} (h1 : k ≠ 37) (h2 : k ≠ 38) : M2 (giv M t y v) k = M2 M k := by
  funext i
  unfold giv
  split
  · exact m2_nk h2
  · exact m2_nk h1
theorem c_gain (h : Inv G S o M) (ht : t < gN G 31) (hy : y = -9 ∨ vp_in y 10) {Q : xH → Prop} (hQ : ∀ S', Inv G S' o (giv M t y v) → Q S') : w_X19_gain S (gA G 10 t) y v Q := by
  have n5 := h.O_n5
  unfold w_X19_gain
  by_cases e : y = -9
  · refine wif_y e ?_
    have hm := vi_c (h.T_om ht)
    have q := hQ _ (by rw [giv, if_pos e]; exact got_inv h hm.1)
    simp only [h.T_T ht, h.T_of ht, h.M_T hm.1, h.M_go hm.1, wif_T, wif_F, nm_eq, jn_eq, jn0_eq, jn2_eq, jn3_eq, jn4_eq, zI_t, zI_f, zI0, x_B_zI, x_B_0, x_B_1, isIn_eq, in_eq, Bool.true_eq_false, Bool.false_eq_true, eq_self, true_and, and_true, Option.some.injEq, exists_eq_left', exists_eq_left, reduceCtorEq, not_true_eq_false, not_false_eq_true, one_ne, if_true, if_false]
    exact q
  · refine wif_n e ?_
    have hv := hy.resolve_left e
    have hj := vi_c hv
    have q := hQ _ (by rw [giv, if_neg e]; exact pur_inv h)
    simp only [h.T_T ht, h.T_th ht, h.O_t, h.R_r68, h.R_t68, h.R_l68, hv, h.U_v _ hj.1, wif_T, wif_F, nm_eq, jn_eq, jn0_eq, jn2_eq, jn3_eq, jn4_eq, zI_t, zI_f, zI0, x_B_zI, x_B_0, x_B_1, isIn_eq, in_eq, Bool.true_eq_false, Bool.false_eq_true, eq_self, true_and, and_true, Option.some.injEq, exists_eq_left', exists_eq_left, reduceCtorEq, not_true_eq_false, not_false_eq_true, one_ne, if_true, if_false]
    exact q
theorem m_give (ht : t < 40) (hm : vp_in (M2 M 32 t) 40) (hy : y = -9 ∨ vp_in y 10) {Q : xM → Prop} (hQ : Q (giv M t y v)) : w_X1_give M (nI t) y v Q := by
  unfold w_X1_give
  have hv : vp_in (nI t) 40 := vp_in_nI ht (by decide)
  rw [nI_clamp (by omega)]
  unfold giv at hQ
  by_cases e : y = -9
  · rw [if_pos e] at hQ
    refine wif_y e ?_
    simp only [hv, hm, wif_T, wif_F, nm_eq, jn_eq, jn0_eq, jn2_eq, jn3_eq, jn4_eq, zI_t, zI_f, zI0, x_B_zI, x_B_0, x_B_1, isIn_eq, in_eq, Bool.true_eq_false, Bool.false_eq_true, eq_self, true_and, and_true, Option.some.injEq, exists_eq_left', exists_eq_left, reduceCtorEq, not_true_eq_false, not_false_eq_true, one_ne, if_true, if_false]
    exact hQ
  · rw [if_neg e] at hQ
    refine wif_n e ?_
    simp only [hy.resolve_left e, wif_T, wif_F, nm_eq, jn_eq, jn0_eq, jn2_eq, jn3_eq, jn4_eq, zI_t, zI_f, zI0, x_B_zI, x_B_0, x_B_1, isIn_eq, in_eq, Bool.true_eq_false, Bool.false_eq_true, eq_self, true_and, and_true, Option.some.injEq, exists_eq_left', exists_eq_left, reduceCtorEq, not_true_eq_false, not_false_eq_true, one_ne, if_true, if_false]
    exact hQ
theorem tv (h : Inv G S o M) (ht : t < gN G 31) : vp_in (nI t) 40 ∧ (nI t).toNatClampNeg = t ∧ t < 40 := by
  have n := h.O_n31
  exact ⟨vp_in_nI (by omega) (by decide), nI_clamp (by omega), by omega⟩
theorem v_up {a b : Nat} {x : Int32} (h : vp_in x a) (hab : a ≤ b) : vp_in x b := by
  rw [vp_in_iff] at h ⊢
  omega
theorem e_ticketOf (h : Inv G S o M) : w_X0_ticketOf S o x y (fun r => w_X1_ticketOf M x y (fun r' M' => xF o r S r' M')) := by
  simp only [w_X1_ticketOf, nm_eq]
  generalize hN : m1 M 0 0 = N
  replace h : Inv G S o N := by rw [← hN]; exact h.m0
  cases h1 : rg x 0 (nI (gN G 31) - 1)
  · simp only [w_X0_ticketOf, c_isTicket h, m_noTicket h.mI, h1, h.O_t, Bool.not_false, wif_T, wif_F, nm_eq, jn_eq, jn0_eq, jn2_eq, jn3_eq, jn4_eq, zI_t, zI_f, zI0, x_B_zI, x_B_0, x_B_1, isIn_eq, in_eq, Bool.true_eq_false, Bool.false_eq_true, eq_self, true_and, and_true, Option.some.injEq, exists_eq_left', exists_eq_left, reduceCtorEq, not_true_eq_false, not_false_eq_true, one_ne, if_true, if_false]
    exact ⟨rfl, G, h⟩
  obtain ⟨t, ht, rfl⟩ := c_tx h h1
  have hv := tv h ht
  simp only [w_X0_ticketOf, c_isTicket h, m_noTicket h.mI, h1, h.O_t, h.R_r66, h.R_t66, h.R_l66, hv, h.T_q ht, h.T_T ht, h.T_wo ht, h.T_ho ht, h.T_pa ht, h.T_fa ht, Bool.not_true, wif_T, wif_F, nm_eq, jn_eq, jn0_eq, jn2_eq, jn3_eq, jn4_eq, zI_t, zI_f, zI0, x_B_zI, x_B_0, x_B_1, isIn_eq, in_eq, Bool.true_eq_false, Bool.false_eq_true, eq_self, true_and, and_true, Option.some.injEq, exists_eq_left', exists_eq_left, reduceCtorEq, not_true_eq_false, not_false_eq_true, one_ne, if_true, if_false]
  by_cases e0 : y = 0
  · exact wif_y e0 (wif_y e0 ⟨rfl, G, h⟩)
  refine wif_n e0 ?_
  by_cases e1 : y = 1
  · refine wif_y e1 ?_
    rcases h.T_pB ht with b | b
    · exact wif_y b (wif_n e0 (wif_y e1 (wif_y b ⟨rfl, G, h⟩)))
    · have nb : ¬ M2 N 35 t = 0 := by rw [b]; decide
      exact wif_n nb (wif_n e0 (wif_y e1 (wif_n nb ⟨rfl, G, h⟩)))
  refine wif_n e1 ?_
  by_cases e2 : y = 2
  · exact wif_y e2 (wif_n e0 (wif_n e1 (wif_y e2 ⟨rfl, G, h⟩)))
  refine wif_n e2 ?_
  by_cases e3 : y = 3
  · exact wif_y e3 (wif_n e0 (wif_n e1 (wif_n e2 (wif_y e3 ⟨rfl, G, h⟩))))
  exact wif_n e3 (wif_n e0 (wif_n e1 (wif_n e2 (wif_n e3 ⟨rfl, G, h⟩))))
theorem rg9 {x : Int32} : rg x 0 9 = true ↔ vp_in x 10 := rg_le (n := 9) (by decide)
theorem e_purse (h : Inv G S o M) : w_X0_purse S o x (fun r => w_X1_purse M x (fun r' M' => xF o r S r' M')) := by
  simp only [w_X1_purse, nm_eq]
  generalize hN : m1 M 0 0 = N
  replace h : Inv G S o N := by rw [← hN]; exact h.m0
  cases h1 : rg x 0 9
  · simp only [w_X0_purse, c_isHolder, m_noHolder, h1, Bool.not_false, wif_T, wif_F, nm_eq, jn_eq, jn0_eq, jn2_eq, jn3_eq, jn4_eq, zI_t, zI_f, zI0, x_B_zI, x_B_0, x_B_1, isIn_eq, in_eq, Bool.true_eq_false, Bool.false_eq_true, eq_self, true_and, and_true, Option.some.injEq, exists_eq_left', exists_eq_left, reduceCtorEq, not_true_eq_false, not_false_eq_true, one_ne, if_true, if_false]
    exact ⟨rfl, G, h⟩
  have hv := rg9.mp h1
  simp only [w_X0_purse, c_isHolder, m_noHolder, h1, h.O_t, h.R_r68, h.R_t68, h.R_l68, hv, h.U_v _ (vi_c hv).1, Bool.not_true, wif_T, wif_F, nm_eq, jn_eq, jn0_eq, jn2_eq, jn3_eq, jn4_eq, zI_t, zI_f, zI0, x_B_zI, x_B_0, x_B_1, isIn_eq, in_eq, Bool.true_eq_false, Bool.false_eq_true, eq_self, true_and, and_true, Option.some.injEq, exists_eq_left', exists_eq_left, reduceCtorEq, not_true_eq_false, not_false_eq_true, one_ne, if_true, if_false]
  exact ⟨Int32.add_comm _ _, G, h⟩
theorem e_sell (h : Inv G S o M) : w_X0_sell S o x y z (fun r S' => w_X1_sell M x y z (fun r' M' => xF o r S' r' M')) := by
  simp only [w_X1_sell, nm_eq]
  generalize hN : m1 M 0 0 = N
  replace h : Inv G S o N := by rw [← hN]; exact h.m0
  have n5 := h.O_n5
  cases h1 : rg x 0 (nI (gN G 31) - 1)
  · simp only [w_X0_sell, c_isTicket h, m_noTicket h.mI, h1, h.O_t, Bool.not_false, wif_T, wif_F, nm_eq, jn_eq, jn0_eq, jn2_eq, jn3_eq, jn4_eq, zI_t, zI_f, zI0, x_B_zI, x_B_0, x_B_1, isIn_eq, in_eq, Bool.true_eq_false, Bool.false_eq_true, eq_self, true_and, and_true, Option.some.injEq, exists_eq_left', exists_eq_left, reduceCtorEq, not_true_eq_false, not_false_eq_true, one_ne, if_true, if_false]
    exact ⟨rfl, G, h⟩
  cases h2 : rg y 0 9
  · simp only [w_X0_sell, c_isTicket h, m_noTicket h.mI, c_isHolder, m_noHolder, h1, h2, h.O_t, Bool.not_false, Bool.not_true, wif_T, wif_F, nm_eq, jn_eq, jn0_eq, jn2_eq, jn3_eq, jn4_eq, zI_t, zI_f, zI0, x_B_zI, x_B_0, x_B_1, isIn_eq, in_eq, Bool.true_eq_false, Bool.false_eq_true, eq_self, true_and, and_true, Option.some.injEq, exists_eq_left', exists_eq_left, reduceCtorEq, not_true_eq_false, not_false_eq_true, one_ne, if_true, if_false]
    exact ⟨rfl, G, h⟩
  cases h3 : rg z 1 100
  · simp only [w_X0_sell, c_isTicket h, m_noTicket h.mI, c_isHolder, m_noHolder, h1, h2, h3, h.O_t, l64_1, l64_100, Bool.not_true, wif_T, wif_F, nm_eq, jn_eq, jn0_eq, jn2_eq, jn3_eq, jn4_eq, zI_t, zI_f, zI0, x_B_zI, x_B_0, x_B_1, isIn_eq, in_eq, Bool.true_eq_false, Bool.false_eq_true, eq_self, true_and, and_true, Option.some.injEq, exists_eq_left', exists_eq_left, reduceCtorEq, not_true_eq_false, not_false_eq_true, one_ne, if_true, if_false]
    exact ⟨rfl, G, h⟩
  obtain ⟨t, ht, rfl⟩ := c_tx h h1
  have hv := tv h ht
  have hy := rg9.mp h2
  simp only [w_X0_sell, c_isTicket h, m_noTicket h.mI, c_isHolder, m_noHolder, h1, h2, h3, h.O_t, h.R_r66, h.R_t66, h.R_l66, hv, h.T_q ht, h.T_T ht, h.T_wo ht, h.T_ho ht, h.T_pa ht, l64_1, l64_100, Bool.not_true, wif_T, wif_F, nm_eq, jn_eq, jn0_eq, jn2_eq, jn3_eq, jn4_eq, zI_t, zI_f, zI0, x_B_zI, x_B_0, x_B_1, isIn_eq, in_eq, Bool.true_eq_false, Bool.false_eq_true, eq_self, true_and, and_true, Option.some.injEq, exists_eq_left', exists_eq_left, reduceCtorEq, not_true_eq_false, not_false_eq_true, one_ne, if_true, if_false]
  by_cases c1 : M2 N 35 t = 0
  · refine wif_y c1 ?_
    by_cases c2 : M2 N 34 t = y
    · exact wif_y c2 (wif_y c1 (wif_y c2 ⟨rfl, G, h⟩))
    · refine wif_n c2 (c_gain h ht (h.T_hB ht) (fun S1 i1 => ⟨i1.T_T ht, c_gain i1 ht (Or.inr hy) (fun S2 i2 => ⟨i2.T_T ht, ?_⟩)⟩))
      refine wif_y c1 (wif_n c2 (m_give hv.2.2 (v_up (h.T_om ht) n5) (h.T_hB ht) (m_give hv.2.2 ?_ (Or.inr hy) ⟨rfl, G, hol_inv i2 ht (Or.inr hy)⟩)))
      rw [giv_k (by decide) (by decide)]
      exact v_up (h.T_om ht) n5
  · exact wif_n c1 (wif_n c1 ⟨rfl, G, h⟩)
theorem e_pay (h : Inv G S o M) : w_X0_pay S o x y (fun r S' => w_X1_pay M x y (fun r' M' => xF o r S' r' M')) := by
  simp only [w_X1_pay, nm_eq]
  generalize hN : m1 M 0 0 = N
  replace h : Inv G S o N := by rw [← hN]; exact h.m0
  have n5 := h.O_n5
  cases h1 : rg x 0 (nI (gN G 31) - 1)
  · simp only [w_X0_pay, c_isTicket h, m_noTicket h.mI, h1, h.O_t, Bool.not_false, wif_T, wif_F, nm_eq, jn_eq, jn0_eq, jn2_eq, jn3_eq, jn4_eq, zI_t, zI_f, zI0, x_B_zI, x_B_0, x_B_1, isIn_eq, in_eq, Bool.true_eq_false, Bool.false_eq_true, eq_self, true_and, and_true, Option.some.injEq, exists_eq_left', exists_eq_left, reduceCtorEq, not_true_eq_false, not_false_eq_true, one_ne, if_true, if_false]
    exact ⟨rfl, G, h⟩
  obtain ⟨t, ht, rfl⟩ := c_tx h h1
  have hv := tv h ht
  by_cases hy : y = -9 ∨ vp_in y 10
  · have g1 : ∀ {J X : Prop}, J → wif (y = -9) J (wif (rg y 0 9 = false) X J) := fun {J X} hJ => by
      by_cases e : y = -9
      · exact wif_y e hJ
      · exact wif_n e (wif_n (by rw [rg9.mpr (hy.resolve_left e)]; decide) hJ)
    have g2 : ∀ {J X : Prop}, J → wif (y = -9) J (wif (rg y 0 9 = true) J X) := fun {J X} hJ => by
      by_cases e : y = -9
      · exact wif_y e hJ
      · exact wif_n e (wif_y (rg9.mpr (hy.resolve_left e)) hJ)
    simp only [w_X0_pay, c_isTicket h, m_noTicket h.mI, c_isHolder, m_noHolder, h1, h.O_t, h.R_r66, h.R_t66, h.R_l66, hv, h.T_q ht, h.T_T ht, h.T_ho ht, h.T_pa ht, h.T_fa ht, Bool.not_true, Bool.not_eq_false', wif_T, wif_F, nm_eq, zI_t, zI_f, zI0, x_B_zI, x_B_0, x_B_1, isIn_eq, in_eq, Bool.true_eq_false, Bool.false_eq_true, eq_self, true_and, and_true, Option.some.injEq, exists_eq_left', exists_eq_left, reduceCtorEq, not_true_eq_false, not_false_eq_true, one_ne, if_true, if_false]
    refine jn0_i ?_ (fun J hJ => g1 hJ)
    let pM : xM := if M2 N 35 t = 0 ∧ M2 N 34 t = y then m2 N 35 t 1 else m2 N 36 t (M2 N 36 t + 1)
    have p1 : M2 N 35 t = 0 ∧ M2 N 34 t = y → pM = m2 N 35 t 1 := fun c => if_pos c
    have p2 : ¬ (M2 N 35 t = 0 ∧ M2 N 34 t = y) → pM = m2 N 36 t (M2 N 36 t + 1) := fun c => if_neg c
    have k33 : M2 pM 33 = M2 N 33 := by
      by_cases c : M2 N 35 t = 0 ∧ M2 N 34 t = y
      · rw [p1 c]; rfl
      · rw [p2 c]; rfl
    have k32 : M2 pM 32 = M2 N 32 := by
      by_cases c : M2 N 35 t = 0 ∧ M2 N 34 t = y
      · rw [p1 c]; rfl
      · rw [p2 c]; rfl
    refine jn_i (fun S1 => Inv G S1 o pM) (fun S1 i1 => ⟨i1.T_T ht, i1.T_T ht, ?_⟩) (fun J hJ => ?_)
    · rw [i1.T_wo ht]
      refine c_gain i1 ht hy (fun S2 i2 => ⟨i2.T_T ht, ?_⟩)
      rw [i2.T_wo ht, giv_k (by decide) (by decide)]
      refine jn0_i (jn_i (fun M6 => M6 = pM) (fun M6 e6 => ?_) (fun J hJ => ?_)) (fun J hJ => g2 hJ)
      · rw [e6]
        refine m_give hv.2.2 (by rw [k32]; exact v_up (h.T_om ht) n5) hy ⟨?_, G, i2⟩
        rw [giv_k (by decide) (by decide)]
      · refine jn0_c (¬ (M2 N 35 t = 0 ∧ M2 N 34 t = y)) (fun c => hJ _ (p2 c).symm) (fun K hK => ?_)
        by_cases c1 : M2 N 35 t = 0
        · refine wif_y c1 ?_
          by_cases c2 : M2 N 34 t = y
          · exact wif_y c2 (hJ _ (p1 ⟨c1, c2⟩).symm)
          · exact wif_n c2 (hK (fun c => c2 c.2))
        · exact wif_n c1 (hK (fun c => c1 c.1))
    · refine jn0_c (¬ (M2 N 35 t = 0 ∧ M2 N 34 t = y)) (fun c => hJ _ (by rw [p2 c]; exact fal_inv h ht)) (fun K hK => ?_)
      by_cases c1 : M2 N 35 t = 0
      · refine wif_y c1 ?_
        by_cases c2 : M2 N 34 t = y
        · exact wif_y c2 (hJ _ (by rw [p1 ⟨c1, c2⟩]; exact pai_inv h ht (Or.inr rfl)))
        · exact wif_n c2 (hK (fun c => c2 c.2))
      · exact wif_n c1 (hK (fun c => c1 c.1))
  · have e : ¬ y = -9 := fun q => hy (Or.inl q)
    have hr : rg y 0 9 = false := bf (fun q => hy (Or.inr (rg9.mp q)))
    simp only [w_X0_pay, c_isTicket h, m_noTicket h.mI, c_isHolder, m_noHolder, h1, hr, e, h.O_t, Bool.not_true, Bool.not_false, wif_T, wif_F, nm_eq, jn_eq, jn0_eq, jn2_eq, jn3_eq, jn4_eq, zI_t, zI_f, zI0, x_B_zI, x_B_0, x_B_1, isIn_eq, in_eq, Bool.true_eq_false, Bool.false_eq_true, eq_self, true_and, and_true, Option.some.injEq, exists_eq_left', exists_eq_left, reduceCtorEq, not_true_eq_false, not_false_eq_true, one_ne, if_true, if_false]
    exact ⟨rfl, G, h⟩
theorem e_wages (h : Inv G S o M) (hy : x_B y) : w_X0_wages S o x y (fun r => w_X1_wages M x y (fun r' M' => xF o r S r' M')) := by
  simp only [w_X1_wages, nm_eq]
  generalize hN : m1 M 0 0 = N
  replace h : Inv G S o N := by rw [← hN]; exact h.m0
  have n5 := h.O_n5
  have n31 := h.O_n31
  cases h1 : rg x 0 (nI (gN G 5) - 1)
  · simp only [w_X0_wages, c_isMan h, m_noMan h.mI, h1, h.O_t, Bool.not_false, wif_T, wif_F, nm_eq, jn_eq, jn0_eq, jn2_eq, jn3_eq, jn4_eq, zI_t, zI_f, zI0, x_B_zI, x_B_0, x_B_1, isIn_eq, in_eq, Bool.true_eq_false, Bool.false_eq_true, eq_self, true_and, and_true, Option.some.injEq, exists_eq_left', exists_eq_left, reduceCtorEq, not_true_eq_false, not_false_eq_true, one_ne, if_true, if_false]
    exact ⟨rfl, G, h⟩
  obtain ⟨m, hm, rfl⟩ := c_ix h h1
  have hv : vp_in (nI m) 40 := vp_in_nI (by omega) (by decide)
  simp only [w_X0_wages, c_isMan h, m_noMan h.mI, h1, h.O_t, h.R_r52, h.R_t52, h.R_l52, hv, h.M_q hm, h.M_T hm, h.M_go hm, nI_clamp (show m < 2 ^ 31 by omega), Bool.not_true, wif_T, wif_F, nm_eq, jn_eq, jn0_eq, jn2_eq, jn3_eq, jn4_eq, zI_t, zI_f, zI0, x_B_zI, x_B_0, x_B_1, isIn_eq, in_eq, Bool.true_eq_false, Bool.false_eq_true, eq_self, true_and, and_true, Option.some.injEq, exists_eq_left', exists_eq_left, reduceCtorEq, not_true_eq_false, not_false_eq_true, one_ne, if_true, if_false]
  by_cases e0 : y = 0
  · refine wif_y e0 (wif_y e0 ?_)
    refine lf2_u 0 (fun _ a b => a = M2 N 38 m ∧ b = 0) ?_ _ _ ⟨rfl, rfl⟩
    rintro P i a b hi ⟨rfl, rfl⟩ hP
    rw [h.O_d31]
    by_cases c : nI (gN G 31) ≤ 0
    · exact wif_y c ⟨rfl, G, h⟩
    · exact wif_n c (wif_y e0 ⟨rfl, G, h⟩)
  · refine wif_n e0 ?_
    let f : Nat → Int32 := fun t => if M2 N 32 t = nI m ∧ M2 N 34 t = -9 ∧ M2 N 35 t = 0 then M2 N 33 t else 0
    have fz : ∀ t, f t = if M2 N 32 t = nI m ∧ M2 N 34 t = -9 ∧ M2 N 35 t = 0 then M2 N 33 t else 0 := fun _ => rfl
    refine lf2_u (gN G 31) (fun i a b => a = sm f i ∧ b = nI i) ?_ _ _ ⟨rfl, rfl⟩
    rintro P i a b hi ⟨rfl, rfl⟩ hP
    rw [h.O_c67]
    by_cases e : i = gN G 31
    · rw [e]
      refine wif_y (Int32.le_refl _) (wif_n e0 ?_)
      refine lf2_u (gN G 31) (fun i a b => a = sm f i ∧ b = nI i) ?_ _ _ ⟨rfl, rfl⟩
      clear hP hi e i P
      rintro P i a b hi ⟨rfl, rfl⟩ hP
      rw [h.O_d31]
      by_cases e : i = gN G 31
      · rw [e]
        exact wif_y (Int32.le_refl _) ⟨rfl, G, h⟩
      · refine wif_n (nI_ge (by omega) (by omega)) (wif_n e0 ?_)
        have hvi : vp_in (nI i) 40 := vp_in_nI (by omega) (by decide)
        simp only [hvi, nI_clamp (show i < 2 ^ 31 by omega), true_and]
        have st : ∀ v, v = f i → P (sm f i + v) (nI i + 1) := fun v hv => hP _ _ (by omega) ⟨by rw [sm, hv], nI_1 i⟩
        by_cases c1 : M2 N 32 i = nI m
        · refine wif_y c1 ?_
          by_cases c2 : M2 N 34 i = -9
          · refine wif_y c2 ?_
            by_cases c3 : M2 N 35 i = 0
            · exact wif_y c3 (st _ (by rw [fz, if_pos ⟨c1, c2, c3⟩]))
            · exact wif_n c3 (st _ (by rw [fz, if_neg (fun c => c3 c.2.2)]))
          · exact wif_n c2 (st _ (by rw [fz, if_neg (fun c => c2 c.2.1)]))
        · exact wif_n c1 (st _ (by rw [fz, if_neg (fun c => c1 c.1)]))
    · have hlt : i < gN G 31 := by omega
      have hvi := tv h hlt
      refine wif_n (nI_ge (by omega) (by omega)) ?_
      have hq := vi_c (h.T_om hlt)
      have hiff : gA G 2 (M2 N 32 i).toNatClampNeg = gA G 2 m ↔ M2 N 32 i = nI m := by
        constructor
        · intro q
          have := congrArg (gR G) q
          rw [h.M_r hq.1, h.M_r hm] at this
          rw [← hq.2, this]
        · intro q
          rw [q, nI_clamp (by omega)]
      simp only [h.R_r66, h.R_t66, h.R_l66, hvi, h.T_q hlt, h.T_T hlt, h.T_of hlt, h.T_wo hlt, h.T_ho hlt, h.T_pa hlt, hiff, wif_T, wif_F, nm_eq, jn_eq, jn0_eq, jn2_eq, jn3_eq, jn4_eq, zI_t, zI_f, zI0, x_B_zI, x_B_0, x_B_1, isIn_eq, in_eq, Bool.true_eq_false, Bool.false_eq_true, eq_self, true_and, and_true, Option.some.injEq, exists_eq_left', exists_eq_left, reduceCtorEq, not_true_eq_false, not_false_eq_true, one_ne, if_true, if_false]
      have st : ∀ v, v = f i → P (sm f i + v) (nI i + 1) := fun v hv => hP _ _ (by omega) ⟨by rw [sm, hv], nI_1 i⟩
      by_cases c1 : M2 N 32 i = nI m
      · refine wif_y c1 ?_
        by_cases c2 : M2 N 34 i = -9
        · refine wif_y c2 ?_
          by_cases c3 : M2 N 35 i = 0
          · exact wif_y c3 (st _ (by rw [fz, if_pos ⟨c1, c2, c3⟩]))
          · exact wif_n c3 (st _ (by rw [fz, if_neg (fun c => c3 c.2.2)]))
        · exact wif_n c2 (st _ (by rw [fz, if_neg (fun c => c2 c.2.1)]))
      · exact wif_n c1 (st _ (by rw [fz, if_neg (fun c => c1 c.1)]))
theorem e_count (h : Inv G S o M) : w_X0_count S o x (fun r => w_X1_count M x (fun r' M' => xF o r S r' M')) := by
  simp only [w_X1_count, nm_eq]
  generalize hN : m1 M 0 0 = N
  replace h : Inv G S o N := by rw [← hN]; exact h.m0
  have n5 := h.O_n5
  have n1 := h.O_n1
  let f : Nat → Int32 := fun m => if rg (M2 N 8 (40 * gN G 4 + m)) 0 7 = true then 0 else 1
  have fz : ∀ m, f m = if rg (M2 N 8 (40 * gN G 4 + m)) 0 7 = true then 0 else 1 := fun _ => rfl
  have mod : ∀ r, wif (x = 0) (xF o r S (M1 N 5) N) (wif (x = 1) (xF o r S (M1 N 9) N) (wif (x = 2) (xF o r S (M1 N 15) N) (wif (x = 3) (xF o r S (M1 N 17) N) (wif (x = 4) (xF o r S (M1 N 22) N) (wif (x = 5) (xF o r S (M1 N 31) N) (wif (x = 6) (xF o r S (sm f (gN G 5)) N) (wif (x = 7) (xF o r S (M1 N 1) N) (xF o r S (-2) N)))))))) → lf2 (fun L_4 (x2_2 : Int32) (x3_3 : Int32) => wif ((M1 N 5) ≤ x3_3) (wif (x = 0) (xF o r S (M1 N 5) N) (wif (x = 1) (xF o r S (M1 N 9) N) (wif (x = 2) (xF o r S (M1 N 15) N) (wif (x = 3) (xF o r S (M1 N 17) N) (wif (x = 4) (xF o r S (M1 N 22) N) (wif (x = 5) (xF o r S (M1 N 31) N) (wif (x = 6) (xF o r S x2_2 N) (wif (x = 7) (xF o r S (M1 N 1) N) ((xF o r S (-2) N)))))))))) (w_X1_placeOf N x3_3 (fun (r_7 : Int32) => w_X1_isStreet N r_7 (fun (r_9 : Int32) => jn (fun (v1_11 : Int32) => L_4 (x2_2 + v1_11) (x3_3 + 1)) (fun J_12 => wif (r_9 = 0) (J_12 1) (J_12 0)))))) 0 0 := by
    intro r hr
    refine lf2_u (gN G 5) (fun i a b => a = sm f i ∧ b = nI i) ?_ _ _ ⟨rfl, rfl⟩
    rintro P i a b hi ⟨rfl, rfl⟩ hP
    by_cases e : i = gN G 5
    · rw [e]
      refine wif_y (by rw [h.O_d5]; exact Int32.le_refl _) hr
    · refine wif_n (by rw [h.O_d5]; exact nI_ge (by omega) (by omega)) ?_
      have hlt : i < gN G 5 := by omega
      simp only [m_placeOf h.mI hlt, m_isStreet, wif_T, wif_F, nm_eq, jn_eq, jn0_eq, jn2_eq, jn3_eq, jn4_eq, zI_t, zI_f, zI0, x_B_zI, x_B_0, x_B_1, isIn_eq, in_eq, Bool.true_eq_false, Bool.false_eq_true, eq_self, true_and, and_true, Option.some.injEq, exists_eq_left', exists_eq_left, reduceCtorEq, not_true_eq_false, not_false_eq_true, one_ne, if_true, if_false]
      cases hr7 : rg (M2 N 8 (40 * gN G 4 + i)) 0 7
      · exact wif_y rfl (hP _ _ hlt ⟨by rw [sm, fz, hr7]; rfl, nI_1 i⟩)
      · exact wif_n (by decide) (hP _ _ hlt ⟨by rw [sm, fz, hr7]; rfl, nI_1 i⟩)
  unfold w_X0_count
  by_cases e0 : x = 0
  · exact wif_y e0 ⟨h.O_t, mod _ (wif_y e0 ⟨h.O_c53.trans h.O_d5.symm, G, h⟩)⟩
  refine wif_n e0 ?_
  by_cases e1 : x = 1
  · exact wif_y e1 ⟨h.O_t, mod _ (wif_n e0 (wif_y e1 ⟨h.O_c65.trans h.O_d9.symm, G, h⟩))⟩
  refine wif_n e1 ?_
  by_cases e2 : x = 2
  · exact wif_y e2 ⟨h.O_t, mod _ (wif_n e0 (wif_n e1 (wif_y e2 ⟨h.O_c58.trans h.O_d15.symm, G, h⟩)))⟩
  refine wif_n e2 ?_
  by_cases e3 : x = 3
  · exact wif_y e3 ⟨h.O_t, mod _ (wif_n e0 (wif_n e1 (wif_n e2 (wif_y e3 ⟨h.O_c60.trans h.O_d17.symm, G, h⟩))))⟩
  refine wif_n e3 ?_
  by_cases e4 : x = 4
  · exact wif_y e4 ⟨h.O_t, mod _ (wif_n e0 (wif_n e1 (wif_n e2 (wif_n e3 (wif_y e4 ⟨h.O_c62.trans h.O_d22.symm, G, h⟩)))))⟩
  refine wif_n e4 ?_
  by_cases e5 : x = 5
  · exact wif_y e5 ⟨h.O_t, mod _ (wif_n e0 (wif_n e1 (wif_n e2 (wif_n e3 (wif_n e4 (wif_y e5 ⟨h.O_c67.trans h.O_d31.symm, G, h⟩))))))⟩
  refine wif_n e5 ?_
  by_cases e6 : x = 6
  · refine wif_y e6 ?_
    refine lf2_u (gN G 5) (fun i a b => a = sm f i ∧ b = nI i) ?_ _ _ ⟨rfl, rfl⟩
    rintro P i a b hi ⟨rfl, rfl⟩ hP
    refine ⟨h.O_t, ?_⟩
    rw [h.O_c53]
    by_cases e : i = gN G 5
    · rw [e]
      exact wif_y (Int32.le_refl _) (mod _ (wif_n e0 (wif_n e1 (wif_n e2 (wif_n e3 (wif_n e4 (wif_n e5 (wif_y e6 ⟨rfl, G, h⟩))))))))
    · have hlt : i < gN G 5 := by omega
      have hv : vp_in (nI i) 40 := vp_in_nI (by omega) (by decide)
      obtain ⟨q, hq24, hq, hqq⟩ := c_pq h hlt
      refine wif_n (nI_ge (by omega) (by omega)) ?_
      simp only [h.O_t, h.R_r52, h.R_t52, h.R_l52, hv, h.M_q hlt, h.M_T hlt, c_place h hlt, hq, nI_clamp (show i < 2 ^ 31 by omega), wif_T, wif_F, nm_eq, jn_eq, jn0_eq, jn2_eq, jn3_eq, jn4_eq, zI_t, zI_f, zI0, x_B_zI, x_B_0, x_B_1, isIn_eq, in_eq, Bool.true_eq_false, Bool.false_eq_true, eq_self, true_and, and_true, Option.some.injEq, exists_eq_left', exists_eq_left, reduceCtorEq, not_true_eq_false, not_false_eq_true, one_ne, if_true, if_false]
      by_cases p : q < 10
      · have r7 : rg (nI q) 0 7 = true := rg7.mpr ((vi (by omega)).mpr (by omega))
        exact wif_y ((ltk_10 (by omega)).mpr p) (hP _ _ hlt ⟨by rw [sm, fz, hq, r7]; rfl, nI_1 i⟩)
      · have r7 : rg (nI q) 0 7 = false := rg7f.mpr (fun z => by have := (vi (by omega)).mp z; omega)
        exact wif_n (fun z => p ((ltk_10 (by omega)).mp z)) (hP _ _ hlt ⟨by rw [sm, fz, hq, r7]; rfl, nI_1 i⟩)
  refine wif_n e6 ?_
  by_cases e7 : x = 7
  · exact wif_y e7 ⟨h.O_t, mod _ (wif_n e0 (wif_n e1 (wif_n e2 (wif_n e3 (wif_n e4 (wif_n e5 (wif_n e6 (wif_y e7 ⟨h.O_c50.trans h.O_d1.symm, G, h⟩))))))))⟩
  exact wif_n e7 (mod _ (wif_n e0 (wif_n e1 (wif_n e2 (wif_n e3 (wif_n e4 (wif_n e5 (wif_n e6 (wif_n e7 ⟨rfl, G, h⟩)))))))))
end
