set_option maxRecDepth 100000
noncomputable def shv (M : xM) (t m : Nat) (x : Int32) : Bool := @decide (¬ x = -9 ∧ cvF M x.toNatClampNeg m (nI t)) (Classical.propDecidable _)
def trP (M : xM) (t m i : Nat) : Prop := ∃ p, p < i ∧ M2 M 16 (9 * p) = nI m ∧ cvF M p m (nI t)
noncomputable def trv (M : xM) (t m i : Nat) : Bool := @decide (trP M t m i) (Classical.propDecidable _)
theorem shv_t {M : xM} {t m : Nat} {x : Int32} (h : ¬ x = -9 ∧ cvF M x.toNatClampNeg m (nI t)) : shv M t m x = true := @decide_eq_true _ (_) h
theorem shv_f {M : xM} {t m : Nat} {x : Int32} (h : ¬ (¬ x = -9 ∧ cvF M x.toNatClampNeg m (nI t))) : shv M t m x = false := @decide_eq_false _ (_) h
theorem trv_t {M : xM} {t m i : Nat} (h : trP M t m i) : trv M t m i = true := @decide_eq_true _ (_) h
theorem trv_f {M : xM} {t m i : Nat} (h : ¬ trP M t m i) : trv M t m i = false := @decide_eq_false _ (_) h
theorem trv_0 {M : xM} {t m : Nat} : trv M t m 0 = false := trv_f (fun q => by obtain ⟨p, hp, _⟩ := q; omega)
theorem trv_y {M : xM} {t m i : Nat} (h : M2 M 16 (9 * i) = nI m ∧ cvF M i m (nI t)) : trv M t m (i + 1) = true := trv_t ⟨i, by omega, h⟩
theorem trv_n {M : xM} {t m i : Nat} (h : ¬ (M2 M 16 (9 * i) = nI m ∧ cvF M i m (nI t))) : trv M t m (i + 1) = trv M t m i := by
  have e : trP M t m (i + 1) ↔ trP M t m i := ⟨fun q => by
    obtain ⟨p, hp, q⟩ := q
    by_cases e : p = i
    · subst e; exact absurd q h
    · exact ⟨p, by omega, q⟩, fun q => by
    obtain ⟨p, hp, q⟩ := q
    exact ⟨p, by omega, q⟩⟩
  by_cases c : trP M t m i
  · rw [trv_t c, trv_t (e.mpr c)]
  · rw [trv_f c, trv_f (fun q => c (e.mp q))]
theorem trv_s {M : xM} {t m i : Nat} (h : trv M t m i = true) : trv M t m (i + 1) = true := by
  by_cases c : M2 M 16 (9 * i) = nI m ∧ cvF M i m (nI t)
  · exact trv_y c
  · rw [trv_n c, h]
section
variable {G : xG} {S : xH} {o : Nat} {M : xM} {m t N : Nat} {v : Bool} {x y : Int32}
theorem c_mayShown (h : Inv G S o M) (hm : m < gN G 5) {r : Option Nat} (hr : lwP G M S r) (hx : x = -9 ∨ ∃ p, p < gN G 15 ∧ x = nI p) {Q : Int32 → Prop} (q : Q (zI (mb M (gN G 17) (gN G 4) m (shv M (gN G 4) m x)))) : w_X0_mayShown S o r (gA G 2 m) x Q := by
  have n15 := h.O_n15
  unfold w_X0_mayShown
  refine jn_i (fun w => w = zI (shv M (gN G 4) m x)) (fun w hw => ?_) (fun J hJ => ?_)
  · rw [hw]
    refine c_mayBe h hm hr ?_
    rw [x_B_zI]
    exact ⟨trivial, q⟩
  · refine jn0_c (¬ (¬ x = -9 ∧ cvF M x.toNatClampNeg m (nI (gN G 4)))) (fun c => hJ 0 (by rw [shv_f c]; rfl)) (fun K hK => ?_)
    rcases hx with e | ⟨p, hp, rfl⟩
    · exact wif_y e (hK (fun c => c.1 e))
    · have ec : (nI p).toNatClampNeg = p := nI_clamp (by omega)
      refine wif_n (n9_ne (by omega)) ?_
      simp only [h.O_t, h.O_c54, h.R_r57, h.R_t57, h.R_l57, vp_in_nI (show p < 60 by omega) (show 60 < 2 ^ 31 by decide), ec, h.P_q hp, h.P_T hp, wif_T, wif_F, nm_eq, zI_t, zI_f, zI0, x_B_zI, x_B_0, x_B_1, isIn_eq, in_eq, Bool.true_eq_false, Bool.false_eq_true, eq_self, true_and, and_true, Option.some.injEq, exists_eq_left', exists_eq_left, reduceCtorEq, not_true_eq_false, not_false_eq_true, one_ne, if_true, if_false]
      refine c_covers h hp hm (fun w hw => ?_)
      by_cases c : cvF M p m (nI (gN G 4))
      · exact wif_n (fun q => (cov_pos hw).mp q c) (hJ 1 (by rw [shv_t ⟨n9_ne (by omega), by rw [ec]; exact c⟩]; rfl))
      · exact wif_y ((cov_pos hw).mpr c) (hK (fun q => c (by have := q.2; rw [ec] at this; exact this)))
theorem m_asShown (hA : mAc N M) (hm : m < 40) (d4 : M1 M 4 = nI t) (ht : t ≤ 899) (hx : x = -9 ∨ ∃ p, p < 60 ∧ x = nI p) {Q : Int32 → xM → Prop} (q : ∀ F, Q (zI (mb M N t m (shv M t m x))) (mF M 21 F)) : w_X1_asShown M (nI m) x Q := by
  unfold w_X1_asShown
  refine jn_i (fun w => w = zI (shv M t m x)) (fun w hw => ?_) (fun J hJ => ?_)
  · rw [hw]
    refine m_mayBe hA hm d4 ht (fun F => ?_)
    rw [x_B_zI]
    exact ⟨trivial, q F⟩
  · refine jn0_c (¬ (¬ x = -9 ∧ cvF M x.toNatClampNeg m (nI t))) (fun c => hJ 0 (by rw [shv_f c]; rfl)) (fun K hK => ?_)
    rcases hx with e | ⟨p, hp, rfl⟩
    · exact wif_y e (hK (fun c => c.1 e))
    · have ec : (nI p).toNatClampNeg = p := nI_clamp (by omega)
      refine wif_n (n9_ne (by omega)) ?_
      rw [d4]
      refine m_covers hp hm (fun w hw => ?_)
      by_cases c : cvF M p m (nI t)
      · exact wif_n (fun q => (cov_pos hw).mp q c) (hJ 1 (by rw [shv_t ⟨n9_ne (by omega), by rw [ec]; exact c⟩]; rfl))
      · exact wif_y ((cov_pos hw).mpr c) (hK (fun q => c (by have := q.2; rw [ec] at this; exact this)))
theorem or0 (b : Bool) : zI b ||| 0 = zI b := by cases b <;> decide
theorem or1 (b : Bool) : zI b ||| 1 = zI true := by cases b <;> decide
theorem c_ict (h : Inv G S o M) (hm : m < gN G 5) {Q : Int32 → Prop} (q : Q (zI (trv M (gN G 4) m (gN G 15)))) : w_X0_isCoveredTruly S o (gA G 2 m) Q := by
  have n15 := h.O_n15
  have n5 := h.O_n5
  unfold w_X0_isCoveredTruly
  refine lf2_u (gN G 15) (fun i a b => a = zI (trv M (gN G 4) m i) ∧ b = nI i) ?_ _ _ ⟨by rw [trv_0]; rfl, rfl⟩
  rintro P i a b hi ⟨rfl, rfl⟩ hP
  refine ⟨h.O_t, ?_⟩
  rw [h.O_c58]
  by_cases el : i = gN G 15
  · rw [el, x_B_zI]
    exact wif_y (Int32.le_refl _) ⟨trivial, q⟩
  have hl : i < gN G 15 := by omega
  have hv : vp_in (nI i) 60 := vp_in_nI (by omega) (by decide)
  have ec : (nI i).toNatClampNeg = i := nI_clamp (by omega)
  refine wif_n (nI_ge hl (by omega)) ?_
  simp only [h.O_t, h.O_c54, h.R_r57, h.R_t57, h.R_l57, hv, ec, h.P_q hl, h.P_T hl, h.P_of hl, wif_T, wif_F, nm_eq, zI_t, zI_f, zI0, x_B_zI, x_B_0, x_B_1, isIn_eq, in_eq, Bool.true_eq_false, Bool.false_eq_true, eq_self, true_and, and_true, Option.some.injEq, exists_eq_left', exists_eq_left, reduceCtorEq, not_true_eq_false, not_false_eq_true, one_ne, if_true, if_false]
  refine jn_i (fun w => w = 0 ∧ ¬ (M2 M 16 (9 * i) = nI m ∧ cvF M i m (nI (gN G 4))) ∨ w = 1 ∧ (M2 M 16 (9 * i) = nI m ∧ cvF M i m (nI (gN G 4)))) (fun w hw => ?_) (fun J hJ => ?_)
  · rcases hw with ⟨rfl, c⟩ | ⟨rfl, c⟩
    · rw [or0]
      exact hP _ _ hl ⟨by rw [trv_n c], nI_1 i⟩
    · rw [or1]
      exact hP _ _ hl ⟨by rw [trv_y c], nI_1 i⟩
  · refine jn0_c (¬ (M2 M 16 (9 * i) = nI m ∧ cvF M i m (nI (gN G 4)))) (fun c => hJ 0 (Or.inl ⟨rfl, c⟩)) (fun K hK => ?_)
    obtain ⟨p, hp, ep⟩ := vp_in_of (h.P_om hl) (by omega)
    rw [ep, nI_clamp (show p < 2 ^ 31 by omega)]
    by_cases e : p = m
    · subst e
      refine wif_y rfl (c_covers h hl hm (fun w hw => ?_))
      by_cases c : cvF M i p (nI (gN G 4))
      · exact wif_n (fun q => (cov_pos hw).mp q c) (hJ 1 (Or.inr ⟨rfl, ep, c⟩))
      · exact wif_y ((cov_pos hw).mpr c) (hK (fun q => c q.2))
    · refine wif_n (fun q => e ?_) (hK (fun q => e ?_))
      · have := congrArg (gR G) q
        rw [h.M_r hp, h.M_r hm] at this
        exact this
      · have := q.1
        rw [ep] at this
        exact (nI_eq (by omega) (by omega)).mp this
theorem m_truly {n : Nat} (hA : mAc N M) (hm : m < 40) (d4 : M1 M 4 = nI t) (ht : t ≤ 899) (d15 : M1 M 15 = nI n) (n15 : n ≤ 60) {Q : Int32 → xM → Prop} (q : ∀ F, Q (zI (mb M N t m (trv M t m n))) (mF M 21 F)) : w_X1_truly M (nI m) Q := by
  unfold w_X1_truly
  refine lf2_u n (fun i a b => a = zI (trv M t m i) ∧ b = nI i) ?_ _ _ ⟨by rw [trv_0]; rfl, rfl⟩
  rintro P i a b hi ⟨rfl, rfl⟩ hP
  rw [d15, d4]
  by_cases el : i = n
  · rw [el]
    refine wif_y (Int32.le_refl _) (m_mayBe hA hm d4 ht (fun F => ?_))
    rw [x_B_zI]
    exact ⟨trivial, q F⟩
  have hl : i < n := by omega
  refine wif_n (nI_ge hl (by omega)) ?_
  rw [im9, nI_clamp (show 9 * i < 2 ^ 31 by omega)]
  refine jn_i (fun w => w = zI (trv M t m (i + 1))) (fun w hw => ?_) (fun J hJ => ?_)
  · exact hP _ _ hl ⟨hw, nI_1 i⟩
  · refine jn0_c (trv M t m (i + 1) = true) (fun c => hJ 1 (by rw [c]; rfl)) (fun K hK => ?_)
    cases e0 : trv M t m i
    · refine wif_y rfl ⟨vp_in_nI (by omega) (by decide), ?_⟩
      refine jn0_c (¬ (M2 M 16 (9 * i) = nI m ∧ cvF M i m (nI t))) (fun c => hJ 0 (by rw [trv_n c, e0]; rfl)) (fun K2 hK2 => ?_)
      by_cases q1 : M2 M 16 (9 * i) = nI m
      · refine wif_y q1 (m_covers (by omega) hm (fun w hw => ?_))
        by_cases c : cvF M i m (nI t)
        · exact wif_n (fun q => (cov_pos hw).mp q c) (hK (trv_y ⟨q1, c⟩))
        · exact wif_y ((cov_pos hw).mpr c) (hK2 (fun q => c q.2))
      · exact wif_n q1 (hK2 (fun q => q1 q.1))
    · exact wif_n (by decide) (hK (trv_s e0))
/-- the model's scratch does not matter -/
theorem Inv.m21 {F : Nat → Int32} (h : Inv G S o M) : Inv G S o (mF M 21 F) := h
theorem wzb {b : Bool} {Q : Int32 → Prop} (q : Q (zI b)) : wif (zI b = 0) (Q 0) (Q 1) := by
  cases b
  · exact wif_y rfl q
  · exact wif_n (by decide) q
theorem c_pp (h : Inv G S o M) (hx : x = -9 ∨ rg x 0 (nI (gN G 15) - 1) = true) : x = -9 ∨ ∃ p, p < gN G 15 ∧ x = nI p := by
  rcases hx with e | e
  · exact Or.inl e
  · exact Or.inr (c_px h e)
theorem p60 (h : Inv G S o M) (hx : x = -9 ∨ ∃ p, p < gN G 15 ∧ x = nI p) : x = -9 ∨ ∃ p, p < 60 ∧ x = nI p := by
  have n15 := h.O_n15
  rcases hx with e | ⟨p, hp, e⟩
  · exact Or.inl e
  · exact Or.inr ⟨p, by omega, e⟩
theorem e_may (h : Inv G S o M) {k n : Nat} (hk : 540 ≤ k) (hn : 1080 ≤ n) : w_X0_may k n S o x y (fun r S' => w_X1_may M x y (fun r' M' => xF o r S' r' M')) := by
  simp only [w_X1_may, nm_eq]
  generalize hN : m1 M 0 0 = N
  replace h : Inv G S o N := by rw [← hN]; exact h.m0
  have n5 := h.O_n5
  have n15 := h.O_n15
  cases h1 : rg x 0 (nI (gN G 5) - 1)
  · simp only [w_X0_may, c_isMan h, m_noMan h.mI, h1, h.O_t, Bool.not_false, wif_T, wif_F, nm_eq, jn_eq, jn0_eq, jn2_eq, jn3_eq, jn4_eq, zI_t, zI_f, zI0, x_B_zI, x_B_0, x_B_1, isIn_eq, in_eq, Bool.true_eq_false, Bool.false_eq_true, eq_self, true_and, and_true, Option.some.injEq, exists_eq_left', exists_eq_left, reduceCtorEq, not_true_eq_false, not_false_eq_true, one_ne, if_true, if_false]
    exact ⟨rfl, G, h⟩
  obtain ⟨m, hm, rfl⟩ := c_ix h h1
  have hv : vp_in (nI m) 40 := vp_in_nI (by omega) (by decide)
  have ec : (nI m).toNatClampNeg = m := nI_clamp (by omega)
  have fin : ∀ (hy : y = -9 ∨ ∃ p, p < gN G 15 ∧ y = nI p), ∃ k_5 n_6, k_5 ≤ k ∧ n_6 ≤ n ∧ w_X0_law k_5 n_6 S o (fun r S' => xT S' o = 1 ∧ ∃ b_9, (xR S' 52 o) = some b_9 ∧ xT S' b_9 = 103 ∧ vp_in (nI m) (xL S' b_9) ∧ ∃ b_11, (xQ S' b_9 (Int32.toNatClampNeg (nI m))) = some b_11 ∧ xT S' o = 1 ∧ w_X0_mayShown S' o r b_11 y (fun r_13 => wif (r_13 = 0) (w_X1_asShown N (nI m) y (fun r_6 M_7 => wif (r_6 = 0) (xF o 0 S' 0 M_7) (xF o 0 S' 1 M_7))) (w_X1_asShown N (nI m) y (fun r_6 M_7 => wif (r_6 = 0) (xF o 1 S' 0 M_7) (xF o 1 S' 1 M_7))))) := fun hy => by
    refine ⟨540, 1080, hk, hn, c_law h (Nat.le_refl _) (Nat.le_refl _) (fun S' r e hr => ?_)⟩
    have g := h.ext e
    refine ⟨g.O_t, gA G 0 52, g.R_r52, g.R_t52, by rw [g.R_l52]; exact hv, gA G 2 m, by rw [ec]; exact g.M_q hm, g.O_t, c_mayShown g hm hr hy ?_⟩
    cases eb : mb N (gN G 17) (gN G 4) m (shv N (gN G 4) m y)
    · refine wif_y rfl (m_asShown (c_mA h) (by omega) h.O_d4 h.O_n4 (p60 h hy) (fun F => ?_))
      rw [eb]
      exact wif_y rfl ⟨rfl, G, g.m21⟩
    · refine wif_n (by decide) (m_asShown (c_mA h) (by omega) h.O_d4 h.O_n4 (p60 h hy) (fun F => ?_))
      rw [eb]
      exact wif_n (by decide) ⟨rfl, G, g.m21⟩
  by_cases hy : y = -9
  · simp only [w_X0_may, c_isMan h, m_noMan h.mI, h1, h.O_t, Bool.not_true, hy, wif_T, wif_F, nm_eq, jn_eq, jn0_eq, jn2_eq, jn3_eq, jn4_eq, zI_t, zI_f, zI0, x_B_zI, x_B_0, x_B_1, isIn_eq, in_eq, Bool.true_eq_false, Bool.false_eq_true, eq_self, true_and, and_true, Option.some.injEq, exists_eq_left', exists_eq_left, reduceCtorEq, not_true_eq_false, not_false_eq_true, one_ne, if_true, if_false]
    subst hy
    exact fin (Or.inl rfl)
  cases h2 : rg y 0 (nI (gN G 15) - 1)
  · simp only [w_X0_may, c_isMan h, m_noMan h.mI, c_isPaper h, m_noPaper h.mI, h1, h2, h.O_t, Bool.not_true, Bool.not_false, hy, wif_T, wif_F, nm_eq, jn_eq, jn0_eq, jn2_eq, jn3_eq, jn4_eq, zI_t, zI_f, zI0, x_B_zI, x_B_0, x_B_1, isIn_eq, in_eq, Bool.true_eq_false, Bool.false_eq_true, eq_self, true_and, and_true, Option.some.injEq, exists_eq_left', exists_eq_left, reduceCtorEq, not_true_eq_false, not_false_eq_true, one_ne, if_true, if_false]
    exact ⟨rfl, G, h⟩
  · simp only [w_X0_may, c_isMan h, m_noMan h.mI, c_isPaper h, m_noPaper h.mI, h1, h2, h.O_t, Bool.not_true, hy, wif_T, wif_F, nm_eq, jn_eq, jn0_eq, jn2_eq, jn3_eq, jn4_eq, zI_t, zI_f, zI0, x_B_zI, x_B_0, x_B_1, isIn_eq, in_eq, Bool.true_eq_false, Bool.false_eq_true, eq_self, true_and, and_true, Option.some.injEq, exists_eq_left', exists_eq_left, reduceCtorEq, not_true_eq_false, not_false_eq_true, one_ne, if_true, if_false]
    exact fin (c_pp h (Or.inr h2))
theorem e_mayTruly (h : Inv G S o M) {k n : Nat} (hk : 540 ≤ k) (hn : 1080 ≤ n) : w_X0_mayTruly k n S o x (fun r S' => w_X1_mayTruly M x (fun r' M' => xF o r S' r' M')) := by
  simp only [w_X1_mayTruly, nm_eq]
  generalize hN : m1 M 0 0 = N
  replace h : Inv G S o N := by rw [← hN]; exact h.m0
  have n5 := h.O_n5
  have n15 := h.O_n15
  cases h1 : rg x 0 (nI (gN G 5) - 1)
  · simp only [w_X0_mayTruly, c_isMan h, m_noMan h.mI, h1, h.O_t, Bool.not_false, wif_T, wif_F, nm_eq, jn_eq, jn0_eq, jn2_eq, jn3_eq, jn4_eq, zI_t, zI_f, zI0, x_B_zI, x_B_0, x_B_1, isIn_eq, in_eq, Bool.true_eq_false, Bool.false_eq_true, eq_self, true_and, and_true, Option.some.injEq, exists_eq_left', exists_eq_left, reduceCtorEq, not_true_eq_false, not_false_eq_true, one_ne, if_true, if_false]
    exact ⟨rfl, G, h⟩
  obtain ⟨m, hm, rfl⟩ := c_ix h h1
  have hv : vp_in (nI m) 40 := vp_in_nI (by omega) (by decide)
  have ec : (nI m).toNatClampNeg = m := nI_clamp (by omega)
  simp only [w_X0_mayTruly, c_isMan h, m_noMan h.mI, h1, h.O_t, Bool.not_true, wif_T, wif_F, nm_eq, jn_eq, jn0_eq, jn2_eq, jn3_eq, jn4_eq, zI_t, zI_f, zI0, x_B_zI, x_B_0, x_B_1, isIn_eq, in_eq, Bool.true_eq_false, Bool.false_eq_true, eq_self, true_and, and_true, Option.some.injEq, exists_eq_left', exists_eq_left, reduceCtorEq, not_true_eq_false, not_false_eq_true, one_ne, if_true, if_false]
  refine ⟨540, 1080, hk, hn, c_law h (Nat.le_refl _) (Nat.le_refl _) (fun S' r e hr => ?_)⟩
  have g := h.ext e
  simp only [g.O_t, g.R_r52, g.R_t52, g.R_l52, hv, ec, g.M_q hm, wif_T, wif_F, nm_eq, zI_t, zI_f, zI0, x_B_zI, x_B_0, x_B_1, isIn_eq, in_eq, Bool.true_eq_false, Bool.false_eq_true, eq_self, true_and, and_true, Option.some.injEq, exists_eq_left', exists_eq_left, reduceCtorEq, not_true_eq_false, not_false_eq_true, one_ne, if_true, if_false]
  refine c_ict g hm (c_mayBe g hm hr ?_)
  cases eb : mb N (gN G 17) (gN G 4) m (trv N (gN G 4) m (gN G 15))
  · refine wif_y rfl (m_truly (c_mA h) (by omega) h.O_d4 h.O_n4 h.O_d15 n15 (fun F => ?_))
    rw [eb]
    exact wif_y rfl ⟨rfl, G, g.m21⟩
  · refine wif_n (by decide) (m_truly (c_mA h) (by omega) h.O_d4 h.O_n4 h.O_d15 n15 (fun F => ?_))
    rw [eb]
    exact wif_n (by decide) ⟨rfl, G, g.m21⟩
end
