set_option maxRecDepth 100000
/-! ===== takings, news, home ships ===== -/
def Gn (G : xG) (k v : Nat) : xG := (gA G, gR G, va_up (gN G) k v)
theorem subT {q : Nat} (h : q < 2 ^ 30) : (nI q - 10).toInt = (q : Int) - 10 := pk_sub_toInt (b := 10) h (by decide)
theorem sub10 {q : Nat} (h : 10 ≤ q) : nI q - 10 = nI (q - 10) := pk_sub (b := 10) h
theorem rgs {q n : Nat} (hq : q < 24) (hn : n ≤ 10) : rg (nI q - 10) 0 (nI n - 1) = true ↔ 10 ≤ q ∧ q < 10 + n := by
  rw [rg_in (by omega), vp_in_iff, subT (by omega)]
  omega
theorem rg1019 {q : Nat} (hq : q < 24) : rg (nI q) 10 19 = true ↔ 10 ≤ q ∧ q < 20 := by
  rw [show rg (nI q) 10 19 = rg (nI q) (nI 10) (nI 19) from rfl, rgN (by omega) (by decide) (by decide)]
  simp only [Bool.and_eq_true, decide_eq_true_eq]
  omega
theorem bf {b : Bool} (h : ¬ b = true) : b = false := by simpa using h
section
variable {G : xG} {S : xH} {o : Nat} {M : xM} {x y : Int32} {Q : Int32 → Prop} {q m : Nat}
theorem c_home0 (h : Inv G S o M) (hq : q < 24) (hs : ¬ (10 ≤ q ∧ q < 10 + gN G 9)) : w_X0_isHomeShip S o (nI q) y Q = Q 0 := by
  have hr : rg (nI q - 10) 0 (nI (gN G 9) - 1) = false := bf (fun z => hs ((rgs hq h.O_n9).mp z))
  simp only [w_X0_isHomeShip, h.O_t, h.O_c65, hr, wif_T, wif_F, nm_eq, jn_eq, jn0_eq, jn2_eq, jn3_eq, jn4_eq, zI_t, zI_f, zI0, x_B_zI, x_B_0, x_B_1, isIn_eq, in_eq, Bool.true_eq_false, Bool.false_eq_true, eq_self, true_and, and_true, Option.some.injEq, exists_eq_left', exists_eq_left, reduceCtorEq, not_true_eq_false, not_false_eq_true, one_ne, if_true, if_false]
theorem c_home1 (h : Inv G S o M) (hq : q < 24) (hs : 10 ≤ q ∧ q < 10 + gN G 9) : w_X0_isHomeShip S o (nI q) y Q = wif (M2 M 14 (q - 10) = 0 ∧ (y = -9 ∨ M2 M 10 (q - 10) = y)) (Q 1) (Q 0) := by
  have n9 := h.O_n9
  have hr : rg (nI q - 10) 0 (nI (gN G 9) - 1) = true := (rgs hq h.O_n9).mpr hs
  rw [sub10 hs.1] at hr
  have hv : vp_in (nI (q - 10)) 10 := vp_in_nI (by omega) (by decide)
  have hb : q - 10 < gN G 9 := by omega
  simp only [w_X0_isHomeShip, sub10 hs.1, h.O_t, h.O_c65, hr, h.R_r64, h.R_t64, h.R_l64, hv, nI_clamp (show q - 10 < 2 ^ 31 by omega), h.S_q hb, h.S_T hb, h.S_hm hb, h.S_k0 hb, or_wif, wif_T, wif_F, nm_eq, jn_eq, jn0_eq, jn2_eq, jn3_eq, jn4_eq, zI_t, zI_f, zI0, x_B_zI, x_B_0, x_B_1, isIn_eq, in_eq, Bool.true_eq_false, Bool.false_eq_true, eq_self, true_and, and_true, Option.some.injEq, exists_eq_left', exists_eq_left, reduceCtorEq, not_true_eq_false, not_false_eq_true, one_ne, if_true, if_false]
  by_cases c1 : M2 M 14 (q - 10) = 0
  · rw [decide_eq_true c1]
    by_cases c2 : y = -9 ∨ M2 M 10 (q - 10) = y
    · exact propext ⟨fun z => wif_y ⟨c1, c2⟩ ((z.2 (by decide)).1 c2), fun z => wif_n (by decide) (wif_y c2 (z.1 ⟨c1, c2⟩))⟩
    · exact propext ⟨fun z => wif_n (fun c => c2 c.2) ((z.2 (by decide)).2 c2), fun z => wif_n (by decide) (wif_n c2 (z.2 (fun c => c2 c.2)))⟩
  · rw [decide_eq_false c1]
    exact propext ⟨fun z => wif_n (fun c => c1 c.1) (z.1 (Or.inr rfl)), fun z => wif_y (Or.inr rfl) (z.2 (fun c => c1 c.1))⟩
theorem m_here0 (hq : q < 24) (hs : ¬ (10 ≤ q ∧ q < 20)) : w_X1_isHere M (nI q) Q = Q 0 := by
  have hr : rg (nI q) 10 19 = false := bf (fun z => hs ((rg1019 hq).mp z))
  simp only [w_X1_isHere, m_isAboard, hr, wif_T, wif_F, nm_eq, jn_eq, jn0_eq, jn2_eq, jn3_eq, jn4_eq, zI_t, zI_f, zI0, x_B_zI, x_B_0, x_B_1, isIn_eq, in_eq, Bool.true_eq_false, Bool.false_eq_true, eq_self, true_and, and_true, Option.some.injEq, exists_eq_left', exists_eq_left, reduceCtorEq, not_true_eq_false, not_false_eq_true, one_ne, if_true, if_false]
theorem m_here1 (hq : q < 24) (hs : 10 ≤ q ∧ q < 20) : w_X1_isHere M (nI q) Q = wif (M2 M 14 (q - 10) = 0) (Q 1) (Q 0) := by
  have hr : rg (nI q) 10 19 = true := (rg1019 hq).mpr hs
  have hv : vp_in (nI (q - 10)) 10 := vp_in_nI (by omega) (by decide)
  simp only [w_X1_isHere, m_isAboard, hr, sub10 hs.1, hv, nI_clamp (show q - 10 < 2 ^ 31 by omega), wif_T, wif_F, nm_eq, jn_eq, jn0_eq, jn2_eq, jn3_eq, jn4_eq, zI_t, zI_f, zI0, x_B_zI, x_B_0, x_B_1, isIn_eq, in_eq, Bool.true_eq_false, Bool.false_eq_true, eq_self, true_and, and_true, Option.some.injEq, exists_eq_left', exists_eq_left, reduceCtorEq, not_true_eq_false, not_false_eq_true, one_ne, if_true, if_false]
/-- a man is held and was not taken truly by right -/
def wrg (G : xG) (M : xM) (m : Nat) : Prop := (∃ q, q < 24 ∧ M2 M 8 (40 * gN G 4 + m) = nI q ∧ (q = 20 ∨ q = 21 ∨ (10 ≤ q ∧ q < 20) ∧ M2 M 10 (q - 10) = 0)) ∧ ∃ k, tkL (M2 M 23) m (gN G 22) = some k ∧ M2 M 23 (6 * k + 5) = 0
theorem tkL_lt {F : Nat → Int32} {m k : Nat} : ∀ {n : Nat}, tkL F m n = some k → k < n
  | 0, h => by cases h
  | n + 1, h => by
    rw [tkL] at h
    split at h
    · cases h; omega
    · have := tkL_lt h; omega
theorem c_isWronged (h : Inv G S o M) (hm : m < gN G 5) (h0 : ¬ wrg G M m → Q 0) (h1 : wrg G M m → Q 1) : w_X0_isWronged S o (gA G 2 m) Q := by
  have n9 := h.O_n9
  have n1 := h.O_n1
  obtain ⟨q, hq24, hq, hqq⟩ := c_pq h hm
  unfold w_X0_isWronged
  simp only [c_place h hm, h.M_T hm, hq, nm_eq, true_and]
  have uq : ∀ q', q' < 24 → M2 M 8 (40 * gN G 4 + m) = nI q' → q' = q := fun q' l e => by rw [hq, nI_eq (by omega) (by omega)] at e; exact e.symm
  refine jn_i (fun v => v = 0 ↔ ¬ (q = 20 ∨ q = 21 ∨ (10 ≤ q ∧ q < 20) ∧ M2 M 10 (q - 10) = 0)) (fun v hv => ?_) (fun J hJ => ?_)
  · have hw0 : v = 0 → ¬ wrg G M m := fun e w => by
      obtain ⟨⟨q', l, e', d⟩, _⟩ := w
      rw [uq q' l e'] at d
      exact hv.mp e d
    by_cases e : v = 0
    · exact wif_y e (h0 (hw0 e))
    · refine wif_n e ?_
      have d := Classical.not_not.mp (fun z => e (hv.mpr z))
      rw [h.M_tk hm]
      cases ht : tkL (M2 M 23) m (gN G 22) with
      | none => exact wif_y rfl (h0 (fun w => by obtain ⟨_, k, e', _⟩ := w; rw [ht] at e'; cases e'))
      | some k =>
        have hk := tkL_lt ht
        refine wif_n (by simp) ⟨gA G 8 k, rfl, h.K_T hk, ?_⟩
        rw [h.K_f5 hk]
        by_cases c : M2 M 23 (6 * k + 5) = 0
        · exact wif_y c (h1 ⟨⟨q, hq24, hq, d⟩, k, ht, c⟩)
        · exact wif_n c (h0 (fun w => by obtain ⟨_, k', e', c'⟩ := w; rw [ht] at e'; cases e'; exact c c'))
  · refine jn0_c (q = 20 ∨ q = 21 ∨ (10 ≤ q ∧ q < 20) ∧ M2 M 10 (q - 10) = 0) (fun c => hJ 1 ⟨fun z => absurd z (by decide), fun z => absurd c z⟩) (fun K hK => ?_)
    by_cases c20 : q = 20
    · exact wif_y (by rw [c20]; rfl) (hK (Or.inl c20))
    refine wif_n (fun z => c20 ((eqk_20 (by omega)).mp z)) ?_
    by_cases c21 : q = 21
    · exact wif_y (by rw [c21]; rfl) (hK (Or.inr (Or.inl c21)))
    refine wif_n (fun z => c21 ((eqk_21 (by omega)).mp z)) ?_
    simp only [h.O_t, h.O_c65, isIn_eq, true_and, zI0]
    refine jn0_c (¬ (q = 20 ∨ q = 21 ∨ (10 ≤ q ∧ q < 20) ∧ M2 M 10 (q - 10) = 0)) (fun c => hJ 0 ⟨fun _ => c, fun _ => rfl⟩) (fun K2 hK2 => ?_)
    by_cases hs : 10 ≤ q ∧ q < 10 + gN G 9
    · have hr : rg (nI q - 10) 0 (nI (gN G 9) - 1) = true := (rgs hq24 n9).mpr hs
      refine wif_n (by rw [hr]; decide) ?_
      have hv : vp_in (nI (q - 10)) 10 := vp_in_nI (by omega) (by decide)
      have hb : q - 10 < gN G 9 := by omega
      simp only [sub10 hs.1, h.R_r64, h.R_t64, h.R_l64, hv, nI_clamp (show q - 10 < 2 ^ 31 by omega), h.S_q hb, h.S_T hb, h.S_k0 hb, wif_T, wif_F, nm_eq, jn_eq, jn0_eq, jn2_eq, jn3_eq, jn4_eq, zI_t, zI_f, zI0, x_B_zI, x_B_0, x_B_1, isIn_eq, in_eq, Bool.true_eq_false, Bool.false_eq_true, eq_self, true_and, and_true, Option.some.injEq, exists_eq_left', exists_eq_left, reduceCtorEq, not_true_eq_false, not_false_eq_true, one_ne, if_true, if_false]
      by_cases ck : M2 M 10 (q - 10) = 0
      · exact wif_y ck (hK (Or.inr (Or.inr ⟨by omega, ck⟩)))
      · exact wif_n ck (hK2 (fun z => by rcases z with z | z | z; exact c20 z; exact c21 z; exact ck z.2))
    · have hr : rg (nI q - 10) 0 (nI (gN G 9) - 1) = false := bf (fun z => hs ((rgs hq24 n9).mp z))
      exact wif_y hr (hK2 (fun z => by omega))
def tkI (k : Option Nat) : Int32 := match k with
  | none => -9
  | some k => nI k
theorem m_isWronged (h : mI G M) (hp : pv G (M2 M 8 (40 * gN G 4 + m))) (hm : m < gN G 5) (h0 : ¬ wrg G M m → Q 0) (h1 : wrg G M m → Q 1) : w_X1_isWronged M (nI m) Q := by
  have n9 := h.n9
  have n5 := h.n5
  have n22 := h.n22
  have n1 := h.n1
  obtain ⟨q, hq24, hq, hqq⟩ := pv_n hp h.n1 h.n9
  have uq : ∀ q', q' < 24 → M2 M 8 (40 * gN G 4 + m) = nI q' → q' = q := fun q' l e => by rw [hq, nI_eq (by omega) (by omega)] at e; exact e.symm
  unfold w_X1_isWronged
  refine lf2_u (gN G 22) (fun i a b => a = tkI (tkL (M2 M 23) m i) ∧ b = nI i) ?_ _ _ ⟨rfl, rfl⟩
  rintro P i a b hi ⟨rfl, rfl⟩ hP
  rw [h.d22]
  by_cases e : i = gN G 22
  · rw [e]
    refine wif_y (Int32.le_refl _) ?_
    simp only [m_placeOf h hm, hq]
    refine jn_i (fun v => v = 0 ↔ ¬ (q = 20 ∨ q = 21 ∨ (10 ≤ q ∧ q < 20) ∧ M2 M 10 (q - 10) = 0)) (fun v hv => ?_) (fun J hJ => ?_)
    · cases ht : tkL (M2 M 23) m (gN G 22) with
      | none => exact wif_y rfl (h0 (fun w => by obtain ⟨_, k, e', _⟩ := w; rw [ht] at e'; cases e'))
      | some k =>
        have hk := tkL_lt ht
        have hv5 : vp_in (nI (6 * k + 5)) 360 := vp_in_nI (by omega) (by decide)
        refine wif_n (n9_ne (show k < 2 ^ 31 by omega)) ?_
        simp only [tkI, im6, ia5, hv5, nI_clamp (show 6 * k + 5 < 2 ^ 31 by omega), true_and]
        by_cases c : M2 M 23 (6 * k + 5) = 0
        · refine wif_y c ?_
          by_cases ev : v = 0
          · refine wif_y ev (h0 (fun w => ?_))
            obtain ⟨⟨q', l, e', d⟩, _⟩ := w
            rw [uq q' l e'] at d
            exact hv.mp ev d
          · exact wif_n ev (h1 ⟨⟨q, hq24, hq, Classical.not_not.mp (fun z => ev (hv.mpr z))⟩, k, ht, c⟩)
        · exact wif_n c (h0 (fun w => by obtain ⟨_, k', e', c'⟩ := w; rw [ht] at e'; cases e'; exact c c'))
    · refine jn0_c (q = 20 ∨ q = 21 ∨ (10 ≤ q ∧ q < 20) ∧ M2 M 10 (q - 10) = 0) (fun c => hJ 1 ⟨fun z => absurd z (by decide), fun z => absurd c z⟩) (fun K hK => ?_)
      by_cases c20 : q = 20
      · exact wif_y (by rw [c20]; rfl) (hK (Or.inl c20))
      refine wif_n (fun z => c20 ((eqk_20 (by omega)).mp z)) ?_
      by_cases c21 : q = 21
      · exact wif_y (by rw [c21]; rfl) (hK (Or.inr (Or.inl c21)))
      refine wif_n (fun z => c21 ((eqk_21 (by omega)).mp z)) ?_
      simp only [m_isAboard, zI0]
      refine jn0_c (¬ (q = 20 ∨ q = 21 ∨ (10 ≤ q ∧ q < 20) ∧ M2 M 10 (q - 10) = 0)) (fun c => hJ 0 ⟨fun _ => c, fun _ => rfl⟩) (fun K2 hK2 => ?_)
      by_cases hs : 10 ≤ q ∧ q < 20
      · have hr : rg (nI q) 10 19 = true := (rg1019 hq24).mpr hs
        have hv : vp_in (nI (q - 10)) 10 := vp_in_nI (by omega) (by decide)
        refine wif_n (by rw [hr]; decide) ?_
        simp only [sub10 hs.1, hv, nI_clamp (show q - 10 < 2 ^ 31 by omega), true_and]
        by_cases ck : M2 M 10 (q - 10) = 0
        · exact wif_y ck (hK (Or.inr (Or.inr ⟨hs, ck⟩)))
        · exact wif_n ck (hK2 (fun z => by rcases z with z | z | z; exact c20 z; exact c21 z; exact ck z.2))
      · have hr : rg (nI q) 10 19 = false := bf (fun z => hs ((rg1019 hq24).mp z))
        exact wif_y hr (hK2 (fun z => by omega))
  · refine wif_n (nI_ge (by omega) (by omega)) ?_
    have hv1 : vp_in (nI (6 * i + 1)) 360 := vp_in_nI (by omega) (by decide)
    simp only [im6, nI_1, hv1, nI_clamp (show 6 * i + 1 < 2 ^ 31 by omega), true_and, jn_eq]
    by_cases c : M2 M 23 (6 * i + 1) = nI m
    · exact wif_y c (hP _ _ (by omega) ⟨by rw [tkL, if_pos c]; rfl, rfl⟩)
    · exact wif_n c (hP _ _ (by omega) ⟨by rw [tkL, if_neg c], rfl⟩)
/-- 1 for a man that is wronged -/
noncomputable def wf (G : xG) (M : xM) (m : Nat) : Int32 := zI (@decide (wrg G M m) (Classical.propDecidable _))
theorem wf_t (h : wrg G M m) : wf G M m = 1 := by
  unfold wf
  rw [@decide_eq_true _ (_) h]
  rfl
theorem wf_f (h : ¬ wrg G M m) : wf G M m = 0 := by
  unfold wf
  rw [@decide_eq_false _ (_) h]
  rfl
end
section
variable {G : xG} {S : xH} {o : Nat} {M : xM} {x y z : Int32}
theorem e_wronged (h : Inv G S o M) : w_X0_wronged S o (fun r => w_X1_wronged M (fun r' M' => xF o r S r' M')) := by
  simp only [w_X1_wronged, nm_eq]
  generalize hN : m1 M 0 0 = N
  replace h : Inv G S o N := by rw [← hN]; exact h.m0
  have n5 := h.O_n5
  unfold w_X0_wronged
  refine lf2_u (gN G 5) (fun i a b => a = sm (wf G N) i ∧ b = nI i) ?_ 0 0 ⟨rfl, rfl⟩
  rintro P i a b hi ⟨rfl, rfl⟩ hP
  refine ⟨h.O_t, ?_⟩
  rw [h.O_c53]
  by_cases e : i = gN G 5
  · rw [e]
    refine wif_y (Int32.le_refl _) ?_
    refine lf2_u (gN G 5) (fun i a b => a = sm (wf G N) i ∧ b = nI i) ?_ 0 0 ⟨rfl, rfl⟩
    clear hP hi e i P
    rintro P i a b hi ⟨rfl, rfl⟩ hP
    rw [h.O_d5]
    by_cases e : i = gN G 5
    · rw [e]
      exact wif_y (Int32.le_refl _) ⟨rfl, G, h⟩
    · have hlt : i < gN G 5 := by omega
      refine wif_n (nI_ge hlt (by omega)) (m_isWronged h.mI (h.M_pl hlt _ (Nat.le_refl _)) hlt (fun c => ?_) (fun c => ?_))
      · simp only [jn_eq, nm_eq]
        exact wif_y (by simp) (hP _ _ hlt ⟨by rw [sm, wf_f c], nI_1 i⟩)
      · simp only [jn_eq, nm_eq]
        exact wif_n (by simp) (hP _ _ hlt ⟨by rw [sm, wf_t c], nI_1 i⟩)
  · have hlt : i < gN G 5 := by omega
    have hv : vp_in (nI i) 40 := vp_in_nI (by omega) (by decide)
    refine wif_n (nI_ge hlt (by omega)) ?_
    simp only [h.O_t, h.R_r52, h.R_t52, h.R_l52, hv, h.M_q hlt, nI_clamp (show i < 2 ^ 31 by omega), wif_T, wif_F, nm_eq, jn_eq, jn0_eq, jn2_eq, jn3_eq, jn4_eq, zI_t, zI_f, zI0, x_B_zI, x_B_0, x_B_1, isIn_eq, in_eq, Bool.true_eq_false, Bool.false_eq_true, eq_self, true_and, and_true, Option.some.injEq, exists_eq_left', exists_eq_left, reduceCtorEq, not_true_eq_false, not_false_eq_true, one_ne, if_true, if_false]
    refine c_isWronged h hlt (fun c => ?_) (fun c => ?_)
    · exact wif_y (by simp) (hP _ _ hlt ⟨by rw [sm, wf_f c], nI_1 i⟩)
    · exact wif_n (by simp) (hP _ _ hlt ⟨by rw [sm, wf_t c], nI_1 i⟩)
theorem e_letGo (h : Inv G S o M) {k n : Nat} (hk : 1 ≤ k) (hn : 3 ≤ n) : w_X0_letGo k n S o x (fun r S' => w_X1_letGo M x (fun r' M' => xF o r S' r' M')) := by
  simp only [w_X1_letGo, nm_eq]
  generalize hN : m1 M 0 0 = N
  replace h : Inv G S o N := by rw [← hN]; exact h.m0
  have n5 := h.O_n5
  have n1 := h.O_n1
  have n9 := h.O_n9
  cases h1 : rg x 0 (nI (gN G 5) - 1)
  · simp only [w_X0_letGo, c_isMan h, m_noMan h.mI, h1, h.O_t, Bool.not_false, wif_T, wif_F, nm_eq, jn_eq, jn0_eq, jn2_eq, jn3_eq, jn4_eq, zI_t, zI_f, zI0, x_B_zI, x_B_0, x_B_1, isIn_eq, in_eq, Bool.true_eq_false, Bool.false_eq_true, eq_self, true_and, and_true, Option.some.injEq, exists_eq_left', exists_eq_left, reduceCtorEq, not_true_eq_false, not_false_eq_true, one_ne, if_true, if_false, one_ne]
    exact ⟨rfl, G, h⟩
  obtain ⟨m, hm, rfl⟩ := c_ix h h1
  have hv : vp_in (nI m) 40 := vp_in_nI (by omega) (by decide)
  have hv6 : vp_in (nI (8 * m + 6)) 320 := vp_in_nI (by omega) (by decide)
  obtain ⟨q, hq24, hq, hqq⟩ := c_pq h hm
  simp only [w_X0_letGo, c_isMan h, m_noMan h.mI, c_place h hm, c_home h hm, m_placeOf h.mI hm, m_go h.mI hm, h1, h.O_t, h.R_r52, h.R_t52, h.R_l52, hv, h.M_q hm, h.M_T hm, hq, im8, ia6, hv6, nI_clamp (show m < 2 ^ 31 by omega), nI_clamp (show 8 * m + 6 < 2 ^ 31 by omega), Bool.not_true, wif_T, wif_F, nm_eq, zI_t, zI_f, zI0, x_B_zI, x_B_0, x_B_1, isIn_eq, in_eq, Bool.true_eq_false, Bool.false_eq_true, eq_self, true_and, and_true, Option.some.injEq, exists_eq_left', exists_eq_left, reduceCtorEq, not_true_eq_false, not_false_eq_true, one_ne, if_true, if_false]
  have ph : pv G (M2 N 6 (8 * m + 6)) := Or.inl (h.M_hm hm)
  have h21 : M2 N 6 (8 * m + 6) ≠ 21 := fun z => by
    have := h.M_hm hm
    rw [z] at this
    have := ((vi (x := 21) (by decide)).mp this)
    omega
  by_cases may : q = 20 ∨ q = 21 ∨ (10 ≤ q ∧ q < 10 + gN G 9) ∧ M2 N 14 (q - 10) = 0
  · refine jn_i (fun v => ¬ v = 0) (fun v hv => wif_n hv ⟨1, 3, hk, hn, c_send h hm ph h21 (Nat.le_refl _) (Nat.le_refl _) (fun S' h' => ?_)⟩) (fun J hJ => ?_)
    · refine jn0_i ⟨hq, G, h'⟩ (fun J hJ => ?_)
      by_cases c20 : q = 20
      · exact wif_y (by rw [c20]; rfl) hJ
      refine wif_n (fun z => c20 ((eqk_20 (by omega)).mp z)) ?_
      by_cases c21 : q = 21
      · exact wif_y (by rw [c21]; rfl) hJ
      refine wif_n (fun z => c21 ((eqk_21 (by omega)).mp z)) ?_
      rw [m_here1 hq24 (by omega)]
      exact wif_y (by rcases may with z | z | z; exact absurd z c20; exact absurd z c21; exact z.2) (wif_n (by decide) hJ)
    · refine jn0_i (hJ 1 (by decide)) (fun K hK => ?_)
      by_cases c20 : q = 20
      · exact wif_y (by rw [c20]; rfl) hK
      refine wif_n (fun z => c20 ((eqk_20 (by omega)).mp z)) ?_
      by_cases c21 : q = 21
      · exact wif_y (by rw [c21]; rfl) hK
      refine wif_n (fun z => c21 ((eqk_21 (by omega)).mp z)) ?_
      rw [c_home1 h hq24 (by omega)]
      exact wif_y ⟨by rcases may with z | z | z; exact absurd z c20; exact absurd z c21; exact z.2, Or.inl rfl⟩ (wif_n (by decide) hK)
  · refine jn_i (fun v => v = 0) (fun v hv => wif_y hv ?_) (fun J hJ => ?_)
    · rw [jn0_eq]
      refine wif_n (fun z => may (Or.inl ((eqk_20 (by omega)).mp z))) (wif_n (fun z => may (Or.inr (Or.inl ((eqk_21 (by omega)).mp z)))) ?_)
      by_cases hs : 10 ≤ q ∧ q < 20
      · rw [m_here1 hq24 hs]
        exact wif_n (fun z => may (Or.inr (Or.inr ⟨by omega, z⟩))) (wif_y rfl ⟨rfl, G, h⟩)
      · rw [m_here0 hq24 hs]
        exact wif_y rfl ⟨rfl, G, h⟩
    · rw [jn0_eq]
      refine wif_n (fun z => may (Or.inl ((eqk_20 (by omega)).mp z))) (wif_n (fun z => may (Or.inr (Or.inl ((eqk_21 (by omega)).mp z)))) ?_)
      by_cases hs : 10 ≤ q ∧ q < 10 + gN G 9
      · rw [c_home1 h hq24 hs]
        exact wif_n (fun z => may (Or.inr (Or.inr ⟨hs, z.1⟩))) (wif_y rfl (hJ 0 rfl))
      · rw [c_home0 h hq24 hs]
        exact wif_y rfl (hJ 0 rfl)
end
