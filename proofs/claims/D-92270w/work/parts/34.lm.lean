set_option maxRecDepth 100000
section
variable {G : xG} {S : xH} {o : Nat} {M : xM} {x y : Int32} {m : Nat}
/-- a man goes to a place -/
theorem go_inv (h : Inv G S o M) (hm : m < gN G 5) {a : Nat} (ha : xT S a = 0) {p v : Int32} (hp : pv G p) (hv : p = 21 → v = nI (gN G 4)) {S' : xH} (hS : S' = sR (sR (sI (sI (sN S a 4) 200 a (nI (gN G 4))) 201 a p) 202 a (xR S 152 (gA G 2 m))) 152 (gA G 2 m) (some a)) : Inv G S' o (m2 (m2 M 8 (40 * gN G 4 + m) p) 7 m v) := by
  have n4 := h.O_n4
  have n5 := h.O_n5
  have hma : gA G 2 m ≠ a := xE.ne ha (by rw [h.M_T hm]; decide)
  have E : ∀ b, xT S b ≠ 0 → b ≠ gA G 2 m → eqc S S' b := by
    intro b hb hbm
    have hba : b ≠ a := xE.ne ha hb
    rw [hS]
    exact ((((eqc_sN hba).trans (eqc_sI hba)).trans (eqc_sI hba)).trans (eqc_sR hba)).trans (eqc_sR hbm)
  have E3 : ∀ t, t ≠ 0 → t ≠ 3 → ∀ b, xT S b = t → eqc S S' b := fun t h0 h3 b hb => E b (by rw [hb]; exact h0) (fun e => h3 (by rw [← hb, e, h.M_T hm]))
  have tm : xT S' (gA G 2 m) = 3 := by rw [hS, ← h.M_T hm]; simp [sR, sI, sN, xT, va_up, hma]
  have i1 : ∀ f, xI S' f (gA G 2 m) = xI S f (gA G 2 m) := fun f => by rw [hS]; simp [sR, sI, sN, xI, x_u2, hma]
  have r1 : ∀ f, f ≠ 152 → xR S' f (gA G 2 m) = xR S f (gA G 2 m) := fun f hf => by rw [hS]; simp [sR, sI, sN, xR, x_u2, hma, hf]
  have r2 : xR S' 152 (gA G 2 m) = some a := by rw [hS]; simp [sR, xR, x_u2]
  have ta : xT S' a = 4 := by rw [hS]; simp [sR, sI, sN, xT, va_up]
  have ia0 : xI S' 200 a = nI (gN G 4) := by rw [hS]; simp [sR, sI, sN, xI, x_u2]
  have ia1 : xI S' 201 a = p := by rw [hS]; simp [sR, sI, sN, xI, x_u2]
  have ra : xR S' 202 a = xR S 152 (gA G 2 m) := by rw [hS]; simp [sR, sI, sN, xR, x_u2]
  have o1 : o ≠ gA G 2 m := fun e => by have := h.O_t; rw [e, h.M_T hm] at this; exact absurd this (by decide)
  have Eo : ∀ b, b = o → eqc S S' b := fun b hb => by rw [hb]; exact E o (by rw [h.O_t]; decide) o1
  have q103 := E3 103 (by decide) (by decide) _ h.R_t52
  have hM : iM G S' o (m2 (m2 M 8 (40 * gN G 4 + m) p) 7 m v) := by
    intro m' hm'
    have e3 := E3 101 (by decide) (by decide) _ (h.M_aT hm')
    have c1 := h.M_q hm'
    have c8 := h.M_av hm'
    by_cases e : m' = m
    · subst e
      refine ⟨by rw [q103.2.2.2.2.2]; exact c1, tm, h.M_r hm, by rw [r1 150 (by decide)]; exact h.M_ab hm, by rw [e3.1]; exact h.M_aT hm, by rw [e3.2.1]; exact h.M_aL hm, h.M_ar hm, fun j hj => by rw [e3.2.2.2.2.1]; exact c8 j hj, h.M_ap hm, h.M_hm hm, by rw [i1]; exact h.M_sh hm, h.M_sB hm, by rw [i1]; exact h.M_go hm, by rw [r1 153 (by decide)]; exact h.M_tk hm, ?_, ?_⟩
      · obtain ⟨n, f, b1, b2, b3, b4, b5, b6, b7, b8⟩ := h.M_hi hm
        have e4 : ∀ j, j ≤ n → eqc S S' (f j) := fun j hj => E3 4 (by decide) (by decide) _ (b2 j hj)
        have j0 : ∀ j, j ≤ n → xI S' 200 (f j) = xI S 200 (f j) := fun j hj => (e4 j hj).2.2.1 200 (by decide) (by decide)
        have j1 : ∀ j, j ≤ n → xI S' 201 (f j) = xI S 201 (f j) := fun j hj => (e4 j hj).2.2.1 201 (by decide) (by decide)
        refine ⟨n + 1, pre a f, r2, ?_, ?_, ?_, ?_, ?_, ?_, ?_⟩
        · intro j hj
          by_cases j00 : j = 0
          · rw [j00]; exact ta
          · rw [pre_n j00, (e4 (j - 1) (by omega)).1]; exact b2 _ (by omega)
        · intro j hj
          rw [pre_s]
          by_cases j00 : j = 0
          · rw [j00, pre_0, ra, ia0]
            exact ⟨b1, nI_pos' (by omega)⟩
          · rw [pre_n j00, (e4 (j - 1) (by omega)).2.2.2.1, j0 _ (by omega)]
            have := b3 (j - 1) (by omega)
            rw [show j - 1 + 1 = j by omega] at this
            exact this
        · rw [pre_s, j0 n (Nat.le_refl _)]; exact b4
        · intro j hj
          by_cases j00 : j = 0
          · rw [j00, pre_0, ia0]; exact Int32.le_refl _
          · rw [pre_n j00, j0 _ (by omega)]; exact b5 _ (by omega)
        · intro t ht j hj hi hle
          by_cases j00 : j = 0
          · rw [j00, pre_0] at hle ⊢
            rw [ia0, nI_leI (by omega) (by omega)] at hle
            have : t = gN G 4 := by omega
            rw [this, ia1]
            exact m2_at (M := M) (k := 8)
          · rw [pre_n j00] at hle ⊢
            have h0 := hi 0 (by omega)
            rw [pre_0, ia0, nI_ltI (by omega) (by omega)] at h0
            rw [j0 _ (by omega)] at hle
            rw [j1 _ (by omega)]
            have hne : ¬ 40 * t + m' = 40 * gN G 4 + m' := by omega
            have : M2 (m2 (m2 M 8 (40 * gN G 4 + m') p) 7 m' v) 8 (40 * t + m') = M2 M 8 (40 * t + m') := m2_ne (M := M) (k := 8) hne
            rw [this]
            refine b6 t ht (j - 1) (by omega) (fun i hij => ?_) hle
            have := hi (i + 1) (by omega)
            rw [pre_s, j0 i (by omega)] at this
            exact this
        · rw [pre_0, ia0, ia1]
          intro q
          rw [← hv q]
          exact m2_at.symm
        · rw [pre_s, j1 n (Nat.le_refl _)]; exact b8
      · intro t ht
        by_cases et : t = gN G 4
        · rw [et]
          have : M2 (m2 (m2 M 8 (40 * gN G 4 + m') p) 7 m' v) 8 (40 * gN G 4 + m') = p := m2_at (M := M) (k := 8)
          rw [this]
          exact hp
        · have hne : ¬ 40 * t + m' = 40 * gN G 4 + m' := by omega
          have : M2 (m2 (m2 M 8 (40 * gN G 4 + m') p) 7 m' v) 8 (40 * t + m') = M2 M 8 (40 * t + m') := m2_ne (M := M) (k := 8) hne
          rw [this]
          exact h.M_pl hm t ht
    · have hne : gA G 2 m' ≠ gA G 2 m := fun q => e (by have := congrArg (gR G) q; rw [h.M_r hm', h.M_r hm] at this; exact this)
      have e2 := E _ (by rw [h.M_T hm']; decide) hne
      have k8 : ∀ t, M2 (m2 (m2 M 8 (40 * gN G 4 + m) p) 7 m v) 8 (40 * t + m') = M2 M 8 (40 * t + m') := fun t => by
        have : ¬ 40 * t + m' = 40 * gN G 4 + m := by omega
        exact m2_ne (M := M) (k := 8) this
      have k7 : M2 (m2 (m2 M 8 (40 * gN G 4 + m) p) 7 m v) 7 m' = M2 M 7 m' := m2_ne e
      refine ⟨by rw [q103.2.2.2.2.2]; exact c1, by rw [e2.1]; exact h.M_T hm', h.M_r hm', by rw [e2.2.2.2.1]; exact h.M_ab hm', by rw [e3.1]; exact h.M_aT hm', by rw [e3.2.1]; exact h.M_aL hm', h.M_ar hm', fun j hj => by rw [e3.2.2.2.2.1]; exact c8 j hj, h.M_ap hm', h.M_hm hm', by rw [e2.2.2.1 151 (by decide) (by decide)]; exact h.M_sh hm', h.M_sB hm', by rw [e2.2.2.1 154 (by decide) (by decide)]; exact h.M_go hm', by rw [e2.2.2.2.1]; exact h.M_tk hm', ?_, ?_⟩
      · exact iH_fr (h.M_hi hm') e2 (E3 4 (by decide) (by decide)) (fun t _ => k8 t) k7
      · intro t ht
        rw [k8]
        exact h.M_pl hm' t ht
  exact ⟨fr_O (M := M) h Eo, fr_R (M := M) h Eo (fun b hb => E3 (xT S b) (by omega) (by omega) b rfl) (fun b hb => E3 101 (by decide) (by decide) b hb.1), fr_W (M := M) h (E3 _ (by decide) (by decide)) (E3 _ (by decide) (by decide)), hM, fr_P (M := M) h (E3 _ (by decide) (by decide)) (E3 _ (by decide) (by decide)) (fun b hb => E3 101 (by decide) (by decide) b hb.1), fr_A (M := M) h (E3 _ (by decide) (by decide)) (E3 _ (by decide) (by decide)) (fun b hb => E3 101 (by decide) (by decide) b hb.1), fr_K (M := M) h (E3 _ (by decide) (by decide)) (E3 _ (by decide) (by decide)), fr_S (M := M) h (E3 _ (by decide) (by decide)) (E3 _ (by decide) (by decide)), fr_T (M := M) h (E3 _ (by decide) (by decide)) (E3 _ (by decide) (by decide)), fr_U (M := M) h (fun b hb => E3 101 (by decide) (by decide) b hb.1), h.iZ⟩
theorem m2_same {M : xM} {k i : Nat} : m2 M k i (M2 M k i) = M := by
  unfold m2
  refine Prod.ext rfl ?_
  funext a b
  show (if a = k ∧ b = i then M.2 k i else M.2 a b) = M.2 a b
  by_cases e : a = k ∧ b = i
  · rw [if_pos e, e.1, e.2]
  · rw [if_neg e]
theorem c_go (h : Inv G S o M) (hm : m < gN G 5) {p : Int32} (hp : pv G p) (h21 : p ≠ 21) {k n : Nat} (hk : 1 ≤ k) (hn : 3 ≤ n) {Q : xH → Prop} (hQ : ∀ S', Inv G S' o (m2 M 8 (40 * gN G 4 + m) p) → Q S') : w_X2_go k n S (gA G 2 m) (nI (gN G 4)) p Q := by
  refine ⟨hk, hn, fun a ha => ?_⟩
  have hma : gA G 2 m ≠ a := xE.ne ha (by rw [h.M_T hm]; decide)
  have tm : xT (sN S a 4) (gA G 2 m) = 3 := by rw [(eqc_sN hma).1]; exact h.M_T hm
  have ta : xT (sN S a 4) a = 4 := by simp [sN, xT, va_up]
  have rm : xR (sN S a 4) 152 (gA G 2 m) = xR S 152 (gA G 2 m) := (eqc_sN hma).2.2.2.1 152
  simp only [nm_eq, w_X3_init]
  rw [rm]
  refine ⟨tm, ta, ta, ta, tm, hQ _ ?_⟩
  have := go_inv h hm ha hp (v := M2 M 7 m) (fun q => absurd q h21) rfl
  rw [show M2 M 7 m = M2 (m2 M 8 (40 * gN G 4 + m) p) 7 m from rfl, m2_same] at this
  exact this
theorem c_go21 (h : Inv G S o M) (hm : m < gN G 5) {k n : Nat} (hk : 1 ≤ k) (hn : 3 ≤ n) {Q : xH → Prop} (hQ : ∀ S', Inv G S' o (m2 (m2 M 8 (40 * gN G 4 + m) 21) 7 m (nI (gN G 4))) → Q S') : w_X2_go k n S (gA G 2 m) (nI (gN G 4)) 21 Q := by
  refine ⟨hk, hn, fun a ha => ?_⟩
  have hma : gA G 2 m ≠ a := xE.ne ha (by rw [h.M_T hm]; decide)
  have tm : xT (sN S a 4) (gA G 2 m) = 3 := by rw [(eqc_sN hma).1]; exact h.M_T hm
  have ta : xT (sN S a 4) a = 4 := by simp [sN, xT, va_up]
  have rm : xR (sN S a 4) 152 (gA G 2 m) = xR S 152 (gA G 2 m) := (eqc_sN hma).2.2.2.1 152
  simp only [nm_eq, w_X3_init]
  rw [rm]
  exact ⟨tm, ta, ta, ta, tm, hQ _ (go_inv h hm ha (Or.inr (Or.inr ⟨1, by decide, rfl⟩)) (fun _ => rfl) rfl)⟩
theorem c_send (h : Inv G S o M) (hm : m < gN G 5) {p : Int32} (hp : pv G p) (h21 : p ≠ 21) {k n : Nat} (hk : 1 ≤ k) (hn : 3 ≤ n) {Q : Int32 → xH → Prop} (hQ : ∀ S', Inv G S' o (m2 M 8 (40 * gN G 4 + m) p) → Q (M2 M 8 (40 * gN G 4 + m)) S') : w_X0_send k n S o (gA G 2 m) p Q := by
  simp only [w_X0_send, c_place h hm, h.M_T hm, h.O_t, h.O_c54, wif_T, wif_F, nm_eq, jn_eq, jn0_eq, jn2_eq, jn3_eq, jn4_eq, zI_t, zI_f, zI0, x_B_zI, x_B_0, x_B_1, isIn_eq, in_eq, Bool.true_eq_false, Bool.false_eq_true, eq_self, true_and, and_true, Option.some.injEq, exists_eq_left', exists_eq_left, reduceCtorEq, not_true_eq_false, not_false_eq_true, one_ne, if_true, if_false]
  exact ⟨1, 3, hk, hn, c_go h hm hp h21 (Nat.le_refl _) (Nat.le_refl _) hQ⟩
end
section
variable {G : xG} {S : xH} {o : Nat} {M : xM} {x y z : Int32}
theorem e_tide (h : Inv G S o M) : w_X0_tide S o (fun r => w_X1_tide M (fun r' M' => xF o r S r' M')) := by
  simp only [w_X0_tide, w_X1_tide, nm_eq]
  refine ⟨h.O_t, ?_, G, h.m0⟩
  rw [h.O_c54]
  exact h.O_d4.symm
theorem e_where (h : Inv G S o M) : w_X0_where S o x y (fun r => w_X1_where M x y (fun r' M' => xF o r S r' M')) := by
  simp only [w_X1_where, nm_eq]
  generalize hN : m1 M 0 0 = N
  replace h : Inv G S o N := by rw [← hN]; exact h.m0
  have n4 := h.O_n4
  have n5 := h.O_n5
  cases h1 : rg x 0 (nI (gN G 5) - 1)
  · simp only [w_X0_where, c_isMan h, m_noMan h.mI, h1, h.O_t, Bool.not_false, wif_T, wif_F, nm_eq, jn_eq, jn0_eq, jn2_eq, jn3_eq, jn4_eq, zI_t, zI_f, zI0, x_B_zI, x_B_0, x_B_1, isIn_eq, in_eq, Bool.true_eq_false, Bool.false_eq_true, eq_self, true_and, and_true, Option.some.injEq, exists_eq_left', exists_eq_left, reduceCtorEq, not_true_eq_false, not_false_eq_true, one_ne, if_true, if_false, one_ne]
    exact ⟨rfl, G, h⟩
  · obtain ⟨m, hm, rfl⟩ := c_ix h h1
    cases h2 : rg y 0 (nI (gN G 4))
    · simp only [w_X0_where, c_isMan h, m_noMan h.mI, h1, h2, h.O_t, h.O_c54, h.O_d4, l64_0, Bool.not_true, wif_T, wif_F, nm_eq, jn_eq, jn0_eq, jn2_eq, jn3_eq, jn4_eq, zI_t, zI_f, zI0, x_B_zI, x_B_0, x_B_1, isIn_eq, in_eq, Bool.true_eq_false, Bool.false_eq_true, eq_self, true_and, and_true, Option.some.injEq, exists_eq_left', exists_eq_left, reduceCtorEq, not_true_eq_false, not_false_eq_true, one_ne, if_true, if_false, one_ne]
      exact ⟨rfl, G, h⟩
    · obtain ⟨t, ht, rfl⟩ := vp_in_of ((rg_le (by omega)).mp h2) (by omega)
      have hv : vp_in (nI m) 40 := vp_in_nI (by omega) (by decide)
      have hv2 : vp_in (nI (40 * t + m)) 36000 := vp_in_nI (by omega) (by decide)
      simp only [w_X0_where, c_isMan h, m_noMan h.mI, h1, h2, h.O_t, h.O_c54, h.O_d4, h.R_r52, h.R_t52, h.R_l52, hv, h.M_q hm, h.M_T hm, l64_0, Bool.not_true, im40, nI_add, hv2, nI_clamp (show m < 2 ^ 31 by omega), nI_clamp (show 40 * t + m < 2 ^ 31 by omega), wif_T, wif_F, nm_eq, jn_eq, jn0_eq, jn2_eq, jn3_eq, jn4_eq, zI_t, zI_f, zI0, x_B_zI, x_B_0, x_B_1, isIn_eq, in_eq, Bool.true_eq_false, Bool.false_eq_true, eq_self, true_and, and_true, Option.some.injEq, exists_eq_left', exists_eq_left, reduceCtorEq, not_true_eq_false, not_false_eq_true, one_ne, if_true, if_false, one_ne]
      obtain ⟨n, f, b1, b2, b3, b4, b5, b6, b7, b8⟩ := h.M_hi hm
      refine c_asOf (h.M_T hm) b1 b2 b3 b4 (m1_le (by omega)) (fun j hj hi hle => ?_)
      exact ⟨f j, rfl, b2 j hj, (b6 t (by omega) j hj hi hle).symm, G, h⟩
end
