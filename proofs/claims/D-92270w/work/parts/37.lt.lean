set_option maxRecDepth 100000
/-! ===== a tide goes by ===== -/
def itr {α : Type} (f : Nat → α → α) : Nat → α → α
  | 0, a => a
  | n + 1, a => f n (itr f n a)
/-- all men's places once more, for tide t -/
def cpy (M : xM) (t n : Nat) : xM := mF M 8 (fun j => if 40 * t ≤ j ∧ j < 40 * t + n then M2 M 8 (j - 40) else M2 M 8 j)
noncomputable def gs1 (q nk t i : Nat) (M : xM) : xM := if M2 M 6 (8 * i + 7) = 1 ∧ rg (M2 M 8 (40 * t + i)) 0 7 = true ∧ hrd (adj M) (M2 M 23) (M2 M 8 (40 * t + i)).toNatClampNeg q (nk - q) ≠ -9 ∧ hrd (adj M) (M2 M 23) (M2 M 8 (40 * t + i)).toNatClampNeg q (nk - q) ≤ nI t then m2 M 8 (40 * t + i) 22 else M
def gs2 (t i : Nat) (p : Int32 × xM) : Int32 × xM := if 0 < p.1 ∧ M2 p.2 8 (40 * t + i) = 20 then (p.1 + (-1), m2 (m2 p.2 8 (40 * t + i) 21) 7 i (nI t)) else p
def gs3 (t i : Nat) (M : xM) : xM := if M2 M 8 (40 * t + i) = 21 ∧ M2 M 7 i = nI t - 10 then m2 M 8 (40 * t + i) (M2 M 6 (8 * i + 6)) else M
def ilF (M : xM) (t n : Nat) : Int32 := (if 0 < mA M t n 20 0 - M1 M 25 then mA M t n 20 0 - M1 M 25 else 0) * M1 M 26 / 100
theorem gs2_stop {t : Nat} {p : Int32 × xM} {i : Nat} (h : (itr (gs2 t) i p).1 ≤ 0) : ∀ j, itr (gs2 t) (i + j) p = itr (gs2 t) i p := by
  intro j
  induction j with
  | zero => rfl
  | succ j ih =>
    show gs2 t (i + j) (itr (gs2 t) (i + j) p) = _
    rw [ih, gs2, if_neg (fun q => Int32.not_lt.mpr h q.1)]
noncomputable def gT1 (G : xG) (M : xM) : xM := cpy (m1 M 4 (nI (gN G 4 + 1))) (gN G 4 + 1) (gN G 5)
noncomputable def gT2 (G : xG) (M : xM) : xM := itr (gs1 (gN G 24) (gN G 22) (gN G 4 + 1)) (gN G 5) (gT1 G M)
noncomputable def gT3 (G : xG) (M : xM) : xM := (itr (gs2 (gN G 4 + 1)) (gN G 5) (ilF (gT2 G M) (gN G 4 + 1) (gN G 5), gT2 G M)).2
noncomputable def gT (G : xG) (M : xM) : xM := itr (gs3 (gN G 4 + 1)) (gN G 5) (gT3 G M)
def G4 (G : xG) (t : Nat) : xG := (gA G, gR G, va_up (gN G) 4 t)
section
variable {G : xG} {S : xH} {o : Nat} {M : xM}
theorem tide_inv (h : Inv G S o M) (ht : gN G 4 + 1 ≤ 899) : Inv (G4 G (gN G 4 + 1)) (sI S 54 o (nI (gN G 4 + 1))) o (gT1 G M) := by
  have n4 := h.O_n4
  have n5 := h.O_n5
  have E : ∀ b, b ≠ o → eqc S (sI S 54 o (nI (gN G 4 + 1))) b := fun b hb => eqc_sI hb
  have E1 : ∀ t, t ≠ 1 → ∀ b, xT S b = t → eqc S (sI S 54 o (nI (gN G 4 + 1))) b := fun t h1 b hb => E b (fun e => h1 (by rw [← hb, e, h.O_t]))
  have k8 : ∀ t m, t ≤ gN G 4 → m < 40 → M2 (gT1 G M) 8 (40 * t + m) = M2 M 8 (40 * t + m) := fun t m h1 h2 => by
    have : ¬ (40 * (gN G 4 + 1) ≤ 40 * t + m ∧ 40 * t + m < 40 * (gN G 4 + 1) + gN G 5) := by omega
    show M2 (mF _ 8 _) 8 _ = _
    rw [mF_at, if_neg this]
    rfl
  have k9 : ∀ m, m < gN G 5 → M2 (gT1 G M) 8 (40 * (gN G 4 + 1) + m) = M2 M 8 (40 * gN G 4 + m) := fun m h2 => by
    show M2 (mF _ 8 _) 8 _ = _
    rw [mF_at, if_pos (by omega), show 40 * (gN G 4 + 1) + m - 40 = 40 * gN G 4 + m by omega]
    rfl
  have hO : iO (G4 G (gN G 4 + 1)) (sI S 54 o (nI (gN G 4 + 1))) o (gT1 G M) := ⟨h.O_t, h.O_c50, h.O_c53, (by simp [sI, xI, x_u2, G4, gN, va_up]), h.O_c58, h.O_c60, h.O_c62, h.O_c63, h.O_c65, h.O_c67, h.O_c55, h.O_c56, h.O_d1, h.O_d5, (by rfl), h.O_d15, h.O_d17, h.O_d22, h.O_d24, h.O_d9, h.O_d31, h.O_n0, h.O_n1, h.O_n5, ht, h.O_n9, h.O_n15, h.O_n17, h.O_n22, h.O_n24, h.O_n31⟩
  have hM : iM (G4 G (gN G 4 + 1)) (sI S 54 o (nI (gN G 4 + 1))) o (gT1 G M) := by
    intro m hm
    replace hm : m < gN G 5 := hm
    refine ⟨h.M_q hm, h.M_T hm, h.M_r hm, h.M_ab hm, h.M_aT hm, h.M_aL hm, h.M_ar hm, h.M_av hm, h.M_ap hm, h.M_hm hm, h.M_sh hm, h.M_sB hm, h.M_go hm, h.M_tk hm, ?_, ?_⟩
    · obtain ⟨n, f, b1, b2, b3, b4, b5, b6, b7, b8⟩ := h.M_hi hm
      refine ⟨n, f, b1, b2, b3, b4, fun j hj => Int32.le_trans (b5 j hj) (nI_le (a := gN G 4) (b := gN G 4 + 1) (by omega) (by omega)), ?_, b7, b8⟩
      intro t ht' j hj hi hle
      replace ht' : t ≤ gN G 4 + 1 := ht'
      by_cases e : t = gN G 4 + 1
      · subst e
        rw [k9 m hm]
        by_cases j0 : j = 0
        · subst j0
          exact b6 (gN G 4) (Nat.le_refl _) 0 (Nat.zero_le _) (fun i hi => absurd hi (Nat.not_lt_zero i)) (b5 0 (Nat.zero_le _))
        · have q1 : nI (gN G 4 + 1) < xI S 200 (f 0) := hi 0 (by omega)
          have q2 := b5 0 (Nat.zero_le _)
          have q3 := nI_lt (a := gN G 4) (b := gN G 4 + 1) (by omega) (by omega)
          exact absurd (Int32.lt_trans q3 q1) (Int32.not_lt.mpr q2)
      · rw [k8 t m (by omega) (by omega)]
        exact b6 t (by omega) j hj hi hle
    · intro t ht'
      replace ht' : t ≤ gN G 4 + 1 := ht'
      by_cases e : t = gN G 4 + 1
      · subst e
        rw [k9 m hm]
        exact h.M_pl hm _ (Nat.le_refl _)
      · rw [k8 t m (by omega) (by omega)]
        exact h.M_pl hm t (by omega)
  have hR : iR (G4 G (gN G 4 + 1)) (sI S 54 o (nI (gN G 4 + 1))) o (gT1 G M) := h.iR
  exact ⟨hO, hR, h.iW, hM, h.iP, h.iA, h.iK, h.iS, h.iT, h.iU, h.iZ⟩
set_option maxHeartbeats 4000000 in
theorem c_goTide (h0 : Inv G S o M) (ht : gN G 4 + 1 ≤ 899) {k n : Nat} (hk : 160 ≤ k) (hn : 680 ≤ n) {Q : xH → Prop} (hQ : ∀ S', Inv (G4 G (gN G 4 + 1)) S' o (gT G M) → Q S') : w_X0_goTide k n S o Q := by
  have h1 := tide_inv h0 ht
  have n5 : gN G 5 ≤ 40 := h0.O_n5
  have n1 : gN G 1 ≤ 8 := h0.O_n1
  have n9 : gN G 9 ≤ 10 := h0.O_n9
  have n4 : gN G 4 ≤ 899 := h0.O_n4
  unfold w_X0_goTide
  refine ⟨h0.O_t, h0.O_t, ?_⟩
  rw [nm_eq, h0.O_c54, nI_1]
  refine lf4_u (gN G 5) (fun i x S' k' n' => x = nI i ∧ Inv (G4 G (gN G 4 + 1)) S' o (itr (gs1 (gN G 24) (gN G 22) (gN G 4 + 1)) i (gT1 G M)) ∧ 2 * (gN G 5 - i) + 2 * gN G 5 ≤ k' ∧ 11 * (gN G 5 - i) + 6 * gN G 5 ≤ n') ?_ _ _ _ _ ⟨rfl, h1, by omega, by omega⟩
  rintro P i x S' k' n' hi ⟨rfl, h, hk', hn'⟩ hP
  clear hk hn h1
  refine ⟨h.O_t, ?_⟩
  have c53 : xI S' 53 o = nI (gN G 5) := h.O_c53
  rw [c53]
  by_cases e : i = gN G 5
  · rw [e]
    refine wif_y (Int32.le_refl _) ?_
    rw [e] at h hk' hn'
    clear hP
    refine ⟨h.O_t, c_menAt h ?_⟩
    simp only [nm_eq, h.O_c55, h.O_c56, h.O_t, true_and]
    refine lf5_u (gN G 5) (fun i a x S' k' n' => a = (itr (gs2 (gN G 4 + 1)) i (ilF (gT2 G M) (gN G 4 + 1) (gN G 5), gT2 G M)).1 ∧ x = nI i ∧ Inv (G4 G (gN G 4 + 1)) S' o (itr (gs2 (gN G 4 + 1)) i (ilF (gT2 G M) (gN G 4 + 1) (gN G 5), gT2 G M)).2 ∧ (gN G 5 - i) + gN G 5 ≤ k' ∧ 3 * (gN G 5 - i) + 3 * gN G 5 ≤ n') ?_ _ _ _ _ _ ⟨rfl, rfl, h, by omega, by omega⟩
    clear h hk' hn' e hi i k' n' S' c53
    rintro P i a x S' k' n' hi ⟨rfl, rfl, h, hk', hn'⟩ hP
    refine ⟨h.O_t, ?_⟩
    have c53 : xI S' 53 o = nI (gN G 5) := h.O_c53
    refine jn0_c ((itr (gs2 (gN G 4 + 1)) i (ilF (gT2 G M) (gN G 4 + 1) (gN G 5), gT2 G M)).2 = gT3 G M) (fun hc => ?_) (fun J hJ => ?_)
    · rw [hc] at h
      clear hP
      refine lf4_u (gN G 5) (fun i x S' k' n' => x = nI i ∧ Inv (G4 G (gN G 4 + 1)) S' o (itr (gs3 (gN G 4 + 1)) i (gT3 G M)) ∧ gN G 5 - i ≤ k' ∧ 3 * (gN G 5 - i) ≤ n') ?_ _ _ _ _ ⟨rfl, h, by omega, by omega⟩
      clear h hk' hn' hc hi c53
      rintro P i x S' k' n' hi ⟨rfl, h, hk', hn'⟩ hP
      refine ⟨h.O_t, ?_⟩
      have c53 : xI S' 53 o = nI (gN G 5) := h.O_c53
      rw [c53]
      by_cases e : i = gN G 5
      · rw [e] at h
        rw [e]
        exact wif_y (Int32.le_refl _) (hQ S' h)
      · have hm : i < gN (G4 G (gN G 4 + 1)) 5 := show i < gN G 5 by omega
        refine wif_n (nI_ge (show i < gN G 5 by omega) (by omega)) ?_
        have hv : vp_in (nI i) 40 := vp_in_nI (by omega) (by decide)
        obtain ⟨a, a1, a2, a3, a4, a5⟩ := c_hi h hm
        have a3' : xI S' 201 a = M2 (itr (gs3 (gN G 4 + 1)) i (gT3 G M)) 8 (40 * (gN G 4 + 1) + i) := a3
        have c54 : xI S' 54 o = nI (gN G 4 + 1) := h.O_c54
        have hn10 : nI (gN G 4 + 1) - 10 = nI (gN G 4 + 1) - 10 := rfl
        simp only [h.O_t, h.R_r52, h.R_t52, h.R_l52, hv, nI_clamp (show i < 2 ^ 31 by omega), h.M_q hm, h.M_T hm, a1, a2, a3', c54, c_home h hm, wif_T, wif_F, nm_eq, jn_eq, jn0_eq, jn2_eq, jn3_eq, jn4_eq, zI_t, zI_f, zI0, x_B_zI, x_B_0, x_B_1, isIn_eq, in_eq, Bool.true_eq_false, Bool.false_eq_true, eq_self, true_and, and_true, Option.some.injEq, exists_eq_left', exists_eq_left, reduceCtorEq, not_true_eq_false, not_false_eq_true, one_ne, if_true, if_false]
        by_cases p1 : M2 (itr (gs3 (gN G 4 + 1)) i (gT3 G M)) 8 (40 * (gN G 4 + 1) + i) = 21
        · refine wif_y p1 ?_
          rw [a5 p1]
          by_cases p2 : M2 (itr (gs3 (gN G 4 + 1)) i (gT3 G M)) 7 i = nI (gN G 4 + 1) - 10
          · refine wif_y p2 ?_
            have hp : pv (G4 G (gN G 4 + 1)) (M2 (itr (gs3 (gN G 4 + 1)) i (gT3 G M)) 6 (8 * i + 6)) := Or.inl (h.M_hm hm)
            have h21 : M2 (itr (gs3 (gN G 4 + 1)) i (gT3 G M)) 6 (8 * i + 6) ≠ 21 := fun q => by
              have := h.M_hm hm
              rw [q] at this
              have := ((vi (x := 21) (by decide)).mp this)
              have n1' : gN (G4 G (gN G 4 + 1)) 1 ≤ 8 := n1
              omega
            refine ⟨1, 3, by omega, by omega, c_go h hm hp h21 (Nat.le_refl _) (Nat.le_refl _) (fun S'' h'' => hP _ _ _ _ (by omega) ⟨nI_1 i, ?_, by omega, by omega⟩)⟩
            show Inv _ _ _ (gs3 _ _ _)
            rw [gs3, if_pos ⟨p1, p2⟩]
            exact h''
          · refine wif_n p2 (hP _ _ _ _ (by omega) ⟨nI_1 i, ?_, by omega, by omega⟩)
            show Inv _ _ _ (gs3 _ _ _)
            rw [gs3, if_neg (fun q => p2 q.2)]
            exact h
        · refine wif_n p1 (hP _ _ _ _ (by omega) ⟨nI_1 i, ?_, by omega, by omega⟩)
          show Inv _ _ _ (gs3 _ _ _)
          rw [gs3, if_neg (fun q => p1 q.1)]
          exact h
    rw [c53]
    by_cases e : i = gN G 5
    · rw [e] at hJ
      rw [e]
      exact wif_y (Int32.le_refl _) (hJ rfl)
    · refine wif_n (nI_ge (show i < gN G 5 by omega) (by omega)) ?_
      by_cases l0 : (itr (gs2 (gN G 4 + 1)) i (ilF (gT2 G M) (gN G 4 + 1) (gN G 5), gT2 G M)).1 ≤ 0
      · refine wif_y l0 (hJ ?_)
        have := gs2_stop l0 (gN G 5 - i)
        rw [show i + (gN G 5 - i) = gN G 5 by omega] at this
        rw [gT3, this]
      · refine wif_n l0 ?_
        have hm : i < gN (G4 G (gN G 4 + 1)) 5 := show i < gN G 5 by omega
        have hv : vp_in (nI i) 40 := vp_in_nI (by omega) (by decide)
        have c54 : xI S' 54 o = nI (gN G 4 + 1) := h.O_c54
        simp only [h.O_t, h.R_r52, h.R_t52, h.R_l52, hv, nI_clamp (show i < 2 ^ 31 by omega), h.M_q hm, h.M_T hm, c_place h hm, c54, wif_T, wif_F, nm_eq, jn_eq, jn0_eq, jn2_eq, jn3_eq, jn4_eq, zI_t, zI_f, zI0, x_B_zI, x_B_0, x_B_1, isIn_eq, in_eq, Bool.true_eq_false, Bool.false_eq_true, eq_self, true_and, and_true, Option.some.injEq, exists_eq_left', exists_eq_left, reduceCtorEq, not_true_eq_false, not_false_eq_true, one_ne, if_true, if_false]
        by_cases p1 : M2 (itr (gs2 (gN G 4 + 1)) i (ilF (gT2 G M) (gN G 4 + 1) (gN G 5), gT2 G M)).2 8 (40 * (gN G 4 + 1) + i) = 20
        · refine wif_y p1 ⟨1, 3, by omega, by omega, c_go21 h hm (Nat.le_refl _) (Nat.le_refl _) (fun S'' h'' => ?_)⟩
          have eg : itr (gs2 (gN G 4 + 1)) (i + 1) (ilF (gT2 G M) (gN G 4 + 1) (gN G 5), gT2 G M) = ((itr (gs2 (gN G 4 + 1)) i (ilF (gT2 G M) (gN G 4 + 1) (gN G 5), gT2 G M)).1 + (-1), m2 (m2 (itr (gs2 (gN G 4 + 1)) i (ilF (gT2 G M) (gN G 4 + 1) (gN G 5), gT2 G M)).2 8 (40 * (gN G 4 + 1) + i) 21) 7 i (nI (gN G 4 + 1))) := by
            show gs2 _ _ _ = _
            rw [gs2, if_pos ⟨Int32.not_le.mp l0, p1⟩]
          refine hP _ _ _ _ _ (by omega) ⟨?_, nI_1 i, ?_, by omega, by omega⟩
          · rw [eg]
          · rw [eg]
            exact h''
        · have eg : itr (gs2 (gN G 4 + 1)) (i + 1) (ilF (gT2 G M) (gN G 4 + 1) (gN G 5), gT2 G M) = itr (gs2 (gN G 4 + 1)) i (ilF (gT2 G M) (gN G 4 + 1) (gN G 5), gT2 G M) := by
            show gs2 _ _ _ = _
            rw [gs2, if_neg (fun q => p1 q.2)]
          refine wif_n p1 (hP _ _ _ _ _ (by omega) ⟨?_, nI_1 i, ?_, by omega, by omega⟩)
          · rw [eg]
          · rw [eg]
            exact h
  · have hm : i < gN (G4 G (gN G 4 + 1)) 5 := show i < gN G 5 by omega
    refine wif_n (nI_ge (show i < gN G 5 by omega) (by omega)) ?_
    have hv : vp_in (nI i) 40 := vp_in_nI (by omega) (by decide)
    generalize hMi : itr (gs1 (gN G 24) (gN G 22) (gN G 4 + 1)) i (gT1 G M) = Mi at h
    have est : itr (gs1 (gN G 24) (gN G 22) (gN G 4 + 1)) (i + 1) (gT1 G M) = gs1 (gN G 24) (gN G 22) (gN G 4 + 1) i Mi := by rw [← hMi]; rfl
    have c54 : xI S' 54 o = nI (gN G 4 + 1) := h.O_c54
    simp only [h.O_t, h.R_r52, h.R_t52, h.R_l52, hv, nI_clamp (show i < 2 ^ 31 by omega), h.M_q hm, h.M_T hm, h.M_sh hm, c_place h hm, wif_T, wif_F, nm_eq, jn_eq, jn0_eq, jn2_eq, jn3_eq, jn4_eq, zI_t, zI_f, zI0, x_B_zI, x_B_0, x_B_1, isIn_eq, in_eq, Bool.true_eq_false, Bool.false_eq_true, eq_self, true_and, and_true, Option.some.injEq, exists_eq_left', exists_eq_left, reduceCtorEq, not_true_eq_false, not_false_eq_true, one_ne, if_true, if_false]
    have skip : ∀ S'' k'' n'', Inv (G4 G (gN G 4 + 1)) S'' o Mi → gs1 (gN G 24) (gN G 22) (gN G 4 + 1) i Mi = Mi → 2 * (gN G 5 - (i + 1)) + 2 * gN G 5 ≤ k'' → 11 * (gN G 5 - (i + 1)) + 6 * gN G 5 ≤ n'' → P (nI i + 1) S'' k'' n'' := fun S'' k'' n'' h'' eq q1 q2 => hP _ _ _ _ (by omega) ⟨nI_1 i, by rw [est, eq]; exact h'', q1, q2⟩
    by_cases p1 : M2 Mi 6 (8 * i + 7) = 0
    · exact wif_y p1 (skip _ _ _ h (by rw [gs1, if_neg (fun q => by rw [p1] at q; exact absurd q.1 (by decide))]) (by omega) (by omega))
    · refine wif_n p1 ?_
      have s1 : M2 Mi 6 (8 * i + 7) = 1 := (h.M_sB hm).elim (fun q => absurd q p1) (fun q => q)
      obtain ⟨q, hq24, hq, hqq⟩ := c_pq h hm
      replace hq : M2 Mi 8 (40 * (gN G 4 + 1) + i) = nI q := hq
      have hg4 : gN (G4 G (gN G 4 + 1)) 4 = gN G 4 + 1 := rfl
      simp only [hg4, hq]
      by_cases p2 : 10 ≤ q
      · refine wif_y ((kle_10 (by omega)).mpr p2) (skip _ _ _ h ?_ (by omega) (by omega))
        rw [gs1, if_neg (fun z => ?_)]
        have := rg7.mp z.2.1
        rw [hq, vi (by omega)] at this
        omega
      · refine wif_n (fun z => p2 ((kle_10 (by omega)).mp z)) ?_
        have hqs0 : q < gN G 1 := by
          have : q < gN G 1 ∨ 10 ≤ q ∧ q < 10 + gN G 9 ∨ 20 ≤ q ∧ q < 24 := hqq
          omega
        have hqs : q < gN (G4 G (gN G 4 + 1)) 1 := hqs0
        refine ⟨1, 8, by omega, by omega, c_hasHeard h hqs (Nat.le_refl _) (Nat.le_refl _) (fun S'' hE => ?_)⟩
        have h'' := h.ext hE
        have eqn : (M2 Mi 8 (40 * (gN G 4 + 1) + i)).toNatClampNeg = q := by rw [hq]; exact nI_clamp (by omega)
        by_cases p3 : hrd (adj Mi) (M2 Mi 23) q (gN G 24) (gN G 22 - gN G 24) ≠ -9 ∧ hrd (adj Mi) (M2 Mi 23) q (gN G 24) (gN G 22 - gN G 24) ≤ nI (gN G 4 + 1)
        · have pd : decide (hrd (adj Mi) (M2 Mi 23) q (gN (G4 G (gN G 4 + 1)) 24) (gN (G4 G (gN G 4 + 1)) 22 - gN (G4 G (gN G 4 + 1)) 24) ≠ -9 ∧ hrd (adj Mi) (M2 Mi 23) q (gN (G4 G (gN G 4 + 1)) 24) (gN (G4 G (gN G 4 + 1)) 22 - gN (G4 G (gN G 4 + 1)) 24) ≤ nI (gN (G4 G (gN G 4 + 1)) 4)) = true := decide_eq_true p3
          rw [pd]
          refine wif_n (by decide) ⟨h''.O_t, h''.M_T hm, 1, 3, by omega, by omega, ?_⟩
          have c54 : xI S'' 54 o = nI (gN (G4 G (gN G 4 + 1)) 4) := h''.O_c54
          rw [c54]
          refine c_go h'' hm (Or.inr (Or.inr ⟨2, by decide, rfl⟩)) (by decide) (Nat.le_refl _) (Nat.le_refl _) (fun S3 h3 => hP _ _ _ _ (by omega) ⟨nI_1 i, ?_, by omega, by omega⟩)
          rw [est, gs1, if_pos ⟨s1, by rw [hq]; exact rg7.mpr ((vi (by omega)).mpr (by omega)), by rw [eqn]; exact p3⟩]
          exact h3
        · have pd : decide (hrd (adj Mi) (M2 Mi 23) q (gN (G4 G (gN G 4 + 1)) 24) (gN (G4 G (gN G 4 + 1)) 22 - gN (G4 G (gN G 4 + 1)) 24) ≠ -9 ∧ hrd (adj Mi) (M2 Mi 23) q (gN (G4 G (gN G 4 + 1)) 24) (gN (G4 G (gN G 4 + 1)) 22 - gN (G4 G (gN G 4 + 1)) 24) ≤ nI (gN (G4 G (gN G 4 + 1)) 4)) = false := decide_eq_false p3
          rw [pd]
          refine wif_y rfl (skip _ _ _ h'' ?_ (by omega) (by omega))
          rw [gs1, if_neg (fun z => p3 ?_)]
          have := z.2.2
          rw [eqn] at this
          exact this
end
