set_option maxRecDepth 100000
theorem itr_p {α : Type} {f : Nat → α → α} {P : α → Prop} (st : ∀ i a, P a → P (f i a)) : ∀ (n : Nat) (a : α), P a → P (itr f n a)
  | 0, _, h => h
  | n + 1, a, h => st n _ (itr_p st n a h)
/-- the model has measured -/
def fr3 (M : xM) : Prop := ∀ a b, a < 8 → b < 8 → M2 M 3 (8 * a + b) = nI (dst (adj M) a b)
section
variable {G : xG} {S : xH} {o : Nat} {M : xM}
theorem mI_4 (h : mI G M) (ht : gN G 4 + 1 ≤ 899) : mI (G4 G (gN G 4 + 1)) (m1 M 4 (nI (gN G 4 + 1))) := ⟨h.d1, h.d5, rfl, h.d15, h.d17, h.d22, h.d24, h.d9, h.d31, h.n0, h.n1, h.n5, ht, h.n9, h.n15, h.n17, h.n22, h.n24, h.n31, h.wB, h.wy, h.wz⟩
theorem gT1_p (h : mI G M) (ht : gN G 4 + 1 ≤ 899) (h3 : fr3 M) : mI (G4 G (gN G 4 + 1)) (gT1 G M) ∧ fr3 (gT1 G M) := ⟨(show mI (G4 G (gN G 4 + 1)) (m1 M 4 (nI (gN G 4 + 1))) from mI_4 h ht), h3⟩
theorem gs1_p {q nk t : Nat} (i : Nat) (M : xM) (h : mI G M ∧ fr3 M) : mI G (gs1 q nk t i M) ∧ fr3 (gs1 q nk t i M) := by
  unfold gs1
  split
  · exact h
  · exact h
theorem gs2_p {t : Nat} (i : Nat) (p : Int32 × xM) (h : mI G p.2 ∧ fr3 p.2) : mI G (gs2 t i p).2 ∧ fr3 (gs2 t i p).2 := by
  unfold gs2
  split
  · exact h
  · exact h
theorem gs3_p {t : Nat} (i : Nat) (M : xM) (h : mI G M ∧ fr3 M) : mI G (gs3 t i M) ∧ fr3 (gs3 t i M) := by
  unfold gs3
  split
  · exact h
  · exact h
theorem gT_p (h : mI G M) (ht : gN G 4 + 1 ≤ 899) (h3 : fr3 M) : mI (G4 G (gN G 4 + 1)) (gT G M) ∧ fr3 (gT G M) := by
  have a1 := gT1_p h ht h3
  have a2 := itr_p (P := fun M => mI (G4 G (gN G 4 + 1)) M ∧ fr3 M) gs1_p (gN G 5) _ a1 (f := gs1 (gN G 24) (gN G 22) (gN G 4 + 1))
  have a3 := itr_p (P := fun p => mI (G4 G (gN G 4 + 1)) p.2 ∧ fr3 p.2) gs2_p (gN G 5) (ilF (gT2 G M) (gN G 4 + 1) (gN G 5), gT2 G M) a2 (f := gs2 (gN G 4 + 1))
  exact itr_p (P := fun M => mI (G4 G (gN G 4 + 1)) M ∧ fr3 M) gs3_p (gN G 5) _ a3 (f := gs3 (gN G 4 + 1))
set_option maxHeartbeats 4000000 in
theorem m_goOn (h : mI G M) (ht : gN G 4 + 1 ≤ 899) (h3 : fr3 M) {Q : xM → Prop} (hQ : Q (gT G M)) : w_X1_goOn M Q := by
  have n5 : gN G 5 ≤ 40 := h.n5
  have n4 : gN G 4 ≤ 899 := h.n4
  unfold w_X1_goOn
  rw [nm_eq, h.d4, nI_1]
  refine lf2_u (gN G 5) (fun i x M' => x = nI i ∧ ∃ F, M' = mF (m1 M 4 (nI (gN G 4 + 1))) 8 F ∧ ∀ j, F j = if 40 * (gN G 4 + 1) ≤ j ∧ j < 40 * (gN G 4 + 1) + i then M2 M 8 (j - 40) else M2 M 8 j) ?_ 0 _ ⟨rfl, M2 M 8, (mF_self (M := m1 M 4 (nI (gN G 4 + 1)))).symm, fun j => by rw [if_neg (by omega)]⟩
  rintro P i x M' hi ⟨rfl, F, rfl, hF⟩ hP
  have d5 : M1 (mF (m1 M 4 (nI (gN G 4 + 1))) 8 F) 5 = nI (gN G 5) := h.d5
  have d4 : M1 (mF (m1 M 4 (nI (gN G 4 + 1))) 8 F) 4 = nI (gN G 4 + 1) := rfl
  rw [d5]
  by_cases e : i = gN G 5
  · rw [e]
    refine wif_y (Int32.le_refl _) ?_
    have eM : mF (m1 M 4 (nI (gN G 4 + 1))) 8 F = gT1 G M := by
      rw [e] at hF
      rw [show F = _ from funext hF]
      rfl
    rw [eM]
    clear hP eM d5 d4 hF F e hi i P
    refine lf2_u (gN G 5) (fun i x M' => x = nI i ∧ M' = itr (gs1 (gN G 24) (gN G 22) (gN G 4 + 1)) i (gT1 G M)) ?_ 0 _ ⟨rfl, rfl⟩
    rintro P i x M' hi ⟨rfl, rfl⟩ hP
    have hp := itr_p (P := fun M => mI (G4 G (gN G 4 + 1)) M ∧ fr3 M) gs1_p i _ (gT1_p h ht h3) (f := gs1 (gN G 24) (gN G 22) (gN G 4 + 1))
    have d5 : M1 (itr (gs1 (gN G 24) (gN G 22) (gN G 4 + 1)) i (gT1 G M)) 5 = nI (gN G 5) := hp.1.d5
    rw [d5]
    by_cases e : i = gN G 5
    · rw [e] at hp ⊢
      refine wif_y (Int32.le_refl _) ?_
      clear hP d5 e hi i P
      change mI (G4 G (gN G 4 + 1)) (gT2 G M) ∧ fr3 (gT2 G M) at hp
      change w_X1_many (gT2 G M) 20 _
      refine m_many hp.1 ?_
      rw [nm_eq]
      refine jn_i (fun v => v = ilF (gT2 G M) (gN G 4 + 1) (gN G 5)) (fun v hv => ?_) (fun J hJ => ?_)
      · refine lf3_u (gN G 5) (fun i a x M' => a = (itr (gs2 (gN G 4 + 1)) i (ilF (gT2 G M) (gN G 4 + 1) (gN G 5), gT2 G M)).1 ∧ x = nI i ∧ M' = (itr (gs2 (gN G 4 + 1)) i (ilF (gT2 G M) (gN G 4 + 1) (gN G 5), gT2 G M)).2) ?_ _ _ _ ⟨hv, rfl, rfl⟩
        rintro P i a x M' hi ⟨rfl, rfl, rfl⟩ hP
        have hp := itr_p (P := fun p => mI (G4 G (gN G 4 + 1)) p.2 ∧ fr3 p.2) gs2_p i (ilF (gT2 G M) (gN G 4 + 1) (gN G 5), gT2 G M) hp (f := gs2 (gN G 4 + 1))
        have d5 : M1 (itr (gs2 (gN G 4 + 1)) i (ilF (gT2 G M) (gN G 4 + 1) (gN G 5), gT2 G M)).2 5 = nI (gN G 5) := hp.1.d5
        refine jn0_c ((itr (gs2 (gN G 4 + 1)) i (ilF (gT2 G M) (gN G 4 + 1) (gN G 5), gT2 G M)).2 = gT3 G M) (fun hc => ?_) (fun J hJ => ?_)
        · rw [hc] at hp ⊢
          clear hP hc d5 hi i P
          refine lf2_u (gN G 5) (fun i x M' => x = nI i ∧ M' = itr (gs3 (gN G 4 + 1)) i (gT3 G M)) ?_ 0 _ ⟨rfl, rfl⟩
          rintro P i x M' hi ⟨rfl, rfl⟩ hP
          have hp := itr_p (P := fun M => mI (G4 G (gN G 4 + 1)) M ∧ fr3 M) gs3_p i _ hp (f := gs3 (gN G 4 + 1))
          have d5 : M1 (itr (gs3 (gN G 4 + 1)) i (gT3 G M)) 5 = nI (gN G 5) := hp.1.d5
          have d4 : M1 (itr (gs3 (gN G 4 + 1)) i (gT3 G M)) 4 = nI (gN G 4 + 1) := hp.1.d4
          rw [d5]
          by_cases e : i = gN G 5
          · rw [e]
            exact wif_y (Int32.le_refl _) hQ
          · refine wif_n (nI_ge (show i < gN G 5 by omega) (by omega)) ?_
            have hm : i < gN (G4 G (gN G 4 + 1)) 5 := show i < gN G 5 by omega
            have hv1 : vp_in (nI i) 40 := vp_in_nI (by omega) (by decide)
            have hv2 : vp_in (nI (8 * i + 6)) 320 := vp_in_nI (by omega) (by decide)
            have g4 : gN (G4 G (gN G 4 + 1)) 4 = gN G 4 + 1 := rfl
            have st : ∀ M', M' = gs3 (gN G 4 + 1) i (itr (gs3 (gN G 4 + 1)) i (gT3 G M)) → P (nI i + 1) M' := fun M' hM' => hP _ _ (by omega) ⟨nI_1 i, hM'⟩
            simp only [m_placeOf hp.1 hm, m_go hp.1 hm, g4, d4, hv1, hv2, im8, ia6, nI_clamp (show i < 2 ^ 31 by omega), nI_clamp (show 8 * i + 6 < 2 ^ 31 by omega), wif_T, wif_F, nm_eq, jn_eq, jn0_eq, jn2_eq, jn3_eq, jn4_eq, zI_t, zI_f, zI0, x_B_zI, x_B_0, x_B_1, isIn_eq, in_eq, Bool.true_eq_false, Bool.false_eq_true, eq_self, true_and, and_true, Option.some.injEq, exists_eq_left', exists_eq_left, reduceCtorEq, not_true_eq_false, not_false_eq_true, one_ne, if_true, if_false]
            by_cases p1 : M2 (itr (gs3 (gN G 4 + 1)) i (gT3 G M)) 8 (40 * (gN G 4 + 1) + i) = 21
            · refine wif_y p1 ?_
              by_cases p2 : M2 (itr (gs3 (gN G 4 + 1)) i (gT3 G M)) 7 i = nI (gN G 4 + 1) - 10
              · exact wif_y p2 (st _ (by rw [gs3, if_pos ⟨p1, p2⟩]))
              · exact wif_n p2 (st _ (by rw [gs3, if_neg (fun q => p2 q.2)]))
            · exact wif_n p1 (st _ (by rw [gs3, if_neg (fun q => p1 q.1)]))
        · rw [d5]
          by_cases e : i = gN G 5
          · rw [e] at hJ
            rw [e]
            exact wif_y (Int32.le_refl _) (hJ rfl)
          · refine wif_n (nI_ge (show i < gN G 5 by omega) (by omega)) ?_
            by_cases l0 : (itr (gs2 (gN G 4 + 1)) i (ilF (gT2 G M) (gN G 4 + 1) (gN G 5), gT2 G M)).1 ≤ 0
            · refine wif_y l0 (hJ ?_)
              have := gs2_stop l0 (gN G 5 - i)
              rw [show i + (gN G 5 - i) = gN G 5 by omega] at this
              rw [gT3, this]
            · refine wif_n l0 ?_
              have hm : i < gN (G4 G (gN G 4 + 1)) 5 := show i < gN G 5 by omega
              have hv1 : vp_in (nI i) 40 := vp_in_nI (by omega) (by decide)
              have g4 : gN (G4 G (gN G 4 + 1)) 4 = gN G 4 + 1 := rfl
              have d4 : ∀ q v, M1 (m2 (itr (gs2 (gN G 4 + 1)) i (ilF (gT2 G M) (gN G 4 + 1) (gN G 5), gT2 G M)).2 8 q v) 4 = nI (gN G 4 + 1) := fun q v => hp.1.d4
              simp only [m_placeOf hp.1 hm, m_go hp.1 hm, g4, d4, hv1, nI_clamp (show i < 2 ^ 31 by omega), wif_T, wif_F, nm_eq, jn_eq, jn0_eq, jn2_eq, jn3_eq, jn4_eq, zI_t, zI_f, zI0, x_B_zI, x_B_0, x_B_1, isIn_eq, in_eq, Bool.true_eq_false, Bool.false_eq_true, eq_self, true_and, and_true, Option.some.injEq, exists_eq_left', exists_eq_left, reduceCtorEq, not_true_eq_false, not_false_eq_true, one_ne, if_true, if_false]
              have st : ∀ a M', (a, M') = gs2 (gN G 4 + 1) i (itr (gs2 (gN G 4 + 1)) i (ilF (gT2 G M) (gN G 4 + 1) (gN G 5), gT2 G M)) → P a (nI i + 1) M' := fun a M' hM' => hP _ _ _ (by omega) ⟨by show a = (gs2 _ _ _).1; rw [← hM'], nI_1 i, by show M' = (gs2 _ _ _).2; rw [← hM']⟩
              by_cases p1 : M2 (itr (gs2 (gN G 4 + 1)) i (ilF (gT2 G M) (gN G 4 + 1) (gN G 5), gT2 G M)).2 8 (40 * (gN G 4 + 1) + i) = 20
              · exact wif_y p1 (st _ _ (by rw [gs2, if_pos ⟨Int32.not_le.mp l0, p1⟩]))
              · exact wif_n p1 (st _ _ (by rw [gs2, if_neg (fun q => p1 q.2)]))
      · have eil : ∀ z, z = mA (gT2 G M) (gN G 4 + 1) (gN G 5) 20 0 - M1 (gT2 G M) 25 → ilF (gT2 G M) (gN G 4 + 1) (gN G 5) = (if 0 < z then z else 0) * M1 (gT2 G M) 26 / 100 := fun z hz => by rw [hz]; rfl
        have eil := eil _ rfl
        by_cases l0 : mA (gT2 G M) (gN G 4 + 1) (gN G 5) 20 0 - M1 (gT2 G M) 25 ≤ 0
        · refine wif_y l0 (hJ _ ?_)
          rw [eil, if_neg (Int32.not_lt.mpr l0), Int32.zero_mul]
          decide
        · refine wif_n l0 (hJ _ ?_)
          rw [eil, if_pos (Int32.not_le.mp l0)]
          rfl
    · refine wif_n (nI_ge (show i < gN G 5 by omega) (by omega)) ?_
      have hm : i < gN (G4 G (gN G 4 + 1)) 5 := show i < gN G 5 by omega
      generalize hMi : itr (gs1 (gN G 24) (gN G 22) (gN G 4 + 1)) i (gT1 G M) = Mi at hp d5 ⊢
      have est : ∀ M', M' = gs1 (gN G 24) (gN G 22) (gN G 4 + 1) i Mi → P (nI i + 1) M' := fun M' hM' => hP _ _ (by omega) ⟨nI_1 i, by rw [hM', ← hMi]; rfl⟩
      have g4 : gN (G4 G (gN G 4 + 1)) 4 = gN G 4 + 1 := rfl
      have hv2 : vp_in (nI (8 * i + 7)) 320 := vp_in_nI (by omega) (by decide)
      have d4 : M1 Mi 4 = nI (gN G 4 + 1) := hp.1.d4
      simp only [m_placeOf hp.1 hm, g4, m_isStreet, x_B_zI, true_and, zI0]
      refine jn_i (fun v => v = if rg (M2 Mi 8 (40 * (gN G 4 + 1) + i)) 0 7 = true then hrd (adj Mi) (M2 Mi 23) (M2 Mi 8 (40 * (gN G 4 + 1) + i)).toNatClampNeg (gN G 24) (gN G 22 - gN G 24) else -9) (fun v hv => ?_) (fun J hJ => ?_)
      · simp only [m_go hp.1 hm, im8, ia7, hv2, nI_clamp (show 8 * i + 7 < 2 ^ 31 by omega), d4, g4, wif_T, wif_F, nm_eq, jn_eq, jn0_eq, jn2_eq, jn3_eq, jn4_eq, zI_t, zI_f, zI0, x_B_zI, x_B_0, x_B_1, isIn_eq, in_eq, Bool.true_eq_false, Bool.false_eq_true, eq_self, true_and, and_true, Option.some.injEq, exists_eq_left', exists_eq_left, reduceCtorEq, not_true_eq_false, not_false_eq_true, one_ne, if_true, if_false]
        by_cases p1 : M2 Mi 6 (8 * i + 7) = 1
        · refine wif_y p1 ?_
          by_cases p9 : v = -9
          · refine wif_y p9 (est _ ?_)
            rw [gs1, if_neg (fun z => ?_)]
            rw [if_pos z.2.1] at hv
            exact z.2.2.1 (by rw [← hv]; exact p9)
          · refine wif_n p9 ?_
            have hr : rg (M2 Mi 8 (40 * (gN G 4 + 1) + i)) 0 7 = true := by
              by_cases hr : rg (M2 Mi 8 (40 * (gN G 4 + 1) + i)) 0 7 = true
              · exact hr
              · rw [if_neg hr] at hv
                exact absurd hv p9
            rw [if_pos hr] at hv
            by_cases pl : nI (gN G 4 + 1) < v
            · refine wif_y pl (est _ ?_)
              rw [gs1, if_neg (fun z => ?_)]
              exact Int32.not_le.mpr pl (by rw [hv]; exact z.2.2.2)
            · refine wif_n pl (est _ ?_)
              rw [gs1, if_pos ⟨p1, hr, by rw [← hv]; exact p9, by rw [← hv]; exact Int32.not_lt.mp pl⟩]
        · exact wif_n p1 (est _ (by rw [gs1, if_neg (fun z => p1 z.1)]))
      · cases hr : rg (M2 Mi 8 (40 * (gN G 4 + 1) + i)) 0 7
        · exact wif_y rfl (hJ _ (by rw [hr]; rfl))
        · refine wif_n (by decide) ?_
          obtain ⟨s, hs8, es⟩ := vp_in_of (rg7.mp hr) (by decide)
          rw [es]
          refine m_heardAt hp.1 hp.2 hs8 (hJ _ ?_)
          rw [hr, if_pos rfl, es, nI_clamp (by omega)]
          rfl
  · refine wif_n (nI_ge (show i < gN G 5 by omega) (by omega)) ?_
    have hv1 : vp_in (nI (40 * gN G 4 + i)) 36000 := vp_in_nI (by omega) (by decide)
    have hv2 : vp_in (nI (40 * (gN G 4 + 1) + i)) 36000 := vp_in_nI (by omega) (by decide)
    have k8 : M2 (mF (m1 M 4 (nI (gN G 4 + 1))) 8 F) 8 (40 * gN G 4 + i) = M2 M 8 (40 * gN G 4 + i) := by rw [mF_at, hF, if_neg (by omega)]
    simp only [d4, nI_pred, im40, nI_add, hv1, hv2, nI_clamp (show 40 * gN G 4 + i < 2 ^ 31 by omega), nI_clamp (show 40 * (gN G 4 + 1) + i < 2 ^ 31 by omega), k8, m2_mF, wif_T, wif_F, nm_eq, jn_eq, jn0_eq, jn2_eq, jn3_eq, jn4_eq, zI_t, zI_f, zI0, x_B_zI, x_B_0, x_B_1, isIn_eq, in_eq, Bool.true_eq_false, Bool.false_eq_true, eq_self, true_and, and_true, Option.some.injEq, exists_eq_left', exists_eq_left, reduceCtorEq, not_true_eq_false, not_false_eq_true, one_ne, if_true, if_false]
    refine hP _ _ (by omega) ⟨nI_1 i, _, rfl, fun j => ?_⟩
    by_cases ej : j = 40 * (gN G 4 + 1) + i
    · rw [if_pos ej, if_pos (by omega), ej, show 40 * (gN G 4 + 1) + i - 40 = 40 * gN G 4 + i by omega]
    · rw [if_neg ej, hF]
      by_cases ec : 40 * (gN G 4 + 1) ≤ j ∧ j < 40 * (gN G 4 + 1) + i
      · rw [if_pos ec, if_pos (by omega)]
      · rw [if_neg ec, if_neg (by omega)]
theorem fr3_msr : fr3 (msr M) := by
  intro a b ha hb
  show M2 (mF M 3 (msF M)) 3 _ = _
  rw [mF_at, msF, if_pos (by omega), show (8 * a + b) / 8 = a by omega, show (8 * a + b) % 8 = b by omega]
  rfl
theorem G4_G4 {a b : Nat} : G4 (G4 G a) b = G4 G b := by
  unfold G4
  refine Prod.ext rfl (Prod.ext rfl ?_)
  funext j
  show va_up (va_up (gN G) 4 a) 4 b j = va_up (gN G) 4 b j
  unfold va_up
  by_cases e : j = 4 <;> simp [e]
noncomputable def pS (G : xG) (M : xM) : Nat → xM
  | 0 => M
  | i + 1 => gT (G4 G (gN G 4 + i)) (pS G M i)
theorem pS_p (h : mI G M) (h3 : fr3 M) : ∀ i, gN G 4 + i ≤ 899 → mI (G4 G (gN G 4 + i)) (pS G M i) ∧ fr3 (pS G M i)
  | 0, _ => ⟨h, h3⟩
  | i + 1, hi => by
    have a := pS_p h h3 i (by omega)
    have b := gT_p a.1 (show gN G 4 + i + 1 ≤ 899 by omega) a.2
    rw [G4_G4] at b
    exact b
end
section
variable {G : xG} {S : xH} {o : Nat} {M : xM} {x : Int32}
theorem e_pass (h : Inv G S o M) {k n : Nat} (hk : 9600 ≤ k) (hn : 40800 ≤ n) : w_X0_pass k n S o x (fun r S' => w_X1_pass M x (fun r' M' => xF o r S' r' M')) := by
  simp only [w_X1_pass, nm_eq]
  generalize hN : m1 M 0 0 = N
  replace h : Inv G S o N := by rw [← hN]; exact h.m0
  have n4 := h.O_n4
  cases h1 : rg x 1 60
  · simp only [w_X0_pass, h1, l64_1, l64_60, wif_T, wif_F, nm_eq, jn_eq, jn0_eq, jn2_eq, jn3_eq, jn4_eq, zI_t, zI_f, zI0, x_B_zI, x_B_0, x_B_1, isIn_eq, in_eq, Bool.true_eq_false, Bool.false_eq_true, eq_self, true_and, and_true, Option.some.injEq, exists_eq_left', exists_eq_left, reduceCtorEq, not_true_eq_false, not_false_eq_true, one_ne, if_true, if_false]
    exact ⟨rfl, G, h⟩
  · obtain ⟨c, hc, rfl⟩ : ∃ c, c < 61 ∧ x = nI c := by
      refine vp_in_of (rg_t.mp h1 |> fun q => vp_in_iff.mpr ?_) (by decide)
      have q1 := Int32.le_iff_toInt_le.mp q.1
      have q2 := Int32.le_iff_toInt_le.mp q.2
      have e1 : (1 : Int32).toInt = 1 := by decide
      have e2 : (60 : Int32).toInt = 60 := by decide
      omega
    simp only [w_X0_pass, h1, l64_1, l64_60, h.O_t, h.O_c54, h.O_d4, nI_add, wif_T, wif_F, nm_eq, jn_eq, jn0_eq, jn2_eq, jn3_eq, jn4_eq, zI_t, zI_f, zI0, x_B_zI, x_B_0, x_B_1, isIn_eq, in_eq, Bool.true_eq_false, Bool.false_eq_true, eq_self, true_and, and_true, Option.some.injEq, exists_eq_left', exists_eq_left, reduceCtorEq, not_true_eq_false, not_false_eq_true, one_ne, if_true, if_false]
    by_cases h2 : gN G 4 + c ≤ 899
    · have l1 : nI (gN G 4 + c) ≤ 899 := (lek_899 (by omega)).mpr h2
      refine wif_y l1 ?_
      have hs : Inv G S o (msr N) := h
      refine lf4_u c (fun i x S' k' n' => x = nI i ∧ Inv (G4 G (gN G 4 + i)) S' o (pS G (msr N) i) ∧ 160 * (c - i) ≤ k' ∧ 680 * (c - i) ≤ n') ?_ _ _ _ _ ⟨rfl, hs, by omega, by omega⟩
      rintro P i x S' k' n' hi ⟨rfl, h', hk', hn'⟩ hP
      by_cases e : i = c
      · rw [e] at h' ⊢
        refine wif_y (Int32.le_refl _) ⟨h'.O_t, ?_⟩
        refine wif_y l1 (m_measure ?_)
        refine lf2_u c (fun i x M' => x = nI i ∧ M' = pS G (msr N) i) ?_ _ _ ⟨rfl, rfl⟩
        rintro P j x M' hj ⟨rfl, rfl⟩ hP
        by_cases ej : j = c
        · rw [ej]
          refine wif_y (Int32.le_refl _) ⟨?_, _, h'⟩
          rw [h'.O_c54, h'.O_d4]
        · refine wif_n (nI_ge (by omega) (by omega)) ?_
          have a := pS_p hs.mI fr3_msr j (by omega)
          exact m_goOn a.1 (show gN G 4 + j + 1 ≤ 899 by omega) a.2 (hP _ _ (by omega) ⟨nI_1 j, rfl⟩)
      · refine wif_n (nI_ge (by omega) (by omega)) ⟨h'.O_t, 160, 680, by omega, by omega, c_goTide h' (show gN G 4 + i + 1 ≤ 899 by omega) (Nat.le_refl _) (Nat.le_refl _) (fun S'' h'' => hP _ _ _ _ (by omega) ⟨nI_1 i, ?_, by omega, by omega⟩)⟩
        rw [G4_G4] at h''
        exact h''
    · have l1 : ¬ nI (gN G 4 + c) ≤ 899 := fun q => h2 ((lek_899 (by omega)).mp q)
      exact wif_n l1 (wif_n l1 ⟨rfl, G, h⟩)
end
