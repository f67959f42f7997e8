set_option maxRecDepth 100000
/-! ===== what is heard ===== -/
/-- the news of taking k, for a street s, upon what was heard before -/
noncomputable def hrF (A : Nat → Nat → Bool) (F : Nat → Int32) (s : Nat) (acc : Int32) (k : Nat) : Int32 := if rg (F (6 * k + 3)) 0 7 = true ∧ dst A s (F (6 * k + 3)).toNatClampNeg < 100 then (if acc = -9 then F (6 * k) + nI (dst A s (F (6 * k + 3)).toNatClampNeg) else if F (6 * k) + nI (dst A s (F (6 * k + 3)).toNatClampNeg) < acc then F (6 * k) + nI (dst A s (F (6 * k + 3)).toNatClampNeg) else acc) else acc
noncomputable def hrd (A : Nat → Nat → Bool) (F : Nat → Int32) (s q : Nat) : Nat → Int32
  | 0 => -9
  | i + 1 => hrF A F s (hrd A F s q i) (q + i)
theorem rg7 {x : Int32} : rg x 0 7 = true ↔ vp_in x 8 := rg_le (n := 7) (by decide)
theorem rg7f {x : Int32} : rg x 0 7 = false ↔ ¬ vp_in x 8 := by rw [← rg7]; simp
theorem vp8_10 {x : Int32} (h : vp_in x 8) : ¬ 10 ≤ x := by
  rw [vp_in_iff] at h
  rw [Int32.le_iff_toInt_le]
  have e : (10 : Int32).toInt = 10 := by decide
  omega
section
variable {G : xG} {S : xH} {o : Nat} {M : xM} {s : Nat}
theorem c_heardBy (h : Inv G S o M) {k n : Nat} (hs : s < gN G 1) (hk : 1 ≤ k) (hn : 8 ≤ n) {Q : Int32 → xH → Prop} (hQ : ∀ S', xE S S' → Q (hrd (adj M) (M2 M 23) s (gN G 24) (gN G 22 - gN G 24)) S') : w_X0_heardBy k n S o (nI s) Q := by
  have n22 := h.O_n22
  have n24 := h.O_n24
  refine ⟨h.O_t, 1, 8, hk, hn, c_farFrom h hs (Nat.le_refl _) (Nat.le_refl _) (fun a F ha hF => ?_)⟩
  have hE : xE S (sB (sV S a 101 8) a F) := ((xE.refl S).v ha).b ha
  have h' := h.ext hE
  have hT : xT (sB (sV S a 101 8) a F) a = 101 := by simp [sB, sV, xT, va_up]
  have hL : xL (sB (sV S a 101 8) a F) a = 8 := by simp [sB, sV, xL, va_up]
  have hX : xA (sB (sV S a 101 8) a F) a = F := by simp [sB, sV, xA, va_up]
  replace hQ := hQ _ hE
  clear hE
  generalize sB (sV S a 101 8) a F = S4 at *
  simp only [nm_eq]
  refine ⟨a, rfl, h'.O_t, ?_⟩
  rw [h'.O_c63]
  refine lf2_u (gN G 22 - gN G 24) (fun i x y => x = hrd (adj M) (M2 M 23) s (gN G 24) i ∧ y = nI (gN G 24 + i)) ?_ _ _ ⟨rfl, rfl⟩
  rintro P i x y hi ⟨rfl, rfl⟩ hP
  refine ⟨h'.O_t, ?_⟩
  rw [h'.O_c62]
  by_cases e : gN G 24 + i = gN G 22
  · rw [e, show i = gN G 22 - gN G 24 by omega]
    exact wif_y (Int32.le_refl _) hQ
  · have hk' : gN G 24 + i < gN G 22 := by omega
    refine wif_n (nI_ge hk' (by omega)) ?_
    have hv : vp_in (nI (gN G 24 + i)) 60 := vp_in_nI (by omega) (by decide)
    have st : ∀ v, v = hrF (adj M) (M2 M 23) s (hrd (adj M) (M2 M 23) s (gN G 24) i) (gN G 24 + i) → P v (nI (gN G 24 + i) + 1) := fun v hv => hP _ _ (by omega) ⟨hv, nI_1 _⟩
    simp only [h'.O_t, h'.R_r61, h'.R_t61, h'.R_l61, hv, nI_clamp (show gN G 24 + i < 2 ^ 31 by omega), h'.K_q hk', h'.K_T hk', w_X16_isInStreet, h'.K_f3 hk', h'.K_f0 hk', hT, hL, hX, wif_T, wif_F, nm_eq, jn_eq, jn0_eq, jn2_eq, jn3_eq, jn4_eq, zI_t, zI_f, zI0, x_B_zI, x_B_0, x_B_1, isIn_eq, in_eq, Bool.true_eq_false, Bool.false_eq_true, eq_self, true_and, and_true, Option.some.injEq, exists_eq_left', exists_eq_left, reduceCtorEq, not_true_eq_false, not_false_eq_true, one_ne, if_true, if_false]
    rcases h'.K_fm hk' with hf | hf
    · have h8 := vi_c hf
      have hn10 := vp8_10 hf
      have hFv := hF _ h8.1
      refine wif_n hn10 ?_
      simp only [one_ne, wif_F, hf, hFv, wif_T, wif_F, nm_eq, jn_eq, jn0_eq, jn2_eq, jn3_eq, jn4_eq, zI_t, zI_f, zI0, x_B_zI, x_B_0, x_B_1, isIn_eq, in_eq, Bool.true_eq_false, Bool.false_eq_true, eq_self, true_and, and_true, Option.some.injEq, exists_eq_left', exists_eq_left, reduceCtorEq, not_true_eq_false, not_false_eq_true, one_ne, if_true, if_false]
      unfold fD
      by_cases hd : dst (adj M) s (M2 M 23 (6 * (gN G 24 + i) + 3)).toNatClampNeg < 100
      · rw [if_pos hd]
        refine wif_n (n9_ne (by omega)) ?_
        by_cases h9 : hrd (adj M) (M2 M 23) s (gN G 24) i = -9
        · exact wif_y h9 (st _ (by rw [hrF, if_pos ⟨rg7.mpr hf, hd⟩, if_pos h9]))
        · exact wif_n h9 (st _ (by rw [hrF, if_pos (show rg (M2 M 23 (6 * (gN G 24 + i) + 3)) 0 7 = true ∧ dst (adj M) s (M2 M 23 (6 * (gN G 24 + i) + 3)).toNatClampNeg < 100 from ⟨rg7.mpr hf, hd⟩), if_neg h9]))
      · rw [if_neg hd]
        exact wif_y rfl (st _ (by rw [hrF, if_neg (fun q => hd q.2)]))
    · have hn8 : ¬ vp_in (M2 M 23 (6 * (gN G 24 + i) + 3)) 8 := fun q => vp8_10 q hf
      refine wif_y hf ?_
      exact st _ (by rw [hrF, if_neg (fun q => hn8 (rg7.mp q.1))])
theorem c_hasHeard (h : Inv G S o M) {k n : Nat} (hs : s < gN G 1) (hk : 1 ≤ k) (hn : 8 ≤ n) {Q : Int32 → xH → Prop} (hQ : ∀ S', xE S S' → Q (zI (decide (hrd (adj M) (M2 M 23) s (gN G 24) (gN G 22 - gN G 24) ≠ -9 ∧ hrd (adj M) (M2 M 23) s (gN G 24) (gN G 22 - gN G 24) ≤ nI (gN G 4)))) S') : w_X0_hasHeard k n S o (nI s) Q := by
  refine ⟨h.O_t, 1, 8, hk, hn, c_heardBy h hs (Nat.le_refl _) (Nat.le_refl _) (fun S' hE => ?_)⟩
  have h' := h.ext hE
  have q := hQ S' hE
  by_cases h9 : hrd (adj M) (M2 M 23) s (gN G 24) (gN G 22 - gN G 24) = -9
  · rw [decide_eq_false (fun p => p.1 h9)] at q
    exact wif_y h9 q
  · refine wif_n h9 ⟨h'.O_t, ?_⟩
    rw [h'.O_c54]
    by_cases hl : nI (gN G 4) < hrd (adj M) (M2 M 23) s (gN G 24) (gN G 22 - gN G 24)
    · rw [decide_eq_false (fun p => Int32.not_le.mpr hl p.2)] at q
      exact wif_y hl q
    · rw [decide_eq_true ⟨h9, Int32.not_lt.mp hl⟩] at q
      exact wif_n hl q
theorem m_heardAt (h : mI G M) (h3 : ∀ a b, a < 8 → b < 8 → M2 M 3 (8 * a + b) = nI (dst (adj M) a b)) (hs : s < 8) {Q : Int32 → Prop} (hQ : Q (hrd (adj M) (M2 M 23) s (gN G 24) (gN G 22 - gN G 24))) : w_X1_heardAt M (nI s) Q := by
  have n22 := h.n22
  have n24 := h.n24
  unfold w_X1_heardAt
  simp only [nm_eq]
  rw [h.d24]
  refine lf2_u (gN G 22 - gN G 24) (fun i x y => x = hrd (adj M) (M2 M 23) s (gN G 24) i ∧ y = nI (gN G 24 + i)) ?_ _ _ ⟨rfl, rfl⟩
  rintro P i x y hi ⟨rfl, rfl⟩ hP
  rw [h.d22]
  by_cases e : gN G 24 + i = gN G 22
  · rw [e, show i = gN G 22 - gN G 24 by omega]
    exact wif_y (Int32.le_refl _) hQ
  · have hk' : gN G 24 + i < gN G 22 := by omega
    refine wif_n (nI_ge hk' (by omega)) ?_
    have hv3 : vp_in (nI (6 * (gN G 24 + i) + 3)) 360 := vp_in_nI (by omega) (by decide)
    have hv0 : vp_in (nI (6 * (gN G 24 + i))) 360 := vp_in_nI (by omega) (by decide)
    have st : ∀ v, v = hrF (adj M) (M2 M 23) s (hrd (adj M) (M2 M 23) s (gN G 24) i) (gN G 24 + i) → P v (nI (gN G 24 + i) + 1) := fun v hv => hP _ _ (by omega) ⟨hv, nI_1 _⟩
    simp only [im6, ia3, hv3, hv0, nI_clamp (show 6 * (gN G 24 + i) + 3 < 2 ^ 31 by omega), nI_clamp (show 6 * (gN G 24 + i) < 2 ^ 31 by omega), m_isStreet, wif_T, wif_F, nm_eq, jn_eq, jn0_eq, jn2_eq, jn3_eq, jn4_eq, zI_t, zI_f, zI0, x_B_zI, x_B_0, x_B_1, isIn_eq, in_eq, Bool.true_eq_false, Bool.false_eq_true, eq_self, true_and, and_true, Option.some.injEq, exists_eq_left', exists_eq_left, reduceCtorEq, not_true_eq_false, not_false_eq_true, one_ne, if_true, if_false]
    cases hr : rg (M2 M 23 (6 * (gN G 24 + i) + 3)) 0 7
    · simp only [wif_T]
      exact st _ (by rw [hrF, if_neg (fun q => by rw [hr] at q; exact absurd q.1 (by decide))])
    · have hf := rg7.mp hr
      obtain ⟨f, hf8, ef⟩ := vp_in_of hf (by decide)
      have hvf : vp_in (nI (8 * f + s)) 64 := vp_in_nI (by omega) (by decide)
      have hle := dst_le (A := adj M) (a := s) (b := f)
      rw [ef] at hr
      have est : ∀ acc, hrF (adj M) (M2 M 23) s acc (gN G 24 + i) = if dst (adj M) s f < 100 then (if acc = -9 then M2 M 23 (6 * (gN G 24 + i)) + nI (dst (adj M) s f) else if M2 M 23 (6 * (gN G 24 + i)) + nI (dst (adj M) s f) < acc then M2 M 23 (6 * (gN G 24 + i)) + nI (dst (adj M) s f) else acc) else acc := fun acc => by
        rw [hrF, ef, hr, nI_clamp (show f < 2 ^ 31 by omega)]
        simp only [true_and]
      simp only [Bool.true_eq_false, wif_F, ef, im8, nI_add, hvf, nI_clamp (show 8 * f + s < 2 ^ 31 by omega), h3 f s hf8 hs, dst_sy (adj_sy h) f s, true_and]
      by_cases hd : dst (adj M) s f < 100
      · refine wif_n (fun q => by have := (nI_leI (a := 100) (by decide) (show dst (adj M) s f < 2 ^ 31 by omega)).mp q; omega) ?_
        by_cases h9 : hrd (adj M) (M2 M 23) s (gN G 24) i = -9
        · exact wif_y h9 (st _ (by rw [est, if_pos hd, if_pos h9]))
        · refine wif_n h9 ?_
          by_cases hl : hrd (adj M) (M2 M 23) s (gN G 24) i ≤ M2 M 23 (6 * (gN G 24 + i)) + nI (dst (adj M) s f)
          · exact wif_y hl (st _ (by rw [est, if_pos hd, if_neg h9, if_neg (Int32.not_lt.mpr hl)]))
          · exact wif_n hl (st _ (by rw [est, if_pos hd, if_neg h9, if_pos (Int32.not_le.mp hl)]))
      · exact wif_y (nI_le (a := 100) (by omega) (by omega)) (st _ (by rw [est, if_neg hd]))
end
