set_option maxRecDepth 100000
/-! ===== streets: how far, what is heard ===== -/
theorem sA_sB {S : xH} {a i : Nat} {g : Nat → Int32} {v : Int32} : sA (sB S a g) a i v = sB S a (fun b => if b = i then v else g b) := by
  unfold sA sB
  refine Prod.ext rfl (Prod.ext rfl (Prod.ext rfl (Prod.ext rfl (Prod.ext ?_ rfl))))
  funext p q
  show x_u2 (va_up (xA S) a g) a i v p q = va_up (xA S) a (fun b => if b = i then v else g b) p q
  unfold x_u2 va_up
  by_cases h1 : p = a
  · by_cases h2 : q = i <;> simp [h1, h2]
  · simp [h1]
theorem sV_sB {S : xH} {a t n : Nat} : sV S a t n = sB (sV S a t n) a (fun _ => 0) := by
  unfold sB
  refine Prod.ext rfl (Prod.ext rfl (Prod.ext rfl (Prod.ext rfl (Prod.ext ?_ rfl))))
  funext p q
  show va_up (xA S) a (fun _ => 0) p q = va_up (va_up (xA S) a (fun _ => 0)) a (fun _ => 0) p q
  unfold va_up
  by_cases h1 : p = a <;> simp [h1]
/-- an array of the model's, whole -/
def mF (M : xM) (k : Nat) (F : Nat → Int32) : xM := (M.1, va_up M.2 k F)
theorem m2_mF {M : xM} {k i : Nat} {F : Nat → Int32} {v : Int32} : m2 (mF M k F) k i v = mF M k (fun b => if b = i then v else F b) := by
  unfold m2 mF
  refine Prod.ext rfl ?_
  funext p q
  show x_u2 (va_up M.2 k F) k i v p q = va_up M.2 k (fun b => if b = i then v else F b) p q
  unfold x_u2 va_up
  by_cases h1 : p = k
  · by_cases h2 : q = i <;> simp [h1, h2]
  · simp [h1]
theorem mF_self {M : xM} {k : Nat} : mF M k (M2 M k) = M := by
  unfold mF
  refine Prod.ext rfl ?_
  funext p
  show va_up M.2 k (M2 M k) p = M.2 p
  unfold va_up
  by_cases h1 : p = k
  · rw [if_pos h1, h1]; rfl
  · rw [if_neg h1]
theorem mF_at {M : xM} {k : Nat} {F : Nat → Int32} : M2 (mF M k F) k = F := by
  funext i
  show va_up M.2 k F k i = F i
  unfold va_up
  rw [if_pos rfl]
def adj (M : xM) (a b : Nat) : Bool := decide (a < 8) && decide (b < 8) && decide (M2 M 2 (8 * a + b) ≠ 0)
theorem adj_t {M : xM} {a b : Nat} : adj M a b = true ↔ a < 8 ∧ b < 8 ∧ M2 M 2 (8 * a + b) ≠ 0 := by
  unfold adj
  simp only [Bool.and_eq_true, decide_eq_true_eq, and_assoc]
/-- measured -/
noncomputable def msF (M : xM) (j : Nat) : Int32 := if j < 64 then nI (dst (adj M) (j / 8) (j % 8)) else M2 M 3 j
noncomputable def msr (M : xM) : xM := mF M 3 (msF M)
section
variable {G : xG} {S : xH} {o : Nat} {M : xM}
theorem adj_8 {a b : Nat} (q : adj M a b = true) : a < 8 ∧ b < 8 := ⟨(adj_t.mp q).1, (adj_t.mp q).2.1⟩
theorem adj_lt (h : mI G M) (a b : Nat) (q : adj M a b = true) : a < gN G 1 ∧ b < gN G 1 := by
  obtain ⟨h1, h2, h3⟩ := adj_t.mp q
  exact h.wz a h1 b h2 h3
theorem adj_sy (h : mI G M) (a b : Nat) : adj M a b = adj M b a := by
  apply Bool.eq_iff_iff.mpr
  rw [adj_t, adj_t]
  constructor
  · rintro ⟨h1, h2, h3⟩
    exact ⟨h2, h1, by rw [← h.wy a h1 b h2]; exact h3⟩
  · rintro ⟨h1, h2, h3⟩
    exact ⟨h2, h1, by rw [← h.wy b h1 a h2]; exact h3⟩
theorem c_farFrom (h : Inv G S o M) {s k n : Nat} (hs : s < gN G 1) (hk : 1 ≤ k) (hn : 8 ≤ n) {Q : Option Nat → xH → Prop} (hQ : ∀ a F, xT S a = 0 → (∀ b, b < 8 → F b = fD (adj M) s b) → Q (some a) (sB (sV S a 101 8) a F)) : w_X0_farFrom k n S o (nI s) Q := by
  have n1 := h.O_n1
  have hA := adj_lt h.mI
  refine ⟨hk, hn, fun a ha => ?_⟩
  simp only [nm_eq]
  have hI : ∀ F, Inv G (sB (sV S a 101 8) a F) o M := fun F => h.ext (((xE.refl S).v ha).b ha)
  have hT : ∀ F, xT (sB (sV S a 101 8) a F) a = 101 := fun F => by simp [sB, sV, xT, va_up]
  have hL : ∀ F, xL (sB (sV S a 101 8) a F) a = 8 := fun F => by simp [sB, sV, xL, va_up]
  have hX : ∀ F, xA (sB (sV S a 101 8) a F) a = F := fun F => by simp [sB, sV, xA, va_up]
  refine lf2_u 8 (fun i x S' => x = nI i ∧ ∃ F, S' = sB (sV S a 101 8) a F ∧ ∀ b, b < i → F b = fB (adj M) s 0 b) ?_ 0 _ ⟨rfl, fun _ => 0, sV_sB, fun b hb => absurd hb (Nat.not_lt_zero b)⟩
  rintro P i x S' hi ⟨rfl, F, rfl, hF⟩ hP
  by_cases e8 : i = 8
  · refine wif_y (by rw [e8]; decide) ?_
    rw [e8] at hF
    clear hP
    refine lf2_u (gN G 1) (fun d x S' => x = nI d ∧ ∃ F, S' = sB (sV S a 101 8) a F ∧ ∀ b, b < 8 → F b = fB (adj M) s d b) ?_ 0 _ ⟨rfl, F, rfl, hF⟩
    clear hF F
    rintro P2 d x S' hd ⟨rfl, F, rfl, hF⟩ hP2
    refine ⟨(hI F).O_t, ?_⟩
    rw [(hI F).O_c50]
    by_cases ed : d = gN G 1
    · rw [ed]
      exact wif_y (Int32.le_refl _) (hQ a F ha (fun b hb => by rw [hF b hb, ed]; exact fB_fin hA hs n1))
    · refine wif_n (nI_ge (by omega) (by omega)) ?_
      refine lf2_u (gN G 1) (fun i x S' => x = nI i ∧ ∃ F, S' = sB (sV S a 101 8) a F ∧ bfP (adj M) s d F i 0) ?_ 0 _ ⟨rfl, F, rfl, bfP_0 hF⟩
      clear hF F
      rintro P3 i x S' hi ⟨rfl, F, rfl, hF⟩ hP3
      refine ⟨(hI F).O_t, ?_⟩
      rw [(hI F).O_c50]
      by_cases ei : i = gN G 1
      · rw [ei] at hF
        rw [ei]
        exact wif_y (Int32.le_refl _) (hP2 _ _ (by omega) ⟨nI_1 d, F, rfl, fun b hb => bfP_end (by omega) hA hF hb⟩)
      · refine wif_n (nI_ge (by omega) (by omega)) ?_
        refine lf2_u (gN G 1) (fun j x S' => x = nI j ∧ ∃ F, S' = sB (sV S a 101 8) a F ∧ bfP (adj M) s d F i j) ?_ 0 _ ⟨rfl, F, rfl, hF⟩
        clear hF F
        rintro P4 j x S' hj ⟨rfl, F, rfl, hF⟩ hP4
        refine ⟨(hI F).O_t, ?_⟩
        rw [jn0_eq, (hI F).O_c50]
        by_cases ej : j = gN G 1
        · rw [ej] at hF
          rw [ej]
          exact wif_y (Int32.le_refl _) (hP3 _ _ (by omega) ⟨nI_1 i, F, rfl, bfP_row hA hF (Or.inl (Nat.le_refl _))⟩)
        · refine wif_n (nI_ge (by omega) (by omega)) ?_
          have hi8 : i < 8 := by omega
          have hj8 : j < 8 := by omega
          have vi8 : vp_in (nI i) 8 := vp_in_nI hi8 (by decide)
          have vj8 : vp_in (nI j) 8 := vp_in_nI hj8 (by decide)
          simp only [hT F, hL F, hX F, vi8, nI_clamp (show i < 2 ^ 31 by omega), wif_T, wif_F, nm_eq, jn_eq, jn0_eq, jn2_eq, jn3_eq, jn4_eq, zI_t, zI_f, zI0, x_B_zI, x_B_0, x_B_1, isIn_eq, in_eq, Bool.true_eq_false, Bool.false_eq_true, eq_self, true_and, and_true, Option.some.injEq, exists_eq_left', exists_eq_left, reduceCtorEq, not_true_eq_false, not_false_eq_true, one_ne, if_true, if_false]
          by_cases ef : F i = nI d
          · have hdi := (bfP_at (by omega) hF hi8).mp ef
            refine wif_y ef ?_
            simp only [(hI F).O_t, (hI F).R_r51, (hI F).R_t51, (hI F).R_l51, vi8, vj8, (hI F).W_q hi8, (hI F).W_T hi8, (hI F).W_L hi8, (hI F).W_v hi8 j hj8, nI_clamp (show j < 2 ^ 31 by omega), sA_sB, wif_T, wif_F, nm_eq, jn_eq, jn0_eq, jn2_eq, jn3_eq, jn4_eq, zI_t, zI_f, zI0, x_B_zI, x_B_0, x_B_1, isIn_eq, in_eq, Bool.true_eq_false, Bool.false_eq_true, eq_self, true_and, and_true, Option.some.injEq, exists_eq_left', exists_eq_left, reduceCtorEq, not_true_eq_false, not_false_eq_true, one_ne, if_true, if_false]
            have st : ∀ v, v = (if adj M i j = true ∧ F j = -9 then nI d + 1 else F j) → P4 (nI j + 1) (sB (sV S a 101 8) a (fun b => if b = j then v else F b)) := fun v hv => hP4 _ _ (by omega) ⟨nI_1 j, _, rfl, bfP_st (by omega) hdi hj8 hF hv⟩
            by_cases ew : M2 M 2 (8 * i + j) = 0
            · exact wif_y ew (st _ (by rw [if_neg (fun q => (adj_t.mp q.1).2.2 ew)]))
            · refine wif_n ew ?_
              have ha' : adj M i j = true := adj_t.mpr ⟨hi8, hj8, ew⟩
              by_cases e9 : F j = -9
              · exact wif_y e9 (st _ (by rw [if_pos ⟨ha', e9⟩]))
              · exact wif_n e9 (st _ (by rw [if_neg (fun q => e9 q.2)]))
          · exact wif_n ef (hP3 _ _ (by omega) ⟨nI_1 i, F, rfl, bfP_row hA hF (Or.inr (fun q => ef ((bfP_at (by omega) hF hi8).mpr q)))⟩)
  · refine wif_n (nI_ge (a := i) (b := 8) (by omega) (by decide)) ?_
    have vi8 : vp_in (nI i) 8 := vp_in_nI (by omega) (by decide)
    simp only [hT F, hL F, vi8, nI_clamp (show i < 2 ^ 31 by omega), sA_sB, wif_T, wif_F, nm_eq, jn_eq, jn0_eq, jn2_eq, jn3_eq, jn4_eq, zI_t, zI_f, zI0, x_B_zI, x_B_0, x_B_1, isIn_eq, in_eq, Bool.true_eq_false, Bool.false_eq_true, eq_self, true_and, and_true, Option.some.injEq, exists_eq_left', exists_eq_left, reduceCtorEq, not_true_eq_false, not_false_eq_true, one_ne, if_true, if_false]
    have st : ∀ v, v = (if i = s then 0 else -9) → P (nI i + 1) (sB (sV S a 101 8) a (fun b => if b = i then v else F b)) := fun v hv => hP _ _ (by omega) ⟨nI_1 i, _, rfl, fun b hb => by
      by_cases eb : b = i
      · rw [if_pos eb, hv, fB_ini, eb]
      · rw [if_neg eb]; exact hF b (by omega)⟩
    by_cases es : i = s
    · exact wif_y (by rw [es]) (st _ (by rw [if_pos es]))
    · exact wif_n (fun q => es ((nI_eq (by omega) (by omega)).mp q)) (st _ (by rw [if_neg es]))
theorem m_measure {Q : xM → Prop} (hQ : Q (msr M)) : w_X1_measure M Q := by
  unfold w_X1_measure
  have k2 : ∀ F i, M2 (mF M 3 F) 2 i = M2 M 2 i := fun F i => rfl
  have k3 : ∀ F, M2 (mF M 3 F) 3 = F := fun F => mF_at
  refine lf2_u 64 (fun i x M' => x = nI i ∧ ∃ F, M' = mF M 3 F ∧ (∀ a b, a < 8 → b < 8 → 8 * a + b < i → F (8 * a + b) = nI (if a = b then 0 else if adj M a b = true then 1 else 100)) ∧ (∀ j, 64 ≤ j → F j = M2 M 3 j)) ?_ 0 M ⟨rfl, M2 M 3, mF_self.symm, fun a b _ _ q => absurd q (Nat.not_lt_zero _), fun _ _ => rfl⟩
  rintro P i x M' hi ⟨rfl, F, rfl, hF, hG⟩ hP
  by_cases e64 : i = 64
  · refine wif_y (by rw [e64]; decide) ?_
    rw [e64] at hF
    clear hP
    let D0 : Nat → Nat → Nat := fun a b => if a = b then 0 else if adj M a b = true then 1 else 100
    refine lf2_u 8 (fun c x M' => x = nI c ∧ ∃ F D, M' = mF M 3 F ∧ (∀ a b, a < 8 → b < 8 → F (8 * a + b) = nI (D a b)) ∧ fwI (adj M) c D ∧ (∀ j, 64 ≤ j → F j = M2 M 3 j)) ?_ 0 _ ⟨rfl, F, D0, rfl, fun a b ha hb => hF a b ha hb (by omega), fwI_0 (fun a b _ _ => rfl), hG⟩
    clear hF hG F
    rintro P2 c x M' hc ⟨rfl, F, D, rfl, hF, hD, hG⟩ hP2
    by_cases ec : c = 8
    · refine wif_y (by rw [ec]; decide) ?_
      rw [ec] at hD
      have eF : F = msF M := by
        funext j
        unfold msF
        by_cases hj : j < 64
        · rw [if_pos hj, ← fwI_8 (fun a b q => adj_8 q) hD (show j / 8 < 8 by omega) (show j % 8 < 8 by omega), ← hF _ _ (by omega) (by omega), show 8 * (j / 8) + j % 8 = j by omega]
        · rw [if_neg hj]; exact hG j (by omega)
      rw [eF]
      exact hQ
    · refine wif_n (nI_ge (a := c) (b := 8) (by omega) (by decide)) ?_
      have hc8 : c < 8 := by omega
      refine lf2_u 8 (fun i x M' => x = nI i ∧ ∃ F D1, M' = mF M 3 F ∧ (∀ a b, a < 8 → b < 8 → F (8 * a + b) = nI (D1 a b)) ∧ fwP (adj M) c D D1 i 0 ∧ (∀ j, 64 ≤ j → F j = M2 M 3 j)) ?_ 0 _ ⟨rfl, F, D, rfl, hF, fwP_0 hD, hG⟩
      clear hF hG F
      rintro P3 i x M' hi ⟨rfl, F, D1, rfl, hF, hD1, hG⟩ hP3
      by_cases ei : i = 8
      · rw [ei] at hD1
        exact wif_y (by rw [ei]; decide) (hP2 _ _ (by omega) ⟨nI_1 c, F, D1, rfl, hF, fwP_end hc8 hD hD1, hG⟩)
      · refine wif_n (nI_ge (a := i) (b := 8) (by omega) (by decide)) ?_
        have hi8 : i < 8 := by omega
        refine lf2_u 8 (fun j x M' => x = nI j ∧ ∃ F D1, M' = mF M 3 F ∧ (∀ a b, a < 8 → b < 8 → F (8 * a + b) = nI (D1 a b)) ∧ fwP (adj M) c D D1 i j ∧ (∀ j, 64 ≤ j → F j = M2 M 3 j)) ?_ 0 _ ⟨rfl, F, D1, rfl, hF, hD1, hG⟩
        clear hF hD1 hG F D1
        rintro P4 j x M' hj ⟨rfl, F, D1, rfl, hF, hD1, hG⟩ hP4
        by_cases ej : j = 8
        · rw [ej] at hD1
          exact wif_y (by rw [ej]; decide) (hP3 _ _ (by omega) ⟨nI_1 i, F, D1, rfl, hF, fwP_row hD1, hG⟩)
        · refine wif_n (nI_ge (a := j) (b := 8) (by omega) (by decide)) ?_
          have hj8 : j < 8 := by omega
          have l1 : ∀ a b, a < 8 → b < 8 → D1 a b ≤ 100 := fun a b ha hb => Nat.le_trans (hD1 a b ha hb).1 (hD a b ha hb).1
          have v1 : vp_in (nI (8 * i + c)) 64 := vp_in_nI (by omega) (by decide)
          have v2 : vp_in (nI (8 * c + j)) 64 := vp_in_nI (by omega) (by decide)
          have v3 : vp_in (nI (8 * i + j)) 64 := vp_in_nI (by omega) (by decide)
          have q1 := l1 i c hi8 hc8
          have q2 := l1 c j hc8 hj8
          have q3 := l1 i j hi8 hj8
          simp only [im8, nI_add, v1, v2, v3, nI_clamp (show 8 * i + c < 2 ^ 31 by omega), nI_clamp (show 8 * c + j < 2 ^ 31 by omega), nI_clamp (show 8 * i + j < 2 ^ 31 by omega), k3, hF i c hi8 hc8, hF c j hc8 hj8, hF i j hi8 hj8, m2_mF, wif_T, wif_F, nm_eq, jn_eq, jn0_eq, jn2_eq, jn3_eq, jn4_eq, zI_t, zI_f, zI0, x_B_zI, x_B_0, x_B_1, isIn_eq, in_eq, Bool.true_eq_false, Bool.false_eq_true, eq_self, true_and, and_true, Option.some.injEq, exists_eq_left', exists_eq_left, reduceCtorEq, not_true_eq_false, not_false_eq_true, one_ne, if_true, if_false]
          have st : ∀ v, v = (if D1 i c + D1 c j < D1 i j then D1 i c + D1 c j else D1 i j) → P4 (nI j + 1) (mF M 3 (fun b => if b = 8 * i + j then nI v else F b)) := fun v hv => hP4 _ _ (by omega) ⟨nI_1 j, _, x_u2 D1 i j v, rfl, fun a b ha hb => by
            by_cases e : a = i ∧ b = j
            · rw [if_pos (by omega), x_u2, if_pos e]
            · rw [if_neg (by omega), x_u2, if_neg e]; exact hF a b ha hb, fwP_st hc8 hi8 hj8 hD hD1 hv, fun q hq => by rw [if_neg (by omega)]; exact hG q hq⟩
          by_cases el : D1 i j ≤ D1 i c + D1 c j
          · exact wif_y (nI_le el (by omega)) (st _ (by rw [if_neg (by omega)]))
          · exact wif_n (nI_ge (by omega) (by omega)) (st _ (by rw [if_pos (by omega)]))
  · refine wif_n (nI_ge (a := i) (b := 64) (by omega) (by decide)) ?_
    have v1 : vp_in (nI i) 64 := vp_in_nI (by omega) (by decide)
    have d8 : nI i / 8 = nI (i / 8) := pk_div (d := 8) (by omega) (by decide) (by decide)
    have r8 : nI i - nI (i / 8) * 8 = nI (i % 8) := by rw [← d8]; exact pk_rem (d := 8) (by omega) (by decide) (by decide)
    simp only [d8, r8, v1, nI_clamp (show i < 2 ^ 31 by omega), k2, m2_mF, wif_T, wif_F, nm_eq, jn_eq, jn0_eq, jn2_eq, jn3_eq, jn4_eq, zI_t, zI_f, zI0, x_B_zI, x_B_0, x_B_1, isIn_eq, in_eq, Bool.true_eq_false, Bool.false_eq_true, eq_self, true_and, and_true, Option.some.injEq, exists_eq_left', exists_eq_left, reduceCtorEq, not_true_eq_false, not_false_eq_true, one_ne, if_true, if_false]
    have st : ∀ v, v = (if i / 8 = i % 8 then 0 else if adj M (i / 8) (i % 8) = true then 1 else 100) → P (nI i + 1) (mF M 3 (fun b => if b = i then nI v else F b)) := fun v hv => hP _ _ (by omega) ⟨nI_1 i, _, rfl, fun a b ha hb hl => by
      by_cases e : 8 * a + b = i
      · have e1 : i / 8 = a := by omega
        have e2 : i % 8 = b := by omega
        rw [if_pos e, hv, e1, e2]
      · rw [if_neg e]; exact hF a b ha hb (by omega), fun q hq => by rw [if_neg (by omega)]; exact hG q hq⟩
    have e8 : 8 * (i / 8) + i % 8 = i := by omega
    by_cases e1 : i / 8 = i % 8
    · exact wif_y (by rw [e1]) (st 0 (by rw [if_pos e1]))
    · refine wif_n (fun q => e1 ((nI_eq (by omega) (by omega)).mp q)) ?_
      by_cases e2 : M2 M 2 i = 0
      · exact wif_y e2 (st 100 (by rw [if_neg e1, if_neg (fun q => (adj_t.mp q).2.2 (by rw [e8]; exact e2))]))
      · exact wif_n e2 (st 1 (by rw [if_neg e1, if_pos (adj_t.mpr ⟨by omega, by omega, by rw [e8]; exact e2⟩)]))
end
