set_option maxRecDepth 100000
section
variable {G : xG} {S : xH} {o : Nat} {M : xM} {x y z : Int32} {c : Nat}
/-- a way that is left when there are c streets -/
def msk (F : Nat → Int32) (c i j : Nat) : Int32 := if i < c ∧ j < c then F (8 * i + j) else 0
def stF (F : Nat → Int32) (c j : Nat) : Int32 := if j < 64 then msk F c (j / 8) (j % 8) else F j
theorem st_inv {S8 : xH} (h : Inv G S o M) (h5 : gN G 5 = 0) (hc : 1 ≤ c) (hc8 : c ≤ 8) (E : ∀ b, xT S b ≠ 0 → xT S b ≠ 102 → eqc (sI S 50 o (nI c)) S8 b) (R : ∀ i, i < 8 → xT S8 (gA G 1 i) = 102 ∧ xL S8 (gA G 1 i) = 8 ∧ ∀ j, j < 8 → xA S8 (gA G 1 i) j = msk (M2 M 2) c i j) : Inv (Gn G 1 c) S8 o (mF (m1 M 1 (nI c)) 2 (stF (M2 M 2) c)) := by
  have E1 : ∀ t, t ≠ 0 → t ≠ 102 → t ≠ 1 → ∀ b, xT S b = t → eqc S S8 b := fun t h0 h1 h2 b hb => (eqc_sI (fun e => h2 (by rw [← hb, e, h.O_t]))).trans (E b (by rw [hb]; exact h0) (by rw [hb]; exact h1))
  obtain ⟨t0, l0, i0, r0, a0, q0⟩ := E o (by rw [h.O_t]; decide) (by rw [h.O_t]; decide)
  have iN : ∀ f, f ≠ 50 → f ≠ 303 → f ≠ 304 → xI S8 f o = xI S f o := fun f h1 h2 h3 => (i0 f h2 h3).trans (xI_nf S _ h1)
  have i50 : xI S8 50 o = nI c := (i0 50 (by decide) (by decide)).trans (xI_at _ _ _ _)
  have rN : ∀ f, xR S8 f o = xR S f o := fun f => r0 f
  have hO : iO (Gn G 1 c) S8 o (mF (m1 M 1 (nI c)) 2 (stF (M2 M 2) c)) := ⟨t0.trans h.O_t, i50, (iN 53 (by decide) (by decide) (by decide)).trans h.O_c53, (iN 54 (by decide) (by decide) (by decide)).trans h.O_c54, (iN 58 (by decide) (by decide) (by decide)).trans h.O_c58, (iN 60 (by decide) (by decide) (by decide)).trans h.O_c60, (iN 62 (by decide) (by decide) (by decide)).trans h.O_c62, (iN 63 (by decide) (by decide) (by decide)).trans h.O_c63, (iN 65 (by decide) (by decide) (by decide)).trans h.O_c65, (iN 67 (by decide) (by decide) (by decide)).trans h.O_c67, (iN 55 (by decide) (by decide) (by decide)).trans h.O_c55, (iN 56 (by decide) (by decide) (by decide)).trans h.O_c56, by rfl, h.O_d5, h.O_d4, h.O_d15, h.O_d17, h.O_d22, h.O_d24, h.O_d9, h.O_d31, hc, hc8, h.O_n5, h.O_n4, h.O_n9, h.O_n15, h.O_n17, h.O_n22, h.O_n24, h.O_n31⟩
  have e51 := E1 109 (by decide) (by decide) (by decide) _ h.R_t51
  have e52 := E1 103 (by decide) (by decide) (by decide) _ h.R_t52
  have e57 := E1 104 (by decide) (by decide) (by decide) _ h.R_t57
  have e59 := E1 105 (by decide) (by decide) (by decide) _ h.R_t59
  have e61 := E1 106 (by decide) (by decide) (by decide) _ h.R_t61
  have e64 := E1 107 (by decide) (by decide) (by decide) _ h.R_t64
  have e66 := E1 108 (by decide) (by decide) (by decide) _ h.R_t66
  have e68 := E1 101 (by decide) (by decide) (by decide) _ h.R_t68
  have hR : iR (Gn G 1 c) S8 o (mF (m1 M 1 (nI c)) 2 (stF (M2 M 2) c)) := ⟨(rN 51).trans h.R_r51, (rN 52).trans h.R_r52, (rN 57).trans h.R_r57, (rN 59).trans h.R_r59, (rN 61).trans h.R_r61, (rN 64).trans h.R_r64, (rN 66).trans h.R_r66, (rN 68).trans h.R_r68, e51.1.trans h.R_t51, e52.1.trans h.R_t52, e57.1.trans h.R_t57, e59.1.trans h.R_t59, e61.1.trans h.R_t61, e64.1.trans h.R_t64, e66.1.trans h.R_t66, e68.1.trans h.R_t68, e51.2.1.trans h.R_l51, e52.2.1.trans h.R_l52, e57.2.1.trans h.R_l57, e59.2.1.trans h.R_l59, e61.2.1.trans h.R_l61, e64.2.1.trans h.R_l64, e66.2.1.trans h.R_l66, e68.2.1.trans h.R_l68⟩
  have K2 : ∀ i j, i < 8 → j < 8 → M2 (mF (m1 M 1 (nI c)) 2 (stF (M2 M 2) c)) 2 (8 * i + j) = msk (M2 M 2) c i j := fun i j hi hj => by
    rw [mF_at, stF, if_pos (by omega), show (8 * i + j) / 8 = i by omega, show (8 * i + j) % 8 = j by omega]
  have hW : iW (Gn G 1 c) S8 o (mF (m1 M 1 (nI c)) 2 (stF (M2 M 2) c)) := by
    intro i hi
    obtain ⟨a1, a2, a3⟩ := R i hi
    refine ⟨(congrFun e51.2.2.2.2.2 i).trans (h.W_q hi), a1, a2, h.W_r hi, fun j hj => by rw [K2 i j hi hj]; exact a3 j hj, fun j hj => ?_, fun j hj => ?_, fun j hj => ?_⟩
    · rw [K2 i j hi hj, msk]
      split
      · exact h.W_B hi j hj
      · exact Or.inl rfl
    · rw [K2 i j hi hj, K2 j i hj hi, msk, msk, h.W_y hi j hj]
      by_cases q : i < c ∧ j < c
      · rw [if_pos q, if_pos ⟨q.2, q.1⟩]
      · rw [if_neg q, if_neg (fun r => q ⟨r.2, r.1⟩)]
    · rw [K2 i j hi hj, msk]
      intro q
      show i < c ∧ j < c
      by_cases r : i < c ∧ j < c
      · exact r
      · rw [if_neg r] at q
        exact absurd rfl q
  have hM : iM (Gn G 1 c) S8 o (mF (m1 M 1 (nI c)) 2 (stF (M2 M 2) c)) := fun m hm => by
    replace hm : m < gN G 5 := hm
    omega
  exact ⟨hO, hR, hW, hM, (fr_P (G := G) (M := M) h (E1 _ (by decide) (by decide) (by decide)) (E1 _ (by decide) (by decide) (by decide)) (fun b hb => E1 101 (by decide) (by decide) (by decide) b hb.1)), (fr_A (G := G) (M := M) h (E1 _ (by decide) (by decide) (by decide)) (E1 _ (by decide) (by decide) (by decide)) (fun b hb => E1 101 (by decide) (by decide) (by decide) b hb.1)), (fr_K (G := G) (M := M) h (E1 _ (by decide) (by decide) (by decide)) (E1 _ (by decide) (by decide) (by decide))), (fr_S (G := G) (M := M) h (E1 _ (by decide) (by decide) (by decide)) (E1 _ (by decide) (by decide) (by decide))), (fr_T (G := G) (M := M) h (E1 _ (by decide) (by decide) (by decide)) (E1 _ (by decide) (by decide) (by decide))), (fr_U (G := G) (M := M) h (fun b hb => E1 101 (by decide) (by decide) (by decide) b hb.1)), h.iZ⟩
theorem and_1 {v : Int32} (h : x_B v) : v &&& 1 = v := by rcases h with rfl | rfl <;> decide
theorem and_0 {v : Int32} (h : x_B v) : v &&& 0 = 0 := by rcases h with rfl | rfl <;> decide
theorem e_streets (h : Inv G S o M) : w_X0_streets S o x (fun r S' => w_X1_streets M x (fun r' M' => xF o r S' r' M')) := by
  simp only [w_X1_streets, nm_eq]
  generalize hN : m1 M 0 0 = N
  replace h : Inv G S o N := by rw [← hN]; exact h.m0
  have n5 := h.O_n5
  cases h1 : rg x 1 8
  · simp only [w_X0_streets, h1, l64_1, l64_8, wif_T, wif_F, nm_eq, jn_eq, jn0_eq, jn2_eq, jn3_eq, jn4_eq, zI_t, zI_f, zI0, x_B_zI, x_B_0, x_B_1, isIn_eq, in_eq, Bool.true_eq_false, Bool.false_eq_true, eq_self, true_and, and_true, Option.some.injEq, exists_eq_left', exists_eq_left, reduceCtorEq, not_true_eq_false, not_false_eq_true, one_ne, if_true, if_false]
    exact ⟨rfl, G, h⟩
  by_cases h0 : gN G 5 = 0
  · have le0 : (nI (gN G 5) ≤ 0) = True := eq_true (by rw [h0]; decide)
    obtain ⟨c, hc9, rfl⟩ : ∃ c, c < 9 ∧ x = nI c := by
      refine vp_in_of (vp_in_iff.mpr ?_) (by decide)
      have q := rg_t.mp h1
      have q1 := Int32.le_iff_toInt_le.mp q.1
      have q2 := Int32.le_iff_toInt_le.mp q.2
      have e1 : (1 : Int32).toInt = 1 := by decide
      have e2 : (8 : Int32).toInt = 8 := by decide
      omega
    have hc : 1 ≤ c := (kle_1 (by omega)).mp (rg_t.mp h1).1
    have hc8 : c ≤ 8 := by omega
    simp only [w_X0_streets, h1, l64_1, l64_8, h.O_t, h.O_c53, h.O_d5, le0, h.O_c50, h.O_d1, wif_T, wif_F, nm_eq, zI_t, zI_f, zI0, x_B_zI, x_B_0, x_B_1, isIn_eq, in_eq, Bool.true_eq_false, Bool.false_eq_true, eq_self, true_and, and_true, Option.some.injEq, exists_eq_left', exists_eq_left, reduceCtorEq, not_true_eq_false, not_false_eq_true, one_ne, if_true, if_false]
    refine lf2_u 64 (fun k x S8 => x = nI k ∧ (∀ b, xT S b ≠ 0 → xT S b ≠ 102 → eqc (sI S 50 o (nI c)) S8 b) ∧ ∀ i, i < 8 → xT S8 (gA G 1 i) = 102 ∧ xL S8 (gA G 1 i) = 8 ∧ ∀ j, j < 8 → xA S8 (gA G 1 i) j = if 8 * i + j < k then msk (M2 N 2) c i j else M2 N 2 (8 * i + j)) ?_ 0 _ ⟨rfl, fun _ _ _ => eqc.refl, fun i hi => ⟨by rw [xT_sI]; exact h.W_T hi, by rw [xL_sI]; exact h.W_L hi, fun j hj => by rw [xA_sI, if_neg (by omega)]; exact h.W_v hi j hj⟩⟩
    rintro P k x S8 hk ⟨rfl, E, R⟩ hP
    by_cases e64 : k = 64
    · rw [e64] at R
      refine wif_y (by rw [e64]; decide) ?_
      have fin := st_inv h h0 hc hc8 E (fun i hi => ⟨(R i hi).1, (R i hi).2.1, fun j hj => by rw [(R i hi).2.2 j hj, if_pos (by omega)]⟩)
      clear hP
      refine lf2_u 8 (fun a x M' => x = nI a ∧ ∃ F, M' = mF (m1 N 1 (nI c)) 2 F ∧ ∀ j, F j = if j < 8 * a then msk (M2 N 2) c (j / 8) (j % 8) else M2 N 2 j) ?_ 0 _ ⟨rfl, M2 N 2, (mF_self (M := m1 N 1 (nI c)) (k := 2)).symm, fun j => by rw [if_neg (by omega)]⟩
      rintro P a x M' ha ⟨rfl, F, rfl, hF⟩ hP
      by_cases ea : a = 8
      · refine wif_y (by rw [ea]; decide) ⟨rfl, Gn G 1 c, ?_⟩
        have eF : F = stF (M2 N 2) c := by
          funext j
          rw [hF, ea, stF]
        rw [eF]
        exact fin
      · refine wif_n (nI_ge (a := a) (b := 8) (by omega) (by decide)) ?_
        refine lf2_u 8 (fun b x M' => x = nI b ∧ ∃ F, M' = mF (m1 N 1 (nI c)) 2 F ∧ ∀ j, F j = if j < 8 * a + b then msk (M2 N 2) c (j / 8) (j % 8) else M2 N 2 j) ?_ 0 _ ⟨rfl, F, rfl, hF⟩
        clear hF F
        rintro P2 b x M' hb ⟨rfl, F, rfl, hF⟩ hP2
        by_cases eb : b = 8
        · refine wif_y (by rw [eb]; decide) (hP _ _ (by omega) ⟨nI_1 a, F, rfl, fun j => by rw [hF, eb, show 8 * (a + 1) = 8 * a + 8 by omega]⟩)
        · refine wif_n (nI_ge (a := b) (b := 8) (by omega) (by decide)) ?_
          have hv : vp_in (nI (8 * a + b)) 64 := vp_in_nI (by omega) (by decide)
          simp only [im8, nI_add, hv, nI_clamp (show 8 * a + b < 2 ^ 31 by omega), mF_at, m2_mF, wif_T, wif_F, nm_eq, jn_eq, jn0_eq, jn2_eq, jn3_eq, jn4_eq, zI_t, zI_f, zI0, x_B_zI, x_B_0, x_B_1, isIn_eq, in_eq, Bool.true_eq_false, Bool.false_eq_true, eq_self, true_and, and_true, Option.some.injEq, exists_eq_left', exists_eq_left, reduceCtorEq, not_true_eq_false, not_false_eq_true, one_ne, if_true, if_false]
          have F0 : F (8 * a + b) = M2 N 2 (8 * a + b) := by rw [hF, if_neg (by omega)]
          rw [F0]
          have st : ∀ v, x_B v ∧ v = msk (M2 N 2) c a b → x_B v ∧ P2 (nI b + 1) (mF (m1 N 1 (nI c)) 2 (fun j => if j = 8 * a + b then v else F j)) := fun v hv' => ⟨hv'.1, hP2 _ _ (by omega) ⟨nI_1 b, _, rfl, fun j => by
            by_cases ej : j = 8 * a + b
            · rw [if_pos ej, if_pos (by omega), hv'.2, ej, show (8 * a + b) / 8 = a by omega, show (8 * a + b) % 8 = b by omega]
            · rw [if_neg ej, hF]
              by_cases ec : j < 8 * a + b
              · rw [if_pos ec, if_pos (by omega)]
              · rw [if_neg ec, if_neg (by omega)]⟩⟩
          have s0 := st 0
          have s1 := st 1
          simp only [x_B_0, x_B_1, true_and] at s0 s1
          by_cases w : M2 N 2 (8 * a + b) = 0
          · refine wif_y w (s0 ?_)
            rw [msk, w]
            split <;> rfl
          · refine wif_n w ?_
            have w1 := (h.W_B (show a < 8 by omega) b (by omega)).resolve_left w
            by_cases l1 : c ≤ a
            · exact wif_y (nI_le l1 (by omega)) (s0 (by rw [msk, if_neg (by omega)]))
            · refine wif_n (nI_ge (by omega) (by omega)) ?_
              by_cases l2 : c ≤ b
              · exact wif_y (nI_le l2 (by omega)) (s0 (by rw [msk, if_neg (by omega)]))
              · exact wif_n (nI_ge (by omega) (by omega)) (s1 (by rw [msk, if_pos (by omega), w1]))
    · refine wif_n (nI_ge (a := k) (b := 64) (by omega) (by decide)) ?_
      have hi8 : k / 8 < 8 := by omega
      have hj8 : k % 8 < 8 := by omega
      have d8 : nI k / 8 = nI (k / 8) := pk_div (d := 8) (by omega) (by decide) (by decide)
      have r8 : nI k - nI (k / 8) * 8 = nI (k % 8) := by rw [← d8]; exact pk_rem (d := 8) (by omega) (by decide) (by decide)
      have vi8 : vp_in (nI (k / 8)) 8 := vp_in_nI hi8 (by decide)
      have vj8 : vp_in (nI (k % 8)) 8 := vp_in_nI hj8 (by decide)
      obtain ⟨t0, l0, i0, r0, a0, q0⟩ := E o (by rw [h.O_t]; decide) (by rw [h.O_t]; decide)
      obtain ⟨t1, l1, i1, r1, a1, q1⟩ := E (gA G 0 51) (by rw [h.R_t51]; decide) (by rw [h.R_t51]; decide)
      have to : xT S8 o = 1 := t0.trans h.O_t
      have r51 : xR S8 51 o = some (gA G 0 51) := (r0 51).trans h.R_r51
      have t51 : xT S8 (gA G 0 51) = 109 := t1.trans h.R_t51
      have l51 : xL S8 (gA G 0 51) = 8 := l1.trans h.R_l51
      have i50 : xI S8 50 o = nI c := (i0 50 (by decide) (by decide)).trans (xI_at _ _ _ _)
      have q51 : xQ S8 (gA G 0 51) (k / 8) = some (gA G 1 (k / 8)) := (congrFun q1 (k / 8)).trans (h.W_q hi8)
      obtain ⟨R1, R2, R3⟩ := R (k / 8) hi8
      have e8 : 8 * (k / 8) + k % 8 = k := by omega
      have R4 := R3 (k % 8) hj8
      rw [e8, if_neg (by omega)] at R4
      have wB := h.W_B hi8 (k % 8) hj8
      rw [e8] at wB
      have rgc : ∀ q, q < 8 → rg (nI q) 0 (nI c - 1) = decide (q < c) := fun q hq => by
        by_cases hqc : q < c
        · rw [decide_eq_true hqc]; exact (rg_in (by omega)).mpr ((vi (by omega)).mpr hqc)
        · rw [decide_eq_false hqc]; exact bf (fun z => hqc ((vi (by omega)).mp ((rg_in (by omega)).mp z)))
      simp only [w_X0_isStreet, d8, r8, to, r51, t51, l51, i50, vi8, vj8, nI_clamp (show k / 8 < 2 ^ 31 by omega), nI_clamp (show k % 8 < 2 ^ 31 by omega), q51, R1, R2, R4, rgc _ hi8, rgc _ hj8, wif_T, wif_F, nm_eq, jn_eq, jn0_eq, jn2_eq, jn3_eq, jn4_eq, zI_t, zI_f, zI0, x_B_zI, x_B_0, x_B_1, isIn_eq, in_eq, Bool.true_eq_false, Bool.false_eq_true, eq_self, true_and, and_true, Option.some.injEq, exists_eq_left', exists_eq_left, reduceCtorEq, not_true_eq_false, not_false_eq_true, one_ne, if_true, if_false]
      have st : ∀ v, v = msk (M2 N 2) c (k / 8) (k % 8) → P (nI k + 1) (sA S8 (gA G 1 (k / 8)) (k % 8) v) := fun v hv => hP _ _ (by omega) ⟨nI_1 k, fun b hb0 hb => (E b hb0 hb).trans (eqc_sA (fun e => hb (by rw [e]; exact h.W_T hi8))), fun i hi => by
        obtain ⟨Q1, Q2, Q3⟩ := R i hi
        refine ⟨by rw [xT_sA]; exact Q1, by rw [xL_sA]; exact Q2, fun j hj => ?_⟩
        by_cases ei : i = k / 8
        · subst ei
          by_cases ej : j = k % 8
          · subst ej
            rw [xA_at, if_pos (by omega)]
            exact hv
          · rw [xA_ni _ _ ej, Q3 j hj]
            by_cases ec : 8 * (k / 8) + j < k
            · rw [if_pos ec, if_pos (by omega)]
            · rw [if_neg ec, if_neg (by omega)]
        · have hne : gA G 1 i ≠ gA G 1 (k / 8) := fun q => ei (by have := congrArg (gR G) q; rw [h.W_r hi, h.W_r hi8] at this; exact this)
          rw [xA_na _ _ hne, Q3 j hj]
          by_cases ec : 8 * i + j < k
          · rw [if_pos ec, if_pos (by omega)]
          · rw [if_neg ec, if_neg (by omega)]⟩
      by_cases c1 : k / 8 < c
      · rw [decide_eq_true c1]
        refine wif_n (by decide) ?_
        by_cases c2 : k % 8 < c
        · rw [decide_eq_true c2]
          refine wif_n (by decide) ?_
          rw [and_1 wB]
          exact ⟨wB, st _ (by rw [msk, if_pos ⟨c1, c2⟩, e8])⟩
        · rw [decide_eq_false c2]
          refine wif_y rfl ?_
          rw [and_0 wB]
          exact ⟨Or.inl rfl, st _ (by rw [msk, if_neg (fun q => c2 q.2)])⟩
      · rw [decide_eq_false c1]
        refine wif_y rfl ?_
        rw [and_0 wB]
        exact ⟨Or.inl rfl, st _ (by rw [msk, if_neg (fun q => c1 q.1)])⟩
  · have le0 : (nI (gN G 5) ≤ 0) = False := eq_false (nI_nle (by omega) (by omega))
    simp only [w_X0_streets, h1, l64_1, l64_8, h.O_t, h.O_c53, h.O_d5, le0, wif_T, wif_F, nm_eq, jn_eq, jn0_eq, jn2_eq, jn3_eq, jn4_eq, zI_t, zI_f, zI0, x_B_zI, x_B_0, x_B_1, isIn_eq, in_eq, Bool.true_eq_false, Bool.false_eq_true, eq_self, true_and, and_true, Option.some.injEq, exists_eq_left', exists_eq_left, reduceCtorEq, not_true_eq_false, not_false_eq_true, one_ne, if_true, if_false]
    exact ⟨rfl, G, h⟩
end
