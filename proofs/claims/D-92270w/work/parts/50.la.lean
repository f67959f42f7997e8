set_option maxRecDepth 100000
section
variable {G : xG} {S : xH} {o : Nat} {M : xM} {x1 x2 x3 x4 x5 x6 x7 : Int32} {m a b n c : Nat}
theorem man_F {i : Nat} : ∃ F, (m2 (m2 (m2 (m2 (m2 (m2 (m2 (m2 M 6 (i) x1) 6 (i + 1) x2) 6 (i + 2) x3) 6 (i + 3) x4) 6 (i + 4) x5) 6 (i + 5) x6) 6 (i + 6) x7) 6 (i + 7) 0) = mF M 6 F ∧ F (i) = x1 ∧ F (i + 1) = x2 ∧ F (i + 2) = x3 ∧ F (i + 3) = x4 ∧ F (i + 4) = x5 ∧ F (i + 5) = x6 ∧ F (i + 6) = x7 ∧ F (i + 7) = 0 ∧ (∀ j, j < i → F j = M2 M 6 j) := by
  refine ⟨M2 (m2 (m2 (m2 (m2 (m2 (m2 (m2 (m2 M 6 (i) x1) 6 (i + 1) x2) 6 (i + 2) x3) 6 (i + 3) x4) 6 (i + 4) x5) 6 (i + 5) x6) 6 (i + 6) x7) 6 (i + 7) 0) 6, mF_only rfl (fun j e => ?_), ?_, ?_, ?_, ?_, ?_, ?_, ?_, ?_, fun j hj => ?_⟩
  · funext q
    rw [m2_nk e, m2_nk e, m2_nk e, m2_nk e, m2_nk e, m2_nk e, m2_nk e, m2_nk e]
  · rw [m2_ne (by omega), m2_ne (by omega), m2_ne (by omega), m2_ne (by omega), m2_ne (by omega), m2_ne (by omega), m2_ne (by omega), m2_at]
  · rw [m2_ne (by omega), m2_ne (by omega), m2_ne (by omega), m2_ne (by omega), m2_ne (by omega), m2_ne (by omega), m2_at]
  · rw [m2_ne (by omega), m2_ne (by omega), m2_ne (by omega), m2_ne (by omega), m2_ne (by omega), m2_at]
  · rw [m2_ne (by omega), m2_ne (by omega), m2_ne (by omega), m2_ne (by omega), m2_at]
  · rw [m2_ne (by omega), m2_ne (by omega), m2_ne (by omega), m2_at]
  · rw [m2_ne (by omega), m2_ne (by omega), m2_at]
  · rw [m2_ne (by omega), m2_at]
  · rw [m2_at]
  · rw [m2_ne (by omega), m2_ne (by omega), m2_ne (by omega), m2_ne (by omega), m2_ne (by omega), m2_ne (by omega), m2_ne (by omega), m2_ne (by omega)]
theorem rg_v {x : Int32} {a b : Nat} (h : rg x (nI a) (nI b) = true) (ha : a < 2 ^ 31) (hb : b ≤ 100) : vp_in x 101 := by
  have q := rg_t.mp h
  rw [Int32.le_iff_toInt_le, Int32.le_iff_toInt_le, nI_toInt ha, nI_toInt (by omega)] at q
  rw [vp_in_iff]
  omega
theorem tkL_none {F : Nat → Int32} {m : Nat} : ∀ {n : Nat}, (∀ k, k < n → ¬ F (6 * k + 1) = nI m) → tkL F m n = none
  | 0, _ => rfl
  | n + 1, h => by rw [tkL, if_neg (h n (by omega)), tkL_none (fun k hk => h k (by omega))]
def GM (G : xG) (a b : Nat) : xG := (x_u2 (x_u2 (gA G) 2 (gN G 5) a) 3 (gN G 5) b, gR G, va_up (gN G) 5 (gN G 5 + 1))
theorem man_link {F F8 : Nat → Int32} (h : Inv G S o M) (hn : gN G 5 < 40) (ta : xT S a = 3) (ra : gR G a = gN G 5) (r150 : xR S 150 a = some b) (tb : xT S b = 101) (lb : xL S b = 7) (rb : gR G b = 0) (v0 : xA S b 0 = x1) (v1 : xA S b 1 = x2) (v2 : xA S b 2 = x3) (v3 : xA S b 3 = x4) (v4 : xA S b 4 = x5) (v5 : xA S b 5 = x6) (v6 : xA S b 6 = x7) (p0 : vp_in x1 101) (p1 : vp_in x2 101) (p2 : vp_in x3 101) (p3 : vp_in x4 101) (p4 : vp_in x5 101) (p5 : vp_in x6 101) (p6 : vp_in x7 101) (h7 : vp_in x7 (gN G 1)) (i151 : xI S 151 a = 0) (i154 : xI S 154 a = 0) (r153 : xR S 153 a = none) (r152 : xR S 152 a = some c) (tc : xT S c = 4) (i200 : xI S 200 c = -1) (i201 : xI S 201 c = x7) (k0 : F (8 * gN G 5) = x1) (k1 : F (8 * gN G 5 + 1) = x2) (k2 : F (8 * gN G 5 + 2) = x3) (k3 : F (8 * gN G 5 + 3) = x4) (k4 : F (8 * gN G 5 + 4) = x5) (k5 : F (8 * gN G 5 + 5) = x6) (k6 : F (8 * gN G 5 + 6) = x7) (k7 : F (8 * gN G 5 + 7) = 0) (kk : ∀ i, i < 8 * gN G 5 → F i = M2 M 6 i) (k8 : ∀ j, F8 j = if j % 40 = gN G 5 ∧ j / 40 < gN G 4 + 1 then x7 else M2 M 8 j) : Inv (GM G a b) (sI (sQ S (gA G 0 52) (gN G 5) (some a)) 53 o (nI (gN G 5 + 1))) o (m1 (mF (mF M 6 F) 8 F8) 5 (nI (gN G 5 + 1))) := by
  have n5 := h.O_n5
  have n1 := h.O_n1
  have n4 := h.O_n4
  have n22 := h.O_n22
  have E : ∀ t, t ≠ 103 → t ≠ 1 → ∀ b, xT S b = t → eqc S (sI (sQ S (gA G 0 52) (gN G 5) (some a)) 53 o (nI (gN G 5 + 1))) b := fun t h1 h2 b hb => (eqc_sQ (fun e => h1 (by rw [← hb, e, h.R_t52]))).trans (eqc_sI (fun e => h2 (by rw [← hb, e, h.O_t])))
  have hO : iO (GM G a b) (sI (sQ S (gA G 0 52) (gN G 5) (some a)) 53 o (nI (gN G 5 + 1))) o (m1 (mF (mF M 6 F) 8 F8) 5 (nI (gN G 5 + 1))) := ⟨h.O_t, h.O_c50, (by rw [xI_at]; rfl), h.O_c54, h.O_c58, h.O_c60, h.O_c62, h.O_c63, h.O_c65, h.O_c67, h.O_c55, h.O_c56, h.O_d1, (by rfl), h.O_d4, h.O_d15, h.O_d17, h.O_d22, h.O_d24, h.O_d9, h.O_d31, h.O_n0, h.O_n1, (show gN G 5 + 1 ≤ 40 from hn), h.O_n4, h.O_n9, h.O_n15, h.O_n17, h.O_n22, h.O_n24, h.O_n31⟩
  have K6 : ∀ i, M2 (m1 (mF (mF M 6 F) 8 F8) 5 (nI (gN G 5 + 1))) 6 i = F i := fun i => congrFun (mF_at (M := M) (k := 6)) i
  have K8 : ∀ i, M2 (m1 (mF (mF M 6 F) 8 F8) 5 (nI (gN G 5 + 1))) 8 i = F8 i := fun i => congrFun (mF_at (M := mF M 6 F) (k := 8)) i
  have v8 : vp_in x7 8 := v_up h7 n1
  have hM : iM (GM G a b) (sI (sQ S (gA G 0 52) (gN G 5) (some a)) 53 o (nI (gN G 5 + 1))) o (m1 (mF (mF M 6 F) 8 F8) 5 (nI (gN G 5 + 1))) := by
    intro m hb
    replace hb : m < gN G 5 + 1 := hb
    by_cases e : m = gN G 5
    · rw [e]
      have eA : gA (GM G a b) 2 (gN G 5) = a := g2_at (g := gA G) (k := 2)
      have eB : gA (GM G a b) 3 (gN G 5) = b := g2_at (g := x_u2 (gA G) 2 (gN G 5) a) (k := 3)
      have eH : iH (GM G a b) (sI (sQ S (gA G 0 52) (gN G 5) (some a)) 53 o (nI (gN G 5 + 1))) (m1 (mF (mF M 6 F) 8 F8) 5 (nI (gN G 5 + 1))) (gN G 5) := by
        refine ⟨0, fun _ => c, by rw [eA]; exact r152, fun _ _ => tc, fun j hj => absurd hj (Nat.not_lt_zero j), i200, fun _ _ => by show xI S 200 c ≤ nI (gN G 4); rw [i200]; exact m1_le (by omega), fun t ht _ _ _ _ => ?_, fun q => ?_, by show vp_in (xI S 201 c) 8; rw [i201]; exact v8⟩
        · replace ht : t ≤ gN G 4 := ht
          show M2 (m1 (mF (mF M 6 F) 8 F8) 5 (nI (gN G 5 + 1))) 8 (40 * t + gN G 5) = xI S 201 c
          rw [K8, k8, if_pos (by omega), i201]
        · replace q : xI S 201 c = 21 := q
          rw [i201] at q
          rw [q] at v8
          exact absurd ((vi (x := 21) (by decide)).mp v8) (by decide)
      have eT : tkL (M2 (m1 (mF (mF M 6 F) 8 F8) 5 (nI (gN G 5 + 1))) 23) (gN G 5) (gN (GM G a b) 22) = none := tkL_none (F := M2 M 23) (fun k hk q => by
        replace hk : k < gN G 22 := hk
        have := (vi_c (h.K_mn hk)).1
        rw [q, nI_clamp (by omega)] at this
        omega)
      simp only [K6, K8]
      rw [eA, eB, eT, k6, k7]
      refine ⟨xQ_at S _ _ _, ta, ra, r150, tb, lb, rb, fun j hj => ?_, fun j hj => ?_, h7, i151, Or.inl rfl, i154.trans (h.Z_g (gN G 5) (Nat.le_refl _) hn).symm, r153, eH, fun t ht => ?_⟩
      · have : j = 0 ∨ j = 1 ∨ j = 2 ∨ j = 3 ∨ j = 4 ∨ j = 5 ∨ j = 6 := by omega
        rcases this with rfl | rfl | rfl | rfl | rfl | rfl | rfl
        · exact v0.trans k0.symm
        · exact v1.trans k1.symm
        · exact v2.trans k2.symm
        · exact v3.trans k3.symm
        · exact v4.trans k4.symm
        · exact v5.trans k5.symm
        · exact v6.trans k6.symm
      · have : j = 0 ∨ j = 1 ∨ j = 2 ∨ j = 3 ∨ j = 4 ∨ j = 5 ∨ j = 6 := by omega
        rcases this with rfl | rfl | rfl | rfl | rfl | rfl | rfl
        · rw [Nat.add_zero, k0]; exact p0
        · rw [k1]; exact p1
        · rw [k2]; exact p2
        · rw [k3]; exact p3
        · rw [k4]; exact p4
        · rw [k5]; exact p5
        · rw [k6]; exact p6
      · replace ht : t ≤ gN G 4 := ht
        rw [k8, if_pos (by omega)]
        exact Or.inl h7
    · have hm : m < gN G 5 := by omega
      have eA : gA (GM G a b) 2 m = gA G 2 m := g2_ne (g := gA G) (k := 2) e
      have eB : gA (GM G a b) 3 m = gA G 3 m := g2_ne (g := x_u2 (gA G) 2 (gN G 5) a) (k := 3) e
      have f8 : ∀ t, F8 (40 * t + m) = M2 M 8 (40 * t + m) := fun t => by rw [k8, if_neg (by omega)]
      have eH : iH (GM G a b) (sI (sQ S (gA G 0 52) (gN G 5) (some a)) 53 o (nI (gN G 5 + 1))) (m1 (mF (mF M 6 F) 8 F8) 5 (nI (gN G 5 + 1))) m := by
        have q := iH_fr (S' := (sI (sQ S (gA G 0 52) (gN G 5) (some a)) 53 o (nI (gN G 5 + 1)))) (M' := (m1 (mF (mF M 6 F) 8 F8) 5 (nI (gN G 5 + 1)))) (h.M_hi hm) (E 3 (by decide) (by decide) _ (h.M_T hm)) (E 4 (by decide) (by decide)) (fun t _ => (K8 _).trans (f8 t)) rfl
        obtain ⟨n, f, b1, b2, b3, b4, b5, b6, b7, b8⟩ := q
        exact ⟨n, f, by rw [eA]; exact b1, b2, b3, b4, b5, b6, b7, b8⟩
      simp only [K6, K8, f8, kk (8 * m + 6) (by omega), kk (8 * m + 7) (by omega)]
      rw [eA, eB]
      exact ⟨(xQ_ni S _ e).trans (h.M_q hm), h.M_T hm, h.M_r hm, h.M_ab hm, h.M_aT hm, h.M_aL hm, h.M_ar hm, fun j hj => (h.M_av hm j hj).trans (kk (8 * m + j) (by omega)).symm, fun j hj => by rw [kk (8 * m + j) (by omega)]; exact h.M_ap hm j hj, h.M_hm hm, h.M_sh hm, h.M_sB hm, h.M_go hm, h.M_tk hm, eH, h.M_pl hm⟩
  have g2 : ∀ v : Int32, vp_in v (gN G 5) → gA (GM G a b) 2 v.toNatClampNeg = gA G 2 v.toNatClampNeg := fun v hv => g2_ne (g := gA G) (k := 2) (by have := (vi_c hv).1; omega)
  have hP : iP (GM G a b) (sI (sQ S (gA G 0 52) (gN G 5) (some a)) 53 o (nI (gN G 5 + 1))) o (m1 (mF (mF M 6 F) 8 F8) 5 (nI (gN G 5 + 1))) := by
    have H := (fr_P (G := G) (M := M) h (E _ (by decide) (by decide)) (E _ (by decide) (by decide)) (fun b hb => E 101 (by decide) (by decide) b hb.1))
    intro p hp
    obtain ⟨b1, b2, b3, b4, b5, b6, b7, b8, b9, b10, b11⟩ := H p hp
    exact ⟨b1, b2, b3.trans (congrArg some (g2 _ b4).symm), v_up b4 (Nat.le_succ _), b5, b6, b7, b8, b9, b10, b11⟩
  have hK : iK (GM G a b) (sI (sQ S (gA G 0 52) (gN G 5) (some a)) 53 o (nI (gN G 5 + 1))) o (m1 (mF (mF M 6 F) 8 F8) 5 (nI (gN G 5 + 1))) := by
    have H := (fr_K (G := G) (M := M) h (E _ (by decide) (by decide)) (E _ (by decide) (by decide)))
    intro k hk
    obtain ⟨b1, b2, b3, b4, b5, b6, b7, b8, b9, b10, b11, b12, b13⟩ := H k hk
    exact ⟨b1, b2, b3, b4, b5, b6, b7, b8, b9, v_up b10 (Nat.le_succ _), b11, b12, b13⟩
  have hT : iT (GM G a b) (sI (sQ S (gA G 0 52) (gN G 5) (some a)) 53 o (nI (gN G 5 + 1))) o (m1 (mF (mF M 6 F) 8 F8) 5 (nI (gN G 5 + 1))) := by
    have H := (fr_T (G := G) (M := M) h (E _ (by decide) (by decide)) (E _ (by decide) (by decide)))
    intro t ht
    obtain ⟨b1, b2, b3, b4, b5, b6, b7, b8, b9, b10, b11, b12⟩ := H t ht
    exact ⟨b1, b2, b3, b4.trans (congrArg some (g2 _ b5).symm), v_up b5 (Nat.le_succ _), b6, b7, b8, b9, b10, b11, b12⟩
  have hZ : iZ (GM G a b) (sI (sQ S (gA G 0 52) (gN G 5) (some a)) 53 o (nI (gN G 5 + 1))) o (m1 (mF (mF M 6 F) 8 F8) 5 (nI (gN G 5 + 1))) := ⟨h.Z_l, fun m h1 h2 => h.Z_g m (show gN G 5 ≤ m from Nat.le_of_succ_le h1) h2, h.Z_s, h.Z_a, h.Z_t⟩
  exact ⟨hO, h.iR, (fr_W (G := G) (M := M) h (E _ (by decide) (by decide)) (E _ (by decide) (by decide))), hM, hP, (fr_A (G := G) (M := M) h (E _ (by decide) (by decide)) (E _ (by decide) (by decide)) (fun b hb => E 101 (by decide) (by decide) b hb.1)), hK, (fr_S (G := G) (M := M) h (E _ (by decide) (by decide)) (E _ (by decide) (by decide))), hT, h.iU, hZ⟩
set_option maxHeartbeats 4000000 in
theorem e_man (h : Inv G S o M) {k n : Nat} (hk : 3 ≤ k) (hn : 15 ≤ n) : w_X0_man k n S o x1 x2 x3 x4 x5 x6 x7 (fun r S' => w_X1_man M x1 x2 x3 x4 x5 x6 x7 (fun r' M' => xF o r S' r' M')) := by
  simp only [w_X1_man, nm_eq]
  generalize hN : m1 M 0 0 = N
  replace h : Inv G S o N := by rw [← hN]; exact h.m0
  have n5 := h.O_n5
  have n1 := h.O_n1
  have n4 := h.O_n4
  cases h1 : (rg x7 0 (nI (gN G 1) - 1))
  · simp only [w_X0_man, c_isStreet h, m_noStreet h.mI, l64_0, l64_3, l64_5, l64_10, l64_40, l64_50, l64_60, l64_80, h1, h.O_t, Bool.not_false, Bool.not_true, wif_T, wif_F, nm_eq, jn_eq, jn0_eq, jn2_eq, jn3_eq, jn4_eq, zI_t, zI_f, zI0, x_B_zI, x_B_0, x_B_1, isIn_eq, in_eq, Bool.true_eq_false, Bool.false_eq_true, eq_self, true_and, and_true, Option.some.injEq, exists_eq_left', exists_eq_left, reduceCtorEq, not_true_eq_false, not_false_eq_true, one_ne, if_true, if_false]
    exact ⟨rfl, G, h⟩
  cases h2 : (rg x1 10 60)
  · simp only [w_X0_man, c_isStreet h, m_noStreet h.mI, l64_0, l64_3, l64_5, l64_10, l64_40, l64_50, l64_60, l64_80, h1, h2, h.O_t, Bool.not_false, Bool.not_true, wif_T, wif_F, nm_eq, jn_eq, jn0_eq, jn2_eq, jn3_eq, jn4_eq, zI_t, zI_f, zI0, x_B_zI, x_B_0, x_B_1, isIn_eq, in_eq, Bool.true_eq_false, Bool.false_eq_true, eq_self, true_and, and_true, Option.some.injEq, exists_eq_left', exists_eq_left, reduceCtorEq, not_true_eq_false, not_false_eq_true, one_ne, if_true, if_false]
    exact ⟨rfl, G, h⟩
  cases h3 : (rg x2 0 3)
  · simp only [w_X0_man, c_isStreet h, m_noStreet h.mI, l64_0, l64_3, l64_5, l64_10, l64_40, l64_50, l64_60, l64_80, h1, h2, h3, h.O_t, Bool.not_false, Bool.not_true, wif_T, wif_F, nm_eq, jn_eq, jn0_eq, jn2_eq, jn3_eq, jn4_eq, zI_t, zI_f, zI0, x_B_zI, x_B_0, x_B_1, isIn_eq, in_eq, Bool.true_eq_false, Bool.false_eq_true, eq_self, true_and, and_true, Option.some.injEq, exists_eq_left', exists_eq_left, reduceCtorEq, not_true_eq_false, not_false_eq_true, one_ne, if_true, if_false]
    exact ⟨rfl, G, h⟩
  cases h4 : (rg x3 0 3)
  · simp only [w_X0_man, c_isStreet h, m_noStreet h.mI, l64_0, l64_3, l64_5, l64_10, l64_40, l64_50, l64_60, l64_80, h1, h2, h3, h4, h.O_t, Bool.not_false, Bool.not_true, wif_T, wif_F, nm_eq, jn_eq, jn0_eq, jn2_eq, jn3_eq, jn4_eq, zI_t, zI_f, zI0, x_B_zI, x_B_0, x_B_1, isIn_eq, in_eq, Bool.true_eq_false, Bool.false_eq_true, eq_self, true_and, and_true, Option.some.injEq, exists_eq_left', exists_eq_left, reduceCtorEq, not_true_eq_false, not_false_eq_true, one_ne, if_true, if_false]
    exact ⟨rfl, G, h⟩
  cases h5 : (rg x4 50 80)
  · simp only [w_X0_man, c_isStreet h, m_noStreet h.mI, l64_0, l64_3, l64_5, l64_10, l64_40, l64_50, l64_60, l64_80, h1, h2, h3, h4, h5, h.O_t, Bool.not_false, Bool.not_true, wif_T, wif_F, nm_eq, jn_eq, jn0_eq, jn2_eq, jn3_eq, jn4_eq, zI_t, zI_f, zI0, x_B_zI, x_B_0, x_B_1, isIn_eq, in_eq, Bool.true_eq_false, Bool.false_eq_true, eq_self, true_and, and_true, Option.some.injEq, exists_eq_left', exists_eq_left, reduceCtorEq, not_true_eq_false, not_false_eq_true, one_ne, if_true, if_false]
    exact ⟨rfl, G, h⟩
  cases h6 : (rg x5 0 5)
  · simp only [w_X0_man, c_isStreet h, m_noStreet h.mI, l64_0, l64_3, l64_5, l64_10, l64_40, l64_50, l64_60, l64_80, h1, h2, h3, h4, h5, h6, h.O_t, Bool.not_false, Bool.not_true, wif_T, wif_F, nm_eq, jn_eq, jn0_eq, jn2_eq, jn3_eq, jn4_eq, zI_t, zI_f, zI0, x_B_zI, x_B_0, x_B_1, isIn_eq, in_eq, Bool.true_eq_false, Bool.false_eq_true, eq_self, true_and, and_true, Option.some.injEq, exists_eq_left', exists_eq_left, reduceCtorEq, not_true_eq_false, not_false_eq_true, one_ne, if_true, if_false]
    exact ⟨rfl, G, h⟩
  cases h7 : (rg x6 0 40)
  · simp only [w_X0_man, c_isStreet h, m_noStreet h.mI, l64_0, l64_3, l64_5, l64_10, l64_40, l64_50, l64_60, l64_80, h1, h2, h3, h4, h5, h6, h7, h.O_t, Bool.not_false, Bool.not_true, wif_T, wif_F, nm_eq, jn_eq, jn0_eq, jn2_eq, jn3_eq, jn4_eq, zI_t, zI_f, zI0, x_B_zI, x_B_0, x_B_1, isIn_eq, in_eq, Bool.true_eq_false, Bool.false_eq_true, eq_self, true_and, and_true, Option.some.injEq, exists_eq_left', exists_eq_left, reduceCtorEq, not_true_eq_false, not_false_eq_true, one_ne, if_true, if_false]
    exact ⟨rfl, G, h⟩
  by_cases e : gN G 5 = 40
  · have e40 : (nI (gN G 5) = 40) = True := eq_true (by rw [e]; rfl)
    simp only [w_X0_man, c_isStreet h, m_noStreet h.mI, l64_0, l64_3, l64_5, l64_10, l64_40, l64_50, l64_60, l64_80, h1, h2, h3, h4, h5, h6, h7, h.O_t, h.O_c53, h.O_d5, e40, Bool.not_true, wif_T, wif_F, nm_eq, jn_eq, jn0_eq, jn2_eq, jn3_eq, jn4_eq, zI_t, zI_f, zI0, x_B_zI, x_B_0, x_B_1, isIn_eq, in_eq, Bool.true_eq_false, Bool.false_eq_true, eq_self, true_and, and_true, Option.some.injEq, exists_eq_left', exists_eq_left, reduceCtorEq, not_true_eq_false, not_false_eq_true, one_ne, if_true, if_false]
    exact ⟨rfl, G, h⟩
  have hlt : gN G 5 < 40 := by omega
  have e40 : (nI (gN G 5) = 40) = False := eq_false (fun q => e ((eqk_40 (by omega)).mp q))
  have hvn : vp_in (nI (gN G 5)) 40 := vp_in_nI (by omega) (by decide)
  have cn := nI_clamp (show gN G 5 < 2 ^ 31 by omega)
  have hx7 : vp_in x7 (gN G 1) := (rg_in (by omega)).mp h1
  have p0 : vp_in x1 101 := rg_v (a := 10) (b := 60) h2 (by decide) (by decide)
  have p1 : vp_in x2 101 := rg_v (a := 0) (b := 3) h3 (by decide) (by decide)
  have p2 : vp_in x3 101 := rg_v (a := 0) (b := 3) h4 (by decide) (by decide)
  have p3 : vp_in x4 101 := rg_v (a := 50) (b := 80) h5 (by decide) (by decide)
  have p4 : vp_in x5 101 := rg_v (a := 0) (b := 5) h6 (by decide) (by decide)
  have p5 : vp_in x6 101 := rg_v (a := 0) (b := 40) h7 (by decide) (by decide)
  have p6 : vp_in x7 101 := v_up hx7 (by omega)
  have PP : ∀ j, j < 8 → vp_in (nI (8 * gN G 5 + j)) 320 ∧ (nI (8 * gN G 5 + j)).toNatClampNeg = 8 * gN G 5 + j := fun j hj => ⟨vp_in_nI (by omega) (by decide), nI_clamp (by omega)⟩
  have P0 : vp_in (nI (8 * gN G 5)) 320 ∧ (nI (8 * gN G 5)).toNatClampNeg = 8 * gN G 5 := PP 0 (by decide)
  obtain ⟨F, eF, k0, k1, k2, k3, k4, k5, k6, k7, kk⟩ := man_F (M := N) (i := 8 * gN G 5) (x1 := x1) (x2 := x2) (x3 := x3) (x4 := x4) (x5 := x5) (x6 := x6) (x7 := x7)
  simp only [w_X0_man, c_isStreet h, m_noStreet h.mI, l64_0, l64_3, l64_5, l64_10, l64_40, l64_50, l64_60, l64_80, h1, h2, h3, h4, h5, h6, h7, h.O_t, h.O_c53, h.O_d5, e40, im8, nI_1, ia2, ia3, ia4, ia5, ia6, ia7, P0, PP 1 (by decide), PP 2 (by decide), PP 3 (by decide), PP 4 (by decide), PP 5 (by decide), PP 6 (by decide), PP 7 (by decide), eF, Bool.not_true, wif_T, wif_F, nm_eq, jn_eq, jn0_eq, jn2_eq, jn3_eq, jn4_eq, zI_t, zI_f, zI0, x_B_zI, x_B_0, x_B_1, isIn_eq, in_eq, Bool.true_eq_false, Bool.false_eq_true, eq_self, true_and, and_true, Option.some.injEq, exists_eq_left', exists_eq_left, reduceCtorEq, not_true_eq_false, not_false_eq_true, one_ne, if_true, if_false]
  refine ⟨by omega, by omega, fun b hb => ?_⟩
  have xA1 : xE S (sA (sA (sA (sA (sA (sA (sA (sV S b 101 7) b 0 x1) b 1 x2) b 2 x3) b 3 x4) b 4 x5) b 5 x6) b 6 x7) := ((((((((xE.refl S).v hb).a hb).a hb).a hb).a hb).a hb).a hb).a hb
  have v0 : xA (sA (sA (sA (sA (sA (sA (sA (sV S b 101 7) b 0 x1) b 1 x2) b 2 x3) b 3 x4) b 4 x5) b 5 x6) b 6 x7) b 0 = x1 := by rw [xA_ni _ _ (by decide), xA_ni _ _ (by decide), xA_ni _ _ (by decide), xA_ni _ _ (by decide), xA_ni _ _ (by decide), xA_ni _ _ (by decide), xA_at]
  have v1 : xA (sA (sA (sA (sA (sA (sA (sA (sV S b 101 7) b 0 x1) b 1 x2) b 2 x3) b 3 x4) b 4 x5) b 5 x6) b 6 x7) b 1 = x2 := by rw [xA_ni _ _ (by decide), xA_ni _ _ (by decide), xA_ni _ _ (by decide), xA_ni _ _ (by decide), xA_ni _ _ (by decide), xA_at]
  have v2 : xA (sA (sA (sA (sA (sA (sA (sA (sV S b 101 7) b 0 x1) b 1 x2) b 2 x3) b 3 x4) b 4 x5) b 5 x6) b 6 x7) b 2 = x3 := by rw [xA_ni _ _ (by decide), xA_ni _ _ (by decide), xA_ni _ _ (by decide), xA_ni _ _ (by decide), xA_at]
  have v3 : xA (sA (sA (sA (sA (sA (sA (sA (sV S b 101 7) b 0 x1) b 1 x2) b 2 x3) b 3 x4) b 4 x5) b 5 x6) b 6 x7) b 3 = x4 := by rw [xA_ni _ _ (by decide), xA_ni _ _ (by decide), xA_ni _ _ (by decide), xA_at]
  have v4 : xA (sA (sA (sA (sA (sA (sA (sA (sV S b 101 7) b 0 x1) b 1 x2) b 2 x3) b 3 x4) b 4 x5) b 5 x6) b 6 x7) b 4 = x5 := by rw [xA_ni _ _ (by decide), xA_ni _ _ (by decide), xA_at]
  have v5 : xA (sA (sA (sA (sA (sA (sA (sA (sV S b 101 7) b 0 x1) b 1 x2) b 2 x3) b 3 x4) b 4 x5) b 5 x6) b 6 x7) b 5 = x6 := by rw [xA_ni _ _ (by decide), xA_at]
  have v6 : xA (sA (sA (sA (sA (sA (sA (sA (sV S b 101 7) b 0 x1) b 1 x2) b 2 x3) b 3 x4) b 4 x5) b 5 x6) b 6 x7) b 6 = x7 := by rw [xA_at]
  have tb : xT (sA (sA (sA (sA (sA (sA (sA (sV S b 101 7) b 0 x1) b 1 x2) b 2 x3) b 3 x4) b 4 x5) b 5 x6) b 6 x7) b = 101 := by simp only [xT_sI, xL_sI, xR_sI, xA_sI, xQ_sI, xT_sR, xL_sR, xI_sR, xA_sR, xQ_sR, xT_sA, xL_sA, xI_sA, xR_sA, xQ_sA, xT_sQ, xL_sQ, xI_sQ, xR_sQ, xA_sQ, xT_sB, xL_sB, xI_sB, xR_sB, xQ_sB]; exact xT_nV
  have lb : xL (sA (sA (sA (sA (sA (sA (sA (sV S b 101 7) b 0 x1) b 1 x2) b 2 x3) b 3 x4) b 4 x5) b 5 x6) b 6 x7) b = 7 := by simp only [xT_sI, xL_sI, xR_sI, xA_sI, xQ_sI, xT_sR, xL_sR, xI_sR, xA_sR, xQ_sR, xT_sA, xL_sA, xI_sA, xR_sA, xQ_sA, xT_sQ, xL_sQ, xI_sQ, xR_sQ, xA_sQ, xT_sB, xL_sB, xI_sB, xR_sB, xQ_sB]; exact xL_nV
  have nb : ∀ q, xT (sA (sA (sA (sA (sA (sA (sA (sV S b 101 7) b 0 x1) b 1 x2) b 2 x3) b 3 x4) b 4 x5) b 5 x6) b 6 x7) q = 0 → ¬ q = b ∧ xT S q = 0 := fun q hq => v_tag (t := 101) (n := 7) (by decide) (by simp only [xT_sI, xL_sI, xR_sI, xA_sI, xQ_sI, xT_sR, xL_sR, xI_sR, xA_sR, xQ_sR, xT_sA, xL_sA, xI_sA, xR_sA, xQ_sA, xT_sQ, xL_sQ, xI_sQ, xR_sQ, xA_sQ, xT_sB, xL_sB, xI_sB, xR_sB, xQ_sB] at hq; exact hq)
  have lv : xL (sV S b 101 7) b = 7 := xL_nV
  refine ⟨xT_nV, (by rw [lv]; exact vz0 (by decide) (by decide)), (by simp only [xT_sI, xL_sI, xR_sI, xA_sI, xQ_sI, xT_sR, xL_sR, xI_sR, xA_sR, xQ_sR, xT_sA, xL_sA, xI_sA, xR_sA, xQ_sA, xT_sQ, xL_sQ, xI_sQ, xR_sQ, xA_sQ, xT_sB, xL_sB, xI_sB, xR_sB, xQ_sB]; exact xT_nV), (by simp only [xT_sI, xL_sI, xR_sI, xA_sI, xQ_sI, xT_sR, xL_sR, xI_sR, xA_sR, xQ_sR, xT_sA, xL_sA, xI_sA, xR_sA, xQ_sA, xT_sQ, xL_sQ, xI_sQ, xR_sQ, xA_sQ, xT_sB, xL_sB, xI_sB, xR_sB, xQ_sB]; rw [lv]; exact vz1 (by decide) (by decide)), (by simp only [xT_sI, xL_sI, xR_sI, xA_sI, xQ_sI, xT_sR, xL_sR, xI_sR, xA_sR, xQ_sR, xT_sA, xL_sA, xI_sA, xR_sA, xQ_sA, xT_sQ, xL_sQ, xI_sQ, xR_sQ, xA_sQ, xT_sB, xL_sB, xI_sB, xR_sB, xQ_sB]; exact xT_nV), (by simp only [xT_sI, xL_sI, xR_sI, xA_sI, xQ_sI, xT_sR, xL_sR, xI_sR, xA_sR, xQ_sR, xT_sA, xL_sA, xI_sA, xR_sA, xQ_sA, xT_sQ, xL_sQ, xI_sQ, xR_sQ, xA_sQ, xT_sB, xL_sB, xI_sB, xR_sB, xQ_sB]; rw [lv]; exact vz2 (by decide) (by decide)), (by simp only [xT_sI, xL_sI, xR_sI, xA_sI, xQ_sI, xT_sR, xL_sR, xI_sR, xA_sR, xQ_sR, xT_sA, xL_sA, xI_sA, xR_sA, xQ_sA, xT_sQ, xL_sQ, xI_sQ, xR_sQ, xA_sQ, xT_sB, xL_sB, xI_sB, xR_sB, xQ_sB]; exact xT_nV), (by simp only [xT_sI, xL_sI, xR_sI, xA_sI, xQ_sI, xT_sR, xL_sR, xI_sR, xA_sR, xQ_sR, xT_sA, xL_sA, xI_sA, xR_sA, xQ_sA, xT_sQ, xL_sQ, xI_sQ, xR_sQ, xA_sQ, xT_sB, xL_sB, xI_sB, xR_sB, xQ_sB]; rw [lv]; exact vz3 (by decide) (by decide)), (by simp only [xT_sI, xL_sI, xR_sI, xA_sI, xQ_sI, xT_sR, xL_sR, xI_sR, xA_sR, xQ_sR, xT_sA, xL_sA, xI_sA, xR_sA, xQ_sA, xT_sQ, xL_sQ, xI_sQ, xR_sQ, xA_sQ, xT_sB, xL_sB, xI_sB, xR_sB, xQ_sB]; exact xT_nV), (by simp only [xT_sI, xL_sI, xR_sI, xA_sI, xQ_sI, xT_sR, xL_sR, xI_sR, xA_sR, xQ_sR, xT_sA, xL_sA, xI_sA, xR_sA, xQ_sA, xT_sQ, xL_sQ, xI_sQ, xR_sQ, xA_sQ, xT_sB, xL_sB, xI_sB, xR_sB, xQ_sB]; rw [lv]; exact vz4 (by decide) (by decide)), (by simp only [xT_sI, xL_sI, xR_sI, xA_sI, xQ_sI, xT_sR, xL_sR, xI_sR, xA_sR, xQ_sR, xT_sA, xL_sA, xI_sA, xR_sA, xQ_sA, xT_sQ, xL_sQ, xI_sQ, xR_sQ, xA_sQ, xT_sB, xL_sB, xI_sB, xR_sB, xQ_sB]; exact xT_nV), (by simp only [xT_sI, xL_sI, xR_sI, xA_sI, xQ_sI, xT_sR, xL_sR, xI_sR, xA_sR, xQ_sR, xT_sA, xL_sA, xI_sA, xR_sA, xQ_sA, xT_sQ, xL_sQ, xI_sQ, xR_sQ, xA_sQ, xT_sB, xL_sB, xI_sB, xR_sB, xQ_sB]; rw [lv]; exact vz5 (by decide) (by decide)), (by simp only [xT_sI, xL_sI, xR_sI, xA_sI, xQ_sI, xT_sR, xL_sR, xI_sR, xA_sR, xQ_sR, xT_sA, xL_sA, xI_sA, xR_sA, xQ_sA, xT_sQ, xL_sQ, xI_sQ, xR_sQ, xA_sQ, xT_sB, xL_sB, xI_sB, xR_sB, xQ_sB]; exact xT_nV), (by simp only [xT_sI, xL_sI, xR_sI, xA_sI, xQ_sI, xT_sR, xL_sR, xI_sR, xA_sR, xQ_sR, xT_sA, xL_sA, xI_sA, xR_sA, xQ_sA, xT_sQ, xL_sQ, xI_sQ, xR_sQ, xA_sQ, xT_sB, xL_sB, xI_sB, xR_sB, xQ_sB]; rw [lv]; exact vz6 (by decide) (by decide)), ?_⟩
  simp only [tc0, tc1, tc2, tc3, tc4, tc5, tc6]
  generalize (sA (sA (sA (sA (sA (sA (sA (sV S b 101 7) b 0 x1) b 1 x2) b 2 x3) b 3 x4) b 4 x5) b 5 x6) b 6 x7) = SA at *
  have gB : Inv G SA o N := h.ext xA1
  refine ⟨gB.O_t, gB.O_t, by omega, by omega, fun a ha => ⟨1, 3, by omega, by omega, ?_⟩⟩
  obtain ⟨hab, ha0⟩ := nb a ha
  have hba : ¬ b = a := fun q => hab q.symm
  simp only [w_X2_init, nm_eq]
  refine ⟨xT_nN, Nat.le_refl _, Nat.le_refl _, fun c hc => ?_⟩
  simp only [xT_sI, xL_sI, xR_sI, xA_sI, xQ_sI, xT_sR, xL_sR, xI_sR, xA_sR, xQ_sR, xT_sA, xL_sA, xI_sA, xR_sA, xQ_sA, xT_sQ, xL_sQ, xI_sQ, xR_sQ, xA_sQ, xT_sB, xL_sB, xI_sB, xR_sB, xQ_sB] at hc
  obtain ⟨hca, hc1⟩ := n_tag (t := 3) (by decide) hc
  obtain ⟨hcb, hc0⟩ := nb c hc1
  have hac : ¬ a = c := fun q => hca q.symm
  have hbc : ¬ b = c := fun q => hcb q.symm
  have y0 : xT (sN (sR (sN SA a 3) 150 a (some b)) c 4) b = 101 := ((eqc_sN (t := 4) hbc).1).trans (by simp only [xT_sI, xL_sI, xR_sI, xA_sI, xQ_sI, xT_sR, xL_sR, xI_sR, xA_sR, xQ_sR, xT_sA, xL_sA, xI_sA, xR_sA, xQ_sA, xT_sQ, xL_sQ, xI_sQ, xR_sQ, xA_sQ, xT_sB, xL_sB, xI_sB, xR_sB, xQ_sB]; exact ((eqc_sN (t := 3) hba).1).trans tb)
  have y1 : xL (sN (sR (sN SA a 3) 150 a (some b)) c 4) b = 7 := ((eqc_sN (t := 4) hbc).2.1).trans (by simp only [xT_sI, xL_sI, xR_sI, xA_sI, xQ_sI, xT_sR, xL_sR, xI_sR, xA_sR, xQ_sR, xT_sA, xL_sA, xI_sA, xR_sA, xQ_sA, xT_sQ, xL_sQ, xI_sQ, xR_sQ, xA_sQ, xT_sB, xL_sB, xI_sB, xR_sB, xQ_sB]; exact ((eqc_sN (t := 3) hba).2.1).trans lb)
  have y2 : xA (sN (sR (sN SA a 3) 150 a (some b)) c 4) b = xA SA b := ((eqc_sN (t := 4) hbc).2.2.2.2.1).trans (by simp only [xT_sI, xL_sI, xR_sI, xA_sI, xQ_sI, xT_sR, xL_sR, xI_sR, xA_sR, xQ_sR, xT_sA, xL_sA, xI_sA, xR_sA, xQ_sA, xT_sQ, xL_sQ, xI_sQ, xR_sQ, xA_sQ, xT_sB, xL_sB, xI_sB, xR_sB, xQ_sB]; exact (eqc_sN (t := 3) hba).2.2.2.2.1)
  have y3 : xT (sN (sR (sN SA a 3) 150 a (some b)) c 4) a = 3 := ((eqc_sN (t := 4) hac).1).trans (by simp only [xT_sI, xL_sI, xR_sI, xA_sI, xQ_sI, xT_sR, xL_sR, xI_sR, xA_sR, xQ_sR, xT_sA, xL_sA, xI_sA, xR_sA, xQ_sA, xT_sQ, xL_sQ, xI_sQ, xR_sQ, xA_sQ, xT_sB, xL_sB, xI_sB, xR_sB, xQ_sB]; exact xT_nN)
  have y4 : ∀ f, f ≠ 303 → f ≠ 304 → xI (sN (sR (sN SA a 3) 150 a (some b)) c 4) f a = 0 := fun f q1 q2 => ((eqc_sN (t := 4) hac).2.2.1 f q1 q2).trans (by simp only [xT_sI, xL_sI, xR_sI, xA_sI, xQ_sI, xT_sR, xL_sR, xI_sR, xA_sR, xQ_sR, xT_sA, xL_sA, xI_sA, xR_sA, xQ_sA, xT_sQ, xL_sQ, xI_sQ, xR_sQ, xA_sQ, xT_sB, xL_sB, xI_sB, xR_sB, xQ_sB]; exact xI_nN)
  have y5 : ∀ f, ¬ f = 150 → xR (sN (sR (sN SA a 3) 150 a (some b)) c 4) f a = none := fun f hf => ((eqc_sN (t := 4) hac).2.2.2.1 f).trans ((xR_nf _ _ hf).trans xR_nN)
  have y6 : xR (sN (sR (sN SA a 3) 150 a (some b)) c 4) 150 a = some b := ((eqc_sN (t := 4) hac).2.2.2.1 150).trans (xR_at _ _ _ _)
  have y7 : xT (sN (sR (sN SA a 3) 150 a (some b)) c 4) c = 4 := xT_nN
  have x3 : xE S (sN (sR (sN SA a 3) 150 a (some b)) c 4) := ((xA1.n ha).r ha0).n (by simp only [xT_sI, xL_sI, xR_sI, xA_sI, xQ_sI, xT_sR, xL_sR, xI_sR, xA_sR, xQ_sR, xT_sA, xL_sA, xI_sA, xR_sA, xQ_sA, xT_sQ, xL_sQ, xI_sQ, xR_sQ, xA_sQ, xT_sB, xL_sB, xI_sB, xR_sB, xQ_sB]; exact hc)
  refine ⟨y0, by rw [y1]; exact vz6 (by decide) (by decide), ?_⟩
  rw [y2, tc6, v6]
  generalize (sN (sR (sN SA a 3) 150 a (some b)) c 4) = S3 at *
  have g4 : Inv (Gr (Gr G b 0) a (gN G 5)) (sR (sR (sI (sI S3 200 c (-1)) 201 c x7) 202 c none) 152 a (some c)) o N := ((h.role hb).role ha0).ext ((((x3.i hc0).i hc0).r hc0).r ha0)
  have w1 : xT (sR (sR (sI (sI S3 200 c (-1)) 201 c x7) 202 c none) 152 a (some c)) a = 3 := by simp only [xT_sI, xL_sI, xR_sI, xA_sI, xQ_sI, xT_sR, xL_sR, xI_sR, xA_sR, xQ_sR, xT_sA, xL_sA, xI_sA, xR_sA, xQ_sA, xT_sQ, xL_sQ, xI_sQ, xR_sQ, xA_sQ, xT_sB, xL_sB, xI_sB, xR_sB, xQ_sB]; exact y3
  have w2 : xR (sR (sR (sI (sI S3 200 c (-1)) 201 c x7) 202 c none) 152 a (some c)) 150 a = some b := by rw [xR_nf _ _ (by decide), xR_nf _ _ (by decide)]; simp only [xT_sI, xL_sI, xR_sI, xA_sI, xQ_sI, xT_sR, xL_sR, xI_sR, xA_sR, xQ_sR, xT_sA, xL_sA, xI_sA, xR_sA, xQ_sA, xT_sQ, xL_sQ, xI_sQ, xR_sQ, xA_sQ, xT_sB, xL_sB, xI_sB, xR_sB, xQ_sB]; exact y6
  have w3 : xT (sR (sR (sI (sI S3 200 c (-1)) 201 c x7) 202 c none) 152 a (some c)) b = 101 := by simp only [xT_sI, xL_sI, xR_sI, xA_sI, xQ_sI, xT_sR, xL_sR, xI_sR, xA_sR, xQ_sR, xT_sA, xL_sA, xI_sA, xR_sA, xQ_sA, xT_sQ, xL_sQ, xI_sQ, xR_sQ, xA_sQ, xT_sB, xL_sB, xI_sB, xR_sB, xQ_sB]; exact y0
  have w4 : xL (sR (sR (sI (sI S3 200 c (-1)) 201 c x7) 202 c none) 152 a (some c)) b = 7 := by simp only [xT_sI, xL_sI, xR_sI, xA_sI, xQ_sI, xT_sR, xL_sR, xI_sR, xA_sR, xQ_sR, xT_sA, xL_sA, xI_sA, xR_sA, xQ_sA, xT_sQ, xL_sQ, xI_sQ, xR_sQ, xA_sQ, xT_sB, xL_sB, xI_sB, xR_sB, xQ_sB]; exact y1
  have w5 : xA (sR (sR (sI (sI S3 200 c (-1)) 201 c x7) 202 c none) 152 a (some c)) b = xA SA b := by simp only [xT_sI, xL_sI, xR_sI, xA_sI, xQ_sI, xT_sR, xL_sR, xI_sR, xA_sR, xQ_sR, xT_sA, xL_sA, xI_sA, xR_sA, xQ_sA, xT_sQ, xL_sQ, xI_sQ, xR_sQ, xA_sQ, xT_sB, xL_sB, xI_sB, xR_sB, xQ_sB]; exact y2
  have w6 : xI (sR (sR (sI (sI S3 200 c (-1)) 201 c x7) 202 c none) 152 a (some c)) 151 a = 0 := by simp only [xT_sI, xL_sI, xR_sI, xA_sI, xQ_sI, xT_sR, xL_sR, xI_sR, xA_sR, xQ_sR, xT_sA, xL_sA, xI_sA, xR_sA, xQ_sA, xT_sQ, xL_sQ, xI_sQ, xR_sQ, xA_sQ, xT_sB, xL_sB, xI_sB, xR_sB, xQ_sB]; rw [xI_nf _ _ (by decide), xI_nf _ _ (by decide)]; exact y4 151 (by decide) (by decide)
  have w7 : xI (sR (sR (sI (sI S3 200 c (-1)) 201 c x7) 202 c none) 152 a (some c)) 154 a = 0 := by simp only [xT_sI, xL_sI, xR_sI, xA_sI, xQ_sI, xT_sR, xL_sR, xI_sR, xA_sR, xQ_sR, xT_sA, xL_sA, xI_sA, xR_sA, xQ_sA, xT_sQ, xL_sQ, xI_sQ, xR_sQ, xA_sQ, xT_sB, xL_sB, xI_sB, xR_sB, xQ_sB]; rw [xI_nf _ _ (by decide), xI_nf _ _ (by decide)]; exact y4 154 (by decide) (by decide)
  have w8 : xR (sR (sR (sI (sI S3 200 c (-1)) 201 c x7) 202 c none) 152 a (some c)) 153 a = none := by rw [xR_nf _ _ (by decide), xR_nf _ _ (by decide)]; simp only [xT_sI, xL_sI, xR_sI, xA_sI, xQ_sI, xT_sR, xL_sR, xI_sR, xA_sR, xQ_sR, xT_sA, xL_sA, xI_sA, xR_sA, xQ_sA, xT_sQ, xL_sQ, xI_sQ, xR_sQ, xA_sQ, xT_sB, xL_sB, xI_sB, xR_sB, xQ_sB]; exact y5 153 (by decide)
  have w9 : xR (sR (sR (sI (sI S3 200 c (-1)) 201 c x7) 202 c none) 152 a (some c)) 152 a = some c := xR_at _ _ _ _
  have wa : xT (sR (sR (sI (sI S3 200 c (-1)) 201 c x7) 202 c none) 152 a (some c)) c = 4 := by simp only [xT_sI, xL_sI, xR_sI, xA_sI, xQ_sI, xT_sR, xL_sR, xI_sR, xA_sR, xQ_sR, xT_sA, xL_sA, xI_sA, xR_sA, xQ_sA, xT_sQ, xL_sQ, xI_sQ, xR_sQ, xA_sQ, xT_sB, xL_sB, xI_sB, xR_sB, xQ_sB]; exact y7
  have wb : xI (sR (sR (sI (sI S3 200 c (-1)) 201 c x7) 202 c none) 152 a (some c)) 200 c = -1 := by simp only [xT_sI, xL_sI, xR_sI, xA_sI, xQ_sI, xT_sR, xL_sR, xI_sR, xA_sR, xQ_sR, xT_sA, xL_sA, xI_sA, xR_sA, xQ_sA, xT_sQ, xL_sQ, xI_sQ, xR_sQ, xA_sQ, xT_sB, xL_sB, xI_sB, xR_sB, xQ_sB]; rw [xI_nf _ _ (by decide)]; exact xI_at _ _ _ _
  have wc : xI (sR (sR (sI (sI S3 200 c (-1)) 201 c x7) 202 c none) 152 a (some c)) 201 c = x7 := by simp only [xT_sI, xL_sI, xR_sI, xA_sI, xQ_sI, xT_sR, xL_sR, xI_sR, xA_sR, xQ_sR, xT_sA, xL_sA, xI_sA, xR_sA, xQ_sA, xT_sQ, xL_sQ, xI_sQ, xR_sQ, xA_sQ, xT_sB, xL_sB, xI_sB, xR_sB, xQ_sB]; exact xI_at _ _ _ _
  have c53 : xI (sR (sR (sI (sI S3 200 c (-1)) 201 c x7) 202 c none) 152 a (some c)) 53 o = nI (gN G 5) := g4.O_c53
  have t52 : xT (sR (sR (sI (sI S3 200 c (-1)) 201 c x7) 202 c none) 152 a (some c)) (gA G 0 52) = 103 := g4.R_t52
  have l52 : xL (sR (sR (sI (sI S3 200 c (-1)) 201 c x7) 202 c none) 152 a (some c)) (gA G 0 52) = 40 := g4.R_l52
  have to : xT (sR (sR (sI (sI S3 200 c (-1)) 201 c x7) 202 c none) 152 a (some c)) o = 1 := g4.O_t
  have w1' := w1; have t52' := t52; have l52' := l52; have to' := to; have wa' := wa
  simp only [xT_sI, xL_sI, xR_sI, xA_sI, xQ_sI, xT_sR, xL_sR, xI_sR, xA_sR, xQ_sR, xT_sA, xL_sA, xI_sA, xR_sA, xQ_sA, xT_sQ, xL_sQ, xI_sQ, xR_sQ, xA_sQ, xT_sB, xL_sB, xI_sB, xR_sB, xQ_sB] at w1' t52' l52' to' wa'
  unfold w_X3_init
  simp only [nm_eq, gB.R_r52, gB.O_c53, y7, y3, w1', t52', l52', to', wa', hvn, cn, xT_sI, xL_sI, xR_sI, xA_sI, xQ_sI, xT_sR, xL_sR, xI_sR, xA_sR, xQ_sR, xT_sA, xL_sA, xI_sA, xR_sA, xQ_sA, xT_sQ, xL_sQ, xI_sQ, xR_sQ, xA_sQ, xT_sB, xL_sB, xI_sB, xR_sB, xQ_sB, true_and, exists_eq_left', Option.some.injEq]
  have c53' := c53
  simp only [xT_sI, xL_sI, xR_sI, xA_sI, xQ_sI, xT_sR, xL_sR, xI_sR, xA_sR, xQ_sR, xT_sA, xL_sA, xI_sA, xR_sA, xQ_sA, xT_sQ, xL_sQ, xI_sQ, xR_sQ, xA_sQ, xT_sB, xL_sB, xI_sB, xR_sB, xQ_sB] at c53'
  rw [c53']
  rw [xI_at, nI_1, nI_pred]
  generalize (sR (sR (sI (sI S3 200 c (-1)) 201 c x7) 202 c none) 152 a (some c)) = S5 at *
  obtain ⟨G2, eA, eN, ra, rb, g5⟩ : ∃ G2, gA G2 = gA G ∧ gN G2 = gN G ∧ gR G2 a = gN G 5 ∧ gR G2 b = 0 ∧ Inv G2 S5 o N := ⟨Gr (Gr G b 0) a (gN G 5), rfl, rfl, Gr_at, (Gr_ne hba).trans Gr_at, g4⟩
  refine lf2_u (gN G 4 + 1) (fun i x M' => x = nI i ∧ ∃ F8, M' = mF (mF N 6 F) 8 F8 ∧ ∀ j, F8 j = if j % 40 = gN G 5 ∧ j / 40 < i then x7 else M2 N 8 j) ?_ 0 _ ⟨rfl, M2 N 8, (mF_self (M := mF N 6 F) (k := 8)).symm, fun j => by rw [if_neg (by omega)]⟩
  rintro P i x M' hi ⟨rfl, F8, rfl, k8⟩ hP
  have d4 : M1 (mF (mF N 6 F) 8 F8) 4 = nI (gN G 4) := h.O_d4
  have d5 : M1 (mF (mF N 6 F) 8 F8) 5 = nI (gN G 5) := h.O_d5
  rw [d4, d5]
  by_cases ei : i = gN G 4 + 1
  · rw [ei] at k8 ⊢
    refine wif_y (nI_lt (by omega) (by omega)) ?_
    simp only [nI_1, m1_at, nI_pred]
    clear g4 c53 c53' hP
    rw [← eN] at hlt hx7 k8 ra k0 k1 k2 k3 k4 k5 k6 k7 kk
    rw [← eN, ← eA]
    exact ⟨rfl, _, man_link g5 hlt w1 ra w2 w3 w4 rb (by rw [w5]; exact v0) (by rw [w5]; exact v1) (by rw [w5]; exact v2) (by rw [w5]; exact v3) (by rw [w5]; exact v4) (by rw [w5]; exact v5) (by rw [w5]; exact v6) p0 p1 p2 p3 p4 p5 p6 hx7 w6 w7 w8 w9 wa wb wc k0 k1 k2 k3 k4 k5 k6 k7 kk k8⟩
  · refine wif_n (nI_nlt (by omega) (by omega)) ?_
    have vq : vp_in (nI (40 * i + gN G 5)) 36000 := vp_in_nI (by omega) (by decide)
    simp only [im40, nI_add, vq, nI_clamp (show 40 * i + gN G 5 < 2 ^ 31 by omega), m2_mF, true_and]
    refine hP _ _ (by omega) ⟨nI_1 i, _, rfl, fun j => ?_⟩
    by_cases ej : j = 40 * i + gN G 5
    · rw [if_pos ej, if_pos (by omega)]
    · rw [if_neg ej, k8]
      by_cases ec : j % 40 = gN G 5 ∧ j / 40 < i
      · rw [if_pos ec, if_pos (by omega)]
      · rw [if_neg ec, if_neg (by omega)]
end
