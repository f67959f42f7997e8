set_option maxRecDepth 100000
section
variable {G : xG} {S : xH} {o : Nat} {M : xM} {x1 x2 x3 x4 x5 x6 x7 x8 x9 : Int32} {m a b n c : Nat}
theorem mF_only {X N : xM} {k : Nat} (h1 : X.1 = N.1) (h2 : ∀ j, ¬ j = k → M2 X j = M2 N j) : X = mF N k (M2 X k) := by
  refine Prod.ext h1 ?_
  funext j
  show M2 X j = va_up N.2 k (M2 X k) j
  unfold va_up
  by_cases e : j = k
  · rw [if_pos e, e]
  · rw [if_neg e]; exact h2 j e
theorem pap_F {i : Nat} : ∃ F, (m2 (m2 (m2 (m2 (m2 (m2 (m2 (m2 (m2 M 16 (i) x1) 16 (i + 1) x2) 16 (i + 2) x3) 16 (i + 3) x4) 16 (i + 4) x5) 16 (i + 5) x6) 16 (i + 6) x7) 16 (i + 7) x8) 16 (i + 8) x9) = mF M 16 F ∧ F (i) = x1 ∧ F (i + 1) = x2 ∧ F (i + 2) = x3 ∧ F (i + 3) = x4 ∧ F (i + 4) = x5 ∧ F (i + 5) = x6 ∧ F (i + 6) = x7 ∧ F (i + 7) = x8 ∧ F (i + 8) = x9 ∧ (∀ j, j < i → F j = M2 M 16 j) := by
  refine ⟨M2 (m2 (m2 (m2 (m2 (m2 (m2 (m2 (m2 (m2 M 16 (i) x1) 16 (i + 1) x2) 16 (i + 2) x3) 16 (i + 3) x4) 16 (i + 4) x5) 16 (i + 5) x6) 16 (i + 6) x7) 16 (i + 7) x8) 16 (i + 8) x9) 16, mF_only rfl (fun j e => ?_), ?_, ?_, ?_, ?_, ?_, ?_, ?_, ?_, ?_, fun j hj => ?_⟩
  · funext q
    rw [m2_nk e, m2_nk e, m2_nk e, m2_nk e, m2_nk e, m2_nk e, m2_nk e, m2_nk e, m2_nk e]
  · rw [m2_ne (by omega), m2_ne (by omega), m2_ne (by omega), m2_ne (by omega), m2_ne (by omega), m2_ne (by omega), m2_ne (by omega), m2_ne (by omega), m2_at]
  · rw [m2_ne (by omega), m2_ne (by omega), m2_ne (by omega), m2_ne (by omega), m2_ne (by omega), m2_ne (by omega), m2_ne (by omega), m2_at]
  · rw [m2_ne (by omega), m2_ne (by omega), m2_ne (by omega), m2_ne (by omega), m2_ne (by omega), m2_ne (by omega), m2_at]
  · rw [m2_ne (by omega), m2_ne (by omega), m2_ne (by omega), m2_ne (by omega), m2_ne (by omega), m2_at]
  · rw [m2_ne (by omega), m2_ne (by omega), m2_ne (by omega), m2_ne (by omega), m2_at]
  · rw [m2_ne (by omega), m2_ne (by omega), m2_ne (by omega), m2_at]
  · rw [m2_ne (by omega), m2_ne (by omega), m2_at]
  · rw [m2_ne (by omega), m2_at]
  · rw [m2_at]
  · rw [m2_ne (by omega), m2_ne (by omega), m2_ne (by omega), m2_ne (by omega), m2_ne (by omega), m2_ne (by omega), m2_ne (by omega), m2_ne (by omega), m2_ne (by omega)]
def GP (G : xG) (a b : Nat) : xG := (x_u2 (x_u2 (gA G) 4 (gN G 15) a) 5 (gN G 15) b, gR G, va_up (gN G) 15 (gN G 15 + 1))
theorem paper_link {F : Nat → Int32} (h : Inv G S o M) (hn : gN G 15 < 60) (hm : m < gN G 5) (e1 : x1 = nI m) (ta : xT S a = 5) (r0 : xR S 250 a = some (gA G 2 m)) (i1 : xI S 251 a = x2) (i2 : xI S 252 a = x3) (r3 : xR S 253 a = some b) (tb : xT S b = 101) (lb : xL S b = 6) (rb : gR G b = 1) (v0 : xA S b 0 = x4) (v1 : xA S b 1 = x5) (v2 : xA S b 2 = x6) (v3 : xA S b 3 = x7) (v4 : xA S b 4 = x8) (v5 : xA S b 5 = x9) (k0 : F (9 * gN G 15) = x1) (k1 : F (9 * gN G 15 + 1) = x2) (k2 : F (9 * gN G 15 + 2) = x3) (k3 : F (9 * gN G 15 + 3) = x4) (k4 : F (9 * gN G 15 + 4) = x5) (k5 : F (9 * gN G 15 + 5) = x6) (k6 : F (9 * gN G 15 + 6) = x7) (k7 : F (9 * gN G 15 + 7) = x8) (k8 : F (9 * gN G 15 + 8) = x9) (kk : ∀ i, i < 9 * gN G 15 → F i = M2 M 16 i) : Inv (GP G a b) (sI (sQ S (gA G 0 57) (gN G 15) (some a)) 58 o (nI (gN G 15 + 1))) o (m1 (mF M 16 F) 15 (nI (gN G 15 + 1))) := by
  have n5 := h.O_n5
  have E : ∀ t, t ≠ 104 → t ≠ 1 → ∀ b, xT S b = t → eqc S (sI (sQ S (gA G 0 57) (gN G 15) (some a)) 58 o (nI (gN G 15 + 1))) b := fun t h1 h2 b hb => (eqc_sQ (fun e => h1 (by rw [← hb, e, h.R_t57]))).trans (eqc_sI (fun e => h2 (by rw [← hb, e, h.O_t])))
  have hO : iO (GP G a b) (sI (sQ S (gA G 0 57) (gN G 15) (some a)) 58 o (nI (gN G 15 + 1))) o (m1 (mF M 16 F) 15 (nI (gN G 15 + 1))) := ⟨h.O_t, h.O_c50, h.O_c53, h.O_c54, (by rw [xI_at]; rfl), h.O_c60, h.O_c62, h.O_c63, h.O_c65, h.O_c67, h.O_c55, h.O_c56, h.O_d1, h.O_d5, h.O_d4, (by rfl), h.O_d17, h.O_d22, h.O_d24, h.O_d9, h.O_d31, h.O_n0, h.O_n1, h.O_n5, h.O_n4, h.O_n9, (show gN G 15 + 1 ≤ 60 from hn), h.O_n17, h.O_n22, h.O_n24, h.O_n31⟩
  have KF : ∀ i, M2 (m1 (mF M 16 F) 15 (nI (gN G 15 + 1))) 16 i = F i := fun i => congrFun (mF_at (M := M) (k := 16)) i
  have hP : iP (GP G a b) (sI (sQ S (gA G 0 57) (gN G 15) (some a)) 58 o (nI (gN G 15 + 1))) o (m1 (mF M 16 F) 15 (nI (gN G 15 + 1))) := by
    intro p hb
    replace hb : p < gN G 15 + 1 := hb
    simp only [KF]
    by_cases e : p = gN G 15
    · rw [e]
      have eA : gA (GP G a b) 4 (gN G 15) = a := g2_at (g := gA G) (k := 4)
      have eB : gA (GP G a b) 5 (gN G 15) = b := g2_at (g := x_u2 (gA G) 4 (gN G 15) a) (k := 5)
      rw [eA, eB, k0, k1, k2, e1, nI_clamp (by omega)]
      refine ⟨xQ_at S _ _ _, ta, r0, (show vp_in (nI m) (gN G 5) from vp_in_nI hm (by omega)), i1, i2, r3, tb, lb, rb, fun j hj => ?_⟩
      have : j = 0 ∨ j = 1 ∨ j = 2 ∨ j = 3 ∨ j = 4 ∨ j = 5 := by omega
      rcases this with rfl | rfl | rfl | rfl | rfl | rfl
      · exact v0.trans k3.symm
      · exact v1.trans k4.symm
      · exact v2.trans k5.symm
      · exact v3.trans k6.symm
      · exact v4.trans k7.symm
      · exact v5.trans k8.symm
    · have eA : gA (GP G a b) 4 p = gA G 4 p := g2_ne (g := gA G) (k := 4) e
      have eB : gA (GP G a b) 5 p = gA G 5 p := g2_ne (g := x_u2 (gA G) 4 (gN G 15) a) (k := 5) e
      have hb' : p < gN G 15 := by omega
      rw [eA, eB, kk (9 * p) (by omega), kk (9 * p + 1) (by omega), kk (9 * p + 2) (by omega)]
      exact ⟨(xQ_ni S _ e).trans (h.P_q hb'), h.P_T hb', h.P_of hb', h.P_om hb', h.P_ha hb', h.P_sc hb', h.P_sp hb', h.P_sT hb', h.P_sL hb', h.P_sr hb', fun j hj => (h.P_sv hb' j hj).trans (kk (9 * p + 3 + j) (by omega)).symm⟩
  exact ⟨hO, h.iR, (fr_W (G := G) (M := M) h (E _ (by decide) (by decide)) (E _ (by decide) (by decide))), (fr_M (G := G) (M := M) h (E _ (by decide) (by decide)) (E _ (by decide) (by decide)) (E _ (by decide) (by decide)) (fun b hb => E 101 (by decide) (by decide) b hb.1)), hP, (fr_A (G := G) (M := M) h (E _ (by decide) (by decide)) (E _ (by decide) (by decide)) (fun b hb => E 101 (by decide) (by decide) b hb.1)), (fr_K (G := G) (M := M) h (E _ (by decide) (by decide)) (E _ (by decide) (by decide))), (fr_S (G := G) (M := M) h (E _ (by decide) (by decide)) (E _ (by decide) (by decide))), (fr_T (G := G) (M := M) h (E _ (by decide) (by decide)) (E _ (by decide) (by decide))), h.iU, h.iZ⟩
theorem c_mark {S : xH} {x : Int32} {Q : Int32 → Prop} : w_X0_isMark S x Q = Q (zI (decide (x = -9) || rg x 0 3)) := by
  unfold w_X0_isMark
  by_cases e : x = -9
  · rw [decide_eq_true e]; exact propext ⟨fun h => h.1 e, fun h => wif_y e h⟩
  · simp only [e, decide_false, Bool.false_or, wz_p, wif_T, wif_F, nm_eq, jn_eq, jn0_eq, jn2_eq, jn3_eq, jn4_eq, zI_t, zI_f, zI0, x_B_zI, x_B_0, x_B_1, isIn_eq, in_eq, Bool.true_eq_false, Bool.false_eq_true, eq_self, true_and, and_true, Option.some.injEq, exists_eq_left', exists_eq_left, reduceCtorEq, not_true_eq_false, not_false_eq_true, one_ne, if_true, if_false]
theorem m_look {M : xM} {x : Int32} {Q : Int32 → Prop} : w_X1_badLook M x Q = Q (zI (!(decide (x = -9) || rg x 0 3))) := by
  unfold w_X1_badLook
  by_cases e : x = -9
  · rw [decide_eq_true e]; exact propext ⟨fun h => h.1 e, fun h => wif_y e h⟩
  · simp only [e, decide_false, Bool.false_or, l64_0, l64_3, wz_n, wif_T, wif_F, nm_eq, jn_eq, jn0_eq, jn2_eq, jn3_eq, jn4_eq, zI_t, zI_f, zI0, x_B_zI, x_B_0, x_B_1, isIn_eq, in_eq, Bool.true_eq_false, Bool.false_eq_true, eq_self, true_and, and_true, Option.some.injEq, exists_eq_left', exists_eq_left, reduceCtorEq, not_true_eq_false, not_false_eq_true, one_ne, if_true, if_false]
theorem c_areIn {S : xH} {x y z : Int32} {Q : Int32 → Prop} : w_X0_areIn S x y z Q = Q (zI (rg x 0 y && decide (y ≤ z))) := by
  simp only [w_X0_areIn, wif_T, wif_F, nm_eq, jn_eq, jn0_eq, jn2_eq, jn3_eq, jn4_eq, zI_t, zI_f, zI0, x_B_zI, x_B_0, x_B_1, isIn_eq, in_eq, Bool.true_eq_false, Bool.false_eq_true, eq_self, true_and, and_true, Option.some.injEq, exists_eq_left', exists_eq_left, reduceCtorEq, not_true_eq_false, not_false_eq_true, one_ne, if_true, if_false]
  cases rg x 0 y
  · simp only [wif_T, Bool.false_and, zI_f, eq_self]
  · simp only [Bool.true_eq_false, wif_F, Bool.true_and, wz_lt]
theorem m_span {M : xM} {x y z : Int32} {Q : Int32 → Prop} : w_X1_badSpan M x y z Q = Q (zI (!(rg x 0 y && decide (y ≤ z)))) := by
  simp only [w_X1_badSpan, l64_0, wif_T, wif_F, nm_eq, jn_eq, jn0_eq, jn2_eq, jn3_eq, jn4_eq, zI_t, zI_f, zI0, x_B_zI, x_B_0, x_B_1, isIn_eq, in_eq, Bool.true_eq_false, Bool.false_eq_true, eq_self, true_and, and_true, Option.some.injEq, exists_eq_left', exists_eq_left, reduceCtorEq, not_true_eq_false, not_false_eq_true, one_ne, if_true, if_false]
  cases rg x 0 y
  · simp only [wif_T, Bool.false_and, Bool.not_false, zI_t, eq_self]
  · by_cases e : y ≤ z
    · simp only [e, Bool.true_eq_false, wif_F, wif_T, decide_true, Bool.true_and, Bool.not_true, zI_f]
    · simp only [e, Bool.true_eq_false, wif_F, decide_false, Bool.true_and, Bool.not_false, zI_t]
theorem e_paper (h : Inv G S o M) {k n : Nat} (hk : 2 ≤ k) (hn : 10 ≤ n) : w_X0_paper k n S o x1 x2 x3 x4 x5 x6 x7 x8 x9 (fun r S' => w_X1_paper M x1 x2 x3 x4 x5 x6 x7 x8 x9 (fun r' M' => xF o r S' r' M')) := by
  simp only [w_X1_paper, nm_eq]
  generalize hN : m1 M 0 0 = N
  replace h : Inv G S o N := by rw [← hN]; exact h.m0
  have n5 := h.O_n5
  have n15 := h.O_n15
  cases h1 : (rg x1 0 (nI (gN G 5) - 1))
  · simp only [w_X0_paper, c_isMan h, m_noMan h.mI, c_mark, m_look, c_areIn, m_span, h1, h.O_t, Bool.not_false, Bool.not_true, wif_T, wif_F, nm_eq, jn_eq, jn0_eq, jn2_eq, jn3_eq, jn4_eq, zI_t, zI_f, zI0, x_B_zI, x_B_0, x_B_1, isIn_eq, in_eq, Bool.true_eq_false, Bool.false_eq_true, eq_self, true_and, and_true, Option.some.injEq, exists_eq_left', exists_eq_left, reduceCtorEq, not_true_eq_false, not_false_eq_true, one_ne, if_true, if_false]
    exact ⟨rfl, G, h⟩
  cases h2 : (decide (x2 = -9) || rg x2 0 3)
  · simp only [w_X0_paper, c_isMan h, m_noMan h.mI, c_mark, m_look, c_areIn, m_span, h1, h2, h.O_t, Bool.not_false, Bool.not_true, wif_T, wif_F, nm_eq, jn_eq, jn0_eq, jn2_eq, jn3_eq, jn4_eq, zI_t, zI_f, zI0, x_B_zI, x_B_0, x_B_1, isIn_eq, in_eq, Bool.true_eq_false, Bool.false_eq_true, eq_self, true_and, and_true, Option.some.injEq, exists_eq_left', exists_eq_left, reduceCtorEq, not_true_eq_false, not_false_eq_true, one_ne, if_true, if_false]
    exact ⟨rfl, G, h⟩
  cases h3 : (decide (x3 = -9) || rg x3 0 3)
  · simp only [w_X0_paper, c_isMan h, m_noMan h.mI, c_mark, m_look, c_areIn, m_span, h1, h2, h3, h.O_t, Bool.not_false, Bool.not_true, wif_T, wif_F, nm_eq, jn_eq, jn0_eq, jn2_eq, jn3_eq, jn4_eq, zI_t, zI_f, zI0, x_B_zI, x_B_0, x_B_1, isIn_eq, in_eq, Bool.true_eq_false, Bool.false_eq_true, eq_self, true_and, and_true, Option.some.injEq, exists_eq_left', exists_eq_left, reduceCtorEq, not_true_eq_false, not_false_eq_true, one_ne, if_true, if_false]
    exact ⟨rfl, G, h⟩
  cases h4 : (rg x4 0 x5 && decide (x5 ≤ 99))
  · simp only [w_X0_paper, c_isMan h, m_noMan h.mI, c_mark, m_look, c_areIn, m_span, h1, h2, h3, h4, h.O_t, Bool.not_false, Bool.not_true, wif_T, wif_F, nm_eq, jn_eq, jn0_eq, jn2_eq, jn3_eq, jn4_eq, zI_t, zI_f, zI0, x_B_zI, x_B_0, x_B_1, isIn_eq, in_eq, Bool.true_eq_false, Bool.false_eq_true, eq_self, true_and, and_true, Option.some.injEq, exists_eq_left', exists_eq_left, reduceCtorEq, not_true_eq_false, not_false_eq_true, one_ne, if_true, if_false]
    exact ⟨rfl, G, h⟩
  cases h5 : (rg x6 0 x7 && decide (x7 ≤ 99))
  · simp only [w_X0_paper, c_isMan h, m_noMan h.mI, c_mark, m_look, c_areIn, m_span, h1, h2, h3, h4, h5, h.O_t, Bool.not_false, Bool.not_true, wif_T, wif_F, nm_eq, jn_eq, jn0_eq, jn2_eq, jn3_eq, jn4_eq, zI_t, zI_f, zI0, x_B_zI, x_B_0, x_B_1, isIn_eq, in_eq, Bool.true_eq_false, Bool.false_eq_true, eq_self, true_and, and_true, Option.some.injEq, exists_eq_left', exists_eq_left, reduceCtorEq, not_true_eq_false, not_false_eq_true, one_ne, if_true, if_false]
    exact ⟨rfl, G, h⟩
  cases h6 : (rg x8 0 x9 && decide (x9 ≤ 899))
  · simp only [w_X0_paper, c_isMan h, m_noMan h.mI, c_mark, m_look, c_areIn, m_span, h1, h2, h3, h4, h5, h6, h.O_t, Bool.not_false, Bool.not_true, wif_T, wif_F, nm_eq, jn_eq, jn0_eq, jn2_eq, jn3_eq, jn4_eq, zI_t, zI_f, zI0, x_B_zI, x_B_0, x_B_1, isIn_eq, in_eq, Bool.true_eq_false, Bool.false_eq_true, eq_self, true_and, and_true, Option.some.injEq, exists_eq_left', exists_eq_left, reduceCtorEq, not_true_eq_false, not_false_eq_true, one_ne, if_true, if_false]
    exact ⟨rfl, G, h⟩
  obtain ⟨m, hm, e1⟩ := c_ix h h1
  by_cases e : gN G 15 = 60
  · have e60 : (nI (gN G 15) = 60) = True := eq_true (by rw [e]; rfl)
    simp only [w_X0_paper, c_isMan h, m_noMan h.mI, c_mark, m_look, c_areIn, m_span, h1, h2, h3, h4, h5, h6, h.O_t, h.O_c58, h.O_d15, e60, Bool.not_true, wif_T, wif_F, nm_eq, jn_eq, jn0_eq, jn2_eq, jn3_eq, jn4_eq, zI_t, zI_f, zI0, x_B_zI, x_B_0, x_B_1, isIn_eq, in_eq, Bool.true_eq_false, Bool.false_eq_true, eq_self, true_and, and_true, Option.some.injEq, exists_eq_left', exists_eq_left, reduceCtorEq, not_true_eq_false, not_false_eq_true, one_ne, if_true, if_false]
    exact ⟨rfl, G, h⟩
  have hlt : gN G 15 < 60 := by omega
  have e60 : (nI (gN G 15) = 60) = False := eq_false (fun q => e ((eqk_60 (by omega)).mp q))
  have hv : vp_in x1 40 := by rw [e1]; exact vp_in_nI (by omega) (by decide)
  have hc : x1.toNatClampNeg = m := by rw [e1]; exact nI_clamp (by omega)
  have hvn : vp_in (nI (gN G 15)) 60 := vp_in_nI (by omega) (by decide)
  have cn := nI_clamp (show gN G 15 < 2 ^ 31 by omega)
  have PP : ∀ j, j < 9 → vp_in (nI (9 * gN G 15 + j)) 540 ∧ (nI (9 * gN G 15 + j)).toNatClampNeg = 9 * gN G 15 + j := fun j hj => ⟨vp_in_nI (by omega) (by decide), nI_clamp (by omega)⟩
  have P0 : vp_in (nI (9 * gN G 15)) 540 ∧ (nI (9 * gN G 15)).toNatClampNeg = 9 * gN G 15 := PP 0 (by decide)
  obtain ⟨F, eF, k0, k1, k2, k3, k4, k5, k6, k7, k8, kk⟩ := pap_F (M := N) (i := 9 * gN G 15) (x1 := x1) (x2 := x2) (x3 := x3) (x4 := x4) (x5 := x5) (x6 := x6) (x7 := x7) (x8 := x8) (x9 := x9)
  simp only [w_X0_paper, c_isMan h, m_noMan h.mI, c_mark, m_look, c_areIn, m_span, h1, h2, h3, h4, h5, h6, h.O_t, h.O_c58, h.O_d15, e60, im9, nI_1, ia2, ia3, ia4, ia5, ia6, ia7, ia8, P0, PP 1 (by decide), PP 2 (by decide), PP 3 (by decide), PP 4 (by decide), PP 5 (by decide), PP 6 (by decide), PP 7 (by decide), PP 8 (by decide), M1_m2, m1_at, nI_pred, eF, Bool.not_true, wif_T, wif_F, nm_eq, jn_eq, jn0_eq, jn2_eq, jn3_eq, jn4_eq, zI_t, zI_f, zI0, x_B_zI, x_B_0, x_B_1, isIn_eq, in_eq, Bool.true_eq_false, Bool.false_eq_true, eq_self, true_and, and_true, Option.some.injEq, exists_eq_left', exists_eq_left, reduceCtorEq, not_true_eq_false, not_false_eq_true, one_ne, if_true, if_false]
  refine ⟨by omega, by omega, fun b hb => ?_⟩
  have xA1 : xE S (sA (sA (sA (sA (sA (sA (sV S b 101 6) b 0 x4) b 1 x5) b 2 x6) b 3 x7) b 4 x8) b 5 x9) := (((((((xE.refl S).v hb).a hb).a hb).a hb).a hb).a hb).a hb
  have v0 : xA (sA (sA (sA (sA (sA (sA (sV S b 101 6) b 0 x4) b 1 x5) b 2 x6) b 3 x7) b 4 x8) b 5 x9) b 0 = x4 := by rw [xA_ni _ _ (by decide), xA_ni _ _ (by decide), xA_ni _ _ (by decide), xA_ni _ _ (by decide), xA_ni _ _ (by decide), xA_at]
  have v1 : xA (sA (sA (sA (sA (sA (sA (sV S b 101 6) b 0 x4) b 1 x5) b 2 x6) b 3 x7) b 4 x8) b 5 x9) b 1 = x5 := by rw [xA_ni _ _ (by decide), xA_ni _ _ (by decide), xA_ni _ _ (by decide), xA_ni _ _ (by decide), xA_at]
  have v2 : xA (sA (sA (sA (sA (sA (sA (sV S b 101 6) b 0 x4) b 1 x5) b 2 x6) b 3 x7) b 4 x8) b 5 x9) b 2 = x6 := by rw [xA_ni _ _ (by decide), xA_ni _ _ (by decide), xA_ni _ _ (by decide), xA_at]
  have v3 : xA (sA (sA (sA (sA (sA (sA (sV S b 101 6) b 0 x4) b 1 x5) b 2 x6) b 3 x7) b 4 x8) b 5 x9) b 3 = x7 := by rw [xA_ni _ _ (by decide), xA_ni _ _ (by decide), xA_at]
  have v4 : xA (sA (sA (sA (sA (sA (sA (sV S b 101 6) b 0 x4) b 1 x5) b 2 x6) b 3 x7) b 4 x8) b 5 x9) b 4 = x8 := by rw [xA_ni _ _ (by decide), xA_at]
  have v5 : xA (sA (sA (sA (sA (sA (sA (sV S b 101 6) b 0 x4) b 1 x5) b 2 x6) b 3 x7) b 4 x8) b 5 x9) b 5 = x9 := by rw [xA_at]
  have tb : xT (sA (sA (sA (sA (sA (sA (sV S b 101 6) b 0 x4) b 1 x5) b 2 x6) b 3 x7) b 4 x8) b 5 x9) b = 101 := by simp only [xT_sI, xL_sI, xR_sI, xA_sI, xQ_sI, xT_sR, xL_sR, xI_sR, xA_sR, xQ_sR, xT_sA, xL_sA, xI_sA, xR_sA, xQ_sA, xT_sQ, xL_sQ, xI_sQ, xR_sQ, xA_sQ, xT_sB, xL_sB, xI_sB, xR_sB, xQ_sB]; exact xT_nV
  have lb : xL (sA (sA (sA (sA (sA (sA (sV S b 101 6) b 0 x4) b 1 x5) b 2 x6) b 3 x7) b 4 x8) b 5 x9) b = 6 := by simp only [xT_sI, xL_sI, xR_sI, xA_sI, xQ_sI, xT_sR, xL_sR, xI_sR, xA_sR, xQ_sR, xT_sA, xL_sA, xI_sA, xR_sA, xQ_sA, xT_sQ, xL_sQ, xI_sQ, xR_sQ, xA_sQ, xT_sB, xL_sB, xI_sB, xR_sB, xQ_sB]; exact xL_nV
  have nb : ∀ q, xT (sA (sA (sA (sA (sA (sA (sV S b 101 6) b 0 x4) b 1 x5) b 2 x6) b 3 x7) b 4 x8) b 5 x9) q = 0 → ¬ q = b ∧ xT S q = 0 := fun q hq => v_tag (t := 101) (n := 6) (by decide) (by simp only [xT_sI, xL_sI, xR_sI, xA_sI, xQ_sI, xT_sR, xL_sR, xI_sR, xA_sR, xQ_sR, xT_sA, xL_sA, xI_sA, xR_sA, xQ_sA, xT_sQ, xL_sQ, xI_sQ, xR_sQ, xA_sQ, xT_sB, xL_sB, xI_sB, xR_sB, xQ_sB] at hq; exact hq)
  have lv : xL (sV S b 101 6) b = 6 := xL_nV
  refine ⟨xT_nV, (by rw [lv]; exact vz0 (by decide) (by decide)), (by simp only [xT_sI, xL_sI, xR_sI, xA_sI, xQ_sI, xT_sR, xL_sR, xI_sR, xA_sR, xQ_sR, xT_sA, xL_sA, xI_sA, xR_sA, xQ_sA, xT_sQ, xL_sQ, xI_sQ, xR_sQ, xA_sQ, xT_sB, xL_sB, xI_sB, xR_sB, xQ_sB]; exact xT_nV), (by simp only [xT_sI, xL_sI, xR_sI, xA_sI, xQ_sI, xT_sR, xL_sR, xI_sR, xA_sR, xQ_sR, xT_sA, xL_sA, xI_sA, xR_sA, xQ_sA, xT_sQ, xL_sQ, xI_sQ, xR_sQ, xA_sQ, xT_sB, xL_sB, xI_sB, xR_sB, xQ_sB]; rw [lv]; exact vz1 (by decide) (by decide)), (by simp only [xT_sI, xL_sI, xR_sI, xA_sI, xQ_sI, xT_sR, xL_sR, xI_sR, xA_sR, xQ_sR, xT_sA, xL_sA, xI_sA, xR_sA, xQ_sA, xT_sQ, xL_sQ, xI_sQ, xR_sQ, xA_sQ, xT_sB, xL_sB, xI_sB, xR_sB, xQ_sB]; exact xT_nV), (by simp only [xT_sI, xL_sI, xR_sI, xA_sI, xQ_sI, xT_sR, xL_sR, xI_sR, xA_sR, xQ_sR, xT_sA, xL_sA, xI_sA, xR_sA, xQ_sA, xT_sQ, xL_sQ, xI_sQ, xR_sQ, xA_sQ, xT_sB, xL_sB, xI_sB, xR_sB, xQ_sB]; rw [lv]; exact vz2 (by decide) (by decide)), (by simp only [xT_sI, xL_sI, xR_sI, xA_sI, xQ_sI, xT_sR, xL_sR, xI_sR, xA_sR, xQ_sR, xT_sA, xL_sA, xI_sA, xR_sA, xQ_sA, xT_sQ, xL_sQ, xI_sQ, xR_sQ, xA_sQ, xT_sB, xL_sB, xI_sB, xR_sB, xQ_sB]; exact xT_nV), (by simp only [xT_sI, xL_sI, xR_sI, xA_sI, xQ_sI, xT_sR, xL_sR, xI_sR, xA_sR, xQ_sR, xT_sA, xL_sA, xI_sA, xR_sA, xQ_sA, xT_sQ, xL_sQ, xI_sQ, xR_sQ, xA_sQ, xT_sB, xL_sB, xI_sB, xR_sB, xQ_sB]; rw [lv]; exact vz3 (by decide) (by decide)), (by simp only [xT_sI, xL_sI, xR_sI, xA_sI, xQ_sI, xT_sR, xL_sR, xI_sR, xA_sR, xQ_sR, xT_sA, xL_sA, xI_sA, xR_sA, xQ_sA, xT_sQ, xL_sQ, xI_sQ, xR_sQ, xA_sQ, xT_sB, xL_sB, xI_sB, xR_sB, xQ_sB]; exact xT_nV), (by simp only [xT_sI, xL_sI, xR_sI, xA_sI, xQ_sI, xT_sR, xL_sR, xI_sR, xA_sR, xQ_sR, xT_sA, xL_sA, xI_sA, xR_sA, xQ_sA, xT_sQ, xL_sQ, xI_sQ, xR_sQ, xA_sQ, xT_sB, xL_sB, xI_sB, xR_sB, xQ_sB]; rw [lv]; exact vz4 (by decide) (by decide)), (by simp only [xT_sI, xL_sI, xR_sI, xA_sI, xQ_sI, xT_sR, xL_sR, xI_sR, xA_sR, xQ_sR, xT_sA, xL_sA, xI_sA, xR_sA, xQ_sA, xT_sQ, xL_sQ, xI_sQ, xR_sQ, xA_sQ, xT_sB, xL_sB, xI_sB, xR_sB, xQ_sB]; exact xT_nV), (by simp only [xT_sI, xL_sI, xR_sI, xA_sI, xQ_sI, xT_sR, xL_sR, xI_sR, xA_sR, xQ_sR, xT_sA, xL_sA, xI_sA, xR_sA, xQ_sA, xT_sQ, xL_sQ, xI_sQ, xR_sQ, xA_sQ, xT_sB, xL_sB, xI_sB, xR_sB, xQ_sB]; rw [lv]; exact vz5 (by decide) (by decide)), ?_⟩
  simp only [tc0, tc1, tc2, tc3, tc4, tc5]
  generalize (sA (sA (sA (sA (sA (sA (sV S b 101 6) b 0 x4) b 1 x5) b 2 x6) b 3 x7) b 4 x8) b 5 x9) = SA at *
  have gB : Inv G SA o N := h.ext xA1
  refine ⟨gB.O_t, gB.O_t, by omega, by omega, fun a ha => ?_⟩
  obtain ⟨hab, ha0⟩ := nb a ha
  have hba : ¬ b = a := fun q => hab q.symm
  have g1 : Inv G (sN SA a 5) o N := h.ext (xA1.n ha)
  have g4 : Inv (Gr (Gr G b 1) a 0) (sR (sI (sI (sR (sN SA a 5) 250 a (some (gA G 2 m))) 251 a x2) 252 a x3) 253 a (some b)) o N := ((h.role hb).role ha0).ext (((((xA1.n ha).r ha0).i ha0).i ha0).r ha0)
  have c58 : xI (sR (sI (sI (sR (sN SA a 5) 250 a (some (gA G 2 m))) 251 a x2) 252 a x3) 253 a (some b)) 58 o = nI (gN G 15) := g4.O_c58
  have c58' : xI (sI (sI (sR (sN SA a 5) 250 a (some (gA G 2 m))) 251 a x2) 252 a x3) 58 o = nI (gN G 15) := by have q := c58; simp only [xT_sI, xL_sI, xR_sI, xA_sI, xQ_sI, xT_sR, xL_sR, xI_sR, xA_sR, xQ_sR, xT_sA, xL_sA, xI_sA, xR_sA, xQ_sA, xT_sQ, xL_sQ, xI_sQ, xR_sQ, xA_sQ, xT_sB, xL_sB, xI_sB, xR_sB, xQ_sB] at q; exact q
  have d15 : M1 (mF N 16 F) 15 = nI (gN G 15) := h.O_d15
  simp only [w_X4_init, nm_eq, g1.O_t, g1.R_r52, g1.R_t52, g1.R_l52, g1.M_q hm, hv, hc, xT_nN, g1.R_t57, g1.R_l57, gB.R_r57, gB.O_c58, hvn, cn, c58, c58', d15, xI_at, nI_1, nI_pred, xT_sI, xL_sI, xR_sI, xA_sI, xQ_sI, xT_sR, xL_sR, xI_sR, xA_sR, xQ_sR, xT_sA, xL_sA, xI_sA, xR_sA, xQ_sA, xT_sQ, xL_sQ, xI_sQ, xR_sQ, xA_sQ, xT_sB, xL_sB, xI_sB, xR_sB, xQ_sB, wif_T, wif_F, nm_eq, jn_eq, jn0_eq, jn2_eq, jn3_eq, jn4_eq, zI_t, zI_f, zI0, x_B_zI, x_B_0, x_B_1, isIn_eq, in_eq, Bool.true_eq_false, Bool.false_eq_true, eq_self, true_and, and_true, Option.some.injEq, exists_eq_left', exists_eq_left, reduceCtorEq, not_true_eq_false, not_false_eq_true, one_ne, if_true, if_false]
  have w1 : xT (sR (sI (sI (sR (sN SA a 5) 250 a (some (gA G 2 m))) 251 a x2) 252 a x3) 253 a (some b)) a = 5 := by simp only [xT_sI, xL_sI, xR_sI, xA_sI, xQ_sI, xT_sR, xL_sR, xI_sR, xA_sR, xQ_sR, xT_sA, xL_sA, xI_sA, xR_sA, xQ_sA, xT_sQ, xL_sQ, xI_sQ, xR_sQ, xA_sQ, xT_sB, xL_sB, xI_sB, xR_sB, xQ_sB]; exact xT_nN
  have w2 : xR (sR (sI (sI (sR (sN SA a 5) 250 a (some (gA G 2 m))) 251 a x2) 252 a x3) 253 a (some b)) 250 a = some (gA G 2 m) := by rw [xR_nf _ _ (by decide)]; simp only [xT_sI, xL_sI, xR_sI, xA_sI, xQ_sI, xT_sR, xL_sR, xI_sR, xA_sR, xQ_sR, xT_sA, xL_sA, xI_sA, xR_sA, xQ_sA, xT_sQ, xL_sQ, xI_sQ, xR_sQ, xA_sQ, xT_sB, xL_sB, xI_sB, xR_sB, xQ_sB]; exact xR_at _ _ _ _
  have w3 : xI (sR (sI (sI (sR (sN SA a 5) 250 a (some (gA G 2 m))) 251 a x2) 252 a x3) 253 a (some b)) 251 a = x2 := by simp only [xT_sI, xL_sI, xR_sI, xA_sI, xQ_sI, xT_sR, xL_sR, xI_sR, xA_sR, xQ_sR, xT_sA, xL_sA, xI_sA, xR_sA, xQ_sA, xT_sQ, xL_sQ, xI_sQ, xR_sQ, xA_sQ, xT_sB, xL_sB, xI_sB, xR_sB, xQ_sB]; rw [xI_nf _ _ (by decide)]; exact xI_at _ _ _ _
  have w4 : xI (sR (sI (sI (sR (sN SA a 5) 250 a (some (gA G 2 m))) 251 a x2) 252 a x3) 253 a (some b)) 252 a = x3 := by simp only [xT_sI, xL_sI, xR_sI, xA_sI, xQ_sI, xT_sR, xL_sR, xI_sR, xA_sR, xQ_sR, xT_sA, xL_sA, xI_sA, xR_sA, xQ_sA, xT_sQ, xL_sQ, xI_sQ, xR_sQ, xA_sQ, xT_sB, xL_sB, xI_sB, xR_sB, xQ_sB]; exact xI_at _ _ _ _
  have w5 : xR (sR (sI (sI (sR (sN SA a 5) 250 a (some (gA G 2 m))) 251 a x2) 252 a x3) 253 a (some b)) 253 a = some b := xR_at _ _ _ _
  have w6 : xT (sR (sI (sI (sR (sN SA a 5) 250 a (some (gA G 2 m))) 251 a x2) 252 a x3) 253 a (some b)) b = 101 := by simp only [xT_sI, xL_sI, xR_sI, xA_sI, xQ_sI, xT_sR, xL_sR, xI_sR, xA_sR, xQ_sR, xT_sA, xL_sA, xI_sA, xR_sA, xQ_sA, xT_sQ, xL_sQ, xI_sQ, xR_sQ, xA_sQ, xT_sB, xL_sB, xI_sB, xR_sB, xQ_sB]; exact ((eqc_sN (t := 5) hba).1).trans tb
  have w7 : xL (sR (sI (sI (sR (sN SA a 5) 250 a (some (gA G 2 m))) 251 a x2) 252 a x3) 253 a (some b)) b = 6 := by simp only [xT_sI, xL_sI, xR_sI, xA_sI, xQ_sI, xT_sR, xL_sR, xI_sR, xA_sR, xQ_sR, xT_sA, xL_sA, xI_sA, xR_sA, xQ_sA, xT_sQ, xL_sQ, xI_sQ, xR_sQ, xA_sQ, xT_sB, xL_sB, xI_sB, xR_sB, xQ_sB]; exact ((eqc_sN (t := 5) hba).2.1).trans lb
  have w8 : xA (sR (sI (sI (sR (sN SA a 5) 250 a (some (gA G 2 m))) 251 a x2) 252 a x3) 253 a (some b)) b = xA SA b := by simp only [xT_sI, xL_sI, xR_sI, xA_sI, xQ_sI, xT_sR, xL_sR, xI_sR, xA_sR, xQ_sR, xT_sA, xL_sA, xI_sA, xR_sA, xQ_sA, xT_sQ, xL_sQ, xI_sQ, xR_sQ, xA_sQ, xT_sB, xL_sB, xI_sB, xR_sB, xQ_sB]; exact (eqc_sN (t := 5) hba).2.2.2.2.1
  generalize (sR (sI (sI (sR (sN SA a 5) 250 a (some (gA G 2 m))) 251 a x2) 252 a x3) 253 a (some b)) = S2 at *
  obtain ⟨G2, eA, eN, rb, g5⟩ : ∃ G2, gA G2 = gA G ∧ gN G2 = gN G ∧ gR G2 b = 1 ∧ Inv G2 S2 o N := ⟨Gr (Gr G b 1) a 0, rfl, rfl, (Gr_ne hba).trans Gr_at, g4⟩
  clear g4 c58 c58'
  rw [← eN] at hlt hm k0 k1 k2 k3 k4 k5 k6 k7 k8 kk
  rw [← eA] at w2
  rw [← eN, ← eA]
  exact ⟨rfl, _, paper_link g5 hlt hm e1 w1 w2 w3 w4 w5 w6 w7 rb (by rw [w8]; exact v0) (by rw [w8]; exact v1) (by rw [w8]; exact v2) (by rw [w8]; exact v3) (by rw [w8]; exact v4) (by rw [w8]; exact v5) k0 k1 k2 k3 k4 k5 k6 k7 k8 kk⟩
end
