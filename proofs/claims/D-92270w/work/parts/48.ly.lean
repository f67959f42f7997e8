set_option maxRecDepth 100000
section
variable {G : xG} {S : xH} {o : Nat} {M : xM} {x y z v w : Int32} {t m a b n c : Nat}
/-- a new act is laid to the others -/
def GA (G : xG) (a b : Nat) : xG := (x_u2 (x_u2 (gA G) 6 (gN G 17) a) 7 (gN G 17) b, gR G, va_up (gN G) 17 (gN G 17 + 1))
theorem act_link (h : Inv G S o M) (hn : gN G 17 < 8) (ta : xT S a = 6) (ra : gR G a = gN G 17) (i0 : xI S 300 a = x) (r1 : xR S 301 a = some b) (tb : xT S b = 101) (lb : xL S b = 60) (rb : gR G b = 10 + gN G 17) (i2 : xI S 302 a = 0) : Inv (GA G a b) (sI (sQ S (gA G 0 59) (gN G 17) (some a)) 60 o (nI (gN G 17 + 1))) o (m1 (m2 M 18 (gN G 17) x) 17 (nI (gN G 17 + 1))) := by
  have E : ∀ t, t ≠ 105 → t ≠ 1 → ∀ b, xT S b = t → eqc S (sI (sQ S (gA G 0 59) (gN G 17) (some a)) 60 o (nI (gN G 17 + 1))) b := fun t h1 h2 b hb => (eqc_sQ (fun e => h1 (by rw [← hb, e, h.R_t59]))).trans (eqc_sI (fun e => h2 (by rw [← hb, e, h.O_t])))
  have hO : iO (GA G a b) (sI (sQ S (gA G 0 59) (gN G 17) (some a)) 60 o (nI (gN G 17 + 1))) o (m1 (m2 M 18 (gN G 17) x) 17 (nI (gN G 17 + 1))) := ⟨h.O_t, h.O_c50, h.O_c53, h.O_c54, h.O_c58, (by rw [xI_at]; rfl), h.O_c62, h.O_c63, h.O_c65, h.O_c67, h.O_c55, h.O_c56, h.O_d1, h.O_d5, h.O_d4, h.O_d15, (by rfl), h.O_d22, h.O_d24, h.O_d9, h.O_d31, h.O_n0, h.O_n1, h.O_n5, h.O_n4, h.O_n9, h.O_n15, (show gN G 17 + 1 ≤ 8 from hn), h.O_n22, h.O_n24, h.O_n31⟩
  have hA : iA (GA G a b) (sI (sQ S (gA G 0 59) (gN G 17) (some a)) 60 o (nI (gN G 17 + 1))) o (m1 (m2 M 18 (gN G 17) x) 17 (nI (gN G 17 + 1))) := by
    intro s hb
    replace hb : s < gN G 17 + 1 := hb
    by_cases e : s = gN G 17
    · subst e
      have eA : gA (GA G a b) 6 (gN G 17) = a := g2_at (g := gA G) (k := 6)
      have eB : gA (GA G a b) 7 (gN G 17) = b := g2_at (g := x_u2 (gA G) 6 (gN G 17) a) (k := 7)
      have k0 : M2 (m1 (m2 M 18 (gN G 17) x) 17 (nI (gN G 17 + 1))) 18 (gN G 17) = x := m2_at (M := M) (k := 18)
      have k1 : M2 (m1 (m2 M 18 (gN G 17) x) 17 (nI (gN G 17 + 1))) 19 (gN G 17) = 0 := h.Z_a (gN G 17) (Nat.le_refl _) hn
      rw [eA, eB, k0, k1]
      exact ⟨xQ_at S _ _ _, ta, ra, i0, r1, tb, lb, rb, i2, vz0 (by decide) (by decide), fun j hj => absurd hj (by rw [tc0]; omega)⟩
    · have eA : gA (GA G a b) 6 s = gA G 6 s := g2_ne (g := gA G) (k := 6) e
      have eB : gA (GA G a b) 7 s = gA G 7 s := g2_ne (g := x_u2 (gA G) 6 (gN G 17) a) (k := 7) e
      have hb' : s < gN G 17 := by omega
      have k0 : M2 (m1 (m2 M 18 (gN G 17) x) 17 (nI (gN G 17 + 1))) 18 s = M2 M 18 s := m2_ne (M := M) (k := 18) e
      rw [eA, eB, k0]
      exact ⟨(xQ_ni S _ e).trans (h.A_q hb'), h.A_T hb', h.A_r hb', h.A_fr hb', h.A_sg hb', h.A_sT hb', h.A_sL hb', h.A_sr hb', h.A_ct hb', h.A_cn hb', h.A_sv hb'⟩
  have hZ : iZ (GA G a b) (sI (sQ S (gA G 0 59) (gN G 17) (some a)) 60 o (nI (gN G 17 + 1))) o (m1 (m2 M 18 (gN G 17) x) 17 (nI (gN G 17 + 1))) := ⟨h.Z_l, h.Z_g, h.Z_s, fun t' h1 h2 => h.Z_a t' (show gN G 17 ≤ t' from Nat.le_of_succ_le h1) h2, h.Z_t⟩
  exact ⟨hO, h.iR, (fr_W (G := G) (M := M) h (E _ (by decide) (by decide)) (E _ (by decide) (by decide))), (fr_M (G := G) (M := M) h (E _ (by decide) (by decide)) (E _ (by decide) (by decide)) (E _ (by decide) (by decide)) (fun b hb => E 101 (by decide) (by decide) b hb.1)), (fr_P (G := G) (M := M) h (E _ (by decide) (by decide)) (E _ (by decide) (by decide)) (fun b hb => E 101 (by decide) (by decide) b hb.1)), hA, (fr_K (G := G) (M := M) h (E _ (by decide) (by decide)) (E _ (by decide) (by decide))), (fr_S (G := G) (M := M) h (E _ (by decide) (by decide)) (E _ (by decide) (by decide))), (fr_T (G := G) (M := M) h (E _ (by decide) (by decide)) (E _ (by decide) (by decide))), h.iU, hZ⟩
theorem n_tag {S : xH} {a b t : Nat} (ht : t ≠ 0) (h : xT (sN S a t) b = 0) : ¬ b = a ∧ xT S b = 0 := by
  by_cases e : b = a
  · rw [e, xT_nN] at h
    exact absurd h ht
  · exact ⟨e, by rw [← (eqc_sN (t := t) e).1]; exact h⟩
theorem v_tag {S : xH} {a b t n : Nat} (ht : t ≠ 0) (h : xT (sV S a t n) b = 0) : ¬ b = a ∧ xT S b = 0 := by
  by_cases e : b = a
  · rw [e, xT_nV] at h
    exact absurd h ht
  · exact ⟨e, by rw [← (eqc_sV (t := t) (n := n) e).1]; exact h⟩
theorem Gr_ne {r : Nat} (h : ¬ b = a) : gR (Gr G a r) b = gR G b := if_neg h
theorem e_act (h : Inv G S o M) {k n : Nat} (hk : 2 ≤ k) (hn : 66 ≤ n) : w_X0_act k n S o x (fun r S' => w_X1_act M x (fun r' M' => xF o r S' r' M')) := by
  simp only [w_X1_act, nm_eq]
  generalize hN : m1 M 0 0 = N
  replace h : Inv G S o N := by rw [← hN]; exact h.m0
  have n17 := h.O_n17
  cases h1 : rg x 0 899
  · simp only [w_X0_act, c_isTide, m_noTide, h1, Bool.not_false, wif_T, wif_F, nm_eq, jn_eq, jn0_eq, jn2_eq, jn3_eq, jn4_eq, zI_t, zI_f, zI0, x_B_zI, x_B_0, x_B_1, isIn_eq, in_eq, Bool.true_eq_false, Bool.false_eq_true, eq_self, true_and, and_true, Option.some.injEq, exists_eq_left', exists_eq_left, reduceCtorEq, not_true_eq_false, not_false_eq_true, one_ne, if_true, if_false]
    exact ⟨rfl, G, h⟩
  by_cases e : gN G 17 = 8
  · have e40 : (nI (gN G 17) = 8) = True := eq_true (by rw [e]; rfl)
    simp only [w_X0_act, c_isTide, m_noTide, h1, h.O_t, h.O_c60, h.O_d17, e40, Bool.not_true, wif_T, wif_F, nm_eq, jn_eq, jn0_eq, jn2_eq, jn3_eq, jn4_eq, zI_t, zI_f, zI0, x_B_zI, x_B_0, x_B_1, isIn_eq, in_eq, Bool.true_eq_false, Bool.false_eq_true, eq_self, true_and, and_true, Option.some.injEq, exists_eq_left', exists_eq_left, reduceCtorEq, not_true_eq_false, not_false_eq_true, one_ne, if_true, if_false]
    exact ⟨rfl, G, h⟩
  have hlt : gN G 17 < 8 := by omega
  have e40 : (nI (gN G 17) = 8) = False := eq_false (fun q => e ((eqk_8 (by omega)).mp q))
  have hvn : vp_in (nI (gN G 17)) 8 := vp_in_nI (by omega) (by decide)
  have cn := nI_clamp (show gN G 17 < 2 ^ 31 by omega)
  simp only [w_X0_act, c_isTide, m_noTide, h1, h.O_t, h.O_c60, h.O_d17, e40, Bool.not_true, wif_T, wif_F, nm_eq, jn_eq, jn0_eq, jn2_eq, jn3_eq, jn4_eq, zI_t, zI_f, zI0, x_B_zI, x_B_0, x_B_1, isIn_eq, in_eq, Bool.true_eq_false, Bool.false_eq_true, eq_self, true_and, and_true, Option.some.injEq, exists_eq_left', exists_eq_left, reduceCtorEq, not_true_eq_false, not_false_eq_true, one_ne, if_true, if_false]
  refine ⟨by omega, by omega, fun a ha => ⟨1, 60, by omega, by omega, ?_⟩⟩
  simp only [w_X5_init, nm_eq]
  refine ⟨xT_nN, Nat.le_refl _, Nat.le_refl _, fun b hb => ?_⟩
  obtain ⟨hba, hb0⟩ := n_tag (t := 6) (by decide) (show xT (sN S a 6) b = 0 from hb)
  have hab : ¬ a = b := fun q => hba q.symm
  have g4 : Inv (Gr (Gr G a (gN G 17)) b (10 + gN G 17)) (sI (sR (sV (sR (sN S a 6) 305 a (some o)) b 101 60) 301 a (some b)) 300 a x) o N := ((h.role ha).role hb0).ext (((((((xE.refl S).n ha).r ha).v hb).r ha).i ha))
  have f := act_link g4 hlt (a := a) (b := b) (x := x) (by simp [sI, sR, sA, sQ, sN, sV, xI, xR, xT, xL, xA, xQ, x_u2, va_up, hab]) ((Gr_ne hab).trans Gr_at) (by simp [sI, sR, sA, sQ, sN, sV, xI, xR, xT, xL, xA, xQ, x_u2, va_up]) (by simp [sI, sR, sA, sQ, sN, sV, xI, xR, xT, xL, xA, xQ, x_u2, va_up]) (by simp [sI, sR, sA, sQ, sN, sV, xI, xR, xT, xL, xA, xQ, x_u2, va_up]) (by simp [sI, sR, sA, sQ, sN, sV, xI, xR, xT, xL, xA, xQ, x_u2, va_up]) Gr_at (by simp [sI, sR, sA, sQ, sN, sV, xI, xR, xT, xL, xA, xQ, x_u2, va_up])
  have c60 : xI (sI (sR (sV (sR (sN S a 6) 305 a (some o)) b 101 60) 301 a (some b)) 300 a x) 60 o = nI (gN G 17) := g4.O_c60
  have ta : xT (sV (sR (sN S a 6) 305 a (some o)) b 101 60) a = 6 := by simp [sI, sR, sA, sQ, sN, sV, xI, xR, xT, xL, xA, xQ, x_u2, va_up, hab]
  have to : xT (sI (sR (sV (sR (sN S a 6) 305 a (some o)) b 101 60) 301 a (some b)) 300 a x) o = 1 := g4.O_t
  have tt : xT (sI (sR (sV (sR (sN S a 6) 305 a (some o)) b 101 60) 301 a (some b)) 300 a x) (gA G 0 59) = 105 := g4.R_t59
  have tl : xL (sI (sR (sV (sR (sN S a 6) 305 a (some o)) b 101 60) 301 a (some b)) 300 a x) (gA G 0 59) = 8 := g4.R_l59
  simp only [xT_sI, xL_sI, xR_sI, xA_sI, xQ_sI, xT_sR, xL_sR, xI_sR, xA_sR, xQ_sR, xT_sA, xL_sA, xI_sA, xR_sA, xQ_sA, xT_sQ, xL_sQ, xI_sQ, xR_sQ, xA_sQ, xT_sB, xL_sB, xI_sB, xR_sB, xQ_sB] at to tt tl
  simp only [ta, to, tt, tl, h.R_r59, hvn, cn, M1_m2, h.O_d17, m1_at, c60, xI_at, nI_1, nI_pred, xT_sI, xL_sI, xR_sI, xA_sI, xQ_sI, xT_sR, xL_sR, xI_sR, xA_sR, xQ_sR, xT_sA, xL_sA, xI_sA, xR_sA, xQ_sA, xT_sQ, xL_sQ, xI_sQ, xR_sQ, xA_sQ, xT_sB, xL_sB, xI_sB, xR_sB, xQ_sB, wif_T, wif_F, nm_eq, jn_eq, jn0_eq, jn2_eq, jn3_eq, jn4_eq, zI_t, zI_f, zI0, x_B_zI, x_B_0, x_B_1, isIn_eq, in_eq, Bool.true_eq_false, Bool.false_eq_true, eq_self, true_and, and_true, Option.some.injEq, exists_eq_left', exists_eq_left, reduceCtorEq, not_true_eq_false, not_false_eq_true, one_ne, if_true, if_false]
  exact ⟨rfl, _, f⟩
theorem sign_inv (h : Inv G S o M) (ha : a < gN G 17) (hc : M2 M 19 a = nI c) (hc6 : c < 60) : Inv G (sI (sA S (gA G 7 a) c v) 302 (gA G 6 a) (nI (c + 1))) o (m2 (m2 M 20 (60 * a + c) v) 19 a (nI (c + 1))) := by
  have E : ∀ t, t ≠ 101 → t ≠ 6 → ∀ b, xT S b = t → eqc S (sI (sA S (gA G 7 a) c v) 302 (gA G 6 a) (nI (c + 1))) b := fun t h1 h2 b hb => (eqc_sA (fun e => h1 (by rw [← hb, e, h.A_sT ha]))).trans (eqc_sI (fun e => h2 (by rw [← hb, e, h.A_T ha])))
  have E2 : ∀ b, xT S b = 101 → gR G b < 10 → eqc S (sI (sA S (gA G 7 a) c v) 302 (gA G 6 a) (nI (c + 1))) b := fun b hb hr => (eqc_sA (fun e => by rw [e, h.A_sr ha] at hr; omega)).trans (eqc_sI (fun e => by rw [e, h.A_T ha] at hb; exact absurd hb (by decide)))
  have hA : iA G (sI (sA S (gA G 7 a) c v) 302 (gA G 6 a) (nI (c + 1))) o (m2 (m2 M 20 (60 * a + c) v) 19 a (nI (c + 1))) := by
    intro s hs
    by_cases e : s = a
    · subst e
      have k0 : M2 (m2 (m2 M 20 (60 * s + c) v) 19 s (nI (c + 1))) 19 s = nI (c + 1) := m2_at
      rw [k0]
      refine ⟨h.A_q hs, h.A_T hs, h.A_r hs, h.A_fr hs, h.A_sg hs, h.A_sT hs, h.A_sL hs, h.A_sr hs, xI_at _ _ _ _, vp_in_nI (by omega) (by decide), fun j hj => ?_⟩
      rw [nI_clamp (by omega)] at hj
      by_cases ej : j = c
      · rw [ej]
        exact (xA_at S _ _ _).trans (m2_at (M := M) (k := 20)).symm
      · have := h.A_sv hs j (by rw [hc, nI_clamp (by omega)]; omega)
        exact ((xA_ni S v ej).trans this).trans (m2_ne (M := M) (k := 20) (show ¬ 60 * s + j = 60 * s + c by omega)).symm
    · have n6 : gA G 6 s ≠ gA G 6 a := fun q => e (by have := congrArg (gR G) q; rw [h.A_r hs, h.A_r ha] at this; exact this)
      have n7 : gA G 7 s ≠ gA G 7 a := fun q => e (by have := congrArg (gR G) q; rw [h.A_sr hs, h.A_sr ha] at this; omega)
      have k0 : M2 (m2 (m2 M 20 (60 * a + c) v) 19 a (nI (c + 1))) 19 s = M2 M 19 s := m2_ne e
      rw [k0]
      have cs := vi_c (h.A_cn hs)
      refine ⟨h.A_q hs, h.A_T hs, h.A_r hs, h.A_fr hs, h.A_sg hs, h.A_sT hs, h.A_sL hs, h.A_sr hs, ((eqc_sI n6).2.2.1 302 (by decide) (by decide)).trans (h.A_ct hs), h.A_cn hs, fun j hj => ?_⟩
      exact ((congrFun (xA_na S v n7) j).trans (h.A_sv hs j hj)).trans (m2_ne (M := M) (k := 20) (show ¬ 60 * s + j = 60 * a + c by omega)).symm
  have hZ : iZ G (sI (sA S (gA G 7 a) c v) 302 (gA G 6 a) (nI (c + 1))) o (m2 (m2 M 20 (60 * a + c) v) 19 a (nI (c + 1))) := ⟨h.Z_l, h.Z_g, h.Z_s, fun t' h1 h2 => by rw [m2_ne (by omega)]; exact h.Z_a t' h1 h2, h.Z_t⟩
  exact ⟨h.iO, h.iR, (fr_W (G := G) (M := M) h (E _ (by decide) (by decide)) (E _ (by decide) (by decide))), (fr_M (G := G) (M := M) h (E _ (by decide) (by decide)) (E _ (by decide) (by decide)) (E _ (by decide) (by decide)) (fun b hb => E2 b hb.1 (by omega))), (fr_P (G := G) (M := M) h (E _ (by decide) (by decide)) (E _ (by decide) (by decide)) (fun b hb => E2 b hb.1 (by omega))), hA, (fr_K (G := G) (M := M) h (E _ (by decide) (by decide)) (E _ (by decide) (by decide))), (fr_S (G := G) (M := M) h (E _ (by decide) (by decide)) (E _ (by decide) (by decide))), (fr_T (G := G) (M := M) h (E _ (by decide) (by decide)) (E _ (by decide) (by decide))), (fr_U (G := G) (M := M) h (fun b hb => E2 b hb.1 (by omega))), hZ⟩
theorem e_sign (h : Inv G S o M) : w_X0_sign S o x y (fun r S' => w_X1_sign M x y (fun r' M' => xF o r S' r' M')) := by
  simp only [w_X1_sign, nm_eq]
  generalize hN : m1 M 0 0 = N
  replace h : Inv G S o N := by rw [← hN]; exact h.m0
  have n17 := h.O_n17
  cases h1 : rg x 0 (nI (gN G 17) - 1)
  · simp only [w_X0_sign, c_isAct h, h.O_d17, l64_0, h1, h.O_t, wif_T, wif_F, nm_eq, jn_eq, jn0_eq, jn2_eq, jn3_eq, jn4_eq, zI_t, zI_f, zI0, x_B_zI, x_B_0, x_B_1, isIn_eq, in_eq, Bool.true_eq_false, Bool.false_eq_true, eq_self, true_and, and_true, Option.some.injEq, exists_eq_left', exists_eq_left, reduceCtorEq, not_true_eq_false, not_false_eq_true, one_ne, if_true, if_false]
    exact ⟨rfl, G, h⟩
  cases h2 : rg y 33 126
  · simp only [w_X0_sign, c_isAct h, h.O_d17, l64_0, l64_33, l64_126, h1, h2, h.O_t, wif_T, wif_F, nm_eq, jn_eq, jn0_eq, jn2_eq, jn3_eq, jn4_eq, zI_t, zI_f, zI0, x_B_zI, x_B_0, x_B_1, isIn_eq, in_eq, Bool.true_eq_false, Bool.false_eq_true, eq_self, true_and, and_true, Option.some.injEq, exists_eq_left', exists_eq_left, reduceCtorEq, not_true_eq_false, not_false_eq_true, one_ne, if_true, if_false]
    exact ⟨rfl, G, h⟩
  obtain ⟨a, ha, rfl⟩ := c_ax h h1
  have hv : vp_in (nI a) 8 := vp_in_nI (by omega) (by decide)
  obtain ⟨c, hc, ec⟩ := vp_in_of (h.A_cn ha) (by decide)
  by_cases e : c = 60
  · have e60 : (nI c = 60) = True := eq_true (by rw [e]; rfl)
    simp only [w_X0_sign, c_isAct h, h.O_d17, l64_0, l64_33, l64_126, h1, h2, h.O_t, h.R_r59, h.R_t59, h.R_l59, hv, h.A_q ha, h.A_T ha, h.A_ct ha, ec, e60, nI_clamp (show a < 2 ^ 31 by omega), wif_T, wif_F, nm_eq, jn_eq, jn0_eq, jn2_eq, jn3_eq, jn4_eq, zI_t, zI_f, zI0, x_B_zI, x_B_0, x_B_1, isIn_eq, in_eq, Bool.true_eq_false, Bool.false_eq_true, eq_self, true_and, and_true, Option.some.injEq, exists_eq_left', exists_eq_left, reduceCtorEq, not_true_eq_false, not_false_eq_true, one_ne, if_true, if_false]
    exact ⟨rfl, G, h⟩
  have e60 : (nI c = 60) = False := eq_false (fun q => e ((eqk_60 (by omega)).mp q))
  have hvc : vp_in (nI c) 60 := vp_in_nI (by omega) (by decide)
  have hvq : vp_in (nI (60 * a + c)) 480 := vp_in_nI (by omega) (by decide)
  have f := sign_inv h ha ec (v := y) (by omega)
  have k19 : M2 (m2 N 20 (60 * a + c) y) 19 a = nI c := ec
  simp only [w_X0_sign, c_isAct h, h.O_d17, l64_0, l64_33, l64_126, h1, h2, h.O_t, h.R_r59, h.R_t59, h.R_l59, hv, h.A_q ha, h.A_T ha, h.A_ct ha, ec, e60, h.A_sg ha, h.A_sT ha, h.A_sL ha, hvc, hvq, im60, nI_add, k19, nI_clamp (show a < 2 ^ 31 by omega), nI_clamp (show c < 2 ^ 31 by omega), nI_clamp (show 60 * a + c < 2 ^ 31 by omega), m2_at, xI_at, nI_1, xT_sI, xL_sI, xR_sI, xA_sI, xQ_sI, xT_sR, xL_sR, xI_sR, xA_sR, xQ_sR, xT_sA, xL_sA, xI_sA, xR_sA, xQ_sA, xT_sQ, xL_sQ, xI_sQ, xR_sQ, xA_sQ, xT_sB, xL_sB, xI_sB, xR_sB, xQ_sB, wif_T, wif_F, nm_eq, jn_eq, jn0_eq, jn2_eq, jn3_eq, jn4_eq, zI_t, zI_f, zI0, x_B_zI, x_B_0, x_B_1, isIn_eq, in_eq, Bool.true_eq_false, Bool.false_eq_true, eq_self, true_and, and_true, Option.some.injEq, exists_eq_left', exists_eq_left, reduceCtorEq, not_true_eq_false, not_false_eq_true, one_ne, if_true, if_false]
  exact ⟨rfl, _, f⟩
end
