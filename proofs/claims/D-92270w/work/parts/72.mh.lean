set_option maxRecDepth 100000
section
variable {G : xG} {M : xM} {S : xH} {o p g h : Nat}
theorem c_init (h0 : Inv G S o M) (hp : xT S p = 0) (hg1 : 1 ≤ g) (hg : g ≤ 2) (hh1 : 1 ≤ h) (hh : h ≤ 3) {k n : Nat} (hk : 553 ≤ k) (hn : 1180 ≤ n) {Q : xH → Prop} (q : ∀ S', xE S S' → lyF S' p (g * h) (gN G 1) (bst (vlu (tcn G M (gN G 5)) (dst (adj M)) (gN G 1) h g) 0 (-9, 0) (gN G 1 ^ (g * h))) → Q S') : w_X17_init k n (sN S p 18) p o (nI g) (nI h) Q := by
  have hL : g * h ≤ 6 := Nat.le_trans (Nat.mul_le_mul hg hh) (by decide)
  unfold w_X17_init
  rw [pk_mul, nI_clamp (show g * h < 2 ^ 31 by omega)]
  refine ⟨xT_nN, ?_⟩
  intro S1 e1
  have E1 : xE S S1 := by rw [e1]; exact ((xE.refl S).n hp).r hp
  have V1 : lyV S1 o p [] := by
    rw [e1]
    exact ⟨by rw [xT_sR]; exact xT_nN, xR_at _ _ _ _, fun e he => absurd he (by simp)⟩
  have J1 : ∀ f, xI S1 f p = 0 := fun f => by rw [e1, xI_sR]; exact xI_nN
  clear e1
  refine ⟨by omega, by omega, fun c0 h0' => ?_⟩
  intro S3 e3
  have t3 : xT S3 p = 18 := by rw [e3]; exact lyV_t V1 h0'
  refine ⟨t3, ?_⟩
  intro S4 e4
  rw [e3] at e4
  have z0 := E1.z h0'
  have E4 : xE S S4 := by rw [e4]; exact (E1.v h0').r hp
  have V4 : lyV S4 o p [(902, c0, 101, 8)] := by rw [e4]; exact lyV_v V1 h0' (by decide) (by simp) (by decide)
  have J4 : ∀ f, xI S4 f p = 0 := fun f => by rw [e4, xI_sR, xI_sV]; exact J1 f
  clear e4 e3 t3 S3 J1 V1 E1 h0' S1
  refine ⟨by omega, by omega, fun c1 h1' => ?_⟩
  intro S6 e6
  have t6 : xT S6 p = 18 := by rw [e6]; exact lyV_t V4 h1'
  refine ⟨t6, ?_⟩
  intro S7 e7
  rw [e6] at e7
  have z1 := E4.z h1'
  have E7 : xE S S7 := by rw [e7]; exact (E4.v h1').r hp
  have V7 : lyV S7 o p [(903, c1, 110, 8), (902, c0, 101, 8)] := by rw [e7]; exact lyV_v V4 h1' (by decide) (by simp) (by decide)
  have J7 : ∀ f, xI S7 f p = 0 := fun f => by rw [e7, xI_sR, xI_sV]; exact J4 f
  clear e7 e6 t6 S6 J4 V4 E4 h1' S4
  refine ⟨V7.1, ?_⟩
  intro S8 e8
  have E8 : xE S S8 := by rw [e8]; exact E7.i hp
  have V8 : lyV S8 o p [(903, c1, 110, 8), (902, c0, 101, 8)] := by rw [e8]; exact lyV_i V7
  have J8 : xI S8 906 p = -9 ∧ xI S8 907 p = 0 := by
    rw [e8]
    exact ⟨xI_at _ _ _ _, by rw [xI_nf _ _ (by decide)]; exact J7 907⟩
  clear e8 J7 V7 E7 S7
  refine ⟨by omega, by omega, fun c2 h2' => ?_⟩
  intro S10 e10
  have t10 : xT S10 p = 18 := by rw [e10]; exact lyV_t V8 h2'
  refine ⟨t10, ?_⟩
  intro S11 e11
  rw [e10] at e11
  have z2 := E8.z h2'
  have d02 : c0 ≠ c2 := lyV_ne V8 h2' (e := (902, c0, 101, 8)) (by simp)
  have E11 : xE S S11 := by rw [e11]; exact (E8.v h2').r hp
  have V11 : lyV S11 o p [(908, c2, 101, 8), (903, c1, 110, 8), (902, c0, 101, 8)] := by rw [e11]; exact lyV_v V8 h2' (by decide) (by simp) (by decide)
  have J11 : xI S11 906 p = -9 ∧ xI S11 907 p = 0 := by rw [e11, xI_sR, xI_sV]; exact J8
  clear e11 e10 t10 S10 J8 V8 E8 h2' S8
  refine ⟨V11.1, ?_⟩
  intro S12 e12
  have V12 : lyV S12 o p [(908, c2, 101, 8), (903, c1, 110, 8), (902, c0, 101, 8)] := by rw [e12]; exact lyV_i V11
  refine ⟨V12.1, ?_⟩
  intro S13 e13
  have V13 : lyV S13 o p [(908, c2, 101, 8), (903, c1, 110, 8), (902, c0, 101, 8)] := by rw [e13]; exact lyV_i V12
  have E13 : xE S S13 := by rw [e13, e12]; exact (E11.i hp).i hp
  have J13 : xI S13 906 p = -9 ∧ xI S13 907 p = 0 ∧ xI S13 900 p = nI g ∧ xI S13 901 p = nI h := by
    rw [e13, e12]
    refine ⟨?_, ?_, ?_, xI_at _ _ _ _⟩
    · rw [xI_nf _ _ (by decide), xI_nf _ _ (by decide)]; exact J11.1
    · rw [xI_nf _ _ (by decide), xI_nf _ _ (by decide)]; exact J11.2
    · rw [xI_nf _ _ (by decide)]; exact xI_at _ _ _ _
  clear e13 e12 V12 V11 J11 E11 S12 S11
  refine ⟨kneg (by omega), by omega, by omega, by omega, fun c3 h3' => ?_⟩
  intro S15 e15
  have t15 : xT S15 p = 18 := by rw [e15]; exact lyV_t V13 h3'
  refine ⟨t15, ?_⟩
  intro S16 e16
  rw [e15] at e16
  have z3 := E13.z h3'
  have d03 : c0 ≠ c3 := lyV_ne V13 h3' (e := (902, c0, 101, 8)) (by simp)
  have d23 : c2 ≠ c3 := lyV_ne V13 h3' (e := (908, c2, 101, 8)) (by simp)
  have E16 : xE S S16 := by rw [e16]; exact (E13.v h3').r hp
  have V16 : lyV S16 o p [(904, c3, 101, g * h), (908, c2, 101, 8), (903, c1, 110, 8), (902, c0, 101, 8)] := by rw [e16]; exact lyV_v V13 h3' (by decide) (by simp) (by decide)
  have J16 : xI S16 906 p = -9 ∧ xI S16 907 p = 0 ∧ xI S16 900 p = nI g ∧ xI S16 901 p = nI h := by rw [e16, xI_sR, xI_sV]; exact J13
  clear e16 e15 t15 S15 J13 V13 E13 h3' S13
  refine ⟨kneg (by omega), by omega, by omega, by omega, fun c4 h4' => ?_⟩
  intro S18 e18
  have t18 : xT S18 p = 18 := by rw [e18]; exact lyV_t V16 h4'
  refine ⟨t18, ?_⟩
  intro S19 e19
  rw [e18] at e19
  have z4 := E16.z h4'
  have d04 : c0 ≠ c4 := lyV_ne V16 h4' (e := (902, c0, 101, 8)) (by simp)
  have d24 : c2 ≠ c4 := lyV_ne V16 h4' (e := (908, c2, 101, 8)) (by simp)
  have d34 : c3 ≠ c4 := lyV_ne V16 h4' (e := (904, c3, 101, g * h)) (by simp)
  have E19 : xE S S19 := by rw [e19]; exact (E16.v h4').r hp
  have V19 : lyV S19 o p [(905, c4, 101, g * h), (904, c3, 101, g * h), (908, c2, 101, 8), (903, c1, 110, 8), (902, c0, 101, 8)] := by rw [e19]; exact lyV_v V16 h4' (by decide) (by simp) (by decide)
  have J19 : xI S19 906 p = -9 ∧ xI S19 907 p = 0 ∧ xI S19 900 p = nI g ∧ xI S19 901 p = nI h := by rw [e19, xI_sR, xI_sV]; exact J16
  clear e19 e18 t18 S18 J16 V16 E16 h4' S16
  have g19 := h0.ext E19
  have w0 := V19.2.2 (902, c0, 101, 8) (by simp)
  have w1 := V19.2.2 (903, c1, 110, 8) (by simp)
  have w2 := V19.2.2 (908, c2, 101, 8) (by simp)
  have w3 := V19.2.2 (904, c3, 101, g * h) (by simp)
  have w4 := V19.2.2 (905, c4, 101, g * h) (by simp)
  have B : lyS S19 o p c0 c1 c2 c3 c4 g h (gN G 1) (fun _ => 0) 0 := ⟨⟨V19.1, g19.O_t, g19.O_c50, J19.2.2.1, J19.2.2.2, J19.2.1⟩, ⟨V19.2.1, w0.1, w1.1, w2.1, w3.1, w4.1⟩, ⟨w0.2.1, w0.2.2.1, w1.2.1, w1.2.2.1, w2.2.1, w2.2.2.1, w3.2.1, w3.2.2.1, w4.2.1, w4.2.2.1⟩, ⟨d02, d03, d04, d23, d24, d34⟩, fun s _ => by rw [w0.2.2.2.1]; rfl⟩
  refine ⟨g19.O_t, 540, 1080, by omega, by omega, c_law g19 (Nat.le_refl _) (Nat.le_refl _) (fun S23 r E hr => ?_)⟩
  have pn : xT S19 p ≠ 0 := by rw [V19.1]; decide
  exact c_men h0 (E19.trans E) hp z0 z1 z2 z3 z4 hg1 hg hh1 hh (B.tr (fun x hx => (E x hx).e5)) (((E p pn).2.2.1 906 (by decide) (by decide)).trans J19.1) hr (by omega) (by omega) q
variable {x y z w : Int32}
theorem rg_1 {b : Nat} {x : Int32} (hb : b < 2 ^ 31) (h : rg x 1 (nI b) = true) : ∃ a, 1 ≤ a ∧ a ≤ b ∧ x = nI a := by
  have k := rg_t.mp h
  obtain ⟨j, hj, e⟩ := nI_of (x := x) (fun q => by
    have := k.1
    rw [Int32.le_iff_toInt_le] at this
    rw [Int32.lt_iff_toInt_lt] at q
    have e1 : (1 : Int32).toInt = 1 := by decide
    have e0 : (0 : Int32).toInt = 0 := by decide
    omega)
  rw [e] at k
  exact ⟨j, (kle_1 hj).mp k.1, (nI_leI hj hb).mp k.2, e⟩
theorem e_met (h0 : Inv G S o M) {k n : Nat} (hk : 554 ≤ k) (hn : 1190 ≤ n) : w_X0_met k n S o x y (fun r S' => w_X1_met M x y (fun r' M' => xF o r S' r' M')) := by
  simp only [w_X1_met, nm_eq]
  generalize hN : m1 M 0 0 = N
  replace h0 : Inv G S o N := by rw [← hN]; exact h0.m0
  cases h1 : rg x 1 2
  · simp only [w_X0_met, w_X1_badGangs, l64_0, l64_1, l64_2, l64_3, l64_5, l64_7, l64_8, l64_9, l64_10, l64_20, l64_23, l64_33, l64_40, l64_48, l64_50, l64_57, l64_60, l64_80, l64_99, l64_100, l64_126, l64_899, l64_19, h1, wif_T, wif_F, nm_eq, jn_eq, jn0_eq, jn2_eq, jn3_eq, jn4_eq, zI_t, zI_f, zI0, x_B_zI, x_B_0, x_B_1, isIn_eq, in_eq, Bool.true_eq_false, Bool.false_eq_true, eq_self, true_and, and_true, Option.some.injEq, exists_eq_left', exists_eq_left, reduceCtorEq, not_true_eq_false, not_false_eq_true, one_ne, if_true, if_false]
    exact ⟨rfl, G, h0⟩
  cases h2 : rg y 1 3
  · simp only [w_X0_met, w_X1_badGangs, l64_0, l64_1, l64_2, l64_3, l64_5, l64_7, l64_8, l64_9, l64_10, l64_20, l64_23, l64_33, l64_40, l64_48, l64_50, l64_57, l64_60, l64_80, l64_99, l64_100, l64_126, l64_899, l64_19, h1, h2, wif_T, wif_F, nm_eq, jn_eq, jn0_eq, jn2_eq, jn3_eq, jn4_eq, zI_t, zI_f, zI0, x_B_zI, x_B_0, x_B_1, isIn_eq, in_eq, Bool.true_eq_false, Bool.false_eq_true, eq_self, true_and, and_true, Option.some.injEq, exists_eq_left', exists_eq_left, reduceCtorEq, not_true_eq_false, not_false_eq_true, one_ne, if_true, if_false]
    exact ⟨rfl, G, h0⟩
  obtain ⟨g, g1, g2, rfl⟩ := rg_1 (b := 2) (by decide) h1
  obtain ⟨h, hh1, hh2, rfl⟩ := rg_1 (b := 3) (by decide) h2
  simp only [w_X0_met, w_X1_badGangs, l64_0, l64_1, l64_2, l64_3, l64_5, l64_7, l64_8, l64_9, l64_10, l64_20, l64_23, l64_33, l64_40, l64_48, l64_50, l64_57, l64_60, l64_80, l64_99, l64_100, l64_126, l64_899, l64_19, h1, h2, wif_T, wif_F, nm_eq, jn_eq, jn0_eq, jn2_eq, jn3_eq, jn4_eq, zI_t, zI_f, zI0, x_B_zI, x_B_0, x_B_1, isIn_eq, in_eq, Bool.true_eq_false, Bool.false_eq_true, eq_self, true_and, and_true, Option.some.injEq, exists_eq_left', exists_eq_left, reduceCtorEq, not_true_eq_false, not_false_eq_true, one_ne, if_true, if_false]
  refine ⟨by omega, by omega, fun p hp => ⟨553, 1180, by omega, by omega, c_init h0 hp g1 g2 hh1 hh2 (Nat.le_refl _) (Nat.le_refl _) (fun S' E F => ⟨F.1, ?_⟩)⟩⟩
  refine m_best h0.mI (c_mA h0) g1 g2 hh1 hh2 (fun N' sN _ _ => ⟨F.2.1, G, (h0.ext E).ms sN⟩)
theorem e_laid (h0 : Inv G S o M) {k n : Nat} (hk : 554 ≤ k) (hn : 1190 ≤ n) : w_X0_laid k n S o x y z w (fun r S' => w_X1_laid M x y z w (fun r' M' => xF o r S' r' M')) := by
  simp only [w_X1_laid, nm_eq]
  generalize hN : m1 M 0 0 = N
  replace h0 : Inv G S o N := by rw [← hN]; exact h0.m0
  cases h1 : rg x 1 2
  · simp only [w_X0_laid, w_X1_badGangs, l64_0, l64_1, l64_2, l64_3, l64_5, l64_7, l64_8, l64_9, l64_10, l64_20, l64_23, l64_33, l64_40, l64_48, l64_50, l64_57, l64_60, l64_80, l64_99, l64_100, l64_126, l64_899, l64_19, h1, wif_T, wif_F, nm_eq, jn_eq, jn0_eq, jn2_eq, jn3_eq, jn4_eq, zI_t, zI_f, zI0, x_B_zI, x_B_0, x_B_1, isIn_eq, in_eq, Bool.true_eq_false, Bool.false_eq_true, eq_self, true_and, and_true, Option.some.injEq, exists_eq_left', exists_eq_left, reduceCtorEq, not_true_eq_false, not_false_eq_true, one_ne, if_true, if_false]
    exact ⟨rfl, G, h0⟩
  cases h2 : rg y 1 3
  · simp only [w_X0_laid, w_X1_badGangs, l64_0, l64_1, l64_2, l64_3, l64_5, l64_7, l64_8, l64_9, l64_10, l64_20, l64_23, l64_33, l64_40, l64_48, l64_50, l64_57, l64_60, l64_80, l64_99, l64_100, l64_126, l64_899, l64_19, h1, h2, wif_T, wif_F, nm_eq, jn_eq, jn0_eq, jn2_eq, jn3_eq, jn4_eq, zI_t, zI_f, zI0, x_B_zI, x_B_0, x_B_1, isIn_eq, in_eq, Bool.true_eq_false, Bool.false_eq_true, eq_self, true_and, and_true, Option.some.injEq, exists_eq_left', exists_eq_left, reduceCtorEq, not_true_eq_false, not_false_eq_true, one_ne, if_true, if_false]
    exact ⟨rfl, G, h0⟩
  cases h3 : rg z 0 (x - 1)
  · simp only [w_X0_laid, w_X1_badGangs, l64_0, l64_1, l64_2, l64_3, l64_5, l64_7, l64_8, l64_9, l64_10, l64_20, l64_23, l64_33, l64_40, l64_48, l64_50, l64_57, l64_60, l64_80, l64_99, l64_100, l64_126, l64_899, l64_19, h1, h2, h3, wif_T, wif_F, nm_eq, jn_eq, jn0_eq, jn2_eq, jn3_eq, jn4_eq, zI_t, zI_f, zI0, x_B_zI, x_B_0, x_B_1, isIn_eq, in_eq, Bool.true_eq_false, Bool.false_eq_true, eq_self, true_and, and_true, Option.some.injEq, exists_eq_left', exists_eq_left, reduceCtorEq, not_true_eq_false, not_false_eq_true, one_ne, if_true, if_false]
    exact ⟨rfl, G, h0⟩
  cases h4 : rg w 0 (y - 1)
  · simp only [w_X0_laid, w_X1_badGangs, l64_0, l64_1, l64_2, l64_3, l64_5, l64_7, l64_8, l64_9, l64_10, l64_20, l64_23, l64_33, l64_40, l64_48, l64_50, l64_57, l64_60, l64_80, l64_99, l64_100, l64_126, l64_899, l64_19, h1, h2, h3, h4, wif_T, wif_F, nm_eq, jn_eq, jn0_eq, jn2_eq, jn3_eq, jn4_eq, zI_t, zI_f, zI0, x_B_zI, x_B_0, x_B_1, isIn_eq, in_eq, Bool.true_eq_false, Bool.false_eq_true, eq_self, true_and, and_true, Option.some.injEq, exists_eq_left', exists_eq_left, reduceCtorEq, not_true_eq_false, not_false_eq_true, one_ne, if_true, if_false]
    exact ⟨rfl, G, h0⟩
  obtain ⟨g, g1, g2, rfl⟩ := rg_1 (b := 2) (by decide) h1
  obtain ⟨h, hh1, hh2, rfl⟩ := rg_1 (b := 3) (by decide) h2
  obtain ⟨hz, ez⟩ := vi_c ((rg_in (by omega)).mp h3)
  obtain ⟨hw, ew⟩ := vi_c ((rg_in (by omega)).mp h4)
  simp only [w_X0_laid, w_X1_badGangs, l64_0, l64_1, l64_2, l64_3, l64_5, l64_7, l64_8, l64_9, l64_10, l64_20, l64_23, l64_33, l64_40, l64_48, l64_50, l64_57, l64_60, l64_80, l64_99, l64_100, l64_126, l64_899, l64_19, h1, h2, h3, h4, wif_T, wif_F, nm_eq, jn_eq, jn0_eq, jn2_eq, jn3_eq, jn4_eq, zI_t, zI_f, zI0, x_B_zI, x_B_0, x_B_1, isIn_eq, in_eq, Bool.true_eq_false, Bool.false_eq_true, eq_self, true_and, and_true, Option.some.injEq, exists_eq_left', exists_eq_left, reduceCtorEq, not_true_eq_false, not_false_eq_true, one_ne, if_true, if_false]
  generalize z.toNatClampNeg = i at *
  generalize w.toNatClampNeg = j at *
  subst ez
  subst ew
  have hL : g * h ≤ 6 := Nat.le_trans (Nat.mul_le_mul g2 hh2) (by decide)
  have hij : i * h + j < g * h := by
    have : (i + 1) * h ≤ g * h := Nat.mul_le_mul_right h hz
    rw [Nat.succ_mul] at this
    omega
  have ev : nI i * nI h + nI j = nI (i * h + j) := by rw [pk_mul, nI_add]
  have n0 := h0.O_n0
  have n1 := h0.O_n1
  have pL : gN G 1 ^ (g * h) ≤ 262144 := Nat.le_trans (Nat.pow_le_pow_left n1 _) (Nat.le_trans (Nat.pow_le_pow_right (by decide) hL) (by decide))
  rw [ev, nI_clamp (show i * h + j < 2 ^ 31 by omega)]
  refine ⟨by omega, by omega, fun p hp => ⟨553, 1180, by omega, by omega, c_init h0 hp g1 g2 hh1 hh2 (Nat.le_refl _) (Nat.le_refl _) (fun S' E F => ?_)⟩⟩
  obtain ⟨f1, f2, c, f3, f4, f5, f6⟩ := F
  refine ⟨f1, c, f3, f4, by rw [f5]; exact vp_in_nI hij (by omega), ?_⟩
  refine m_best h0.mI (c_mA h0) g1 g2 hh1 hh2 (fun N' sN wN eN => ?_)
  have bl := bst_lt (v := vlu (tcn G N (gN G 5)) (dst (adj N)) (gN G 1) h g) (lo := 0) (b := (-9, 0)) (gN G 1 ^ (g * h))
  rw [eN]
  refine m_meet wN g1 g2 hh1 hh2 (by rcases bl with e | e <;> omega) (fun W A hW => ⟨vp_in_nI (by omega) (by decide), ?_, G, ?_⟩)
  · rw [mF_ne (by decide), mF_at, hW _ hij]
    exact f6 _ hij
  · exact (h0.ext E).ms (mS.f 29 (mS.f 28 sN (by decide)) (by decide))
end
