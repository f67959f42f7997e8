set_option maxRecDepth 100000
section
variable {G : xG} {S : xH} {o : Nat} {M : xM} {x y z : Int32}
theorem e_taking (h : Inv G S o M) : w_X0_taking S o x y (fun r => w_X1_taking M x y (fun r' M' => xF o r S r' M')) := by
  simp only [w_X1_taking, nm_eq]
  generalize hN : m1 M 0 0 = N
  replace h : Inv G S o N := by rw [← hN]; exact h.m0
  have n22 := h.O_n22
  cases h1 : rg x 0 (nI (gN G 22) - 1)
  · simp only [w_X0_taking, h.O_t, h.O_c62, h.O_d22, l64_0, h1, wif_T, wif_F, nm_eq, jn_eq, jn0_eq, jn2_eq, jn3_eq, jn4_eq, zI_t, zI_f, zI0, x_B_zI, x_B_0, x_B_1, isIn_eq, in_eq, Bool.true_eq_false, Bool.false_eq_true, eq_self, true_and, and_true, Option.some.injEq, exists_eq_left', exists_eq_left, reduceCtorEq, not_true_eq_false, not_false_eq_true, one_ne, if_true, if_false]
    exact ⟨rfl, G, h⟩
  obtain ⟨k, hk, rfl⟩ := vp_in_of ((rg_in (by omega)).mp h1) (by omega)
  have hv : vp_in (nI k) 60 := vp_in_nI (by omega) (by decide)
  simp only [w_X0_taking, h.O_t, h.O_c62, h.O_d22, l64_0, l64_5, h1, h.R_r61, h.R_t61, h.R_l61, hv, h.K_q hk, h.K_T hk, nI_clamp (show k < 2 ^ 31 by omega), h.K_f0 hk, h.K_f1 hk, h.K_f2 hk, h.K_f3 hk, h.K_f4 hk, h.K_f5 hk, wif_T, wif_F, nm_eq, jn_eq, jn0_eq, jn2_eq, jn3_eq, jn4_eq, zI_t, zI_f, zI0, x_B_zI, x_B_0, x_B_1, isIn_eq, in_eq, Bool.true_eq_false, Bool.false_eq_true, eq_self, true_and, and_true, Option.some.injEq, exists_eq_left', exists_eq_left, reduceCtorEq, not_true_eq_false, not_false_eq_true, one_ne, if_true, if_false]
  have fin : ∀ j r, j < 6 → y = nI j → r = M2 N 23 (6 * k + j) → wif (rg y 0 5 = false) (xF o r S (-2) N) (vp_in (6 * nI k + y) 360 ∧ xF o r S (M2 N 23 (6 * nI k + y).toNatClampNeg) N) := by
    intro j r hj ey er
    subst ey
    have hr : rg (nI j) 0 5 = true := (rg_le (n := 5) (by decide)).mpr (vp_in_nI (by omega) (by decide))
    refine wif_n (by rw [hr]; decide) ?_
    rw [im6, nI_add, nI_clamp (by omega)]
    exact ⟨vp_in_nI (by omega) (by decide), er, G, h⟩
  by_cases e0 : y = 0
  · exact wif_y e0 (fin 0 _ (by decide) e0 rfl)
  refine wif_n e0 ?_
  by_cases e1 : y = 1
  · exact wif_y e1 (fin 1 _ (by decide) e1 rfl)
  refine wif_n e1 ?_
  by_cases e2 : y = 2
  · exact wif_y e2 (fin 2 _ (by decide) e2 rfl)
  refine wif_n e2 ?_
  by_cases e3 : y = 3
  · exact wif_y e3 (fin 3 _ (by decide) e3 rfl)
  refine wif_n e3 ?_
  by_cases e4 : y = 4
  · refine wif_y e4 ?_
    rcases h.K_b4 hk with b | b
    · exact wif_y b (fin 4 _ (by decide) e4 b.symm)
    · exact wif_n (by rw [b]; decide) (fin 4 _ (by decide) e4 b.symm)
  refine wif_n e4 ?_
  by_cases e5 : y = 5
  · refine wif_y e5 ?_
    rcases h.K_b5 hk with b | b
    · exact wif_y b (fin 5 _ (by decide) e5 b.symm)
    · exact wif_n (by rw [b]; decide) (fin 5 _ (by decide) e5 b.symm)
  refine wif_n e5 ?_
  have hr : rg y 0 5 = false := bf (fun q => by
    obtain ⟨j, hj, ej⟩ := vp_in_of ((rg_le (n := 5) (by decide)).mp q) (by decide)
    have : j = 0 ∨ j = 1 ∨ j = 2 ∨ j = 3 ∨ j = 4 ∨ j = 5 := by omega
    rcases this with rfl | rfl | rfl | rfl | rfl | rfl
    · exact e0 ej
    · exact e1 ej
    · exact e2 ej
    · exact e3 ej
    · exact e4 ej
    · exact e5 ej)
  exact wif_y hr ⟨rfl, G, h⟩
theorem quiet_inv (h : Inv G S o M) : Inv (Gn G 24 (gN G 22)) (sI S 63 o (nI (gN G 22))) o (m1 M 24 (nI (gN G 22))) := by
  have hO : iO (Gn G 24 (gN G 22)) (sI S 63 o (nI (gN G 22))) o (m1 M 24 (nI (gN G 22))) := ⟨h.O_t, h.O_c50, h.O_c53, h.O_c54, h.O_c58, h.O_c60, h.O_c62, (by simp [sI, xI, x_u2, Gn, gN, va_up]), h.O_c65, h.O_c67, h.O_c55, h.O_c56, h.O_d1, h.O_d5, h.O_d4, h.O_d15, h.O_d17, h.O_d22, (by rfl), h.O_d9, h.O_d31, h.O_n0, h.O_n1, h.O_n5, h.O_n4, h.O_n9, h.O_n15, h.O_n17, h.O_n22, (Nat.le_refl (gN G 22)), h.O_n31⟩
  exact ⟨hO, h.iR, h.iW, h.iM, h.iP, h.iA, h.iK, h.iS, h.iT, h.iU, h.iZ⟩
theorem e_quiet (h : Inv G S o M) : w_X0_quiet S o (fun r S' => w_X1_quiet M (fun r' M' => xF o r S' r' M')) := by
  simp only [w_X1_quiet, nm_eq]
  generalize hN : m1 M 0 0 = N
  replace h : Inv G S o N := by rw [← hN]; exact h.m0
  have n22 := h.O_n22
  have n24 := h.O_n24
  let f : Nat → Int32 := fun i => zI (rg (M2 N 23 (6 * (gN G 24 + i) + 3)) 0 7)
  have fz : ∀ i, f i = zI (rg (M2 N 23 (6 * (gN G 24 + i) + 3)) 0 7) := fun _ => rfl
  unfold w_X0_quiet
  refine ⟨h.O_t, ?_⟩
  rw [nm_eq, h.O_c63]
  refine lf2_u (gN G 22 - gN G 24) (fun i a b => a = sm f i ∧ b = nI (gN G 24 + i)) ?_ _ _ ⟨rfl, rfl⟩
  rintro P i a b hi ⟨rfl, rfl⟩ hP
  refine ⟨h.O_t, ?_⟩
  rw [h.O_c62]
  by_cases e : gN G 24 + i = gN G 22
  · rw [e, show i = gN G 22 - gN G 24 by omega]
    refine wif_y (Int32.le_refl _) ⟨h.O_t, h.O_t, ?_⟩
    rw [nm_eq, h.O_d24]
    refine lf2_u (gN G 22 - gN G 24) (fun i a b => a = sm f i ∧ b = nI (gN G 24 + i)) ?_ _ _ ⟨rfl, rfl⟩
    clear hP hi e i P
    rintro P i a b hi ⟨rfl, rfl⟩ hP
    rw [h.O_d22]
    by_cases e : gN G 24 + i = gN G 22
    · rw [e, show i = gN G 22 - gN G 24 by omega]
      exact wif_y (Int32.le_refl _) ⟨rfl, _, quiet_inv h⟩
    · have hlt : gN G 24 + i < gN G 22 := by omega
      have hv : vp_in (nI (6 * (gN G 24 + i) + 3)) 360 := vp_in_nI (by omega) (by decide)
      refine wif_n (nI_ge hlt (by omega)) ?_
      simp only [im6, ia3, hv, nI_clamp (show 6 * (gN G 24 + i) + 3 < 2 ^ 31 by omega), m_isStreet, wif_T, wif_F, nm_eq, jn_eq, jn0_eq, jn2_eq, jn3_eq, jn4_eq, zI_t, zI_f, zI0, x_B_zI, x_B_0, x_B_1, isIn_eq, in_eq, Bool.true_eq_false, Bool.false_eq_true, eq_self, true_and, and_true, Option.some.injEq, exists_eq_left', exists_eq_left, reduceCtorEq, not_true_eq_false, not_false_eq_true, one_ne, if_true, if_false]
      cases hr : rg (M2 N 23 (6 * (gN G 24 + i) + 3)) 0 7
      · exact wif_y rfl (hP _ _ (by omega) ⟨by rw [sm, fz, hr]; rfl, nI_1 _⟩)
      · exact wif_n (by decide) (hP _ _ (by omega) ⟨by rw [sm, fz, hr]; rfl, nI_1 _⟩)
  · have hlt : gN G 24 + i < gN G 22 := by omega
    have hv : vp_in (nI (gN G 24 + i)) 60 := vp_in_nI (by omega) (by decide)
    refine wif_n (nI_ge hlt (by omega)) ?_
    simp only [h.O_t, h.R_r61, h.R_t61, h.R_l61, hv, h.K_q hlt, h.K_T hlt, w_X16_isInStreet, h.K_f3 hlt, nI_clamp (show gN G 24 + i < 2 ^ 31 by omega), wif_T, wif_F, nm_eq, jn_eq, jn0_eq, jn2_eq, jn3_eq, jn4_eq, zI_t, zI_f, zI0, x_B_zI, x_B_0, x_B_1, isIn_eq, in_eq, Bool.true_eq_false, Bool.false_eq_true, eq_self, true_and, and_true, Option.some.injEq, exists_eq_left', exists_eq_left, reduceCtorEq, not_true_eq_false, not_false_eq_true, one_ne, if_true, if_false]
    rcases h.K_fm hlt with hf | hf
    · refine wif_n (vp8_10 hf) (hP _ _ (by omega) ⟨by rw [sm, fz, rg7.mpr hf]; rfl, nI_1 _⟩)
    · have hr : rg (M2 N 23 (6 * (gN G 24 + i) + 3)) 0 7 = false := rg7f.mpr (fun q => vp8_10 q hf)
      exact wif_y hf (hP _ _ (by omega) ⟨by rw [sm, fz, hr]; rfl, nI_1 _⟩)
theorem room_inv (h : Inv G S o M) : Inv G (sI S 55 o x) o (m1 M 25 x) := by
  have hO : iO G (sI S 55 o x) o (m1 M 25 x) := ⟨h.O_t, h.O_c50, h.O_c53, h.O_c54, h.O_c58, h.O_c60, h.O_c62, h.O_c63, h.O_c65, h.O_c67, (by rw [xI_at]; rfl), h.O_c56, h.O_d1, h.O_d5, h.O_d4, h.O_d15, h.O_d17, h.O_d22, h.O_d24, h.O_d9, h.O_d31, h.O_n0, h.O_n1, h.O_n5, h.O_n4, h.O_n9, h.O_n15, h.O_n17, h.O_n22, h.O_n24, h.O_n31⟩
  exact ⟨hO, h.iR, h.iW, h.iM, h.iP, h.iA, h.iK, h.iS, h.iT, h.iU, h.iZ⟩
theorem rate_inv (h : Inv G S o M) : Inv G (sI S 56 o x) o (m1 M 26 x) := by
  have hO : iO G (sI S 56 o x) o (m1 M 26 x) := ⟨h.O_t, h.O_c50, h.O_c53, h.O_c54, h.O_c58, h.O_c60, h.O_c62, h.O_c63, h.O_c65, h.O_c67, h.O_c55, (by rw [xI_at]; rfl), h.O_d1, h.O_d5, h.O_d4, h.O_d15, h.O_d17, h.O_d22, h.O_d24, h.O_d9, h.O_d31, h.O_n0, h.O_n1, h.O_n5, h.O_n4, h.O_n9, h.O_n15, h.O_n17, h.O_n22, h.O_n24, h.O_n31⟩
  exact ⟨hO, h.iR, h.iW, h.iM, h.iP, h.iA, h.iK, h.iS, h.iT, h.iU, h.iZ⟩
theorem e_tender (h : Inv G S o M) : w_X0_tender S o x y (fun r S' => w_X1_tender M x y (fun r' M' => xF o r S' r' M')) := by
  simp only [w_X1_tender, nm_eq]
  generalize hN : m1 M 0 0 = N
  replace h : Inv G S o N := by rw [← hN]; exact h.m0
  by_cases e0 : x = 0
  · subst e0
    have r01 : rg 0 0 1 = true := by decide
    cases h1 : rg y 0 40
    · simp only [w_X0_tender, l64_0, l64_1, l64_40, r01, h1, wif_T, wif_F, nm_eq, jn_eq, jn0_eq, jn2_eq, jn3_eq, jn4_eq, zI_t, zI_f, zI0, x_B_zI, x_B_0, x_B_1, isIn_eq, in_eq, Bool.true_eq_false, Bool.false_eq_true, eq_self, true_and, and_true, Option.some.injEq, exists_eq_left', exists_eq_left, reduceCtorEq, not_true_eq_false, not_false_eq_true, one_ne, if_true, if_false, show ((0 : Int32) = 1) = False from by decide]
      exact ⟨rfl, G, h⟩
    · simp only [w_X0_tender, l64_0, l64_1, l64_40, r01, h1, h.O_t, h.O_c55, wif_T, wif_F, nm_eq, jn_eq, jn0_eq, jn2_eq, jn3_eq, jn4_eq, zI_t, zI_f, zI0, x_B_zI, x_B_0, x_B_1, isIn_eq, in_eq, Bool.true_eq_false, Bool.false_eq_true, eq_self, true_and, and_true, Option.some.injEq, exists_eq_left', exists_eq_left, reduceCtorEq, not_true_eq_false, not_false_eq_true, one_ne, if_true, if_false]
      exact ⟨rfl, G, room_inv h⟩
  · by_cases e1 : x = 1
    · subst e1
      have r01 : rg 1 0 1 = true := by decide
      cases h1 : rg y 0 100
      · simp only [w_X0_tender, l64_0, l64_1, l64_100, r01, h1, wif_T, wif_F, nm_eq, jn_eq, jn0_eq, jn2_eq, jn3_eq, jn4_eq, zI_t, zI_f, zI0, x_B_zI, x_B_0, x_B_1, isIn_eq, in_eq, Bool.true_eq_false, Bool.false_eq_true, eq_self, true_and, and_true, Option.some.injEq, exists_eq_left', exists_eq_left, reduceCtorEq, not_true_eq_false, not_false_eq_true, one_ne, if_true, if_false, one_ne]
        exact ⟨rfl, G, h⟩
      · simp only [w_X0_tender, l64_0, l64_1, l64_100, r01, h1, h.O_t, h.O_c56, wif_T, wif_F, nm_eq, jn_eq, jn0_eq, jn2_eq, jn3_eq, jn4_eq, zI_t, zI_f, zI0, x_B_zI, x_B_0, x_B_1, isIn_eq, in_eq, Bool.true_eq_false, Bool.false_eq_true, eq_self, true_and, and_true, Option.some.injEq, exists_eq_left', exists_eq_left, reduceCtorEq, not_true_eq_false, not_false_eq_true, one_ne, if_true, if_false, one_ne]
        exact ⟨rfl, G, rate_inv h⟩
    · have r01 : rg x 0 1 = false := bf (fun q => by
        obtain ⟨j, hj, ej⟩ := vp_in_of ((rg_le (n := 1) (by decide)).mp q) (by decide)
        have : j = 0 ∨ j = 1 := by omega
        rcases this with rfl | rfl
        · exact e0 ej
        · exact e1 ej)
      simp only [w_X0_tender, l64_0, l64_1, r01, e0, e1, wif_T, wif_F, nm_eq, jn_eq, jn0_eq, jn2_eq, jn3_eq, jn4_eq, zI_t, zI_f, zI0, x_B_zI, x_B_0, x_B_1, isIn_eq, in_eq, Bool.true_eq_false, Bool.false_eq_true, eq_self, true_and, and_true, Option.some.injEq, exists_eq_left', exists_eq_left, reduceCtorEq, not_true_eq_false, not_false_eq_true, one_ne, if_true, if_false]
      exact ⟨rfl, G, h⟩
theorem sm01 {f : Nat → Int32} (hf : ∀ i, f i = 0 ∨ f i = 1) : ∀ n, ∃ c, c ≤ n ∧ sm f n = nI c
  | 0 => ⟨0, Nat.le_refl _, rfl⟩
  | n + 1 => by
    obtain ⟨c, hc, e⟩ := sm01 hf n
    rcases hf n with q | q
    · exact ⟨c, by omega, by rw [sm, e, q]; exact Int32.add_zero _⟩
    · exact ⟨c + 1, by omega, by rw [sm, e, q]; exact nI_1 c⟩
theorem wf01 (i : Nat) : wf G M i = 0 ∨ wf G M i = 1 := by
  by_cases c : wrg G M i
  · exact Or.inr (wf_t c)
  · exact Or.inl (wf_f c)
/-- the man who is the x-th of the wronged: r -/
def wmR (G : xG) (M : xM) (x r : Int32) : Prop := (∃ m, m < gN G 5 ∧ wrg G M m ∧ sm (wf G M) m = x ∧ (∀ j, j < m → ¬ (wrg G M j ∧ sm (wf G M) j = x)) ∧ r = nI m) ∨ ((∀ j, j < gN G 5 → ¬ (wrg G M j ∧ sm (wf G M) j = x)) ∧ r = -9)
theorem wmR_un {r r' : Int32} (h : wmR G M x r) (g : wmR G M x r') : r = r' := by
  rcases h with ⟨m, h1, h2, h3, h4, e⟩ | ⟨h4, e⟩
  · rcases g with ⟨m', g1, g2, g3, g4, e'⟩ | ⟨g4, e'⟩
    · rcases Nat.lt_trichotomy m m' with l | l | l
      · exact absurd ⟨h2, h3⟩ (g4 m l)
      · rw [e, e', l]
      · exact absurd ⟨g2, g3⟩ (h4 m' l)
    · exact absurd ⟨h2, h3⟩ (g4 m h1)
  · rcases g with ⟨m', g1, g2, g3, g4, e'⟩ | ⟨g4, e'⟩
    · exact absurd ⟨g2, g3⟩ (h4 m' g1)
    · rw [e, e']
theorem sub0 {a b : Int32} : a - b = 0 ↔ b = a := by
  constructor
  · intro h
    have := congrArg (· + b) h
    simp only [Int32.sub_add_cancel, Int32.zero_add] at this
    exact this.symm
  · intro h
    rw [h]
    exact Int32.sub_self _
theorem e_wrongedMan (h : Inv G S o M) : w_X0_wrongedMan S o x (fun r => w_X1_wrongedMan M x (fun r' M' => xF o r S r' M')) := by
  simp only [w_X1_wrongedMan, nm_eq]
  generalize hN : m1 M 0 0 = N
  replace h : Inv G S o N := by rw [← hN]; exact h.m0
  have n5 := h.O_n5
  have mod : ∀ r, wmR G N x r → lf2 (fun L_4 (x2_2 : Int32) (x3_3 : Int32) => wif ((M1 N 5) ≤ x3_3) (xF o r S (-9) N) (w_X1_isWronged N x3_3 (fun (r_6 : Int32) => jn (fun (x2_8 : Int32) => L_4 x2_8 (x3_3 + 1)) (fun J_9 => wif (r_6 = 0) (J_9 x2_2) (wif (x2_2 = x) (xF o r S x3_3 N) (J_9 (x2_2 + 1))))))) 0 0 := by
    intro r hr
    refine lf2_u (gN G 5) (fun i a b => a = sm (wf G N) i ∧ b = nI i ∧ ∀ j, j < i → ¬ (wrg G N j ∧ sm (wf G N) j = x)) ?_ 0 0 ⟨rfl, rfl, fun j hj => absurd hj (Nat.not_lt_zero j)⟩
    rintro P i a b hi ⟨rfl, rfl, hj⟩ hP
    rw [h.O_d5]
    by_cases e : i = gN G 5
    · rw [e] at hj ⊢
      exact wif_y (Int32.le_refl _) ⟨wmR_un hr (Or.inr ⟨hj, rfl⟩), G, h⟩
    · have hlt : i < gN G 5 := by omega
      refine wif_n (nI_ge hlt (by omega)) (m_isWronged h.mI (h.M_pl hlt _ (Nat.le_refl _)) hlt (fun c => ?_) (fun c => ?_))
      · rw [jn_eq]
        refine wif_y rfl (hP _ _ hlt ⟨by rw [sm, wf_f c]; exact (Int32.add_zero _).symm, nI_1 i, fun j hji => ?_⟩)
        by_cases ej : j = i
        · rw [ej]; exact fun z => c z.1
        · exact hj j (by omega)
      · rw [jn_eq]
        refine wif_n (by decide) ?_
        by_cases ex : sm (wf G N) i = x
        · exact wif_y ex ⟨wmR_un hr (Or.inl ⟨i, hlt, c, ex, hj, rfl⟩), G, h⟩
        · refine wif_n ex (hP _ _ hlt ⟨by rw [sm, wf_t c], nI_1 i, fun j hji => ?_⟩)
          by_cases ej : j = i
          · rw [ej]; exact fun z => ex z.2
          · exact hj j (by omega)
  unfold w_X0_wrongedMan
  refine lf2_u (gN G 5) (fun i a b => a = x - sm (wf G N) i ∧ b = nI i ∧ ∀ j, j < i → ¬ (wrg G N j ∧ sm (wf G N) j = x)) ?_ x 0 ⟨(Int32.sub_zero x).symm, rfl, fun j hj => absurd hj (Nat.not_lt_zero j)⟩
  rintro P i a b hi ⟨rfl, rfl, hj⟩ hP
  refine ⟨h.O_t, ?_⟩
  rw [h.O_c53]
  by_cases e : i = gN G 5
  · rw [e] at hj ⊢
    exact wif_y (Int32.le_refl _) (mod _ (Or.inr ⟨hj, rfl⟩))
  · have hlt : i < gN G 5 := by omega
    have hv : vp_in (nI i) 40 := vp_in_nI (by omega) (by decide)
    refine wif_n (nI_ge hlt (by omega)) ?_
    by_cases x0 : x < 0
    · refine wif_y x0 (mod _ (Or.inr ⟨fun j _ z => ?_, rfl⟩))
      obtain ⟨c, hc, ec⟩ := sm01 (wf01 (G := G) (M := N)) j
      rw [ec] at z
      rw [← z.2] at x0
      exact nI_pos (by omega) x0
    · refine wif_n x0 ?_
      simp only [h.O_t, h.R_r52, h.R_t52, h.R_l52, hv, h.M_q hlt, nI_clamp (show i < 2 ^ 31 by omega), wif_T, wif_F, nm_eq, jn_eq, jn0_eq, jn2_eq, jn3_eq, jn4_eq, zI_t, zI_f, zI0, x_B_zI, x_B_0, x_B_1, isIn_eq, in_eq, Bool.true_eq_false, Bool.false_eq_true, eq_self, true_and, and_true, Option.some.injEq, exists_eq_left', exists_eq_left, reduceCtorEq, not_true_eq_false, not_false_eq_true, one_ne, if_true, if_false]
      refine c_isWronged h hlt (fun c => ?_) (fun c => ?_)
      · refine wif_y rfl (hP _ _ hlt ⟨by rw [sm, wf_f c, Int32.add_zero], nI_1 i, fun j hji => ?_⟩)
        by_cases ej : j = i
        · rw [ej]; exact fun z => c z.1
        · exact hj j (by omega)
      · refine wif_n (by decide) ?_
        by_cases ex : sm (wf G N) i = x
        · exact wif_y (sub0.mpr ex) (mod _ (Or.inl ⟨i, hlt, c, ex, hj, rfl⟩))
        · refine wif_n (fun z => ex (sub0.mp z)) (hP _ _ hlt ⟨?_, nI_1 i, fun j hji => ?_⟩)
          · rw [sm, wf_t c]
            simp only [Int32.sub_eq_add_neg, Int32.neg_add, Int32.add_assoc]
          · by_cases ej : j = i
            · rw [ej]; exact fun z => ex z.2
            · exact hj j (by omega)
end
