set_option maxRecDepth 100000
section
variable {G : xG} {S : xH} {o : Nat} {M : xM} {x y z v : Int32} {t m : Nat}
theorem e_turn (h : Inv G S o M) {k n : Nat} (hk : 1 ≤ k) (hn : 3 ≤ n) : w_X0_turn k n S o x y (fun r S' => w_X1_turn M x y (fun r' M' => xF o r S' r' M')) := by
  simp only [w_X1_turn, nm_eq]
  generalize hN : m1 M 0 0 = N
  replace h : Inv G S o N := by rw [← hN]; exact h.m0
  have n5 := h.O_n5
  have n1 := h.O_n1
  have n9 := h.O_n9
  cases h1 : rg x 0 (nI (gN G 5) - 1)
  · simp only [w_X0_turn, c_isMan h, m_noMan h.mI, h1, h.O_t, Bool.not_false, wif_T, wif_F, nm_eq, jn_eq, jn0_eq, jn2_eq, jn3_eq, jn4_eq, zI_t, zI_f, zI0, x_B_zI, x_B_0, x_B_1, isIn_eq, in_eq, Bool.true_eq_false, Bool.false_eq_true, eq_self, true_and, and_true, Option.some.injEq, exists_eq_left', exists_eq_left, reduceCtorEq, not_true_eq_false, not_false_eq_true, one_ne, if_true, if_false]
    exact ⟨rfl, G, h⟩
  cases h2 : rg y 0 (nI (gN G 9) - 1)
  · simp only [w_X0_turn, c_isMan h, m_noMan h.mI, c_isShip h, m_noShip h.mI, h1, h2, h.O_t, Bool.not_false, Bool.not_true, wif_T, wif_F, nm_eq, jn_eq, jn0_eq, jn2_eq, jn3_eq, jn4_eq, zI_t, zI_f, zI0, x_B_zI, x_B_0, x_B_1, isIn_eq, in_eq, Bool.true_eq_false, Bool.false_eq_true, eq_self, true_and, and_true, Option.some.injEq, exists_eq_left', exists_eq_left, reduceCtorEq, not_true_eq_false, not_false_eq_true, one_ne, if_true, if_false]
    exact ⟨rfl, G, h⟩
  obtain ⟨m, hm, rfl⟩ := c_ix h h1
  obtain ⟨s, hs, rfl⟩ := c_hx h h2
  have hv : vp_in (nI m) 40 := vp_in_nI (by omega) (by decide)
  have hvs := hS_v h hs
  obtain ⟨q, hq24, hq, hqq⟩ := c_pq h hm
  simp only [w_X0_turn, c_isMan h, m_noMan h.mI, c_isShip h, m_noShip h.mI, c_place h hm, m_placeOf h.mI hm, m_go h.mI hm, h1, h2, h.O_t, h.R_r52, h.R_t52, h.R_l52, h.R_r64, h.R_t64, h.R_l64, hv, hvs, h.M_q hm, h.M_T hm, h.S_q hs, h.S_T hs, h.S_hm hs, hq, ja10, nI_clamp (show m < 2 ^ 31 by omega), Bool.not_true, wif_T, wif_F, nm_eq, zI_t, zI_f, zI0, x_B_zI, x_B_0, x_B_1, isIn_eq, in_eq, Bool.true_eq_false, Bool.false_eq_true, eq_self, true_and, and_true, Option.some.injEq, exists_eq_left', exists_eq_left, reduceCtorEq, not_true_eq_false, not_false_eq_true, one_ne, if_true, if_false]
  have i10 : nI q = nI (10 + s) ↔ q = 10 + s := nI_eq (by omega) (by omega)
  by_cases may : q = 20 ∨ ¬ q = 10 + s ∧ (10 ≤ q ∧ q < 10 + gN G 9) ∧ M2 N 14 (q - 10) = 0
  · have ne : ¬ nI q = nI (10 + s) := fun e => by have := i10.mp e; omega
    have mo : ∀ {J X : Prop}, J → wif (nI q = 20) J (w_X1_isHere N (nI q) (fun r => wif (r = 0) X J)) := fun {J X} hJ => by
      by_cases c20 : q = 20
      · exact wif_y (by rw [c20]; rfl) hJ
      · refine wif_n (fun z => c20 ((eqk_20 (by omega)).mp z)) ?_
        have c := may.resolve_left c20
        rw [m_here1 hq24 (by omega)]
        exact wif_y c.2.2 (wif_n (by decide) hJ)
    refine jn_i (fun v => ¬ v = 0) (fun v hv0 => wif_n hv0 ?_) (fun J hJ => ?_)
    · by_cases c : M2 N 14 s = 0
      · rw [decide_eq_true c]
        refine wif_n (by decide) (c_isCrowded h hs ?_)
        by_cases cr : crw G N s 0 < 2 * M2 N 11 s
        · refine wif_y cr (wif_y rfl ⟨1, 3, hk, hn, c_send h hm (pv_ship hs) (ship21 h hs) (Nat.le_refl _) (Nat.le_refl _) (fun S' h' => ?_)⟩)
          refine jn0_i (wif_n ne (wif_y c ?_)) (fun J hJ => mo hJ)
          rw [← ja10]
          refine m_crew h.mI (wif_y cr ⟨hq, G, ?_⟩)
          rw [ja10]
          exact h'
        · refine wif_n cr (wif_n (by decide) (jn0_i (wif_n ne (wif_y c ?_)) (fun J hJ => mo hJ)))
          rw [← ja10]
          exact m_crew h.mI (wif_n cr ⟨rfl, G, h⟩)
      · rw [decide_eq_false c]
        exact wif_y rfl (jn0_i (wif_n ne (wif_n c ⟨rfl, G, h⟩)) (fun J hJ => mo hJ))
    · refine jn0_i (hJ 1 (by decide)) (fun K hK => ?_)
      by_cases c20 : q = 20
      · exact wif_y (by rw [c20]; rfl) hK
      · refine wif_n (fun z => c20 ((eqk_20 (by omega)).mp z)) ?_
        have c := may.resolve_left c20
        rw [jn0_eq]
        refine wif_n ne ?_
        rw [c_home1 h hq24 c.2.1]
        exact wif_y ⟨c.2.2, Or.inl rfl⟩ (wif_n (by decide) hK)
  · have c20 : ¬ q = 20 := fun c => may (Or.inl c)
    have ne20 : ¬ nI q = 20 := fun z => c20 ((eqk_20 (by omega)).mp z)
    refine jn_i (fun v => v = 0) (fun v hv0 => wif_y hv0 ?_) (fun J hJ => ?_)
    · by_cases e10 : q = 10 + s
      · refine jn0_i (wif_y (i10.mpr e10) ⟨rfl, G, h⟩) (fun J hJ => wif_n ne20 ?_)
        rw [m_here1 hq24 (by omega)]
        by_cases c : M2 N 14 (q - 10) = 0
        · exact wif_y c (wif_n (by decide) hJ)
        · exact wif_n c (wif_y rfl ⟨rfl, G, h⟩)
      · rw [jn0_eq]
        refine wif_n ne20 ?_
        by_cases hs' : 10 ≤ q ∧ q < 20
        · rw [m_here1 hq24 hs']
          exact wif_n (fun c => may (Or.inr ⟨e10, by omega, c⟩)) (wif_y rfl ⟨rfl, G, h⟩)
        · rw [m_here0 hq24 hs']
          exact wif_y rfl ⟨rfl, G, h⟩
    · rw [jn0_eq]
      refine wif_n ne20 (jn0_i (hJ 0 rfl) (fun K hK => ?_))
      by_cases e10 : q = 10 + s
      · exact wif_y (i10.mpr e10) hK
      · refine wif_n (fun z => e10 (i10.mp z)) ?_
        by_cases hs' : 10 ≤ q ∧ q < 10 + gN G 9
        · rw [c_home1 h hq24 hs']
          exact wif_n (fun c => may (Or.inr ⟨e10, hs', c.1⟩)) (wif_y rfl hK)
        · rw [c_home0 h hq24 hs']
          exact wif_y rfl hK
/-- ashore -/
def ash (p : Int32) : Prop := rg p 0 7 = true ∨ p = 22
/-- of the tides up to t the last as of which a man was ashore is c - 1 -/
def naC (M : xM) (m t c : Nat) : Prop := c ≤ t + 1 ∧ (∀ j, c ≤ j → j ≤ t → ¬ ash (M2 M 8 (40 * j + m))) ∧ (c = 0 ∨ ash (M2 M 8 (40 * (c - 1) + m)))
theorem naC_un {c d : Nat} (h : naC M m t c) (g : naC M m t d) : c = d := by
  rcases Nat.lt_trichotomy c d with l | l | l
  · have := g.2.2.resolve_left (by omega)
    exact absurd this (h.2.1 (d - 1) (by omega) (by have := g.1; omega))
  · exact l
  · have := h.2.2.resolve_left (by omega)
    exact absurd this (g.2.1 (c - 1) (by omega) (by have := h.1; omega))
theorem ash_pv {p : Int32} (hp : pv G p) (n1 : gN G 1 ≤ 8) (n9 : gN G 9 ≤ 10) : ash p ↔ p < 10 ∨ p = 22 := by
  obtain ⟨q, hq24, rfl, hqq⟩ := pv_n hp n1 n9
  unfold ash
  rw [rg7, vi (by omega), ltk_10 (by omega)]
  constructor
  · rintro (h | h)
    · exact Or.inl (by omega)
    · exact Or.inr h
  · rintro (h | h)
    · exact Or.inl (by omega)
    · exact Or.inr h
theorem s1_a1 (a : Int32) : a - 1 + 1 = a := Int32.sub_add_cancel a 1
theorem e_notAshore (h : Inv G S o M) : w_X0_notAshore S o x y (fun r => w_X1_notAshore M x y (fun r' M' => xF o r S r' M')) := by
  simp only [w_X1_notAshore, nm_eq]
  generalize hN : m1 M 0 0 = N
  replace h : Inv G S o N := by rw [← hN]; exact h.m0
  have n4 := h.O_n4
  have n5 := h.O_n5
  have n1 := h.O_n1
  have n9 := h.O_n9
  cases h1 : rg x 0 (nI (gN G 5) - 1)
  · simp only [w_X0_notAshore, c_isMan h, m_noMan h.mI, h1, h.O_t, Bool.not_false, wif_T, wif_F, nm_eq, jn_eq, jn0_eq, jn2_eq, jn3_eq, jn4_eq, zI_t, zI_f, zI0, x_B_zI, x_B_0, x_B_1, isIn_eq, in_eq, Bool.true_eq_false, Bool.false_eq_true, eq_self, true_and, and_true, Option.some.injEq, exists_eq_left', exists_eq_left, reduceCtorEq, not_true_eq_false, not_false_eq_true, one_ne, if_true, if_false]
    exact ⟨rfl, G, h⟩
  obtain ⟨m, hm, rfl⟩ := c_ix h h1
  cases h2 : rg y 0 (nI (gN G 4))
  · simp only [w_X0_notAshore, c_isMan h, m_noMan h.mI, h1, h2, h.O_t, h.O_c54, h.O_d4, l64_0, Bool.not_true, wif_T, wif_F, nm_eq, jn_eq, jn0_eq, jn2_eq, jn3_eq, jn4_eq, zI_t, zI_f, zI0, x_B_zI, x_B_0, x_B_1, isIn_eq, in_eq, Bool.true_eq_false, Bool.false_eq_true, eq_self, true_and, and_true, Option.some.injEq, exists_eq_left', exists_eq_left, reduceCtorEq, not_true_eq_false, not_false_eq_true, one_ne, if_true, if_false]
    exact ⟨rfl, G, h⟩
  obtain ⟨t, ht, rfl⟩ := vp_in_of ((rg_le (by omega)).mp h2) (by omega)
  have hv : vp_in (nI m) 40 := vp_in_nI (by omega) (by decide)
  simp only [w_X0_notAshore, c_isMan h, m_noMan h.mI, h1, h2, h.O_t, h.O_c54, h.O_d4, h.R_r52, h.R_t52, h.R_l52, hv, h.M_q hm, h.M_T hm, l64_0, nI_clamp (show m < 2 ^ 31 by omega), Bool.not_true, m_isStreet, wif_T, wif_F, nm_eq, zI_t, zI_f, zI0, x_B_zI, x_B_0, x_B_1, isIn_eq, in_eq, Bool.true_eq_false, Bool.false_eq_true, eq_self, true_and, and_true, Option.some.injEq, exists_eq_left', exists_eq_left, reduceCtorEq, not_true_eq_false, not_false_eq_true, one_ne, if_true, if_false]
  have mod : ∀ c, naC N m t c → lf1 (fun L_9 (x3_8 : Int32) => jn0 (xF o (nI t - (nI c - 1)) S (nI t - x3_8) N) (fun J_10 => wif (x3_8 < 0) (J_10) (vp_in ((40 * x3_8) + nI m) 36000 ∧ wif (rg (M2 N 8 (Int32.toNatClampNeg ((40 * x3_8) + nI m))) 0 7 = false) (vp_in ((40 * x3_8) + nI m) 36000 ∧ wif ((M2 N 8 (Int32.toNatClampNeg ((40 * x3_8) + nI m))) = 22) (J_10) (L_9 (x3_8 + (-1)))) (J_10)))) (nI t) := by
    intro c hc
    refine lf1_u (t + 1) (fun i a => a = nI (t + 1 - i) - 1 ∧ ∀ j, t + 1 - i ≤ j → j ≤ t → ¬ ash (M2 N 8 (40 * j + m))) ?_ _ ⟨by rw [Nat.sub_zero, nI_pred], fun j h3 h4 => by omega⟩
    rintro P i a hi ⟨rfl, hj⟩ hP
    refine jn0_c (naC N m t (t + 1 - i)) (fun d => ⟨by rw [naC_un hc d], G, h⟩) (fun J hJ => ?_)
    by_cases e : i = t + 1
    · rw [e, Nat.sub_self]
      rw [e, Nat.sub_self] at hj hJ
      exact wif_y (by decide) (hJ ⟨by omega, hj, Or.inl rfl⟩)
    · obtain ⟨d, hd⟩ : ∃ d, t + 1 - i = d + 1 := ⟨t - i, by omega⟩
      rw [hd] at hj hJ ⊢
      rw [nI_pred]
      have vd : vp_in (nI (40 * d + m)) 36000 := vp_in_nI (by omega) (by decide)
      refine wif_n (nI_pos (by omega)) ?_
      simp only [im40, nI_add, vd, nI_clamp (show 40 * d + m < 2 ^ 31 by omega), true_and]
      by_cases as : ash (M2 N 8 (40 * d + m))
      · have yes := hJ ⟨by omega, hj, Or.inr as⟩
        rcases as with a1 | a1
        · exact wif_n (by rw [a1]; decide) yes
        · by_cases r : rg (M2 N 8 (40 * d + m)) 0 7 = false
          · exact wif_y r (wif_y a1 yes)
          · exact wif_n r yes
      · refine wif_y (bf (fun z => as (Or.inl z))) (wif_n (fun z => as (Or.inr z)) (hP _ (by omega) ⟨?_, fun j h3 h4 => ?_⟩))
        · rw [show t + 1 - (i + 1) = d by omega]
          exact (Int32.sub_eq_add_neg _ _).symm
        · by_cases ej : j = d
          · rw [ej]; exact as
          · exact hj j (by omega) h4
  obtain ⟨n, f, b1, b2, b3, b4, b5, b6, b7, b8⟩ := h.M_hi hm
  have as : ∀ (c : Nat), c ≤ t + 1 → ∀ {Q : Option Nat → Prop}, (∀ j, j ≤ n → (∀ i, i < j → nI c - 1 < xI S 200 (f i)) → xI S 200 (f j) ≤ nI c - 1 → Q (some (f j))) → w_X2_asOf S (gA G 2 m) (nI c - 1) Q := fun c hc Q hQ => c_asOf (h.M_T hm) b1 b2 b3 b4 (by
    rw [Int32.le_iff_toInt_le, nI_m1 (by omega)]
    have e : (-1 : Int32).toInt = -1 := by decide
    omega) hQ
  have fin : ∀ b x, (∃ j c, b = f j ∧ x = nI c - 1 ∧ j ≤ n ∧ c ≤ t + 1 ∧ (∀ i, i < j → nI c - 1 < xI S 200 (f i)) ∧ xI S 200 (f j) ≤ nI c - 1 ∧ (∀ j, c ≤ j → j ≤ t → ¬ ash (M2 N 8 (40 * j + m)))) → lf2 (fun L_17 (x3_15 : Nat) (x4_16 : Int32) => xT S x3_15 = 4 ∧ w_X3_isAshore S x3_15 (fun (r_18 : Int32) => wif (r_18 = 0) (xT S x3_15 = 4 ∧ w_X2_asOf S (gA G 2 m) (xI S 200 x3_15 - 1) (fun (r_26 : Option Nat) => ∃ b_28, r_26 = some b_28 ∧ L_17 b_28 (xI S 200 x3_15 - 1))) (lf1 (fun L_9 (x3_8 : Int32) => jn0 (xF o (nI t - x4_16) S (nI t - x3_8) N) (fun J_10 => wif (x3_8 < 0) (J_10) (vp_in ((40 * x3_8) + nI m) 36000 ∧ wif (rg (M2 N 8 (Int32.toNatClampNeg ((40 * x3_8) + nI m))) 0 7 = false) (vp_in ((40 * x3_8) + nI m) 36000 ∧ wif ((M2 N 8 (Int32.toNatClampNeg ((40 * x3_8) + nI m))) = 22) (J_10) (L_9 (x3_8 + (-1)))) (J_10)))) (nI t)))) b x := by
    intro b x hI
    refine lf2_i (fun b x => ∃ j c, b = f j ∧ x = nI c - 1 ∧ j ≤ n ∧ c ≤ t + 1 ∧ (∀ i, i < j → nI c - 1 < xI S 200 (f i)) ∧ xI S 200 (f j) ≤ nI c - 1 ∧ (∀ j, c ≤ j → j ≤ t → ¬ ash (M2 N 8 (40 * j + m)))) (fun _ x => (x + 1).toNatClampNeg) ?_ b x hI
    rintro P b x ⟨j, c, rfl, rfl, hj, hc, hi, hle, hna⟩ hP
    refine ⟨b2 j hj, ?_⟩
    have pl : ∀ u, u + 1 ≤ c → xI S 200 (f j) ≤ nI u → M2 N 8 (40 * u + m) = xI S 201 (f j) := fun u hu hle' => b6 u (by omega) j hj (fun i hij => by
      have q1 := hi i hij
      rw [Int32.lt_iff_toInt_lt, nI_m1 (by omega)] at q1
      rw [Int32.lt_iff_toInt_lt, nI_toInt (by omega)]
      omega) hle'
    have done : (xI S 201 (f j) < 10 ∨ xI S 201 (f j) = 22) → naC N m t c := fun d => by
      refine ⟨hc, hna, ?_⟩
      by_cases c0 : c = 0
      · exact Or.inl c0
      · obtain ⟨u, rfl⟩ : ∃ u, c = u + 1 := ⟨c - 1, by omega⟩
        rw [nI_pred] at hle
        have e := pl u (by omega) hle
        refine Or.inr ?_
        rw [Nat.add_sub_cancel, e, ash_pv (by rw [← e]; exact h.M_pl hm u (by omega)) n1 n9]
        exact d
    unfold w_X3_isAshore
    refine ⟨b2 j hj, ?_⟩
    by_cases d1 : xI S 201 (f j) < 10
    · exact wif_y d1 (wif_n (by decide) (mod c (done (Or.inl d1))))
    · refine wif_n d1 ⟨b2 j hj, ?_⟩
      by_cases d2 : xI S 201 (f j) = 22
      · exact wif_y d2 (wif_n (by decide) (mod c (done (Or.inr d2))))
      · refine wif_n d2 (wif_y rfl ⟨b2 j hj, ?_⟩)
        have hjn : j < n := by
          by_cases e : j = n
          · rw [e] at d1
            exact absurd (Int32.not_le.mp (vp8_10 b8)) d1
          · omega
        obtain ⟨k, hk31, hk⟩ := nI_of (Int32.not_lt.mpr (b3 j hjn).2)
        rw [hk]
        rw [hk] at hle
        have hkc : k + 1 ≤ c := by
          rw [Int32.le_iff_toInt_le, nI_m1 (by omega), nI_toInt hk31] at hle
          omega
        refine as k (by omega) (fun j' hj' hi' hle' => ⟨f j', rfl, hP _ _ ⟨j', k, rfl, rfl, hj', by omega, hi', hle', fun u h3 h4 => ?_⟩ ?_⟩)
        · by_cases uc : c ≤ u
          · exact hna u uc h4
          · have e := pl u (by omega) (by rw [hk]; exact nI_le h3 (by omega))
            rw [ash_pv (h.M_pl hm u (by omega)) n1 n9, e]
            exact fun d => d.elim d1 d2
        · show (nI k - 1 + 1).toNatClampNeg < (nI c - 1 + 1).toNatClampNeg
          rw [s1_a1, s1_a1, nI_clamp (by omega), nI_clamp (by omega)]
          omega
  have := as (t + 1) (Nat.le_refl _) (Q := fun r => ∃ b, r = some b ∧ lf2 (fun L_17 (x3_15 : Nat) (x4_16 : Int32) => xT S x3_15 = 4 ∧ w_X3_isAshore S x3_15 (fun (r_18 : Int32) => wif (r_18 = 0) (xT S x3_15 = 4 ∧ w_X2_asOf S (gA G 2 m) (xI S 200 x3_15 - 1) (fun (r_26 : Option Nat) => ∃ b_28, r_26 = some b_28 ∧ L_17 b_28 (xI S 200 x3_15 - 1))) (lf1 (fun L_9 (x3_8 : Int32) => jn0 (xF o (nI t - x4_16) S (nI t - x3_8) N) (fun J_10 => wif (x3_8 < 0) (J_10) (vp_in ((40 * x3_8) + nI m) 36000 ∧ wif (rg (M2 N 8 (Int32.toNatClampNeg ((40 * x3_8) + nI m))) 0 7 = false) (vp_in ((40 * x3_8) + nI m) 36000 ∧ wif ((M2 N 8 (Int32.toNatClampNeg ((40 * x3_8) + nI m))) = 22) (J_10) (L_9 (x3_8 + (-1)))) (J_10)))) (nI t)))) b (nI t)) (fun j hj hi hle => ⟨f j, rfl, fin _ _ ⟨j, t + 1, rfl, (nI_pred t).symm, hj, Nat.le_refl _, hi, hle, fun u h3 h4 => by omega⟩⟩)
  rw [nI_pred] at this
  exact this
end
