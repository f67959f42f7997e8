set_option maxRecDepth 100000
/-! ===== texts: fault, force ===== -/
def sgA (M : xM) (a : Nat) : Nat → Int32 := fun j => M2 M 20 (60 * a + j)
def cA (M : xM) (a : Nat) : Nat := (M2 M 19 a).toNatClampNeg
/-- the act in force, of the first i -/
def fO (M : xM) (t : Int32) : Nat → Int32
  | 0 => -9
  | i + 1 => if ¬ t < M2 M 18 i ∧ flt (sgA M i) (cA M i) = -9 ∧ (fO M t i = -9 ∨ ¬ M2 M 18 i < M2 M 18 (fO M t i).toNatClampNeg) then nI i else fO M t i
theorem fO_v (M : xM) (t : Int32) : ∀ i, fO M t i = -9 ∨ ∃ j, j < i ∧ fO M t i = nI j ∧ flt (sgA M j) (cA M j) = -9 := by
  intro i
  induction i with
  | zero => exact Or.inl rfl
  | succ i ih =>
    rw [fO]
    split
    · next c => exact Or.inr ⟨i, by omega, rfl, c.2.1⟩
    · rcases ih with q | ⟨j, hj, q⟩
      · exact Or.inl q
      · exact Or.inr ⟨j, by omega, q⟩
/-- what the model's side asks of acts -/
def mAc (N : Nat) (M : xM) : Prop := N ≤ 8 ∧ M1 M 17 = nI N ∧ ∀ a, a < N → M2 M 19 a = nI (cA M a) ∧ cA M a ≤ 60
section
variable {G : xG} {S : xH} {o : Nat} {M : xM} {x y z : Int32}
theorem cA_i {M : xM} {a : Nat} (hb : vp_in (M2 M 19 a) 61) : M2 M 19 a = nI (cA M a) ∧ cA M a ≤ 60 := by
  obtain ⟨q, hq, e⟩ := vp_in_of hb (by decide)
  have : cA M a = q := by rw [cA, e, nI_clamp (by omega)]
  rw [this]
  exact ⟨e, by omega⟩
theorem c_mA (h : Inv G S o M) : mAc (gN G 17) M := ⟨h.O_n17, h.O_d17, fun _ ha => cA_i (h.A_cn ha)⟩
theorem c_AC (h : Inv G S o M) {a : Nat} (ha : a < gN G 17) : AC S (gA G 6 a) (gA G 7 a) (sgA M a) (cA M a) := ⟨h.A_T ha, h.A_sg ha, h.A_sT ha, h.A_sL ha, fun j hj => h.A_sv ha j hj, (h.A_ct ha).trans (cA_i (h.A_cn ha)).1, (cA_i (h.A_cn ha)).2⟩
theorem c_read {a b c : Nat} {sg : Nat → Int32} (h : AC S a b sg c) {k n : Nat} {Q : Option Nat → xH → Prop} (hk : 60 ≤ k) (hn : 120 ≤ n) (hQ : ∀ S' r, xE S S' → (flt sg c = -9 → ∃ t, r = some t ∧ tx sg c S' 64 0 t) → (¬ flt sg c = -9 → r = none ∧ xI S' 304 a = flt sg c) → Q r S') : w_X5_read k n S a Q := by
  have hc6 := h.2.2.2.2.2.2
  have bd := pT_bd (sg := sg) (c := c) 64 0 (by omega)
  have e2 : xE S (sI (sI S 303 a 0) 304 a (-9)) := ((xE.refl S).i3 (Or.inl rfl)).i3 (Or.inr rfl)
  have e1 : xE S (sI S 303 a 0) := (xE.refl S).i3 (Or.inl rfl)
  have f3 : xI (sI (sI S 303 a 0) 304 a (-9)) 303 a = nI 0 := by rw [xI_nf _ _ (by decide)]; exact xI_at _ _ _ _
  have f4 : xI (sI (sI S 303 a 0) 304 a (-9)) 304 a = -9 := xI_at _ _ _ _
  unfold w_X5_read
  simp only [nm_eq]
  refine ⟨h.1, (h.ext e1).1, (h.ext e2).1, 60, 120, hk, hn, ?_⟩
  generalize sI (sI S 303 a 0) 304 a (-9) = S2 at *
  have A2 := h.ext e2
  refine c_readText 64 0 S2 60 120 _ A2 f3 f4 (by omega) (by omega) (by omega) (by omega) (fun r S' p => ?_)
  obtain ⟨e, y, z⟩ := p
  have A' := A2.ext e
  have ee := e2.trans e
  by_cases ok : (pT sg c 64 0).1 = true
  · obtain ⟨t, rfl, ht, g3, g4⟩ := y ok
    refine wif_n (by simp) ⟨A'.1, A'.1, ?_⟩
    rw [A'.2.2.2.2.2.1, g3]
    by_cases l : (pT sg c 64 0).2 < c
    · have ef : flt sg c = nI (pT sg c 64 0).2 := by rw [flt, if_pos ok, if_pos l]
      have nf : ¬ flt sg c = -9 := by rw [ef]; exact n9_ne (by omega)
      exact wif_n (nI_ge l (by omega)) ⟨A'.1, A'.1, hQ _ _ (ee.i3 (Or.inr rfl)) (fun q => absurd q nf) (fun _ => ⟨rfl, by rw [xI_at, ef]⟩)⟩
    · have ef : flt sg c = -9 := by rw [flt, if_pos ok, if_neg l]
      refine wif_y (by rw [show (pT sg c 64 0).2 = c by omega]; exact Int32.le_refl _) (hQ _ _ ee (fun _ => ⟨t, rfl, ht⟩) (fun q => absurd ef q))
  · obtain ⟨rfl, g4⟩ := z ok
    have ef : flt sg c = nI (pT sg c 64 0).2 := by rw [flt, if_neg ok]
    have nf : ¬ flt sg c = -9 := by rw [ef]; exact n9_ne (by omega)
    exact wif_y rfl (hQ _ _ ee (fun q => absurd q nf) (fun _ => ⟨rfl, by rw [g4, ef]⟩))
theorem m_hasD {v : Int32} {Q : Int32 → Prop} (q1 : hsD v = true → Q 1) (q0 : ¬ hsD v = true → Q 0) : w_X1_hasDigits M v Q := by
  unfold w_X1_hasDigits
  by_cases e97 : v = 97
  · exact wif_y e97 (q1 (by rw [e97]; decide))
  refine wif_n e97 ?_
  by_cases e65 : v = 65
  · exact wif_y e65 (q1 (by rw [e65]; decide))
  refine wif_n e65 ?_
  by_cases e121 : v = 121
  · exact wif_y e121 (q1 (by rw [e121]; decide))
  refine wif_n e121 ?_
  by_cases e89 : v = 89
  · exact wif_y e89 (q1 (by rw [e89]; decide))
  refine wif_n e89 ?_
  by_cases e116 : v = 116
  · exact wif_y e116 (q1 (by rw [e116]; decide))
  exact wif_n e116 (q0 (by simp [hsD, e97, e65, e121, e89, e116]))
theorem m1_i {q : Nat} (h : 0 < q) : nI q + -1 = nI (q - 1) := by
  obtain ⟨p, rfl⟩ : ∃ p, q = p + 1 := ⟨q - 1, by omega⟩
  rw [← nI_1, Int32.add_assoc, show (1 : Int32) + -1 = 0 by decide, Int32.add_zero, Nat.add_sub_cancel]
theorem m_faultOf {a c : Nat} (ha : a < 8) (hc : M2 M 19 a = nI c) (h6 : c ≤ 60) {Q : Int32 → Prop} (q : Q (flt (sgA M a) c)) : w_X1_faultOf M (nI a) Q := by
  rw [← fS_flt h6] at q
  have hv : vp_in (nI a) 8 := vp_in_nI (by omega) (by decide)
  unfold w_X1_faultOf
  refine lf3_u c (fun i b d x => ∃ lk dg, b = nI lk ∧ d = nI dg ∧ x = nI i ∧ lk ≤ i + 1 ∧ dg ≤ 2 ∧ fS (sgA M a) c c 0 1 0 = fS (sgA M a) c (c - i) i lk dg) ?_ _ _ _ ⟨1, 0, rfl, rfl, rfl, by omega, by omega, rfl⟩
  rintro P i b d x hi ⟨lk, dg, rfl, rfl, rfl, hlk, hdg, ef⟩ hP
  rw [nI_clamp (show a < 2 ^ 31 by omega), hc]
  refine ⟨hv, ?_⟩
  rw [ef] at q
  by_cases el : i = c
  · rw [el, Nat.sub_self, fS] at q
    refine wif_y (by rw [el]; exact Int32.le_refl _) ?_
    simp only [jn0_eq]
    by_cases l0 : lk = 0
    · refine wif_y (by rw [l0]; rfl) ?_
      by_cases d0 : dg = 0
      · rw [if_pos ⟨l0, d0⟩] at q
        exact wif_y (by rw [d0]; rfl) q
      · rw [if_neg (fun p => d0 p.2)] at q
        exact wif_n (fun p => d0 ((eqk_0 (by omega)).mp p)) ⟨hv, q⟩
    · rw [if_neg (fun p => l0 p.1)] at q
      exact wif_n (fun p => l0 ((eqk_0 (by omega)).mp p)) ⟨hv, q⟩
  have hl : i < c := by omega
  obtain ⟨r, hr⟩ : ∃ r, c - i = r + 1 := ⟨c - i - 1, by omega⟩
  have er : r = c - (i + 1) := by omega
  have nx : ∀ lk' dg', lk' ≤ i + 2 → dg' ≤ 2 → fS (sgA M a) c (r + 1) i lk dg = fS (sgA M a) c r (i + 1) lk' dg' → P (nI lk') (nI dg') (nI i + 1) := fun lk' dg' h1 h2 e => by
    refine hP _ _ _ hl ⟨lk', dg', rfl, rfl, nI_1 i, h1, h2, ?_⟩
    rw [ef, hr, e, er]
  refine wif_n (nI_ge hl (by omega)) ?_
  rw [im60, nI_add, nI_clamp (show 60 * a + i < 2 ^ 31 by omega), nm_eq, l64_48, l64_57, jn2_eq]
  refine ⟨vp_in_nI (by omega) (by decide), ?_⟩
  show wif _ (wif _ _ (jn0 _ _)) _
  have esg : M2 M 20 (60 * a + i) = sgA M a i := rfl
  rw [esg]
  rw [hr] at q
  by_cases d0 : dg = 0
  · subst d0
    refine wif_y (Int32.le_refl _) ?_
    by_cases l0 : lk = 0
    · rw [fS, if_neg (by omega), if_pos l0] at q
      exact wif_y (by rw [l0]; rfl) q
    refine wif_n (fun p => l0 ((eqk_0 (by omega)).mp p)) ?_
    rw [jn0_eq]
    have st : fS (sgA M a) c (r + 1) i lk 0 = if two (sgA M a i) = true then fS (sgA M a) c r (i + 1) (lk + 1) 0 else if hsD (sgA M a i) = true then fS (sgA M a) c r (i + 1) (lk - 1) 2 else if psh (sgA M a i) = true then fS (sgA M a) c r (i + 1) (lk - 1) 0 else if sgA M a i = 33 then fS (sgA M a) c r (i + 1) lk 0 else nI i := by rw [fS, if_neg (by omega), if_neg l0]
    have n2 : two (sgA M a i) = true → P (nI lk + 1) (nI 0) (nI i + 1) := fun t2 => by
      rw [nI_1]
      exact nx (lk + 1) 0 (by omega) (by omega) (by rw [st, if_pos t2])
    by_cases e38 : sgA M a i = 38
    · exact wif_y e38 (n2 (by rw [e38]; decide))
    refine wif_n e38 ?_
    by_cases e124 : sgA M a i = 124
    · exact wif_y e124 (n2 (by rw [e124]; decide))
    refine wif_n e124 ?_
    have t2 : ¬ two (sgA M a i) = true := by simp [two, e38, e124]
    refine m_hasD (fun hd => ?_) (fun hd => ?_)
    · refine wif_n (by decide) ?_
      rw [m1_i (by omega)]
      exact nx (lk - 1) 2 (by omega) (by omega) (by rw [st, if_neg t2, if_pos hd])
    · refine wif_y rfl ?_
      rw [jn0_eq, m1_i (by omega)]
      have n3 : psh (sgA M a i) = true → P (nI (lk - 1)) (nI 0) (nI i + 1) := fun t3 => nx (lk - 1) 0 (by omega) (by omega) (by rw [st, if_neg t2, if_neg hd, if_pos t3])
      by_cases e112 : sgA M a i = 112
      · exact wif_y e112 (n3 (by rw [e112]; decide))
      refine wif_n e112 ?_
      by_cases e115 : sgA M a i = 115
      · exact wif_y e115 (n3 (by rw [e115]; decide))
      refine wif_n e115 ?_
      by_cases e104 : sgA M a i = 104
      · exact wif_y e104 (n3 (by rw [e104]; decide))
      refine wif_n e104 ?_
      have t3 : ¬ psh (sgA M a i) = true := by simp [psh, e112, e115, e104]
      by_cases e33 : sgA M a i = 33
      · exact wif_y e33 (nx lk 0 (by omega) (by omega) (by rw [st, if_neg t2, if_neg hd, if_neg t3, if_pos e33]))
      · rw [st, if_neg t2, if_neg hd, if_neg t3, if_neg e33] at q
        exact wif_n e33 q
  · refine wif_n (fun p => d0 (by have := (lek_0 (by omega)).mp p; omega)) ?_
    rw [in_eq]
    by_cases hd : dgt (sgA M a i) = true
    · refine wif_n (by rw [show rg (sgA M a i) 48 57 = true from hd]; decide) ?_
      rw [m1_i (by omega)]
      exact nx lk (dg - 1) (by omega) (by omega) (by rw [fS, if_pos (by omega), if_pos hd])
    · rw [fS, if_pos (by omega), if_neg hd] at q
      exact wif_y (by rw [show rg (sgA M a i) 48 57 = false by simpa [dgt] using hd]; rfl) q
theorem e_fault (h : Inv G S o M) {k n : Nat} (hk : 60 ≤ k) (hn : 120 ≤ n) : w_X0_fault k n S o x (fun r S' => w_X1_fault M x (fun r' M' => xF o r S' r' M')) := by
  simp only [w_X1_fault, nm_eq]
  generalize hN : m1 M 0 0 = N
  replace h : Inv G S o N := by rw [← hN]; exact h.m0
  have n17 := h.O_n17
  cases h1 : rg x 0 (nI (gN G 17) - 1)
  · simp only [w_X0_fault, c_isAct h, h.O_d17, l64_0, h1, h.O_t, wif_T, wif_F, nm_eq, jn_eq, jn0_eq, jn2_eq, jn3_eq, jn4_eq, zI_t, zI_f, zI0, x_B_zI, x_B_0, x_B_1, isIn_eq, in_eq, Bool.true_eq_false, Bool.false_eq_true, eq_self, true_and, and_true, Option.some.injEq, exists_eq_left', exists_eq_left, reduceCtorEq, not_true_eq_false, not_false_eq_true, one_ne, if_true, if_false]
    exact ⟨rfl, G, h⟩
  obtain ⟨a, ha, rfl⟩ := c_ax h h1
  have hv : vp_in (nI a) 8 := vp_in_nI (by omega) (by decide)
  have ec : (nI a).toNatClampNeg = a := nI_clamp (by omega)
  simp only [w_X0_fault, c_isAct h, h.O_d17, l64_0, h1, h.O_t, h.R_r59, h.R_t59, h.R_l59, hv, ec, h.A_q ha, h.A_T ha, wif_T, wif_F, nm_eq, jn_eq, jn0_eq, jn2_eq, jn3_eq, jn4_eq, zI_t, zI_f, zI0, x_B_zI, x_B_0, x_B_1, isIn_eq, in_eq, Bool.true_eq_false, Bool.false_eq_true, eq_self, true_and, and_true, Option.some.injEq, exists_eq_left', exists_eq_left, reduceCtorEq, not_true_eq_false, not_false_eq_true, one_ne, if_true, if_false]
  refine ⟨60, 120, hk, hn, c_read (c_AC h ha) (Nat.le_refl _) (Nat.le_refl _) (fun S' r e y z => ?_)⟩
  have g := h.ext e
  have cc := cA_i (h.A_cn ha)
  by_cases q : flt (sgA N a) (cA N a) = -9
  · obtain ⟨b, rfl, _⟩ := y q
    refine wif_n (by simp) (m_faultOf (by omega) cc.1 cc.2 ?_)
    rw [q]
    exact ⟨rfl, G, g⟩
  · obtain ⟨rfl, e4⟩ := z q
    refine wif_y rfl ?_
    simp only [g.O_t, g.R_r59, g.R_t59, g.R_l59, hv, g.A_q ha, g.A_T ha, e4, wif_T, wif_F, nm_eq, jn_eq, jn0_eq, jn2_eq, jn3_eq, jn4_eq, zI_t, zI_f, zI0, x_B_zI, x_B_0, x_B_1, isIn_eq, in_eq, Bool.true_eq_false, Bool.false_eq_true, eq_self, true_and, and_true, Option.some.injEq, exists_eq_left', exists_eq_left, reduceCtorEq, not_true_eq_false, not_false_eq_true, one_ne, if_true, if_false]
    exact m_faultOf (by omega) cc.1 cc.2 ⟨rfl, G, g⟩
theorem c_forceOn (h : Inv G S o M) {k n : Nat} {t : Int32} {Q : Int32 → xH → Prop} (hk : 480 ≤ k) (hn : 960 ≤ n) (hQ : ∀ S', xE S S' → Q (fO M t (gN G 17)) S') : w_X0_forceOn k n S o t Q := by
  have n17 := h.O_n17
  unfold w_X0_forceOn
  refine lf5_u (gN G 17) (fun i b x S' k' n' => b = fO M t i ∧ x = nI i ∧ xE S S' ∧ 60 * (gN G 17 - i) ≤ k' ∧ 120 * (gN G 17 - i) ≤ n') ?_ _ _ _ _ _ ⟨rfl, rfl, xE.refl S, by omega, by omega⟩
  rintro P i b x S' k' n' hi ⟨rfl, rfl, e, ek, en⟩ hP
  have g := h.ext e
  refine ⟨g.O_t, ?_⟩
  rw [g.O_c60]
  by_cases el : i = gN G 17
  · rw [el]
    exact wif_y (Int32.le_refl _) (hQ S' e)
  have hl : i < gN G 17 := by omega
  have hv : vp_in (nI i) 8 := vp_in_nI (by omega) (by decide)
  have ec : (nI i).toNatClampNeg = i := nI_clamp (by omega)
  refine wif_n (nI_ge hl (by omega)) ?_
  simp only [g.O_t, g.R_r59, g.R_t59, g.R_l59, hv, ec, g.A_q hl, g.A_T hl, g.A_fr hl, wif_T, wif_F, nm_eq, zI_t, zI_f, zI0, x_B_zI, x_B_0, x_B_1, isIn_eq, in_eq, Bool.true_eq_false, Bool.false_eq_true, eq_self, true_and, and_true, Option.some.injEq, exists_eq_left', exists_eq_left, reduceCtorEq, not_true_eq_false, not_false_eq_true, one_ne, if_true, if_false]
  let C : Prop := ¬ t < M2 M 18 i ∧ (fO M t i = -9 ∨ ¬ M2 M 18 i < M2 M 18 (fO M t i).toNatClampNeg)
  refine jn_i (fun v => v = 0 ∧ ¬ C ∨ v = 1 ∧ C) (fun v hv => ?_) (fun J hJ => ?_)
  · simp only [jn4_eq, jn3_eq]
    rcases hv with ⟨rfl, nc⟩ | ⟨rfl, c⟩
    · refine wif_y rfl (hP _ _ _ _ _ hl ⟨?_, nI_1 i, e, by omega, by omega⟩)
      rw [fO, if_neg (fun p => nc ⟨p.1, p.2.2⟩)]
    · refine wif_n (by decide) ⟨60, 120, by omega, by omega, c_read (c_AC g hl) (Nat.le_refl _) (Nat.le_refl _) (fun S2 r e2 y z => ?_)⟩
      by_cases q : flt (sgA M i) (cA M i) = -9
      · obtain ⟨b, rfl, _⟩ := y q
        refine wif_n (by simp) (hP _ _ _ _ _ hl ⟨?_, nI_1 i, e.trans e2, by omega, by omega⟩)
        rw [fO, if_pos ⟨c.1, q, c.2⟩]
      · obtain ⟨rfl, _⟩ := z q
        refine wif_y rfl (hP _ _ _ _ _ hl ⟨?_, nI_1 i, e.trans e2, by omega, by omega⟩)
        rw [fO, if_neg (fun p => q p.2.1)]
  · refine jn0_c (¬ C) (fun c => hJ 0 (Or.inl ⟨rfl, c⟩)) (fun K hK => ?_)
    by_cases q1 : t < M2 M 18 i
    · exact wif_y q1 (hK (fun c => c.1 q1))
    refine wif_n q1 (jn0_c C (fun c => hJ 1 (Or.inr ⟨rfl, c⟩)) (fun K2 hK2 => ?_))
    rcases fO_v M t i with eb | ⟨j, hj, eb, _⟩
    · exact wif_y eb (hK2 ⟨q1, Or.inl eb⟩)
    · have ej : (nI j).toNatClampNeg = j := nI_clamp (by omega)
      have hjl : j < gN G 17 := by omega
      rw [eb, ej]
      refine wif_n (n9_ne (by omega)) ⟨vp_in_nI (by omega) (by decide), gA G 6 j, g.A_q hjl, g.A_T hjl, ?_⟩
      rw [g.A_fr hjl]
      by_cases q2 : M2 M 18 i < M2 M 18 j
      · refine wif_y q2 (hK (fun c => ?_))
        rcases c.2 with p | p
        · rw [eb] at p; exact n9_ne (by omega) p
        · rw [eb, ej] at p; exact p q2
      · exact wif_n q2 (hK2 ⟨q1, Or.inr (by rw [eb, ej]; exact q2)⟩)
theorem m_forceOf {N : Nat} (h : mAc N M) {t : Int32} {Q : Int32 → Prop} (q : Q (fO M t N)) : w_X1_forceOf M t Q := by
  obtain ⟨n17, d17, hc⟩ := h
  unfold w_X1_forceOf
  refine lf2_u N (fun i b x => b = fO M t i ∧ x = nI i) ?_ _ _ ⟨rfl, rfl⟩
  rintro P i b x hi ⟨rfl, rfl⟩ hP
  rw [d17]
  by_cases el : i = N
  · rw [el]
    exact wif_y (Int32.le_refl _) q
  have hl : i < N := by omega
  have hv : vp_in (nI i) 8 := vp_in_nI (by omega) (by decide)
  have ec : (nI i).toNatClampNeg = i := nI_clamp (by omega)
  refine wif_n (nI_ge hl (by omega)) ⟨hv, ?_⟩
  simp only [ec]
  refine jn_i (fun v => v = 0 ∧ ¬ (¬ t < M2 M 18 i ∧ flt (sgA M i) (cA M i) = -9) ∨ v = 1 ∧ (¬ t < M2 M 18 i ∧ flt (sgA M i) (cA M i) = -9)) (fun v hv' => ?_) (fun J hJ => ?_)
  · simp only [jn_eq, jn0_eq]
    rcases hv' with ⟨rfl, nc⟩ | ⟨rfl, c⟩
    · refine wif_y rfl (hP _ _ hl ⟨?_, nI_1 i⟩)
      rw [fO, if_neg (fun p => nc ⟨p.1, p.2.1⟩)]
    · refine wif_n (by decide) ?_
      rcases fO_v M t i with eb | ⟨j, hj, eb, _⟩
      · refine wif_y eb (hP _ _ hl ⟨?_, nI_1 i⟩)
        rw [fO, if_pos ⟨c.1, c.2, Or.inl eb⟩]
      · have ej : (nI j).toNatClampNeg = j := nI_clamp (by omega)
        have st := fO.eq_2 M t i
        rw [eb, ej] at st
        rw [eb, ej]
        refine wif_n (n9_ne (by omega)) ⟨hv, vp_in_nI (by omega) (by decide), ?_⟩
        by_cases q2 : M2 M 18 i < M2 M 18 j
        · refine wif_y q2 (hP _ _ hl ⟨?_, nI_1 i⟩)
          rw [st, if_neg (fun p => ?_)]
          rcases p.2.2 with p | p
          · exact n9_ne (by omega) p
          · exact p q2
        · refine wif_n q2 (hP _ _ hl ⟨?_, nI_1 i⟩)
          rw [st, if_pos ⟨c.1, c.2, Or.inr q2⟩]
  · refine jn0_c (¬ (¬ t < M2 M 18 i ∧ flt (sgA M i) (cA M i) = -9)) (fun c => hJ 0 (Or.inl ⟨rfl, c⟩)) (fun K hK => ?_)
    by_cases q1 : t < M2 M 18 i
    · exact wif_y q1 (hK (fun c => c.1 q1))
    refine wif_n q1 (m_faultOf (by omega) (hc i hl).1 (hc i hl).2 ?_)
    by_cases q2 : flt (sgA M i) (cA M i) = -9
    · exact wif_y q2 (hJ 1 (Or.inr ⟨rfl, q1, q2⟩))
    · exact wif_n q2 (hK (fun c => q2 c.2))
theorem e_force (h : Inv G S o M) {k n : Nat} (hk : 480 ≤ k) (hn : 960 ≤ n) : w_X0_force k n S o x (fun r S' => w_X1_force M x (fun r' M' => xF o r S' r' M')) := by
  simp only [w_X1_force, nm_eq]
  generalize hN : m1 M 0 0 = N
  replace h : Inv G S o N := by rw [← hN]; exact h.m0
  cases h3 : rg x 0 899
  · simp only [w_X0_force, c_isTide, m_noTide, h3, h.O_t, Bool.not_false, wif_T, wif_F, nm_eq, jn_eq, jn0_eq, jn2_eq, jn3_eq, jn4_eq, zI_t, zI_f, zI0, x_B_zI, x_B_0, x_B_1, isIn_eq, in_eq, Bool.true_eq_false, Bool.false_eq_true, eq_self, true_and, and_true, Option.some.injEq, exists_eq_left', exists_eq_left, reduceCtorEq, not_true_eq_false, not_false_eq_true, one_ne, if_true, if_false]
    exact ⟨rfl, G, h⟩
  simp only [w_X0_force, c_isTide, m_noTide, h3, h.O_t, Bool.not_true, wif_T, wif_F, nm_eq, jn_eq, jn0_eq, jn2_eq, jn3_eq, jn4_eq, zI_t, zI_f, zI0, x_B_zI, x_B_0, x_B_1, isIn_eq, in_eq, Bool.true_eq_false, Bool.false_eq_true, eq_self, true_and, and_true, Option.some.injEq, exists_eq_left', exists_eq_left, reduceCtorEq, not_true_eq_false, not_false_eq_true, one_ne, if_true, if_false]
  exact ⟨480, 960, hk, hn, c_forceOn h (Nat.le_refl _) (Nat.le_refl _) (fun S' e => m_forceOf (c_mA h) ⟨rfl, G, h.ext e⟩)⟩
end
