set_option maxRecDepth 100000
section
variable {G : xG} {S : xH} {o : Nat} {M : xM} {x y w : Int32} {s : Nat} {Q : Int32 → Prop}
theorem an1 (y : Int32) : y &&& 1 = 0 ∨ y &&& 1 = 1 := by
  have h : (y &&& 1).toBitVec = y.toBitVec &&& 1#32 := rfl
  have e : (y.toBitVec &&& 1#32).toNat = y.toBitVec.toNat % 2 := by
    rw [BitVec.toNat_and]
    exact Nat.and_one_is_mod _
  rcases Nat.mod_two_eq_zero_or_one y.toBitVec.toNat with z | z
  · refine Or.inl (Int32.toBitVec_inj.mp (BitVec.eq_of_toNat_eq ?_))
    rw [h, e, z]
    rfl
  · refine Or.inr (Int32.toBitVec_inj.mp (BitVec.eq_of_toNat_eq ?_))
    rw [h, e, z]
    rfl
theorem bt_01 (x : Int32) (s : Nat) : bt x s = 0 ∨ bt x s = 1 := an1 _
theorem sh_n : ∀ n, n ≤ 10 → (1 : Int32) <<< (nI n &&& 31) = nI (2 ^ n) := by decide
theorem flS_s {i : Nat} (h : flS G M x i) (c : bt x i = 1 → M2 M 14 i = 0 ∧ M2 M 10 i = 0) : flS G M x (i + 1) := fun s hs b => by
  by_cases e : s = i
  · subst e; exact c b
  · exact h s (by omega) b
theorem c_isFleet (h : Inv G S o M) (q0 : ¬ (vp_in x (2 ^ gN G 9) ∧ flS G M x (gN G 9)) → Q 0) (q1 : vp_in x (2 ^ gN G 9) → flS G M x (gN G 9) → Q 1) : w_X0_isFleet S o x Q := by
  have n9 := h.O_n9
  have p9 : 2 ^ gN G 9 ≤ 2 ^ 10 := Nat.pow_le_pow_right (by decide) n9
  unfold w_X0_isFleet
  refine ⟨h.O_t, ?_⟩
  rw [h.O_c65, sh_n _ n9, isIn_eq]
  cases h1 : rg x 0 (nI (2 ^ gN G 9) - 1)
  · have nv : ¬ vp_in x (2 ^ gN G 9) := fun z => by rw [(rg_in (by omega)).mpr z] at h1; exact absurd h1 (by decide)
    refine lf2_u 0 (fun i a b => a = 0 ∧ b = nI 0) ?_ _ _ ⟨rfl, rfl⟩
    rintro P i a b hi ⟨rfl, rfl⟩ hP
    refine ⟨h.O_t, ?_⟩
    have qq : x_B 0 ∧ Q 0 := ⟨by rw [x_B_0]; trivial, q0 (fun z => nv z.1)⟩
    by_cases l : nI (gN G 9) ≤ nI 0
    · exact wif_y l qq
    · exact wif_n l (wif_y rfl qq)
  have hv := (rg_in (by omega)).mp h1
  refine lf2_u (gN G 9) (fun i a b => b = nI i ∧ (a = 1 ∧ flS G M x i ∨ a = 0 ∧ ¬ flS G M x (gN G 9))) ?_ _ _ ⟨rfl, Or.inl ⟨rfl, fun s hs => absurd hs (Nat.not_lt_zero s)⟩⟩
  rintro P i a b hi ⟨rfl, ha⟩ hP
  refine ⟨h.O_t, ?_⟩
  rcases ha with ⟨rfl, fl⟩ | ⟨rfl, nf⟩
  · by_cases el : i = gN G 9
    · refine wif_y (by rw [el]; exact Int32.le_refl _) ⟨by rw [x_B_1]; trivial, q1 hv (by rw [← el]; exact fl)⟩
    have hl : i < gN G 9 := by omega
    refine wif_n (nI_ge hl (by omega)) (wif_n (by decide) ?_)
    refine jn_i (fun v => v = 1 ∧ flS G M x (i + 1) ∨ v = 0 ∧ ¬ flS G M x (gN G 9)) (fun v hv => hP _ _ hl ⟨nI_1 i, hv⟩) (fun J hJ => ?_)
    refine jn0_c (flS G M x (i + 1)) (fun c => hJ 1 (Or.inl ⟨rfl, c⟩)) (fun K hK => ?_)
    have ebt : (x >>> (nI i &&& 31)) &&& 1 = bt x i := rfl
    rw [ebt]
    rcases bt_01 x i with b0 | b1
    · exact wif_y b0 (hK (flS_s fl (fun z => absurd (b0.symm.trans z) (by decide))))
    · refine wif_n (by rw [b1]; decide) ⟨h.O_t, ?_⟩
      rw [c_homeS h hl]
      by_cases c : M2 M 14 i = 0 ∧ M2 M 10 i = 0
      · exact wif_y ⟨c.1, Or.inr c.2⟩ (wif_n (by decide) (hK (flS_s fl (fun _ => c))))
      · exact wif_n (fun z => c ⟨z.1, by rcases z.2 with z | z; exact absurd z (by decide); exact z⟩) (wif_y rfl (hJ 0 (Or.inr ⟨rfl, fun z => c (z i hl b1)⟩)))
  · have qq : x_B 0 ∧ Q 0 := ⟨by rw [x_B_0]; trivial, q0 (fun z => nf z.2)⟩
    by_cases l : nI (gN G 9) ≤ nI i
    · exact wif_y l qq
    · exact wif_n l (wif_y rfl qq)
/-! sums that stay small -/
theorem sm_nn {f : Nat → Int32} {B : Nat} : ∀ n, (∀ i, i < n → ∃ q, q ≤ B ∧ f i = nI q) → ∃ q, q ≤ B * n ∧ sm f n = nI q
  | 0, _ => ⟨0, by omega, rfl⟩
  | n + 1, h => by
    obtain ⟨q, hq, e⟩ := sm_nn n (fun i hi => h i (by omega))
    obtain ⟨p, hp, e2⟩ := h n (by omega)
    exact ⟨q + p, by rw [Nat.mul_succ]; omega, by rw [sm, e, e2, nI_add]⟩
theorem mA_nn (h : Inv G S o M) (p y : Int32) : ∃ q, q ≤ 40 ∧ mA M (gN G 4) (gN G 5) p y = nI q := by
  have n5 := h.O_n5
  obtain ⟨q, hq, e⟩ := sm_nn (f := mf M (gN G 4) p y) (B := 1) (gN G 5) (fun i _ => by
    unfold mf
    split
    · exact ⟨1, by omega, rfl⟩
    · exact ⟨0, by omega, rfl⟩)
  exact ⟨q, by omega, e⟩
theorem gc_nn (h : Inv G S o M) (y : Int32) (s : Nat) : ∃ q, q ≤ 40 ∧ gc G M y s = nI q := by
  unfold gc
  split
  · exact mA_nn h _ _
  · exact ⟨0, by omega, rfl⟩
theorem spr_nn (h : Inv G S o M) (hs : s < 10) (hw : vp_in w 4) : ∃ q, q ≤ 40 ∧ spr G M s w = nI q := by
  obtain ⟨a, ha, ea⟩ := mA_nn h (nI (10 + s)) 0
  obtain ⟨b, hb, eb⟩ := vp_in_of (h.Z_l s hs) (by decide)
  obtain ⟨c, hc, ec⟩ := vp_in_of hw (by decide)
  unfold spr
  have ec0 : crw G M s 0 = nI a := ea
  rw [ec0, eb, ec]
  by_cases l : b + c ≤ a
  · have e : nI a - nI b - nI c = nI (a - b - c) := by rw [pk_sub (by omega), pk_sub (by omega)]
    rw [e]
    split
    · exact ⟨a - b - c, by omega, rfl⟩
    · exact ⟨0, by omega, rfl⟩
  · rw [if_neg]
    · exact ⟨0, by omega, rfl⟩
    · have e : nI a - nI b - nI c = nI a - nI (b + c) := by
        rw [← nI_add]
        simp only [Int32.sub_eq_add_neg, Int32.neg_add]
        ac_rfl
      rw [e, Int32.lt_iff_toInt_lt, pk_sub_toInt (by omega) (by omega), show (0 : Int32).toInt = 0 by decide]
      omega
theorem spf_nn (h : Inv G S o M) (hs : s < 10) (hw : vp_in w 4) : ∃ q, q ≤ 40 ∧ spf G M w s = nI q := by
  unfold spf
  split
  · exact spr_nn h hs hw
  · exact ⟨0, by omega, rfl⟩
theorem mnf_nn (h : Inv G S o M) (hs : s < 10) (hw : vp_in w 4) : ∃ q, q ≤ 40 ∧ mnf G M w s = nI q := by
  unfold mnf
  split
  · split
    · exact mA_nn h _ _
    · exact spr_nn h hs hw
  · exact ⟨0, by omega, rfl⟩
theorem bt0 : ∀ s, s < 10 → bt 0 s = 0 := by decide
theorem nd0 {k : Nat} : ∀ n, n ≤ 10 → sm (nd M k 0) n = 0
  | 0, _ => rfl
  | n + 1, hn => by rw [sm, nd0 n (by omega), nd, bt0 n (by omega)]; rfl
theorem ng_t {p : Nat} (hp : p < 2 ^ 30) : (-(nI p) + 0).toInt = -(p : Int) := by
  have e : -(nI p) + 0 = nI 0 - nI p := by
    rw [Int32.add_zero, Int32.sub_eq_add_neg, show nI 0 = 0 from rfl, Int32.zero_add]
  rw [e, pk_sub_toInt (by decide) hp]
  omega
theorem tk0 (h : Inv G S o M) (hw : vp_in w 4) : tkx G M 0 w = 0 := by
  have n9 := h.O_n9
  have P : ∀ y, ∃ p, p ≤ 440 ∧ pol G M y = nI p := fun y => by
    obtain ⟨a, ha, ea⟩ := mA_nn h 20 y
    obtain ⟨b, hb, eb⟩ := sm_nn (f := gc G M y) (B := 40) (gN G 9) (fun i _ => gc_nn h y i)
    exact ⟨a + b, by omega, by rw [pol, ea, eb, nI_add]⟩
  obtain ⟨p0, hp0, e0⟩ := P 0
  obtain ⟨p1, hp1, e1⟩ := P 1
  obtain ⟨a, ha, ea⟩ := sm_nn (f := spf G M w) (B := 40) (gN G 9) (fun i hi => spf_nn h (by omega) hw)
  obtain ⟨b, hb, eb⟩ := sm_nn (f := mnf G M w) (B := 40) (gN G 9) (fun i hi => mnf_nn h (by omega) hw)
  have z : (0 : Int32).toInt = 0 := by decide
  rw [tkx, nd0 _ n9, nd0 _ n9, e0, e1, ea, eb, tkv]
  have t0 := ng_t (p := p0) (by omega)
  have t1 := ng_t (p := p1) (by omega)
  have m0 : mx (mx (-(nI p0) + 0) (-(nI p1) + 0)) 0 = 0 := by
    have q : (mx (-(nI p0) + 0) (-(nI p1) + 0)).toInt ≤ 0 := by
      unfold mx
      split
      · omega
      · omega
    rw [← mx_0', if_pos (by rw [Int32.le_iff_toInt_le, z]; exact q)]
  rw [m0, if_neg (by rw [Int32.lt_iff_toInt_lt, nI_toInt (by omega), z]; omega), if_neg (by rw [Int32.lt_iff_toInt_lt, nI_toInt (by omega), t1]; omega)]
theorem e_taken (h : Inv G S o M) : w_X0_taken S o x y (fun r => w_X1_taken M x y (fun r' M' => xF o r S r' M')) := by
  obtain ⟨N, hN⟩ : ∃ N, m1 M 0 0 = N := ⟨_, rfl⟩
  replace h : Inv G S o N := by rw [← hN]; exact h.m0
  have n9 := h.O_n9
  have p9 : 2 ^ gN G 9 ≤ 2 ^ 10 := Nat.pow_le_pow_right (by decide) n9
  unfold w_X0_taken w_X0_isWeather
  rw [isIn_eq]
  cases h1 : rg y 0 3
  · refine ⟨by rw [x_B_zI]; trivial, wif_y rfl ?_⟩
    show w_X1_taken M x y (fun r' M' => xF o (-2) S r' M')
    unfold w_X1_taken
    rw [nm_eq, hN, m_badWeather, h1]
    exact wif_n (by decide) ⟨rfl, G, h⟩
  have hw : vp_in y 4 := (rg_le (n := 3) (by decide)).mp h1
  have md : ∀ r : Int32, (¬ (vp_in x (2 ^ gN G 9) ∧ flS G N x (gN G 9)) → xF o r S (-2) N) → (vp_in x (2 ^ gN G 9) → flS G N x (gN G 9) → xF o r S (tkx G N x y) N) → w_X1_taken M x y (fun r' M' => xF o r S r' M') := fun r a0 a1 => by
    unfold w_X1_taken
    rw [nm_eq, hN, m_badWeather, h1, h.O_d9, sh_n _ n9, l64_0, in_eq]
    refine wif_y rfl ?_
    cases h2 : rg x 0 (nI (2 ^ gN G 9) - 1)
    · exact wif_y rfl (a0 (fun z => by rw [(rg_in (by omega)).mpr z.1] at h2; exact absurd h2 (by decide)))
    have hv := (rg_in (by omega)).mp h2
    refine wif_n (by decide) ?_
    refine lf1_u (gN G 9) (fun i b => b = nI i ∧ flS G N x i) ?_ _ ⟨rfl, fun s hs => absurd hs (Nat.not_lt_zero s)⟩
    rintro P i b hi ⟨rfl, fl⟩ hP
    by_cases el : i = gN G 9
    · exact wif_y (by rw [el]; exact Int32.le_refl _) (m_fewest h.mI (by rw [← el]; exact fl) (a1 hv (by rw [← el]; exact fl)))
    have hl : i < gN G 9 := by omega
    refine wif_n (nI_ge hl (by omega)) ?_
    refine jn0_c (flS G N x (i + 1)) (fun c => hP _ hl ⟨nI_1 i, c⟩) (fun K hK => ?_)
    have ebt : (x >>> (nI i &&& 31)) &&& 1 = bt x i := rfl
    rw [ebt, m_mayGo (by omega)]
    by_cases b1 : bt x i = 1
    · refine wif_y b1 ?_
      by_cases c : M2 N 14 i = 0 ∧ M2 N 10 i = 0
      · exact wif_y c (wif_n (by decide) (hK (flS_s fl (fun _ => c))))
      · exact wif_n c (wif_y rfl (a0 (fun z => c (z.2 i hl b1))))
    · exact wif_n b1 (hK (flS_s fl (fun z => absurd z b1)))
  refine ⟨by rw [x_B_zI]; trivial, wif_n (by decide) ⟨h.O_t, c_isFleet h (fun nf => ?_) (fun hv fl => ?_)⟩⟩
  · exact wif_y rfl (md _ (fun _ => ⟨rfl, G, h⟩) (fun a b => absurd ⟨a, b⟩ nf))
  · refine wif_n (by decide) ⟨h.O_t, c_takenFor h (md _ (fun z => absurd ⟨hv, fl⟩ z) (fun _ _ => ⟨?_, G, h⟩))⟩
    by_cases x0 : x = 0
    · rw [if_pos x0, x0, tk0 h hw]
    · rw [if_neg x0]
end
