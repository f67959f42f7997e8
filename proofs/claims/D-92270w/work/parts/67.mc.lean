set_option maxRecDepth 100000
/-! ===== the best row, the model's side ===== -/
/-- M' is M but for what laying uses -/
def mS (M M' : xM) : Prop := (∀ k, ¬ k = 30 → M1 M' k = M1 M k) ∧ ∀ k, ¬ k = 3 → ¬ k = 21 → ¬ k = 27 → ¬ k = 28 → ¬ k = 29 → M2 M' k = M2 M k
theorem mS.refl {M : xM} : mS M M := ⟨fun _ _ => rfl, fun _ _ _ _ _ _ => rfl⟩
theorem mS.f {M M' : xM} {F : Nat → Int32} (k : Nat) (h : mS M M') (hk : k = 3 ∨ k = 21 ∨ k = 27 ∨ k = 28 ∨ k = 29) : mS M (mF M' k F) := ⟨fun j hj => by rw [M1_mF]; exact h.1 j hj, fun j h1 h2 h3 h4 h5 => by rw [mF_ne (by omega)]; exact h.2 j h1 h2 h3 h4 h5⟩
theorem mS.b {M M' : xM} {v : Int32} (h : mS M M') : mS M (m1 M' 30 v) := ⟨fun j hj => by
  show va_up M'.1 30 v j = _
  unfold va_up
  rw [if_neg hj]
  exact h.1 j hj, h.2⟩
theorem mS.eq {M M' : xM} (h : mS M M') : M' = m1 (mF (mF (mF (mF (mF M 3 (M2 M' 3)) 21 (M2 M' 21)) 27 (M2 M' 27)) 28 (M2 M' 28)) 29 (M2 M' 29)) 30 (M1 M' 30) := by
  refine Prod.ext ?_ ?_
  · funext k
    show M1 M' k = va_up M.1 30 (M1 M' 30) k
    unfold va_up
    by_cases e : k = 30
    · rw [if_pos e, e]
    · rw [if_neg e]; exact h.1 k e
  · funext k
    show M2 M' k = va_up (va_up (va_up (va_up (va_up M.2 3 (M2 M' 3)) 21 (M2 M' 21)) 27 (M2 M' 27)) 28 (M2 M' 28)) 29 (M2 M' 29) k
    simp only [va_up]
    by_cases e29 : k = 29
    · rw [if_pos e29, e29]
    rw [if_neg e29]
    by_cases e28 : k = 28
    · rw [if_pos e28, e28]
    rw [if_neg e28]
    by_cases e27 : k = 27
    · rw [if_pos e27, e27]
    rw [if_neg e27]
    by_cases e21 : k = 21
    · rw [if_pos e21, e21]
    rw [if_neg e21]
    by_cases e3 : k = 3
    · rw [if_pos e3, e3]
    rw [if_neg e3]
    exact h.2 k e3 e21 e27 e28 e29
theorem Inv.ms {G : xG} {S : xH} {o : Nat} {M M' : xM} (h : Inv G S o M) (e : mS M M') : Inv G S o M' := by
  rw [e.eq]
  exact h
theorem mI.ms {G : xG} {M M' : xM} (h : mI G M) (e : mS M M') : mI G M' := by
  rw [e.eq]
  exact h
theorem m2_F {M : xM} {k i : Nat} {v : Int32} : m2 M k i v = mF M k (fun b => if b = i then v else M2 M k b) := (congrArg (fun N => m2 N k i v) (mF_self (M := M) (k := k))).symm.trans m2_mF
theorem fO_k {M M' : xM} (e : ∀ k, 6 ≤ k → k ≤ 20 → M2 M' k = M2 M k) (t : Int32) : ∀ i, fO M' t i = fO M t i := by
  intro i
  have es : ∀ a, sgA M' a = sgA M a := fun a => by unfold sgA; rw [e 20 (by decide) (by decide)]
  have ec : ∀ a, cA M' a = cA M a := fun a => by unfold cA; rw [e 19 (by decide) (by decide)]
  induction i with
  | zero => rfl
  | succ i ih => rw [fO, fO, ih, es, ec, e 18 (by decide) (by decide)]
theorem mb_k {M M' : xM} (e : ∀ k, 6 ≤ k → k ≤ 20 → M2 M' k = M2 M k) (N t m : Nat) (v : Bool) : mb M' N t m v = mb M N t m v := by
  have es : ∀ a, sgA M' a = sgA M a := fun a => by unfold sgA; rw [e 20 (by decide) (by decide)]
  have ec : ∀ a, cA M' a = cA M a := fun a => by unfold cA; rw [e 19 (by decide) (by decide)]
  have et : te M' t m v = te M t m v := by
    funext x y
    unfold te
    rw [e 6 (by decide) (by decide), e 8 (by decide) (by decide)]
  rw [mb, mb, fO_k e, es, ec, et]
theorem cvF_k {M M' : xM} (e : ∀ k, 6 ≤ k → k ≤ 20 → M2 M' k = M2 M k) (p m : Nat) (t : Int32) : cvF M' p m t = cvF M p m t := by
  unfold cvF
  rw [e 6 (by decide) (by decide), e 16 (by decide) (by decide)]
theorem trv_k {M M' : xM} (e : ∀ k, 6 ≤ k → k ≤ 20 → M2 M' k = M2 M k) (t m i : Nat) : trv M' t m i = trv M t m i := by
  have q : trP M' t m i = trP M t m i := by
    have e16 := e 16 (by decide) (by decide)
    unfold trP
    rw [e16]
    exact propext ⟨fun ⟨p, h1, h2, h3⟩ => ⟨p, h1, h2, by rw [← cvF_k e]; exact h3⟩, fun ⟨p, h1, h2, h3⟩ => ⟨p, h1, h2, by rw [cvF_k e]; exact h3⟩⟩
  unfold trv
  rw [q]
theorem mAc_k {M M' : xM} {N : Nat} (h : mAc N M) (e1 : M1 M' 17 = M1 M 17) (e : ∀ k, 6 ≤ k → k ≤ 20 → M2 M' k = M2 M k) : mAc N M' := by
  have ec : ∀ a, cA M' a = cA M a := fun a => by unfold cA; rw [e 19 (by decide) (by decide)]
  refine ⟨h.1, by rw [e1]; exact h.2.1, fun a ha => ?_⟩
  rw [e 19 (by decide) (by decide), ec]
  exact h.2.2 a ha
/-- man m may truly be taken now -/
noncomputable def trm (G : xG) (M : xM) (m : Nat) : Bool := mb M (gN G 17) (gN G 4) m (trv M (gN G 4) m (gN G 15))
/-- how many of the first i men are in street s and may truly be taken -/
noncomputable def tcn (G : xG) (M : xM) : Nat → Nat → Nat
  | 0, _ => 0
  | i + 1, s => tcn G M i s + (if M2 M 8 (40 * gN G 4 + i) = nI s ∧ trm G M i = true then 1 else 0)
theorem tcn_y {G : xG} {M : xM} {i s : Nat} (c : M2 M 8 (40 * gN G 4 + i) = nI s ∧ trm G M i = true) : tcn G M (i + 1) s = tcn G M i s + 1 := by rw [tcn, if_pos c]
theorem tcn_n {G : xG} {M : xM} {i s : Nat} (c : ¬ (M2 M 8 (40 * gN G 4 + i) = nI s ∧ trm G M i = true)) : tcn G M (i + 1) s = tcn G M i s := by rw [tcn, if_neg c, Nat.add_zero]
theorem tcn_le {G : xG} {M : xM} {s : Nat} : ∀ {i : Nat}, tcn G M i s ≤ i
  | 0 => by rw [tcn]; exact Nat.le_refl _
  | i + 1 => by
    have := tcn_le (G := G) (M := M) (s := s) (i := i)
    rw [tcn]
    split <;> omega
theorem nsm_b {f : Nat → Nat} (h : ∀ i, f i ≤ 40) : ∀ n, nsm f n ≤ 40 * n
  | 0 => Nat.le_refl _
  | n + 1 => by
    have := nsm_b h n
    have := h n
    rw [nsm]
    omega
theorem m9_lt {x : Nat} (h : x < 2 ^ 31) : (-9 : Int32) < nI x := by
  rw [Int32.lt_iff_toInt_lt, nI_toInt h]
  have : (-9 : Int32).toInt = -9 := by decide
  omega
section
variable {M M' : xM} {T : Nat → Nat} {D : Nat → Nat → Nat} {n g h c : Nat}
theorem dig_0 {N L k : Nat} : dig N L 0 k = 0 := by rw [dig, Nat.zero_div, Nat.zero_mod]
theorem mt_b (hn : 1 ≤ n) (hn8 : n ≤ 8) (T40 : ∀ s, T s ≤ 40) {c : Nat} : mtf T D n h g (dig n (g * h) c) ≤ nsm T n ∧ nsm T n ≤ 320 := ⟨mtf_le (fun _ _ _ _ => dig_lt hn), Nat.le_trans (nsm_b T40 n) (by omega)⟩
/-- a code is worth -9 or no more than all -/
theorem vlu_b (hn : 1 ≤ n) : vlu T D n h g c = -9 ∨ ∃ v, v ≤ nsm T n ∧ vlu T D n h g c = nI v := by
  by_cases q : wlk D h (dig n (g * h) c) (g * h)
  · exact Or.inr ⟨_, mtf_le (fun _ _ _ _ => dig_lt hn), vlu_y q⟩
  · exact Or.inl (vlu_n q)
theorem vlu_0 (hn : 1 ≤ n) (hn8 : n ≤ 8) (T40 : ∀ s, T s ≤ 40) (D0 : D 0 0 = 0) : (-9 : Int32) < vlu T D n h g 0 := by
  have k := mt_b (D := D) (h := h) (g := g) hn hn8 T40 (c := 0)
  rw [vlu_y (fun i _ => Or.inr (by rw [dig_0, dig_0, D0]; exact Nat.zero_le _))]
  exact m9_lt (by omega)
theorem m_codes (w : mW M' T D n) (D0 : D 0 0 = 0) (hg1 : 1 ≤ g) (hg : g ≤ 2) (hh1 : 1 ≤ h) (hh : h ≤ 3) (sM : mS M M') {Q : Int32 → xM → Prop} (q : ∀ N, mS M N → mW N T D n → M1 N 30 = nI (bst (vlu T D n h g) 0 (-9, 0) (n ^ (g * h))).2 → Q (bst (vlu T D n h g) 0 (-9, 0) (n ^ (g * h))).1 N) : lf3 (fun L_17 (x4_14 : Int32) (x5_15 : Int32) (M_16 : xM) => wif (nI (n ^ (g * h)) ≤ x5_15) (Q x4_14 M_16) (w_X1_meet M_16 x5_15 (nI g) (nI h) (fun (r_19 : Int32) (M_20 : xM) => jn2 (fun (x4_21 : Int32) (M_22 : xM) => L_17 x4_21 (x5_15 + 1) M_22) (fun J_23 => wif (r_19 ≤ x4_14) (J_23 x4_14 M_20) (nm (m1 M_20 30 x5_15) (fun M_25 : xM => J_23 r_19 M_25)))))) (-9) 0 M' := by
  have n1 := w.2.1
  have n8 := w.2.2.1
  have V0 := vlu_0 (D := D) (h := h) (g := g) n1 n8 w.2.2.2.2.2.1 D0
  have hL : g * h ≤ 6 := Nat.le_trans (Nat.mul_le_mul hg hh) (by decide)
  have pL : n ^ (g * h) ≤ 262144 := Nat.le_trans (Nat.pow_le_pow_left n8 _) (Nat.le_trans (Nat.pow_le_pow_right (by decide) hL) (by decide))
  have p1 : 1 ≤ n ^ (g * h) := Nat.pow_pos n1
  generalize eV : vlu T D n h g = V at *
  generalize n ^ (g * h) = K at *
  refine lf3_u K (fun i x y N => x = (bst V 0 (-9, 0) i).1 ∧ y = nI i ∧ mS M N ∧ mW N T D n ∧ (0 < i → M1 N 30 = nI (bst V 0 (-9, 0) i).2)) ?_ _ _ _ ⟨rfl, rfl, sM, w, fun z => absurd z (by decide)⟩
  rintro P i x y N hi ⟨rfl, rfl, sN, wN, bN⟩ hP
  by_cases ei : i = K
  · rw [ei] at bN ⊢
    exact wif_y (Int32.le_refl _) (q _ sN wN (bN p1))
  · have hl : i < K := by omega
    refine wif_n (nI_ge hl (by omega)) ?_
    refine m_meet wN hg1 hg hh1 hh (by omega) (fun W A _ => ?_)
    rw [eV]
    have nx : bst V 0 (-9, 0) (i + 1) = if (bst V 0 (-9, 0) i).1 < V (0 + i) then (V (0 + i), 0 + i) else bst V 0 (-9, 0) i := by rw [bst]
    rw [Nat.zero_add] at nx
    refine jn2_i (fun x N => x = (bst V 0 (-9, 0) (i + 1)).1 ∧ mS M N ∧ mW N T D n ∧ M1 N 30 = nI (bst V 0 (-9, 0) (i + 1)).2) (fun x N hx => hP _ _ _ hl ⟨hx.1, nI_1 i, hx.2.1, hx.2.2.1, fun _ => hx.2.2.2⟩) (fun J hJ => ?_)
    rw [nx] at hJ
    have s3 : mS M (mF (mF N 28 W) 29 A) := mS.f 29 (mS.f 28 sN (by decide)) (by decide)
    have w3 : mW (mF (mF N 28 W) 29 A) T D n := wN
    by_cases c : (bst V 0 (-9, 0) i).1 < V i
    · rw [if_pos c] at hJ
      refine wif_n (fun z => le_nlt.mp z c) ?_
      rw [nm_eq]
      exact hJ _ _ ⟨rfl, s3.b, w3, rfl⟩
    · rw [if_neg c] at hJ
      refine wif_y (le_nlt.mpr c) (hJ _ _ ⟨rfl, s3, w3, ?_⟩)
      have ip : 0 < i := by
        rcases Nat.eq_zero_or_pos i with z | z
        · subst z; exact absurd V0 c
        · exact z
      exact bN ip
end
section
variable {G : xG} {M : xM} {g h : Nat}
theorem m_best (w : mI G M) (hA : mAc (gN G 17) M) (hg1 : 1 ≤ g) (hg : g ≤ 2) (hh1 : 1 ≤ h) (hh : h ≤ 3) {Q : Int32 → xM → Prop} (q : ∀ N, mS M N → mW N (tcn G M (gN G 5)) (dst (adj M)) (gN G 1) → M1 N 30 = nI (bst (vlu (tcn G M (gN G 5)) (dst (adj M)) (gN G 1) h g) 0 (-9, 0) (gN G 1 ^ (g * h))).2 → Q (bst (vlu (tcn G M (gN G 5)) (dst (adj M)) (gN G 1) h g) 0 (-9, 0) (gN G 1 ^ (g * h))).1 N) : w_X1_look M (nI g) (nI h) Q := by
  have n0 := w.n0
  have n1 := w.n1
  have n5 := w.n5
  unfold w_X1_look
  refine m_measure ?_
  have s0 : mS M (msr M) := mS.f 3 mS.refl (Or.inl rfl)
  have f3 : ∀ a b, a < 8 → b < 8 → M2 (msr M) 3 (8 * a + b) = nI (dst (adj M) a b) := fun a b ha hb => by
    unfold msr
    rw [mF_at]
    unfold msF
    rw [if_pos (by omega), show (8 * a + b) / 8 = a by omega, show (8 * a + b) % 8 = b by omega]
  refine lf2_u 8 (fun i x N => x = nI i ∧ mS M N ∧ M2 N 3 = M2 (msr M) 3 ∧ ∀ s, s < i → M2 N 27 s = nI 0) ?_ _ _ ⟨rfl, s0, rfl, fun s hs => absurd hs (Nat.not_lt_zero s)⟩
  generalize msr M = M0 at *
  rintro P i x N hi ⟨rfl, sM, e3, e27⟩ hP
  by_cases ei : i = 8
  · subst ei
    clear hP
    refine wif_y (Int32.le_refl _) ?_
    refine lf2_u (gN G 5) (fun i x N => x = nI i ∧ mS M N ∧ M2 N 3 = M2 M0 3 ∧ ∀ s, s < 8 → M2 N 27 s = nI (tcn G M i s)) ?_ _ _ ⟨rfl, sM, e3, fun s hs => by rw [tcn]; exact e27 s hs⟩
    clear e27 e3 sM N
    rintro P i x N hi ⟨rfl, sM, e3, e27⟩ hP
    rw [sM.1 5 (by decide), w.d5]
    by_cases ei : i = gN G 5
    · rw [ei] at e27
      refine wif_y (by rw [ei]; exact Int32.le_refl _) ?_
      clear hP
      have wN : mW N (tcn G M (gN G 5)) (dst (adj M)) (gN G 1) := ⟨by rw [sM.1 1 (by decide), w.d1], n0, n1, fun a b ha hb => by rw [e3]; exact f3 a b ha hb, e27, fun s => Nat.le_trans tcn_le n5, fun a b => dst_le⟩
      rw [pk_mul]
      refine lf2_u (g * h) (fun i x y => x = nI (gN G 1 ^ i) ∧ y = nI i) ?_ _ _ ⟨by rw [Nat.pow_zero]; rfl, rfl⟩
      rintro P i x y hi ⟨rfl, rfl⟩ hP
      by_cases ei : i = g * h
      · rw [ei]
        exact wif_y (Int32.le_refl _) (m_codes wN (dst_0.mpr rfl) hg1 hg hh1 hh sM q)
      · have hl : i < g * h := by omega
        have hL : g * h ≤ 6 := Nat.le_trans (Nat.mul_le_mul hg hh) (by decide)
        refine wif_n (nI_ge hl (by omega)) ?_
        rw [nm_eq, sM.1 1 (by decide), w.d1, pk_mul]
        exact hP _ _ hl ⟨by rw [Nat.pow_succ], nI_1 i⟩
    · have hl : i < gN G 5 := by omega
      refine wif_n (nI_ge hl (by omega)) ?_
      have p8 : M2 N 8 = M2 M 8 := sM.2 8 (by decide) (by decide) (by decide) (by decide) (by decide)
      have ek : ∀ k, 6 ≤ k → k ≤ 20 → M2 N k = M2 M k := fun k h1 h2 => sM.2 k (by omega) (by omega) (by omega) (by omega) (by omega)
      rw [m_placeOf (w.ms sM) hl, m_isStreet, p8]
      refine jn_i (fun N => mS M N ∧ M2 N 3 = M2 M0 3 ∧ ∀ s, s < 8 → M2 N 27 s = nI (tcn G M (i + 1) s)) (fun N hN => hP _ _ hl ⟨nI_1 i, hN⟩) (fun J hJ => ?_)
      by_cases st : rg (M2 M 8 (40 * gN G 4 + i)) 0 7 = true
      · rw [st]
        refine wif_n (by decide) ?_
        refine m_truly (mAc_k hA (sM.1 17 (by decide)) ek) (by omega) (by rw [sM.1 4 (by decide), w.d4]) w.n4 (by rw [sM.1 15 (by decide), w.d15]) w.n15 (fun F => ?_)
        have er : mb N (gN G 17) (gN G 4) i (trv N (gN G 4) i (gN G 15)) = trm G M i := by rw [trv_k ek, mb_k ek, trm]
        rw [er]
        have sM1 : mS M (mF N 21 F) := mS.f 21 sM (by decide)
        obtain ⟨s, hs, es⟩ : ∃ s, s < 8 ∧ M2 M 8 (40 * gN G 4 + i) = nI s := ⟨_, (vi_c ((rg_le (n := 7) (by decide)).mp st)).1, (vi_c ((rg_le (n := 7) (by decide)).mp st)).2.symm⟩
        by_cases tr : trm G M i = true
        · rw [tr]
          refine wif_n (by decide) ?_
          rw [m_placeOf (w.ms sM1) hl, mF_ne (show ¬ 8 = 21 by decide), p8, es]
          refine ⟨vp_in_nI hs (by decide), vp_in_nI hs (by decide), ?_⟩
          rw [nm_eq, nI_clamp (show s < 2 ^ 31 by omega), m2_F]
          refine hJ _ ⟨mS.f 27 sM1 (by decide), by rw [mF_ne (by decide), mF_ne (by decide)]; exact e3, fun s' hs' => ?_⟩
          rw [mF_at, mF_ne (show ¬ 27 = 21 by decide)]
          show (if s' = s then M2 N 27 s + 1 else M2 N 27 s') = _
          by_cases e : s' = s
          · rw [if_pos e, e27 s hs, nI_1, e, tcn_y ⟨es, tr⟩]
          · rw [if_neg e, e27 s' hs', tcn_n (fun z => e ((nI_eq (by omega) (by omega)).mp (z.1.symm.trans es)))]
        · rw [eq_false_of_ne_true tr]
          exact wif_y rfl (hJ _ ⟨sM1, by rw [mF_ne (by decide)]; exact e3, fun s' hs' => by rw [mF_ne (by decide), e27 s' hs', tcn_n (fun z => tr z.2)]⟩)
      · rw [eq_false_of_ne_true st]
        exact wif_y rfl (hJ _ ⟨sM, e3, fun s hs => by rw [e27 s hs, tcn_n (fun z => st (by rw [z.1]; exact (rg_le (n := 7) (by decide)).mpr (vp_in_nI hs (by decide))))]⟩)
  · have hl : i < 8 := by omega
    refine wif_n (fun z => ei (by have := (kle_8 (by omega)).mp z; omega)) ⟨vp_in_nI hl (by decide), ?_⟩
    rw [nm_eq, nI_clamp (show i < 2 ^ 31 by omega), m2_F]
    refine hP _ _ hl ⟨nI_1 i, mS.f 27 sM (by decide), by rw [mF_ne (by decide)]; exact e3, fun s hs => ?_⟩
    rw [mF_at]
    show (if s = i then (0 : Int32) else M2 N 27 s) = _
    by_cases e : s = i
    · rw [if_pos e]; rfl
    · rw [if_neg e]; exact e27 s (by omega)
end
