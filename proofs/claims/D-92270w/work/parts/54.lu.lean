set_option maxRecDepth 100000
section
variable {S : xH} {o b c i : Nat} {sg : Nat → Int32}
theorem o_ne {S : xH} {o a : Nat} (ho : xT S o = 6) (ha : xT S a = 0) : ¬ o = a := fun e => by rw [e, ha] at ho; exact absurd ho (by decide)
theorem p0 {p : Nat} (h : p < 2 ^ 31) : (0 : Int32) ≤ nI p := nI_pos' h
theorem c_readNumber {x1 x2 : Int32} {k n t : Nat} (h : AC S o b sg c) (h3 : xI S 303 o = nI i) (h4 : xI S 304 o = -9) (hi : i ≤ c) (hk : 1 ≤ k) (hn : 2 ≤ n) (ht : t = if x2 = 97 then 11 else if x2 = 65 then 12 else 13) {Q : Option Nat → xH → Prop}
    (qy : (pN sg c i).1 = true → ∀ S' a, xE S S' → xT S' a = t → xI S' 550 a = x1 → xI S' 551 a = nu sg i → (∃ q, q < 100 ∧ nu sg i = nI q) → xI S' 303 o = nI (pN sg c i).2 → xI S' 304 o = -9 → Q (some a) S')
    (qn : ¬ (pN sg c i).1 = true → ∀ S', xE S S' → xI S' 304 o = nI (pN sg c i).2 → Q none S') : w_X5_readNumber k n S o x1 x2 Q := by
  have hc6 := h.2.2.2.2.2.2
  have fl : ∀ S4 p, xE S S4 → xI S4 303 o = nI p → xI S4 304 o = -9 → ¬ (pN sg c i).1 = true → (pN sg c i).2 = p → (xT S4 o = 6 ∧ w_X5_fail S4 o (fun r S' => Q r S')) := fun S4 p e q3 q4 hf hp => ⟨(h.ext e).1, c_fail (h.ext e) q3 q4 (qn hf _ (e.i3 (Or.inr rfl)) (by rw [xI_at, hp]))⟩
  unfold w_X5_readNumber
  refine ⟨h.1, c_digit h h3 hi (fun l1 d1 => ?_) (fun nd => ?_)⟩
  · obtain ⟨p, hp, ep⟩ := dg_n d1
    have x1e : xE S (sI S 303 o (nI (i + 1))) := (xE.refl S).i3 (Or.inl rfl)
    have A1 := h.ext x1e
    rw [jn2_eq]
    refine wif_y (by rw [ep]; exact p0 (by omega)) ⟨A1.1, c_digit A1 (xI_at _ _ _ _) (by omega) (fun l2 d2 => ?_) (fun nd => ?_)⟩
    · obtain ⟨q, hq, eq⟩ := dg_n d2
      refine wif_y (by rw [eq]; exact p0 (by omega)) ?_
      have eN : pN sg c i = (true, i + 2) := by rw [pN, if_pos ⟨l1, d1⟩, if_pos ⟨l2, d2⟩]
      have x2e : xE S (sI (sI S 303 o (nI (i + 1))) 303 o (nI (i + 1 + 1))) := x1e.i3 (Or.inl rfl)
      have f3 : xI (sI (sI S 303 o (nI (i + 1))) 303 o (nI (i + 1 + 1))) 303 o = nI (i + 2) := xI_at _ _ _ _
      have f4 : xI (sI (sI S 303 o (nI (i + 1))) 303 o (nI (i + 1 + 1))) 304 o = -9 := by rw [xI_nf _ _ (by decide), xI_nf _ _ (by decide)]; exact h4
      have fo := (h.ext x2e).1
      have enu : 10 * (sg i - 48) + (sg (i + 1) - 48) = nu sg i := rfl
      rw [nm_eq, enu]
      generalize sI (sI S 303 o (nI (i + 1))) 303 o (nI (i + 1 + 1)) = S4 at *
      have fin : ∀ a tt, xT S4 a = 0 → tt = t → Q (some a) (sI (sI (sN S4 a tt) 550 a x1) 551 a (nu sg i)) := fun a tt ha e => by
        have hne := o_ne fo ha
        have ha0 : xT S a = 0 := by
          by_cases z : xT S a = 0
          · exact z
          · rw [(x2e a z).1] at ha; exact absurd ha z
        refine qy (by rw [eN]) _ a (((x2e.n ha).i ha0).i ha0) (by simp only [xT_sI, xL_sI, xR_sI, xA_sI, xQ_sI, xT_sR, xL_sR, xI_sR, xA_sR, xQ_sR, xT_sA, xL_sA, xI_sA, xR_sA, xQ_sA, xT_sQ, xL_sQ, xI_sQ, xR_sQ, xA_sQ, xT_sB, xL_sB, xI_sB, xR_sB, xQ_sB]; rw [← e]; exact xT_nN) (by rw [xI_nf _ _ (by decide)]; exact xI_at _ _ _ _) (xI_at _ _ _ _) (nu_n d1 d2) ?_ ?_
        · rw [xI_nf _ _ (by decide), xI_nf _ _ (by decide), eN]
          exact (by simp [sN, xI, hne] : xI (sN S4 a tt) 303 o = xI S4 303 o).trans f3
        · rw [xI_nf _ _ (by decide), xI_nf _ _ (by decide)]
          exact (by simp [sN, xI, hne] : xI (sN S4 a tt) 304 o = xI S4 304 o).trans f4
      by_cases e97 : x2 = 97
      · refine wif_y e97 ⟨hk, hn, fun a ha => ?_⟩
        simp only [nm_eq, w_X10_init, w_X6_init, xT_nN, xT_sI, xL_sI, xR_sI, xA_sI, xQ_sI, xT_sR, xL_sR, xI_sR, xA_sR, xQ_sR, xT_sA, xL_sA, xI_sA, xR_sA, xQ_sA, xT_sQ, xL_sQ, xI_sQ, xR_sQ, xA_sQ, xT_sB, xL_sB, xI_sB, xR_sB, xQ_sB]
        exact ⟨Or.inl trivial, Or.inl trivial, fin a 11 ha (by rw [ht, if_pos e97])⟩
      · refine wif_n e97 ?_
        by_cases e65 : x2 = 65
        · refine wif_y e65 ⟨hk, hn, fun a ha => ?_⟩
          simp only [nm_eq, w_X11_init, w_X10_init, w_X6_init, xT_nN, xT_sI, xL_sI, xR_sI, xA_sI, xQ_sI, xT_sR, xL_sR, xI_sR, xA_sR, xQ_sR, xT_sA, xL_sA, xI_sA, xR_sA, xQ_sA, xT_sQ, xL_sQ, xI_sQ, xR_sQ, xA_sQ, xT_sB, xL_sB, xI_sB, xR_sB, xQ_sB]
          exact ⟨Or.inr (Or.inl trivial), Or.inr (Or.inl trivial), fin a 12 ha (by rw [ht, if_neg e97, if_pos e65])⟩
        · refine wif_n e65 ⟨hk, hn, fun a ha => ?_⟩
          simp only [nm_eq, w_X12_init, w_X11_init, w_X10_init, w_X6_init, xT_nN, xT_sI, xL_sI, xR_sI, xA_sI, xQ_sI, xT_sR, xL_sR, xI_sR, xA_sR, xQ_sR, xT_sA, xL_sA, xI_sA, xR_sA, xQ_sA, xT_sQ, xL_sQ, xI_sQ, xR_sQ, xA_sQ, xT_sB, xL_sB, xI_sB, xR_sB, xQ_sB]
          exact ⟨Or.inr (Or.inr trivial), Or.inr (Or.inr trivial), fin a 13 ha (by rw [ht, if_neg e97, if_neg e65])⟩
    · have eN : pN sg c i = (false, i + 1) := by rw [pN, if_pos ⟨l1, d1⟩, if_neg nd]
      exact wif_n (by decide) (fl _ (i + 1) x1e (xI_at _ _ _ _) (by rw [xI_nf _ _ (by decide)]; exact h4) (by rw [eN]; simp) (by rw [eN]))
  · have eN : pN sg c i = (false, i) := by rw [pN, if_neg nd]
    rw [jn2_eq]
    exact wif_n (by decide) (wif_n (by decide) (fl S i (xE.refl S) h3 h4 (by rw [eN]; simp) (by rw [eN])))
/-- what reading from i on leaves -/
def rdP (sg : Nat → Int32) (c : Nat) (S : xH) (o f i : Nat) (r : Option Nat) (S' : xH) : Prop := xE S S' ∧ ((pT sg c f i).1 = true → ∃ a, r = some a ∧ tx sg c S' f i a ∧ xI S' 303 o = nI (pT sg c f i).2 ∧ xI S' 304 o = -9) ∧ (¬ (pT sg c f i).1 = true → r = none ∧ xI S' 304 o = nI (pT sg c f i).2)
theorem t0_of {S S' : xH} {a : Nat} (e : xE S S') (ha : xT S' a = 0) : xT S a = 0 := by
  by_cases z : xT S a = 0
  · exact z
  · rw [(e a z).1] at ha; exact absurd ha z
theorem c_readText : ∀ f i S k n Q, AC S o b sg c → xI S 303 o = nI i → xI S 304 o = -9 → i ≤ c → c - i < f → (pT sg c f i).2 - i ≤ k → 2 * ((pT sg c f i).2 - i) ≤ n → (∀ r S', rdP sg c S o f i r S' → Q r S') → w_X5_readText f k n S o Q := by
  intro f
  induction f with
  | zero => intro i S k n Q h h3 h4 hi hf; exact absurd hf (Nat.not_lt_zero _)
  | succ f ih =>
    intro i S k n Q h h3 h4 hi hf hk hn hQ
    have hc6 := h.2.2.2.2.2.2
    show w_X5_readText_b (w_X5_readText f) k n S o Q
    unfold w_X5_readText_b
    refine ⟨h.1, ?_⟩
    rw [nm_eq, h3]
    refine ⟨h.1, c_next h h3 hi (fun hlt => ?_) (fun e => ?_)⟩
    · have xe : xE S (sI S 303 o (nI (i + 1))) := (xE.refl S).i3 (Or.inl rfl)
      have A3 := h.ext xe
      have f3 : xI (sI S 303 o (nI (i + 1))) 303 o = nI (i + 1) := xI_at _ _ _ _
      have f4 : xI (sI S 303 o (nI (i + 1))) 304 o = -9 := by rw [xI_nf _ _ (by decide)]; exact h4
      have bd := pT_bd (sg := sg) f (i + 1) (show i + 1 ≤ c by omega)
      have un : ∀ {v : Nat × Nat}, True := fun {_} => trivial
      have deflt : ¬ two (sg i) = true → ¬ sg i = 33 → ¬ hsD (sg i) = true → ¬ psh (sg i) = true → (xT (sI S 303 o (nI (i + 1))) o = 6 ∧ w_X5_fail (sI (sI S 303 o (nI (i + 1))) 303 o (nI i)) o (fun r S' => Q r S')) := fun n1 n2 n3 n4 => by
        have ep : pT sg c (f + 1) i = (false, i) := by rw [pT, if_pos hlt, if_neg n1, if_neg n2, if_neg n3, if_neg n4]
        have xe2 : xE S (sI (sI S 303 o (nI (i + 1))) 303 o (nI i)) := xe.i3 (Or.inl rfl)
        refine ⟨A3.1, c_fail (h.ext xe2) (xI_at _ _ _ _) (by rw [xI_nf _ _ (by decide)]; exact f4) (hQ _ _ ⟨xe2.i3 (Or.inr rfl), fun q => by rw [ep] at q; exact absurd q (by simp), fun _ => ⟨rfl, by rw [xI_at, ep]⟩⟩)⟩
      have tip : ∀ tt, psh (sg i) = true → tt = kP (sg i) → ¬ two (sg i) = true → ¬ sg i = 33 → ¬ hsD (sg i) = true → 1 ≤ k ∧ 0 ≤ n ∧ ∀ a, xT (sI S 303 o (nI (i + 1))) a = 0 → Q (some a) (sN (sI S 303 o (nI (i + 1))) a tt) := fun tt hp ht n1 n2 n3 => by
        have ep : pT sg c (f + 1) i = (true, i + 1) := by rw [pT, if_pos hlt, if_neg n1, if_neg n2, if_neg n3, if_pos hp]
        rw [ep] at hk
        refine ⟨by simp at hk; omega, Nat.zero_le _, fun a ha => hQ _ _ ⟨xe.n ha, fun _ => ⟨a, rfl, Or.inr (Or.inr (Or.inr (Or.inr ⟨hp, by rw [xT_nN]; exact ht⟩))), ?_, ?_⟩, fun q => by rw [ep] at q; exact absurd rfl q⟩⟩
        · rw [ep]
          exact (by simp [sN, xI, o_ne A3.1 ha] : xI (sN (sI S 303 o (nI (i + 1))) a tt) 303 o = xI (sI S 303 o (nI (i + 1))) 303 o).trans f3
        · exact (by simp [sN, xI, o_ne A3.1 ha] : xI (sN (sI S 303 o (nI (i + 1))) a tt) 304 o = xI (sI S 303 o (nI (i + 1))) 304 o).trans f4
      have num : ∀ y1 y2, hsD (sg i) = true → ¬ two (sg i) = true → ¬ sg i = 33 → y1 = kW (sg i) → kT (sg i) = (if y2 = 97 then 11 else if y2 = 65 then 12 else 13) → (xT (sI S 303 o (nI (i + 1))) o = 6 ∧ ∃ k' n', k' ≤ k ∧ n' ≤ n ∧ w_X5_readNumber k' n' (sI S 303 o (nI (i + 1))) o y1 y2 (fun r S' => Q r S')) := fun y1 y2 hd n1 n2 e1 e2 => by
        have ep : pT sg c (f + 1) i = pN sg c (i + 1) := by rw [pT, if_pos hlt, if_neg n1, if_neg n2, if_pos hd]
        have bN := pN_bd (sg := sg) (c := c) (i := i + 1) (by omega)
        rw [ep] at hk hn
        refine ⟨A3.1, 1, 2, by omega, by omega, c_readNumber A3 f3 f4 (by omega) (Nat.le_refl _) (Nat.le_refl _) e2 (fun ok S' a e ta i1 i2 q g3 g4 => ?_) (fun no S' e g4 => ?_)⟩
        · exact hQ _ _ ⟨xe.trans e, fun _ => ⟨a, rfl, Or.inr (Or.inr (Or.inr (Or.inl ⟨hd, ta, i1.trans e1, i2, q⟩))), by rw [ep]; exact g3, g4⟩, fun q => by rw [ep] at q; exact absurd ok q⟩
        · exact hQ _ _ ⟨xe.trans e, fun q => by rw [ep] at q; exact absurd q no, fun _ => ⟨rfl, by rw [ep]; exact g4⟩⟩
      have twop : ∀ y : Int32, two (sg i) = true → (y = 1 ∧ sg i = 38 ∨ y = 0 ∧ sg i = 124) → (xT (sI S 303 o (nI (i + 1))) o = 6 ∧ ∃ k' n', k' ≤ k ∧ n' ≤ n ∧ w_X5_readTwo (w_X5_readText f) k' n' (sI S 303 o (nI (i + 1))) o y (fun r S' => Q r S')) := fun y h2 hy => by
        refine ⟨A3.1, k, n, Nat.le_refl _, Nat.le_refl _, ?_⟩
        unfold w_X5_readTwo
        have ek : (pT sg c f (i + 1)).2 - (i + 1) + 1 ≤ (pT sg c (f + 1) i).2 - i := by
          rw [pT, if_pos hlt, if_pos h2]
          by_cases ok : (pT sg c f (i + 1)).1 = true
          · rw [if_pos ok]
            have := pT_bd (sg := sg) f _ bd.2.1
            omega
          · rw [if_neg ok]; omega
        refine ⟨A3.1, (pT sg c f (i + 1)).2 - (i + 1), 2 * ((pT sg c f (i + 1)).2 - (i + 1)), by omega, by omega, ih (i + 1) _ _ _ _ A3 f3 f4 (by omega) (by omega) (Nat.le_refl _) (Nat.le_refl _) (fun r1 S4 p4 => ?_)⟩
        obtain ⟨e4, y4, z4⟩ := p4
        rw [jn4_eq]
        by_cases ok : (pT sg c f (i + 1)).1 = true
        · obtain ⟨a1, rfl, t1, g3, g4⟩ := y4 ok
          have ep : pT sg c (f + 1) i = pT sg c f (pT sg c f (i + 1)).2 := by rw [pT, if_pos hlt, if_pos h2, if_pos ok]
          have bd2 := pT_bd (sg := sg) f _ bd.2.1
          have A4 := A3.ext e4
          rw [ep] at hk hn ek
          have bd1 := bd.2.2 ok
          refine wif_n (by simp) ⟨A4.1, (pT sg c f (pT sg c f (i + 1)).2).2 - (pT sg c f (i + 1)).2, 2 * ((pT sg c f (pT sg c f (i + 1)).2).2 - (pT sg c f (i + 1)).2), by omega, by omega, ih _ _ _ _ _ A4 g3 g4 bd.2.1 (by omega) (Nat.le_refl _) (Nat.le_refl _) (fun r2 S5 p5 => ?_)⟩
          obtain ⟨e5, y5, z5⟩ := p5
          have xe5 := (xe.trans e4).trans e5
          by_cases ok2 : (pT sg c f (pT sg c f (i + 1)).2).1 = true
          · obtain ⟨a2, rfl, t2, g3', g4'⟩ := y5 ok2
            have bd3 := bd2.2.2 ok2
            have A5 := A4.ext e5
            refine wif_n (by simp) ?_
            have fin : ∀ a tt, xT S5 a = 0 → (sg i = 38 ∧ tt = 8 ∨ sg i = 124 ∧ tt = 9) → Q (some a) (sR (sR (sN S5 a tt) 400 a (some a1)) 401 a (some a2)) := fun a tt ha ht => by
              have ha0 := t0_of xe5 ha
              have hne := o_ne A5.1 ha
              have xe6 : xE S5 (sR (sR (sN S5 a tt) 400 a (some a1)) 401 a (some a2)) := (((xE.refl S5).n ha).r ha).r ha
              have w1 : xT (sR (sR (sN S5 a tt) 400 a (some a1)) 401 a (some a2)) a = tt := by simp only [xT_sI, xL_sI, xR_sI, xA_sI, xQ_sI, xT_sR, xL_sR, xI_sR, xA_sR, xQ_sR, xT_sA, xL_sA, xI_sA, xR_sA, xQ_sA, xT_sQ, xL_sQ, xI_sQ, xR_sQ, xA_sQ, xT_sB, xL_sB, xI_sB, xR_sB, xQ_sB]; exact xT_nN
              have w2 : xR (sR (sR (sN S5 a tt) 400 a (some a1)) 401 a (some a2)) 400 a = some a1 := by rw [xR_nf _ _ (by decide)]; exact xR_at _ _ _ _
              have w3 : xR (sR (sR (sN S5 a tt) 400 a (some a1)) 401 a (some a2)) 401 a = some a2 := xR_at _ _ _ _
              have w4 : ∀ q, xI (sR (sR (sN S5 a tt) 400 a (some a1)) 401 a (some a2)) q o = xI S5 q o := fun q => by
                simp only [xT_sI, xL_sI, xR_sI, xA_sI, xQ_sI, xT_sR, xL_sR, xI_sR, xA_sR, xQ_sR, xT_sA, xL_sA, xI_sA, xR_sA, xQ_sA, xT_sQ, xL_sQ, xI_sQ, xR_sQ, xA_sQ, xT_sB, xL_sB, xI_sB, xR_sB, xQ_sB]
                simp [sN, xI, hne]
              refine hQ _ _ ⟨xe5.trans xe6, fun _ => ⟨a, rfl, ?_, by rw [w4, ep]; exact g3', by rw [w4]; exact g4'⟩, fun q => by rw [ep] at q; exact absurd ok2 q⟩
              rcases ht with ⟨ht, rfl⟩ | ⟨ht, rfl⟩
              · exact Or.inl ⟨ht, w1, a1, a2, w2, w3, tx_ext (e5.trans xe6) _ _ _ t1, tx_ext xe6 _ _ _ t2⟩
              · exact Or.inr (Or.inl ⟨ht, w1, a1, a2, w2, w3, tx_ext (e5.trans xe6) _ _ _ t1, tx_ext xe6 _ _ _ t2⟩)
            rcases hy with ⟨rfl, h38⟩ | ⟨rfl, h124⟩
            · refine wif_n (by decide) ⟨by omega, by omega, fun a ha => ?_⟩
              rw [nm_eq]
              refine ⟨a1, rfl, a2, rfl, ?_⟩
              simp only [nm_eq, w_X7_init, w_X6_init, xT_nN, xT_sI, xL_sI, xR_sI, xA_sI, xQ_sI, xT_sR, xL_sR, xI_sR, xA_sR, xQ_sR, xT_sA, xL_sA, xI_sA, xR_sA, xQ_sA, xT_sQ, xL_sQ, xI_sQ, xR_sQ, xA_sQ, xT_sB, xL_sB, xI_sB, xR_sB, xQ_sB]
              exact ⟨Or.inl trivial, Or.inl trivial, fin a 8 ha (Or.inl ⟨h38, rfl⟩)⟩
            · refine wif_y rfl ⟨by omega, by omega, fun a ha => ?_⟩
              rw [nm_eq]
              refine ⟨a1, rfl, a2, rfl, ?_⟩
              simp only [nm_eq, w_X8_init, w_X7_init, w_X6_init, xT_nN, xT_sI, xL_sI, xR_sI, xA_sI, xQ_sI, xT_sR, xL_sR, xI_sR, xA_sR, xQ_sR, xT_sA, xL_sA, xI_sA, xR_sA, xQ_sA, xT_sQ, xL_sQ, xI_sQ, xR_sQ, xA_sQ, xT_sB, xL_sB, xI_sB, xR_sB, xQ_sB]
              exact ⟨Or.inr trivial, Or.inr trivial, fin a 9 ha (Or.inr ⟨h124, rfl⟩)⟩
          · obtain ⟨rfl, g⟩ := z5 ok2
            exact wif_y rfl (hQ _ _ ⟨xe5, fun q => by rw [ep] at q; exact absurd q ok2, fun _ => ⟨rfl, by rw [ep]; exact g⟩⟩)
        · obtain ⟨rfl, g⟩ := z4 ok
          have ep : pT sg c (f + 1) i = pT sg c f (i + 1) := by rw [pT, if_pos hlt, if_pos h2, if_neg ok]
          exact wif_y rfl (wif_y rfl (hQ _ _ ⟨xe.trans e4, fun q => by rw [ep] at q; exact absurd q ok, fun _ => ⟨rfl, by rw [ep]; exact g⟩⟩))
      by_cases e33 : sg i = 33
      · refine wif_y e33 ⟨A3.1, ?_⟩
        have n1 : ¬ two (sg i) = true := by rw [e33]; decide
        have ep : pT sg c (f + 1) i = pT sg c f (i + 1) := by rw [pT, if_pos hlt, if_neg n1, if_pos e33]
        rw [ep] at hk hn
        refine ⟨(pT sg c f (i + 1)).2 - (i + 1), 2 * ((pT sg c f (i + 1)).2 - (i + 1)), by omega, by omega, ih (i + 1) _ _ _ _ A3 f3 f4 (by omega) (by omega) (Nat.le_refl _) (Nat.le_refl _) (fun r1 S4 p4 => ?_)⟩
        obtain ⟨e4, y4, z4⟩ := p4
        by_cases ok : (pT sg c f (i + 1)).1 = true
        · obtain ⟨a1, rfl, t1, g3, g4⟩ := y4 ok
          have bd1 := bd.2.2 ok
          have A4 := A3.ext e4
          refine wif_n (by simp) ⟨by omega, by omega, fun a ha => ?_⟩
          have hne := o_ne A4.1 ha
          rw [nm_eq]
          refine ⟨a1, rfl, ?_⟩
          simp only [nm_eq, w_X9_init, w_X6_init, xT_nN, true_and]
          have xe6 : xE S4 (sR (sN S4 a 10) 500 a (some a1)) := ((xE.refl S4).n ha).r ha
          have w4 : ∀ q, xI (sR (sN S4 a 10) 500 a (some a1)) q o = xI S4 q o := fun q => by
            simp only [xT_sI, xL_sI, xR_sI, xA_sI, xQ_sI, xT_sR, xL_sR, xI_sR, xA_sR, xQ_sR, xT_sA, xL_sA, xI_sA, xR_sA, xQ_sA, xT_sQ, xL_sQ, xI_sQ, xR_sQ, xA_sQ, xT_sB, xL_sB, xI_sB, xR_sB, xQ_sB]
            simp [sN, xI, hne]
          exact hQ _ _ ⟨(xe.trans e4).trans xe6, fun _ => ⟨a, rfl, Or.inr (Or.inr (Or.inl ⟨e33, by simp only [xT_sI, xL_sI, xR_sI, xA_sI, xQ_sI, xT_sR, xL_sR, xI_sR, xA_sR, xQ_sR, xT_sA, xL_sA, xI_sA, xR_sA, xQ_sA, xT_sQ, xL_sQ, xI_sQ, xR_sQ, xA_sQ, xT_sB, xL_sB, xI_sB, xR_sB, xQ_sB]; exact xT_nN, a1, xR_at _ _ _ _, tx_ext xe6 _ _ _ t1⟩)), by rw [w4, ep]; exact g3, by rw [w4]; exact g4⟩, fun q => by rw [ep] at q; exact absurd ok q⟩
        · obtain ⟨rfl, g⟩ := z4 ok
          exact wif_y rfl (hQ _ _ ⟨xe.trans e4, fun q => by rw [ep] at q; exact absurd q ok, fun _ => ⟨rfl, by rw [ep]; exact g⟩⟩)
      refine wif_n e33 ?_
      by_cases e38 : sg i = 38
      · exact wif_y e38 (twop 1 (by rw [e38]; decide) (Or.inl ⟨rfl, e38⟩))
      refine wif_n e38 ?_
      by_cases e65 : sg i = 65
      · exact wif_y e65 (num 0 65 (by rw [e65]; decide) (by rw [e65]; decide) e33 (by rw [e65]; decide) (by rw [e65]; decide))
      refine wif_n e65 ?_
      by_cases e89 : sg i = 89
      · exact wif_y e89 (num 5 65 (by rw [e89]; decide) (by rw [e89]; decide) e33 (by rw [e89]; decide) (by rw [e89]; decide))
      refine wif_n e89 ?_
      by_cases e97 : sg i = 97
      · exact wif_y e97 (num 0 97 (by rw [e97]; decide) (by rw [e97]; decide) e33 (by rw [e97]; decide) (by rw [e97]; decide))
      refine wif_n e97 ?_
      by_cases e104 : sg i = 104
      · refine wif_y e104 ?_
        simp only [nm_eq, w_X15_init, w_X13_init, w_X6_init]
        exact tip 16 (by rw [e104]; decide) (by rw [e104]; decide) (by rw [e104]; decide) e33 (by rw [e104]; decide)
      refine wif_n e104 ?_
      by_cases e112 : sg i = 112
      · refine wif_y e112 ?_
        simp only [nm_eq, w_X13_init, w_X6_init]
        exact tip 14 (by rw [e112]; decide) (by rw [e112]; decide) (by rw [e112]; decide) e33 (by rw [e112]; decide)
      refine wif_n e112 ?_
      by_cases e115 : sg i = 115
      · refine wif_y e115 ?_
        simp only [nm_eq, w_X14_init, w_X13_init, w_X6_init]
        exact tip 15 (by rw [e115]; decide) (by rw [e115]; decide) (by rw [e115]; decide) e33 (by rw [e115]; decide)
      refine wif_n e115 ?_
      by_cases e116 : sg i = 116
      · exact wif_y e116 (num 4 116 (by rw [e116]; decide) (by rw [e116]; decide) e33 (by rw [e116]; decide) (by rw [e116]; decide))
      refine wif_n e116 ?_
      by_cases e121 : sg i = 121
      · exact wif_y e121 (num 5 97 (by rw [e121]; decide) (by rw [e121]; decide) e33 (by rw [e121]; decide) (by rw [e121]; decide))
      refine wif_n e121 ?_
      by_cases e124 : sg i = 124
      · exact wif_y e124 (twop 0 (by rw [e124]; decide) (Or.inr ⟨rfl, e124⟩))
      refine wif_n e124 ?_
      have d := deflt (by simp [two, e38, e124]) e33 (by simp [hsD, e97, e65, e121, e89, e116]) (by simp [psh, e112, e115, e104])
      rw [nm_eq]
      refine ⟨d.1, ?_, d.2⟩
      simp only [xT_sI, xL_sI, xR_sI, xA_sI, xQ_sI, xT_sR, xL_sR, xI_sR, xA_sR, xQ_sR, xT_sA, xL_sA, xI_sA, xR_sA, xQ_sA, xT_sQ, xL_sQ, xI_sQ, xR_sQ, xA_sQ, xT_sB, xL_sB, xI_sB, xR_sB, xQ_sB]
      exact h.1
    · have ep : pT sg c (f + 1) i = (false, i) := by rw [pT, if_neg (by omega)]
      have xe : xE S (sI S 303 o (nI i)) := (xE.refl S).i3 (Or.inl rfl)
      have A3 := h.ext xe
      have n0 : ∀ v : Int32, ¬ v = 0 → ¬ 0 = v := fun v hv q => hv q.symm
      refine wif_n (by decide) (wif_n (by decide) (wif_n (by decide) (wif_n (by decide) (wif_n (by decide) (wif_n (by decide) (wif_n (by decide) (wif_n (by decide) (wif_n (by decide) (wif_n (by decide) (wif_n (by decide) ?_))))))))))
      have xe2 : xE S (sI (sI S 303 o (nI i)) 303 o (nI i)) := xe.i3 (Or.inl rfl)
      rw [nm_eq]
      refine ⟨A3.1, (h.ext xe2).1, c_fail (h.ext xe2) (xI_at _ _ _ _) (by rw [xI_nf _ _ (by decide), xI_nf _ _ (by decide)]; exact h4) (hQ _ _ ⟨xe2.i3 (Or.inr rfl), fun q => by rw [ep] at q; exact absurd q (by simp), fun _ => ⟨rfl, by rw [xI_at, ep]⟩⟩)⟩
end
