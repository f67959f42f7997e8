set_option maxRecDepth 100000
/-! ===== the laying, the component's side: its own heap ===== -/
/-! updates that pass by each other -/
theorem sA_sI {S : xH} {f a c i : Nat} {x v : Int32} : sA (sI S f a x) c i v = sI (sA S c i v) f a x := rfl
theorem sB_sI {S : xH} {f a c : Nat} {x : Int32} {F : Nat → Int32} : sB (sI S f a x) c F = sI (sB S c F) f a x := rfl
theorem sA_sBn {S : xH} {c d i : Nat} {v : Int32} {F : Nat → Int32} (h : d ≠ c) : sA (sB S c F) d i v = sB (sA S d i v) c F := by
  unfold sA sB
  refine Prod.ext rfl (Prod.ext rfl (Prod.ext rfl (Prod.ext rfl (Prod.ext ?_ rfl))))
  funext x y
  show x_u2 (va_up (xA S) c F) d i v x y = va_up (x_u2 (xA S) d i v) c F x y
  unfold x_u2 va_up
  by_cases e : x = c
  · subst e
    simp [h.symm]
  · simp [e]
theorem sB_sB {S : xH} {c : Nat} {F F' : Nat → Int32} : sB (sB S c F) c F' = sB S c F' := by
  unfold sB
  refine Prod.ext rfl (Prod.ext rfl (Prod.ext rfl (Prod.ext rfl (Prod.ext ?_ rfl))))
  funext x
  show va_up (va_up (xA S) c F) c F' x = va_up (xA S) c F' x
  unfold va_up
  by_cases e : x = c <;> simp [e]
theorem sI_sI {S : xH} {f a : Nat} {x y : Int32} : sI (sI S f a x) f a y = sI S f a y := by
  unfold sI
  refine Prod.ext rfl (Prod.ext rfl (Prod.ext ?_ rfl))
  funext u v
  show x_u2 (x_u2 (xI S) f a x) f a y u v = x_u2 (xI S) f a y u v
  unfold x_u2
  by_cases e : u = f ∧ v = a <;> simp [e]
theorem sB_self {S : xH} {c : Nat} : sB S c (xA S c) = S := by
  refine Prod.ext rfl (Prod.ext rfl (Prod.ext rfl (Prod.ext rfl (Prod.ext ?_ rfl))))
  funext x
  show va_up (xA S) c (xA S c) x = xA S x
  unfold va_up
  by_cases e : x = c
  · rw [if_pos e, e]
  · rw [if_neg e]
theorem sI_self {S : xH} {f a : Nat} : sI S f a (xI S f a) = S := by
  refine Prod.ext rfl (Prod.ext rfl (Prod.ext ?_ rfl))
  funext u v
  show x_u2 (xI S) f a (xI S f a) u v = xI S u v
  unfold x_u2
  by_cases e : u = f ∧ v = a
  · rw [if_pos e, e.1, e.2]
  · rw [if_neg e]
/-- S with what a laying changes while it lays -/
def lY (S : xH) (p c2 c3 c4 : Nat) (F2 F3 F4 : Nat → Int32) (b : Int32) : xH := sI (sB (sB (sB S c2 F2) c3 F3) c4 F4) 906 p b
section
variable {S : xH} {p c2 c3 c4 : Nat} {F2 F3 F4 : Nat → Int32} {b : Int32}
theorem lY_T : xT (lY S p c2 c3 c4 F2 F3 F4 b) = xT S := Eq.trans rfl rfl
theorem lY_L : xL (lY S p c2 c3 c4 F2 F3 F4 b) = xL S := Eq.trans rfl rfl
theorem lY_R : xR (lY S p c2 c3 c4 F2 F3 F4 b) = xR S := Eq.trans rfl rfl
theorem lY_Q : xQ (lY S p c2 c3 c4 F2 F3 F4 b) = xQ S := Eq.trans rfl rfl
theorem lY_I {f a : Nat} (hf : ¬ f = 906) : xI (lY S p c2 c3 c4 F2 F3 F4 b) f a = xI S f a := by
  show (if f = 906 ∧ a = p then b else xI S f a) = xI S f a
  rw [if_neg (fun z => hf z.1)]
theorem lY_b : xI (lY S p c2 c3 c4 F2 F3 F4 b) 906 p = b := xI_at _ _ _ _
theorem lY_A {a : Nat} (h2 : a ≠ c2) (h3 : a ≠ c3) (h4 : a ≠ c4) : xA (lY S p c2 c3 c4 F2 F3 F4 b) a = xA S a := by
  show va_up (va_up (va_up (xA S) c2 F2) c3 F3) c4 F4 a = xA S a
  simp only [va_up]
  rw [if_neg h4, if_neg h3, if_neg h2]
theorem lY_2 (h3 : c2 ≠ c3) (h4 : c2 ≠ c4) : xA (lY S p c2 c3 c4 F2 F3 F4 b) c2 = F2 := by
  show va_up (va_up (va_up (xA S) c2 F2) c3 F3) c4 F4 c2 = F2
  simp only [va_up]
  rw [if_neg h4, if_neg h3]
  exact if_pos trivial
theorem lY_3 (h4 : c3 ≠ c4) : xA (lY S p c2 c3 c4 F2 F3 F4 b) c3 = F3 := by
  show va_up (va_up (va_up (xA S) c2 F2) c3 F3) c4 F4 c3 = F3
  simp only [va_up]
  rw [if_neg h4]
  exact if_pos trivial
theorem lY_4 : xA (lY S p c2 c3 c4 F2 F3 F4 b) c4 = F4 := by
  show va_up (va_up (va_up (xA S) c2 F2) c3 F3) c4 F4 c4 = F4
  simp only [va_up]
  exact if_pos trivial
theorem lY_s2 {i : Nat} {v : Int32} (h3 : c2 ≠ c3) (h4 : c2 ≠ c4) : sA (lY S p c2 c3 c4 F2 F3 F4 b) c2 i v = lY S p c2 c3 c4 (fun j => if j = i then v else F2 j) F3 F4 b := by
  unfold lY
  rw [sA_sI, sA_sBn h4, sA_sBn h3, sA_sB]
theorem lY_s3 {i : Nat} {v : Int32} (h4 : c3 ≠ c4) : sA (lY S p c2 c3 c4 F2 F3 F4 b) c3 i v = lY S p c2 c3 c4 F2 (fun j => if j = i then v else F3 j) F4 b := by
  unfold lY
  rw [sA_sI, sA_sBn h4, sA_sB]
theorem lY_s4 {F : Nat → Int32} : sB (lY S p c2 c3 c4 F2 F3 F4 b) c4 F = lY S p c2 c3 c4 F2 F3 F b := by
  unfold lY
  rw [sB_sI, sB_sB]
theorem lY_sb {v : Int32} : sI (lY S p c2 c3 c4 F2 F3 F4 b) 906 p v = lY S p c2 c3 c4 F2 F3 F4 v := by
  unfold lY
  rw [sI_sI]
theorem lY_self : lY S p c2 c3 c4 (xA S c2) (xA S c3) (xA S c4) (xI S 906 p) = S := by
  unfold lY
  rw [sB_self, sB_self, sB_self, sI_self]
theorem lY_E {S0 : xH} (e : xE S0 S) (hp : xT S0 p = 0) (h2 : xT S0 c2 = 0) (h3 : xT S0 c3 = 0) (h4 : xT S0 c4 = 0) : xE S0 (lY S p c2 c3 c4 F2 F3 F4 b) := (((e.b h2).b h3).b h4).i hp
end
/-- what a laying is, but for its rows of how far -/
def lyS (S : xH) (o p c0 c1 c2 c3 c4 : Nat) (g h n : Nat) (T : Nat → Nat) (al : Nat) : Prop :=
  (xT S p = 18 ∧ xT S o = 1 ∧ xI S 50 o = nI n ∧ xI S 900 p = nI g ∧ xI S 901 p = nI h ∧ xI S 907 p = nI al) ∧
  (xR S 909 p = some o ∧ xR S 902 p = some c0 ∧ xR S 903 p = some c1 ∧ xR S 908 p = some c2 ∧ xR S 904 p = some c3 ∧ xR S 905 p = some c4) ∧
  (xT S c0 = 101 ∧ xL S c0 = 8 ∧ xT S c1 = 110 ∧ xL S c1 = 8 ∧ xT S c2 = 101 ∧ xL S c2 = 8 ∧ xT S c3 = 101 ∧ xL S c3 = g * h ∧ xT S c4 = 101 ∧ xL S c4 = g * h) ∧
  (c0 ≠ c2 ∧ c0 ≠ c3 ∧ c0 ≠ c4 ∧ c2 ≠ c3 ∧ c2 ≠ c4 ∧ c3 ≠ c4) ∧
  ∀ s, s < 8 → xA S c0 s = nI (T s)
/-- its rows of how far, the first m -/
def lyR (S : xH) (c1 c2 c3 c4 : Nat) (R : Nat → Nat) (D : Nat → Nat → Nat) (m : Nat) : Prop :=
  ∀ u, u < m → xQ S c1 u = some (R u) ∧ xT S (R u) = 101 ∧ xL S (R u) = 8 ∧ R u ≠ c2 ∧ R u ≠ c3 ∧ R u ≠ c4 ∧ ∀ b, b < 8 → (xA S (R u) b = -9 ∧ 100 ≤ D u b) ∨ xA S (R u) b = nI (D u b)
/-- bounds -/
def lyN (g h n : Nat) (T : Nat → Nat) (D : Nat → Nat → Nat) : Prop := 1 ≤ n ∧ n ≤ 8 ∧ 1 ≤ g ∧ g ≤ 2 ∧ 1 ≤ h ∧ h ≤ 3 ∧ (∀ s, T s ≤ 40) ∧ ∀ a b, D a b ≤ 100
section
variable {S : xH} {o p c0 c1 c2 c3 c4 g h n al s st : Nat} {R T : Nat → Nat} {D : Nat → Nat → Nat} {F2 F3 F4 : Nat → Int32} {b : Int32}
theorem c_hhb (B : lyS S o p c0 c1 c2 c3 c4 g h n T al) (hR : lyR S c1 c2 c3 c4 R D n) (N : lyN g h n T D) (hs : s < 8) (hst : st ≤ 3) {mi : Nat → Nat} (hm : ∀ u, u < n → F2 u = nI (mi u)) (ml : ∀ u, mi u ≤ 3) {Q : Int32 → Prop} (qy : hrdJ D n mi s st → Q 1) (qn : ¬ hrdJ D n mi s st → Q 0) : w_X17_hasHeardBy (lY S p c2 c3 c4 F2 F3 F4 b) p (nI s) (nI st) Q := by
  obtain ⟨⟨tp, tq, i50, i900, i901, i907⟩, ⟨r9, r2, r3, r8, r4, r5⟩, ⟨t0, l0, t1, l1, t2, l2, t3, l3, t4, l4⟩, ⟨d02, d03, d04, d23, d24, d34⟩, hT⟩ := B
  obtain ⟨n1, n8, g1, g2, h1, h3, T40, D100⟩ := N
  unfold w_X17_hasHeardBy
  simp only [lY_T, lY_R, lY_Q, lY_L]
  refine lf2_u n (fun i x y => y = nI i ∧ ((x = 1 ∧ ∃ u, u < i ∧ mi u < st ∧ D u s ≤ st - mi u) ∨ (x = 0 ∧ ∀ u, u < i → ¬ (mi u < st ∧ D u s ≤ st - mi u)))) ?_ _ _ ⟨rfl, Or.inr ⟨rfl, fun u hu => absurd hu (Nat.not_lt_zero u)⟩⟩
  rintro P i x y hi ⟨rfl, hx⟩ hP
  refine ⟨tp, o, r9, tq, ?_⟩
  rw [lY_I (by decide), i50]
  by_cases ei : i = n
  · rw [ei] at hx ⊢
    refine wif_y (Int32.le_refl _) ?_
    rcases hx with ⟨rfl, u, hu, z1, z2⟩ | ⟨rfl, z⟩
    · exact ⟨x_B_1.mpr trivial, qy ⟨u, hu, z1, z2⟩⟩
    · exact ⟨x_B_0.mpr trivial, qn (fun ⟨u, hu, z1, z2⟩ => z u hu ⟨z1, z2⟩)⟩
  have hl : i < n := by omega
  have v8 : vp_in (nI i) 8 := vp_in_nI (by omega) (by decide)
  have w8 : vp_in (nI s) 8 := vp_in_nI hs (by decide)
  obtain ⟨rq, rt, rl, ra2, ra3, ra4, rv⟩ := hR i hl
  refine wif_n (nI_ge hl (by omega)) ⟨tp, c2, r8, t2, by rw [l2]; exact v8, ?_⟩
  rw [nI_clamp (show i < 2 ^ 31 by omega), nI_clamp (show s < 2 ^ 31 by omega)]
  refine jn_i (fun v => (v = 1 ∧ (mi i < st ∧ D i s ≤ st - mi i)) ∨ (v = 0 ∧ ¬ (mi i < st ∧ D i s ≤ st - mi i))) (fun v hv => ?_) (fun J hJ => ?_)
  · rw [nm_eq]
    refine hP _ _ hl ⟨nI_1 i, ?_⟩
    rcases hx with ⟨rfl, u, hu, z1, z2⟩ | ⟨rfl, z⟩
    · refine Or.inl ⟨?_, u, by omega, z1, z2⟩
      rcases hv with ⟨rfl, _⟩ | ⟨rfl, _⟩ <;> decide
    · rcases hv with ⟨rfl, c⟩ | ⟨rfl, c⟩
      · exact Or.inl ⟨by decide, i, by omega, c.1, c.2⟩
      · exact Or.inr ⟨by decide, fun u hu => by
          by_cases e : u = i
          · rw [e]; exact c
          · exact z u (by omega)⟩
  · refine jn0_c (¬ (mi i < st ∧ D i s ≤ st - mi i)) (fun cc => hJ 0 (Or.inr ⟨rfl, cc⟩)) (fun K hK => ?_)
    rw [lY_2 d23 d24, hm i hl]
    have mli := ml i
    by_cases z1 : mi i < st
    · refine wif_n (nI_ge z1 (by omega)) ⟨tp, c1, r3, t1, by rw [l1]; exact v8, R i, rq, rt, by rw [rl]; exact w8, ?_⟩
      rw [lY_A ra2 ra3 ra4]
      have dd := D100 i s
      rcases rv s hs with ⟨e9, e100⟩ | ev
      · rw [e9]
        exact wif_y rfl (hK (fun z => by omega))
      · rw [ev]
        refine wif_n (n9_ne (by omega)) ⟨tp, c1, r3, t1, by rw [l1]; exact v8, R i, rq, rt, by rw [rl]; exact w8, tp, c2, r8, t2, by rw [l2]; exact v8, ?_⟩
        rw [lY_2 d23 d24, hm i hl, lY_A ra2 ra3 ra4, ev, pk_sub (by omega)]
        by_cases z2 : D i s ≤ st - mi i
        · exact wif_n (fun z => by have := (nI_ltI (by omega) (by omega)).mp z; omega) (hJ 1 (Or.inl ⟨rfl, z1, z2⟩))
        · exact wif_y ((nI_ltI (by omega) (by omega)).mpr (by omega)) (hK (fun z => z2 z.2))
    · exact wif_y ((nI_leI (by omega) (by omega)).mpr (by omega)) (hK (fun z => z1 z.1))
theorem c_judge (B : lyS S o p c0 c1 c2 c3 c4 g h n T al) (hR : lyR S c1 c2 c3 c4 R D n) (N : lyN g h n T D) {f : Nat → Nat} (hf : ∀ k, k < g * h → F3 k = nI (f k) ∧ f k < n) {Q : xH → Prop} (qy : b < nI (mtf T D n h g f) → ∀ F2 F, (∀ k, k < g * h → F k = nI (f k)) → Q (lY S p c2 c3 c4 F2 F3 F (nI (mtf T D n h g f)))) (qn : ¬ b < nI (mtf T D n h g f) → ∀ F2, Q (lY S p c2 c3 c4 F2 F3 F4 b)) : w_X17_judge (lY S p c2 c3 c4 F2 F3 F4 b) p Q := by
  have B0 := B
  obtain ⟨⟨tp, tq, i50, i900, i901, i907⟩, ⟨r9, r2, r3, r8, r4, r5⟩, ⟨t0, l0, t1, l1, t2, l2, t3, l3, t4, l4⟩, ⟨d02, d03, d04, d23, d24, d34⟩, hT⟩ := B
  have N0 := N
  obtain ⟨n1, n8, g1, g2, h1, h3, T40, D100⟩ := N
  have hL : g * h ≤ 6 := Nat.le_trans (Nat.mul_le_mul g2 h3) (by decide)
  have fl : ∀ i j, i < g → j < h → f (i * h + j) < n := fun i j hi hj => (hf _ (by
    have : (i + 1) * h ≤ g * h := Nat.mul_le_mul_right h hi
    rw [Nat.succ_mul] at this
    omega)).2
  unfold w_X17_judge
  refine lf2_u n (fun i x X => x = nI i ∧ ∃ F, X = lY S p c2 c3 c4 F F3 F4 b ∧ ∀ u, u < i → F u = nI h) ?_ _ _ ⟨rfl, F2, rfl, fun u hu => absurd hu (Nat.not_lt_zero u)⟩
  rintro P i x X hi ⟨rfl, F, rfl, hF⟩ hP
  simp only [lY_T, lY_R, lY_Q, lY_L]
  refine ⟨tp, o, r9, tq, ?_⟩
  rw [lY_I (show ¬ 50 = 906 by decide), i50]
  by_cases ei : i = n
  · rw [ei] at hF ⊢
    clear hP
    refine wif_y (Int32.le_refl _) ?_
    refine lf3_u h (fun st x y X => x = nI (js T D n h g f st).1 ∧ y = nI st ∧ ∃ F, X = lY S p c2 c3 c4 F F3 F4 b ∧ ∀ u, u < n → F u = nI ((js T D n h g f st).2 u)) ?_ _ _ _ ⟨rfl, rfl, F, rfl, fun u hu => by rw [hF u hu, js]⟩
    clear hF F
    rintro P st x y X hst ⟨rfl, rfl, F, rfl, hF⟩ hP
    simp only [lY_T, lY_R, lY_Q, lY_L]
    refine ⟨tp, ?_⟩
    rw [lY_I (show ¬ 901 = 906 by decide), i901]
    by_cases es : st = h
    · rw [es]
      clear hP
      refine wif_y (Int32.le_refl _) ⟨tp, ?_⟩
      rw [lY_b]
      show wif (nI (mtf T D n h g f) ≤ b) _ _
      by_cases c : b < nI (mtf T D n h g f)
      · refine wif_n (fun z => le_nlt.mp z c) ⟨tp, ?_⟩
        rw [nm_eq, lY_sb]
        simp only [lY_T, lY_R, lY_Q, lY_L]
        refine ⟨tp, tp, tp, c3, r4, t3, c3, r4, c4, r5, t3, t4, by decide, by decide, ?_⟩
        rw [l3, l4, nI_clamp (show g * h < 2 ^ 31 by omega), nm_eq, lY_s4, lY_3 d34, lY_4]
        have z0 : Int32.toNatClampNeg 0 = 0 := by decide
        rw [z0, Nat.zero_add]
        refine ⟨kneg (by omega), Nat.le_refl _, Nat.le_refl _, qy c _ _ (fun k hk => ?_)⟩
        rw [va_cpy, if_pos ⟨Nat.zero_le _, by omega⟩, Nat.zero_add, Nat.sub_zero]
        exact (hf k hk).1
      · exact wif_y (le_nlt.mpr c) (qn c _)
    have hls : st < h := by omega
    refine wif_n (nI_ge hls (by omega)) ?_
    have jok0 := js_ok (T := T) (D := D) (N := n) (h := h) (gs := g) (f := f) st (by omega) fl
    refine lf3_u g (fun k x z X => x = nI (jg T D n h f st (js T D n h g f st) k).1 ∧ z = nI k ∧ ∃ F, X = lY S p c2 c3 c4 F F3 F4 b ∧ ∀ u, u < n → F u = nI ((jg T D n h f st (js T D n h g f st) k).2 u)) ?_ _ _ _ ⟨rfl, rfl, F, rfl, hF⟩
    clear hF F
    rintro P2 k x z X hk ⟨rfl, rfl, F, rfl, hF⟩ hP2
    simp only [lY_T, lY_R, lY_Q, lY_L]
    refine ⟨tp, ?_⟩
    rw [lY_I (show ¬ 900 = 906 by decide), i900]
    by_cases ek : k = g
    · rw [ek] at hF ⊢
      exact wif_y (Int32.le_refl _) (hP _ _ _ hls ⟨by rw [js], nI_1 st, F, rfl, fun u hu => by rw [hF u hu, js]⟩)
    have hlk : k < g := by omega
    refine wif_n (nI_ge hlk (by omega)) ⟨tp, tp, c3, r4, t3, ?_⟩
    have jok1 := jg_ok (D := D) (f := f) jok0 hls k (fun i hi => fl i st (by omega) hls)
    have hidx : k * h + st < g * h := by
      have : (k + 1) * h ≤ g * h := Nat.mul_le_mul_right h hlk
      rw [Nat.succ_mul] at this
      omega
    have nxt : jg T D n h f st (js T D n h g f st) (k + 1) = j1 T D n h st (f (k * h + st)) (jg T D n h f st (js T D n h g f st) k) := by rw [jg]
    rw [nxt] at hP2
    clear nxt
    have hf1 := (hf _ hidx).1
    have hs8 := (hf _ hidx).2
    generalize jg T D n h f st (js T D n h g f st) k = a at *
    rw [lY_I (show ¬ 901 = 906 by decide), i901, pk_mul, nI_add, nI_clamp (show k * h + st < 2 ^ 31 by omega), l3, nm_eq, lY_3 d34, hf1]
    generalize f (k * h + st) = s at *
    have w8 : vp_in (nI s) 8 := vp_in_nI (by omega) (by decide)
    have tb := T40 s
    refine ⟨vp_in_nI hidx (by omega), tp, c2, r8, t2, by rw [l2]; exact w8, tp, ?_⟩
    rw [nI_clamp (show s < 2 ^ 31 by omega), lY_2 d23 d24, hF s hs8]
    have ml : ∀ u, a.2 u ≤ 3 := fun u => by rcases jok1.1 u with z | z <;> omega
    have mls := ml s
    refine jn2_i (fun x X => x = nI (j1 T D n h st s a).1 ∧ ∃ F, X = lY S p c2 c3 c4 F F3 F4 b ∧ ∀ u, u < n → F u = nI ((j1 T D n h st s a).2 u)) (fun x X hx => hP2 _ _ _ hlk ⟨hx.1, nI_1 k, hx.2⟩) (fun J hJ => ?_)
    have no : ¬ jmay T D n h a.2 s st → J (nI a.1) (lY S p c2 c3 c4 F F3 F4 b) := fun z => hJ _ _ (by
      rw [j1_n z]
      exact ⟨rfl, F, rfl, hF⟩)
    by_cases z1 : a.2 s = h
    · refine wif_y (by rw [z1]) ⟨tp, c0, r2, t0, by rw [l0]; exact w8, ?_⟩
      rw [lY_A d02 d03 d04, hT s (by omega)]
      by_cases z2 : 0 < T s
      · refine wif_n (fun z => by have := (lek_0 (by omega)).mp z; omega) ⟨tp, c_hhb B0 hR N0 (by omega) (by omega) hF ml (fun z => ?_) (fun z => ?_)⟩
        · exact wif_n (by decide) (no (fun jm => jm.2.2 z))
        · refine wif_y rfl ⟨tp, c0, r2, t0, by rw [l0]; exact w8, ?_⟩
          rw [lY_A d02 d03 d04, hT s (by omega), nI_add, nm_eq]
          refine ⟨tp, c2, r8, t2, by rw [l2]; exact w8, ?_⟩
          rw [nm_eq, lY_s2 d23 d24]
          refine hJ _ _ ?_
          rw [j1_y ⟨z1, z2, z⟩]
          refine ⟨rfl, _, rfl, fun u hu => ?_⟩
          show (if u = s then nI st else F u) = nI (if u = s then st else a.2 u)
          by_cases e : u = s
          · rw [if_pos e, if_pos e]
          · rw [if_neg e, if_neg e]; exact hF u hu
      · exact wif_y ((lek_0 (by omega)).mpr (by omega)) (no (fun jm => z2 jm.2.1))
    · exact wif_n (fun z => z1 ((nI_eq (by omega) (by omega)).mp z)) (no (fun jm => z1 jm.1))
  · have hl : i < n := by omega
    refine wif_n (nI_ge hl (by omega)) ⟨tp, tp, c2, r8, t2, by rw [l2]; exact vp_in_nI (by omega) (by decide), ?_⟩
    rw [lY_I (show ¬ 901 = 906 by decide), i901, nI_clamp (show i < 2 ^ 31 by omega), nm_eq, lY_s2 d23 d24]
    refine hP _ _ hl ⟨nI_1 i, _, rfl, fun u hu => ?_⟩
    show (if u = i then nI h else F u) = nI h
    by_cases e : u = i
    · rw [if_pos e]
    · rw [if_neg e]; exact hF u (by omega)
end
