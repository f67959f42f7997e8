set_option maxRecDepth 100000
/-! ===== met, laid ===== -/
def eq5 (S S' : xH) (x : Nat) : Prop := xT S' x = xT S x ∧ xL S' x = xL S x ∧ (∀ f, f ≠ 303 → f ≠ 304 → xI S' f x = xI S f x) ∧ (∀ f, xR S' f x = xR S f x) ∧ xA S' x = xA S x
theorem eqc.e5 {S S' : xH} {x : Nat} (e : eqc S S' x) : eq5 S S' x := ⟨e.1, e.2.1, e.2.2.1, e.2.2.2.1, e.2.2.2.2.1⟩
theorem xE.z {S S' : xH} {a : Nat} (e : xE S S') (h : xT S' a = 0) : xT S a = 0 := by
  by_cases z : xT S a = 0
  · exact z
  · have := (e a z).1
    rw [h] at this
    exact absurd this.symm z
theorem bst_mx {v : Nat → Int32} {lo : Nat} {b : Int32 × Nat} : ∀ n i, i < n → ¬ (bst v lo b n).1 < v (lo + i)
  | 0, i, h => absurd h (Nat.not_lt_zero i)
  | n + 1, i, h => by
    have ih := bst_mx (v := v) (lo := lo) (b := b) n i
    rw [bst]
    split
    · next c =>
      show ¬ v (lo + n) < v (lo + i)
      by_cases e : i = n
      · rw [e]; exact fun z => Int32.lt_irrefl z
      · have := ih (by omega)
        rw [Int32.lt_iff_toInt_lt] at this c ⊢
        omega
    · next c =>
      by_cases e : i = n
      · rw [e]; exact c
      · exact ih (by omega)
/-- a laying under construction: the arrays it has so far (field, address, tag, length) -/
def lyV (S : xH) (o p : Nat) (cs : List (Nat × Nat × Nat × Nat)) : Prop := xT S p = 18 ∧ xR S 909 p = some o ∧ ∀ e, e ∈ cs → xR S e.1 p = some e.2.1 ∧ xT S e.2.1 = e.2.2.1 ∧ xL S e.2.1 = e.2.2.2 ∧ xA S e.2.1 = (fun _ => 0) ∧ e.2.2.1 ≠ 0
section
variable {S : xH} {o p a t n f : Nat} {cs : List (Nat × Nat × Nat × Nat)}
theorem lyV_p (V : lyV S o p cs) (ha : xT S a = 0) : p ≠ a := fun e => by
  have := V.1
  rw [e, ha] at this
  exact absurd this (by decide)
theorem lyV_t (V : lyV S o p cs) (ha : xT S a = 0) : xT (sV S a t n) p = 18 := (eqc_sV (lyV_p V ha)).1.trans V.1
theorem lyV_ne (V : lyV S o p cs) (ha : xT S a = 0) {e : Nat × Nat × Nat × Nat} (he : e ∈ cs) : e.2.1 ≠ a := fun q => by
  obtain ⟨_, h2, _, _, h5⟩ := V.2.2 e he
  rw [q, ha] at h2
  exact h5 h2.symm
theorem lyV_v (V : lyV S o p cs) (ha : xT S a = 0) (ht : t ≠ 0) (hf : ∀ e, e ∈ cs → e.1 ≠ f) (h9 : 909 ≠ f) : lyV (sR (sV S a t n) f p (some a)) o p ((f, a, t, n) :: cs) := by
  refine ⟨?_, ?_, fun e he => ?_⟩
  · rw [xT_sR]; exact lyV_t V ha
  · rw [xR_nf _ _ h9, xR_sV]; exact V.2.1
  · rcases List.mem_cons.mp he with rfl | he
    · exact ⟨xR_at _ _ _ _, by rw [xT_sR]; exact xT_nV, by rw [xL_sR]; exact xL_nV, by rw [xA_sR]; exact xA_nV, ht⟩
    · have ne := lyV_ne V ha he
      obtain ⟨h1, h2, h3, h4, h5⟩ := V.2.2 e he
      have q := eqc_sV (S := S) (t := t) (n := n) ne
      refine ⟨?_, ?_, ?_, ?_, h5⟩
      · rw [xR_nf _ _ (hf e he), xR_sV]; exact h1
      · rw [xT_sR]; exact q.1.trans h2
      · rw [xL_sR]; exact q.2.1.trans h3
      · rw [xA_sR]; exact q.2.2.2.2.1.trans h4
theorem lyV_i {v : Int32} (V : lyV S o p cs) : lyV (sI S f p v) o p cs := V
end
section
variable {S S' : xH} {o p c0 c1 c2 c3 c4 g h n al : Nat} {T T' : Nat → Nat}
theorem lyS.tr (B : lyS S o p c0 c1 c2 c3 c4 g h n T al) (e : ∀ x, xT S x ≠ 0 → eq5 S S' x) : lyS S' o p c0 c1 c2 c3 c4 g h n T al := by
  obtain ⟨⟨tp, tq, i50, i900, i901, i907⟩, ⟨r9, r2, r3, r8, r4, r5⟩, ⟨t0, l0, t1, l1, t2, l2, t3, l3, t4, l4⟩, ds, hT⟩ := B
  have ep := e p (by rw [tp]; decide)
  have eo := e o (by rw [tq]; decide)
  have e0 := e c0 (by rw [t0]; decide)
  have e1 := e c1 (by rw [t1]; decide)
  have e2 := e c2 (by rw [t2]; decide)
  have e3 := e c3 (by rw [t3]; decide)
  have e4 := e c4 (by rw [t4]; decide)
  refine ⟨⟨ep.1.trans tp, eo.1.trans tq, (eo.2.2.1 50 (by decide) (by decide)).trans i50, (ep.2.2.1 900 (by decide) (by decide)).trans i900, (ep.2.2.1 901 (by decide) (by decide)).trans i901, (ep.2.2.1 907 (by decide) (by decide)).trans i907⟩, ⟨(ep.2.2.2.1 909).trans r9, (ep.2.2.2.1 902).trans r2, (ep.2.2.2.1 903).trans r3, (ep.2.2.2.1 908).trans r8, (ep.2.2.2.1 904).trans r4, (ep.2.2.2.1 905).trans r5⟩, ⟨e0.1.trans t0, e0.2.1.trans l0, e1.1.trans t1, e1.2.1.trans l1, e2.1.trans t2, e2.2.1.trans l2, e3.1.trans t3, e3.2.1.trans l3, e4.1.trans t4, e4.2.1.trans l4⟩, ds, fun s hs => ?_⟩
  rw [e0.2.2.2.2]
  exact hT s hs
theorem lyS.cg {al' : Nat} (B : lyS S o p c0 c1 c2 c3 c4 g h n T al) (e : ∀ s, s < 8 → T s = T' s) (ea : al = al') : lyS S o p c0 c1 c2 c3 c4 g h n T' al' := by
  subst ea
  exact ⟨B.1, B.2.1, B.2.2.1, B.2.2.2.1, fun s hs => by rw [← e s hs]; exact B.2.2.2.2 s hs⟩
/-- one more man in street s -/
theorem lyS.up {s : Nat} (B : lyS S o p c0 c1 c2 c3 c4 g h n T al) : lyS (sI (sA S c0 s (nI (T s) + 1)) 907 p (nI al + 1)) o p c0 c1 c2 c3 c4 g h n (fun i => if i = s then T i + 1 else T i) (al + 1) := by
  obtain ⟨⟨tp, tq, i50, i900, i901, i907⟩, ⟨r9, r2, r3, r8, r4, r5⟩, ⟨t0, l0, t1, l1, t2, l2, t3, l3, t4, l4⟩, ds, hT⟩ := B
  refine ⟨⟨tp, tq, ?_, ?_, ?_, ?_⟩, ⟨r9, r2, r3, r8, r4, r5⟩, ⟨t0, l0, t1, l1, t2, l2, t3, l3, t4, l4⟩, ds, fun i hi => ?_⟩
  · rw [xI_nf _ _ (by decide), xI_sA]; exact i50
  · rw [xI_nf _ _ (by decide), xI_sA]; exact i900
  · rw [xI_nf _ _ (by decide), xI_sA]; exact i901
  · rw [xI_at, nI_1]
  · rw [xA_sI]
    show (if c0 = c0 ∧ i = s then nI (T s) + 1 else xA S c0 i) = nI (if i = s then T i + 1 else T i)
    by_cases e : i = s
    · rw [if_pos ⟨rfl, e⟩, if_pos e, nI_1, e]
    · rw [if_neg (fun z => e z.2), if_neg e]; exact hT i hi
end
theorem nsm_in {f : Nat → Nat} {s : Nat} : ∀ n, s < n → nsm (fun i => if i = s then f i + 1 else f i) n = nsm f n + 1
  | 0, h => absurd h (Nat.not_lt_zero s)
  | n + 1, h => by
    rw [nsm, nsm]
    by_cases e : n = s
    · subst e
      rw [if_pos rfl, nsm_cg n (fun i hi => if_neg (by omega))]
      omega
    · rw [if_neg e, nsm_in n (by omega)]
      omega
theorem nsm_z : ∀ n, nsm (fun _ => 0) n = 0
  | 0 => rfl
  | n + 1 => by rw [nsm, nsm_z n]
/-- what the laying found -/
def lyF (S : xH) (p L n : Nat) (b : Int32 × Nat) : Prop := xT S p = 18 ∧ xI S 906 p = b.1 ∧ ∃ c, xR S 905 p = some c ∧ xT S c = 101 ∧ xL S c = L ∧ ∀ j, j < L → xA S c j = nI (dig n L b.2 j)
section
variable {G : xG} {M : xM} {S X : xH} {o p c0 c1 c2 c3 c4 g h : Nat} {R : Nat → Nat}
/-- the last of the init: all is counted and measured, now lay -/
theorem c_lays (h0 : Inv G S o M) (E : xE S X) (hp : xT S p = 0) (z2 : xT S c2 = 0) (z3 : xT S c3 = 0) (z4 : xT S c4 = 0) (hg1 : 1 ≤ g) (hg : g ≤ 2) (hh1 : 1 ≤ h) (hh : h ≤ 3) (B : lyS X o p c0 c1 c2 c3 c4 g h (gN G 1) (tcn G M (gN G 5)) (nsm (tcn G M (gN G 5)) (gN G 1))) (hR : lyR X c1 c2 c3 c4 R (dst (adj M)) (gN G 1)) (hb : xI X 906 p = -9) {Q : xH → Prop} (q : ∀ S', xE S S' → lyF S' p (g * h) (gN G 1) (bst (vlu (tcn G M (gN G 5)) (dst (adj M)) (gN G 1) h g) 0 (-9, 0) (gN G 1 ^ (g * h))) → Q S') : w_X17_lay 8 X p 0 Q := by
  have n0 := h0.O_n0
  have n1 := h0.O_n1
  have T40 : ∀ s, tcn G M (gN G 5) s ≤ 40 := fun s => Nat.le_trans tcn_le h0.O_n5
  have N : lyN g h (gN G 1) (tcn G M (gN G 5)) (dst (adj M)) := ⟨n0, n1, hg1, hg, hh1, hh, T40, fun _ _ => dst_le⟩
  have V0 := vlu_0 (D := dst (adj M)) (h := h) (g := g) n0 n1 T40 (dst_0.mpr rfl)
  have hL : g * h ≤ 6 := Nat.le_trans (Nat.mul_le_mul hg hh) (by decide)
  have p1 : 0 < gN G 1 ^ (g * h) := Nat.pow_pos n0
  have e := lY_self (S := X) (p := p) (c2 := c2) (c3 := c3) (c4 := c4)
  rw [hb] at e
  have k := c_lay B hR N (h0.ext E) rfl rfl (g * h) 8 0 0 (xA X c2) (xA X c3) (xA X c4) (-9, 0) Q (by omega) (by omega) (fun j hj => absurd hj (Nat.not_lt_zero j)) (fun j hj => absurd hj (Nat.not_lt_zero j)) (Or.inl rfl) (fun F2 F3 F4 _ hk => by
    rw [Nat.zero_mul] at hk ⊢
    refine q _ (lY_E E hp z2 z3 z4) ?_
    have mx := bst_mx (v := vlu (tcn G M (gN G 5)) (dst (adj M)) (gN G 1) h g) (lo := 0) (b := (-9, 0)) (gN G 1 ^ (g * h)) 0 p1
    rw [Nat.add_zero] at mx
    generalize bst (vlu (tcn G M (gN G 5)) (dst (adj M)) (gN G 1) h g) 0 (-9, 0) (gN G 1 ^ (g * h)) = b at *
    obtain ⟨⟨tp, tq, i50, i900, i901, i907⟩, ⟨r9, r2, r3, r8, r4, r5⟩, ⟨t0, l0, t1, l1, t2, l2, t3, l3, t4, l4⟩, ds, hT⟩ := B
    refine ⟨by rw [lY_T]; exact tp, lY_b, c4, by rw [lY_R]; exact r5, by rw [lY_T]; exact t4, by rw [lY_L]; exact l4, fun j hj => ?_⟩
    rw [lY_4]
    rcases hk with z | ⟨_, z⟩
    · rw [z] at mx
      exact absurd V0 mx
    · exact z j hj)
  have k' : w_X17_lay 8 (lY X p c2 c3 c4 (xA X c2) (xA X c3) (xA X c4) (-9)) p 0 Q := k
  rw [e] at k'
  exact k'
end
