set_option maxRecDepth 100000
/-! ===== the gangs' rows: what one row meets, and which row is best (no program here) ===== -/
def nsm (f : Nat → Nat) : Nat → Nat
  | 0 => 0
  | n + 1 => nsm f n + f n
theorem nsm_le {f g : Nat → Nat} : ∀ n, (∀ i, i < n → f i ≤ g i) → nsm f n ≤ nsm g n
  | 0, _ => Nat.le_refl _
  | n + 1, h => by
    have := nsm_le n (fun i hi => h i (by omega))
    have := h n (by omega)
    rw [nsm, nsm]
    omega
theorem nsm_cg {f g : Nat → Nat} : ∀ n, (∀ i, i < n → f i = g i) → nsm f n = nsm g n
  | 0, _ => rfl
  | n + 1, h => by rw [nsm, nsm, nsm_cg n (fun i hi => h i (by omega)), h n (by omega)]
theorem nsm_up {f : Nat → Nat} {s v : Nat} : ∀ n, s < n → f s = 0 → nsm (fun i => if i = s then v else f i) n = nsm f n + v
  | 0, h, _ => absurd h (Nat.not_lt_zero s)
  | n + 1, h, h0 => by
    rw [nsm, nsm]
    by_cases e : n = s
    · subst e
      rw [if_pos rfl, h0, nsm_cg n (fun i hi => if_neg (by omega))]
      omega
    · rw [if_neg e, nsm_up n (by omega) h0]
      omega
section
variable (T : Nat → Nat) (D : Nat → Nat → Nat) (N h gs : Nat)
/-- street s has heard by step st -/
def hrdJ (mi : Nat → Nat) (s st : Nat) : Prop := ∃ u, u < N ∧ mi u < st ∧ D u s ≤ st - mi u
def jmay (mi : Nat → Nat) (s st : Nat) : Prop := mi s = h ∧ 0 < T s ∧ ¬ hrdJ D N mi s st
noncomputable def j1 (st s : Nat) (a : Nat × (Nat → Nat)) : Nat × (Nat → Nat) := @ite _ (jmay T D N h a.2 s st) (Classical.propDecidable _) (a.1 + T s, fun i => if i = s then st else a.2 i) a
noncomputable def jg (f : Nat → Nat) (st : Nat) (a : Nat × (Nat → Nat)) : Nat → Nat × (Nat → Nat)
  | 0 => a
  | g + 1 => j1 T D N h st (f (g * h + st)) (jg f st a g)
noncomputable def js (f : Nat → Nat) : Nat → Nat × (Nat → Nat)
  | 0 => (0, fun _ => h)
  | st + 1 => jg T D N h f st (js f st) gs
noncomputable def mtf (f : Nat → Nat) : Nat := (js T D N h gs f h).1
end
section
variable {T : Nat → Nat} {D : Nat → Nat → Nat} {N h gs : Nat}
theorem j1_y {st s : Nat} {a : Nat × (Nat → Nat)} (c : jmay T D N h a.2 s st) : j1 T D N h st s a = (a.1 + T s, fun i => if i = s then st else a.2 i) := by rw [j1, if_pos c]
theorem j1_n {st s : Nat} {a : Nat × (Nat → Nat)} (c : ¬ jmay T D N h a.2 s st) : j1 T D N h st s a = a := by rw [j1, if_neg c]
/-- what holds between the steps: all met so far were met by step st -/
def jok (T : Nat → Nat) (N h : Nat) (st : Nat) (a : Nat × (Nat → Nat)) : Prop := (∀ u, a.2 u ≤ st ∨ a.2 u = h) ∧ a.1 = nsm (fun u => if a.2 u = h then 0 else T u) N
theorem j1_ok {st s : Nat} {a : Nat × (Nat → Nat)} (ok : jok T N h st a) (hs : s < N) (hst : st < h) : jok T N h st (j1 T D N h st s a) := by
  by_cases c : jmay T D N h a.2 s st
  · rw [j1_y c]
    refine ⟨fun u => ?_, ?_⟩
    · show (if u = s then st else a.2 u) ≤ st ∨ (if u = s then st else a.2 u) = h
      by_cases e : u = s
      · rw [if_pos e]; exact Or.inl (Nat.le_refl _)
      · rw [if_neg e]; exact ok.1 u
    · show a.1 + T s = nsm (fun u => if (if u = s then st else a.2 u) = h then 0 else T u) N
      rw [ok.2, ← nsm_up (f := fun u => if a.2 u = h then 0 else T u) N hs (if_pos c.1)]
      refine nsm_cg N (fun i _ => ?_)
      by_cases e : i = s
      · subst e
        simp only [if_true]
        rw [if_neg (by omega)]
      · simp only [e, if_false]
  · rw [j1_n c]
    exact ok
theorem jg_ok {f : Nat → Nat} {st : Nat} {a : Nat × (Nat → Nat)} (ok : jok T N h st a) (hst : st < h) : ∀ g, (∀ i, i < g → f (i * h + st) < N) → jok T N h st (jg T D N h f st a g)
  | 0, _ => ok
  | g + 1, hf => by
    rw [jg]
    exact j1_ok (jg_ok ok hst g (fun i hi => hf i (by omega))) (hf g (by omega)) hst
theorem js_ok {f : Nat → Nat} : ∀ st, st ≤ h → (∀ i j, i < gs → j < h → f (i * h + j) < N) → jok T N h st (js T D N h gs f st)
  | 0, _, _ => ⟨fun _ => Or.inr rfl, by
    show 0 = nsm (fun u => if h = h then 0 else T u) N
    simp only [if_true]
    have : ∀ n, nsm (fun _ => 0) n = 0 := by
      intro n
      induction n with
      | zero => rfl
      | succ n ih => rw [nsm, ih]
    exact (this N).symm⟩
  | st + 1, hs, hf => by
    rw [js]
    have k := jg_ok (D := D) (f := f) (js_ok st (by omega) hf) (by omega) gs (fun i hi => hf i st hi (by omega))
    exact ⟨fun u => by rcases k.1 u with z | z; exact Or.inl (by omega); exact Or.inr z, k.2⟩
theorem mtf_le {f : Nat → Nat} (hf : ∀ i j, i < gs → j < h → f (i * h + j) < N) : mtf T D N h gs f ≤ nsm T N := by
  have k := (js_ok (T := T) (D := D) (N := N) (h := h) (gs := gs) h (Nat.le_refl _) hf).2
  rw [mtf, k]
  refine nsm_le N (fun i _ => ?_)
  split <;> omega
theorem j1_cg {f f' : Nat → Nat} {st : Nat} {a : Nat × (Nat → Nat)} : ∀ g, (∀ i, i < g → f (i * h + st) = f' (i * h + st)) → jg T D N h f st a g = jg T D N h f' st a g
  | 0, _ => rfl
  | g + 1, e => by rw [jg, jg, j1_cg g (fun i hi => e i (by omega)), e g (by omega)]
theorem js_cg {f f' : Nat → Nat} : ∀ st, st ≤ h → (∀ i j, i < gs → j < h → f (i * h + j) = f' (i * h + j)) → js T D N h gs f st = js T D N h gs f' st
  | 0, _, _ => rfl
  | st + 1, hs, e => by rw [js, js, js_cg st (by omega) e, j1_cg gs (fun i hi => e i st hi (by omega))]
theorem mtf_cg {f f' : Nat → Nat} (e : ∀ i j, i < gs → j < h → f (i * h + j) = f' (i * h + j)) : mtf T D N h gs f = mtf T D N h gs f' := by rw [mtf, mtf, js_cg h (Nat.le_refl _) e]
end
/-! digits -/
/-- digit k of code c, of L digits in base N -/
def dig (N L c k : Nat) : Nat := c / N ^ (L - 1 - k) % N
/-- the row can be walked up to k -/
def wlk (D : Nat → Nat → Nat) (h : Nat) (f : Nat → Nat) (k : Nat) : Prop := ∀ i, i < k → i % h = 0 ∨ D (f (i - 1)) (f i) ≤ 1
/-- the best so far after codes lo .. lo+n-1, by what each is worth -/
def bst (v : Nat → Int32) (lo : Nat) (b : Int32 × Nat) : Nat → Int32 × Nat
  | 0 => b
  | n + 1 => if (bst v lo b n).1 < v (lo + n) then (v (lo + n), lo + n) else bst v lo b n
theorem bst_add {v : Nat → Int32} {lo : Nat} {b : Int32 × Nat} {m : Nat} : ∀ n, bst v lo b (m + n) = bst v (lo + m) (bst v lo b m) n
  | 0 => rfl
  | n + 1 => by rw [← Nat.add_assoc, bst, bst, bst_add n, Nat.add_assoc]
theorem bst_st {v : Nat → Int32} {lo : Nat} {b : Int32 × Nat} : ∀ n, (∀ i, i < n → ¬ b.1 < v (lo + i)) → bst v lo b n = b
  | 0, _ => rfl
  | n + 1, h => by rw [bst, bst_st n (fun i hi => h i (by omega)), if_neg (h n (by omega))]
