set_option maxRecDepth 100000
/-! ===== texts are read ===== -/
def kT (v : Int32) : Nat := if v = 97 ∨ v = 121 then 11 else if v = 65 ∨ v = 89 then 12 else 13
def kW (v : Int32) : Int32 := if v = 97 ∨ v = 65 then 0 else if v = 121 ∨ v = 89 then 5 else 4
def kP (v : Int32) : Nat := if v = 112 then 14 else if v = 115 then 15 else 16
/-- a text at an address stands for what is read from i on -/
def tx (sg : Nat → Int32) (c : Nat) (S : xH) : Nat → Nat → Nat → Prop
  | 0, _, _ => False
  | f + 1, i, a => (sg i = 38 ∧ xT S a = 8 ∧ ∃ b1 b2, xR S 400 a = some b1 ∧ xR S 401 a = some b2 ∧ tx sg c S f (i + 1) b1 ∧ tx sg c S f (pT sg c f (i + 1)).2 b2) ∨ (sg i = 124 ∧ xT S a = 9 ∧ ∃ b1 b2, xR S 400 a = some b1 ∧ xR S 401 a = some b2 ∧ tx sg c S f (i + 1) b1 ∧ tx sg c S f (pT sg c f (i + 1)).2 b2) ∨ (sg i = 33 ∧ xT S a = 10 ∧ ∃ b1, xR S 500 a = some b1 ∧ tx sg c S f (i + 1) b1) ∨ (hsD (sg i) = true ∧ xT S a = kT (sg i) ∧ xI S 550 a = kW (sg i) ∧ xI S 551 a = nu sg (i + 1) ∧ ∃ q, q < 100 ∧ nu sg (i + 1) = nI q) ∨ (psh (sg i) = true ∧ xT S a = kP (sg i))
theorem kT_nz (v : Int32) : kT v ≠ 0 := by
  unfold kT
  split
  · decide
  · split <;> decide
theorem kP_nz (v : Int32) : kP v ≠ 0 := by
  unfold kP
  split
  · decide
  · split <;> decide
theorem tx_ext {sg : Nat → Int32} {c : Nat} {S S' : xH} (e : xE S S') : ∀ f i a, tx sg c S f i a → tx sg c S' f i a := by
  intro f
  induction f with
  | zero => intro i a h; exact h
  | succ f ih =>
    intro i a h
    rcases h with ⟨h0, h1, b1, b2, r1, r2, t1, t2⟩ | ⟨h0, h1, b1, b2, r1, r2, t1, t2⟩ | ⟨h0, h1, b1, r1, t1⟩ | ⟨h0, h1, i1, i2, q⟩ | ⟨h0, h1⟩
    · have q := e a (by rw [h1]; decide)
      exact Or.inl ⟨h0, q.1.trans h1, b1, b2, (q.2.2.2.1 400).trans r1, (q.2.2.2.1 401).trans r2, ih _ _ t1, ih _ _ t2⟩
    · have q := e a (by rw [h1]; decide)
      exact Or.inr (Or.inl ⟨h0, q.1.trans h1, b1, b2, (q.2.2.2.1 400).trans r1, (q.2.2.2.1 401).trans r2, ih _ _ t1, ih _ _ t2⟩)
    · have q := e a (by rw [h1]; decide)
      exact Or.inr (Or.inr (Or.inl ⟨h0, q.1.trans h1, b1, (q.2.2.2.1 500).trans r1, ih _ _ t1⟩))
    · have p := e a (by rw [h1]; exact kT_nz _)
      exact Or.inr (Or.inr (Or.inr (Or.inl ⟨h0, p.1.trans h1, (p.2.2.1 550 (by decide) (by decide)).trans i1, (p.2.2.1 551 (by decide) (by decide)).trans i2, q⟩)))
    · have q := e a (by rw [h1]; exact kP_nz _)
      exact Or.inr (Or.inr (Or.inr (Or.inr ⟨h0, q.1.trans h1⟩)))
/-- an act with the signs sg, c of them -/
def AC (S : xH) (o b : Nat) (sg : Nat → Int32) (c : Nat) : Prop := xT S o = 6 ∧ xR S 301 o = some b ∧ xT S b = 101 ∧ xL S b = 60 ∧ (∀ j, j < c → xA S b j = sg j) ∧ xI S 302 o = nI c ∧ c ≤ 60
theorem AC.ext {S S' : xH} {o b c : Nat} {sg : Nat → Int32} (h : AC S o b sg c) (e : xE S S') : AC S' o b sg c := by
  obtain ⟨h1, h2, h3, h4, h5, h6, h7⟩ := h
  have q := e o (by rw [h1]; decide)
  have p := e b (by rw [h3]; decide)
  exact ⟨q.1.trans h1, (q.2.2.2.1 301).trans h2, p.1.trans h3, p.2.1.trans h4, fun j hj => by rw [p.2.2.2.2.1]; exact h5 j hj, (q.2.2.1 302 (by decide) (by decide)).trans h6, h7⟩
theorem dg_n {v : Int32} (h : dgt v = true) : ∃ q, q < 10 ∧ v - 48 = nI q := by
  have q := rg_t.mp h
  rw [Int32.le_iff_toInt_le, Int32.le_iff_toInt_le] at q
  have e1 : (48 : Int32).toInt = 48 := by decide
  have e2 : (57 : Int32).toInt = 57 := by decide
  obtain ⟨p, hp, e⟩ := vp_in_of (n := 58) (x := v) (vp_in_iff.mpr (by omega)) (by decide)
  rw [e, nI_toInt (by omega)] at q
  exact ⟨p - 48, by omega, by rw [e]; exact pk_sub (b := 48) (by omega)⟩
theorem nu_n {sg : Nat → Int32} {i : Nat} (h1 : dgt (sg i) = true) (h2 : dgt (sg (i + 1)) = true) : ∃ q, q < 100 ∧ nu sg i = nI q := by
  obtain ⟨p, hp, ep⟩ := dg_n h1
  obtain ⟨r, hr, er⟩ := dg_n h2
  exact ⟨10 * p + r, by omega, by rw [nu, ep, er, im10, nI_add]⟩
section
variable {S : xH} {o b c i : Nat} {sg : Nat → Int32}
theorem s1_m1 (a : Int32) : a + 1 - 1 = a := Int32.add_sub_cancel a 1
theorem c_next (h : AC S o b sg c) (h3 : xI S 303 o = nI i) (hi : i ≤ c) {Q : Int32 → xH → Prop} (q1 : i < c → Q (sg i) (sI S 303 o (nI (i + 1)))) (q2 : i = c → Q 0 (sI S 303 o (nI i))) : w_X5_next S o Q := by
  obtain ⟨h1, h2, t3, h4, h5, h6, h7⟩ := h
  unfold w_X5_next
  simp only [h1, h2, t3, h4, h6, h3, wif_T, wif_F, nm_eq, jn_eq, jn0_eq, jn2_eq, jn3_eq, jn4_eq, zI_t, zI_f, zI0, x_B_zI, x_B_0, x_B_1, isIn_eq, in_eq, Bool.true_eq_false, Bool.false_eq_true, eq_self, true_and, and_true, Option.some.injEq, exists_eq_left', exists_eq_left, reduceCtorEq, not_true_eq_false, not_false_eq_true, one_ne, if_true, if_false]
  by_cases e : i = c
  · have le : nI c ≤ nI i := by rw [e]; exact Int32.le_refl _
    have q := q2 e
    rw [← Int32.add_zero (nI i)] at q
    exact wif_y le (wif_y le q)
  · have lt : ¬ nI c ≤ nI i := nI_ge (by omega) (by omega)
    have q := q1 (by omega)
    rw [← nI_1] at q
    refine wif_n lt ⟨vp_in_nI (by omega) (by decide), wif_n lt ?_⟩
    rw [nI_clamp (by omega), h5 i (by omega)]
    exact q
theorem c_digit (h : AC S o b sg c) (h3 : xI S 303 o = nI i) (hi : i ≤ c) {Q : Int32 → xH → Prop} (q1 : i < c → dgt (sg i) = true → Q (sg i - 48) (sI S 303 o (nI (i + 1)))) (q2 : ¬ (i < c ∧ dgt (sg i) = true) → Q (-1) S) : w_X5_digit S o Q := by
  obtain ⟨h1, h2, t3, h4, h5, h6, h7⟩ := h
  unfold w_X5_digit
  simp only [h1, h2, t3, h4, h6, h3, xI_at, s1_m1, xT_sI, xL_sI, xR_sI, xA_sI, xQ_sI, xT_sR, xL_sR, xI_sR, xA_sR, xQ_sR, xT_sA, xL_sA, xI_sA, xR_sA, xQ_sA, xT_sQ, xL_sQ, xI_sQ, xR_sQ, xA_sQ, xT_sB, xL_sB, xI_sB, xR_sB, xQ_sB, wif_T, wif_F, nm_eq, jn_eq, jn0_eq, jn2_eq, jn3_eq, jn4_eq, zI_t, zI_f, zI0, x_B_zI, x_B_0, x_B_1, isIn_eq, in_eq, Bool.true_eq_false, Bool.false_eq_true, eq_self, true_and, and_true, Option.some.injEq, exists_eq_left', exists_eq_left, reduceCtorEq, not_true_eq_false, not_false_eq_true, one_ne, if_true, if_false]
  by_cases e : i = c
  · exact wif_y (by rw [e]) (q2 (by omega))
  · refine wif_n (fun q => e ((nI_eq (by omega) (by omega)).mp q)) ⟨vp_in_nI (by omega) (by decide), ?_⟩
    rw [nI_clamp (by omega), h5 i (by omega)]
    cases d : rg (sg i) 48 57
    · exact wif_y rfl (q2 (fun q => by have := q.2; rw [dgt, d] at this; exact absurd this (by decide)))
    · refine wif_n (by decide) ⟨vp_in_nI (by omega) (by decide), ?_⟩
      have q := q1 (by omega) d
      rw [← nI_1] at q
      exact q
theorem c_fail (h : AC S o b sg c) (h3 : xI S 303 o = nI i) (h4 : xI S 304 o = -9) {Q : Option Nat → xH → Prop} (q : Q none (sI S 304 o (nI i))) : w_X5_fail S o Q := by
  unfold w_X5_fail
  simp only [h.1, h3, h4, wif_T, wif_F, nm_eq, jn_eq, jn0_eq, jn2_eq, jn3_eq, jn4_eq, zI_t, zI_f, zI0, x_B_zI, x_B_0, x_B_1, isIn_eq, in_eq, Bool.true_eq_false, Bool.false_eq_true, eq_self, true_and, and_true, Option.some.injEq, exists_eq_left', exists_eq_left, reduceCtorEq, not_true_eq_false, not_false_eq_true, one_ne, if_true, if_false]
  exact q
end
