set_option maxRecDepth 100000
theorem wif_T {A B : Prop} : wif True A B = A := by simp [wif]
theorem wif_F {A B : Prop} : wif False A B = B := by simp [wif]
theorem wif_y {c A B : Prop} (h : c) (a : A) : wif c A B := ⟨fun _ => a, fun n => absurd h n⟩
theorem wif_n {c A B : Prop} (h : ¬ c) (b : B) : wif c A B := ⟨fun y => absurd y h, fun _ => b⟩
theorem nm_eq {α : Type} {e : α} {K : α → Prop} : nm e K = K e := propext ⟨fun h => h e rfl, fun h x hx => by rw [hx]; exact h⟩
theorem jn0_eq {R : Prop} {F : Prop → Prop} : jn0 R F = F R := rfl
theorem jn0_i {R : Prop} {F : Prop → Prop} (hR : R) (hF : ∀ J : Prop, J → F J) : jn0 R F := hF R hR
theorem jn0_c {R : Prop} {F : Prop → Prop} (c : Prop) (hR : c → R) (hF : ∀ J : Prop, (c → J) → F J) : jn0 R F := hF R hR
theorem jn_i {α : Type} {R : α → Prop} {F : (α → Prop) → Prop} (g : α → Prop) (hR : ∀ a0, g a0 → R a0) (hF : ∀ J : α → Prop, (∀ a0, g a0 → J a0) → F J) : jn R F := hF R hR
theorem jn2_i {α β : Type} {R : α → β → Prop} {F : (α → β → Prop) → Prop} (g : α → β → Prop) (hR : ∀ a0 a1, g a0 a1 → R a0 a1) (hF : ∀ J : α → β → Prop, (∀ a0 a1, g a0 a1 → J a0 a1) → F J) : jn2 R F := hF R hR
theorem jn3_i {α β γ : Type} {R : α → β → γ → Prop} {F : (α → β → γ → Prop) → Prop} (g : α → β → γ → Prop) (hR : ∀ a0 a1 a2, g a0 a1 a2 → R a0 a1 a2) (hF : ∀ J : α → β → γ → Prop, (∀ a0 a1 a2, g a0 a1 a2 → J a0 a1 a2) → F J) : jn3 R F := hF R hR
theorem jn4_i {α β γ δ : Type} {R : α → β → γ → δ → Prop} {F : (α → β → γ → δ → Prop) → Prop} (g : α → β → γ → δ → Prop) (hR : ∀ a0 a1 a2 a3, g a0 a1 a2 a3 → R a0 a1 a2 a3) (hF : ∀ J : α → β → γ → δ → Prop, (∀ a0 a1 a2 a3, g a0 a1 a2 a3 → J a0 a1 a2 a3) → F J) : jn4 R F := hF R hR
theorem jn_eq {α : Type} {R : α → Prop} {F : (α → Prop) → Prop} : jn R F = F R := rfl
theorem jn2_eq {α β : Type} {R : α → β → Prop} {F : (α → β → Prop) → Prop} : jn2 R F = F R := rfl
theorem jn3_eq {α β γ : Type} {R : α → β → γ → Prop} {F : (α → β → γ → Prop) → Prop} : jn3 R F = F R := rfl
theorem jn4_eq {α β γ δ : Type} {R : α → β → γ → δ → Prop} {F : (α → β → γ → δ → Prop) → Prop} : jn4 R F = F R := rfl
/-- a loop by a measure -/
theorem lf1_i {α : Type} {F : (α → Prop) → α → Prop} (I : α → Prop) (μ : α → Nat) (st : ∀ (P : α → Prop) (a0 : α), I a0 → (∀ b0, I b0 → μ b0 < μ a0 → P b0) → F P a0) (a0 : α) (h : I a0) : lf1 F a0 := by
  intro P hP
  suffices H : ∀ n a0, μ a0 ≤ n → I a0 → P a0 from H _ a0 (Nat.le_refl _) h
  intro n
  induction n with
  | zero => intro a0 hm hI; exact hP a0 (st P a0 hI (fun b0 _ hlt => absurd hlt (by omega)))
  | succ n ih => intro a0 hm hI; exact hP a0 (st P a0 hI (fun b0 hI' hlt => ih b0 (by omega) hI'))
/-- a loop that counts: J i says what holds at its head in round i -/
theorem lf1_u {α : Type} {F : (α → Prop) → α → Prop} (n : Nat) (J : Nat → α → Prop) (st : ∀ (P : α → Prop) (i : Nat) (a0 : α), i ≤ n → J i a0 → (∀ b0, i < n → J (i + 1) b0 → P b0) → F P a0) (a0 : α) (h : J 0 a0) : lf1 F a0 := by
  intro P hP
  suffices H : ∀ j i a0, n - i = j → i ≤ n → J i a0 → P a0 from H _ 0 a0 rfl (Nat.zero_le _) h
  intro j
  induction j with
  | zero => intro i a0 hm hi hJ; exact hP a0 (st P i a0 hi hJ (fun b0 hlt _ => absurd hlt (by omega)))
  | succ j ih => intro i a0 hm hi hJ; exact hP a0 (st P i a0 hi hJ (fun b0 hlt hJ' => ih (i + 1) b0 (by omega) (by omega) hJ'))
/-- a loop by a measure -/
theorem lf2_i {α β : Type} {F : (α → β → Prop) → α → β → Prop} (I : α → β → Prop) (μ : α → β → Nat) (st : ∀ (P : α → β → Prop) (a0 : α) (a1 : β), I a0 a1 → (∀ b0 b1, I b0 b1 → μ b0 b1 < μ a0 a1 → P b0 b1) → F P a0 a1) (a0 : α) (a1 : β) (h : I a0 a1) : lf2 F a0 a1 := by
  intro P hP
  suffices H : ∀ n a0 a1, μ a0 a1 ≤ n → I a0 a1 → P a0 a1 from H _ a0 a1 (Nat.le_refl _) h
  intro n
  induction n with
  | zero => intro a0 a1 hm hI; exact hP a0 a1 (st P a0 a1 hI (fun b0 b1 _ hlt => absurd hlt (by omega)))
  | succ n ih => intro a0 a1 hm hI; exact hP a0 a1 (st P a0 a1 hI (fun b0 b1 hI' hlt => ih b0 b1 (by omega) hI'))
/-- a loop that counts: J i says what holds at its head in round i -/
theorem lf2_u {α β : Type} {F : (α → β → Prop) → α → β → Prop} (n : Nat) (J : Nat → α → β → Prop) (st : ∀ (P : α → β → Prop) (i : Nat) (a0 : α) (a1 : β), i ≤ n → J i a0 a1 → (∀ b0 b1, i < n → J (i + 1) b0 b1 → P b0 b1) → F P a0 a1) (a0 : α) (a1 : β) (h : J 0 a0 a1) : lf2 F a0 a1 := by
  intro P hP
  suffices H : ∀ j i a0 a1, n - i = j → i ≤ n → J i a0 a1 → P a0 a1 from H _ 0 a0 a1 rfl (Nat.zero_le _) h
  intro j
  induction j with
  | zero => intro i a0 a1 hm hi hJ; exact hP a0 a1 (st P i a0 a1 hi hJ (fun b0 b1 hlt _ => absurd hlt (by omega)))
  | succ j ih => intro i a0 a1 hm hi hJ; exact hP a0 a1 (st P i a0 a1 hi hJ (fun b0 b1 hlt hJ' => ih (i + 1) b0 b1 (by omega) (by omega) hJ'))
/-- a loop by a measure -/
theorem lf3_i {α β γ : Type} {F : (α → β → γ → Prop) → α → β → γ → Prop} (I : α → β → γ → Prop) (μ : α → β → γ → Nat) (st : ∀ (P : α → β → γ → Prop) (a0 : α) (a1 : β) (a2 : γ), I a0 a1 a2 → (∀ b0 b1 b2, I b0 b1 b2 → μ b0 b1 b2 < μ a0 a1 a2 → P b0 b1 b2) → F P a0 a1 a2) (a0 : α) (a1 : β) (a2 : γ) (h : I a0 a1 a2) : lf3 F a0 a1 a2 := by
  intro P hP
  suffices H : ∀ n a0 a1 a2, μ a0 a1 a2 ≤ n → I a0 a1 a2 → P a0 a1 a2 from H _ a0 a1 a2 (Nat.le_refl _) h
  intro n
  induction n with
  | zero => intro a0 a1 a2 hm hI; exact hP a0 a1 a2 (st P a0 a1 a2 hI (fun b0 b1 b2 _ hlt => absurd hlt (by omega)))
  | succ n ih => intro a0 a1 a2 hm hI; exact hP a0 a1 a2 (st P a0 a1 a2 hI (fun b0 b1 b2 hI' hlt => ih b0 b1 b2 (by omega) hI'))
/-- a loop that counts: J i says what holds at its head in round i -/
theorem lf3_u {α β γ : Type} {F : (α → β → γ → Prop) → α → β → γ → Prop} (n : Nat) (J : Nat → α → β → γ → Prop) (st : ∀ (P : α → β → γ → Prop) (i : Nat) (a0 : α) (a1 : β) (a2 : γ), i ≤ n → J i a0 a1 a2 → (∀ b0 b1 b2, i < n → J (i + 1) b0 b1 b2 → P b0 b1 b2) → F P a0 a1 a2) (a0 : α) (a1 : β) (a2 : γ) (h : J 0 a0 a1 a2) : lf3 F a0 a1 a2 := by
  intro P hP
  suffices H : ∀ j i a0 a1 a2, n - i = j → i ≤ n → J i a0 a1 a2 → P a0 a1 a2 from H _ 0 a0 a1 a2 rfl (Nat.zero_le _) h
  intro j
  induction j with
  | zero => intro i a0 a1 a2 hm hi hJ; exact hP a0 a1 a2 (st P i a0 a1 a2 hi hJ (fun b0 b1 b2 hlt _ => absurd hlt (by omega)))
  | succ j ih => intro i a0 a1 a2 hm hi hJ; exact hP a0 a1 a2 (st P i a0 a1 a2 hi hJ (fun b0 b1 b2 hlt hJ' => ih (i + 1) b0 b1 b2 (by omega) (by omega) hJ'))
/-- a loop by a measure -/
theorem lf4_i {α β γ δ : Type} {F : (α → β → γ → δ → Prop) → α → β → γ → δ → Prop} (I : α → β → γ → δ → Prop) (μ : α → β → γ → δ → Nat) (st : ∀ (P : α → β → γ → δ → Prop) (a0 : α) (a1 : β) (a2 : γ) (a3 : δ), I a0 a1 a2 a3 → (∀ b0 b1 b2 b3, I b0 b1 b2 b3 → μ b0 b1 b2 b3 < μ a0 a1 a2 a3 → P b0 b1 b2 b3) → F P a0 a1 a2 a3) (a0 : α) (a1 : β) (a2 : γ) (a3 : δ) (h : I a0 a1 a2 a3) : lf4 F a0 a1 a2 a3 := by
  intro P hP
  suffices H : ∀ n a0 a1 a2 a3, μ a0 a1 a2 a3 ≤ n → I a0 a1 a2 a3 → P a0 a1 a2 a3 from H _ a0 a1 a2 a3 (Nat.le_refl _) h
  intro n
  induction n with
  | zero => intro a0 a1 a2 a3 hm hI; exact hP a0 a1 a2 a3 (st P a0 a1 a2 a3 hI (fun b0 b1 b2 b3 _ hlt => absurd hlt (by omega)))
  | succ n ih => intro a0 a1 a2 a3 hm hI; exact hP a0 a1 a2 a3 (st P a0 a1 a2 a3 hI (fun b0 b1 b2 b3 hI' hlt => ih b0 b1 b2 b3 (by omega) hI'))
/-- a loop that counts: J i says what holds at its head in round i -/
theorem lf4_u {α β γ δ : Type} {F : (α → β → γ → δ → Prop) → α → β → γ → δ → Prop} (n : Nat) (J : Nat → α → β → γ → δ → Prop) (st : ∀ (P : α → β → γ → δ → Prop) (i : Nat) (a0 : α) (a1 : β) (a2 : γ) (a3 : δ), i ≤ n → J i a0 a1 a2 a3 → (∀ b0 b1 b2 b3, i < n → J (i + 1) b0 b1 b2 b3 → P b0 b1 b2 b3) → F P a0 a1 a2 a3) (a0 : α) (a1 : β) (a2 : γ) (a3 : δ) (h : J 0 a0 a1 a2 a3) : lf4 F a0 a1 a2 a3 := by
  intro P hP
  suffices H : ∀ j i a0 a1 a2 a3, n - i = j → i ≤ n → J i a0 a1 a2 a3 → P a0 a1 a2 a3 from H _ 0 a0 a1 a2 a3 rfl (Nat.zero_le _) h
  intro j
  induction j with
  | zero => intro i a0 a1 a2 a3 hm hi hJ; exact hP a0 a1 a2 a3 (st P i a0 a1 a2 a3 hi hJ (fun b0 b1 b2 b3 hlt _ => absurd hlt (by omega)))
  | succ j ih => intro i a0 a1 a2 a3 hm hi hJ; exact hP a0 a1 a2 a3 (st P i a0 a1 a2 a3 hi hJ (fun b0 b1 b2 b3 hlt hJ' => ih (i + 1) b0 b1 b2 b3 (by omega) (by omega) hJ'))
/-- a loop by a measure -/
theorem lf5_i {α β γ δ ε : Type} {F : (α → β → γ → δ → ε → Prop) → α → β → γ → δ → ε → Prop} (I : α → β → γ → δ → ε → Prop) (μ : α → β → γ → δ → ε → Nat) (st : ∀ (P : α → β → γ → δ → ε → Prop) (a0 : α) (a1 : β) (a2 : γ) (a3 : δ) (a4 : ε), I a0 a1 a2 a3 a4 → (∀ b0 b1 b2 b3 b4, I b0 b1 b2 b3 b4 → μ b0 b1 b2 b3 b4 < μ a0 a1 a2 a3 a4 → P b0 b1 b2 b3 b4) → F P a0 a1 a2 a3 a4) (a0 : α) (a1 : β) (a2 : γ) (a3 : δ) (a4 : ε) (h : I a0 a1 a2 a3 a4) : lf5 F a0 a1 a2 a3 a4 := by
  intro P hP
  suffices H : ∀ n a0 a1 a2 a3 a4, μ a0 a1 a2 a3 a4 ≤ n → I a0 a1 a2 a3 a4 → P a0 a1 a2 a3 a4 from H _ a0 a1 a2 a3 a4 (Nat.le_refl _) h
  intro n
  induction n with
  | zero => intro a0 a1 a2 a3 a4 hm hI; exact hP a0 a1 a2 a3 a4 (st P a0 a1 a2 a3 a4 hI (fun b0 b1 b2 b3 b4 _ hlt => absurd hlt (by omega)))
  | succ n ih => intro a0 a1 a2 a3 a4 hm hI; exact hP a0 a1 a2 a3 a4 (st P a0 a1 a2 a3 a4 hI (fun b0 b1 b2 b3 b4 hI' hlt => ih b0 b1 b2 b3 b4 (by omega) hI'))
/-- a loop that counts: J i says what holds at its head in round i -/
theorem lf5_u {α β γ δ ε : Type} {F : (α → β → γ → δ → ε → Prop) → α → β → γ → δ → ε → Prop} (n : Nat) (J : Nat → α → β → γ → δ → ε → Prop) (st : ∀ (P : α → β → γ → δ → ε → Prop) (i : Nat) (a0 : α) (a1 : β) (a2 : γ) (a3 : δ) (a4 : ε), i ≤ n → J i a0 a1 a2 a3 a4 → (∀ b0 b1 b2 b3 b4, i < n → J (i + 1) b0 b1 b2 b3 b4 → P b0 b1 b2 b3 b4) → F P a0 a1 a2 a3 a4) (a0 : α) (a1 : β) (a2 : γ) (a3 : δ) (a4 : ε) (h : J 0 a0 a1 a2 a3 a4) : lf5 F a0 a1 a2 a3 a4 := by
  intro P hP
  suffices H : ∀ j i a0 a1 a2 a3 a4, n - i = j → i ≤ n → J i a0 a1 a2 a3 a4 → P a0 a1 a2 a3 a4 from H _ 0 a0 a1 a2 a3 a4 rfl (Nat.zero_le _) h
  intro j
  induction j with
  | zero => intro i a0 a1 a2 a3 a4 hm hi hJ; exact hP a0 a1 a2 a3 a4 (st P i a0 a1 a2 a3 a4 hi hJ (fun b0 b1 b2 b3 b4 hlt _ => absurd hlt (by omega)))
  | succ j ih => intro i a0 a1 a2 a3 a4 hm hi hJ; exact hP a0 a1 a2 a3 a4 (st P i a0 a1 a2 a3 a4 hi hJ (fun b0 b1 b2 b3 b4 hlt hJ' => ih (i + 1) b0 b1 b2 b3 b4 (by omega) (by omega) hJ'))
def zI (b : Bool) : Int32 := if b then 1 else 0
theorem zI_t : zI true = 1 := rfl
theorem zI_f : zI false = 0 := rfl
theorem zI0 {b : Bool} : (zI b = 0) = (b = false) := by cases b <;> decide
theorem zI1 {b : Bool} : (zI b = 1) = (b = true) := by cases b <;> decide
theorem x_B_zI {b : Bool} : x_B (zI b) = True := eq_true (by cases b; exact Or.inl rfl; exact Or.inr rfl)
theorem x_B_0 : x_B 0 = True := eq_true (Or.inl rfl)
theorem x_B_1 : x_B 1 = True := eq_true (Or.inr rfl)
def rg (x a b : Int32) : Bool := decide (a ≤ x) && decide (x ≤ b)
theorem isIn_eq {S : xH} {x a b : Int32} {Q : Int32 → Prop} : w_X0_isIn S x a b Q = Q (zI (rg x a b)) := by
  unfold w_X0_isIn rg
  by_cases h1 : x < a
  · rw [decide_eq_false (Int32.not_le.mpr h1)]
    exact propext ⟨fun h => h.1 h1, fun h => wif_y h1 h⟩
  · by_cases h2 : b < x
    · rw [decide_eq_true (Int32.not_lt.mp h1), decide_eq_false (Int32.not_le.mpr h2)]
      exact propext ⟨fun h => (h.2 h1).1 h2, fun h => wif_n h1 (wif_y h2 h)⟩
    · rw [decide_eq_true (Int32.not_lt.mp h1), decide_eq_true (Int32.not_lt.mp h2)]
      exact propext ⟨fun h => (h.2 h1).2 h2, fun h => wif_n h1 (wif_n h2 h)⟩
theorem toI64_lt (a b : Int32) : a.toInt64 < b.toInt64 ↔ a < b := by rw [Int64.lt_iff_toInt_lt, Int32.lt_iff_toInt_lt, Int32.toInt_toInt64, Int32.toInt_toInt64]
theorem in_eq {M : xM} {x a b : Int32} {Q : Int32 → Prop} : w_X1_in M (Int32.toInt64 x) (Int32.toInt64 a) (Int32.toInt64 b) Q = Q (zI (rg x a b)) := by
  refine Eq.trans ?_ (isIn_eq (S := (fun _ => 0, fun _ => 0, fun _ _ => 0, fun _ _ => none, fun _ _ => 0, fun _ _ => none)))
  unfold w_X1_in w_X0_isIn
  rw [lg_cmp_lt, lg_cmp_gt, toI64_lt, toI64_lt]
theorem rg_t {x a b : Int32} : rg x a b = true ↔ a ≤ x ∧ x ≤ b := by
  unfold rg
  rw [Bool.and_eq_true, decide_eq_true_iff, decide_eq_true_iff]
theorem rg_f {x a b : Int32} : rg x a b = false ↔ ¬ (a ≤ x ∧ x ≤ b) := by
  rw [← rg_t]
  simp
theorem nI_m1 {n : Nat} (h : n < 2 ^ 31) : (nI n - 1).toInt = (n : Int) - 1 := by
  cases n with
  | zero => decide
  | succ n => rw [nI_pred, nI_toInt (by omega)]; omega
theorem rg_in {x : Int32} {n : Nat} (hn : n < 2 ^ 31) : rg x 0 (nI n - 1) = true ↔ vp_in x n := by
  rw [rg_t, vp_in_iff, Int32.le_iff_toInt_le, Int32.le_iff_toInt_le, nI_m1 hn]
  have : (0 : Int32).toInt = 0 := by decide
  omega
theorem rg_le {x : Int32} {n : Nat} (hn : n < 2 ^ 31) : rg x 0 (nI n) = true ↔ vp_in x (n + 1) := by
  rw [rg_t, vp_in_iff, Int32.le_iff_toInt_le, Int32.le_iff_toInt_le, nI_toInt hn]
  have : (0 : Int32).toInt = 0 := by decide
  omega
theorem vi {x N : Nat} (h : x < 2 ^ 31) : vp_in (nI x) N ↔ x < N := by
  rw [vp_in_iff, nI_toInt h]
  omega
theorem vi_c {x : Int32} {n : Nat} (h : vp_in x n) : x.toNatClampNeg < n ∧ nI x.toNatClampNeg = x := by
  have h1 : x.toNatClampNeg < n := Nat.not_le.mp fun q => h (Or.inr q)
  refine ⟨h1, ?_⟩
  obtain ⟨j, hj, e⟩ := nI_of (x := x) (fun q => h (Or.inl q))
  rw [e, nI_clamp hj]
theorem bI_c {p : Prop} [Decidable p] {A B : Prop} : wif p A B = wif (decide p = true) A B := by simp
/-- a sum -/
def sm (f : Nat → Int32) : Nat → Int32
  | 0 => 0
  | n + 1 => sm f n + f n
theorem sm_cong {f g : Nat → Int32} : ∀ {n : Nat}, (∀ i, i < n → f i = g i) → sm f n = sm g n
  | 0, _ => rfl
  | n + 1, h => by rw [sm, sm, sm_cong (fun i hi => h i (by omega)), h n (by omega)]
theorem im6 (a : Nat) : (6 : Int32) * nI a = nI (6 * a) := pk_mul 6 a
theorem im8 (a : Nat) : (8 : Int32) * nI a = nI (8 * a) := pk_mul 8 a
theorem im9 (a : Nat) : (9 : Int32) * nI a = nI (9 * a) := pk_mul 9 a
theorem im40 (a : Nat) : (40 : Int32) * nI a = nI (40 * a) := pk_mul 40 a
theorem im60 (a : Nat) : (60 : Int32) * nI a = nI (60 * a) := pk_mul 60 a
theorem im10 (a : Nat) : (10 : Int32) * nI a = nI (10 * a) := pk_mul 10 a
theorem ia2 (a : Nat) : nI a + (2 : Int32) = nI (a + 2) := nI_add a 2
theorem ia3 (a : Nat) : nI a + (3 : Int32) = nI (a + 3) := nI_add a 3
theorem ia4 (a : Nat) : nI a + (4 : Int32) = nI (a + 4) := nI_add a 4
theorem ia5 (a : Nat) : nI a + (5 : Int32) = nI (a + 5) := nI_add a 5
theorem ia6 (a : Nat) : nI a + (6 : Int32) = nI (a + 6) := nI_add a 6
theorem ia7 (a : Nat) : nI a + (7 : Int32) = nI (a + 7) := nI_add a 7
theorem ia8 (a : Nat) : nI a + (8 : Int32) = nI (a + 8) := nI_add a 8
theorem ia9 (a : Nat) : nI a + (9 : Int32) = nI (a + 9) := nI_add a 9
theorem ia10 (a : Nat) : nI a + (10 : Int32) = nI (a + 10) := nI_add a 10
theorem ja9 (a : Nat) : (9 : Int32) + nI a = nI (9 + a) := nI_add 9 a
theorem ja10 (a : Nat) : (10 : Int32) + nI a = nI (10 + a) := nI_add 10 a
theorem l64_0 : (0 : Int64) = Int32.toInt64 0 := by decide
theorem l64_1 : (1 : Int64) = Int32.toInt64 1 := by decide
theorem l64_2 : (2 : Int64) = Int32.toInt64 2 := by decide
theorem l64_3 : (3 : Int64) = Int32.toInt64 3 := by decide
theorem l64_5 : (5 : Int64) = Int32.toInt64 5 := by decide
theorem l64_7 : (7 : Int64) = Int32.toInt64 7 := by decide
theorem l64_8 : (8 : Int64) = Int32.toInt64 8 := by decide
theorem l64_9 : (9 : Int64) = Int32.toInt64 9 := by decide
theorem l64_10 : (10 : Int64) = Int32.toInt64 10 := by decide
theorem l64_19 : (19 : Int64) = Int32.toInt64 19 := by decide
theorem l64_20 : (20 : Int64) = Int32.toInt64 20 := by decide
theorem l64_23 : (23 : Int64) = Int32.toInt64 23 := by decide
theorem l64_33 : (33 : Int64) = Int32.toInt64 33 := by decide
theorem l64_40 : (40 : Int64) = Int32.toInt64 40 := by decide
theorem l64_48 : (48 : Int64) = Int32.toInt64 48 := by decide
theorem l64_50 : (50 : Int64) = Int32.toInt64 50 := by decide
theorem l64_57 : (57 : Int64) = Int32.toInt64 57 := by decide
theorem l64_60 : (60 : Int64) = Int32.toInt64 60 := by decide
theorem l64_80 : (80 : Int64) = Int32.toInt64 80 := by decide
theorem l64_99 : (99 : Int64) = Int32.toInt64 99 := by decide
theorem l64_100 : (100 : Int64) = Int32.toInt64 100 := by decide
theorem l64_126 : (126 : Int64) = Int32.toInt64 126 := by decide
theorem l64_899 : (899 : Int64) = Int32.toInt64 899 := by decide
theorem ln_0 : (0 : Int32) = nI 0 := rfl
theorem ln_1 : (1 : Int32) = nI 1 := rfl
theorem ln_2 : (2 : Int32) = nI 2 := rfl
theorem ln_3 : (3 : Int32) = nI 3 := rfl
theorem ln_5 : (5 : Int32) = nI 5 := rfl
theorem ln_7 : (7 : Int32) = nI 7 := rfl
theorem ln_8 : (8 : Int32) = nI 8 := rfl
theorem ln_9 : (9 : Int32) = nI 9 := rfl
theorem ln_10 : (10 : Int32) = nI 10 := rfl
theorem ln_19 : (19 : Int32) = nI 19 := rfl
theorem ln_20 : (20 : Int32) = nI 20 := rfl
theorem ln_23 : (23 : Int32) = nI 23 := rfl
theorem ln_33 : (33 : Int32) = nI 33 := rfl
theorem ln_40 : (40 : Int32) = nI 40 := rfl
theorem ln_48 : (48 : Int32) = nI 48 := rfl
theorem ln_50 : (50 : Int32) = nI 50 := rfl
theorem ln_57 : (57 : Int32) = nI 57 := rfl
theorem ln_60 : (60 : Int32) = nI 60 := rfl
theorem ln_80 : (80 : Int32) = nI 80 := rfl
theorem ln_99 : (99 : Int32) = nI 99 := rfl
theorem ln_100 : (100 : Int32) = nI 100 := rfl
theorem ln_126 : (126 : Int32) = nI 126 := rfl
theorem ln_899 : (899 : Int32) = nI 899 := rfl
theorem kle_0 {q : Nat} (h : q < 2 ^ 31) : (0 : Int32) ≤ nI q ↔ 0 ≤ q := nI_leI (a := 0) (by decide) h
theorem lek_0 {q : Nat} (h : q < 2 ^ 31) : nI q ≤ (0 : Int32) ↔ q ≤ 0 := nI_leI (b := 0) h (by decide)
theorem klt_0 {q : Nat} (h : q < 2 ^ 31) : (0 : Int32) < nI q ↔ 0 < q := nI_ltI (a := 0) (by decide) h
theorem ltk_0 {q : Nat} (h : q < 2 ^ 31) : nI q < (0 : Int32) ↔ q < 0 := nI_ltI (b := 0) h (by decide)
theorem eqk_0 {q : Nat} (h : q < 2 ^ 31) : nI q = (0 : Int32) ↔ q = 0 := nI_eq (b := 0) h (by decide)
theorem kle_1 {q : Nat} (h : q < 2 ^ 31) : (1 : Int32) ≤ nI q ↔ 1 ≤ q := nI_leI (a := 1) (by decide) h
theorem lek_1 {q : Nat} (h : q < 2 ^ 31) : nI q ≤ (1 : Int32) ↔ q ≤ 1 := nI_leI (b := 1) h (by decide)
theorem klt_1 {q : Nat} (h : q < 2 ^ 31) : (1 : Int32) < nI q ↔ 1 < q := nI_ltI (a := 1) (by decide) h
theorem ltk_1 {q : Nat} (h : q < 2 ^ 31) : nI q < (1 : Int32) ↔ q < 1 := nI_ltI (b := 1) h (by decide)
theorem eqk_1 {q : Nat} (h : q < 2 ^ 31) : nI q = (1 : Int32) ↔ q = 1 := nI_eq (b := 1) h (by decide)
theorem kle_2 {q : Nat} (h : q < 2 ^ 31) : (2 : Int32) ≤ nI q ↔ 2 ≤ q := nI_leI (a := 2) (by decide) h
theorem lek_2 {q : Nat} (h : q < 2 ^ 31) : nI q ≤ (2 : Int32) ↔ q ≤ 2 := nI_leI (b := 2) h (by decide)
theorem klt_2 {q : Nat} (h : q < 2 ^ 31) : (2 : Int32) < nI q ↔ 2 < q := nI_ltI (a := 2) (by decide) h
theorem ltk_2 {q : Nat} (h : q < 2 ^ 31) : nI q < (2 : Int32) ↔ q < 2 := nI_ltI (b := 2) h (by decide)
theorem eqk_2 {q : Nat} (h : q < 2 ^ 31) : nI q = (2 : Int32) ↔ q = 2 := nI_eq (b := 2) h (by decide)
theorem kle_3 {q : Nat} (h : q < 2 ^ 31) : (3 : Int32) ≤ nI q ↔ 3 ≤ q := nI_leI (a := 3) (by decide) h
theorem lek_3 {q : Nat} (h : q < 2 ^ 31) : nI q ≤ (3 : Int32) ↔ q ≤ 3 := nI_leI (b := 3) h (by decide)
theorem klt_3 {q : Nat} (h : q < 2 ^ 31) : (3 : Int32) < nI q ↔ 3 < q := nI_ltI (a := 3) (by decide) h
theorem ltk_3 {q : Nat} (h : q < 2 ^ 31) : nI q < (3 : Int32) ↔ q < 3 := nI_ltI (b := 3) h (by decide)
theorem eqk_3 {q : Nat} (h : q < 2 ^ 31) : nI q = (3 : Int32) ↔ q = 3 := nI_eq (b := 3) h (by decide)
theorem kle_5 {q : Nat} (h : q < 2 ^ 31) : (5 : Int32) ≤ nI q ↔ 5 ≤ q := nI_leI (a := 5) (by decide) h
theorem lek_5 {q : Nat} (h : q < 2 ^ 31) : nI q ≤ (5 : Int32) ↔ q ≤ 5 := nI_leI (b := 5) h (by decide)
theorem klt_5 {q : Nat} (h : q < 2 ^ 31) : (5 : Int32) < nI q ↔ 5 < q := nI_ltI (a := 5) (by decide) h
theorem ltk_5 {q : Nat} (h : q < 2 ^ 31) : nI q < (5 : Int32) ↔ q < 5 := nI_ltI (b := 5) h (by decide)
theorem eqk_5 {q : Nat} (h : q < 2 ^ 31) : nI q = (5 : Int32) ↔ q = 5 := nI_eq (b := 5) h (by decide)
theorem kle_6 {q : Nat} (h : q < 2 ^ 31) : (6 : Int32) ≤ nI q ↔ 6 ≤ q := nI_leI (a := 6) (by decide) h
theorem lek_6 {q : Nat} (h : q < 2 ^ 31) : nI q ≤ (6 : Int32) ↔ q ≤ 6 := nI_leI (b := 6) h (by decide)
theorem klt_6 {q : Nat} (h : q < 2 ^ 31) : (6 : Int32) < nI q ↔ 6 < q := nI_ltI (a := 6) (by decide) h
theorem ltk_6 {q : Nat} (h : q < 2 ^ 31) : nI q < (6 : Int32) ↔ q < 6 := nI_ltI (b := 6) h (by decide)
theorem eqk_6 {q : Nat} (h : q < 2 ^ 31) : nI q = (6 : Int32) ↔ q = 6 := nI_eq (b := 6) h (by decide)
theorem kle_7 {q : Nat} (h : q < 2 ^ 31) : (7 : Int32) ≤ nI q ↔ 7 ≤ q := nI_leI (a := 7) (by decide) h
theorem lek_7 {q : Nat} (h : q < 2 ^ 31) : nI q ≤ (7 : Int32) ↔ q ≤ 7 := nI_leI (b := 7) h (by decide)
theorem klt_7 {q : Nat} (h : q < 2 ^ 31) : (7 : Int32) < nI q ↔ 7 < q := nI_ltI (a := 7) (by decide) h
theorem ltk_7 {q : Nat} (h : q < 2 ^ 31) : nI q < (7 : Int32) ↔ q < 7 := nI_ltI (b := 7) h (by decide)
theorem eqk_7 {q : Nat} (h : q < 2 ^ 31) : nI q = (7 : Int32) ↔ q = 7 := nI_eq (b := 7) h (by decide)
theorem kle_8 {q : Nat} (h : q < 2 ^ 31) : (8 : Int32) ≤ nI q ↔ 8 ≤ q := nI_leI (a := 8) (by decide) h
theorem lek_8 {q : Nat} (h : q < 2 ^ 31) : nI q ≤ (8 : Int32) ↔ q ≤ 8 := nI_leI (b := 8) h (by decide)
theorem klt_8 {q : Nat} (h : q < 2 ^ 31) : (8 : Int32) < nI q ↔ 8 < q := nI_ltI (a := 8) (by decide) h
theorem ltk_8 {q : Nat} (h : q < 2 ^ 31) : nI q < (8 : Int32) ↔ q < 8 := nI_ltI (b := 8) h (by decide)
theorem eqk_8 {q : Nat} (h : q < 2 ^ 31) : nI q = (8 : Int32) ↔ q = 8 := nI_eq (b := 8) h (by decide)
theorem kle_9 {q : Nat} (h : q < 2 ^ 31) : (9 : Int32) ≤ nI q ↔ 9 ≤ q := nI_leI (a := 9) (by decide) h
theorem lek_9 {q : Nat} (h : q < 2 ^ 31) : nI q ≤ (9 : Int32) ↔ q ≤ 9 := nI_leI (b := 9) h (by decide)
theorem klt_9 {q : Nat} (h : q < 2 ^ 31) : (9 : Int32) < nI q ↔ 9 < q := nI_ltI (a := 9) (by decide) h
theorem ltk_9 {q : Nat} (h : q < 2 ^ 31) : nI q < (9 : Int32) ↔ q < 9 := nI_ltI (b := 9) h (by decide)
theorem eqk_9 {q : Nat} (h : q < 2 ^ 31) : nI q = (9 : Int32) ↔ q = 9 := nI_eq (b := 9) h (by decide)
theorem kle_10 {q : Nat} (h : q < 2 ^ 31) : (10 : Int32) ≤ nI q ↔ 10 ≤ q := nI_leI (a := 10) (by decide) h
theorem lek_10 {q : Nat} (h : q < 2 ^ 31) : nI q ≤ (10 : Int32) ↔ q ≤ 10 := nI_leI (b := 10) h (by decide)
theorem klt_10 {q : Nat} (h : q < 2 ^ 31) : (10 : Int32) < nI q ↔ 10 < q := nI_ltI (a := 10) (by decide) h
theorem ltk_10 {q : Nat} (h : q < 2 ^ 31) : nI q < (10 : Int32) ↔ q < 10 := nI_ltI (b := 10) h (by decide)
theorem eqk_10 {q : Nat} (h : q < 2 ^ 31) : nI q = (10 : Int32) ↔ q = 10 := nI_eq (b := 10) h (by decide)
theorem kle_14 {q : Nat} (h : q < 2 ^ 31) : (14 : Int32) ≤ nI q ↔ 14 ≤ q := nI_leI (a := 14) (by decide) h
theorem lek_14 {q : Nat} (h : q < 2 ^ 31) : nI q ≤ (14 : Int32) ↔ q ≤ 14 := nI_leI (b := 14) h (by decide)
theorem klt_14 {q : Nat} (h : q < 2 ^ 31) : (14 : Int32) < nI q ↔ 14 < q := nI_ltI (a := 14) (by decide) h
theorem ltk_14 {q : Nat} (h : q < 2 ^ 31) : nI q < (14 : Int32) ↔ q < 14 := nI_ltI (b := 14) h (by decide)
theorem eqk_14 {q : Nat} (h : q < 2 ^ 31) : nI q = (14 : Int32) ↔ q = 14 := nI_eq (b := 14) h (by decide)
theorem kle_19 {q : Nat} (h : q < 2 ^ 31) : (19 : Int32) ≤ nI q ↔ 19 ≤ q := nI_leI (a := 19) (by decide) h
theorem lek_19 {q : Nat} (h : q < 2 ^ 31) : nI q ≤ (19 : Int32) ↔ q ≤ 19 := nI_leI (b := 19) h (by decide)
theorem klt_19 {q : Nat} (h : q < 2 ^ 31) : (19 : Int32) < nI q ↔ 19 < q := nI_ltI (a := 19) (by decide) h
theorem ltk_19 {q : Nat} (h : q < 2 ^ 31) : nI q < (19 : Int32) ↔ q < 19 := nI_ltI (b := 19) h (by decide)
theorem eqk_19 {q : Nat} (h : q < 2 ^ 31) : nI q = (19 : Int32) ↔ q = 19 := nI_eq (b := 19) h (by decide)
theorem kle_20 {q : Nat} (h : q < 2 ^ 31) : (20 : Int32) ≤ nI q ↔ 20 ≤ q := nI_leI (a := 20) (by decide) h
theorem lek_20 {q : Nat} (h : q < 2 ^ 31) : nI q ≤ (20 : Int32) ↔ q ≤ 20 := nI_leI (b := 20) h (by decide)
theorem klt_20 {q : Nat} (h : q < 2 ^ 31) : (20 : Int32) < nI q ↔ 20 < q := nI_ltI (a := 20) (by decide) h
theorem ltk_20 {q : Nat} (h : q < 2 ^ 31) : nI q < (20 : Int32) ↔ q < 20 := nI_ltI (b := 20) h (by decide)
theorem eqk_20 {q : Nat} (h : q < 2 ^ 31) : nI q = (20 : Int32) ↔ q = 20 := nI_eq (b := 20) h (by decide)
theorem kle_21 {q : Nat} (h : q < 2 ^ 31) : (21 : Int32) ≤ nI q ↔ 21 ≤ q := nI_leI (a := 21) (by decide) h
theorem lek_21 {q : Nat} (h : q < 2 ^ 31) : nI q ≤ (21 : Int32) ↔ q ≤ 21 := nI_leI (b := 21) h (by decide)
theorem klt_21 {q : Nat} (h : q < 2 ^ 31) : (21 : Int32) < nI q ↔ 21 < q := nI_ltI (a := 21) (by decide) h
theorem ltk_21 {q : Nat} (h : q < 2 ^ 31) : nI q < (21 : Int32) ↔ q < 21 := nI_ltI (b := 21) h (by decide)
theorem eqk_21 {q : Nat} (h : q < 2 ^ 31) : nI q = (21 : Int32) ↔ q = 21 := nI_eq (b := 21) h (by decide)
theorem kle_22 {q : Nat} (h : q < 2 ^ 31) : (22 : Int32) ≤ nI q ↔ 22 ≤ q := nI_leI (a := 22) (by decide) h
theorem lek_22 {q : Nat} (h : q < 2 ^ 31) : nI q ≤ (22 : Int32) ↔ q ≤ 22 := nI_leI (b := 22) h (by decide)
theorem klt_22 {q : Nat} (h : q < 2 ^ 31) : (22 : Int32) < nI q ↔ 22 < q := nI_ltI (a := 22) (by decide) h
theorem ltk_22 {q : Nat} (h : q < 2 ^ 31) : nI q < (22 : Int32) ↔ q < 22 := nI_ltI (b := 22) h (by decide)
theorem eqk_22 {q : Nat} (h : q < 2 ^ 31) : nI q = (22 : Int32) ↔ q = 22 := nI_eq (b := 22) h (by decide)
theorem kle_23 {q : Nat} (h : q < 2 ^ 31) : (23 : Int32) ≤ nI q ↔ 23 ≤ q := nI_leI (a := 23) (by decide) h
theorem lek_23 {q : Nat} (h : q < 2 ^ 31) : nI q ≤ (23 : Int32) ↔ q ≤ 23 := nI_leI (b := 23) h (by decide)
theorem klt_23 {q : Nat} (h : q < 2 ^ 31) : (23 : Int32) < nI q ↔ 23 < q := nI_ltI (a := 23) (by decide) h
theorem ltk_23 {q : Nat} (h : q < 2 ^ 31) : nI q < (23 : Int32) ↔ q < 23 := nI_ltI (b := 23) h (by decide)
theorem eqk_23 {q : Nat} (h : q < 2 ^ 31) : nI q = (23 : Int32) ↔ q = 23 := nI_eq (b := 23) h (by decide)
theorem kle_24 {q : Nat} (h : q < 2 ^ 31) : (24 : Int32) ≤ nI q ↔ 24 ≤ q := nI_leI (a := 24) (by decide) h
theorem lek_24 {q : Nat} (h : q < 2 ^ 31) : nI q ≤ (24 : Int32) ↔ q ≤ 24 := nI_leI (b := 24) h (by decide)
theorem klt_24 {q : Nat} (h : q < 2 ^ 31) : (24 : Int32) < nI q ↔ 24 < q := nI_ltI (a := 24) (by decide) h
theorem ltk_24 {q : Nat} (h : q < 2 ^ 31) : nI q < (24 : Int32) ↔ q < 24 := nI_ltI (b := 24) h (by decide)
theorem eqk_24 {q : Nat} (h : q < 2 ^ 31) : nI q = (24 : Int32) ↔ q = 24 := nI_eq (b := 24) h (by decide)
theorem kle_30 {q : Nat} (h : q < 2 ^ 31) : (30 : Int32) ≤ nI q ↔ 30 ≤ q := nI_leI (a := 30) (by decide) h
theorem lek_30 {q : Nat} (h : q < 2 ^ 31) : nI q ≤ (30 : Int32) ↔ q ≤ 30 := nI_leI (b := 30) h (by decide)
theorem klt_30 {q : Nat} (h : q < 2 ^ 31) : (30 : Int32) < nI q ↔ 30 < q := nI_ltI (a := 30) (by decide) h
theorem ltk_30 {q : Nat} (h : q < 2 ^ 31) : nI q < (30 : Int32) ↔ q < 30 := nI_ltI (b := 30) h (by decide)
theorem eqk_30 {q : Nat} (h : q < 2 ^ 31) : nI q = (30 : Int32) ↔ q = 30 := nI_eq (b := 30) h (by decide)
theorem kle_33 {q : Nat} (h : q < 2 ^ 31) : (33 : Int32) ≤ nI q ↔ 33 ≤ q := nI_leI (a := 33) (by decide) h
theorem lek_33 {q : Nat} (h : q < 2 ^ 31) : nI q ≤ (33 : Int32) ↔ q ≤ 33 := nI_leI (b := 33) h (by decide)
theorem klt_33 {q : Nat} (h : q < 2 ^ 31) : (33 : Int32) < nI q ↔ 33 < q := nI_ltI (a := 33) (by decide) h
theorem ltk_33 {q : Nat} (h : q < 2 ^ 31) : nI q < (33 : Int32) ↔ q < 33 := nI_ltI (b := 33) h (by decide)
theorem eqk_33 {q : Nat} (h : q < 2 ^ 31) : nI q = (33 : Int32) ↔ q = 33 := nI_eq (b := 33) h (by decide)
theorem kle_40 {q : Nat} (h : q < 2 ^ 31) : (40 : Int32) ≤ nI q ↔ 40 ≤ q := nI_leI (a := 40) (by decide) h
theorem lek_40 {q : Nat} (h : q < 2 ^ 31) : nI q ≤ (40 : Int32) ↔ q ≤ 40 := nI_leI (b := 40) h (by decide)
theorem klt_40 {q : Nat} (h : q < 2 ^ 31) : (40 : Int32) < nI q ↔ 40 < q := nI_ltI (a := 40) (by decide) h
theorem ltk_40 {q : Nat} (h : q < 2 ^ 31) : nI q < (40 : Int32) ↔ q < 40 := nI_ltI (b := 40) h (by decide)
theorem eqk_40 {q : Nat} (h : q < 2 ^ 31) : nI q = (40 : Int32) ↔ q = 40 := nI_eq (b := 40) h (by decide)
theorem kle_48 {q : Nat} (h : q < 2 ^ 31) : (48 : Int32) ≤ nI q ↔ 48 ≤ q := nI_leI (a := 48) (by decide) h
theorem lek_48 {q : Nat} (h : q < 2 ^ 31) : nI q ≤ (48 : Int32) ↔ q ≤ 48 := nI_leI (b := 48) h (by decide)
theorem klt_48 {q : Nat} (h : q < 2 ^ 31) : (48 : Int32) < nI q ↔ 48 < q := nI_ltI (a := 48) (by decide) h
theorem ltk_48 {q : Nat} (h : q < 2 ^ 31) : nI q < (48 : Int32) ↔ q < 48 := nI_ltI (b := 48) h (by decide)
theorem eqk_48 {q : Nat} (h : q < 2 ^ 31) : nI q = (48 : Int32) ↔ q = 48 := nI_eq (b := 48) h (by decide)
theorem kle_50 {q : Nat} (h : q < 2 ^ 31) : (50 : Int32) ≤ nI q ↔ 50 ≤ q := nI_leI (a := 50) (by decide) h
theorem lek_50 {q : Nat} (h : q < 2 ^ 31) : nI q ≤ (50 : Int32) ↔ q ≤ 50 := nI_leI (b := 50) h (by decide)
theorem klt_50 {q : Nat} (h : q < 2 ^ 31) : (50 : Int32) < nI q ↔ 50 < q := nI_ltI (a := 50) (by decide) h
theorem ltk_50 {q : Nat} (h : q < 2 ^ 31) : nI q < (50 : Int32) ↔ q < 50 := nI_ltI (b := 50) h (by decide)
theorem eqk_50 {q : Nat} (h : q < 2 ^ 31) : nI q = (50 : Int32) ↔ q = 50 := nI_eq (b := 50) h (by decide)
theorem kle_57 {q : Nat} (h : q < 2 ^ 31) : (57 : Int32) ≤ nI q ↔ 57 ≤ q := nI_leI (a := 57) (by decide) h
theorem lek_57 {q : Nat} (h : q < 2 ^ 31) : nI q ≤ (57 : Int32) ↔ q ≤ 57 := nI_leI (b := 57) h (by decide)
theorem klt_57 {q : Nat} (h : q < 2 ^ 31) : (57 : Int32) < nI q ↔ 57 < q := nI_ltI (a := 57) (by decide) h
theorem ltk_57 {q : Nat} (h : q < 2 ^ 31) : nI q < (57 : Int32) ↔ q < 57 := nI_ltI (b := 57) h (by decide)
theorem eqk_57 {q : Nat} (h : q < 2 ^ 31) : nI q = (57 : Int32) ↔ q = 57 := nI_eq (b := 57) h (by decide)
theorem kle_60 {q : Nat} (h : q < 2 ^ 31) : (60 : Int32) ≤ nI q ↔ 60 ≤ q := nI_leI (a := 60) (by decide) h
theorem lek_60 {q : Nat} (h : q < 2 ^ 31) : nI q ≤ (60 : Int32) ↔ q ≤ 60 := nI_leI (b := 60) h (by decide)
theorem klt_60 {q : Nat} (h : q < 2 ^ 31) : (60 : Int32) < nI q ↔ 60 < q := nI_ltI (a := 60) (by decide) h
theorem ltk_60 {q : Nat} (h : q < 2 ^ 31) : nI q < (60 : Int32) ↔ q < 60 := nI_ltI (b := 60) h (by decide)
theorem eqk_60 {q : Nat} (h : q < 2 ^ 31) : nI q = (60 : Int32) ↔ q = 60 := nI_eq (b := 60) h (by decide)
theorem kle_61 {q : Nat} (h : q < 2 ^ 31) : (61 : Int32) ≤ nI q ↔ 61 ≤ q := nI_leI (a := 61) (by decide) h
theorem lek_61 {q : Nat} (h : q < 2 ^ 31) : nI q ≤ (61 : Int32) ↔ q ≤ 61 := nI_leI (b := 61) h (by decide)
theorem klt_61 {q : Nat} (h : q < 2 ^ 31) : (61 : Int32) < nI q ↔ 61 < q := nI_ltI (a := 61) (by decide) h
theorem ltk_61 {q : Nat} (h : q < 2 ^ 31) : nI q < (61 : Int32) ↔ q < 61 := nI_ltI (b := 61) h (by decide)
theorem eqk_61 {q : Nat} (h : q < 2 ^ 31) : nI q = (61 : Int32) ↔ q = 61 := nI_eq (b := 61) h (by decide)
theorem kle_64 {q : Nat} (h : q < 2 ^ 31) : (64 : Int32) ≤ nI q ↔ 64 ≤ q := nI_leI (a := 64) (by decide) h
theorem lek_64 {q : Nat} (h : q < 2 ^ 31) : nI q ≤ (64 : Int32) ↔ q ≤ 64 := nI_leI (b := 64) h (by decide)
theorem klt_64 {q : Nat} (h : q < 2 ^ 31) : (64 : Int32) < nI q ↔ 64 < q := nI_ltI (a := 64) (by decide) h
theorem ltk_64 {q : Nat} (h : q < 2 ^ 31) : nI q < (64 : Int32) ↔ q < 64 := nI_ltI (b := 64) h (by decide)
theorem eqk_64 {q : Nat} (h : q < 2 ^ 31) : nI q = (64 : Int32) ↔ q = 64 := nI_eq (b := 64) h (by decide)
theorem kle_80 {q : Nat} (h : q < 2 ^ 31) : (80 : Int32) ≤ nI q ↔ 80 ≤ q := nI_leI (a := 80) (by decide) h
theorem lek_80 {q : Nat} (h : q < 2 ^ 31) : nI q ≤ (80 : Int32) ↔ q ≤ 80 := nI_leI (b := 80) h (by decide)
theorem klt_80 {q : Nat} (h : q < 2 ^ 31) : (80 : Int32) < nI q ↔ 80 < q := nI_ltI (a := 80) (by decide) h
theorem ltk_80 {q : Nat} (h : q < 2 ^ 31) : nI q < (80 : Int32) ↔ q < 80 := nI_ltI (b := 80) h (by decide)
theorem eqk_80 {q : Nat} (h : q < 2 ^ 31) : nI q = (80 : Int32) ↔ q = 80 := nI_eq (b := 80) h (by decide)
theorem kle_99 {q : Nat} (h : q < 2 ^ 31) : (99 : Int32) ≤ nI q ↔ 99 ≤ q := nI_leI (a := 99) (by decide) h
theorem lek_99 {q : Nat} (h : q < 2 ^ 31) : nI q ≤ (99 : Int32) ↔ q ≤ 99 := nI_leI (b := 99) h (by decide)
theorem klt_99 {q : Nat} (h : q < 2 ^ 31) : (99 : Int32) < nI q ↔ 99 < q := nI_ltI (a := 99) (by decide) h
theorem ltk_99 {q : Nat} (h : q < 2 ^ 31) : nI q < (99 : Int32) ↔ q < 99 := nI_ltI (b := 99) h (by decide)
theorem eqk_99 {q : Nat} (h : q < 2 ^ 31) : nI q = (99 : Int32) ↔ q = 99 := nI_eq (b := 99) h (by decide)
theorem kle_100 {q : Nat} (h : q < 2 ^ 31) : (100 : Int32) ≤ nI q ↔ 100 ≤ q := nI_leI (a := 100) (by decide) h
theorem lek_100 {q : Nat} (h : q < 2 ^ 31) : nI q ≤ (100 : Int32) ↔ q ≤ 100 := nI_leI (b := 100) h (by decide)
theorem klt_100 {q : Nat} (h : q < 2 ^ 31) : (100 : Int32) < nI q ↔ 100 < q := nI_ltI (a := 100) (by decide) h
theorem ltk_100 {q : Nat} (h : q < 2 ^ 31) : nI q < (100 : Int32) ↔ q < 100 := nI_ltI (b := 100) h (by decide)
theorem eqk_100 {q : Nat} (h : q < 2 ^ 31) : nI q = (100 : Int32) ↔ q = 100 := nI_eq (b := 100) h (by decide)
theorem kle_126 {q : Nat} (h : q < 2 ^ 31) : (126 : Int32) ≤ nI q ↔ 126 ≤ q := nI_leI (a := 126) (by decide) h
theorem lek_126 {q : Nat} (h : q < 2 ^ 31) : nI q ≤ (126 : Int32) ↔ q ≤ 126 := nI_leI (b := 126) h (by decide)
theorem klt_126 {q : Nat} (h : q < 2 ^ 31) : (126 : Int32) < nI q ↔ 126 < q := nI_ltI (a := 126) (by decide) h
theorem ltk_126 {q : Nat} (h : q < 2 ^ 31) : nI q < (126 : Int32) ↔ q < 126 := nI_ltI (b := 126) h (by decide)
theorem eqk_126 {q : Nat} (h : q < 2 ^ 31) : nI q = (126 : Int32) ↔ q = 126 := nI_eq (b := 126) h (by decide)
theorem kle_899 {q : Nat} (h : q < 2 ^ 31) : (899 : Int32) ≤ nI q ↔ 899 ≤ q := nI_leI (a := 899) (by decide) h
theorem lek_899 {q : Nat} (h : q < 2 ^ 31) : nI q ≤ (899 : Int32) ↔ q ≤ 899 := nI_leI (b := 899) h (by decide)
theorem klt_899 {q : Nat} (h : q < 2 ^ 31) : (899 : Int32) < nI q ↔ 899 < q := nI_ltI (a := 899) (by decide) h
theorem ltk_899 {q : Nat} (h : q < 2 ^ 31) : nI q < (899 : Int32) ↔ q < 899 := nI_ltI (b := 899) h (by decide)
theorem eqk_899 {q : Nat} (h : q < 2 ^ 31) : nI q = (899 : Int32) ↔ q = 899 := nI_eq (b := 899) h (by decide)
theorem xT_sI (S : xH) (f a : Nat) (x : Int32) : xT (sI S f a x) = xT S := Eq.trans rfl rfl
theorem xL_sI (S : xH) (f a : Nat) (x : Int32) : xL (sI S f a x) = xL S := Eq.trans rfl rfl
theorem xR_sI (S : xH) (f a : Nat) (x : Int32) : xR (sI S f a x) = xR S := Eq.trans rfl rfl
theorem xA_sI (S : xH) (f a : Nat) (x : Int32) : xA (sI S f a x) = xA S := Eq.trans rfl rfl
theorem xQ_sI (S : xH) (f a : Nat) (x : Int32) : xQ (sI S f a x) = xQ S := Eq.trans rfl rfl
theorem xT_sR (S : xH) (f a : Nat) (x : Option Nat) : xT (sR S f a x) = xT S := Eq.trans rfl rfl
theorem xL_sR (S : xH) (f a : Nat) (x : Option Nat) : xL (sR S f a x) = xL S := Eq.trans rfl rfl
theorem xI_sR (S : xH) (f a : Nat) (x : Option Nat) : xI (sR S f a x) = xI S := Eq.trans rfl rfl
theorem xA_sR (S : xH) (f a : Nat) (x : Option Nat) : xA (sR S f a x) = xA S := Eq.trans rfl rfl
theorem xQ_sR (S : xH) (f a : Nat) (x : Option Nat) : xQ (sR S f a x) = xQ S := Eq.trans rfl rfl
theorem xT_sA (S : xH) (a i : Nat) (x : Int32) : xT (sA S a i x) = xT S := Eq.trans rfl rfl
theorem xL_sA (S : xH) (a i : Nat) (x : Int32) : xL (sA S a i x) = xL S := Eq.trans rfl rfl
theorem xI_sA (S : xH) (a i : Nat) (x : Int32) : xI (sA S a i x) = xI S := Eq.trans rfl rfl
theorem xR_sA (S : xH) (a i : Nat) (x : Int32) : xR (sA S a i x) = xR S := Eq.trans rfl rfl
theorem xQ_sA (S : xH) (a i : Nat) (x : Int32) : xQ (sA S a i x) = xQ S := Eq.trans rfl rfl
theorem xT_sQ (S : xH) (a i : Nat) (x : Option Nat) : xT (sQ S a i x) = xT S := Eq.trans rfl rfl
theorem xL_sQ (S : xH) (a i : Nat) (x : Option Nat) : xL (sQ S a i x) = xL S := Eq.trans rfl rfl
theorem xI_sQ (S : xH) (a i : Nat) (x : Option Nat) : xI (sQ S a i x) = xI S := Eq.trans rfl rfl
theorem xR_sQ (S : xH) (a i : Nat) (x : Option Nat) : xR (sQ S a i x) = xR S := Eq.trans rfl rfl
theorem xA_sQ (S : xH) (a i : Nat) (x : Option Nat) : xA (sQ S a i x) = xA S := Eq.trans rfl rfl
theorem xT_sB (S : xH) (a : Nat) (x : Nat → Int32) : xT (sB S a x) = xT S := Eq.trans rfl rfl
theorem xL_sB (S : xH) (a : Nat) (x : Nat → Int32) : xL (sB S a x) = xL S := Eq.trans rfl rfl
theorem xI_sB (S : xH) (a : Nat) (x : Nat → Int32) : xI (sB S a x) = xI S := Eq.trans rfl rfl
theorem xR_sB (S : xH) (a : Nat) (x : Nat → Int32) : xR (sB S a x) = xR S := Eq.trans rfl rfl
theorem xQ_sB (S : xH) (a : Nat) (x : Nat → Int32) : xQ (sB S a x) = xQ S := Eq.trans rfl rfl
theorem xI_at (S : xH) (f a : Nat) (x : Int32) : xI (sI S f a x) f a = x := by simp [sI, xI, x_u2]
theorem xR_at (S : xH) (f a : Nat) (x : Option Nat) : xR (sR S f a x) f a = x := by simp [sR, xR, x_u2]
theorem xA_at (S : xH) (a i : Nat) (x : Int32) : xA (sA S a i x) a i = x := by simp [sA, xA, x_u2]
theorem xQ_at (S : xH) (a i : Nat) (x : Option Nat) : xQ (sQ S a i x) a i = x := by simp [sQ, xQ, x_u2]
theorem m2_at {M : xM} {k i : Nat} {v : Int32} : M2 (m2 M k i v) k i = v := by simp [m2, M2, x_u2]
theorem m2_ne {M : xM} {k i j : Nat} {v : Int32} (h : ¬ j = i) : M2 (m2 M k i v) k j = M2 M k j := by show (if k = k ∧ j = i then v else M.2 k j) = M.2 k j; rw [if_neg (fun q => h q.2)]
theorem m2_nk {M : xM} {k k' i j : Nat} {v : Int32} (h : ¬ k' = k) : M2 (m2 M k i v) k' j = M2 M k' j := by show (if k' = k ∧ j = i then v else M.2 k' j) = M.2 k' j; rw [if_neg (fun q => h q.1)]
def pre (a : Nat) (f : Nat → Nat) (j : Nat) : Nat := if j = 0 then a else f (j - 1)
theorem pre_0 {a : Nat} {f : Nat → Nat} : pre a f 0 = a := rfl
theorem pre_s {a j : Nat} {f : Nat → Nat} : pre a f (j + 1) = f j := rfl
theorem pre_n {a j : Nat} {f : Nat → Nat} (h : ¬ j = 0) : pre a f j = f (j - 1) := if_neg h
theorem xI_nf (S : xH) {f a g b : Nat} (x : Int32) (h : g ≠ f) : xI (sI S f a x) g b = xI S g b := by simp [sI, xI, x_u2, h]
theorem xR_nf (S : xH) {f a g b : Nat} (x : Option Nat) (h : g ≠ f) : xR (sR S f a x) g b = xR S g b := by simp [sR, xR, x_u2, h]
theorem xA_na (S : xH) {a i b : Nat} (x : Int32) (h : b ≠ a) : xA (sA S a i x) b = xA S b := by funext j; simp [sA, xA, x_u2, h]
theorem xA_ni (S : xH) {a i j : Nat} (x : Int32) (h : j ≠ i) : xA (sA S a i x) a j = xA S a j := by simp [sA, xA, x_u2, h]
/-! ghost: addresses by kind and number, roles of addresses, counts -/
abbrev xG : Type := (Nat → Nat → Nat) × (Nat → Nat) × (Nat → Nat)
def gA (G : xG) : Nat → Nat → Nat := G.1
def gR (G : xG) : Nat → Nat := G.2.1
def gN (G : xG) : Nat → Nat := G.2.2
/-- the last taking of man m among the first n -/
def tkL (F : Nat → Int32) (m : Nat) : Nat → Option Nat
  | 0 => none
  | n + 1 => if F (6 * n + 1) = nI m then some n else tkL F m n
/-- a place that is one -/
def pv (G : xG) (p : Int32) : Prop := vp_in p (gN G 1) ∨ (∃ s, s < gN G 9 ∧ p = nI (10 + s)) ∨ (∃ j, j < 4 ∧ p = nI (20 + j))
/-- what became of man m: his stays f 0 (the last) .. f n (the first) -/
def iH (G : xG) (S : xH) (M : xM) (m : Nat) : Prop := ∃ (n : Nat) (f : Nat → Nat), xR S 152 (gA G 2 m) = some (f 0) ∧ (∀ j, j ≤ n → xT S (f j) = 4) ∧ (∀ j, j < n → xR S 202 (f j) = some (f (j + 1)) ∧ 0 ≤ xI S 200 (f j)) ∧ xI S 200 (f n) = -1 ∧ (∀ j, j ≤ n → xI S 200 (f j) ≤ nI (gN G 4)) ∧ (∀ t, t ≤ gN G 4 → ∀ j, j ≤ n → (∀ i, i < j → nI t < xI S 200 (f i)) → xI S 200 (f j) ≤ nI t → M2 M 8 (40 * t + m) = xI S 201 (f j)) ∧ (xI S 201 (f 0) = 21 → xI S 200 (f 0) = M2 M 7 m) ∧ vp_in (xI S 201 (f n)) 8
def iO (G : xG) (S : xH) (o : Nat) (M : xM) : Prop := (xT S o = 1) ∧ (xI S 50 o = nI (gN G 1)) ∧ (xI S 53 o = nI (gN G 5)) ∧ (xI S 54 o = nI (gN G 4)) ∧ (xI S 58 o = nI (gN G 15)) ∧ (xI S 60 o = nI (gN G 17)) ∧ (xI S 62 o = nI (gN G 22)) ∧ (xI S 63 o = nI (gN G 24)) ∧ (xI S 65 o = nI (gN G 9)) ∧ (xI S 67 o = nI (gN G 31)) ∧ (xI S 55 o = M1 M 25) ∧ (xI S 56 o = M1 M 26) ∧ (M1 M 1 = nI (gN G 1)) ∧ (M1 M 5 = nI (gN G 5)) ∧ (M1 M 4 = nI (gN G 4)) ∧ (M1 M 15 = nI (gN G 15)) ∧ (M1 M 17 = nI (gN G 17)) ∧ (M1 M 22 = nI (gN G 22)) ∧ (M1 M 24 = nI (gN G 24)) ∧ (M1 M 9 = nI (gN G 9)) ∧ (M1 M 31 = nI (gN G 31)) ∧ (1 ≤ gN G 1) ∧ (gN G 1 ≤ 8) ∧ (gN G 5 ≤ 40) ∧ (gN G 4 ≤ 899) ∧ (gN G 9 ≤ 10) ∧ (gN G 15 ≤ 60) ∧ (gN G 17 ≤ 8) ∧ (gN G 22 ≤ 60) ∧ (gN G 24 ≤ gN G 22) ∧ (gN G 31 ≤ 40)
def iR (G : xG) (S : xH) (o : Nat) (M : xM) : Prop := (xR S 51 o = some (gA G 0 51)) ∧ (xR S 52 o = some (gA G 0 52)) ∧ (xR S 57 o = some (gA G 0 57)) ∧ (xR S 59 o = some (gA G 0 59)) ∧ (xR S 61 o = some (gA G 0 61)) ∧ (xR S 64 o = some (gA G 0 64)) ∧ (xR S 66 o = some (gA G 0 66)) ∧ (xR S 68 o = some (gA G 0 68)) ∧ (xT S (gA G 0 51) = 109) ∧ (xT S (gA G 0 52) = 103) ∧ (xT S (gA G 0 57) = 104) ∧ (xT S (gA G 0 59) = 105) ∧ (xT S (gA G 0 61) = 106) ∧ (xT S (gA G 0 64) = 107) ∧ (xT S (gA G 0 66) = 108) ∧ (xT S (gA G 0 68) = 101) ∧ (xL S (gA G 0 51) = 8) ∧ (xL S (gA G 0 52) = 40) ∧ (xL S (gA G 0 57) = 60) ∧ (xL S (gA G 0 59) = 8) ∧ (xL S (gA G 0 61) = 60) ∧ (xL S (gA G 0 64) = 10) ∧ (xL S (gA G 0 66) = 40) ∧ (xL S (gA G 0 68) = 10)
def iW (G : xG) (S : xH) (o : Nat) (M : xM) : Prop := ∀ i, i < 8 → (xQ S (gA G 0 51) i = some (gA G 1 i)) ∧ (xT S (gA G 1 i) = 102) ∧ (xL S (gA G 1 i) = 8) ∧ (gR G (gA G 1 i) = i) ∧ (∀ j, j < 8 → xA S (gA G 1 i) j = M2 M 2 (8 * i + j)) ∧ (∀ j, j < 8 → x_B (M2 M 2 (8 * i + j))) ∧ (∀ j, j < 8 → M2 M 2 (8 * i + j) = M2 M 2 (8 * j + i)) ∧ (∀ j, j < 8 → M2 M 2 (8 * i + j) ≠ 0 → i < gN G 1 ∧ j < gN G 1)
def iM (G : xG) (S : xH) (o : Nat) (M : xM) : Prop := ∀ m, m < gN G 5 → (xQ S (gA G 0 52) m = some (gA G 2 m)) ∧ (xT S (gA G 2 m) = 3) ∧ (gR G (gA G 2 m) = m) ∧ (xR S 150 (gA G 2 m) = some (gA G 3 m)) ∧ (xT S (gA G 3 m) = 101) ∧ (xL S (gA G 3 m) = 7) ∧ (gR G (gA G 3 m) = 0) ∧ (∀ j, j < 7 → xA S (gA G 3 m) j = M2 M 6 (8 * m + j)) ∧ (∀ j, j < 7 → vp_in (M2 M 6 (8 * m + j)) 101) ∧ (vp_in (M2 M 6 (8 * m + 6)) (gN G 1)) ∧ (xI S 151 (gA G 2 m) = M2 M 6 (8 * m + 7)) ∧ (x_B (M2 M 6 (8 * m + 7))) ∧ (xI S 154 (gA G 2 m) = M2 M 38 m) ∧ (xR S 153 (gA G 2 m) = (tkL (M2 M 23) m (gN G 22)).map (gA G 8)) ∧ (iH G S M m) ∧ (∀ t, t ≤ gN G 4 → pv G (M2 M 8 (40 * t + m)))
def iP (G : xG) (S : xH) (o : Nat) (M : xM) : Prop := ∀ p, p < gN G 15 → (xQ S (gA G 0 57) p = some (gA G 4 p)) ∧ (xT S (gA G 4 p) = 5) ∧ (xR S 250 (gA G 4 p) = some (gA G 2 (M2 M 16 (9 * p)).toNatClampNeg)) ∧ (vp_in (M2 M 16 (9 * p)) (gN G 5)) ∧ (xI S 251 (gA G 4 p) = M2 M 16 (9 * p + 1)) ∧ (xI S 252 (gA G 4 p) = M2 M 16 (9 * p + 2)) ∧ (xR S 253 (gA G 4 p) = some (gA G 5 p)) ∧ (xT S (gA G 5 p) = 101) ∧ (xL S (gA G 5 p) = 6) ∧ (gR G (gA G 5 p) = 1) ∧ (∀ j, j < 6 → xA S (gA G 5 p) j = M2 M 16 (9 * p + 3 + j))
def iA (G : xG) (S : xH) (o : Nat) (M : xM) : Prop := ∀ a, a < gN G 17 → (xQ S (gA G 0 59) a = some (gA G 6 a)) ∧ (xT S (gA G 6 a) = 6) ∧ (gR G (gA G 6 a) = a) ∧ (xI S 300 (gA G 6 a) = M2 M 18 a) ∧ (xR S 301 (gA G 6 a) = some (gA G 7 a)) ∧ (xT S (gA G 7 a) = 101) ∧ (xL S (gA G 7 a) = 60) ∧ (gR G (gA G 7 a) = 10 + a) ∧ (xI S 302 (gA G 6 a) = M2 M 19 a) ∧ (vp_in (M2 M 19 a) 61) ∧ (∀ j, j < (M2 M 19 a).toNatClampNeg → xA S (gA G 7 a) j = M2 M 20 (60 * a + j))
def iK (G : xG) (S : xH) (o : Nat) (M : xM) : Prop := ∀ k, k < gN G 22 → (xQ S (gA G 0 61) k = some (gA G 8 k)) ∧ (xT S (gA G 8 k) = 17) ∧ (xI S 850 (gA G 8 k) = M2 M 23 (6 * k)) ∧ (xI S 851 (gA G 8 k) = M2 M 23 (6 * k + 1)) ∧ (xI S 852 (gA G 8 k) = M2 M 23 (6 * k + 2)) ∧ (xI S 853 (gA G 8 k) = M2 M 23 (6 * k + 3)) ∧ (xI S 854 (gA G 8 k) = M2 M 23 (6 * k + 4)) ∧ (xI S 855 (gA G 8 k) = M2 M 23 (6 * k + 5)) ∧ (vp_in (M2 M 23 (6 * k)) 900) ∧ (vp_in (M2 M 23 (6 * k + 1)) (gN G 5)) ∧ (vp_in (M2 M 23 (6 * k + 3)) 8 ∨ 10 ≤ M2 M 23 (6 * k + 3)) ∧ (x_B (M2 M 23 (6 * k + 4))) ∧ (x_B (M2 M 23 (6 * k + 5)))
def iS (G : xG) (S : xH) (o : Nat) (M : xM) : Prop := ∀ s, s < gN G 9 → (xQ S (gA G 0 64) s = some (gA G 9 s)) ∧ (xT S (gA G 9 s) = 19) ∧ (gR G (gA G 9 s) = s) ∧ (xI S 950 (gA G 9 s) = M2 M 10 s) ∧ (xI S 951 (gA G 9 s) = M2 M 11 s) ∧ (xI S 952 (gA G 9 s) = M2 M 12 s) ∧ (xI S 953 (gA G 9 s) = M2 M 13 s) ∧ (xI S 954 (gA G 9 s) = zI (decide (M2 M 14 s = 0))) ∧ (x_B (M2 M 10 s)) ∧ (x_B (M2 M 14 s))
def iT (G : xG) (S : xH) (o : Nat) (M : xM) : Prop := ∀ t, t < gN G 31 → (xQ S (gA G 0 66) t = some (gA G 10 t)) ∧ (xT S (gA G 10 t) = 20) ∧ (gR G (gA G 10 t) = t) ∧ (xR S 1000 (gA G 10 t) = some (gA G 2 (M2 M 32 t).toNatClampNeg)) ∧ (vp_in (M2 M 32 t) (gN G 5)) ∧ (xI S 1001 (gA G 10 t) = M2 M 33 t) ∧ (xI S 1002 (gA G 10 t) = M2 M 34 t) ∧ (xI S 1003 (gA G 10 t) = M2 M 35 t) ∧ (xI S 1004 (gA G 10 t) = M2 M 36 t) ∧ (xR S 1005 (gA G 10 t) = some o) ∧ (M2 M 34 t = -9 ∨ vp_in (M2 M 34 t) 10) ∧ (x_B (M2 M 35 t))
def iU (G : xG) (S : xH) (o : Nat) (M : xM) : Prop := (∀ j, j < 10 → xA S (gA G 0 68) j = M2 M 37 j) ∧ (gR G (gA G 0 68) = 2)
def iZ (G : xG) (S : xH) (o : Nat) (M : xM) : Prop := (∀ s, s < 10 → vp_in (M2 M 13 s) 21) ∧ (∀ m, gN G 5 ≤ m → m < 40 → M2 M 38 m = 0) ∧ (∀ s, gN G 9 ≤ s → s < 10 → M2 M 14 s = 0) ∧ (∀ a, gN G 17 ≤ a → a < 8 → M2 M 19 a = 0) ∧ (∀ t, gN G 31 ≤ t → t < 40 → M2 M 35 t = 0 ∧ M2 M 36 t = 0)
def Inv (G : xG) (S : xH) (o : Nat) (M : xM) : Prop := iO G S o M ∧ iR G S o M ∧ iW G S o M ∧ iM G S o M ∧ iP G S o M ∧ iA G S o M ∧ iK G S o M ∧ iS G S o M ∧ iT G S o M ∧ iU G S o M ∧ iZ G S o M
theorem Inv.iO {G : xG} {S : xH} {o : Nat} {M : xM} (h : Inv G S o M) : iO G S o M := h.1
theorem Inv.O_t {G : xG} {S : xH} {o : Nat} {M : xM} (h : Inv G S o M) : xT S o = 1 := h.iO.1
theorem Inv.O_c50 {G : xG} {S : xH} {o : Nat} {M : xM} (h : Inv G S o M) : xI S 50 o = nI (gN G 1) := h.iO.2.1
theorem Inv.O_c53 {G : xG} {S : xH} {o : Nat} {M : xM} (h : Inv G S o M) : xI S 53 o = nI (gN G 5) := h.iO.2.2.1
theorem Inv.O_c54 {G : xG} {S : xH} {o : Nat} {M : xM} (h : Inv G S o M) : xI S 54 o = nI (gN G 4) := h.iO.2.2.2.1
theorem Inv.O_c58 {G : xG} {S : xH} {o : Nat} {M : xM} (h : Inv G S o M) : xI S 58 o = nI (gN G 15) := h.iO.2.2.2.2.1
theorem Inv.O_c60 {G : xG} {S : xH} {o : Nat} {M : xM} (h : Inv G S o M) : xI S 60 o = nI (gN G 17) := h.iO.2.2.2.2.2.1
theorem Inv.O_c62 {G : xG} {S : xH} {o : Nat} {M : xM} (h : Inv G S o M) : xI S 62 o = nI (gN G 22) := h.iO.2.2.2.2.2.2.1
theorem Inv.O_c63 {G : xG} {S : xH} {o : Nat} {M : xM} (h : Inv G S o M) : xI S 63 o = nI (gN G 24) := h.iO.2.2.2.2.2.2.2.1
theorem Inv.O_c65 {G : xG} {S : xH} {o : Nat} {M : xM} (h : Inv G S o M) : xI S 65 o = nI (gN G 9) := h.iO.2.2.2.2.2.2.2.2.1
theorem Inv.O_c67 {G : xG} {S : xH} {o : Nat} {M : xM} (h : Inv G S o M) : xI S 67 o = nI (gN G 31) := h.iO.2.2.2.2.2.2.2.2.2.1
theorem Inv.O_c55 {G : xG} {S : xH} {o : Nat} {M : xM} (h : Inv G S o M) : xI S 55 o = M1 M 25 := h.iO.2.2.2.2.2.2.2.2.2.2.1
theorem Inv.O_c56 {G : xG} {S : xH} {o : Nat} {M : xM} (h : Inv G S o M) : xI S 56 o = M1 M 26 := h.iO.2.2.2.2.2.2.2.2.2.2.2.1
theorem Inv.O_d1 {G : xG} {S : xH} {o : Nat} {M : xM} (h : Inv G S o M) : M1 M 1 = nI (gN G 1) := h.iO.2.2.2.2.2.2.2.2.2.2.2.2.1
theorem Inv.O_d5 {G : xG} {S : xH} {o : Nat} {M : xM} (h : Inv G S o M) : M1 M 5 = nI (gN G 5) := h.iO.2.2.2.2.2.2.2.2.2.2.2.2.2.1
theorem Inv.O_d4 {G : xG} {S : xH} {o : Nat} {M : xM} (h : Inv G S o M) : M1 M 4 = nI (gN G 4) := h.iO.2.2.2.2.2.2.2.2.2.2.2.2.2.2.1
theorem Inv.O_d15 {G : xG} {S : xH} {o : Nat} {M : xM} (h : Inv G S o M) : M1 M 15 = nI (gN G 15) := h.iO.2.2.2.2.2.2.2.2.2.2.2.2.2.2.2.1
theorem Inv.O_d17 {G : xG} {S : xH} {o : Nat} {M : xM} (h : Inv G S o M) : M1 M 17 = nI (gN G 17) := h.iO.2.2.2.2.2.2.2.2.2.2.2.2.2.2.2.2.1
theorem Inv.O_d22 {G : xG} {S : xH} {o : Nat} {M : xM} (h : Inv G S o M) : M1 M 22 = nI (gN G 22) := h.iO.2.2.2.2.2.2.2.2.2.2.2.2.2.2.2.2.2.1
theorem Inv.O_d24 {G : xG} {S : xH} {o : Nat} {M : xM} (h : Inv G S o M) : M1 M 24 = nI (gN G 24) := h.iO.2.2.2.2.2.2.2.2.2.2.2.2.2.2.2.2.2.2.1
theorem Inv.O_d9 {G : xG} {S : xH} {o : Nat} {M : xM} (h : Inv G S o M) : M1 M 9 = nI (gN G 9) := h.iO.2.2.2.2.2.2.2.2.2.2.2.2.2.2.2.2.2.2.2.1
theorem Inv.O_d31 {G : xG} {S : xH} {o : Nat} {M : xM} (h : Inv G S o M) : M1 M 31 = nI (gN G 31) := h.iO.2.2.2.2.2.2.2.2.2.2.2.2.2.2.2.2.2.2.2.2.1
theorem Inv.O_n0 {G : xG} {S : xH} {o : Nat} {M : xM} (h : Inv G S o M) : 1 ≤ gN G 1 := h.iO.2.2.2.2.2.2.2.2.2.2.2.2.2.2.2.2.2.2.2.2.2.1
theorem Inv.O_n1 {G : xG} {S : xH} {o : Nat} {M : xM} (h : Inv G S o M) : gN G 1 ≤ 8 := h.iO.2.2.2.2.2.2.2.2.2.2.2.2.2.2.2.2.2.2.2.2.2.2.1
theorem Inv.O_n5 {G : xG} {S : xH} {o : Nat} {M : xM} (h : Inv G S o M) : gN G 5 ≤ 40 := h.iO.2.2.2.2.2.2.2.2.2.2.2.2.2.2.2.2.2.2.2.2.2.2.2.1
theorem Inv.O_n4 {G : xG} {S : xH} {o : Nat} {M : xM} (h : Inv G S o M) : gN G 4 ≤ 899 := h.iO.2.2.2.2.2.2.2.2.2.2.2.2.2.2.2.2.2.2.2.2.2.2.2.2.1
theorem Inv.O_n9 {G : xG} {S : xH} {o : Nat} {M : xM} (h : Inv G S o M) : gN G 9 ≤ 10 := h.iO.2.2.2.2.2.2.2.2.2.2.2.2.2.2.2.2.2.2.2.2.2.2.2.2.2.1
theorem Inv.O_n15 {G : xG} {S : xH} {o : Nat} {M : xM} (h : Inv G S o M) : gN G 15 ≤ 60 := h.iO.2.2.2.2.2.2.2.2.2.2.2.2.2.2.2.2.2.2.2.2.2.2.2.2.2.2.1
theorem Inv.O_n17 {G : xG} {S : xH} {o : Nat} {M : xM} (h : Inv G S o M) : gN G 17 ≤ 8 := h.iO.2.2.2.2.2.2.2.2.2.2.2.2.2.2.2.2.2.2.2.2.2.2.2.2.2.2.2.1
theorem Inv.O_n22 {G : xG} {S : xH} {o : Nat} {M : xM} (h : Inv G S o M) : gN G 22 ≤ 60 := h.iO.2.2.2.2.2.2.2.2.2.2.2.2.2.2.2.2.2.2.2.2.2.2.2.2.2.2.2.2.1
theorem Inv.O_n24 {G : xG} {S : xH} {o : Nat} {M : xM} (h : Inv G S o M) : gN G 24 ≤ gN G 22 := h.iO.2.2.2.2.2.2.2.2.2.2.2.2.2.2.2.2.2.2.2.2.2.2.2.2.2.2.2.2.2.1
theorem Inv.O_n31 {G : xG} {S : xH} {o : Nat} {M : xM} (h : Inv G S o M) : gN G 31 ≤ 40 := h.iO.2.2.2.2.2.2.2.2.2.2.2.2.2.2.2.2.2.2.2.2.2.2.2.2.2.2.2.2.2.2
theorem Inv.iR {G : xG} {S : xH} {o : Nat} {M : xM} (h : Inv G S o M) : iR G S o M := h.2.1
theorem Inv.R_r51 {G : xG} {S : xH} {o : Nat} {M : xM} (h : Inv G S o M) : xR S 51 o = some (gA G 0 51) := h.iR.1
theorem Inv.R_r52 {G : xG} {S : xH} {o : Nat} {M : xM} (h : Inv G S o M) : xR S 52 o = some (gA G 0 52) := h.iR.2.1
theorem Inv.R_r57 {G : xG} {S : xH} {o : Nat} {M : xM} (h : Inv G S o M) : xR S 57 o = some (gA G 0 57) := h.iR.2.2.1
theorem Inv.R_r59 {G : xG} {S : xH} {o : Nat} {M : xM} (h : Inv G S o M) : xR S 59 o = some (gA G 0 59) := h.iR.2.2.2.1
theorem Inv.R_r61 {G : xG} {S : xH} {o : Nat} {M : xM} (h : Inv G S o M) : xR S 61 o = some (gA G 0 61) := h.iR.2.2.2.2.1
theorem Inv.R_r64 {G : xG} {S : xH} {o : Nat} {M : xM} (h : Inv G S o M) : xR S 64 o = some (gA G 0 64) := h.iR.2.2.2.2.2.1
theorem Inv.R_r66 {G : xG} {S : xH} {o : Nat} {M : xM} (h : Inv G S o M) : xR S 66 o = some (gA G 0 66) := h.iR.2.2.2.2.2.2.1
theorem Inv.R_r68 {G : xG} {S : xH} {o : Nat} {M : xM} (h : Inv G S o M) : xR S 68 o = some (gA G 0 68) := h.iR.2.2.2.2.2.2.2.1
theorem Inv.R_t51 {G : xG} {S : xH} {o : Nat} {M : xM} (h : Inv G S o M) : xT S (gA G 0 51) = 109 := h.iR.2.2.2.2.2.2.2.2.1
theorem Inv.R_t52 {G : xG} {S : xH} {o : Nat} {M : xM} (h : Inv G S o M) : xT S (gA G 0 52) = 103 := h.iR.2.2.2.2.2.2.2.2.2.1
theorem Inv.R_t57 {G : xG} {S : xH} {o : Nat} {M : xM} (h : Inv G S o M) : xT S (gA G 0 57) = 104 := h.iR.2.2.2.2.2.2.2.2.2.2.1
theorem Inv.R_t59 {G : xG} {S : xH} {o : Nat} {M : xM} (h : Inv G S o M) : xT S (gA G 0 59) = 105 := h.iR.2.2.2.2.2.2.2.2.2.2.2.1
theorem Inv.R_t61 {G : xG} {S : xH} {o : Nat} {M : xM} (h : Inv G S o M) : xT S (gA G 0 61) = 106 := h.iR.2.2.2.2.2.2.2.2.2.2.2.2.1
theorem Inv.R_t64 {G : xG} {S : xH} {o : Nat} {M : xM} (h : Inv G S o M) : xT S (gA G 0 64) = 107 := h.iR.2.2.2.2.2.2.2.2.2.2.2.2.2.1
theorem Inv.R_t66 {G : xG} {S : xH} {o : Nat} {M : xM} (h : Inv G S o M) : xT S (gA G 0 66) = 108 := h.iR.2.2.2.2.2.2.2.2.2.2.2.2.2.2.1
theorem Inv.R_t68 {G : xG} {S : xH} {o : Nat} {M : xM} (h : Inv G S o M) : xT S (gA G 0 68) = 101 := h.iR.2.2.2.2.2.2.2.2.2.2.2.2.2.2.2.1
theorem Inv.R_l51 {G : xG} {S : xH} {o : Nat} {M : xM} (h : Inv G S o M) : xL S (gA G 0 51) = 8 := h.iR.2.2.2.2.2.2.2.2.2.2.2.2.2.2.2.2.1
theorem Inv.R_l52 {G : xG} {S : xH} {o : Nat} {M : xM} (h : Inv G S o M) : xL S (gA G 0 52) = 40 := h.iR.2.2.2.2.2.2.2.2.2.2.2.2.2.2.2.2.2.1
theorem Inv.R_l57 {G : xG} {S : xH} {o : Nat} {M : xM} (h : Inv G S o M) : xL S (gA G 0 57) = 60 := h.iR.2.2.2.2.2.2.2.2.2.2.2.2.2.2.2.2.2.2.1
theorem Inv.R_l59 {G : xG} {S : xH} {o : Nat} {M : xM} (h : Inv G S o M) : xL S (gA G 0 59) = 8 := h.iR.2.2.2.2.2.2.2.2.2.2.2.2.2.2.2.2.2.2.2.1
theorem Inv.R_l61 {G : xG} {S : xH} {o : Nat} {M : xM} (h : Inv G S o M) : xL S (gA G 0 61) = 60 := h.iR.2.2.2.2.2.2.2.2.2.2.2.2.2.2.2.2.2.2.2.2.1
theorem Inv.R_l64 {G : xG} {S : xH} {o : Nat} {M : xM} (h : Inv G S o M) : xL S (gA G 0 64) = 10 := h.iR.2.2.2.2.2.2.2.2.2.2.2.2.2.2.2.2.2.2.2.2.2.1
theorem Inv.R_l66 {G : xG} {S : xH} {o : Nat} {M : xM} (h : Inv G S o M) : xL S (gA G 0 66) = 40 := h.iR.2.2.2.2.2.2.2.2.2.2.2.2.2.2.2.2.2.2.2.2.2.2.1
theorem Inv.R_l68 {G : xG} {S : xH} {o : Nat} {M : xM} (h : Inv G S o M) : xL S (gA G 0 68) = 10 := h.iR.2.2.2.2.2.2.2.2.2.2.2.2.2.2.2.2.2.2.2.2.2.2.2
theorem Inv.iW {G : xG} {S : xH} {o : Nat} {M : xM} (h : Inv G S o M) : iW G S o M := h.2.2.1
theorem Inv.W_q {G : xG} {S : xH} {o : Nat} {M : xM} (h : Inv G S o M) {i : Nat} (hb : i < 8) : xQ S (gA G 0 51) i = some (gA G 1 i) := (h.iW i hb).1
theorem Inv.W_T {G : xG} {S : xH} {o : Nat} {M : xM} (h : Inv G S o M) {i : Nat} (hb : i < 8) : xT S (gA G 1 i) = 102 := (h.iW i hb).2.1
theorem Inv.W_L {G : xG} {S : xH} {o : Nat} {M : xM} (h : Inv G S o M) {i : Nat} (hb : i < 8) : xL S (gA G 1 i) = 8 := (h.iW i hb).2.2.1
theorem Inv.W_r {G : xG} {S : xH} {o : Nat} {M : xM} (h : Inv G S o M) {i : Nat} (hb : i < 8) : gR G (gA G 1 i) = i := (h.iW i hb).2.2.2.1
theorem Inv.W_v {G : xG} {S : xH} {o : Nat} {M : xM} (h : Inv G S o M) {i : Nat} (hb : i < 8) : ∀ j, j < 8 → xA S (gA G 1 i) j = M2 M 2 (8 * i + j) := (h.iW i hb).2.2.2.2.1
theorem Inv.W_B {G : xG} {S : xH} {o : Nat} {M : xM} (h : Inv G S o M) {i : Nat} (hb : i < 8) : ∀ j, j < 8 → x_B (M2 M 2 (8 * i + j)) := (h.iW i hb).2.2.2.2.2.1
theorem Inv.W_y {G : xG} {S : xH} {o : Nat} {M : xM} (h : Inv G S o M) {i : Nat} (hb : i < 8) : ∀ j, j < 8 → M2 M 2 (8 * i + j) = M2 M 2 (8 * j + i) := (h.iW i hb).2.2.2.2.2.2.1
theorem Inv.W_z {G : xG} {S : xH} {o : Nat} {M : xM} (h : Inv G S o M) {i : Nat} (hb : i < 8) : ∀ j, j < 8 → M2 M 2 (8 * i + j) ≠ 0 → i < gN G 1 ∧ j < gN G 1 := (h.iW i hb).2.2.2.2.2.2.2
theorem Inv.iM {G : xG} {S : xH} {o : Nat} {M : xM} (h : Inv G S o M) : iM G S o M := h.2.2.2.1
theorem Inv.M_q {G : xG} {S : xH} {o : Nat} {M : xM} (h : Inv G S o M) {m : Nat} (hb : m < gN G 5) : xQ S (gA G 0 52) m = some (gA G 2 m) := (h.iM m hb).1
theorem Inv.M_T {G : xG} {S : xH} {o : Nat} {M : xM} (h : Inv G S o M) {m : Nat} (hb : m < gN G 5) : xT S (gA G 2 m) = 3 := (h.iM m hb).2.1
theorem Inv.M_r {G : xG} {S : xH} {o : Nat} {M : xM} (h : Inv G S o M) {m : Nat} (hb : m < gN G 5) : gR G (gA G 2 m) = m := (h.iM m hb).2.2.1
theorem Inv.M_ab {G : xG} {S : xH} {o : Nat} {M : xM} (h : Inv G S o M) {m : Nat} (hb : m < gN G 5) : xR S 150 (gA G 2 m) = some (gA G 3 m) := (h.iM m hb).2.2.2.1
theorem Inv.M_aT {G : xG} {S : xH} {o : Nat} {M : xM} (h : Inv G S o M) {m : Nat} (hb : m < gN G 5) : xT S (gA G 3 m) = 101 := (h.iM m hb).2.2.2.2.1
theorem Inv.M_aL {G : xG} {S : xH} {o : Nat} {M : xM} (h : Inv G S o M) {m : Nat} (hb : m < gN G 5) : xL S (gA G 3 m) = 7 := (h.iM m hb).2.2.2.2.2.1
theorem Inv.M_ar {G : xG} {S : xH} {o : Nat} {M : xM} (h : Inv G S o M) {m : Nat} (hb : m < gN G 5) : gR G (gA G 3 m) = 0 := (h.iM m hb).2.2.2.2.2.2.1
theorem Inv.M_av {G : xG} {S : xH} {o : Nat} {M : xM} (h : Inv G S o M) {m : Nat} (hb : m < gN G 5) : ∀ j, j < 7 → xA S (gA G 3 m) j = M2 M 6 (8 * m + j) := (h.iM m hb).2.2.2.2.2.2.2.1
theorem Inv.M_ap {G : xG} {S : xH} {o : Nat} {M : xM} (h : Inv G S o M) {m : Nat} (hb : m < gN G 5) : ∀ j, j < 7 → vp_in (M2 M 6 (8 * m + j)) 101 := (h.iM m hb).2.2.2.2.2.2.2.2.1
theorem Inv.M_hm {G : xG} {S : xH} {o : Nat} {M : xM} (h : Inv G S o M) {m : Nat} (hb : m < gN G 5) : vp_in (M2 M 6 (8 * m + 6)) (gN G 1) := (h.iM m hb).2.2.2.2.2.2.2.2.2.1
theorem Inv.M_sh {G : xG} {S : xH} {o : Nat} {M : xM} (h : Inv G S o M) {m : Nat} (hb : m < gN G 5) : xI S 151 (gA G 2 m) = M2 M 6 (8 * m + 7) := (h.iM m hb).2.2.2.2.2.2.2.2.2.2.1
theorem Inv.M_sB {G : xG} {S : xH} {o : Nat} {M : xM} (h : Inv G S o M) {m : Nat} (hb : m < gN G 5) : x_B (M2 M 6 (8 * m + 7)) := (h.iM m hb).2.2.2.2.2.2.2.2.2.2.2.1
theorem Inv.M_go {G : xG} {S : xH} {o : Nat} {M : xM} (h : Inv G S o M) {m : Nat} (hb : m < gN G 5) : xI S 154 (gA G 2 m) = M2 M 38 m := (h.iM m hb).2.2.2.2.2.2.2.2.2.2.2.2.1
theorem Inv.M_tk {G : xG} {S : xH} {o : Nat} {M : xM} (h : Inv G S o M) {m : Nat} (hb : m < gN G 5) : xR S 153 (gA G 2 m) = (tkL (M2 M 23) m (gN G 22)).map (gA G 8) := (h.iM m hb).2.2.2.2.2.2.2.2.2.2.2.2.2.1
theorem Inv.M_hi {G : xG} {S : xH} {o : Nat} {M : xM} (h : Inv G S o M) {m : Nat} (hb : m < gN G 5) : iH G S M m := (h.iM m hb).2.2.2.2.2.2.2.2.2.2.2.2.2.2.1
theorem Inv.M_pl {G : xG} {S : xH} {o : Nat} {M : xM} (h : Inv G S o M) {m : Nat} (hb : m < gN G 5) : ∀ t, t ≤ gN G 4 → pv G (M2 M 8 (40 * t + m)) := (h.iM m hb).2.2.2.2.2.2.2.2.2.2.2.2.2.2.2
theorem Inv.iP {G : xG} {S : xH} {o : Nat} {M : xM} (h : Inv G S o M) : iP G S o M := h.2.2.2.2.1
theorem Inv.P_q {G : xG} {S : xH} {o : Nat} {M : xM} (h : Inv G S o M) {p : Nat} (hb : p < gN G 15) : xQ S (gA G 0 57) p = some (gA G 4 p) := (h.iP p hb).1
theorem Inv.P_T {G : xG} {S : xH} {o : Nat} {M : xM} (h : Inv G S o M) {p : Nat} (hb : p < gN G 15) : xT S (gA G 4 p) = 5 := (h.iP p hb).2.1
theorem Inv.P_of {G : xG} {S : xH} {o : Nat} {M : xM} (h : Inv G S o M) {p : Nat} (hb : p < gN G 15) : xR S 250 (gA G 4 p) = some (gA G 2 (M2 M 16 (9 * p)).toNatClampNeg) := (h.iP p hb).2.2.1
theorem Inv.P_om {G : xG} {S : xH} {o : Nat} {M : xM} (h : Inv G S o M) {p : Nat} (hb : p < gN G 15) : vp_in (M2 M 16 (9 * p)) (gN G 5) := (h.iP p hb).2.2.2.1
theorem Inv.P_ha {G : xG} {S : xH} {o : Nat} {M : xM} (h : Inv G S o M) {p : Nat} (hb : p < gN G 15) : xI S 251 (gA G 4 p) = M2 M 16 (9 * p + 1) := (h.iP p hb).2.2.2.2.1
theorem Inv.P_sc {G : xG} {S : xH} {o : Nat} {M : xM} (h : Inv G S o M) {p : Nat} (hb : p < gN G 15) : xI S 252 (gA G 4 p) = M2 M 16 (9 * p + 2) := (h.iP p hb).2.2.2.2.2.1
theorem Inv.P_sp {G : xG} {S : xH} {o : Nat} {M : xM} (h : Inv G S o M) {p : Nat} (hb : p < gN G 15) : xR S 253 (gA G 4 p) = some (gA G 5 p) := (h.iP p hb).2.2.2.2.2.2.1
theorem Inv.P_sT {G : xG} {S : xH} {o : Nat} {M : xM} (h : Inv G S o M) {p : Nat} (hb : p < gN G 15) : xT S (gA G 5 p) = 101 := (h.iP p hb).2.2.2.2.2.2.2.1
theorem Inv.P_sL {G : xG} {S : xH} {o : Nat} {M : xM} (h : Inv G S o M) {p : Nat} (hb : p < gN G 15) : xL S (gA G 5 p) = 6 := (h.iP p hb).2.2.2.2.2.2.2.2.1
theorem Inv.P_sr {G : xG} {S : xH} {o : Nat} {M : xM} (h : Inv G S o M) {p : Nat} (hb : p < gN G 15) : gR G (gA G 5 p) = 1 := (h.iP p hb).2.2.2.2.2.2.2.2.2.1
theorem Inv.P_sv {G : xG} {S : xH} {o : Nat} {M : xM} (h : Inv G S o M) {p : Nat} (hb : p < gN G 15) : ∀ j, j < 6 → xA S (gA G 5 p) j = M2 M 16 (9 * p + 3 + j) := (h.iP p hb).2.2.2.2.2.2.2.2.2.2
theorem Inv.iA {G : xG} {S : xH} {o : Nat} {M : xM} (h : Inv G S o M) : iA G S o M := h.2.2.2.2.2.1
theorem Inv.A_q {G : xG} {S : xH} {o : Nat} {M : xM} (h : Inv G S o M) {a : Nat} (hb : a < gN G 17) : xQ S (gA G 0 59) a = some (gA G 6 a) := (h.iA a hb).1
theorem Inv.A_T {G : xG} {S : xH} {o : Nat} {M : xM} (h : Inv G S o M) {a : Nat} (hb : a < gN G 17) : xT S (gA G 6 a) = 6 := (h.iA a hb).2.1
theorem Inv.A_r {G : xG} {S : xH} {o : Nat} {M : xM} (h : Inv G S o M) {a : Nat} (hb : a < gN G 17) : gR G (gA G 6 a) = a := (h.iA a hb).2.2.1
theorem Inv.A_fr {G : xG} {S : xH} {o : Nat} {M : xM} (h : Inv G S o M) {a : Nat} (hb : a < gN G 17) : xI S 300 (gA G 6 a) = M2 M 18 a := (h.iA a hb).2.2.2.1
theorem Inv.A_sg {G : xG} {S : xH} {o : Nat} {M : xM} (h : Inv G S o M) {a : Nat} (hb : a < gN G 17) : xR S 301 (gA G 6 a) = some (gA G 7 a) := (h.iA a hb).2.2.2.2.1
theorem Inv.A_sT {G : xG} {S : xH} {o : Nat} {M : xM} (h : Inv G S o M) {a : Nat} (hb : a < gN G 17) : xT S (gA G 7 a) = 101 := (h.iA a hb).2.2.2.2.2.1
theorem Inv.A_sL {G : xG} {S : xH} {o : Nat} {M : xM} (h : Inv G S o M) {a : Nat} (hb : a < gN G 17) : xL S (gA G 7 a) = 60 := (h.iA a hb).2.2.2.2.2.2.1
theorem Inv.A_sr {G : xG} {S : xH} {o : Nat} {M : xM} (h : Inv G S o M) {a : Nat} (hb : a < gN G 17) : gR G (gA G 7 a) = 10 + a := (h.iA a hb).2.2.2.2.2.2.2.1
theorem Inv.A_ct {G : xG} {S : xH} {o : Nat} {M : xM} (h : Inv G S o M) {a : Nat} (hb : a < gN G 17) : xI S 302 (gA G 6 a) = M2 M 19 a := (h.iA a hb).2.2.2.2.2.2.2.2.1
theorem Inv.A_cn {G : xG} {S : xH} {o : Nat} {M : xM} (h : Inv G S o M) {a : Nat} (hb : a < gN G 17) : vp_in (M2 M 19 a) 61 := (h.iA a hb).2.2.2.2.2.2.2.2.2.1
theorem Inv.A_sv {G : xG} {S : xH} {o : Nat} {M : xM} (h : Inv G S o M) {a : Nat} (hb : a < gN G 17) : ∀ j, j < (M2 M 19 a).toNatClampNeg → xA S (gA G 7 a) j = M2 M 20 (60 * a + j) := (h.iA a hb).2.2.2.2.2.2.2.2.2.2
theorem Inv.iK {G : xG} {S : xH} {o : Nat} {M : xM} (h : Inv G S o M) : iK G S o M := h.2.2.2.2.2.2.1
theorem Inv.K_q {G : xG} {S : xH} {o : Nat} {M : xM} (h : Inv G S o M) {k : Nat} (hb : k < gN G 22) : xQ S (gA G 0 61) k = some (gA G 8 k) := (h.iK k hb).1
theorem Inv.K_T {G : xG} {S : xH} {o : Nat} {M : xM} (h : Inv G S o M) {k : Nat} (hb : k < gN G 22) : xT S (gA G 8 k) = 17 := (h.iK k hb).2.1
theorem Inv.K_f0 {G : xG} {S : xH} {o : Nat} {M : xM} (h : Inv G S o M) {k : Nat} (hb : k < gN G 22) : xI S 850 (gA G 8 k) = M2 M 23 (6 * k) := (h.iK k hb).2.2.1
theorem Inv.K_f1 {G : xG} {S : xH} {o : Nat} {M : xM} (h : Inv G S o M) {k : Nat} (hb : k < gN G 22) : xI S 851 (gA G 8 k) = M2 M 23 (6 * k + 1) := (h.iK k hb).2.2.2.1
theorem Inv.K_f2 {G : xG} {S : xH} {o : Nat} {M : xM} (h : Inv G S o M) {k : Nat} (hb : k < gN G 22) : xI S 852 (gA G 8 k) = M2 M 23 (6 * k + 2) := (h.iK k hb).2.2.2.2.1
theorem Inv.K_f3 {G : xG} {S : xH} {o : Nat} {M : xM} (h : Inv G S o M) {k : Nat} (hb : k < gN G 22) : xI S 853 (gA G 8 k) = M2 M 23 (6 * k + 3) := (h.iK k hb).2.2.2.2.2.1
theorem Inv.K_f4 {G : xG} {S : xH} {o : Nat} {M : xM} (h : Inv G S o M) {k : Nat} (hb : k < gN G 22) : xI S 854 (gA G 8 k) = M2 M 23 (6 * k + 4) := (h.iK k hb).2.2.2.2.2.2.1
theorem Inv.K_f5 {G : xG} {S : xH} {o : Nat} {M : xM} (h : Inv G S o M) {k : Nat} (hb : k < gN G 22) : xI S 855 (gA G 8 k) = M2 M 23 (6 * k + 5) := (h.iK k hb).2.2.2.2.2.2.2.1
theorem Inv.K_td {G : xG} {S : xH} {o : Nat} {M : xM} (h : Inv G S o M) {k : Nat} (hb : k < gN G 22) : vp_in (M2 M 23 (6 * k)) 900 := (h.iK k hb).2.2.2.2.2.2.2.2.1
theorem Inv.K_mn {G : xG} {S : xH} {o : Nat} {M : xM} (h : Inv G S o M) {k : Nat} (hb : k < gN G 22) : vp_in (M2 M 23 (6 * k + 1)) (gN G 5) := (h.iK k hb).2.2.2.2.2.2.2.2.2.1
theorem Inv.K_fm {G : xG} {S : xH} {o : Nat} {M : xM} (h : Inv G S o M) {k : Nat} (hb : k < gN G 22) : vp_in (M2 M 23 (6 * k + 3)) 8 ∨ 10 ≤ M2 M 23 (6 * k + 3) := (h.iK k hb).2.2.2.2.2.2.2.2.2.2.1
theorem Inv.K_b4 {G : xG} {S : xH} {o : Nat} {M : xM} (h : Inv G S o M) {k : Nat} (hb : k < gN G 22) : x_B (M2 M 23 (6 * k + 4)) := (h.iK k hb).2.2.2.2.2.2.2.2.2.2.2.1
theorem Inv.K_b5 {G : xG} {S : xH} {o : Nat} {M : xM} (h : Inv G S o M) {k : Nat} (hb : k < gN G 22) : x_B (M2 M 23 (6 * k + 5)) := (h.iK k hb).2.2.2.2.2.2.2.2.2.2.2.2
theorem Inv.iS {G : xG} {S : xH} {o : Nat} {M : xM} (h : Inv G S o M) : iS G S o M := h.2.2.2.2.2.2.2.1
theorem Inv.S_q {G : xG} {S : xH} {o : Nat} {M : xM} (h : Inv G S o M) {s : Nat} (hb : s < gN G 9) : xQ S (gA G 0 64) s = some (gA G 9 s) := (h.iS s hb).1
theorem Inv.S_T {G : xG} {S : xH} {o : Nat} {M : xM} (h : Inv G S o M) {s : Nat} (hb : s < gN G 9) : xT S (gA G 9 s) = 19 := (h.iS s hb).2.1
theorem Inv.S_r {G : xG} {S : xH} {o : Nat} {M : xM} (h : Inv G S o M) {s : Nat} (hb : s < gN G 9) : gR G (gA G 9 s) = s := (h.iS s hb).2.2.1
theorem Inv.S_k0 {G : xG} {S : xH} {o : Nat} {M : xM} (h : Inv G S o M) {s : Nat} (hb : s < gN G 9) : xI S 950 (gA G 9 s) = M2 M 10 s := (h.iS s hb).2.2.2.1
theorem Inv.S_k1 {G : xG} {S : xH} {o : Nat} {M : xM} (h : Inv G S o M) {s : Nat} (hb : s < gN G 9) : xI S 951 (gA G 9 s) = M2 M 11 s := (h.iS s hb).2.2.2.2.1
theorem Inv.S_k2 {G : xG} {S : xH} {o : Nat} {M : xM} (h : Inv G S o M) {s : Nat} (hb : s < gN G 9) : xI S 952 (gA G 9 s) = M2 M 12 s := (h.iS s hb).2.2.2.2.2.1
theorem Inv.S_k3 {G : xG} {S : xH} {o : Nat} {M : xM} (h : Inv G S o M) {s : Nat} (hb : s < gN G 9) : xI S 953 (gA G 9 s) = M2 M 13 s := (h.iS s hb).2.2.2.2.2.2.1
theorem Inv.S_hm {G : xG} {S : xH} {o : Nat} {M : xM} (h : Inv G S o M) {s : Nat} (hb : s < gN G 9) : xI S 954 (gA G 9 s) = zI (decide (M2 M 14 s = 0)) := (h.iS s hb).2.2.2.2.2.2.2.1
theorem Inv.S_kB {G : xG} {S : xH} {o : Nat} {M : xM} (h : Inv G S o M) {s : Nat} (hb : s < gN G 9) : x_B (M2 M 10 s) := (h.iS s hb).2.2.2.2.2.2.2.2.1
theorem Inv.S_oB {G : xG} {S : xH} {o : Nat} {M : xM} (h : Inv G S o M) {s : Nat} (hb : s < gN G 9) : x_B (M2 M 14 s) := (h.iS s hb).2.2.2.2.2.2.2.2.2
theorem Inv.iT {G : xG} {S : xH} {o : Nat} {M : xM} (h : Inv G S o M) : iT G S o M := h.2.2.2.2.2.2.2.2.1
theorem Inv.T_q {G : xG} {S : xH} {o : Nat} {M : xM} (h : Inv G S o M) {t : Nat} (hb : t < gN G 31) : xQ S (gA G 0 66) t = some (gA G 10 t) := (h.iT t hb).1
theorem Inv.T_T {G : xG} {S : xH} {o : Nat} {M : xM} (h : Inv G S o M) {t : Nat} (hb : t < gN G 31) : xT S (gA G 10 t) = 20 := (h.iT t hb).2.1
theorem Inv.T_r {G : xG} {S : xH} {o : Nat} {M : xM} (h : Inv G S o M) {t : Nat} (hb : t < gN G 31) : gR G (gA G 10 t) = t := (h.iT t hb).2.2.1
theorem Inv.T_of {G : xG} {S : xH} {o : Nat} {M : xM} (h : Inv G S o M) {t : Nat} (hb : t < gN G 31) : xR S 1000 (gA G 10 t) = some (gA G 2 (M2 M 32 t).toNatClampNeg) := (h.iT t hb).2.2.2.1
theorem Inv.T_om {G : xG} {S : xH} {o : Nat} {M : xM} (h : Inv G S o M) {t : Nat} (hb : t < gN G 31) : vp_in (M2 M 32 t) (gN G 5) := (h.iT t hb).2.2.2.2.1
theorem Inv.T_wo {G : xG} {S : xH} {o : Nat} {M : xM} (h : Inv G S o M) {t : Nat} (hb : t < gN G 31) : xI S 1001 (gA G 10 t) = M2 M 33 t := (h.iT t hb).2.2.2.2.2.1
theorem Inv.T_ho {G : xG} {S : xH} {o : Nat} {M : xM} (h : Inv G S o M) {t : Nat} (hb : t < gN G 31) : xI S 1002 (gA G 10 t) = M2 M 34 t := (h.iT t hb).2.2.2.2.2.2.1
theorem Inv.T_pa {G : xG} {S : xH} {o : Nat} {M : xM} (h : Inv G S o M) {t : Nat} (hb : t < gN G 31) : xI S 1003 (gA G 10 t) = M2 M 35 t := (h.iT t hb).2.2.2.2.2.2.2.1
theorem Inv.T_fa {G : xG} {S : xH} {o : Nat} {M : xM} (h : Inv G S o M) {t : Nat} (hb : t < gN G 31) : xI S 1004 (gA G 10 t) = M2 M 36 t := (h.iT t hb).2.2.2.2.2.2.2.2.1
theorem Inv.T_th {G : xG} {S : xH} {o : Nat} {M : xM} (h : Inv G S o M) {t : Nat} (hb : t < gN G 31) : xR S 1005 (gA G 10 t) = some o := (h.iT t hb).2.2.2.2.2.2.2.2.2.1
theorem Inv.T_hB {G : xG} {S : xH} {o : Nat} {M : xM} (h : Inv G S o M) {t : Nat} (hb : t < gN G 31) : M2 M 34 t = -9 ∨ vp_in (M2 M 34 t) 10 := (h.iT t hb).2.2.2.2.2.2.2.2.2.2.1
theorem Inv.T_pB {G : xG} {S : xH} {o : Nat} {M : xM} (h : Inv G S o M) {t : Nat} (hb : t < gN G 31) : x_B (M2 M 35 t) := (h.iT t hb).2.2.2.2.2.2.2.2.2.2.2
theorem Inv.iU {G : xG} {S : xH} {o : Nat} {M : xM} (h : Inv G S o M) : iU G S o M := h.2.2.2.2.2.2.2.2.2.1
theorem Inv.U_v {G : xG} {S : xH} {o : Nat} {M : xM} (h : Inv G S o M) : ∀ j, j < 10 → xA S (gA G 0 68) j = M2 M 37 j := h.iU.1
theorem Inv.U_r {G : xG} {S : xH} {o : Nat} {M : xM} (h : Inv G S o M) : gR G (gA G 0 68) = 2 := h.iU.2
theorem Inv.iZ {G : xG} {S : xH} {o : Nat} {M : xM} (h : Inv G S o M) : iZ G S o M := h.2.2.2.2.2.2.2.2.2.2
theorem Inv.Z_l {G : xG} {S : xH} {o : Nat} {M : xM} (h : Inv G S o M) : ∀ s, s < 10 → vp_in (M2 M 13 s) 21 := h.iZ.1
theorem Inv.Z_g {G : xG} {S : xH} {o : Nat} {M : xM} (h : Inv G S o M) : ∀ m, gN G 5 ≤ m → m < 40 → M2 M 38 m = 0 := h.iZ.2.1
theorem Inv.Z_s {G : xG} {S : xH} {o : Nat} {M : xM} (h : Inv G S o M) : ∀ s, gN G 9 ≤ s → s < 10 → M2 M 14 s = 0 := h.iZ.2.2.1
theorem Inv.Z_a {G : xG} {S : xH} {o : Nat} {M : xM} (h : Inv G S o M) : ∀ a, gN G 17 ≤ a → a < 8 → M2 M 19 a = 0 := h.iZ.2.2.2.1
theorem Inv.Z_t {G : xG} {S : xH} {o : Nat} {M : xM} (h : Inv G S o M) : ∀ t, gN G 31 ≤ t → t < 40 → M2 M 35 t = 0 ∧ M2 M 36 t = 0 := h.iZ.2.2.2.2
/-- what the model's side asks of its own world -/
def mI (G : xG) (M : xM) : Prop := (M1 M 1 = nI (gN G 1)) ∧ (M1 M 5 = nI (gN G 5)) ∧ (M1 M 4 = nI (gN G 4)) ∧ (M1 M 15 = nI (gN G 15)) ∧ (M1 M 17 = nI (gN G 17)) ∧ (M1 M 22 = nI (gN G 22)) ∧ (M1 M 24 = nI (gN G 24)) ∧ (M1 M 9 = nI (gN G 9)) ∧ (M1 M 31 = nI (gN G 31)) ∧ (1 ≤ gN G 1) ∧ (gN G 1 ≤ 8) ∧ (gN G 5 ≤ 40) ∧ (gN G 4 ≤ 899) ∧ (gN G 9 ≤ 10) ∧ (gN G 15 ≤ 60) ∧ (gN G 17 ≤ 8) ∧ (gN G 22 ≤ 60) ∧ (gN G 24 ≤ gN G 22) ∧ (gN G 31 ≤ 40) ∧ (∀ i, i < 8 → ∀ j, j < 8 → x_B (M2 M 2 (8 * i + j))) ∧ (∀ i, i < 8 → ∀ j, j < 8 → M2 M 2 (8 * i + j) = M2 M 2 (8 * j + i)) ∧ (∀ i, i < 8 → ∀ j, j < 8 → M2 M 2 (8 * i + j) ≠ 0 → i < gN G 1 ∧ j < gN G 1)
theorem mI.d1 {G : xG} {M : xM} (h : mI G M) : M1 M 1 = nI (gN G 1) := h.1
theorem mI.d5 {G : xG} {M : xM} (h : mI G M) : M1 M 5 = nI (gN G 5) := h.2.1
theorem mI.d4 {G : xG} {M : xM} (h : mI G M) : M1 M 4 = nI (gN G 4) := h.2.2.1
theorem mI.d15 {G : xG} {M : xM} (h : mI G M) : M1 M 15 = nI (gN G 15) := h.2.2.2.1
theorem mI.d17 {G : xG} {M : xM} (h : mI G M) : M1 M 17 = nI (gN G 17) := h.2.2.2.2.1
theorem mI.d22 {G : xG} {M : xM} (h : mI G M) : M1 M 22 = nI (gN G 22) := h.2.2.2.2.2.1
theorem mI.d24 {G : xG} {M : xM} (h : mI G M) : M1 M 24 = nI (gN G 24) := h.2.2.2.2.2.2.1
theorem mI.d9 {G : xG} {M : xM} (h : mI G M) : M1 M 9 = nI (gN G 9) := h.2.2.2.2.2.2.2.1
theorem mI.d31 {G : xG} {M : xM} (h : mI G M) : M1 M 31 = nI (gN G 31) := h.2.2.2.2.2.2.2.2.1
theorem mI.n0 {G : xG} {M : xM} (h : mI G M) : 1 ≤ gN G 1 := h.2.2.2.2.2.2.2.2.2.1
theorem mI.n1 {G : xG} {M : xM} (h : mI G M) : gN G 1 ≤ 8 := h.2.2.2.2.2.2.2.2.2.2.1
theorem mI.n5 {G : xG} {M : xM} (h : mI G M) : gN G 5 ≤ 40 := h.2.2.2.2.2.2.2.2.2.2.2.1
theorem mI.n4 {G : xG} {M : xM} (h : mI G M) : gN G 4 ≤ 899 := h.2.2.2.2.2.2.2.2.2.2.2.2.1
theorem mI.n9 {G : xG} {M : xM} (h : mI G M) : gN G 9 ≤ 10 := h.2.2.2.2.2.2.2.2.2.2.2.2.2.1
theorem mI.n15 {G : xG} {M : xM} (h : mI G M) : gN G 15 ≤ 60 := h.2.2.2.2.2.2.2.2.2.2.2.2.2.2.1
theorem mI.n17 {G : xG} {M : xM} (h : mI G M) : gN G 17 ≤ 8 := h.2.2.2.2.2.2.2.2.2.2.2.2.2.2.2.1
theorem mI.n22 {G : xG} {M : xM} (h : mI G M) : gN G 22 ≤ 60 := h.2.2.2.2.2.2.2.2.2.2.2.2.2.2.2.2.1
theorem mI.n24 {G : xG} {M : xM} (h : mI G M) : gN G 24 ≤ gN G 22 := h.2.2.2.2.2.2.2.2.2.2.2.2.2.2.2.2.2.1
theorem mI.n31 {G : xG} {M : xM} (h : mI G M) : gN G 31 ≤ 40 := h.2.2.2.2.2.2.2.2.2.2.2.2.2.2.2.2.2.2.1
theorem mI.wB {G : xG} {M : xM} (h : mI G M) : ∀ i, i < 8 → ∀ j, j < 8 → x_B (M2 M 2 (8 * i + j)) := h.2.2.2.2.2.2.2.2.2.2.2.2.2.2.2.2.2.2.2.1
theorem mI.wy {G : xG} {M : xM} (h : mI G M) : ∀ i, i < 8 → ∀ j, j < 8 → M2 M 2 (8 * i + j) = M2 M 2 (8 * j + i) := h.2.2.2.2.2.2.2.2.2.2.2.2.2.2.2.2.2.2.2.2.1
theorem mI.wz {G : xG} {M : xM} (h : mI G M) : ∀ i, i < 8 → ∀ j, j < 8 → M2 M 2 (8 * i + j) ≠ 0 → i < gN G 1 ∧ j < gN G 1 := h.2.2.2.2.2.2.2.2.2.2.2.2.2.2.2.2.2.2.2.2.2
theorem Inv.mI {G : xG} {S : xH} {o : Nat} {M : xM} (h : Inv G S o M) : mI G M := ⟨h.O_d1, h.O_d5, h.O_d4, h.O_d15, h.O_d17, h.O_d22, h.O_d24, h.O_d9, h.O_d31, h.O_n0, h.O_n1, h.O_n5, h.O_n4, h.O_n9, h.O_n15, h.O_n17, h.O_n22, h.O_n24, h.O_n31, fun i hi => h.W_B hi, fun i hi => h.W_y hi, fun i hi => h.W_z hi⟩
/-- two heaps have the same at an address (but for an act's reading place) -/
def eqc (S S' : xH) (a : Nat) : Prop := xT S' a = xT S a ∧ xL S' a = xL S a ∧ (∀ f, f ≠ 303 → f ≠ 304 → xI S' f a = xI S f a) ∧ (∀ f, xR S' f a = xR S f a) ∧ xA S' a = xA S a ∧ xQ S' a = xQ S a
theorem eqc.refl {S : xH} {a : Nat} : eqc S S a := ⟨rfl, rfl, fun _ _ _ => rfl, fun _ => rfl, rfl, rfl⟩
theorem eqc.trans {S S1 S2 : xH} {a : Nat} (h : eqc S S1 a) (g : eqc S1 S2 a) : eqc S S2 a := ⟨g.1.trans h.1, g.2.1.trans h.2.1, fun f p q => (g.2.2.1 f p q).trans (h.2.2.1 f p q), fun f => (g.2.2.2.1 f).trans (h.2.2.2.1 f), g.2.2.2.2.1.trans h.2.2.2.2.1, g.2.2.2.2.2.trans h.2.2.2.2.2⟩
theorem eqc_sI {S : xH} {f a b : Nat} {x : Int32} (h : b ≠ a) : eqc S (sI S f a x) b := ⟨rfl, rfl, fun g _ _ => by simp [sI, xI, x_u2, h], fun _ => rfl, rfl, rfl⟩
theorem eqc_sI3 {S : xH} {f a b : Nat} {x : Int32} (h : f = 303 ∨ f = 304) : eqc S (sI S f a x) b := ⟨rfl, rfl, fun g h1 h2 => by
  have : g ≠ f := by omega
  simp [sI, xI, x_u2, this], fun _ => rfl, rfl, rfl⟩
theorem eqc_sR {S : xH} {f a b : Nat} {r : Option Nat} (h : b ≠ a) : eqc S (sR S f a r) b := ⟨rfl, rfl, fun _ _ _ => rfl, fun g => by simp [sR, xR, x_u2, h], rfl, rfl⟩
theorem eqc_sA {S : xH} {a b i : Nat} {x : Int32} (h : b ≠ a) : eqc S (sA S a i x) b := ⟨rfl, rfl, fun _ _ _ => rfl, fun _ => rfl, by funext j; simp [sA, xA, x_u2, h], rfl⟩
theorem eqc_sQ {S : xH} {a b i : Nat} {r : Option Nat} (h : b ≠ a) : eqc S (sQ S a i r) b := ⟨rfl, rfl, fun _ _ _ => rfl, fun _ => rfl, rfl, by funext j; simp [sQ, xQ, x_u2, h]⟩
theorem eqc_sB {S : xH} {a b : Nat} {g : Nat → Int32} (h : b ≠ a) : eqc S (sB S a g) b := ⟨rfl, rfl, fun _ _ _ => rfl, fun _ => rfl, by simp [sB, xA, va_up, h], rfl⟩
theorem eqc_sN {S : xH} {a b t : Nat} (h : b ≠ a) : eqc S (sN S a t) b := ⟨by simp [sN, xT, va_up, h], rfl, fun _ _ _ => by simp [sN, xI, h], fun _ => by simp [sN, xR, h], rfl, rfl⟩
theorem eqc_sV {S : xH} {a b t n : Nat} (h : b ≠ a) : eqc S (sV S a t n) b := ⟨by simp [sV, xT, va_up, h], by simp [sV, xL, va_up, h], fun _ _ _ => rfl, fun _ => rfl, by simp [sV, xA, va_up, h], by simp [sV, xQ, va_up, h]⟩
/-- S' has all that S has, and more -/
def xE (S S' : xH) : Prop := ∀ a, xT S a ≠ 0 → eqc S S' a
theorem xE.refl (S : xH) : xE S S := fun _ _ => eqc.refl
theorem xE.trans {S S1 S2 : xH} (h : xE S S1) (g : xE S1 S2) : xE S S2 := fun a ha => (h a ha).trans (g a (by rw [(h a ha).1]; exact ha))
theorem xE.ne {S : xH} {a b : Nat} (h : xT S a = 0) (hb : xT S b ≠ 0) : b ≠ a := fun e => hb (e ▸ h)
theorem xE.n {S0 S : xH} {a t : Nat} (h : xE S0 S) (ha : xT S a = 0) : xE S0 (sN S a t) := fun b hb => (h b hb).trans (eqc_sN (xE.ne ha (by rw [(h b hb).1]; exact hb)))
theorem xE.v {S0 S : xH} {a t n : Nat} (h : xE S0 S) (ha : xT S a = 0) : xE S0 (sV S a t n) := fun b hb => (h b hb).trans (eqc_sV (xE.ne ha (by rw [(h b hb).1]; exact hb)))
theorem xE.i {S0 S : xH} {f a : Nat} {x : Int32} (h : xE S0 S) (ha : xT S0 a = 0) : xE S0 (sI S f a x) := fun b hb => (h b hb).trans (eqc_sI (xE.ne ha hb))
theorem xE.i3 {S0 S : xH} {f a : Nat} {x : Int32} (h : xE S0 S) (hf : f = 303 ∨ f = 304) : xE S0 (sI S f a x) := fun b hb => (h b hb).trans (eqc_sI3 hf)
theorem xE.r {S0 S : xH} {f a : Nat} {r : Option Nat} (h : xE S0 S) (ha : xT S0 a = 0) : xE S0 (sR S f a r) := fun b hb => (h b hb).trans (eqc_sR (xE.ne ha hb))
theorem xE.a {S0 S : xH} {a i : Nat} {x : Int32} (h : xE S0 S) (ha : xT S0 a = 0) : xE S0 (sA S a i x) := fun b hb => (h b hb).trans (eqc_sA (xE.ne ha hb))
theorem xE.q {S0 S : xH} {a i : Nat} {r : Option Nat} (h : xE S0 S) (ha : xT S0 a = 0) : xE S0 (sQ S a i r) := fun b hb => (h b hb).trans (eqc_sQ (xE.ne ha hb))
theorem xE.b {S0 S : xH} {a : Nat} {g : Nat → Int32} (h : xE S0 S) (ha : xT S0 a = 0) : xE S0 (sB S a g) := fun b hb => (h b hb).trans (eqc_sB (xE.ne ha hb))
theorem iH_fr {G : xG} {S S' : xH} {M M' : xM} {m : Nat} (h : iH G S M m) (e2 : eqc S S' (gA G 2 m)) (e : ∀ a, xT S a = 4 → eqc S S' a) (h8 : ∀ t, t ≤ gN G 4 → M2 M' 8 (40 * t + m) = M2 M 8 (40 * t + m)) (h7 : M2 M' 7 m = M2 M 7 m) : iH G S' M' m := by
  obtain ⟨n, f, b1, b2, b3, b4, b5, b6, b7, b8⟩ := h
  have e4 : ∀ j, j ≤ n → eqc S S' (f j) := fun j hj => e _ (b2 j hj)
  have i0 : ∀ j, j ≤ n → xI S' 200 (f j) = xI S 200 (f j) := fun j hj => (e4 j hj).2.2.1 200 (by decide) (by decide)
  have i1 : ∀ j, j ≤ n → xI S' 201 (f j) = xI S 201 (f j) := fun j hj => (e4 j hj).2.2.1 201 (by decide) (by decide)
  refine ⟨n, f, by rw [e2.2.2.2.1]; exact b1, fun j hj => by rw [(e4 j hj).1]; exact b2 j hj, fun j hj => ?_, by rw [i0 n (Nat.le_refl _)]; exact b4, fun j hj => by rw [i0 j hj]; exact b5 j hj, ?_, ?_, by rw [i1 n (Nat.le_refl _)]; exact b8⟩
  · rw [(e4 j (by omega)).2.2.2.1, i0 j (by omega)]
    exact b3 j hj
  · intro t ht j hj hi hle
    rw [i1 j hj, h8 t ht]
    rw [i0 j hj] at hle
    exact b6 t ht j hj (fun i hij => by rw [← i0 i (by omega)]; exact hi i hij) hle
  · rw [i0 0 (Nat.zero_le _), i1 0 (Nat.zero_le _), h7]
    exact b7
theorem fr_O {G : xG} {S S' : xH} {o : Nat} {M : xM} (h : Inv G S o M) (e0 : ∀ a, a = o → eqc S S' a) : iO G S' o M := by
  obtain ⟨t0, l0, i0, r0, a0, q0⟩ := e0 (o) rfl
  have H := h.iO
  unfold iO at H ⊢
  simp only [t0, i0 50 (by decide) (by decide), i0 53 (by decide) (by decide), i0 54 (by decide) (by decide), i0 55 (by decide) (by decide), i0 56 (by decide) (by decide), i0 58 (by decide) (by decide), i0 60 (by decide) (by decide), i0 62 (by decide) (by decide), i0 63 (by decide) (by decide), i0 65 (by decide) (by decide), i0 67 (by decide) (by decide)]
  exact H
theorem fr_R {G : xG} {S S' : xH} {o : Nat} {M : xM} (h : Inv G S o M) (e0 : ∀ a, a = o → eqc S S' a) (e1 : ∀ a, (xT S a = 109 ∨ xT S a = 103 ∨ xT S a = 104 ∨ xT S a = 105 ∨ xT S a = 106 ∨ xT S a = 107 ∨ xT S a = 108) → eqc S S' a) (e2 : ∀ a, (xT S a = 101 ∧ gR G a = 2) → eqc S S' a) : iR G S' o M := by
  obtain ⟨t0, l0, i0, r0, a0, q0⟩ := e0 (o) rfl
  obtain ⟨t1, l1, i1, r1, a1, q1⟩ := e1 (gA G 0 51) (by rw [h.R_t51]; decide)
  obtain ⟨t2, l2, i2, r2, a2, q2⟩ := e1 (gA G 0 52) (by rw [h.R_t52]; decide)
  obtain ⟨t3, l3, i3, r3, a3, q3⟩ := e1 (gA G 0 57) (by rw [h.R_t57]; decide)
  obtain ⟨t4, l4, i4, r4, a4, q4⟩ := e1 (gA G 0 59) (by rw [h.R_t59]; decide)
  obtain ⟨t5, l5, i5, r5, a5, q5⟩ := e1 (gA G 0 61) (by rw [h.R_t61]; decide)
  obtain ⟨t6, l6, i6, r6, a6, q6⟩ := e1 (gA G 0 64) (by rw [h.R_t64]; decide)
  obtain ⟨t7, l7, i7, r7, a7, q7⟩ := e1 (gA G 0 66) (by rw [h.R_t66]; decide)
  obtain ⟨t8, l8, i8, r8, a8, q8⟩ := e2 (gA G 0 68) ⟨h.R_t68, h.U_r⟩
  have H := h.iR
  unfold iR at H ⊢
  simp only [r0, t1, l1, t2, l2, t3, l3, t4, l4, t5, l5, t6, l6, t7, l7, t8, l8]
  exact H
theorem fr_W {G : xG} {S S' : xH} {o : Nat} {M : xM} (h : Inv G S o M) (e0 : ∀ a, xT S a = 109 → eqc S S' a) (e1 : ∀ a, xT S a = 102 → eqc S S' a) : iW G S' o M := by
  intro i hb
  obtain ⟨t0, l0, i0, r0, a0, q0⟩ := e0 (gA G 0 51) h.R_t51
  obtain ⟨t1, l1, i1, r1, a1, q1⟩ := e1 (gA G 1 i) (h.W_T hb)
  have H := h.iW i hb
  simp only [q0, t1, l1, a1]
  exact H
theorem fr_M {G : xG} {S S' : xH} {o : Nat} {M : xM} (h : Inv G S o M) (e0 : ∀ a, xT S a = 103 → eqc S S' a) (e1 : ∀ a, xT S a = 3 → eqc S S' a) (e2 : ∀ a, xT S a = 4 → eqc S S' a) (e3 : ∀ a, (xT S a = 101 ∧ gR G a = 0) → eqc S S' a) : iM G S' o M := by
  intro m hb
  obtain ⟨t0, l0, i0, r0, a0, q0⟩ := e0 (gA G 0 52) h.R_t52
  obtain ⟨t1, l1, i1, r1, a1, q1⟩ := e1 (gA G 2 m) (h.M_T hb)
  obtain ⟨t2, l2, i2, r2, a2, q2⟩ := e3 (gA G 3 m) ⟨h.M_aT hb, h.M_ar hb⟩
  have hh := iH_fr (h.M_hi hb) (e1 _ (h.M_T hb)) e2 (fun _ _ => rfl) rfl
  have H := h.iM m hb
  obtain ⟨b1, b2, b3, b4, b5, b6, b7, b8, b9, b10, b11, b12, b13, b14, b15, b16⟩ := H
  simp only [q0, t1, i1 151 (by decide) (by decide), i1 154 (by decide) (by decide), r1, t2, l2, a2]
  exact ⟨b1, b2, b3, b4, b5, b6, b7, b8, b9, b10, b11, b12, b13, b14, hh, b16⟩
theorem fr_P {G : xG} {S S' : xH} {o : Nat} {M : xM} (h : Inv G S o M) (e0 : ∀ a, xT S a = 104 → eqc S S' a) (e1 : ∀ a, xT S a = 5 → eqc S S' a) (e2 : ∀ a, (xT S a = 101 ∧ gR G a = 1) → eqc S S' a) : iP G S' o M := by
  intro p hb
  obtain ⟨t0, l0, i0, r0, a0, q0⟩ := e0 (gA G 0 57) h.R_t57
  obtain ⟨t1, l1, i1, r1, a1, q1⟩ := e1 (gA G 4 p) (h.P_T hb)
  obtain ⟨t2, l2, i2, r2, a2, q2⟩ := e2 (gA G 5 p) ⟨h.P_sT hb, h.P_sr hb⟩
  have H := h.iP p hb
  simp only [q0, t1, i1 251 (by decide) (by decide), i1 252 (by decide) (by decide), r1, t2, l2, a2]
  exact H
theorem fr_A {G : xG} {S S' : xH} {o : Nat} {M : xM} (h : Inv G S o M) (e0 : ∀ a, xT S a = 105 → eqc S S' a) (e1 : ∀ a, xT S a = 6 → eqc S S' a) (e2 : ∀ a, (xT S a = 101 ∧ 10 ≤ gR G a) → eqc S S' a) : iA G S' o M := by
  intro a hb
  obtain ⟨t0, l0, i0, r0, a0, q0⟩ := e0 (gA G 0 59) h.R_t59
  obtain ⟨t1, l1, i1, r1, a1, q1⟩ := e1 (gA G 6 a) (h.A_T hb)
  obtain ⟨t2, l2, i2, r2, a2, q2⟩ := e2 (gA G 7 a) ⟨h.A_sT hb, by rw [h.A_sr hb]; omega⟩
  have H := h.iA a hb
  simp only [q0, t1, i1 300 (by decide) (by decide), i1 302 (by decide) (by decide), r1, t2, l2, a2]
  exact H
theorem fr_K {G : xG} {S S' : xH} {o : Nat} {M : xM} (h : Inv G S o M) (e0 : ∀ a, xT S a = 106 → eqc S S' a) (e1 : ∀ a, xT S a = 17 → eqc S S' a) : iK G S' o M := by
  intro k hb
  obtain ⟨t0, l0, i0, r0, a0, q0⟩ := e0 (gA G 0 61) h.R_t61
  obtain ⟨t1, l1, i1, r1, a1, q1⟩ := e1 (gA G 8 k) (h.K_T hb)
  have H := h.iK k hb
  simp only [q0, t1, i1 850 (by decide) (by decide), i1 851 (by decide) (by decide), i1 852 (by decide) (by decide), i1 853 (by decide) (by decide), i1 854 (by decide) (by decide), i1 855 (by decide) (by decide)]
  exact H
theorem fr_S {G : xG} {S S' : xH} {o : Nat} {M : xM} (h : Inv G S o M) (e0 : ∀ a, xT S a = 107 → eqc S S' a) (e1 : ∀ a, xT S a = 19 → eqc S S' a) : iS G S' o M := by
  intro s hb
  obtain ⟨t0, l0, i0, r0, a0, q0⟩ := e0 (gA G 0 64) h.R_t64
  obtain ⟨t1, l1, i1, r1, a1, q1⟩ := e1 (gA G 9 s) (h.S_T hb)
  have H := h.iS s hb
  simp only [q0, t1, i1 950 (by decide) (by decide), i1 951 (by decide) (by decide), i1 952 (by decide) (by decide), i1 953 (by decide) (by decide), i1 954 (by decide) (by decide)]
  exact H
theorem fr_T {G : xG} {S S' : xH} {o : Nat} {M : xM} (h : Inv G S o M) (e0 : ∀ a, xT S a = 108 → eqc S S' a) (e1 : ∀ a, xT S a = 20 → eqc S S' a) : iT G S' o M := by
  intro t hb
  obtain ⟨t0, l0, i0, r0, a0, q0⟩ := e0 (gA G 0 66) h.R_t66
  obtain ⟨t1, l1, i1, r1, a1, q1⟩ := e1 (gA G 10 t) (h.T_T hb)
  have H := h.iT t hb
  simp only [q0, t1, i1 1001 (by decide) (by decide), i1 1002 (by decide) (by decide), i1 1003 (by decide) (by decide), i1 1004 (by decide) (by decide), r1]
  exact H
theorem fr_U {G : xG} {S S' : xH} {o : Nat} {M : xM} (h : Inv G S o M) (e0 : ∀ a, (xT S a = 101 ∧ gR G a = 2) → eqc S S' a) : iU G S' o M := by
  obtain ⟨t0, l0, i0, r0, a0, q0⟩ := e0 (gA G 0 68) ⟨h.R_t68, h.U_r⟩
  have H := h.iU
  unfold iU at H ⊢
  simp only [a0]
  exact H
theorem Inv.ext {G : xG} {S S' : xH} {o : Nat} {M : xM} (h : Inv G S o M) (e : xE S S') : Inv G S' o M := by
  have E : ∀ t, t ≠ 0 → ∀ a, xT S a = t → eqc S S' a := fun t ht a ha => e a (by rw [ha]; exact ht)
  refine ⟨fr_O h (fun a ha => e a (by rw [ha, h.O_t]; decide)), fr_R h (fun a ha => e a (by rw [ha, h.O_t]; decide)) (fun a ha => e a (by omega)) (fun a ha => E _ (by decide) a ha.1), fr_W h (E _ (by decide)) (E _ (by decide)), fr_M h (E _ (by decide)) (E _ (by decide)) (E _ (by decide)) (fun a ha => E _ (by decide) a ha.1), fr_P h (E _ (by decide)) (E _ (by decide)) (fun a ha => E _ (by decide) a ha.1), fr_A h (E _ (by decide)) (E _ (by decide)) (fun a ha => E _ (by decide) a ha.1), fr_K h (E _ (by decide)) (E _ (by decide)), fr_S h (E _ (by decide)) (E _ (by decide)), fr_T h (E _ (by decide)) (E _ (by decide)), fr_U h (fun a ha => E _ (by decide) a ha.1), h.iZ⟩
