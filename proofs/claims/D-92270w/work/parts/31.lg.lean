set_option maxRecDepth 100000
/-! ===== walks in a graph, how far: by Floyd's loops, by a search in breadth ===== -/
def wk (A : Nat → Nat → Bool) : Nat → Nat → Nat → Prop
  | 0, a, b => a = b
  | d + 1, a, b => ∃ c, wk A d a c ∧ A c b = true
theorem wk_tr {A : Nat → Nat → Bool} {d a b : Nat} (h : wk A d a b) : ∀ {e c : Nat}, wk A e b c → wk A (d + e) a c := by
  intro e
  induction e with
  | zero => intro c h2; have h2 : b = c := h2; subst h2; exact h
  | succ e ih =>
    intro c h2
    obtain ⟨x, hx, ha⟩ := h2
    exact ⟨x, ih hx, ha⟩
theorem wk_1 {A : Nat → Nat → Bool} {a b : Nat} (h : A a b = true) : wk A 1 a b := ⟨a, rfl, h⟩
theorem wk_sy {A : Nat → Nat → Bool} (hA : ∀ a b, A a b = A b a) : ∀ {d a b : Nat}, wk A d a b → wk A d b a := by
  intro d
  induction d with
  | zero => intro a b h; exact Eq.symm h
  | succ d ih =>
    intro a b h
    obtain ⟨c, hc, ha⟩ := h
    have := wk_tr (wk_1 (by rw [hA]; exact ha)) (ih hc)
    rw [Nat.add_comm] at this
    exact this
theorem dst_ex (A : Nat → Nat → Bool) (a b : Nat) : ∃ v, v ≤ 100 ∧ (v < 100 → wk A v a b) ∧ ∀ d, wk A d a b → v ≤ d := by
  have H : ∀ n, n ≤ 100 → (∃ v, v ≤ 100 ∧ (v < 100 → wk A v a b) ∧ ∀ d, wk A d a b → v ≤ d) ∨ ∀ d, d < n → ¬ wk A d a b := by
    intro n
    induction n with
    | zero => intro _; exact Or.inr (fun d hd => absurd hd (Nat.not_lt_zero d))
    | succ n ih =>
      intro hn
      rcases ih (by omega) with h | h
      · exact Or.inl h
      · by_cases hw : wk A n a b
        · exact Or.inl ⟨n, by omega, fun _ => hw, fun d hd => Nat.not_lt.mp (fun hlt => h d hlt hd)⟩
        · refine Or.inr (fun d hd => ?_)
          by_cases e : d = n
          · subst e; exact hw
          · exact h d (by omega)
  rcases H 100 (Nat.le_refl _) with h | h
  · exact h
  · exact ⟨100, Nat.le_refl _, fun q => absurd q (Nat.lt_irrefl _), fun d hd => Nat.not_lt.mp (fun hlt => h d hlt hd)⟩
noncomputable def dst (A : Nat → Nat → Bool) (a b : Nat) : Nat := Classical.choose (dst_ex A a b)
theorem dst_le {A : Nat → Nat → Bool} {a b : Nat} : dst A a b ≤ 100 := (Classical.choose_spec (dst_ex A a b)).1
theorem dst_wk {A : Nat → Nat → Bool} {a b : Nat} (h : dst A a b < 100) : wk A (dst A a b) a b := (Classical.choose_spec (dst_ex A a b)).2.1 h
theorem dst_mn {A : Nat → Nat → Bool} {a b d : Nat} (h : wk A d a b) : dst A a b ≤ d := (Classical.choose_spec (dst_ex A a b)).2.2 d h
theorem dst_un {A : Nat → Nat → Bool} {a b v : Nat} (h1 : v ≤ 100) (h2 : v < 100 → wk A v a b) (h3 : ∀ d, wk A d a b → v ≤ d) : v = dst A a b := by
  have p1 := dst_le (A := A) (a := a) (b := b)
  by_cases hv : v < 100
  · have q1 := dst_mn (h2 hv)
    have q2 := h3 _ (dst_wk (by omega))
    omega
  · by_cases hd : dst A a b < 100
    · have := h3 _ (dst_wk hd)
      omega
    · omega
theorem dst_sy {A : Nat → Nat → Bool} (hA : ∀ a b, A a b = A b a) (a b : Nat) : dst A a b = dst A b a :=
  dst_un dst_le (fun h => wk_sy hA (dst_wk h)) (fun _ h => dst_mn (wk_sy hA h))
theorem dst_0 {A : Nat → Nat → Bool} {a b : Nat} : dst A a b = 0 ↔ a = b := by
  constructor
  · intro h
    have := dst_wk (A := A) (a := a) (b := b) (by omega)
    rw [h] at this
    exact this
  · intro h
    have := dst_mn (A := A) (d := 0) (show wk A 0 a b from h)
    omega
theorem dst_1 {A : Nat → Nat → Bool} {a b : Nat} : dst A a b ≤ 1 ↔ a = b ∨ A a b = true := by
  constructor
  · intro h
    by_cases h0 : dst A a b = 0
    · exact Or.inl (dst_0.mp h0)
    · have h1 : dst A a b = 1 := by omega
      have := dst_wk (A := A) (a := a) (b := b) (by omega)
      rw [h1] at this
      obtain ⟨c, hc, ha⟩ := this
      have hc : a = c := hc
      subst hc
      exact Or.inr ha
  · rintro (h | h)
    · have := (dst_0 (A := A)).mpr h
      omega
    · exact dst_mn (wk_1 h)
theorem dst_pr {A : Nat → Nat → Bool} {s b d : Nat} (h : dst A s b = d + 1) (hd : d + 1 < 100) : ∃ c, dst A s c = d ∧ A c b = true := by
  have hw := dst_wk (A := A) (a := s) (b := b) (by omega)
  rw [h] at hw
  obtain ⟨c, hc, ha⟩ := hw
  refine ⟨c, ?_, ha⟩
  have h1 := dst_mn hc
  by_cases h2 : dst A s c = d
  · exact h2
  · have h3 : wk A (dst A s c + 1) s b := ⟨c, dst_wk (by omega), ha⟩
    have := dst_mn h3
    omega
theorem dst_st {A : Nat → Nat → Bool} {s a b : Nat} (h : A a b = true) : dst A s b ≤ dst A s a + 1 := by
  by_cases hd : dst A s a < 100
  · exact dst_mn ⟨a, dst_wk hd, h⟩
  · have := dst_le (A := A) (a := s) (b := b)
    omega
/-! counting -/
def ct (p : Nat → Bool) : Nat → Nat
  | 0 => 0
  | n + 1 => ct p n + (if p n = true then 1 else 0)
theorem ct_le (p : Nat → Bool) : ∀ n, ct p n ≤ n
  | 0 => Nat.le_refl _
  | n + 1 => by have := ct_le p n; rw [ct]; split <;> omega
theorem ct_mono {p q : Nat → Bool} (h : ∀ i, p i = true → q i = true) : ∀ n, ct p n ≤ ct q n
  | 0 => Nat.le_refl _
  | n + 1 => by
    have := ct_mono h n
    rw [ct, ct]
    by_cases hp : p n = true
    · rw [if_pos hp, if_pos (h n hp)]; omega
    · rw [if_neg hp]; omega
theorem ct_lt {p q : Nat → Bool} (h : ∀ i, p i = true → q i = true) {b : Nat} (hq : q b = true) (hp : ¬ p b = true) : ∀ n, b < n → ct p n < ct q n
  | 0, hb => absurd hb (Nat.not_lt_zero b)
  | n + 1, hb => by
    rw [ct, ct]
    by_cases e : b = n
    · subst e
      have := ct_mono h b
      rw [if_neg hp, if_pos hq]; omega
    · have := ct_lt h hq hp n (by omega)
      by_cases hpn : p n = true
      · rw [if_pos hpn, if_pos (h n hpn)]; omega
      · rw [if_neg hpn]; omega
theorem ct_pos {p : Nat → Bool} {b : Nat} (hp : p b = true) : ∀ n, b < n → 1 ≤ ct p n
  | 0, hb => absurd hb (Nat.not_lt_zero b)
  | n + 1, hb => by
    rw [ct]
    by_cases e : b = n
    · subst e; rw [if_pos hp]; omega
    · have := ct_pos hp n (by omega)
      omega
/-- in a graph of n vertices nothing is farther than n - 1 -/
theorem dst_sm {A : Nat → Nat → Bool} {n s : Nat} (hA : ∀ a b, A a b = true → a < n ∧ b < n) (hs : s < n) {b : Nat} (h : dst A s b < 100) : dst A s b < n := by
  have H : ∀ d b, dst A s b = d → d < 100 → d + 1 ≤ ct (fun i => decide (dst A s i ≤ d)) n := by
    intro d
    induction d with
    | zero =>
      intro b hb _
      have := dst_0.mp hb
      exact ct_pos (b := s) (by simp [dst_0.mpr rfl]) n hs
    | succ d ih =>
      intro b hb hd
      obtain ⟨c, hc, ha⟩ := dst_pr hb hd
      have h1 := ih c hc (by omega)
      have h2 := ct_lt (p := fun i => decide (dst A s i ≤ d)) (q := fun i => decide (dst A s i ≤ d + 1)) (fun i hi => by simp only [decide_eq_true_eq] at hi ⊢; omega) (b := b) (by simp [hb]) (by simp [hb]) n (hA _ _ ha).2
      omega
  have := H _ b rfl h
  have := ct_le (fun i => decide (dst A s i ≤ dst A s b)) n
  omega
/-! Floyd -/
def fwE (A : Nat → Nat → Bool) : Nat → Nat → Nat → Nat → Prop
  | 0, a, b, d => (a = b ∧ d = 0) ∨ (A a b = true ∧ d = 1)
  | c + 1, a, b, d => fwE A c a b d ∨ ∃ d1 d2, fwE A c a c d1 ∧ fwE A c c b d2 ∧ d = d1 + d2
theorem fwE_up {A : Nat → Nat → Bool} {c a b d : Nat} (h : fwE A c a b d) : fwE A (c + 1) a b d := Or.inl h
theorem fwE_0 {A : Nat → Nat → Bool} {a b d : Nat} (h : fwE A 0 a b d) : ∀ c, fwE A c a b d
  | 0 => h
  | c + 1 => fwE_up (fwE_0 h c)
theorem fwE_tr {A : Nat → Nat → Bool} : ∀ c {a b x d1 d2 : Nat}, x < c → fwE A c a x d1 → fwE A c x b d2 → ∃ d, d ≤ d1 + d2 ∧ fwE A c a b d := by
  intro c
  induction c with
  | zero => intro a b x d1 d2 h; exact absurd h (Nat.not_lt_zero x)
  | succ c ih =>
    intro a b x d1 d2 hx h1 h2
    by_cases e : x = c
    · subst e
      have g1 : ∃ e1, e1 ≤ d1 ∧ fwE A x a x e1 := by
        rcases h1 with h | ⟨p, q, hp, _, e⟩
        · exact ⟨d1, Nat.le_refl _, h⟩
        · exact ⟨p, by omega, hp⟩
      have g2 : ∃ e2, e2 ≤ d2 ∧ fwE A x x b e2 := by
        rcases h2 with h | ⟨p, q, _, hq, e⟩
        · exact ⟨d2, Nat.le_refl _, h⟩
        · exact ⟨q, by omega, hq⟩
      obtain ⟨e1, l1, g1⟩ := g1
      obtain ⟨e2, l2, g2⟩ := g2
      exact ⟨e1 + e2, by omega, Or.inr ⟨e1, e2, g1, g2, rfl⟩⟩
    · have hx : x < c := by omega
      rcases h1 with h1 | ⟨p1, q1, hp1, hq1, e1⟩
      · rcases h2 with h2 | ⟨p2, q2, hp2, hq2, e2⟩
        · obtain ⟨d, hd, hE⟩ := ih hx h1 h2
          exact ⟨d, hd, Or.inl hE⟩
        · obtain ⟨d, hd, hE⟩ := ih hx h1 hp2
          exact ⟨d + q2, by omega, Or.inr ⟨d, q2, hE, hq2, rfl⟩⟩
      · rcases h2 with h2 | ⟨p2, q2, hp2, hq2, e2⟩
        · obtain ⟨d, hd, hE⟩ := ih hx hq1 h2
          exact ⟨p1 + d, by omega, Or.inr ⟨p1, d, hp1, hE, rfl⟩⟩
        · exact ⟨p1 + q2, by omega, Or.inr ⟨p1, q2, hp1, hq2, rfl⟩⟩
theorem wk_fwE {A : Nat → Nat → Bool} {n : Nat} (hA : ∀ a b, A a b = true → a < n ∧ b < n) : ∀ {d a b : Nat}, wk A d a b → ∃ e, e ≤ d ∧ fwE A n a b e := by
  intro d
  induction d with
  | zero => intro a b h; exact ⟨0, Nat.le_refl _, fwE_0 (Or.inl ⟨h, rfl⟩) n⟩
  | succ d ih =>
    intro a b h
    obtain ⟨c, hc, ha⟩ := h
    obtain ⟨e, he, hE⟩ := ih hc
    obtain ⟨e2, he2, hE2⟩ := fwE_tr n (hA _ _ ha).1 hE (fwE_0 (Or.inr ⟨ha, rfl⟩) n)
    exact ⟨e2, by omega, hE2⟩
def fwI (A : Nat → Nat → Bool) (c : Nat) (D : Nat → Nat → Nat) : Prop := ∀ a b, a < 8 → b < 8 → D a b ≤ 100 ∧ (D a b < 100 → wk A (D a b) a b) ∧ ∀ d, fwE A c a b d → D a b ≤ d
def fwP (A : Nat → Nat → Bool) (c : Nat) (D0 D : Nat → Nat → Nat) (i j : Nat) : Prop := ∀ a b, a < 8 → b < 8 → D a b ≤ D0 a b ∧ (D a b < 100 → wk A (D a b) a b) ∧ (a < i ∨ a = i ∧ b < j → D a b ≤ D0 a c + D0 c b)
theorem fwP_0 {A : Nat → Nat → Bool} {c : Nat} {D : Nat → Nat → Nat} (h : fwI A c D) : fwP A c D D 0 0 := fun a b ha hb => ⟨Nat.le_refl _, (h a b ha hb).2.1, fun q => by omega⟩
theorem fwP_row {A : Nat → Nat → Bool} {c i : Nat} {D0 D : Nat → Nat → Nat} (h : fwP A c D0 D i 8) : fwP A c D0 D (i + 1) 0 := fun a b ha hb => ⟨(h a b ha hb).1, (h a b ha hb).2.1, fun q => (h a b ha hb).2.2 (by omega)⟩
theorem fwP_end {A : Nat → Nat → Bool} {c : Nat} {D0 D : Nat → Nat → Nat} (hc : c < 8) (h0 : fwI A c D0) (h : fwP A c D0 D 8 0) : fwI A (c + 1) D := by
  intro a b ha hb
  obtain ⟨h1, h2, h3⟩ := h a b ha hb
  refine ⟨Nat.le_trans h1 (h0 a b ha hb).1, h2, fun d hd => ?_⟩
  rcases hd with hd | ⟨d1, d2, g1, g2, e⟩
  · exact Nat.le_trans h1 ((h0 a b ha hb).2.2 d hd)
  · have q1 := (h0 a c ha hc).2.2 d1 g1
    have q2 := (h0 c b hc hb).2.2 d2 g2
    have := h3 (Or.inl ha)
    omega
theorem fwP_st {A : Nat → Nat → Bool} {c i j v : Nat} {D0 D : Nat → Nat → Nat} (hc : c < 8) (hi : i < 8) (hj : j < 8) (h0 : fwI A c D0) (h : fwP A c D0 D i j) (hv : v = if D i c + D c j < D i j then D i c + D c j else D i j) : fwP A c D0 (x_u2 D i j v) i (j + 1) := by
  have q1 := h i c hi hc
  have q2 := h c j hc hj
  have q3 := h i j hi hj
  have q4 := (h0 i j hi hj).1
  have hv1 : v ≤ D i j := by rw [hv]; split <;> omega
  have hv2 : v ≤ D i c + D c j := by rw [hv]; split <;> omega
  have hvw : v < 100 → wk A v i j := by
    intro hlt
    by_cases hs : D i c + D c j < D i j
    · rw [if_pos hs] at hv
      rw [hv]
      exact wk_tr (q1.2.1 (by omega)) (q2.2.1 (by omega))
    · rw [if_neg hs] at hv
      rw [hv]
      exact q3.2.1 (by omega)
  intro a b ha hb
  by_cases e : a = i ∧ b = j
  · obtain ⟨e1, e2⟩ := e
    subst e1 e2
    simp only [x_u2, and_self, if_true]
    exact ⟨by omega, hvw, fun _ => by omega⟩
  · simp only [x_u2, if_neg e]
    obtain ⟨r1, r2, r3⟩ := h a b ha hb
    refine ⟨r1, r2, fun q => r3 ?_⟩
    omega
theorem fwI_0 {A : Nat → Nat → Bool} {D : Nat → Nat → Nat} (h : ∀ a b, a < 8 → b < 8 → D a b = if a = b then 0 else if A a b = true then 1 else 100) : fwI A 0 D := by
  intro a b ha hb
  rw [h a b ha hb]
  by_cases e : a = b
  · rw [if_pos e]
    exact ⟨by omega, fun _ => e, fun _ _ => Nat.zero_le _⟩
  · rw [if_neg e]
    by_cases hA : A a b = true
    · rw [if_pos hA]
      refine ⟨by omega, fun _ => wk_1 hA, fun d hd => ?_⟩
      rcases hd with ⟨q, _⟩ | ⟨_, q⟩
      · exact absurd q e
      · omega
    · rw [if_neg hA]
      refine ⟨by omega, fun q => absurd q (by omega), fun d hd => ?_⟩
      rcases hd with ⟨q, _⟩ | ⟨q, _⟩
      · exact absurd q e
      · exact absurd q hA
theorem fwI_8 {A : Nat → Nat → Bool} (hA : ∀ a b, A a b = true → a < 8 ∧ b < 8) {D : Nat → Nat → Nat} (h : fwI A 8 D) {a b : Nat} (ha : a < 8) (hb : b < 8) : D a b = dst A a b := by
  obtain ⟨h1, h2, h3⟩ := h a b ha hb
  refine dst_un h1 h2 (fun d hd => ?_)
  obtain ⟨e, he, hE⟩ := wk_fwE hA hd
  exact Nat.le_trans (h3 e hE) he
/-! in breadth -/
noncomputable def fB (A : Nat → Nat → Bool) (s d b : Nat) : Int32 := if dst A s b ≤ d then nI (dst A s b) else -9
noncomputable def fD (A : Nat → Nat → Bool) (s b : Nat) : Int32 := if dst A s b < 100 then nI (dst A s b) else -9
theorem n9_ne {n : Nat} (h : n < 2 ^ 31) : ¬ nI n = -9 := by
  intro e
  have := congrArg Int32.toInt e
  rw [nI_toInt h] at this
  have e9 : (-9 : Int32).toInt = -9 := by decide
  omega
theorem n9_ne' {n : Nat} (h : n < 2 ^ 31) : ¬ -9 = nI n := fun e => n9_ne h e.symm
def bfP (A : Nat → Nat → Bool) (s d : Nat) (F : Nat → Int32) (i j : Nat) : Prop := ∀ b, b < 8 → (F b = fB A s d b ∨ F b = fB A s (d + 1) b) ∧ (∀ a, (a < i ∨ a = i ∧ b < j) → dst A s a = d → A a b = true → F b = fB A s (d + 1) b)
theorem fB_at {A : Nat → Nat → Bool} {s d e a : Nat} (hd : d < 100) (he : e = d ∨ e = d + 1) : fB A s e a = nI d ↔ dst A s a = d := by
  have hle := dst_le (A := A) (a := s) (b := a)
  unfold fB
  by_cases h : dst A s a ≤ e
  · rw [if_pos h, nI_eq (by omega) (by omega)]
  · rw [if_neg h]
    constructor
    · intro q; exact absurd q (n9_ne' (by omega))
    · intro q; omega
theorem bfP_at {A : Nat → Nat → Bool} {s d i j a : Nat} {F : Nat → Int32} (hd : d < 100) (h : bfP A s d F i j) (ha : a < 8) : F a = nI d ↔ dst A s a = d := by
  rcases (h a ha).1 with e | e
  · rw [e]; exact fB_at hd (Or.inl rfl)
  · rw [e]; exact fB_at hd (Or.inr rfl)
theorem bfP_0 {A : Nat → Nat → Bool} {s d : Nat} {F : Nat → Int32} (h : ∀ b, b < 8 → F b = fB A s d b) : bfP A s d F 0 0 := fun b hb => ⟨Or.inl (h b hb), fun a q => by omega⟩
theorem bfP_row {A : Nat → Nat → Bool} {s d i j n : Nat} {F : Nat → Int32} (hA : ∀ a b, A a b = true → a < n ∧ b < n) (h : bfP A s d F i j) (hj : n ≤ j ∨ dst A s i ≠ d) : bfP A s d F (i + 1) 0 := fun b hb => ⟨(h b hb).1, fun a q hd ha => (h b hb).2 a (by
  by_cases e : a = i
  · subst e
    rcases hj with hj | hj
    · exact Or.inr ⟨rfl, Nat.lt_of_lt_of_le (hA _ _ ha).2 hj⟩
    · exact absurd hd hj
  · exact Or.inl (by omega)) hd ha⟩
theorem fB_same {A : Nat → Nat → Bool} {s d b : Nat} (h : dst A s b ≠ d + 1) : fB A s (d + 1) b = fB A s d b := by
  unfold fB
  by_cases h1 : dst A s b ≤ d
  · rw [if_pos h1, if_pos (by omega)]
  · rw [if_neg h1, if_neg (by omega)]
theorem bfP_st {A : Nat → Nat → Bool} {s d i j : Nat} {F : Nat → Int32} {v : Int32} (hd : d < 90) (hi : dst A s i = d) (hj : j < 8) (h : bfP A s d F i j) (hv : v = if A i j = true ∧ F j = -9 then nI d + 1 else F j) : bfP A s d (fun b => if b = j then v else F b) i (j + 1) := by
  intro b hb
  have hle := dst_le (A := A) (a := s) (b := j)
  by_cases e : b = j
  · subst e
    simp only [if_true]
    by_cases hA : A i b = true
    · have h1 := dst_st (s := s) hA
      have hv' : v = fB A s (d + 1) b := by
        by_cases h9 : F b = -9
        · rw [if_pos ⟨hA, h9⟩] at hv
          have h2 : ¬ dst A s b ≤ d := by
            intro q
            rcases (h b hb).1 with e | e <;> rw [h9] at e <;> unfold fB at e
            · rw [if_pos q] at e; exact n9_ne' (by omega) e
            · rw [if_pos (by omega)] at e; exact n9_ne' (by omega) e
          unfold fB
          rw [if_pos (by omega), hv, show dst A s b = d + 1 by omega, nI_1]
        · rw [if_neg (fun q => h9 q.2)] at hv
          rw [hv]
          rcases (h b hb).1 with e | e
          · by_cases h2 : dst A s b = d + 1
            · unfold fB at e
              rw [if_neg (by omega)] at e
              exact absurd e h9
            · rw [fB_same h2]; exact e
          · exact e
      exact ⟨Or.inr hv', fun _ _ _ _ => hv'⟩
    · rw [if_neg (fun q => hA q.1)] at hv
      rw [hv]
      refine ⟨(h b hb).1, fun a q hda haa => (h b hb).2 a ?_ hda haa⟩
      by_cases e : a = i
      · subst e; exact absurd haa hA
      · omega
  · simp only [if_neg e]
    exact ⟨(h b hb).1, fun a q hda haa => (h b hb).2 a (by omega) hda haa⟩
theorem bfP_end {A : Nat → Nat → Bool} {s d n : Nat} {F : Nat → Int32} (hd : d < 90) (hA : ∀ a b, A a b = true → a < n ∧ b < n) (h : bfP A s d F n 0) {b : Nat} (hb : b < 8) : F b = fB A s (d + 1) b := by
  by_cases e : dst A s b = d + 1
  · obtain ⟨c, hc, ha⟩ := dst_pr e (by omega)
    exact (h b hb).2 c (Or.inl (hA _ _ ha).1) hc ha
  · rcases (h b hb).1 with q | q
    · rw [fB_same e]; exact q
    · exact q
theorem fB_fin {A : Nat → Nat → Bool} {s n b : Nat} (hA : ∀ a b, A a b = true → a < n ∧ b < n) (hs : s < n) (hn : n ≤ 8) : fB A s n b = fD A s b := by
  unfold fB fD
  by_cases h : dst A s b < 100
  · have := dst_sm hA hs h
    rw [if_pos h, if_pos (by omega)]
  · rw [if_neg h, if_neg (by omega)]
theorem fB_ini {A : Nat → Nat → Bool} {s b : Nat} : fB A s 0 b = if b = s then 0 else -9 := by
  unfold fB
  by_cases h : b = s
  · have := (dst_0 (A := A)).mpr h.symm
    rw [if_pos h, if_pos (by omega), this]
    rfl
  · rw [if_neg h, if_neg (fun q => h (dst_0.mp (Nat.le_zero.mp q)).symm)]
