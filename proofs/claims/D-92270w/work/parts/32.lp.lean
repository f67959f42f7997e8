set_option maxRecDepth 100000
/-! ===== texts: read from the left, by scanning for what is lacking; judged ===== -/
def dgt (v : Int32) : Bool := rg v 48 57
def hsD (v : Int32) : Bool := decide (v = 97) || decide (v = 65) || decide (v = 121) || decide (v = 89) || decide (v = 116)
def psh (v : Int32) : Bool := decide (v = 112) || decide (v = 115) || decide (v = 104)
def two (v : Int32) : Bool := decide (v = 38) || decide (v = 124)
def nu (sg : Nat → Int32) (i : Nat) : Int32 := 10 * (sg i - 48) + (sg (i + 1) - 48)
def pN (sg : Nat → Int32) (c i : Nat) : Bool × Nat := if i < c ∧ dgt (sg i) = true then (if i + 1 < c ∧ dgt (sg (i + 1)) = true then (true, i + 2) else (false, i + 1)) else (false, i)
def pT (sg : Nat → Int32) (c : Nat) : Nat → Nat → Bool × Nat
  | 0, i => (false, i)
  | f + 1, i => if i < c then
      (if two (sg i) = true then (if (pT sg c f (i + 1)).1 = true then pT sg c f (pT sg c f (i + 1)).2 else pT sg c f (i + 1))
       else if sg i = 33 then pT sg c f (i + 1)
       else if hsD (sg i) = true then pN sg c (i + 1)
       else if psh (sg i) = true then (true, i + 1) else (false, i))
    else (false, i)
def fS (sg : Nat → Int32) (c : Nat) : Nat → Nat → Nat → Nat → Int32
  | 0, _, lk, dg => if lk = 0 ∧ dg = 0 then -9 else nI c
  | r + 1, k, lk, dg => if 0 < dg then (if dgt (sg k) = true then fS sg c r (k + 1) lk (dg - 1) else nI k)
      else if lk = 0 then nI k
      else if two (sg k) = true then fS sg c r (k + 1) (lk + 1) 0
      else if hsD (sg k) = true then fS sg c r (k + 1) (lk - 1) 2
      else if psh (sg k) = true then fS sg c r (k + 1) (lk - 1) 0
      else if sg k = 33 then fS sg c r (k + 1) lk 0
      else nI k
theorem pN_bd {sg : Nat → Int32} {c i : Nat} (h : i ≤ c) : i ≤ (pN sg c i).2 ∧ (pN sg c i).2 ≤ c ∧ ((pN sg c i).1 = true → i + 2 = (pN sg c i).2) := by
  unfold pN
  split
  · split
    · exact ⟨by simp, by simp; omega, fun _ => rfl⟩
    · exact ⟨by simp, by simp; omega, fun q => absurd q (by simp)⟩
  · exact ⟨Nat.le_refl _, h, fun q => absurd q (by simp)⟩
theorem pT_bd {sg : Nat → Int32} {c : Nat} : ∀ f i, i ≤ c → i ≤ (pT sg c f i).2 ∧ (pT sg c f i).2 ≤ c ∧ ((pT sg c f i).1 = true → i < (pT sg c f i).2 ∧ i < c) := by
  intro f
  induction f with
  | zero => intro i h; exact ⟨Nat.le_refl _, h, fun q => absurd q (by simp [pT])⟩
  | succ f ih =>
    intro i h
    rw [pT]
    by_cases hi : i < c
    · rw [if_pos hi]
      have a := ih (i + 1) (by omega)
      by_cases h2 : two (sg i) = true
      · rw [if_pos h2]
        by_cases hk : (pT sg c f (i + 1)).1 = true
        · rw [if_pos hk]
          have b := ih (pT sg c f (i + 1)).2 a.2.1
          exact ⟨by omega, b.2.1, fun q => ⟨by have := (b.2.2 q).1; omega, hi⟩⟩
        · rw [if_neg hk]
          exact ⟨by omega, a.2.1, fun q => absurd q hk⟩
      · rw [if_neg h2]
        by_cases h3 : sg i = 33
        · rw [if_pos h3]
          exact ⟨by omega, a.2.1, fun q => ⟨by omega, hi⟩⟩
        · rw [if_neg h3]
          by_cases h4 : hsD (sg i) = true
          · rw [if_pos h4]
            have b := pN_bd (sg := sg) (c := c) (i := i + 1) (by omega)
            exact ⟨by omega, b.2.1, fun q => ⟨by omega, hi⟩⟩
          · rw [if_neg h4]
            by_cases h5 : psh (sg i) = true
            · rw [if_pos h5]
              exact ⟨by simp, by simp; omega, fun _ => ⟨by simp, hi⟩⟩
            · rw [if_neg h5]
              exact ⟨Nat.le_refl _, h, fun q => absurd q (by simp)⟩
    · rw [if_neg hi]
      exact ⟨Nat.le_refl _, h, fun q => absurd q (by simp)⟩
theorem fS_pN {sg : Nat → Int32} {c i L : Nat} (h : i ≤ c) : fS sg c (c - i) i L 2 = if (pN sg c i).1 = true then fS sg c (c - (pN sg c i).2) (pN sg c i).2 L 0 else nI (pN sg c i).2 := by
  by_cases hi : i < c
  · obtain ⟨r, hr⟩ : ∃ r, c - i = r + 1 := ⟨c - i - 1, by omega⟩
    rw [hr, fS, if_pos (show 0 < 2 by decide)]
    by_cases hd : dgt (sg i) = true
    · rw [if_pos hd]
      by_cases hi2 : i + 1 < c
      · obtain ⟨r', hr'⟩ : ∃ r', r = r' + 1 := ⟨r - 1, by omega⟩
        rw [hr', fS, if_pos (show 0 < 2 - 1 by decide)]
        by_cases hd2 : dgt (sg (i + 1)) = true
        · have e : pN sg c i = (true, i + 2) := by rw [pN, if_pos ⟨hi, hd⟩, if_pos ⟨hi2, hd2⟩]
          rw [e, if_pos hd2, if_pos rfl, show r' = c - (i + 2) by omega]
        · have e : pN sg c i = (false, i + 1) := by rw [pN, if_pos ⟨hi, hd⟩, if_neg (fun q => hd2 q.2)]
          rw [e, if_neg hd2, if_neg (by simp)]
      · have e : pN sg c i = (false, i + 1) := by rw [pN, if_pos ⟨hi, hd⟩, if_neg (fun q => hi2 q.1)]
        rw [e, if_neg (by simp), show r = 0 by omega, fS, if_neg (by omega)]
        show nI c = nI (i + 1)
        rw [show c = i + 1 by omega]
    · have e : pN sg c i = (false, i) := by rw [pN, if_neg (fun q => hd q.2)]
      rw [e, if_neg hd, if_neg (by simp)]
  · have e : i = c := by omega
    subst e
    have e : pN sg i i = (false, i) := by rw [pN, if_neg (fun q => absurd q.1 (Nat.lt_irrefl _))]
    rw [e, if_neg (by simp), Nat.sub_self, fS, if_neg (by omega)]
theorem fS_pT {sg : Nat → Int32} {c : Nat} : ∀ f i L, i ≤ c → c - i < f → fS sg c (c - i) i (L + 1) 0 = if (pT sg c f i).1 = true then fS sg c (c - (pT sg c f i).2) (pT sg c f i).2 L 0 else nI (pT sg c f i).2 := by
  intro f
  induction f with
  | zero => intro i L h hf; exact absurd hf (Nat.not_lt_zero _)
  | succ f ih =>
    intro i L h hf
    by_cases hi : i < c
    · obtain ⟨r, hr⟩ : ∃ r, c - i = r + 1 := ⟨c - i - 1, by omega⟩
      have er : r = c - (i + 1) := by omega
      have a := pT_bd (sg := sg) f (i + 1) (show i + 1 ≤ c by omega)
      rw [hr, fS, pT, if_neg (by omega), if_neg (by omega), if_pos hi]
      by_cases h2 : two (sg i) = true
      · rw [if_pos h2, if_pos h2, er, ih (i + 1) (L + 1) (by omega) (by omega)]
        by_cases hk : (pT sg c f (i + 1)).1 = true
        · rw [if_pos hk, if_pos hk]
          exact ih _ L a.2.1 (by omega)
        · rw [if_neg hk, if_neg hk, if_neg hk]
      · rw [if_neg h2, if_neg h2]
        by_cases h3 : sg i = 33
        · have n4 : ¬ hsD (sg i) = true := by rw [h3]; decide
          have n5 : ¬ psh (sg i) = true := by rw [h3]; decide
          rw [if_neg n4, if_neg n5, if_pos h3, if_pos h3, er]
          exact ih (i + 1) L (by omega) (by omega)
        · rw [if_neg h3, if_neg h3]
          by_cases h4 : hsD (sg i) = true
          · rw [if_pos h4, if_pos h4, er]
            exact fS_pN (by omega)
          · rw [if_neg h4, if_neg h4]
            by_cases h5 : psh (sg i) = true
            · rw [if_pos h5, if_pos h5, if_pos rfl, er]
              rfl
            · rw [if_neg h5, if_neg h5, if_neg (by simp)]
    · have e : i = c := by omega
      subst e
      rw [pT, if_neg (Nat.lt_irrefl _), if_neg (by simp), Nat.sub_self, fS, if_neg (by omega)]
/-- the first fault of a text, -9: none -/
def flt (sg : Nat → Int32) (c : Nat) : Int32 := if (pT sg c 64 0).1 = true then (if (pT sg c 64 0).2 < c then nI (pT sg c 64 0).2 else -9) else nI (pT sg c 64 0).2
theorem fS_flt {sg : Nat → Int32} {c : Nat} (hc : c ≤ 60) : fS sg c c 0 1 0 = flt sg c := by
  have h := fS_pT (sg := sg) (c := c) 64 0 0 (by omega) (by omega)
  have b := pT_bd (sg := sg) (c := c) 64 0 (by omega)
  rw [Nat.sub_zero] at h
  rw [h]
  unfold flt
  by_cases hk : (pT sg c 64 0).1 = true
  · rw [if_pos hk, if_pos hk]
    by_cases hl : (pT sg c 64 0).2 < c
    · rw [if_pos hl]
      obtain ⟨r, hr⟩ : ∃ r, c - (pT sg c 64 0).2 = r + 1 := ⟨c - (pT sg c 64 0).2 - 1, by omega⟩
      rw [hr, fS, if_neg (by omega), if_pos rfl]
    · rw [if_neg hl, show c - (pT sg c 64 0).2 = 0 by omega, fS, if_pos ⟨rfl, rfl⟩]
  · rw [if_neg hk, if_neg hk]
theorem flt_none {sg : Nat → Int32} {c : Nat} (hc : c ≤ 60) : flt sg c = -9 ↔ (pT sg c 64 0).1 = true ∧ (pT sg c 64 0).2 = c := by
  have b := pT_bd (sg := sg) (c := c) 64 0 (by omega)
  unfold flt
  by_cases hk : (pT sg c 64 0).1 = true
  · rw [if_pos hk]
    by_cases hl : (pT sg c 64 0).2 < c
    · rw [if_pos hl]
      exact ⟨fun q => absurd q (n9_ne (by omega)), fun q => by omega⟩
    · rw [if_neg hl]
      exact ⟨fun _ => ⟨hk, by omega⟩, fun _ => rfl⟩
  · rw [if_neg hk]
    exact ⟨fun q => absurd q (n9_ne (by omega)), fun q => absurd q.1 hk⟩
/-- what a text says, by what each test says of a sign and a number -/
def vT (sg : Nat → Int32) (c : Nat) (te : Int32 → Int32 → Bool) : Nat → Nat → Bool
  | 0, _ => false
  | f + 1, i => if sg i = 38 then vT sg c te f (i + 1) && vT sg c te f (pT sg c f (i + 1)).2
      else if sg i = 124 then vT sg c te f (i + 1) || vT sg c te f (pT sg c f (i + 1)).2
      else if sg i = 33 then !vT sg c te f (i + 1)
      else te (sg i) (nu sg (i + 1))
