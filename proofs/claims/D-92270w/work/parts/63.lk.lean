set_option maxRecDepth 100000
/-- how many bits -/
def pc1 (x : Int32) : Int32 := x - ((x.toUInt32 >>> (Int32.toUInt32 1 &&& Int32.toUInt32 31)).toInt32 &&& 1431655765)
def pc2 (x : Int32) : Int32 := (x &&& 858993459) + ((x.toUInt32 >>> (Int32.toUInt32 2 &&& Int32.toUInt32 31)).toInt32 &&& 858993459)
def pc3 (x : Int32) : Int32 := (x + (x.toUInt32 >>> (Int32.toUInt32 4 &&& Int32.toUInt32 31)).toInt32) &&& 252645135
def pc4 (x : Int32) : Int32 := x + (x.toUInt32 >>> (Int32.toUInt32 8 &&& Int32.toUInt32 31)).toInt32
def pc5 (x : Int32) : Int32 := x + (x.toUInt32 >>> (Int32.toUInt32 16 &&& Int32.toUInt32 31)).toInt32
def pc (x : Int32) : Int32 := pc5 (pc4 (pc3 (pc2 (pc1 x)))) &&& 63
theorem c_bitCount {S : xH} {x : Int32} {Q : Int32 → Prop} : w_J1_bitCount S x Q = Q (pc x) := by
  simp only [w_J1_bitCount, nm_eq]
  rfl
theorem pc_sm : ∀ n, n < 11 → ∀ q, q < 2 ^ n → sm (bt (nI q)) n = pc (nI q) := by decide +kernel
theorem pc_n : ∀ q, q < 1024 → ∃ k, k < 11 ∧ pc (nI q) = nI k := by decide +kernel
theorem btb : ∀ q, q < 1024 → ∀ s, s < 10 → bt (nI q) s = if q.testBit s then 1 else 0 := by decide +kernel
theorem nI_bit (a i : Nat) : (nI a).toBitVec.getLsbD i = (decide (i < 32) && a.testBit i) := BitVec.getLsbD_ofNat 32 a i
theorem mskI {a b : Nat} : ((nI a) &&& ((nI b) ^^^ (-1)) = 0) ↔ ∀ i, i < 32 → a.testBit i = true → b.testBit i = true := by
  rw [← Int32.toBitVec_inj]
  have e : (nI a &&& (nI b ^^^ (-1))).toBitVec = (nI a).toBitVec &&& ((nI b).toBitVec ^^^ BitVec.allOnes 32) := by
    rw [Int32.toBitVec_and, Int32.toBitVec_xor]
    rfl
  rw [e]
  constructor
  · intro h i hi ha
    have := congrArg (fun v => BitVec.getLsbD v i) h
    simp only [BitVec.getLsbD_and, BitVec.getLsbD_xor, nI_bit, BitVec.getLsbD_allOnes, hi, ha, decide_true, Bool.true_and, Bool.xor_true] at this
    have z : (Int32.toBitVec 0).getLsbD i = false := by
      show (0#32).getLsbD i = false
      simp
    rw [z] at this
    simpa using this
  · intro h
    refine BitVec.eq_of_getLsbD_eq (fun i hi => ?_)
    have z : (Int32.toBitVec 0).getLsbD i = false := by
      show (0#32).getLsbD i = false
      simp
    rw [z, BitVec.getLsbD_and, BitVec.getLsbD_xor, nI_bit, nI_bit, BitVec.getLsbD_allOnes]
    simp only [hi, decide_true, Bool.true_and, Bool.xor_true]
    cases ha : a.testBit i
    · rfl
    · rw [h i hi ha]
      rfl
theorem nI_or (a b : Nat) : nI a ||| nI b = nI (a ||| b) := by
  rw [← Int32.toBitVec_inj, Int32.toBitVec_or]
  refine BitVec.eq_of_getLsbD_eq (fun i hi => ?_)
  rw [BitVec.getLsbD_or, nI_bit, nI_bit, nI_bit, Nat.testBit_or]
  simp [hi]
def mkN (M : xM) : Nat → Nat
  | 0 => 0
  | i + 1 => mkN M i ||| (if M2 M 14 i = 0 ∧ M2 M 10 i = 0 then 2 ^ i else 0)
theorem mkN_b {M : xM} {s : Nat} : ∀ i, (mkN M i).testBit s = true ↔ s < i ∧ M2 M 14 s = 0 ∧ M2 M 10 s = 0
  | 0 => by simp [mkN]
  | i + 1 => by
    rw [mkN, Nat.testBit_or, Bool.or_eq_true, mkN_b i]
    by_cases c : M2 M 14 i = 0 ∧ M2 M 10 i = 0
    · rw [if_pos c, Nat.testBit_two_pow]
      simp only [decide_eq_true_eq]
      constructor
      · rintro (⟨h1, h2⟩ | rfl)
        · exact ⟨by omega, h2⟩
        · exact ⟨by omega, c⟩
      · rintro ⟨h1, h2⟩
        by_cases e : i = s
        · exact Or.inr e
        · exact Or.inl ⟨by omega, h2⟩
    · rw [if_neg c, Nat.zero_testBit]
      constructor
      · rintro (⟨h1, h2⟩ | h)
        · exact ⟨by omega, h2⟩
        · exact absurd h (by decide)
      · rintro ⟨h1, h2⟩
        by_cases e : s = i
        · subst e; exact absurd h2 c
        · exact Or.inl ⟨by omega, h2⟩
section
variable {G : xG} {S : xH} {o : Nat} {M : xM} {x y w : Int32} {s q : Nat} {Q : Int32 → Prop}
theorem flS_m {n : Nat} (hn : n ≤ 10) (hq : q < 2 ^ n) : flS G M (nI q) n ↔ (nI q &&& (nI (mkN M n) ^^^ (-1)) = 0) := by
  have p9 : 2 ^ n ≤ 2 ^ 10 := Nat.pow_le_pow_right (by decide) hn
  rw [mskI]
  constructor
  · intro h i hi hb
    have hin : i < n := by
      by_cases l : i < n
      · exact l
      · have : q.testBit i = false := Nat.testBit_lt_two_pow (Nat.lt_of_lt_of_le hq (Nat.pow_le_pow_right (by decide) (by omega)))
        rw [this] at hb
        exact absurd hb (by decide)
    rw [mkN_b]
    exact ⟨hin, h i hin (by rw [btb q (by omega) i (by omega), hb]; rfl)⟩
  · intro h i hi hb
    rw [btb q (by omega) i (by omega)] at hb
    have t : q.testBit i = true := by
      cases e : q.testBit i
      · rw [e] at hb; exact absurd hb (by decide)
      · rfl
    exact ((mkN_b n).mp (h i (by omega) t)).2
end
