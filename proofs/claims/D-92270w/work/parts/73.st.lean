set_option maxRecDepth 100000
/-! ===== the start: what stands after the two constructors ===== -/
/-- an object under construction: its arrays so far (field, address, tag, length); all that stood in S5 stands -/
def obV (S5 S : xH) (o t : Nat) (cs : List (Nat × Nat × Nat × Nat)) : Prop := xT S o = t ∧ t ≠ 0 ∧ (∀ e, e ∈ cs → xR S e.1 o = some e.2.1 ∧ xT S e.2.1 = e.2.2.1 ∧ xL S e.2.1 = e.2.2.2 ∧ (e.2.2.1 ≤ 102 → xA S e.2.1 = (fun _ => 0)) ∧ e.2.2.1 ≠ 0) ∧ (cs.map (fun e => e.2.1)).Nodup ∧ ∀ x, xT S5 x ≠ 0 → x ≠ o → eqc S5 S x
section
variable {S5 S : xH} {o t a t' n f : Nat} {cs : List (Nat × Nat × Nat × Nat)} {v : Int32}
theorem obV_p (V : obV S5 S o t cs) (ha : xT S a = 0) : o ≠ a := fun e => by
  have := V.1
  rw [e, ha] at this
  exact V.2.1 this.symm
theorem obV_t (V : obV S5 S o t cs) (ha : xT S a = 0) : xT (sV S a t' n) o = t := (eqc_sV (obV_p V ha)).1.trans V.1
theorem obV_z (V : obV S5 S o t cs) (ha : xT S a = 0) : xT S5 a = 0 := by
  by_cases z : xT S5 a = 0
  · exact z
  · have := (V.2.2.2.2 a z (obV_p V ha).symm).1
    rw [ha] at this
    exact absurd this.symm z
theorem obV_ne (V : obV S5 S o t cs) (ha : xT S a = 0) {e : Nat × Nat × Nat × Nat} (he : e ∈ cs) : e.2.1 ≠ a := fun q => by
  obtain ⟨_, h2, _, _, h5⟩ := V.2.2.1 e he
  rw [q, ha] at h2
  exact h5 h2.symm
theorem obV_v (V : obV S5 S o t cs) (ha : xT S a = 0) (ht : t' ≠ 0) (hf : ∀ e, e ∈ cs → e.1 ≠ f) : obV S5 (sR (sV S a t' n) f o (some a)) o t ((f, a, t', n) :: cs) := by
  refine ⟨?_, V.2.1, fun e he => ?_, ?_, fun x hx ho => ?_⟩
  · rw [xT_sR]; exact obV_t V ha
  · rcases List.mem_cons.mp he with rfl | he
    · exact ⟨xR_at _ _ _ _, by rw [xT_sR]; exact xT_nV, by rw [xL_sR]; exact xL_nV, fun _ => by rw [xA_sR]; exact xA_nV, ht⟩
    · have ne := obV_ne V ha he
      obtain ⟨h1, h2, h3, h4, h5⟩ := V.2.2.1 e he
      have q := eqc_sV (S := S) (t := t') (n := n) ne
      refine ⟨?_, ?_, ?_, fun z => ?_, h5⟩
      · rw [xR_nf _ _ (hf e he), xR_sV]; exact h1
      · rw [xT_sR]; exact q.1.trans h2
      · rw [xL_sR]; exact q.2.1.trans h3
      · rw [xA_sR]; exact q.2.2.2.2.1.trans (h4 z)
  · rw [List.map_cons, List.nodup_cons]
    refine ⟨fun z => ?_, V.2.2.2.1⟩
    obtain ⟨e, he, q⟩ := List.mem_map.mp z
    exact obV_ne V ha he q
  · have q := V.2.2.2.2 x hx ho
    have ne : x ≠ a := fun z => by
      have := q.1
      rw [z, ha] at this
      rw [z] at hx
      exact hx this.symm
    exact (q.trans (eqc_sV ne)).trans (eqc_sR ho)
theorem obV_i (V : obV S5 S o t cs) : obV S5 (sI S f o v) o t cs := ⟨V.1, V.2.1, V.2.2.1, V.2.2.2.1, fun x hx ho => (V.2.2.2.2 x hx ho).trans (eqc_sI ho)⟩
end
/-! eight rows at once -/
section
variable {S : xH} {a b i : Nat} {g : Nat → Nat}
theorem mz_y (hi : i < 8) : (List.range 8).any (fun j => g i == g j) = true := List.any_eq_true.mpr ⟨i, List.mem_range.mpr hi, by simp⟩
theorem mz_n (h : ∀ j, j < 8 → b ≠ g j) : ¬ (List.range 8).any (fun j => b == g j) = true := fun z => by
  obtain ⟨j, hj, e⟩ := List.any_eq_true.mp z
  exact h j (List.mem_range.mp hj) (by simpa using e)
theorem mz_Ta : xT (sMZ S a g) a = 109 := by
  show (if a = a then 109 else _) = 109
  rw [if_pos rfl]
theorem mz_La : xL (sMZ S a g) a = 8 := by
  show (if a = a then 8 else _) = 8
  rw [if_pos rfl]
theorem mz_Qa (hi : i < 8) : xQ (sMZ S a g) a i = some (g i) := by
  show (if a = a then (fun i => if i < 8 then some (g i) else none) else xQ S a) i = some (g i)
  rw [if_pos rfl, if_pos hi]
theorem mz_Tg (hi : i < 8) (h : g i ≠ a) : xT (sMZ S a g) (g i) = 102 := by
  show (if g i = a then 109 else if (List.range 8).any (fun j => g i == g j) = true then 102 else xT S (g i)) = 102
  rw [if_neg h, if_pos (mz_y hi)]
theorem mz_Lg (hi : i < 8) (h : g i ≠ a) : xL (sMZ S a g) (g i) = 8 := by
  show (if g i = a then 8 else if (List.range 8).any (fun j => g i == g j) = true then 8 else xL S (g i)) = 8
  rw [if_neg h, if_pos (mz_y hi)]
theorem mz_Ag (hi : i < 8) : xA (sMZ S a g) (g i) = fun _ => 0 := by
  show (if (List.range 8).any (fun j => g i == g j) = true then (fun _ => 0) else xA S (g i)) = fun _ => 0
  rw [if_pos (mz_y hi)]
theorem mz_To (h1 : b ≠ a) (h2 : ∀ j, j < 8 → b ≠ g j) : xT (sMZ S a g) b = xT S b := by
  show (if b = a then 109 else if (List.range 8).any (fun j => b == g j) = true then 102 else xT S b) = xT S b
  rw [if_neg h1, if_neg (mz_n h2)]
theorem mz_I : xI (sMZ S a g) = xI S := Eq.trans rfl rfl
theorem mz_R : xR (sMZ S a g) = xR S := Eq.trans rfl rfl
end
theorem tg_le : ∀ k, k ∈ xm_ks → xm_tag k ≤ 102 := by decide +kernel
theorem tg_2 : ∀ k, k ∈ xm_ks → ¬ xm_tag k = 2 := by decide +kernel
/-- the model's start -/
def M0 : xM := (fun k => if k = 1 then 4 else if k = 25 then 10 else if k = 26 then 50 else 0, fun _ _ => 0)
theorem j0_ok : ∀ k, k < 39 → xm_tag k = 0 → (if 100 + k = 126 then (50 : Int32) else if 100 + k = 125 then 10 else if 100 + k = 101 then 4 else 0) = M1 M0 k := by decide +kernel
theorem c_start {S : xH} {o : Nat} (ho : xT S o = 0) {Q : xH → Prop} (q : ∀ S', (∃ G, Inv G S' o M0) → Q S') : w_X0_init 16 300 (sN S o 1) o Q := by
  unfold w_X0_init
  refine ⟨xT_nN, ?_⟩
  intro S1 e1
  have t1 : xT S1 o = 1 := by rw [e1, xT_sI]; exact xT_nN
  have J1 : ∀ f, xI S1 f o = if f = 50 then 4 else 0 := fun f => by
    rw [e1]
    by_cases e : f = 50
    · rw [e, if_pos rfl]; exact xI_at _ _ _ _
    · rw [if_neg e, xI_nf _ _ e]; exact xI_nN
  clear e1
  refine ⟨by decide, by decide, fun a g hz => ?_⟩
  obtain ⟨za, zg, zi⟩ := hz
  have oa : o ≠ a := fun e => by rw [e, za] at t1; exact absurd t1 (by decide)
  have og : ∀ j, j < 8 → o ≠ g j := fun j hj e => by rw [e, (zg j hj).1] at t1; exact absurd t1 (by decide)
  intro S4 e4
  have t4 : xT S4 o = 1 := by rw [e4, mz_To oa og]; exact t1
  have rows : ∀ i, i < 8 → xQ S4 a i = some (g i) ∧ xT S4 (g i) = 102 ∧ xL S4 (g i) = 8 ∧ xA S4 (g i) = (fun _ => 0) := fun i hi => by
    rw [e4]
    exact ⟨mz_Qa hi, mz_Tg hi (zg i hi).2, mz_Lg hi (zg i hi).2, mz_Ag hi⟩
  have a4 : xT S4 a = 109 ∧ xL S4 a = 8 := by rw [e4]; exact ⟨mz_Ta, mz_La⟩
  have J4 : ∀ f, xI S4 f o = if f = 50 then 4 else 0 := fun f => by rw [e4, mz_I]; exact J1 f
  clear e4 J1 t1
  refine ⟨t4, ?_⟩
  intro S5 e5
  have q5 : ∀ x, x ≠ o → eqc S4 S5 x := fun x hx => by rw [e5]; exact eqc_sR hx
  have V5 : obV S5 S5 o 1 [(51, a, 109, 8)] := by
    refine ⟨by rw [e5]; exact t4, by decide, fun e he => ?_, by simp, fun x _ _ => eqc.refl⟩
    rw [List.mem_singleton.mp he, e5]
    exact ⟨xR_at _ _ _ _, a4.1, a4.2, fun z => absurd z (show ¬ (109 : Nat) ≤ 102 by decide), (show (109 : Nat) ≠ 0 by decide)⟩
  have rows5 : ∀ i, i < 8 → xQ S5 a i = some (g i) ∧ xT S5 (g i) = 102 ∧ xL S5 (g i) = 8 ∧ xA S5 (g i) = (fun _ => 0) := fun i hi => by
    rw [e5]
    exact rows i hi
  have J5 : ∀ f, xI S5 f o = if f = 50 then 4 else 0 := fun f => by rw [e5, xI_sR]; exact J4 f
  have a5 : xT S5 a = 109 := by rw [e5]; exact a4.1
  clear e5 J4 t4 rows a4 q5
  refine ⟨by decide, by decide, fun a52 h52 => ?_⟩
  intro T6 u6
  refine ⟨by rw [u6]; exact obV_t V5 h52, ?_⟩
  intro S6 e6
  rw [u6] at e6
  have z52 := obV_z V5 h52
  have V6 : obV S5 S6 o 1 [(52, a52, 103, 40), (51, a, 109, 8)] := by rw [e6]; exact obV_v V5 h52 (by decide) (by simp)
  have J6 : ∀ f, xI S6 f o = if f = 50 then 4 else 0 := fun f => by rw [e6, xI_sR, xI_sV]; exact J5 f
  clear e6 J5 V5 h52 u6 T6
  refine ⟨V6.1, ?_⟩
  intro S7 e7
  have V7 : obV S5 S7 o 1 [(52, a52, 103, 40), (51, a, 109, 8)] := by rw [e7]; exact obV_i V6
  have J7 : ∀ f, xI S7 f o = if f = 55 then 10 else if f = 50 then 4 else 0 := fun f => by
    rw [e7]
    by_cases e : f = 55
    · rw [e, if_pos rfl]; exact xI_at _ _ _ _
    · rw [if_neg e, xI_nf _ _ e]; exact J6 f
  clear e7 J6 V6
  refine ⟨V7.1, ?_⟩
  intro S8 e8
  have V8 : obV S5 S8 o 1 [(52, a52, 103, 40), (51, a, 109, 8)] := by rw [e8]; exact obV_i V7
  have J8 : ∀ f, xI S8 f o = if f = 56 then 50 else if f = 55 then 10 else if f = 50 then 4 else 0 := fun f => by
    rw [e8]
    by_cases e : f = 56
    · rw [e, if_pos rfl]; exact xI_at _ _ _ _
    · rw [if_neg e, xI_nf _ _ e]; exact J7 f
  clear e8 J7 V7
  refine ⟨by decide, by decide, fun a57 h57 => ?_⟩
  intro T9 u9
  refine ⟨by rw [u9]; exact obV_t V8 h57, ?_⟩
  intro S9 e9
  rw [u9] at e9
  have z57 := obV_z V8 h57
  have V9 : obV S5 S9 o 1 [(57, a57, 104, 60), (52, a52, 103, 40), (51, a, 109, 8)] := by rw [e9]; exact obV_v V8 h57 (by decide) (by simp)
  have J9 : ∀ f, xI S9 f o = if f = 56 then 50 else if f = 55 then 10 else if f = 50 then 4 else 0 := fun f => by rw [e9, xI_sR, xI_sV]; exact J8 f
  clear e9 J8 V8 h57 u9 T9
  refine ⟨by decide, by decide, fun a59 h59 => ?_⟩
  intro T10 u10
  refine ⟨by rw [u10]; exact obV_t V9 h59, ?_⟩
  intro S10 e10
  rw [u10] at e10
  have z59 := obV_z V9 h59
  have V10 : obV S5 S10 o 1 [(59, a59, 105, 8), (57, a57, 104, 60), (52, a52, 103, 40), (51, a, 109, 8)] := by rw [e10]; exact obV_v V9 h59 (by decide) (by simp)
  have J10 : ∀ f, xI S10 f o = if f = 56 then 50 else if f = 55 then 10 else if f = 50 then 4 else 0 := fun f => by rw [e10, xI_sR, xI_sV]; exact J9 f
  clear e10 J9 V9 h59 u10 T10
  refine ⟨by decide, by decide, fun a61 h61 => ?_⟩
  intro T11 u11
  refine ⟨by rw [u11]; exact obV_t V10 h61, ?_⟩
  intro S11 e11
  rw [u11] at e11
  have z61 := obV_z V10 h61
  have V11 : obV S5 S11 o 1 [(61, a61, 106, 60), (59, a59, 105, 8), (57, a57, 104, 60), (52, a52, 103, 40), (51, a, 109, 8)] := by rw [e11]; exact obV_v V10 h61 (by decide) (by simp)
  have J11 : ∀ f, xI S11 f o = if f = 56 then 50 else if f = 55 then 10 else if f = 50 then 4 else 0 := fun f => by rw [e11, xI_sR, xI_sV]; exact J10 f
  clear e11 J10 V10 h61 u11 T11
  refine ⟨by decide, by decide, fun a64 h64 => ?_⟩
  intro T12 u12
  refine ⟨by rw [u12]; exact obV_t V11 h64, ?_⟩
  intro S12 e12
  rw [u12] at e12
  have z64 := obV_z V11 h64
  have V12 : obV S5 S12 o 1 [(64, a64, 107, 10), (61, a61, 106, 60), (59, a59, 105, 8), (57, a57, 104, 60), (52, a52, 103, 40), (51, a, 109, 8)] := by rw [e12]; exact obV_v V11 h64 (by decide) (by simp)
  have J12 : ∀ f, xI S12 f o = if f = 56 then 50 else if f = 55 then 10 else if f = 50 then 4 else 0 := fun f => by rw [e12, xI_sR, xI_sV]; exact J11 f
  clear e12 J11 V11 h64 u12 T12
  refine ⟨by decide, by decide, fun a66 h66 => ?_⟩
  intro T13 u13
  refine ⟨by rw [u13]; exact obV_t V12 h66, ?_⟩
  intro S13 e13
  rw [u13] at e13
  have z66 := obV_z V12 h66
  have V13 : obV S5 S13 o 1 [(66, a66, 108, 40), (64, a64, 107, 10), (61, a61, 106, 60), (59, a59, 105, 8), (57, a57, 104, 60), (52, a52, 103, 40), (51, a, 109, 8)] := by rw [e13]; exact obV_v V12 h66 (by decide) (by simp)
  have J13 : ∀ f, xI S13 f o = if f = 56 then 50 else if f = 55 then 10 else if f = 50 then 4 else 0 := fun f => by rw [e13, xI_sR, xI_sV]; exact J12 f
  clear e13 J12 V12 h66 u13 T13
  refine ⟨by decide, by decide, fun a68 h68 => ?_⟩
  intro T14 u14
  refine ⟨by rw [u14]; exact obV_t V13 h68, ?_⟩
  intro S14 e14
  rw [u14] at e14
  have z68 := obV_z V13 h68
  have V14 : obV S5 S14 o 1 [(68, a68, 101, 10), (66, a66, 108, 40), (64, a64, 107, 10), (61, a61, 106, 60), (59, a59, 105, 8), (57, a57, 104, 60), (52, a52, 103, 40), (51, a, 109, 8)] := by rw [e14]; exact obV_v V13 h68 (by decide) (by simp)
  have J14 : ∀ f, xI S14 f o = if f = 56 then 50 else if f = 55 then 10 else if f = 50 then 4 else 0 := fun f => by rw [e14, xI_sR, xI_sV]; exact J13 f
  clear e14 J13 V13 h68 u14 T14
  have w68 := V14.2.2.1 (68, a68, 101, 10) (by simp)
  have w66 := V14.2.2.1 (66, a66, 108, 40) (by simp)
  have w64 := V14.2.2.1 (64, a64, 107, 10) (by simp)
  have w61 := V14.2.2.1 (61, a61, 106, 60) (by simp)
  have w59 := V14.2.2.1 (59, a59, 105, 8) (by simp)
  have w57 := V14.2.2.1 (57, a57, 104, 60) (by simp)
  have w52 := V14.2.2.1 (52, a52, 103, 40) (by simp)
  have w51 := V14.2.2.1 (51, a, 109, 8) (by simp)
  have no : ∀ i, i < 8 → g i ≠ o := fun i hi e => og i hi e.symm
  have g68 : ∀ i, i < 8 → g i ≠ a68 := fun i hi e => by
    have := (rows5 i hi).2.1
    rw [e, z68] at this
    exact absurd this (by decide)
  have ec : ∀ i, i < 8 → eqc S5 S14 (g i) := fun i hi => V14.2.2.2.2 _ (by rw [(rows5 i hi).2.1]; decide) (no i hi)
  have ea : eqc S5 S14 a := V14.2.2.2.2 _ (by rw [a5]; decide) oa.symm
  have hr : ∃ r : Nat → Nat, r a68 = 2 ∧ ∀ i, i < 8 → r (g i) = i := by
    refine ⟨fun x => if x = a68 then 2 else if x = g 0 then 0 else if x = g 1 then 1 else if x = g 2 then 2 else if x = g 3 then 3 else if x = g 4 then 4 else if x = g 5 then 5 else if x = g 6 then 6 else 7, if_pos rfl, fun i hi => ?_⟩
    have ne : ∀ j, j < 8 → i ≠ j → g i ≠ g j := fun j hj h e => h (zi i j hi hj e)
    show (if g i = a68 then 2 else if g i = g 0 then 0 else if g i = g 1 then 1 else if g i = g 2 then 2 else if g i = g 3 then 3 else if g i = g 4 then 4 else if g i = g 5 then 5 else if g i = g 6 then 6 else 7) = i
    rw [if_neg (g68 i hi)]
    clear w51 w52 w57 w59 w61 w64 w66 w68 ec ea g68 rows5 zg og
    by_cases e100 : i = 0
    · rw [e100, if_pos rfl]
    rw [if_neg (ne 0 (by decide) e100)]
    by_cases e101 : i = 1
    · rw [e101, if_pos rfl]
    rw [if_neg (ne 1 (by decide) e101)]
    by_cases e102 : i = 2
    · rw [e102, if_pos rfl]
    rw [if_neg (ne 2 (by decide) e102)]
    by_cases e103 : i = 3
    · rw [e103, if_pos rfl]
    rw [if_neg (ne 3 (by decide) e103)]
    by_cases e104 : i = 4
    · rw [e104, if_pos rfl]
    rw [if_neg (ne 4 (by decide) e104)]
    by_cases e105 : i = 5
    · rw [e105, if_pos rfl]
    rw [if_neg (ne 5 (by decide) e105)]
    by_cases e106 : i = 6
    · rw [e106, if_pos rfl]
    rw [if_neg (ne 6 (by decide) e106)]
    omega
  obtain ⟨r, r68, rg⟩ := hr
  refine q _ ⟨(fun k i => if k = 0 then (if i = 51 then a else if i = 52 then a52 else if i = 57 then a57 else if i = 59 then a59 else if i = 61 then a61 else if i = 64 then a64 else if i = 66 then a66 else if i = 68 then a68 else 0) else g i, r, fun k => if k = 1 then 4 else 0), ?_⟩
  refine ⟨⟨V14.1, (J14 50).trans rfl, (J14 53).trans rfl, (J14 54).trans rfl, (J14 58).trans rfl, (J14 60).trans rfl, (J14 62).trans rfl, (J14 63).trans rfl, (J14 65).trans rfl, (J14 67).trans rfl, (J14 55).trans rfl, (J14 56).trans rfl, rfl, rfl, rfl, rfl, rfl, rfl, rfl, rfl, rfl, Nat.le_of_ble_eq_true rfl, Nat.le_of_ble_eq_true rfl, Nat.le_of_ble_eq_true rfl, Nat.le_of_ble_eq_true rfl, Nat.le_of_ble_eq_true rfl, Nat.le_of_ble_eq_true rfl, Nat.le_of_ble_eq_true rfl, Nat.le_of_ble_eq_true rfl, Nat.le_of_ble_eq_true rfl, Nat.le_of_ble_eq_true rfl⟩, ?_⟩
  refine ⟨⟨w51.1, w52.1, w57.1, w59.1, w61.1, w64.1, w66.1, w68.1, w51.2.1, w52.2.1, w57.2.1, w59.2.1, w61.2.1, w64.2.1, w66.2.1, w68.2.1, w51.2.2.1, w52.2.2.1, w57.2.2.1, w59.2.2.1, w61.2.2.1, w64.2.2.1, w66.2.2.1, w68.2.2.1⟩, ?_⟩
  refine ⟨fun i hi => ⟨?_, (ec i hi).1.trans (rows5 i hi).2.1, (ec i hi).2.1.trans (rows5 i hi).2.2.1, rg i hi, fun j hj => ?_, fun j hj => Or.inl rfl, fun j hj => rfl, fun j hj z => absurd rfl z⟩, ?_⟩
  · show xQ S14 a i = some (g i)
    rw [ea.2.2.2.2.2]
    exact (rows5 i hi).1
  · show xA S14 (g i) j = 0
    rw [(ec i hi).2.2.2.2.1, (rows5 i hi).2.2.2]
  refine ⟨fun m hm => absurd hm (Nat.not_lt_zero m), ?_⟩
  refine ⟨fun m hm => absurd hm (Nat.not_lt_zero m), ?_⟩
  refine ⟨fun m hm => absurd hm (Nat.not_lt_zero m), ?_⟩
  refine ⟨fun m hm => absurd hm (Nat.not_lt_zero m), ?_⟩
  refine ⟨fun m hm => absurd hm (Nat.not_lt_zero m), ?_⟩
  refine ⟨fun m hm => absurd hm (Nat.not_lt_zero m), ?_⟩
  refine ⟨⟨fun j hj => ?_, r68⟩, ⟨fun s hs => (show vp_in (nI 0) 21 from vp_in_nI (by decide) (by decide)), fun _ _ _ => rfl, fun _ _ _ => rfl, fun _ _ _ => rfl, fun _ _ _ => ⟨rfl, rfl⟩⟩⟩
  show xA S14 a68 j = 0
  rw [w68.2.2.2.1 (show (101 : Nat) ≤ 102 by decide)]
/-- the model as it is after its constructor -/
def mdl (S S' : xH) (mo : Nat) (Aa : Nat → Nat) : Prop := xT S' mo = 2 ∧ (∀ k, k < 39 → xm_tag k = 0 → xI S' (100 + k) mo = M1 M0 k) ∧ (∀ k, k ∈ xm_ks → xR S' (100 + k) mo = some (Aa k) ∧ xT S' (Aa k) = xm_tag k ∧ xL S' (Aa k) = xm_len k ∧ xA S' (Aa k) = (fun _ => 0) ∧ xT S (Aa k) = 0) ∧ (xm_ks.map Aa).Nodup ∧ (∀ k, k ∈ xm_ks → Aa k ≠ mo) ∧ xE S S'
theorem m_start {S : xH} {o : Nat} (ho : xT S o = 0) {Q : xH → Prop} (q : ∀ S' Aa, mdl S S' o Aa → Q S') : w_X1_init 26 38270 (sN S o 2) o Q := by
  unfold w_X1_init
  refine ⟨xT_nN, ?_⟩
  intro S1 e1
  have V1 : obV S S1 o 2 [] := by
    rw [e1]
    exact ⟨by rw [xT_sI]; exact xT_nN, by decide, fun e he => absurd he (by simp), by simp, fun x _ hx => (eqc_sN hx).trans (eqc_sI hx)⟩
  have J1 : ∀ f, xI S1 f o = if f = 101 then 4 else 0 := fun f => by
    rw [e1]
    by_cases e : f = 101
    · rw [e, if_pos rfl]; exact xI_at _ _ _ _
    · rw [if_neg e, xI_nf _ _ e]; exact xI_nN
  have Z1 : ∀ e, e ∈ ([] : List (Nat × Nat × Nat × Nat)) → xT S e.2.1 = 0 := fun e he => absurd he (by simp)
  clear e1
  refine ⟨by decide, by decide, fun a102 h102 => ?_⟩
  intro T2 u2
  refine ⟨by rw [u2]; exact obV_t V1 h102, ?_⟩
  intro S2 e2
  rw [u2] at e2
  have V2 : obV S S2 o 2 [(102, a102, 102, 64)] := by rw [e2]; exact obV_v V1 h102 (by decide) (by simp)
  have J2 : ∀ f, xI S2 f o = if f = 101 then 4 else 0 := fun f => by rw [e2, xI_sR, xI_sV]; exact J1 f
  have Z2 : ∀ e, e ∈ [(102, a102, 102, 64)] → xT S e.2.1 = 0 := List.forall_mem_cons.mpr ⟨obV_z V1 h102, Z1⟩
  clear e2 J1 V1 h102 u2 T2 Z1
  refine ⟨by decide, by decide, fun a103 h103 => ?_⟩
  intro T3 u3
  refine ⟨by rw [u3]; exact obV_t V2 h103, ?_⟩
  intro S3 e3
  rw [u3] at e3
  have V3 : obV S S3 o 2 [(103, a103, 101, 64), (102, a102, 102, 64)] := by rw [e3]; exact obV_v V2 h103 (by decide) (by simp)
  have J3 : ∀ f, xI S3 f o = if f = 101 then 4 else 0 := fun f => by rw [e3, xI_sR, xI_sV]; exact J2 f
  have Z3 : ∀ e, e ∈ [(103, a103, 101, 64), (102, a102, 102, 64)] → xT S e.2.1 = 0 := List.forall_mem_cons.mpr ⟨obV_z V2 h103, Z2⟩
  clear e3 J2 V2 h103 u3 T3 Z2
  refine ⟨by decide, by decide, fun a106 h106 => ?_⟩
  intro T4 u4
  refine ⟨by rw [u4]; exact obV_t V3 h106, ?_⟩
  intro S4 e4
  rw [u4] at e4
  have V4 : obV S S4 o 2 [(106, a106, 101, 320), (103, a103, 101, 64), (102, a102, 102, 64)] := by rw [e4]; exact obV_v V3 h106 (by decide) (by simp)
  have J4 : ∀ f, xI S4 f o = if f = 101 then 4 else 0 := fun f => by rw [e4, xI_sR, xI_sV]; exact J3 f
  have Z4 : ∀ e, e ∈ [(106, a106, 101, 320), (103, a103, 101, 64), (102, a102, 102, 64)] → xT S e.2.1 = 0 := List.forall_mem_cons.mpr ⟨obV_z V3 h106, Z3⟩
  clear e4 J3 V3 h106 u4 T4 Z3
  refine ⟨by decide, by decide, fun a107 h107 => ?_⟩
  intro T5 u5
  refine ⟨by rw [u5]; exact obV_t V4 h107, ?_⟩
  intro S5 e5
  rw [u5] at e5
  have V5 : obV S S5 o 2 [(107, a107, 101, 40), (106, a106, 101, 320), (103, a103, 101, 64), (102, a102, 102, 64)] := by rw [e5]; exact obV_v V4 h107 (by decide) (by simp)
  have J5 : ∀ f, xI S5 f o = if f = 101 then 4 else 0 := fun f => by rw [e5, xI_sR, xI_sV]; exact J4 f
  have Z5 : ∀ e, e ∈ [(107, a107, 101, 40), (106, a106, 101, 320), (103, a103, 101, 64), (102, a102, 102, 64)] → xT S e.2.1 = 0 := List.forall_mem_cons.mpr ⟨obV_z V4 h107, Z4⟩
  clear e5 J4 V4 h107 u5 T5 Z4
  refine ⟨by decide, by decide, fun a108 h108 => ?_⟩
  intro T6 u6
  refine ⟨by rw [u6]; exact obV_t V5 h108, ?_⟩
  intro S6 e6
  rw [u6] at e6
  have V6 : obV S S6 o 2 [(108, a108, 101, 36000), (107, a107, 101, 40), (106, a106, 101, 320), (103, a103, 101, 64), (102, a102, 102, 64)] := by rw [e6]; exact obV_v V5 h108 (by decide) (by simp)
  have J6 : ∀ f, xI S6 f o = if f = 101 then 4 else 0 := fun f => by rw [e6, xI_sR, xI_sV]; exact J5 f
  have Z6 : ∀ e, e ∈ [(108, a108, 101, 36000), (107, a107, 101, 40), (106, a106, 101, 320), (103, a103, 101, 64), (102, a102, 102, 64)] → xT S e.2.1 = 0 := List.forall_mem_cons.mpr ⟨obV_z V5 h108, Z5⟩
  clear e6 J5 V5 h108 u6 T6 Z5
  refine ⟨by decide, by decide, fun a110 h110 => ?_⟩
  intro T7 u7
  refine ⟨by rw [u7]; exact obV_t V6 h110, ?_⟩
  intro S7 e7
  rw [u7] at e7
  have V7 : obV S S7 o 2 [(110, a110, 101, 10), (108, a108, 101, 36000), (107, a107, 101, 40), (106, a106, 101, 320), (103, a103, 101, 64), (102, a102, 102, 64)] := by rw [e7]; exact obV_v V6 h110 (by decide) (by simp)
  have J7 : ∀ f, xI S7 f o = if f = 101 then 4 else 0 := fun f => by rw [e7, xI_sR, xI_sV]; exact J6 f
  have Z7 : ∀ e, e ∈ [(110, a110, 101, 10), (108, a108, 101, 36000), (107, a107, 101, 40), (106, a106, 101, 320), (103, a103, 101, 64), (102, a102, 102, 64)] → xT S e.2.1 = 0 := List.forall_mem_cons.mpr ⟨obV_z V6 h110, Z6⟩
  clear e7 J6 V6 h110 u7 T7 Z6
  refine ⟨by decide, by decide, fun a111 h111 => ?_⟩
  intro T8 u8
  refine ⟨by rw [u8]; exact obV_t V7 h111, ?_⟩
  intro S8 e8
  rw [u8] at e8
  have V8 : obV S S8 o 2 [(111, a111, 101, 10), (110, a110, 101, 10), (108, a108, 101, 36000), (107, a107, 101, 40), (106, a106, 101, 320), (103, a103, 101, 64), (102, a102, 102, 64)] := by rw [e8]; exact obV_v V7 h111 (by decide) (by simp)
  have J8 : ∀ f, xI S8 f o = if f = 101 then 4 else 0 := fun f => by rw [e8, xI_sR, xI_sV]; exact J7 f
  have Z8 : ∀ e, e ∈ [(111, a111, 101, 10), (110, a110, 101, 10), (108, a108, 101, 36000), (107, a107, 101, 40), (106, a106, 101, 320), (103, a103, 101, 64), (102, a102, 102, 64)] → xT S e.2.1 = 0 := List.forall_mem_cons.mpr ⟨obV_z V7 h111, Z7⟩
  clear e8 J7 V7 h111 u8 T8 Z7
  refine ⟨by decide, by decide, fun a112 h112 => ?_⟩
  intro T9 u9
  refine ⟨by rw [u9]; exact obV_t V8 h112, ?_⟩
  intro S9 e9
  rw [u9] at e9
  have V9 : obV S S9 o 2 [(112, a112, 101, 10), (111, a111, 101, 10), (110, a110, 101, 10), (108, a108, 101, 36000), (107, a107, 101, 40), (106, a106, 101, 320), (103, a103, 101, 64), (102, a102, 102, 64)] := by rw [e9]; exact obV_v V8 h112 (by decide) (by simp)
  have J9 : ∀ f, xI S9 f o = if f = 101 then 4 else 0 := fun f => by rw [e9, xI_sR, xI_sV]; exact J8 f
  have Z9 : ∀ e, e ∈ [(112, a112, 101, 10), (111, a111, 101, 10), (110, a110, 101, 10), (108, a108, 101, 36000), (107, a107, 101, 40), (106, a106, 101, 320), (103, a103, 101, 64), (102, a102, 102, 64)] → xT S e.2.1 = 0 := List.forall_mem_cons.mpr ⟨obV_z V8 h112, Z8⟩
  clear e9 J8 V8 h112 u9 T9 Z8
  refine ⟨by decide, by decide, fun a113 h113 => ?_⟩
  intro T10 u10
  refine ⟨by rw [u10]; exact obV_t V9 h113, ?_⟩
  intro S10 e10
  rw [u10] at e10
  have V10 : obV S S10 o 2 [(113, a113, 101, 10), (112, a112, 101, 10), (111, a111, 101, 10), (110, a110, 101, 10), (108, a108, 101, 36000), (107, a107, 101, 40), (106, a106, 101, 320), (103, a103, 101, 64), (102, a102, 102, 64)] := by rw [e10]; exact obV_v V9 h113 (by decide) (by simp)
  have J10 : ∀ f, xI S10 f o = if f = 101 then 4 else 0 := fun f => by rw [e10, xI_sR, xI_sV]; exact J9 f
  have Z10 : ∀ e, e ∈ [(113, a113, 101, 10), (112, a112, 101, 10), (111, a111, 101, 10), (110, a110, 101, 10), (108, a108, 101, 36000), (107, a107, 101, 40), (106, a106, 101, 320), (103, a103, 101, 64), (102, a102, 102, 64)] → xT S e.2.1 = 0 := List.forall_mem_cons.mpr ⟨obV_z V9 h113, Z9⟩
  clear e10 J9 V9 h113 u10 T10 Z9
  refine ⟨by decide, by decide, fun a114 h114 => ?_⟩
  intro T11 u11
  refine ⟨by rw [u11]; exact obV_t V10 h114, ?_⟩
  intro S11 e11
  rw [u11] at e11
  have V11 : obV S S11 o 2 [(114, a114, 102, 10), (113, a113, 101, 10), (112, a112, 101, 10), (111, a111, 101, 10), (110, a110, 101, 10), (108, a108, 101, 36000), (107, a107, 101, 40), (106, a106, 101, 320), (103, a103, 101, 64), (102, a102, 102, 64)] := by rw [e11]; exact obV_v V10 h114 (by decide) (by simp)
  have J11 : ∀ f, xI S11 f o = if f = 101 then 4 else 0 := fun f => by rw [e11, xI_sR, xI_sV]; exact J10 f
  have Z11 : ∀ e, e ∈ [(114, a114, 102, 10), (113, a113, 101, 10), (112, a112, 101, 10), (111, a111, 101, 10), (110, a110, 101, 10), (108, a108, 101, 36000), (107, a107, 101, 40), (106, a106, 101, 320), (103, a103, 101, 64), (102, a102, 102, 64)] → xT S e.2.1 = 0 := List.forall_mem_cons.mpr ⟨obV_z V10 h114, Z10⟩
  clear e11 J10 V10 h114 u11 T11 Z10
  refine ⟨by decide, by decide, fun a116 h116 => ?_⟩
  intro T12 u12
  refine ⟨by rw [u12]; exact obV_t V11 h116, ?_⟩
  intro S12 e12
  rw [u12] at e12
  have V12 : obV S S12 o 2 [(116, a116, 101, 540), (114, a114, 102, 10), (113, a113, 101, 10), (112, a112, 101, 10), (111, a111, 101, 10), (110, a110, 101, 10), (108, a108, 101, 36000), (107, a107, 101, 40), (106, a106, 101, 320), (103, a103, 101, 64), (102, a102, 102, 64)] := by rw [e12]; exact obV_v V11 h116 (by decide) (by simp)
  have J12 : ∀ f, xI S12 f o = if f = 101 then 4 else 0 := fun f => by rw [e12, xI_sR, xI_sV]; exact J11 f
  have Z12 : ∀ e, e ∈ [(116, a116, 101, 540), (114, a114, 102, 10), (113, a113, 101, 10), (112, a112, 101, 10), (111, a111, 101, 10), (110, a110, 101, 10), (108, a108, 101, 36000), (107, a107, 101, 40), (106, a106, 101, 320), (103, a103, 101, 64), (102, a102, 102, 64)] → xT S e.2.1 = 0 := List.forall_mem_cons.mpr ⟨obV_z V11 h116, Z11⟩
  clear e12 J11 V11 h116 u12 T12 Z11
  refine ⟨by decide, by decide, fun a118 h118 => ?_⟩
  intro T13 u13
  refine ⟨by rw [u13]; exact obV_t V12 h118, ?_⟩
  intro S13 e13
  rw [u13] at e13
  have V13 : obV S S13 o 2 [(118, a118, 101, 8), (116, a116, 101, 540), (114, a114, 102, 10), (113, a113, 101, 10), (112, a112, 101, 10), (111, a111, 101, 10), (110, a110, 101, 10), (108, a108, 101, 36000), (107, a107, 101, 40), (106, a106, 101, 320), (103, a103, 101, 64), (102, a102, 102, 64)] := by rw [e13]; exact obV_v V12 h118 (by decide) (by simp)
  have J13 : ∀ f, xI S13 f o = if f = 101 then 4 else 0 := fun f => by rw [e13, xI_sR, xI_sV]; exact J12 f
  have Z13 : ∀ e, e ∈ [(118, a118, 101, 8), (116, a116, 101, 540), (114, a114, 102, 10), (113, a113, 101, 10), (112, a112, 101, 10), (111, a111, 101, 10), (110, a110, 101, 10), (108, a108, 101, 36000), (107, a107, 101, 40), (106, a106, 101, 320), (103, a103, 101, 64), (102, a102, 102, 64)] → xT S e.2.1 = 0 := List.forall_mem_cons.mpr ⟨obV_z V12 h118, Z12⟩
  clear e13 J12 V12 h118 u13 T13 Z12
  refine ⟨by decide, by decide, fun a119 h119 => ?_⟩
  intro T14 u14
  refine ⟨by rw [u14]; exact obV_t V13 h119, ?_⟩
  intro S14 e14
  rw [u14] at e14
  have V14 : obV S S14 o 2 [(119, a119, 101, 8), (118, a118, 101, 8), (116, a116, 101, 540), (114, a114, 102, 10), (113, a113, 101, 10), (112, a112, 101, 10), (111, a111, 101, 10), (110, a110, 101, 10), (108, a108, 101, 36000), (107, a107, 101, 40), (106, a106, 101, 320), (103, a103, 101, 64), (102, a102, 102, 64)] := by rw [e14]; exact obV_v V13 h119 (by decide) (by simp)
  have J14 : ∀ f, xI S14 f o = if f = 101 then 4 else 0 := fun f => by rw [e14, xI_sR, xI_sV]; exact J13 f
  have Z14 : ∀ e, e ∈ [(119, a119, 101, 8), (118, a118, 101, 8), (116, a116, 101, 540), (114, a114, 102, 10), (113, a113, 101, 10), (112, a112, 101, 10), (111, a111, 101, 10), (110, a110, 101, 10), (108, a108, 101, 36000), (107, a107, 101, 40), (106, a106, 101, 320), (103, a103, 101, 64), (102, a102, 102, 64)] → xT S e.2.1 = 0 := List.forall_mem_cons.mpr ⟨obV_z V13 h119, Z13⟩
  clear e14 J13 V13 h119 u14 T14 Z13
  refine ⟨by decide, by decide, fun a120 h120 => ?_⟩
  intro T15 u15
  refine ⟨by rw [u15]; exact obV_t V14 h120, ?_⟩
  intro S15 e15
  rw [u15] at e15
  have V15 : obV S S15 o 2 [(120, a120, 101, 480), (119, a119, 101, 8), (118, a118, 101, 8), (116, a116, 101, 540), (114, a114, 102, 10), (113, a113, 101, 10), (112, a112, 101, 10), (111, a111, 101, 10), (110, a110, 101, 10), (108, a108, 101, 36000), (107, a107, 101, 40), (106, a106, 101, 320), (103, a103, 101, 64), (102, a102, 102, 64)] := by rw [e15]; exact obV_v V14 h120 (by decide) (by simp)
  have J15 : ∀ f, xI S15 f o = if f = 101 then 4 else 0 := fun f => by rw [e15, xI_sR, xI_sV]; exact J14 f
  have Z15 : ∀ e, e ∈ [(120, a120, 101, 480), (119, a119, 101, 8), (118, a118, 101, 8), (116, a116, 101, 540), (114, a114, 102, 10), (113, a113, 101, 10), (112, a112, 101, 10), (111, a111, 101, 10), (110, a110, 101, 10), (108, a108, 101, 36000), (107, a107, 101, 40), (106, a106, 101, 320), (103, a103, 101, 64), (102, a102, 102, 64)] → xT S e.2.1 = 0 := List.forall_mem_cons.mpr ⟨obV_z V14 h120, Z14⟩
  clear e15 J14 V14 h120 u15 T15 Z14
  refine ⟨by decide, by decide, fun a121 h121 => ?_⟩
  intro T16 u16
  refine ⟨by rw [u16]; exact obV_t V15 h121, ?_⟩
  intro S16 e16
  rw [u16] at e16
  have V16 : obV S S16 o 2 [(121, a121, 102, 64), (120, a120, 101, 480), (119, a119, 101, 8), (118, a118, 101, 8), (116, a116, 101, 540), (114, a114, 102, 10), (113, a113, 101, 10), (112, a112, 101, 10), (111, a111, 101, 10), (110, a110, 101, 10), (108, a108, 101, 36000), (107, a107, 101, 40), (106, a106, 101, 320), (103, a103, 101, 64), (102, a102, 102, 64)] := by rw [e16]; exact obV_v V15 h121 (by decide) (by simp)
  have J16 : ∀ f, xI S16 f o = if f = 101 then 4 else 0 := fun f => by rw [e16, xI_sR, xI_sV]; exact J15 f
  have Z16 : ∀ e, e ∈ [(121, a121, 102, 64), (120, a120, 101, 480), (119, a119, 101, 8), (118, a118, 101, 8), (116, a116, 101, 540), (114, a114, 102, 10), (113, a113, 101, 10), (112, a112, 101, 10), (111, a111, 101, 10), (110, a110, 101, 10), (108, a108, 101, 36000), (107, a107, 101, 40), (106, a106, 101, 320), (103, a103, 101, 64), (102, a102, 102, 64)] → xT S e.2.1 = 0 := List.forall_mem_cons.mpr ⟨obV_z V15 h121, Z15⟩
  clear e16 J15 V15 h121 u16 T16 Z15
  refine ⟨by decide, by decide, fun a123 h123 => ?_⟩
  intro T17 u17
  refine ⟨by rw [u17]; exact obV_t V16 h123, ?_⟩
  intro S17 e17
  rw [u17] at e17
  have V17 : obV S S17 o 2 [(123, a123, 101, 360), (121, a121, 102, 64), (120, a120, 101, 480), (119, a119, 101, 8), (118, a118, 101, 8), (116, a116, 101, 540), (114, a114, 102, 10), (113, a113, 101, 10), (112, a112, 101, 10), (111, a111, 101, 10), (110, a110, 101, 10), (108, a108, 101, 36000), (107, a107, 101, 40), (106, a106, 101, 320), (103, a103, 101, 64), (102, a102, 102, 64)] := by rw [e17]; exact obV_v V16 h123 (by decide) (by simp)
  have J17 : ∀ f, xI S17 f o = if f = 101 then 4 else 0 := fun f => by rw [e17, xI_sR, xI_sV]; exact J16 f
  have Z17 : ∀ e, e ∈ [(123, a123, 101, 360), (121, a121, 102, 64), (120, a120, 101, 480), (119, a119, 101, 8), (118, a118, 101, 8), (116, a116, 101, 540), (114, a114, 102, 10), (113, a113, 101, 10), (112, a112, 101, 10), (111, a111, 101, 10), (110, a110, 101, 10), (108, a108, 101, 36000), (107, a107, 101, 40), (106, a106, 101, 320), (103, a103, 101, 64), (102, a102, 102, 64)] → xT S e.2.1 = 0 := List.forall_mem_cons.mpr ⟨obV_z V16 h123, Z16⟩
  clear e17 J16 V16 h123 u17 T17 Z16
  refine ⟨V17.1, ?_⟩
  intro S18 e18
  have V18 : obV S S18 o 2 [(123, a123, 101, 360), (121, a121, 102, 64), (120, a120, 101, 480), (119, a119, 101, 8), (118, a118, 101, 8), (116, a116, 101, 540), (114, a114, 102, 10), (113, a113, 101, 10), (112, a112, 101, 10), (111, a111, 101, 10), (110, a110, 101, 10), (108, a108, 101, 36000), (107, a107, 101, 40), (106, a106, 101, 320), (103, a103, 101, 64), (102, a102, 102, 64)] := by rw [e18]; exact obV_i V17
  have J18 : ∀ f, xI S18 f o = if f = 125 then 10 else if f = 101 then 4 else 0 := fun f => by
    rw [e18]
    by_cases e : f = 125
    · rw [e, if_pos rfl]; exact xI_at _ _ _ _
    · rw [if_neg e, xI_nf _ _ e]; exact J17 f
  have Z18 := Z17
  clear e18 J17 V17 Z17
  refine ⟨V18.1, ?_⟩
  intro S19 e19
  have V19 : obV S S19 o 2 [(123, a123, 101, 360), (121, a121, 102, 64), (120, a120, 101, 480), (119, a119, 101, 8), (118, a118, 101, 8), (116, a116, 101, 540), (114, a114, 102, 10), (113, a113, 101, 10), (112, a112, 101, 10), (111, a111, 101, 10), (110, a110, 101, 10), (108, a108, 101, 36000), (107, a107, 101, 40), (106, a106, 101, 320), (103, a103, 101, 64), (102, a102, 102, 64)] := by rw [e19]; exact obV_i V18
  have J19 : ∀ f, xI S19 f o = if f = 126 then 50 else if f = 125 then 10 else if f = 101 then 4 else 0 := fun f => by
    rw [e19]
    by_cases e : f = 126
    · rw [e, if_pos rfl]; exact xI_at _ _ _ _
    · rw [if_neg e, xI_nf _ _ e]; exact J18 f
  have Z19 := Z18
  clear e19 J18 V18 Z18
  refine ⟨by decide, by decide, fun a127 h127 => ?_⟩
  intro T20 u20
  refine ⟨by rw [u20]; exact obV_t V19 h127, ?_⟩
  intro S20 e20
  rw [u20] at e20
  have V20 : obV S S20 o 2 [(127, a127, 101, 8), (123, a123, 101, 360), (121, a121, 102, 64), (120, a120, 101, 480), (119, a119, 101, 8), (118, a118, 101, 8), (116, a116, 101, 540), (114, a114, 102, 10), (113, a113, 101, 10), (112, a112, 101, 10), (111, a111, 101, 10), (110, a110, 101, 10), (108, a108, 101, 36000), (107, a107, 101, 40), (106, a106, 101, 320), (103, a103, 101, 64), (102, a102, 102, 64)] := by rw [e20]; exact obV_v V19 h127 (by decide) (by simp)
  have J20 : ∀ f, xI S20 f o = if f = 126 then 50 else if f = 125 then 10 else if f = 101 then 4 else 0 := fun f => by rw [e20, xI_sR, xI_sV]; exact J19 f
  have Z20 : ∀ e, e ∈ [(127, a127, 101, 8), (123, a123, 101, 360), (121, a121, 102, 64), (120, a120, 101, 480), (119, a119, 101, 8), (118, a118, 101, 8), (116, a116, 101, 540), (114, a114, 102, 10), (113, a113, 101, 10), (112, a112, 101, 10), (111, a111, 101, 10), (110, a110, 101, 10), (108, a108, 101, 36000), (107, a107, 101, 40), (106, a106, 101, 320), (103, a103, 101, 64), (102, a102, 102, 64)] → xT S e.2.1 = 0 := List.forall_mem_cons.mpr ⟨obV_z V19 h127, Z19⟩
  clear e20 J19 V19 h127 u20 T20 Z19
  refine ⟨by decide, by decide, fun a128 h128 => ?_⟩
  intro T21 u21
  refine ⟨by rw [u21]; exact obV_t V20 h128, ?_⟩
  intro S21 e21
  rw [u21] at e21
  have V21 : obV S S21 o 2 [(128, a128, 101, 6), (127, a127, 101, 8), (123, a123, 101, 360), (121, a121, 102, 64), (120, a120, 101, 480), (119, a119, 101, 8), (118, a118, 101, 8), (116, a116, 101, 540), (114, a114, 102, 10), (113, a113, 101, 10), (112, a112, 101, 10), (111, a111, 101, 10), (110, a110, 101, 10), (108, a108, 101, 36000), (107, a107, 101, 40), (106, a106, 101, 320), (103, a103, 101, 64), (102, a102, 102, 64)] := by rw [e21]; exact obV_v V20 h128 (by decide) (by simp)
  have J21 : ∀ f, xI S21 f o = if f = 126 then 50 else if f = 125 then 10 else if f = 101 then 4 else 0 := fun f => by rw [e21, xI_sR, xI_sV]; exact J20 f
  have Z21 : ∀ e, e ∈ [(128, a128, 101, 6), (127, a127, 101, 8), (123, a123, 101, 360), (121, a121, 102, 64), (120, a120, 101, 480), (119, a119, 101, 8), (118, a118, 101, 8), (116, a116, 101, 540), (114, a114, 102, 10), (113, a113, 101, 10), (112, a112, 101, 10), (111, a111, 101, 10), (110, a110, 101, 10), (108, a108, 101, 36000), (107, a107, 101, 40), (106, a106, 101, 320), (103, a103, 101, 64), (102, a102, 102, 64)] → xT S e.2.1 = 0 := List.forall_mem_cons.mpr ⟨obV_z V20 h128, Z20⟩
  clear e21 J20 V20 h128 u21 T21 Z20
  refine ⟨by decide, by decide, fun a129 h129 => ?_⟩
  intro T22 u22
  refine ⟨by rw [u22]; exact obV_t V21 h129, ?_⟩
  intro S22 e22
  rw [u22] at e22
  have V22 : obV S S22 o 2 [(129, a129, 101, 8), (128, a128, 101, 6), (127, a127, 101, 8), (123, a123, 101, 360), (121, a121, 102, 64), (120, a120, 101, 480), (119, a119, 101, 8), (118, a118, 101, 8), (116, a116, 101, 540), (114, a114, 102, 10), (113, a113, 101, 10), (112, a112, 101, 10), (111, a111, 101, 10), (110, a110, 101, 10), (108, a108, 101, 36000), (107, a107, 101, 40), (106, a106, 101, 320), (103, a103, 101, 64), (102, a102, 102, 64)] := by rw [e22]; exact obV_v V21 h129 (by decide) (by simp)
  have J22 : ∀ f, xI S22 f o = if f = 126 then 50 else if f = 125 then 10 else if f = 101 then 4 else 0 := fun f => by rw [e22, xI_sR, xI_sV]; exact J21 f
  have Z22 : ∀ e, e ∈ [(129, a129, 101, 8), (128, a128, 101, 6), (127, a127, 101, 8), (123, a123, 101, 360), (121, a121, 102, 64), (120, a120, 101, 480), (119, a119, 101, 8), (118, a118, 101, 8), (116, a116, 101, 540), (114, a114, 102, 10), (113, a113, 101, 10), (112, a112, 101, 10), (111, a111, 101, 10), (110, a110, 101, 10), (108, a108, 101, 36000), (107, a107, 101, 40), (106, a106, 101, 320), (103, a103, 101, 64), (102, a102, 102, 64)] → xT S e.2.1 = 0 := List.forall_mem_cons.mpr ⟨obV_z V21 h129, Z21⟩
  clear e22 J21 V21 h129 u22 T22 Z21
  refine ⟨by decide, by decide, fun a132 h132 => ?_⟩
  intro T23 u23
  refine ⟨by rw [u23]; exact obV_t V22 h132, ?_⟩
  intro S23 e23
  rw [u23] at e23
  have V23 : obV S S23 o 2 [(132, a132, 101, 40), (129, a129, 101, 8), (128, a128, 101, 6), (127, a127, 101, 8), (123, a123, 101, 360), (121, a121, 102, 64), (120, a120, 101, 480), (119, a119, 101, 8), (118, a118, 101, 8), (116, a116, 101, 540), (114, a114, 102, 10), (113, a113, 101, 10), (112, a112, 101, 10), (111, a111, 101, 10), (110, a110, 101, 10), (108, a108, 101, 36000), (107, a107, 101, 40), (106, a106, 101, 320), (103, a103, 101, 64), (102, a102, 102, 64)] := by rw [e23]; exact obV_v V22 h132 (by decide) (by simp)
  have J23 : ∀ f, xI S23 f o = if f = 126 then 50 else if f = 125 then 10 else if f = 101 then 4 else 0 := fun f => by rw [e23, xI_sR, xI_sV]; exact J22 f
  have Z23 : ∀ e, e ∈ [(132, a132, 101, 40), (129, a129, 101, 8), (128, a128, 101, 6), (127, a127, 101, 8), (123, a123, 101, 360), (121, a121, 102, 64), (120, a120, 101, 480), (119, a119, 101, 8), (118, a118, 101, 8), (116, a116, 101, 540), (114, a114, 102, 10), (113, a113, 101, 10), (112, a112, 101, 10), (111, a111, 101, 10), (110, a110, 101, 10), (108, a108, 101, 36000), (107, a107, 101, 40), (106, a106, 101, 320), (103, a103, 101, 64), (102, a102, 102, 64)] → xT S e.2.1 = 0 := List.forall_mem_cons.mpr ⟨obV_z V22 h132, Z22⟩
  clear e23 J22 V22 h132 u23 T23 Z22
  refine ⟨by decide, by decide, fun a133 h133 => ?_⟩
  intro T24 u24
  refine ⟨by rw [u24]; exact obV_t V23 h133, ?_⟩
  intro S24 e24
  rw [u24] at e24
  have V24 : obV S S24 o 2 [(133, a133, 101, 40), (132, a132, 101, 40), (129, a129, 101, 8), (128, a128, 101, 6), (127, a127, 101, 8), (123, a123, 101, 360), (121, a121, 102, 64), (120, a120, 101, 480), (119, a119, 101, 8), (118, a118, 101, 8), (116, a116, 101, 540), (114, a114, 102, 10), (113, a113, 101, 10), (112, a112, 101, 10), (111, a111, 101, 10), (110, a110, 101, 10), (108, a108, 101, 36000), (107, a107, 101, 40), (106, a106, 101, 320), (103, a103, 101, 64), (102, a102, 102, 64)] := by rw [e24]; exact obV_v V23 h133 (by decide) (by simp)
  have J24 : ∀ f, xI S24 f o = if f = 126 then 50 else if f = 125 then 10 else if f = 101 then 4 else 0 := fun f => by rw [e24, xI_sR, xI_sV]; exact J23 f
  have Z24 : ∀ e, e ∈ [(133, a133, 101, 40), (132, a132, 101, 40), (129, a129, 101, 8), (128, a128, 101, 6), (127, a127, 101, 8), (123, a123, 101, 360), (121, a121, 102, 64), (120, a120, 101, 480), (119, a119, 101, 8), (118, a118, 101, 8), (116, a116, 101, 540), (114, a114, 102, 10), (113, a113, 101, 10), (112, a112, 101, 10), (111, a111, 101, 10), (110, a110, 101, 10), (108, a108, 101, 36000), (107, a107, 101, 40), (106, a106, 101, 320), (103, a103, 101, 64), (102, a102, 102, 64)] → xT S e.2.1 = 0 := List.forall_mem_cons.mpr ⟨obV_z V23 h133, Z23⟩
  clear e24 J23 V23 h133 u24 T24 Z23
  refine ⟨by decide, by decide, fun a134 h134 => ?_⟩
  intro T25 u25
  refine ⟨by rw [u25]; exact obV_t V24 h134, ?_⟩
  intro S25 e25
  rw [u25] at e25
  have V25 : obV S S25 o 2 [(134, a134, 101, 40), (133, a133, 101, 40), (132, a132, 101, 40), (129, a129, 101, 8), (128, a128, 101, 6), (127, a127, 101, 8), (123, a123, 101, 360), (121, a121, 102, 64), (120, a120, 101, 480), (119, a119, 101, 8), (118, a118, 101, 8), (116, a116, 101, 540), (114, a114, 102, 10), (113, a113, 101, 10), (112, a112, 101, 10), (111, a111, 101, 10), (110, a110, 101, 10), (108, a108, 101, 36000), (107, a107, 101, 40), (106, a106, 101, 320), (103, a103, 101, 64), (102, a102, 102, 64)] := by rw [e25]; exact obV_v V24 h134 (by decide) (by simp)
  have J25 : ∀ f, xI S25 f o = if f = 126 then 50 else if f = 125 then 10 else if f = 101 then 4 else 0 := fun f => by rw [e25, xI_sR, xI_sV]; exact J24 f
  have Z25 : ∀ e, e ∈ [(134, a134, 101, 40), (133, a133, 101, 40), (132, a132, 101, 40), (129, a129, 101, 8), (128, a128, 101, 6), (127, a127, 101, 8), (123, a123, 101, 360), (121, a121, 102, 64), (120, a120, 101, 480), (119, a119, 101, 8), (118, a118, 101, 8), (116, a116, 101, 540), (114, a114, 102, 10), (113, a113, 101, 10), (112, a112, 101, 10), (111, a111, 101, 10), (110, a110, 101, 10), (108, a108, 101, 36000), (107, a107, 101, 40), (106, a106, 101, 320), (103, a103, 101, 64), (102, a102, 102, 64)] → xT S e.2.1 = 0 := List.forall_mem_cons.mpr ⟨obV_z V24 h134, Z24⟩
  clear e25 J24 V24 h134 u25 T25 Z24
  refine ⟨by decide, by decide, fun a135 h135 => ?_⟩
  intro T26 u26
  refine ⟨by rw [u26]; exact obV_t V25 h135, ?_⟩
  intro S26 e26
  rw [u26] at e26
  have V26 : obV S S26 o 2 [(135, a135, 102, 40), (134, a134, 101, 40), (133, a133, 101, 40), (132, a132, 101, 40), (129, a129, 101, 8), (128, a128, 101, 6), (127, a127, 101, 8), (123, a123, 101, 360), (121, a121, 102, 64), (120, a120, 101, 480), (119, a119, 101, 8), (118, a118, 101, 8), (116, a116, 101, 540), (114, a114, 102, 10), (113, a113, 101, 10), (112, a112, 101, 10), (111, a111, 101, 10), (110, a110, 101, 10), (108, a108, 101, 36000), (107, a107, 101, 40), (106, a106, 101, 320), (103, a103, 101, 64), (102, a102, 102, 64)] := by rw [e26]; exact obV_v V25 h135 (by decide) (by simp)
  have J26 : ∀ f, xI S26 f o = if f = 126 then 50 else if f = 125 then 10 else if f = 101 then 4 else 0 := fun f => by rw [e26, xI_sR, xI_sV]; exact J25 f
  have Z26 : ∀ e, e ∈ [(135, a135, 102, 40), (134, a134, 101, 40), (133, a133, 101, 40), (132, a132, 101, 40), (129, a129, 101, 8), (128, a128, 101, 6), (127, a127, 101, 8), (123, a123, 101, 360), (121, a121, 102, 64), (120, a120, 101, 480), (119, a119, 101, 8), (118, a118, 101, 8), (116, a116, 101, 540), (114, a114, 102, 10), (113, a113, 101, 10), (112, a112, 101, 10), (111, a111, 101, 10), (110, a110, 101, 10), (108, a108, 101, 36000), (107, a107, 101, 40), (106, a106, 101, 320), (103, a103, 101, 64), (102, a102, 102, 64)] → xT S e.2.1 = 0 := List.forall_mem_cons.mpr ⟨obV_z V25 h135, Z25⟩
  clear e26 J25 V25 h135 u26 T26 Z25
  refine ⟨by decide, by decide, fun a136 h136 => ?_⟩
  intro T27 u27
  refine ⟨by rw [u27]; exact obV_t V26 h136, ?_⟩
  intro S27 e27
  rw [u27] at e27
  have V27 : obV S S27 o 2 [(136, a136, 101, 40), (135, a135, 102, 40), (134, a134, 101, 40), (133, a133, 101, 40), (132, a132, 101, 40), (129, a129, 101, 8), (128, a128, 101, 6), (127, a127, 101, 8), (123, a123, 101, 360), (121, a121, 102, 64), (120, a120, 101, 480), (119, a119, 101, 8), (118, a118, 101, 8), (116, a116, 101, 540), (114, a114, 102, 10), (113, a113, 101, 10), (112, a112, 101, 10), (111, a111, 101, 10), (110, a110, 101, 10), (108, a108, 101, 36000), (107, a107, 101, 40), (106, a106, 101, 320), (103, a103, 101, 64), (102, a102, 102, 64)] := by rw [e27]; exact obV_v V26 h136 (by decide) (by simp)
  have J27 : ∀ f, xI S27 f o = if f = 126 then 50 else if f = 125 then 10 else if f = 101 then 4 else 0 := fun f => by rw [e27, xI_sR, xI_sV]; exact J26 f
  have Z27 : ∀ e, e ∈ [(136, a136, 101, 40), (135, a135, 102, 40), (134, a134, 101, 40), (133, a133, 101, 40), (132, a132, 101, 40), (129, a129, 101, 8), (128, a128, 101, 6), (127, a127, 101, 8), (123, a123, 101, 360), (121, a121, 102, 64), (120, a120, 101, 480), (119, a119, 101, 8), (118, a118, 101, 8), (116, a116, 101, 540), (114, a114, 102, 10), (113, a113, 101, 10), (112, a112, 101, 10), (111, a111, 101, 10), (110, a110, 101, 10), (108, a108, 101, 36000), (107, a107, 101, 40), (106, a106, 101, 320), (103, a103, 101, 64), (102, a102, 102, 64)] → xT S e.2.1 = 0 := List.forall_mem_cons.mpr ⟨obV_z V26 h136, Z26⟩
  clear e27 J26 V26 h136 u27 T27 Z26
  refine ⟨by decide, by decide, fun a137 h137 => ?_⟩
  intro T28 u28
  refine ⟨by rw [u28]; exact obV_t V27 h137, ?_⟩
  intro S28 e28
  rw [u28] at e28
  have V28 : obV S S28 o 2 [(137, a137, 101, 10), (136, a136, 101, 40), (135, a135, 102, 40), (134, a134, 101, 40), (133, a133, 101, 40), (132, a132, 101, 40), (129, a129, 101, 8), (128, a128, 101, 6), (127, a127, 101, 8), (123, a123, 101, 360), (121, a121, 102, 64), (120, a120, 101, 480), (119, a119, 101, 8), (118, a118, 101, 8), (116, a116, 101, 540), (114, a114, 102, 10), (113, a113, 101, 10), (112, a112, 101, 10), (111, a111, 101, 10), (110, a110, 101, 10), (108, a108, 101, 36000), (107, a107, 101, 40), (106, a106, 101, 320), (103, a103, 101, 64), (102, a102, 102, 64)] := by rw [e28]; exact obV_v V27 h137 (by decide) (by simp)
  have J28 : ∀ f, xI S28 f o = if f = 126 then 50 else if f = 125 then 10 else if f = 101 then 4 else 0 := fun f => by rw [e28, xI_sR, xI_sV]; exact J27 f
  have Z28 : ∀ e, e ∈ [(137, a137, 101, 10), (136, a136, 101, 40), (135, a135, 102, 40), (134, a134, 101, 40), (133, a133, 101, 40), (132, a132, 101, 40), (129, a129, 101, 8), (128, a128, 101, 6), (127, a127, 101, 8), (123, a123, 101, 360), (121, a121, 102, 64), (120, a120, 101, 480), (119, a119, 101, 8), (118, a118, 101, 8), (116, a116, 101, 540), (114, a114, 102, 10), (113, a113, 101, 10), (112, a112, 101, 10), (111, a111, 101, 10), (110, a110, 101, 10), (108, a108, 101, 36000), (107, a107, 101, 40), (106, a106, 101, 320), (103, a103, 101, 64), (102, a102, 102, 64)] → xT S e.2.1 = 0 := List.forall_mem_cons.mpr ⟨obV_z V27 h137, Z27⟩
  clear e28 J27 V27 h137 u28 T28 Z27
  refine ⟨by decide, by decide, fun a138 h138 => ?_⟩
  intro T29 u29
  refine ⟨by rw [u29]; exact obV_t V28 h138, ?_⟩
  intro S29 e29
  rw [u29] at e29
  have V29 : obV S S29 o 2 [(138, a138, 101, 40), (137, a137, 101, 10), (136, a136, 101, 40), (135, a135, 102, 40), (134, a134, 101, 40), (133, a133, 101, 40), (132, a132, 101, 40), (129, a129, 101, 8), (128, a128, 101, 6), (127, a127, 101, 8), (123, a123, 101, 360), (121, a121, 102, 64), (120, a120, 101, 480), (119, a119, 101, 8), (118, a118, 101, 8), (116, a116, 101, 540), (114, a114, 102, 10), (113, a113, 101, 10), (112, a112, 101, 10), (111, a111, 101, 10), (110, a110, 101, 10), (108, a108, 101, 36000), (107, a107, 101, 40), (106, a106, 101, 320), (103, a103, 101, 64), (102, a102, 102, 64)] := by rw [e29]; exact obV_v V28 h138 (by decide) (by simp)
  have J29 : ∀ f, xI S29 f o = if f = 126 then 50 else if f = 125 then 10 else if f = 101 then 4 else 0 := fun f => by rw [e29, xI_sR, xI_sV]; exact J28 f
  have Z29 : ∀ e, e ∈ [(138, a138, 101, 40), (137, a137, 101, 10), (136, a136, 101, 40), (135, a135, 102, 40), (134, a134, 101, 40), (133, a133, 101, 40), (132, a132, 101, 40), (129, a129, 101, 8), (128, a128, 101, 6), (127, a127, 101, 8), (123, a123, 101, 360), (121, a121, 102, 64), (120, a120, 101, 480), (119, a119, 101, 8), (118, a118, 101, 8), (116, a116, 101, 540), (114, a114, 102, 10), (113, a113, 101, 10), (112, a112, 101, 10), (111, a111, 101, 10), (110, a110, 101, 10), (108, a108, 101, 36000), (107, a107, 101, 40), (106, a106, 101, 320), (103, a103, 101, 64), (102, a102, 102, 64)] → xT S e.2.1 = 0 := List.forall_mem_cons.mpr ⟨obV_z V28 h138, Z28⟩
  clear e29 J28 V28 h138 u29 T29 Z28
  have hh : ∀ k, k ∈ xm_ks → xR S29 (100 + k) o = some (if k = 2 then a102 else if k = 3 then a103 else if k = 6 then a106 else if k = 7 then a107 else if k = 8 then a108 else if k = 10 then a110 else if k = 11 then a111 else if k = 12 then a112 else if k = 13 then a113 else if k = 14 then a114 else if k = 16 then a116 else if k = 18 then a118 else if k = 19 then a119 else if k = 20 then a120 else if k = 21 then a121 else if k = 23 then a123 else if k = 27 then a127 else if k = 28 then a128 else if k = 29 then a129 else if k = 32 then a132 else if k = 33 then a133 else if k = 34 then a134 else if k = 35 then a135 else if k = 36 then a136 else if k = 37 then a137 else if k = 38 then a138 else 0) ∧ xT S29 (if k = 2 then a102 else if k = 3 then a103 else if k = 6 then a106 else if k = 7 then a107 else if k = 8 then a108 else if k = 10 then a110 else if k = 11 then a111 else if k = 12 then a112 else if k = 13 then a113 else if k = 14 then a114 else if k = 16 then a116 else if k = 18 then a118 else if k = 19 then a119 else if k = 20 then a120 else if k = 21 then a121 else if k = 23 then a123 else if k = 27 then a127 else if k = 28 then a128 else if k = 29 then a129 else if k = 32 then a132 else if k = 33 then a133 else if k = 34 then a134 else if k = 35 then a135 else if k = 36 then a136 else if k = 37 then a137 else if k = 38 then a138 else 0) = xm_tag k ∧ xL S29 (if k = 2 then a102 else if k = 3 then a103 else if k = 6 then a106 else if k = 7 then a107 else if k = 8 then a108 else if k = 10 then a110 else if k = 11 then a111 else if k = 12 then a112 else if k = 13 then a113 else if k = 14 then a114 else if k = 16 then a116 else if k = 18 then a118 else if k = 19 then a119 else if k = 20 then a120 else if k = 21 then a121 else if k = 23 then a123 else if k = 27 then a127 else if k = 28 then a128 else if k = 29 then a129 else if k = 32 then a132 else if k = 33 then a133 else if k = 34 then a134 else if k = 35 then a135 else if k = 36 then a136 else if k = 37 then a137 else if k = 38 then a138 else 0) = xm_len k ∧ xA S29 (if k = 2 then a102 else if k = 3 then a103 else if k = 6 then a106 else if k = 7 then a107 else if k = 8 then a108 else if k = 10 then a110 else if k = 11 then a111 else if k = 12 then a112 else if k = 13 then a113 else if k = 14 then a114 else if k = 16 then a116 else if k = 18 then a118 else if k = 19 then a119 else if k = 20 then a120 else if k = 21 then a121 else if k = 23 then a123 else if k = 27 then a127 else if k = 28 then a128 else if k = 29 then a129 else if k = 32 then a132 else if k = 33 then a133 else if k = 34 then a134 else if k = 35 then a135 else if k = 36 then a136 else if k = 37 then a137 else if k = 38 then a138 else 0) = (fun _ => 0) ∧ xT S (if k = 2 then a102 else if k = 3 then a103 else if k = 6 then a106 else if k = 7 then a107 else if k = 8 then a108 else if k = 10 then a110 else if k = 11 then a111 else if k = 12 then a112 else if k = 13 then a113 else if k = 14 then a114 else if k = 16 then a116 else if k = 18 then a118 else if k = 19 then a119 else if k = 20 then a120 else if k = 21 then a121 else if k = 23 then a123 else if k = 27 then a127 else if k = 28 then a128 else if k = 29 then a129 else if k = 32 then a132 else if k = 33 then a133 else if k = 34 then a134 else if k = 35 then a135 else if k = 36 then a136 else if k = 37 then a137 else if k = 38 then a138 else 0) = 0 := fun k hk => by
    have key : ∃ e, e ∈ [(138, a138, 101, 40), (137, a137, 101, 10), (136, a136, 101, 40), (135, a135, 102, 40), (134, a134, 101, 40), (133, a133, 101, 40), (132, a132, 101, 40), (129, a129, 101, 8), (128, a128, 101, 6), (127, a127, 101, 8), (123, a123, 101, 360), (121, a121, 102, 64), (120, a120, 101, 480), (119, a119, 101, 8), (118, a118, 101, 8), (116, a116, 101, 540), (114, a114, 102, 10), (113, a113, 101, 10), (112, a112, 101, 10), (111, a111, 101, 10), (110, a110, 101, 10), (108, a108, 101, 36000), (107, a107, 101, 40), (106, a106, 101, 320), (103, a103, 101, 64), (102, a102, 102, 64)] ∧ e.1 = 100 + k ∧ e.2.1 = (if k = 2 then a102 else if k = 3 then a103 else if k = 6 then a106 else if k = 7 then a107 else if k = 8 then a108 else if k = 10 then a110 else if k = 11 then a111 else if k = 12 then a112 else if k = 13 then a113 else if k = 14 then a114 else if k = 16 then a116 else if k = 18 then a118 else if k = 19 then a119 else if k = 20 then a120 else if k = 21 then a121 else if k = 23 then a123 else if k = 27 then a127 else if k = 28 then a128 else if k = 29 then a129 else if k = 32 then a132 else if k = 33 then a133 else if k = 34 then a134 else if k = 35 then a135 else if k = 36 then a136 else if k = 37 then a137 else if k = 38 then a138 else 0) ∧ e.2.2.1 = xm_tag k ∧ e.2.2.2 = xm_len k := by
      simp only [xm_ks, List.mem_cons, List.not_mem_nil, or_false] at hk
      rcases hk with rfl | rfl | rfl | rfl | rfl | rfl | rfl | rfl | rfl | rfl | rfl | rfl | rfl | rfl | rfl | rfl | rfl | rfl | rfl | rfl | rfl | rfl | rfl | rfl | rfl | rfl
      · exact ⟨(102, a102, 102, 64), by simp, rfl, rfl, rfl, rfl⟩
      · exact ⟨(103, a103, 101, 64), by simp, rfl, rfl, rfl, rfl⟩
      · exact ⟨(106, a106, 101, 320), by simp, rfl, rfl, rfl, rfl⟩
      · exact ⟨(107, a107, 101, 40), by simp, rfl, rfl, rfl, rfl⟩
      · exact ⟨(108, a108, 101, 36000), by simp, rfl, rfl, rfl, rfl⟩
      · exact ⟨(110, a110, 101, 10), by simp, rfl, rfl, rfl, rfl⟩
      · exact ⟨(111, a111, 101, 10), by simp, rfl, rfl, rfl, rfl⟩
      · exact ⟨(112, a112, 101, 10), by simp, rfl, rfl, rfl, rfl⟩
      · exact ⟨(113, a113, 101, 10), by simp, rfl, rfl, rfl, rfl⟩
      · exact ⟨(114, a114, 102, 10), by simp, rfl, rfl, rfl, rfl⟩
      · exact ⟨(116, a116, 101, 540), by simp, rfl, rfl, rfl, rfl⟩
      · exact ⟨(118, a118, 101, 8), by simp, rfl, rfl, rfl, rfl⟩
      · exact ⟨(119, a119, 101, 8), by simp, rfl, rfl, rfl, rfl⟩
      · exact ⟨(120, a120, 101, 480), by simp, rfl, rfl, rfl, rfl⟩
      · exact ⟨(121, a121, 102, 64), by simp, rfl, rfl, rfl, rfl⟩
      · exact ⟨(123, a123, 101, 360), by simp, rfl, rfl, rfl, rfl⟩
      · exact ⟨(127, a127, 101, 8), by simp, rfl, rfl, rfl, rfl⟩
      · exact ⟨(128, a128, 101, 6), by simp, rfl, rfl, rfl, rfl⟩
      · exact ⟨(129, a129, 101, 8), by simp, rfl, rfl, rfl, rfl⟩
      · exact ⟨(132, a132, 101, 40), by simp, rfl, rfl, rfl, rfl⟩
      · exact ⟨(133, a133, 101, 40), by simp, rfl, rfl, rfl, rfl⟩
      · exact ⟨(134, a134, 101, 40), by simp, rfl, rfl, rfl, rfl⟩
      · exact ⟨(135, a135, 102, 40), by simp, rfl, rfl, rfl, rfl⟩
      · exact ⟨(136, a136, 101, 40), by simp, rfl, rfl, rfl, rfl⟩
      · exact ⟨(137, a137, 101, 10), by simp, rfl, rfl, rfl, rfl⟩
      · exact ⟨(138, a138, 101, 40), by simp, rfl, rfl, rfl, rfl⟩
    obtain ⟨e, he, k1, k2, k3, k4⟩ := key
    obtain ⟨w1, w2, w3, w4, w5⟩ := V29.2.2.1 e he
    have zz := Z29 e he
    rw [k1, k2] at w1
    rw [k2, k3] at w2
    rw [k2, k4] at w3
    rw [k2] at w4 zz
    exact ⟨w1, w2, w3, w4 (by rw [k3]; exact tg_le k hk), zz⟩
  refine q _ (fun k => if k = 2 then a102 else if k = 3 then a103 else if k = 6 then a106 else if k = 7 then a107 else if k = 8 then a108 else if k = 10 then a110 else if k = 11 then a111 else if k = 12 then a112 else if k = 13 then a113 else if k = 14 then a114 else if k = 16 then a116 else if k = 18 then a118 else if k = 19 then a119 else if k = 20 then a120 else if k = 21 then a121 else if k = 23 then a123 else if k = 27 then a127 else if k = 28 then a128 else if k = 29 then a129 else if k = 32 then a132 else if k = 33 then a133 else if k = 34 then a134 else if k = 35 then a135 else if k = 36 then a136 else if k = 37 then a137 else if k = 38 then a138 else 0) ⟨V29.1, fun k hk ht => ?_, hh, List.pairwise_reverse.mpr (List.Pairwise.imp (fun z => Ne.symm z) V29.2.2.2.1), fun k hk e => ?_, fun x hx => V29.2.2.2.2 x hx (fun e => hx (by rw [e]; exact ho))⟩
  · rw [J29]
    exact j0_ok k hk ht
  · have w2 := (hh k hk).2.1
    have e : (if k = 2 then a102 else if k = 3 then a103 else if k = 6 then a106 else if k = 7 then a107 else if k = 8 then a108 else if k = 10 then a110 else if k = 11 then a111 else if k = 12 then a112 else if k = 13 then a113 else if k = 14 then a114 else if k = 16 then a116 else if k = 18 then a118 else if k = 19 then a119 else if k = 20 then a120 else if k = 21 then a121 else if k = 23 then a123 else if k = 27 then a127 else if k = 28 then a128 else if k = 29 then a129 else if k = 32 then a132 else if k = 33 then a133 else if k = 34 then a134 else if k = 35 then a135 else if k = 36 then a136 else if k = 37 then a137 else if k = 38 then a138 else 0) = o := e
    rw [e, V29.1] at w2
    exact tg_2 k hk w2.symm
