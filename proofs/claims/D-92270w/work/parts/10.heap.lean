set_option maxRecDepth 100000
def TX13 : u_T := fun _ => ("", "", "", false)
def tyX13 : Nat → FieldType := fun _ => .int
theorem nmX13 : ∀ a, a < 0 → ∀ b, b < 0 → a ≠ b → (TX13 a).2.1 ≠ (TX13 b).2.1 := fun a h => absurd h (Nat.not_lt_zero a)
theorem tyX13_ok : ∀ k, k < 0 → parseFieldDescriptor (TX13 k).2.2.1 = some (tyX13 k) := fun a h => absurd h (Nat.not_lt_zero a)
theorem in_X13 : ∀ w ∈ u_ws RX13 TX13 0, w ∈ lw_all := fun w h => by simp [u_ws] at h
def TX14 : u_T := fun _ => ("", "", "", false)
def tyX14 : Nat → FieldType := fun _ => .int
theorem nmX14 : ∀ a, a < 0 → ∀ b, b < 0 → a ≠ b → (TX14 a).2.1 ≠ (TX14 b).2.1 := fun a h => absurd h (Nat.not_lt_zero a)
theorem tyX14_ok : ∀ k, k < 0 → parseFieldDescriptor (TX14 k).2.2.1 = some (tyX14 k) := fun a h => absurd h (Nat.not_lt_zero a)
theorem in_X14 : ∀ w ∈ u_ws RX14 TX14 0, w ∈ lw_all := fun w h => by simp [u_ws] at h
def TX15 : u_T := fun _ => ("", "", "", false)
def tyX15 : Nat → FieldType := fun _ => .int
theorem nmX15 : ∀ a, a < 0 → ∀ b, b < 0 → a ≠ b → (TX15 a).2.1 ≠ (TX15 b).2.1 := fun a h => absurd h (Nat.not_lt_zero a)
theorem tyX15_ok : ∀ k, k < 0 → parseFieldDescriptor (TX15 k).2.2.1 = some (tyX15 k) := fun a h => absurd h (Nat.not_lt_zero a)
theorem in_X15 : ∀ w ∈ u_ws RX15 TX15 0, w ∈ lw_all := fun w h => by simp [u_ws] at h
/-- the classes, by number -/
abbrev vwCl : List vw_C := [(RX0, TX0, 19), (RX1, TX1, 39), (RX2, TX2, 5), (RX3, TX3, 3), (RX4, TX4, 4), (RX5, TX5, 6), (RX7, TX7, 2), (RX7, TX7, 2), (RX8, TX8, 2), (RX9, TX9, 1), (RX10, TX10, 2), (RX11, TX11, 2), (RX12, TX12, 2), (RX13, TX13, 0), (RX14, TX14, 0), (RX15, TX15, 0), (RX16, TX16, 6), (RX17, TX17, 10), (RX18, TX18, 5), (RX19, TX19, 6)]
/-- a class's fields: whether it is a reference, and its number -/
def x_fl : Nat → List (Bool × Nat) := fun t => match t with
  | 1 => [(false, 50), (true, 51), (true, 52), (false, 53), (false, 54), (false, 55), (false, 56), (true, 57), (false, 58), (true, 59), (false, 60), (true, 61), (false, 62), (false, 63), (true, 64), (false, 65), (true, 66), (false, 67), (true, 68)]
  | 2 => [(false, 100), (false, 101), (true, 102), (true, 103), (false, 104), (false, 105), (true, 106), (true, 107), (true, 108), (false, 109), (true, 110), (true, 111), (true, 112), (true, 113), (true, 114), (false, 115), (true, 116), (false, 117), (true, 118), (true, 119), (true, 120), (true, 121), (false, 122), (true, 123), (false, 124), (false, 125), (false, 126), (true, 127), (true, 128), (true, 129), (false, 130), (false, 131), (true, 132), (true, 133), (true, 134), (true, 135), (true, 136), (true, 137), (true, 138)]
  | 3 => [(true, 150), (false, 151), (true, 152), (true, 153), (false, 154)]
  | 4 => [(false, 200), (false, 201), (true, 202)]
  | 5 => [(true, 250), (false, 251), (false, 252), (true, 253)]
  | 6 => [(false, 300), (true, 301), (false, 302), (false, 303), (false, 304), (true, 305)]
  | 8 => [(true, 400), (true, 401)]
  | 9 => [(true, 400), (true, 401)]
  | 10 => [(true, 500)]
  | 11 => [(false, 550), (false, 551)]
  | 12 => [(false, 550), (false, 551)]
  | 13 => [(false, 550), (false, 551)]
  | 17 => [(false, 850), (false, 851), (false, 852), (false, 853), (false, 854), (false, 855)]
  | 18 => [(false, 900), (false, 901), (true, 902), (true, 903), (true, 904), (true, 905), (false, 906), (false, 907), (true, 908), (true, 909)]
  | 19 => [(false, 950), (false, 951), (false, 952), (false, 953), (false, 954)]
  | 20 => [(true, 1000), (false, 1001), (false, 1002), (false, 1003), (false, 1004), (true, 1005)]
  | _ => []
/-! ===== the abstract heap: of each address what it is (tag: 0 nothing, a class's number + 1, 101 .. an array), an array's length; fields by number and address; elements by address and index ===== -/
abbrev xH : Type := (Nat → Nat) × (Nat → Nat) × (Nat → Nat → Int32) × (Nat → Nat → Option Nat) × (Nat → Nat → Int32) × (Nat → Nat → Option Nat)
def xT (S : xH) : Nat → Nat := S.1
def xL (S : xH) : Nat → Nat := S.2.1
def xI (S : xH) : Nat → Nat → Int32 := S.2.2.1
def xR (S : xH) : Nat → Nat → Option Nat := S.2.2.2.1
def xA (S : xH) : Nat → Nat → Int32 := S.2.2.2.2.1
def xQ (S : xH) : Nat → Nat → Option Nat := S.2.2.2.2.2
def x_u2 {α : Type} (f : Nat → Nat → α) (i j : Nat) (v : α) : Nat → Nat → α := fun a b => if a = i ∧ b = j then v else f a b
def sI (S : xH) (f a : Nat) (x : Int32) : xH := (xT S, xL S, x_u2 (xI S) f a x, xR S, xA S, xQ S)
def sR (S : xH) (f a : Nat) (r : Option Nat) : xH := (xT S, xL S, xI S, x_u2 (xR S) f a r, xA S, xQ S)
def sA (S : xH) (a i : Nat) (x : Int32) : xH := (xT S, xL S, xI S, xR S, x_u2 (xA S) a i x, xQ S)
def sQ (S : xH) (a i : Nat) (r : Option Nat) : xH := (xT S, xL S, xI S, xR S, xA S, x_u2 (xQ S) a i r)
/-- all of an int array -/
def sB (S : xH) (a : Nat) (g : Nat → Int32) : xH := (xT S, xL S, xI S, xR S, va_up (xA S) a g, xQ S)
def sN (S : xH) (a t : Nat) : xH := (va_up (xT S) a t, xL S, fun f b => if b = a then 0 else xI S f b, fun f b => if b = a then none else xR S f b, xA S, xQ S)
def sV (S : xH) (a t n : Nat) : xH := (va_up (xT S) a t, va_up (xL S) a n, xI S, xR S, va_up (xA S) a (fun _ => 0), va_up (xQ S) a (fun _ => none))
def x_fv (S : xH) (a : Nat) (q : Bool × Nat) : Value := if q.1 = true then va_rf (xR S q.2 a) else .int (xI S q.2 a)
def x_cell (d : Nat → ClassId) (S : xH) (a : Nat) : va_E := if xT S a ≤ 100 then .inr (xT S a - 1, (x_fl (xT S a)).map (x_fv S a)) else if xT S a ≤ 102 then .inl (d (xT S a), xL S a, .inl (xA S a)) else .inl (d (xT S a), xL S a, .inr (.inr (.inr (.inr (xQ S a)))))
def x_df (t : Nat) : List Value := (x_fl t).map (fun q => if q.1 = true then .null else .int 0)
theorem x_nd : ∀ t, t < 30 → ((x_fl t).map Prod.snd).Nodup := by decide +kernel
theorem x_cell_o {d : Nat → ClassId} {S : xH} {a ci : Nat} (h : xT S a = ci + 1) (hci : ci < 100) : x_cell d S a = .inr (ci, (x_fl (ci + 1)).map (x_fv S a)) := by
  unfold x_cell
  rw [h, if_pos (by omega)]
  rfl
theorem x_cell_p {d : Nat → ClassId} {S : xH} {a t : Nat} (h : xT S a = t) (h1 : 100 < t) (h2 : t ≤ 102) : x_cell d S a = .inl (d t, xL S a, .inl (xA S a)) := by
  unfold x_cell
  rw [h, if_neg (by omega), if_pos h2]
theorem x_cell_q {d : Nat → ClassId} {S : xH} {a t : Nat} (h : xT S a = t) (h1 : 102 < t) : x_cell d S a = .inl (d t, xL S a, .inr (.inr (.inr (.inr (xQ S a))))) := by
  unfold x_cell
  rw [h, if_neg (by omega), if_neg (by omega)]
/-- a cell is made of what stands at its address -/
theorem x_cell_eq {d : Nat → ClassId} {S S' : xH} {b : Nat} (h1 : xT S' b = xT S b) (h2 : xL S' b = xL S b) (h3 : ∀ f, xI S' f b = xI S f b) (h4 : ∀ f, xR S' f b = xR S f b) (h5 : xA S' b = xA S b) (h6 : xQ S' b = xQ S b) : x_cell d S' b = x_cell d S b := by
  have e : x_fv S' b = x_fv S b := by
    funext q
    unfold x_fv
    rw [h3, h4]
  unfold x_cell
  rw [h1, h2, h5, h6, e]
theorem x_map_set {l : List (Bool × Nat)} (nd : (l.map Prod.snd).Nodup) {k : Nat} {b : Bool} {f : Nat} (hk : l[k]? = some (b, f)) {g g' : Bool × Nat → Value} {v : Value} (hg : ∀ q, q.2 ≠ f → g' q = g q) (hv : g' (b, f) = v) : l.map g' = (l.map g).set k v := by
  induction l generalizing k with
  | nil => simp at hk
  | cons a l ih =>
    simp only [List.map_cons, List.nodup_cons] at nd
    cases k with
    | zero =>
      simp only [List.getElem?_cons_zero, Option.some.injEq] at hk
      subst hk
      simp only [List.map_cons, List.set_cons_zero, hv]
      congr 1
      apply List.map_congr_left
      intro q hq
      refine hg q (fun e => nd.1 ?_)
      exact List.mem_map.mpr ⟨q, hq, e⟩
    | succ k =>
      simp only [List.getElem?_cons_succ] at hk
      simp only [List.map_cons, List.set_cons_succ, ih nd.2 hk]
      congr 1
      refine hg a (fun e => nd.1 ?_)
      exact List.mem_map.mpr ⟨_, List.mem_of_getElem? hk, e.symm⟩
theorem x_cell_sI {d : Nat → ClassId} {S : xH} {a ci k f : Nat} {x : Int32} (h : xT S a = ci + 1) (hci : ci < 29) (hf : (x_fl (ci + 1))[k]? = some (false, f)) : x_cell d (sI S f a x) a = .inr (ci, ((x_fl (ci + 1)).map (x_fv S a)).set k (.int x)) := by
  rw [x_cell_o (S := sI S f a x) (ci := ci) h (by omega)]
  refine congrArg (fun z => Sum.inr (ci, z)) (x_map_set (x_nd _ (by omega)) hf (fun q hq => ?_) ?_)
  · simp [x_fv, sI, xI, xR, x_u2, hq]
  · simp [x_fv, sI, xI, x_u2]
theorem x_cell_sR {d : Nat → ClassId} {S : xH} {a ci k f : Nat} {r : Option Nat} (h : xT S a = ci + 1) (hci : ci < 29) (hf : (x_fl (ci + 1))[k]? = some (true, f)) : x_cell d (sR S f a r) a = .inr (ci, ((x_fl (ci + 1)).map (x_fv S a)).set k (va_rf r)) := by
  rw [x_cell_o (S := sR S f a r) (ci := ci) h (by omega)]
  refine congrArg (fun z => Sum.inr (ci, z)) (x_map_set (x_nd _ (by omega)) hf (fun q hq => ?_) ?_)
  · simp [x_fv, sR, xI, xR, x_u2, hq]
  · simp [x_fv, sR, xR, x_u2]
theorem x_cell_sI_ne {d : Nat → ClassId} {S : xH} {a b f : Nat} {x : Int32} (h : b ≠ a) : x_cell d (sI S f a x) b = x_cell d S b :=
  x_cell_eq rfl rfl (fun g => by simp [sI, xI, x_u2, h]) (fun _ => rfl) rfl rfl
theorem x_cell_sR_ne {d : Nat → ClassId} {S : xH} {a b f : Nat} {r : Option Nat} (h : b ≠ a) : x_cell d (sR S f a r) b = x_cell d S b :=
  x_cell_eq rfl rfl (fun _ => rfl) (fun g => by simp [sR, xR, x_u2, h]) rfl rfl
theorem x_cell_sA_ne {d : Nat → ClassId} {S : xH} {a b i : Nat} {x : Int32} (h : b ≠ a) : x_cell d (sA S a i x) b = x_cell d S b :=
  x_cell_eq rfl rfl (fun _ => rfl) (fun _ => rfl) (by funext j; simp [sA, xA, x_u2, h]) rfl
theorem x_cell_sQ_ne {d : Nat → ClassId} {S : xH} {a b i : Nat} {r : Option Nat} (h : b ≠ a) : x_cell d (sQ S a i r) b = x_cell d S b :=
  x_cell_eq rfl rfl (fun _ => rfl) (fun _ => rfl) rfl (by funext j; simp [sQ, xQ, x_u2, h])
theorem x_cell_sB_ne {d : Nat → ClassId} {S : xH} {a b : Nat} {g : Nat → Int32} (h : b ≠ a) : x_cell d (sB S a g) b = x_cell d S b :=
  x_cell_eq rfl rfl (fun _ => rfl) (fun _ => rfl) (by simp [sB, xA, va_up, h]) rfl
theorem x_cell_sN_ne {d : Nat → ClassId} {S : xH} {a b t : Nat} (h : b ≠ a) : x_cell d (sN S a t) b = x_cell d S b :=
  x_cell_eq (by simp [sN, xT, va_up, h]) rfl (fun _ => by simp [sN, xI, h]) (fun _ => by simp [sN, xR, h]) rfl rfl
theorem x_cell_sV_ne {d : Nat → ClassId} {S : xH} {a b t n : Nat} (h : b ≠ a) : x_cell d (sV S a t n) b = x_cell d S b :=
  x_cell_eq (by simp [sV, xT, va_up, h]) (by simp [sV, xL, va_up, h]) (fun _ => rfl) (fun _ => rfl) (by simp [sV, xA, va_up, h]) (by simp [sV, xQ, va_up, h])
theorem x_cell_sN {d : Nat → ClassId} {S : xH} {a ci : Nat} (hci : ci < 100) : x_cell d (sN S a (ci + 1)) a = .inr (ci, x_df (ci + 1)) := by
  rw [x_cell_o (S := sN S a (ci + 1)) (ci := ci) (by simp [sN, xT, va_up]) hci]
  refine congrArg (fun z => Sum.inr (ci, z)) (List.map_congr_left fun q _ => ?_)
  unfold x_fv
  simp only [sN, xI, xR, if_true]
  rfl
theorem x_cell_sVp {d : Nat → ClassId} {S : xH} {a t n : Nat} (h1 : 100 < t) (h2 : t ≤ 102) : x_cell d (sV S a t n) a = .inl (d t, n, .inl (fun _ => 0)) := by
  rw [x_cell_p (S := sV S a t n) (t := t) (by simp [sV, xT, va_up]) h1 h2]
  simp [sV, xL, xA, va_up]
theorem x_cell_sVq {d : Nat → ClassId} {S : xH} {a t n : Nat} (h1 : 102 < t) : x_cell d (sV S a t n) a = .inl (d t, n, .inr (.inr (.inr (.inr (fun _ => none))))) := by
  rw [x_cell_q (S := sV S a t n) (t := t) (by simp [sV, xT, va_up]) h1]
  simp [sV, xL, xQ, va_up]
/-- the machine's heap holds the abstract one; mc: cells beside it -/
def x_Rp (D : va_G) (d : Nat → ClassId) (A : Nat → Prop) (mc : va_W) (S : xH) (H : Heap) : Prop := ∃ ws : va_W, va_P D vwCl (mc ++ ws) H ∧ va_D A (mc ++ ws) ∧ ∀ a, xT S a ≠ 0 → ∃ k : Nat, ws[k]? = some (a, x_cell d S a)
theorem x_idx {mc ws : va_W} {k : Nat} {q : Nat × va_E} (h : ws[k]? = some q) : (mc ++ ws)[mc.length + k]? = some q := by
  rw [List.getElem?_append_right (Nat.le_add_right _ _), Nat.add_sub_cancel_left]
  exact h
theorem x_set {mc ws : va_W} {k : Nat} {q : Nat × va_E} : (mc ++ ws).set (mc.length + k) q = mc ++ ws.set k q := by
  rw [List.set_append_right _ _ (Nat.le_add_right _ _), Nat.add_sub_cancel_left]
theorem x_Rp.at {D : va_G} {d : Nat → ClassId} {A : Nat → Prop} {mc : va_W} {S : xH} {H : Heap} {a : Nat} (h : x_Rp D d A mc S H) (ha : xT S a ≠ 0) : ∃ (ws : va_W) (k : Nat), va_P D vwCl ws H ∧ ws[k]? = some (a, x_cell d S a) := by
  obtain ⟨ws, hP, hD, hW⟩ := h
  obtain ⟨k, hk⟩ := hW a ha
  exact ⟨_, _, hP, x_idx hk⟩
theorem x_Rp.put {D : va_G} {d : Nat → ClassId} {A : Nat → Prop} {mc ws : va_W} {S S' : xH} {H1 : Heap} {a k : Nat} {e0 e : va_E} (hk : ws[k]? = some (a, e0)) (hW : ∀ a, xT S a ≠ 0 → ∃ k : Nat, ws[k]? = some (a, x_cell d S a)) (hP : va_P D vwCl ((mc ++ ws).set (mc.length + k) (a, e)) H1) (hD : va_D A ((mc ++ ws).set (mc.length + k) (a, e)))
    (hT : ∀ b, xT S' b = xT S b) (hs : x_cell d S' a = e) (ho : ∀ b, b ≠ a → x_cell d S' b = x_cell d S b) : x_Rp D d A mc S' H1 := by
  rw [x_set] at hP hD
  refine ⟨ws.set k (a, e), hP, hD, fun b hb => ?_⟩
  have hl := (List.getElem?_eq_some_iff.mp hk).1
  by_cases hba : b = a
  · subst hba
    exact ⟨k, by rw [List.getElem?_set_self hl, hs]⟩
  · obtain ⟨j, hj⟩ := hW b (by rw [← hT]; exact hb)
    have hjk : k ≠ j := by
      intro q
      subst q
      rw [hk] at hj
      cases hj
      exact hba rfl
    exact ⟨j, by rw [List.getElem?_set_ne hjk, ho b hba]; exact hj⟩
theorem x_fresh {d : Nat → ClassId} {A : Nat → Prop} {mc ws : va_W} {S : xH} {q : Nat} {e : va_E} (hW : ∀ a, xT S a ≠ 0 → ∃ k : Nat, ws[k]? = some (a, x_cell d S a)) (hD : va_D A ((mc ++ ws) ++ [(q, e)])) : xT S q = 0 := by
  by_cases h : xT S q = 0
  · exact h
  · obtain ⟨k, hk⟩ := hW q h
    have h1 := x_idx (mc := mc) hk
    have hl := (List.getElem?_eq_some_iff.mp h1).1
    have h2 : ((mc ++ ws) ++ [(q, e)])[mc.length + k]? = some (q, x_cell d S q) := by rw [List.getElem?_append_left hl]; exact h1
    have h3 : ((mc ++ ws) ++ [(q, e)])[(mc ++ ws).length]? = some (q, e) := by rw [List.getElem?_append_right (Nat.le_refl _), Nat.sub_self]; rfl
    have := hD.1 _ _ _ _ h2 h3 rfl
    omega
theorem x_Rp.push {D : va_G} {d : Nat → ClassId} {A : Nat → Prop} {mc ws : va_W} {S S' : xH} {H1 : Heap} {q : Nat} {e : va_E} (hW : ∀ a, xT S a ≠ 0 → ∃ k : Nat, ws[k]? = some (a, x_cell d S a)) (hP : va_P D vwCl ((mc ++ ws) ++ [(q, e)]) H1) (hD : va_D A ((mc ++ ws) ++ [(q, e)]))
    (hT : ∀ b, b ≠ q → xT S' b = xT S b) (hs : x_cell d S' q = e) (ho : ∀ b, b ≠ q → x_cell d S' b = x_cell d S b) : x_Rp D d A mc S' H1 := by
  rw [List.append_assoc] at hP hD
  refine ⟨ws ++ [(q, e)], hP, hD, fun b hb => ?_⟩
  by_cases hbq : b = q
  · subst hbq
    exact ⟨ws.length, by rw [List.getElem?_append_right (Nat.le_refl _), Nat.sub_self, hs]; rfl⟩
  · obtain ⟨j, hj⟩ := hW b (by rw [← hT b hbq]; exact hb)
    exact ⟨j, by rw [List.getElem?_append_left (List.getElem?_eq_some_iff.mp hj).1, ho b hbq]; exact hj⟩
/-- the array classes, by their tags -/
def x_tys (d : Nat → ClassId) : List (ClassId × FieldType) := [(d 101, .int), (d 102, .boolean), (d 103, .object "PressedMen$Man"), (d 104, .object "PressedMen$Paper"), (d 105, .object "PressedMen$Act"), (d 106, .object "PressedMen$Taking"), (d 107, .object "PressedMen$Ship"), (d 108, .object "PressedMen$Ticket"), (d 109, .array .boolean), (d 110, .array .int)]
/-- the words that ride in no list -/
def x_nw : Cond → Bool
  | .fieldLinkNest _ _ _ _ _ _ => true
  | .methodLinkNest _ _ _ _ => true
  | .declares _ => true
  | .arrayOver (.object _) => true
  | .arrayOver (.array _) => true
  | _ => false
theorem x_nw_warm {w : Cond} (h : x_nw w = true) {s U : State} (hW : s.WarmedH U.vm) (hZ : va_Nw w s) : va_Nw w U := by
  unfold x_nw at h
  split at h
  · exact va_Nw.warmF hW hZ
  · exact va_Nw.warmM hW hZ
  · exact va_Nw.warmD hW hZ
  · exact va_AO.moved hW.alike hZ
  · exact over_moved hW.alike hZ
  · cases h
theorem x_nw_same {w : Cond} (h : x_nw w = true) {u U : State} (e : u.vm = U.vm) (hZ : va_Nw w u) : va_Nw w U := by
  have hal : u.vm.Alike U.vm := by rw [e]; exact Vm.Alike.refl _
  unfold x_nw at h
  split at h
  · exact va_Nw.same rfl e hZ
  · exact va_Nw.same rfl e hZ
  · exact va_Nw.same rfl e hZ
  · exact va_AO.moved hal hZ
  · exact over_moved hal hZ
  · cases h
/-- what is known of the tables all through -/
def x_KK (D : va_G) (d : Nat → ClassId) (U : State) : Prop := va_K D vwCl (x_tys d) U ∧ ∀ w ∈ lw_tbl, x_nw w = true → va_Nw w U
theorem x_KK.warm {D : va_G} {d : Nat → ClassId} {s U : State} (h : x_KK D d s) (hW : s.WarmedH U.vm) : x_KK D d U := ⟨va_K.moved hW.alike h.1, fun w hw hn => x_nw_warm hn hW (h.2 w hw hn)⟩
theorem x_KK.same {D : va_G} {d : Nat → ClassId} {u U : State} (h : x_KK D d u) (e : u.vm = U.vm) : x_KK D d U := ⟨va_K.moved (by rw [e]; exact Vm.Alike.refl _) h.1, fun w hw hn => x_nw_same hn e (h.2 w hw hn)⟩
abbrev x_A (base : Nat) : Nat → Prop := fun q => base ≤ q
abbrev x_rm (f k n lo : Nat) : Room := { frames := f, cells := k, slots := n, locals := lo }
/-- a boolean -/
def x_B (x : Int32) : Prop := x = 0 ∨ x = 1
theorem x_B.n {x : Int32} (h : x_B x) : narrow .boolean (.int x) = .int x := by rcases h with rfl | rfl <;> rfl
theorem x_B.f {x : Int32} (h : x_B x) : fits .boolean (.int x) = true := by rcases h with rfl | rfl <;> rfl
theorem x_B.v {x : Int32} (h : x_B x) : vp_nar .boolean x = x := by rcases h with rfl | rfl <;> rfl
theorem x_rn (C : String) (r : Option Nat) : narrow (.object C) (va_rf r) = va_rf r := by cases r <;> rfl
theorem x_rnA (t : FieldType) (r : Option Nat) : narrow (.array t) (va_rf r) = va_rf r := by cases r <;> rfl
theorem x_rf (C : String) (r : Option Nat) : fits (.object C) (va_rf r) = true := by cases r <;> rfl
theorem x_rfA (t : FieldType) (r : Option Nat) : fits (.array t) (va_rf r) = true := by cases r <;> rfl
theorem x_cat (r : Option Nat) : (va_rf r).category = 1 := by cases r <;> rfl
/-! the statements' own words -/
def wif (c A B : Prop) : Prop := (c → A) ∧ (¬ c → B)
theorem x_t {c A B : Prop} (h : wif c A B) (hc : c) : A := h.1 hc
theorem x_f {c A B : Prop} (h : wif c A B) (hc : ¬ c) : B := h.2 hc
def nm {α : Type} (e : α) (K : α → Prop) : Prop := ∀ x, x = e → K x
def lf1 {α : Type} (F : (α → Prop) → α → Prop) (a0 : α) : Prop := ∀ P : α → Prop, (∀ a0, F P a0 → P a0) → P a0
theorem x_lf1 {α : Type} {F : (α → Prop) → α → Prop} {a0 : α} {G : α → Prop} (h : lf1 F a0) (st : ∀ a0, F G a0 → G a0) : G a0 := h G st
def jn {α : Type} (R : α → Prop) (F : (α → Prop) → Prop) : Prop := F R
theorem x_jn {α : Type} {R : α → Prop} {F : (α → Prop) → Prop} {G : α → Prop} {X : Prop} (h : jn R F) (a : ∀ a0, R a0 → G a0) (b : (∀ a0, R a0 → G a0) → F R → X) : X := b a h
def lf2 {α β : Type} (F : (α → β → Prop) → α → β → Prop) (a0 : α) (a1 : β) : Prop := ∀ P : α → β → Prop, (∀ a0 a1, F P a0 a1 → P a0 a1) → P a0 a1
theorem x_lf2 {α β : Type} {F : (α → β → Prop) → α → β → Prop} {a0 : α} {a1 : β} {G : α → β → Prop} (h : lf2 F a0 a1) (st : ∀ a0 a1, F G a0 a1 → G a0 a1) : G a0 a1 := h G st
def jn2 {α β : Type} (R : α → β → Prop) (F : (α → β → Prop) → Prop) : Prop := F R
theorem x_jn2 {α β : Type} {R : α → β → Prop} {F : (α → β → Prop) → Prop} {G : α → β → Prop} {X : Prop} (h : jn2 R F) (a : ∀ a0 a1, R a0 a1 → G a0 a1) (b : (∀ a0 a1, R a0 a1 → G a0 a1) → F R → X) : X := b a h
def lf3 {α β γ : Type} (F : (α → β → γ → Prop) → α → β → γ → Prop) (a0 : α) (a1 : β) (a2 : γ) : Prop := ∀ P : α → β → γ → Prop, (∀ a0 a1 a2, F P a0 a1 a2 → P a0 a1 a2) → P a0 a1 a2
theorem x_lf3 {α β γ : Type} {F : (α → β → γ → Prop) → α → β → γ → Prop} {a0 : α} {a1 : β} {a2 : γ} {G : α → β → γ → Prop} (h : lf3 F a0 a1 a2) (st : ∀ a0 a1 a2, F G a0 a1 a2 → G a0 a1 a2) : G a0 a1 a2 := h G st
def jn3 {α β γ : Type} (R : α → β → γ → Prop) (F : (α → β → γ → Prop) → Prop) : Prop := F R
theorem x_jn3 {α β γ : Type} {R : α → β → γ → Prop} {F : (α → β → γ → Prop) → Prop} {G : α → β → γ → Prop} {X : Prop} (h : jn3 R F) (a : ∀ a0 a1 a2, R a0 a1 a2 → G a0 a1 a2) (b : (∀ a0 a1 a2, R a0 a1 a2 → G a0 a1 a2) → F R → X) : X := b a h
def lf4 {α β γ δ : Type} (F : (α → β → γ → δ → Prop) → α → β → γ → δ → Prop) (a0 : α) (a1 : β) (a2 : γ) (a3 : δ) : Prop := ∀ P : α → β → γ → δ → Prop, (∀ a0 a1 a2 a3, F P a0 a1 a2 a3 → P a0 a1 a2 a3) → P a0 a1 a2 a3
theorem x_lf4 {α β γ δ : Type} {F : (α → β → γ → δ → Prop) → α → β → γ → δ → Prop} {a0 : α} {a1 : β} {a2 : γ} {a3 : δ} {G : α → β → γ → δ → Prop} (h : lf4 F a0 a1 a2 a3) (st : ∀ a0 a1 a2 a3, F G a0 a1 a2 a3 → G a0 a1 a2 a3) : G a0 a1 a2 a3 := h G st
def jn4 {α β γ δ : Type} (R : α → β → γ → δ → Prop) (F : (α → β → γ → δ → Prop) → Prop) : Prop := F R
theorem x_jn4 {α β γ δ : Type} {R : α → β → γ → δ → Prop} {F : (α → β → γ → δ → Prop) → Prop} {G : α → β → γ → δ → Prop} {X : Prop} (h : jn4 R F) (a : ∀ a0 a1 a2 a3, R a0 a1 a2 a3 → G a0 a1 a2 a3) (b : (∀ a0 a1 a2 a3, R a0 a1 a2 a3 → G a0 a1 a2 a3) → F R → X) : X := b a h
def lf5 {α β γ δ ε : Type} (F : (α → β → γ → δ → ε → Prop) → α → β → γ → δ → ε → Prop) (a0 : α) (a1 : β) (a2 : γ) (a3 : δ) (a4 : ε) : Prop := ∀ P : α → β → γ → δ → ε → Prop, (∀ a0 a1 a2 a3 a4, F P a0 a1 a2 a3 a4 → P a0 a1 a2 a3 a4) → P a0 a1 a2 a3 a4
theorem x_lf5 {α β γ δ ε : Type} {F : (α → β → γ → δ → ε → Prop) → α → β → γ → δ → ε → Prop} {a0 : α} {a1 : β} {a2 : γ} {a3 : δ} {a4 : ε} {G : α → β → γ → δ → ε → Prop} (h : lf5 F a0 a1 a2 a3 a4) (st : ∀ a0 a1 a2 a3 a4, F G a0 a1 a2 a3 a4 → G a0 a1 a2 a3 a4) : G a0 a1 a2 a3 a4 := h G st
def jn5 {α β γ δ ε : Type} (R : α → β → γ → δ → ε → Prop) (F : (α → β → γ → δ → ε → Prop) → Prop) : Prop := F R
theorem x_jn5 {α β γ δ ε : Type} {R : α → β → γ → δ → ε → Prop} {F : (α → β → γ → δ → ε → Prop) → Prop} {G : α → β → γ → δ → ε → Prop} {X : Prop} (h : jn5 R F) (a : ∀ a0 a1 a2 a3 a4, R a0 a1 a2 a3 a4 → G a0 a1 a2 a3 a4) (b : (∀ a0 a1 a2 a3 a4, R a0 a1 a2 a3 a4 → G a0 a1 a2 a3 a4) → F R → X) : X := b a h
def lf6 {α β γ δ ε ζ : Type} (F : (α → β → γ → δ → ε → ζ → Prop) → α → β → γ → δ → ε → ζ → Prop) (a0 : α) (a1 : β) (a2 : γ) (a3 : δ) (a4 : ε) (a5 : ζ) : Prop := ∀ P : α → β → γ → δ → ε → ζ → Prop, (∀ a0 a1 a2 a3 a4 a5, F P a0 a1 a2 a3 a4 a5 → P a0 a1 a2 a3 a4 a5) → P a0 a1 a2 a3 a4 a5
theorem x_lf6 {α β γ δ ε ζ : Type} {F : (α → β → γ → δ → ε → ζ → Prop) → α → β → γ → δ → ε → ζ → Prop} {a0 : α} {a1 : β} {a2 : γ} {a3 : δ} {a4 : ε} {a5 : ζ} {G : α → β → γ → δ → ε → ζ → Prop} (h : lf6 F a0 a1 a2 a3 a4 a5) (st : ∀ a0 a1 a2 a3 a4 a5, F G a0 a1 a2 a3 a4 a5 → G a0 a1 a2 a3 a4 a5) : G a0 a1 a2 a3 a4 a5 := h G st
def jn6 {α β γ δ ε ζ : Type} (R : α → β → γ → δ → ε → ζ → Prop) (F : (α → β → γ → δ → ε → ζ → Prop) → Prop) : Prop := F R
theorem x_jn6 {α β γ δ ε ζ : Type} {R : α → β → γ → δ → ε → ζ → Prop} {F : (α → β → γ → δ → ε → ζ → Prop) → Prop} {G : α → β → γ → δ → ε → ζ → Prop} {X : Prop} (h : jn6 R F) (a : ∀ a0 a1 a2 a3 a4 a5, R a0 a1 a2 a3 a4 a5 → G a0 a1 a2 a3 a4 a5) (b : (∀ a0 a1 a2 a3 a4 a5, R a0 a1 a2 a3 a4 a5 → G a0 a1 a2 a3 a4 a5) → F R → X) : X := b a h
def lf7 {α β γ δ ε ζ η : Type} (F : (α → β → γ → δ → ε → ζ → η → Prop) → α → β → γ → δ → ε → ζ → η → Prop) (a0 : α) (a1 : β) (a2 : γ) (a3 : δ) (a4 : ε) (a5 : ζ) (a6 : η) : Prop := ∀ P : α → β → γ → δ → ε → ζ → η → Prop, (∀ a0 a1 a2 a3 a4 a5 a6, F P a0 a1 a2 a3 a4 a5 a6 → P a0 a1 a2 a3 a4 a5 a6) → P a0 a1 a2 a3 a4 a5 a6
theorem x_lf7 {α β γ δ ε ζ η : Type} {F : (α → β → γ → δ → ε → ζ → η → Prop) → α → β → γ → δ → ε → ζ → η → Prop} {a0 : α} {a1 : β} {a2 : γ} {a3 : δ} {a4 : ε} {a5 : ζ} {a6 : η} {G : α → β → γ → δ → ε → ζ → η → Prop} (h : lf7 F a0 a1 a2 a3 a4 a5 a6) (st : ∀ a0 a1 a2 a3 a4 a5 a6, F G a0 a1 a2 a3 a4 a5 a6 → G a0 a1 a2 a3 a4 a5 a6) : G a0 a1 a2 a3 a4 a5 a6 := h G st
def jn7 {α β γ δ ε ζ η : Type} (R : α → β → γ → δ → ε → ζ → η → Prop) (F : (α → β → γ → δ → ε → ζ → η → Prop) → Prop) : Prop := F R
theorem x_jn7 {α β γ δ ε ζ η : Type} {R : α → β → γ → δ → ε → ζ → η → Prop} {F : (α → β → γ → δ → ε → ζ → η → Prop) → Prop} {G : α → β → γ → δ → ε → ζ → η → Prop} {X : Prop} (h : jn7 R F) (a : ∀ a0 a1 a2 a3 a4 a5 a6, R a0 a1 a2 a3 a4 a5 a6 → G a0 a1 a2 a3 a4 a5 a6) (b : (∀ a0 a1 a2 a3 a4 a5 a6, R a0 a1 a2 a3 a4 a5 a6 → G a0 a1 a2 a3 a4 a5 a6) → F R → X) : X := b a h
def lf8 {α β γ δ ε ζ η θ : Type} (F : (α → β → γ → δ → ε → ζ → η → θ → Prop) → α → β → γ → δ → ε → ζ → η → θ → Prop) (a0 : α) (a1 : β) (a2 : γ) (a3 : δ) (a4 : ε) (a5 : ζ) (a6 : η) (a7 : θ) : Prop := ∀ P : α → β → γ → δ → ε → ζ → η → θ → Prop, (∀ a0 a1 a2 a3 a4 a5 a6 a7, F P a0 a1 a2 a3 a4 a5 a6 a7 → P a0 a1 a2 a3 a4 a5 a6 a7) → P a0 a1 a2 a3 a4 a5 a6 a7
theorem x_lf8 {α β γ δ ε ζ η θ : Type} {F : (α → β → γ → δ → ε → ζ → η → θ → Prop) → α → β → γ → δ → ε → ζ → η → θ → Prop} {a0 : α} {a1 : β} {a2 : γ} {a3 : δ} {a4 : ε} {a5 : ζ} {a6 : η} {a7 : θ} {G : α → β → γ → δ → ε → ζ → η → θ → Prop} (h : lf8 F a0 a1 a2 a3 a4 a5 a6 a7) (st : ∀ a0 a1 a2 a3 a4 a5 a6 a7, F G a0 a1 a2 a3 a4 a5 a6 a7 → G a0 a1 a2 a3 a4 a5 a6 a7) : G a0 a1 a2 a3 a4 a5 a6 a7 := h G st
def jn8 {α β γ δ ε ζ η θ : Type} (R : α → β → γ → δ → ε → ζ → η → θ → Prop) (F : (α → β → γ → δ → ε → ζ → η → θ → Prop) → Prop) : Prop := F R
theorem x_jn8 {α β γ δ ε ζ η θ : Type} {R : α → β → γ → δ → ε → ζ → η → θ → Prop} {F : (α → β → γ → δ → ε → ζ → η → θ → Prop) → Prop} {G : α → β → γ → δ → ε → ζ → η → θ → Prop} {X : Prop} (h : jn8 R F) (a : ∀ a0 a1 a2 a3 a4 a5 a6 a7, R a0 a1 a2 a3 a4 a5 a6 a7 → G a0 a1 a2 a3 a4 a5 a6 a7) (b : (∀ a0 a1 a2 a3 a4 a5 a6 a7, R a0 a1 a2 a3 a4 a5 a6 a7 → G a0 a1 a2 a3 a4 a5 a6 a7) → F R → X) : X := b a h
def lf9 {α β γ δ ε ζ η θ ι : Type} (F : (α → β → γ → δ → ε → ζ → η → θ → ι → Prop) → α → β → γ → δ → ε → ζ → η → θ → ι → Prop) (a0 : α) (a1 : β) (a2 : γ) (a3 : δ) (a4 : ε) (a5 : ζ) (a6 : η) (a7 : θ) (a8 : ι) : Prop := ∀ P : α → β → γ → δ → ε → ζ → η → θ → ι → Prop, (∀ a0 a1 a2 a3 a4 a5 a6 a7 a8, F P a0 a1 a2 a3 a4 a5 a6 a7 a8 → P a0 a1 a2 a3 a4 a5 a6 a7 a8) → P a0 a1 a2 a3 a4 a5 a6 a7 a8
theorem x_lf9 {α β γ δ ε ζ η θ ι : Type} {F : (α → β → γ → δ → ε → ζ → η → θ → ι → Prop) → α → β → γ → δ → ε → ζ → η → θ → ι → Prop} {a0 : α} {a1 : β} {a2 : γ} {a3 : δ} {a4 : ε} {a5 : ζ} {a6 : η} {a7 : θ} {a8 : ι} {G : α → β → γ → δ → ε → ζ → η → θ → ι → Prop} (h : lf9 F a0 a1 a2 a3 a4 a5 a6 a7 a8) (st : ∀ a0 a1 a2 a3 a4 a5 a6 a7 a8, F G a0 a1 a2 a3 a4 a5 a6 a7 a8 → G a0 a1 a2 a3 a4 a5 a6 a7 a8) : G a0 a1 a2 a3 a4 a5 a6 a7 a8 := h G st
def jn9 {α β γ δ ε ζ η θ ι : Type} (R : α → β → γ → δ → ε → ζ → η → θ → ι → Prop) (F : (α → β → γ → δ → ε → ζ → η → θ → ι → Prop) → Prop) : Prop := F R
theorem x_jn9 {α β γ δ ε ζ η θ ι : Type} {R : α → β → γ → δ → ε → ζ → η → θ → ι → Prop} {F : (α → β → γ → δ → ε → ζ → η → θ → ι → Prop) → Prop} {G : α → β → γ → δ → ε → ζ → η → θ → ι → Prop} {X : Prop} (h : jn9 R F) (a : ∀ a0 a1 a2 a3 a4 a5 a6 a7 a8, R a0 a1 a2 a3 a4 a5 a6 a7 a8 → G a0 a1 a2 a3 a4 a5 a6 a7 a8) (b : (∀ a0 a1 a2 a3 a4 a5 a6 a7 a8, R a0 a1 a2 a3 a4 a5 a6 a7 a8 → G a0 a1 a2 a3 a4 a5 a6 a7 a8) → F R → X) : X := b a h
def lf10 {α β γ δ ε ζ η θ ι κ : Type} (F : (α → β → γ → δ → ε → ζ → η → θ → ι → κ → Prop) → α → β → γ → δ → ε → ζ → η → θ → ι → κ → Prop) (a0 : α) (a1 : β) (a2 : γ) (a3 : δ) (a4 : ε) (a5 : ζ) (a6 : η) (a7 : θ) (a8 : ι) (a9 : κ) : Prop := ∀ P : α → β → γ → δ → ε → ζ → η → θ → ι → κ → Prop, (∀ a0 a1 a2 a3 a4 a5 a6 a7 a8 a9, F P a0 a1 a2 a3 a4 a5 a6 a7 a8 a9 → P a0 a1 a2 a3 a4 a5 a6 a7 a8 a9) → P a0 a1 a2 a3 a4 a5 a6 a7 a8 a9
theorem x_lf10 {α β γ δ ε ζ η θ ι κ : Type} {F : (α → β → γ → δ → ε → ζ → η → θ → ι → κ → Prop) → α → β → γ → δ → ε → ζ → η → θ → ι → κ → Prop} {a0 : α} {a1 : β} {a2 : γ} {a3 : δ} {a4 : ε} {a5 : ζ} {a6 : η} {a7 : θ} {a8 : ι} {a9 : κ} {G : α → β → γ → δ → ε → ζ → η → θ → ι → κ → Prop} (h : lf10 F a0 a1 a2 a3 a4 a5 a6 a7 a8 a9) (st : ∀ a0 a1 a2 a3 a4 a5 a6 a7 a8 a9, F G a0 a1 a2 a3 a4 a5 a6 a7 a8 a9 → G a0 a1 a2 a3 a4 a5 a6 a7 a8 a9) : G a0 a1 a2 a3 a4 a5 a6 a7 a8 a9 := h G st
def jn10 {α β γ δ ε ζ η θ ι κ : Type} (R : α → β → γ → δ → ε → ζ → η → θ → ι → κ → Prop) (F : (α → β → γ → δ → ε → ζ → η → θ → ι → κ → Prop) → Prop) : Prop := F R
theorem x_jn10 {α β γ δ ε ζ η θ ι κ : Type} {R : α → β → γ → δ → ε → ζ → η → θ → ι → κ → Prop} {F : (α → β → γ → δ → ε → ζ → η → θ → ι → κ → Prop) → Prop} {G : α → β → γ → δ → ε → ζ → η → θ → ι → κ → Prop} {X : Prop} (h : jn10 R F) (a : ∀ a0 a1 a2 a3 a4 a5 a6 a7 a8 a9, R a0 a1 a2 a3 a4 a5 a6 a7 a8 a9 → G a0 a1 a2 a3 a4 a5 a6 a7 a8 a9) (b : (∀ a0 a1 a2 a3 a4 a5 a6 a7 a8 a9, R a0 a1 a2 a3 a4 a5 a6 a7 a8 a9 → G a0 a1 a2 a3 a4 a5 a6 a7 a8 a9) → F R → X) : X := b a h
/- a join: the rest R is reached from several places -/
/-- a join that carries nothing -/
def jn0 (R : Prop) (F : Prop → Prop) : Prop := F R
theorem x_jn0 {R : Prop} {F : Prop → Prop} {G X : Prop} (h : jn0 R F) (a : R → G) (b : (R → G) → F R → X) : X := b a h
/-! ===== the rows ===== -/
section XR
variable {p : Program} {l : Launch} {e : Env} {R : Room} {s : State} {m : MethodId} {args : Array Value} {below : List Frame} {meth : Method} {c : Code} {H : Heap} {locs : List Loc} {cells slots : Nat} {Q : State → Prop}
variable {cc : ByteArray} {pc : Nat} {ls : Array Slot} {rest : List Value} {D : va_G} {d : Nat → ClassId} {A : Nat → Prop} {a : Nat} {mc : va_W} {S : xH} {H0 : Heap}
theorem x_dr0 {r : Option Nat} {b : Nat} (h : r = some b) (k : W p l e R s m args below meth c H locs cells slots Q (F0 m pc ls (.ref b :: rest))) : W p l e R s m args below meth c H locs cells slots Q (F0 m pc ls (va_rf r :: rest)) := by subst h; exact k
theorem x_dr1 {r : Option Nat} {b : Nat} {v1 : Value} (h : r = some b) (k : W p l e R s m args below meth c H locs cells slots Q (F0 m pc ls (v1 :: .ref b :: rest))) : W p l e R s m args below meth c H locs cells slots Q (F0 m pc ls (v1 :: va_rf r :: rest)) := by subst h; exact k
theorem x_dr2 {r : Option Nat} {b : Nat} {v1 v2 : Value} (h : r = some b) (k : W p l e R s m args below meth c H locs cells slots Q (F0 m pc ls (v1 :: v2 :: .ref b :: rest))) : W p l e R s m args below meth c H locs cells slots Q (F0 m pc ls (v1 :: v2 :: va_rf r :: rest)) := by subst h; exact k
theorem x_dr3 {r : Option Nat} {b : Nat} {v1 v2 v3 : Value} (h : r = some b) (k : W p l e R s m args below meth c H locs cells slots Q (F0 m pc ls (v1 :: v2 :: v3 :: .ref b :: rest))) : W p l e R s m args below meth c H locs cells slots Q (F0 m pc ls (v1 :: v2 :: v3 :: va_rf r :: rest)) := by subst h; exact k
theorem x_dr4 {r : Option Nat} {b : Nat} {v1 v2 v3 v4 : Value} (h : r = some b) (k : W p l e R s m args below meth c H locs cells slots Q (F0 m pc ls (v1 :: v2 :: v3 :: v4 :: .ref b :: rest))) : W p l e R s m args below meth c H locs cells slots Q (F0 m pc ls (v1 :: v2 :: v3 :: v4 :: va_rf r :: rest)) := by subst h; exact k
theorem x_aload_n (hexec : p.tables.exec = Jvm.exec) (hb : c.code = cc) {k : Fin 4} {i : Nat} {r : Option Nat} (hdg : decode cc pc = .ok (.aload_n k, 1)) (hi : (k : Nat) = i) (hl : ls[i]? = some (.val (va_rf r)))
    (k : W p l e R s m args below meth c H locs cells slots Q (F0 m (pc + 1) ls (va_rf r :: rest))) : W p l e R s m args below meth c H locs cells slots Q (F0 m pc ls rest) := by
  cases r with
  | none => exact lv_aload_nN hexec hb hdg hi hl k
  | some b => exact lv_aload_n hexec hb hdg hi hl k
theorem x_aload (hexec : p.tables.exec = Jvm.exec) (hb : c.code = cc) {i : Nat} {r : Option Nat} (hdg : decode cc pc = .ok (.aload i, 2)) (hl : ls[i]? = some (.val (va_rf r)))
    (k : W p l e R s m args below meth c H locs cells slots Q (F0 m (pc + 2) ls (va_rf r :: rest))) : W p l e R s m args below meth c H locs cells slots Q (F0 m pc ls rest) := by
  cases r with
  | none => exact lv_aloadN hexec hb hdg hl k
  | some b => exact lv_aload hexec hb hdg hl k
theorem x_astore_n (hexec : p.tables.exec = Jvm.exec) (hb : c.code = cc) {k : Fin 4} {i nL : Nat} {r : Option Nat} {lv lv' : List (Nat × Value)} (hdg : decode cc pc = .ok (.astore_n k, 1)) (hi : (k : Nat) = i) (h : lv_has ls nL lv) (hn : i < nL) (hl : (i, va_rf r) :: lv.filter (fun q => !(q.1 == i) && !(q.1 + 1 == i && q.2.category == 2)) = lv')
    (kk : ∀ ls' : Array Slot, lv_has ls' nL lv' → W p l e R s m args below meth c H locs cells slots Q (F0 m (pc + 1) ls' rest)) : W p l e R s m args below meth c H locs cells slots Q (F0 m pc ls (va_rf r :: rest)) := by
  cases r with
  | none => exact lv_astore_nN hexec hb hdg hi h hn hl kk
  | some b => exact lv_astore_n hexec hb hdg hi h hn hl kk
theorem x_astore (hexec : p.tables.exec = Jvm.exec) (hb : c.code = cc) {i nL : Nat} {r : Option Nat} {lv lv' : List (Nat × Value)} (hdg : decode cc pc = .ok (.astore i, 2)) (h : lv_has ls nL lv) (hn : i < nL) (hl : (i, va_rf r) :: lv.filter (fun q => !(q.1 == i) && !(q.1 + 1 == i && q.2.category == 2)) = lv')
    (kk : ∀ ls' : Array Slot, lv_has ls' nL lv' → W p l e R s m args below meth c H locs cells slots Q (F0 m (pc + 2) ls' rest)) : W p l e R s m args below meth c H locs cells slots Q (F0 m pc ls (va_rf r :: rest)) := by
  cases r with
  | none => exact lv_astoreN hexec hb hdg h hn hl kk
  | some b => exact lv_astore hexec hb hdg h hn hl kk
theorem x_ifnull (hexec : p.tables.exec = Jvm.exec) (hb : c.code = cc) {r : Option Nat} {off : Int} {tgt : Nat} (hdg : decode cc pc = .ok (.ifnull off, 3)) (ht : (pc : Int) + off = (tgt : Int))
    (kt : r = none → W p l e R s m args below meth c H locs cells slots Q (F0 m tgt ls rest)) (kf : ¬ r = none → W p l e R s m args below meth c H locs cells slots Q (F0 m (pc + 3) ls rest)) : W p l e R s m args below meth c H locs cells slots Q (F0 m pc ls (va_rf r :: rest)) := by
  cases r with
  | none => exact lv_ifnullN hexec hb hdg ht (kt rfl)
  | some b => exact lv_ifnull hexec hb hdg (kf (fun h => by cases h))
theorem x_ifnonnull (hexec : p.tables.exec = Jvm.exec) (hb : c.code = cc) {r : Option Nat} {off : Int} {tgt : Nat} (hdg : decode cc pc = .ok (.ifnonnull off, 3)) (ht : (pc : Int) + off = (tgt : Int))
    (kt : ¬ r = none → W p l e R s m args below meth c H locs cells slots Q (F0 m tgt ls rest)) (kf : r = none → W p l e R s m args below meth c H locs cells slots Q (F0 m (pc + 3) ls rest)) : W p l e R s m args below meth c H locs cells slots Q (F0 m pc ls (va_rf r :: rest)) := by
  cases r with
  | none => exact lv_ifnonnullN hexec hb hdg (kf rfl)
  | some b => exact lv_ifnonnull hexec hb hdg ht (kt (fun h => by cases h))
theorem x_getI (hexec : p.tables.exec = Jvm.exec) (hb : c.code = cc) {own ref C : String} {T : u_T} {N ci index f : Nat} {Ts : List Cond} (hts : ∀ w ∈ Ts, w.before args s = true) (hin : ∀ w ∈ u_ws C T N, w ∈ Ts) (hown : s.vm.findClass own = some m.cls) (hK : x_KK D d s) (hR : x_Rp D d A mc S H) (hc : vwCl[ci]? = some (C, T, N)) (k : Nat) (hk : k < N) (hlink : (Cond.fieldLink own index ref (T k).2.1 (T k).2.2.1).before args s = true) (hsame : ∀ x, s.fieldFound? (T k).1 (T k).2.1 (T k).2.2.1 = some x → s.fieldFound? ref (T k).2.1 (T k).2.2.1 = some x) (hf : (x_fl (ci + 1))[k]? = some (false, f)) (hci : ci < 29) (hdg : decode cc pc = .ok (.getfield index, 3)) (ha : xT S a = ci + 1)
    (kk : W p l e R s m args below meth c H locs cells slots Q (F0 m (pc + 3) ls (.int (xI S f a) :: rest))) : W p l e R s m args below meth c H locs cells slots Q (F0 m pc ls (.ref a :: rest)) := by
  obtain ⟨ws, k0, hP, he⟩ := hR.at (a := a) (by rw [ha]; exact Nat.succ_ne_zero _)
  rw [x_cell_o ha (by omega)] at he
  refine va_get hexec hb hts hin hown hK.1 hP k0 he hc k hk hlink hsame (v := .int (xI S f a)) ?_ hdg kk
  rw [List.getElem?_map, hf]; rfl
theorem x_getR (hexec : p.tables.exec = Jvm.exec) (hb : c.code = cc) {own ref C : String} {T : u_T} {N ci index f : Nat} {Ts : List Cond} (hts : ∀ w ∈ Ts, w.before args s = true) (hin : ∀ w ∈ u_ws C T N, w ∈ Ts) (hown : s.vm.findClass own = some m.cls) (hK : x_KK D d s) (hR : x_Rp D d A mc S H) (hc : vwCl[ci]? = some (C, T, N)) (k : Nat) (hk : k < N) (hlink : (Cond.fieldLink own index ref (T k).2.1 (T k).2.2.1).before args s = true) (hsame : ∀ x, s.fieldFound? (T k).1 (T k).2.1 (T k).2.2.1 = some x → s.fieldFound? ref (T k).2.1 (T k).2.2.1 = some x) (hf : (x_fl (ci + 1))[k]? = some (true, f)) (hci : ci < 29) (hdg : decode cc pc = .ok (.getfield index, 3)) (ha : xT S a = ci + 1)
    (kk : W p l e R s m args below meth c H locs cells slots Q (F0 m (pc + 3) ls (va_rf (xR S f a) :: rest))) : W p l e R s m args below meth c H locs cells slots Q (F0 m pc ls (.ref a :: rest)) := by
  obtain ⟨ws, k0, hP, he⟩ := hR.at (a := a) (by rw [ha]; exact Nat.succ_ne_zero _)
  rw [x_cell_o ha (by omega)] at he
  refine va_get hexec hb hts hin hown hK.1 hP k0 he hc k hk hlink hsame (v := va_rf (xR S f a)) ?_ hdg kk
  rw [List.getElem?_map, hf]; rfl
theorem x_getNI (hexec : p.tables.exec = Jvm.exec) (hb : c.code = cc) {own ref C host : String} {T : u_T} {N ci index f : Nat} {Ts : List Cond} (hts : ∀ w ∈ Ts, w.before args s = true) (hin : ∀ w ∈ u_ws C T N, w ∈ Ts) (hown : s.vm.findClass own = some m.cls) (hK : x_KK D d s) (hR : x_Rp D d A mc S H) (hc : vwCl[ci]? = some (C, T, N)) (k : Nat) (hk : k < N) (hlink : va_Nw (Cond.fieldLinkNest own index ref (T k).2.1 (T k).2.2.1 host) s) (hsame : ∀ x, s.fieldFound? (T k).1 (T k).2.1 (T k).2.2.1 = some x → s.fieldFound? ref (T k).2.1 (T k).2.2.1 = some x) (hf : (x_fl (ci + 1))[k]? = some (false, f)) (hci : ci < 29) (hdg : decode cc pc = .ok (.getfield index, 3)) (ha : xT S a = ci + 1)
    (kk : W p l e R s m args below meth c H locs cells slots Q (F0 m (pc + 3) ls (.int (xI S f a) :: rest))) : W p l e R s m args below meth c H locs cells slots Q (F0 m pc ls (.ref a :: rest)) := by
  obtain ⟨ws, k0, hP, he⟩ := hR.at (a := a) (by rw [ha]; exact Nat.succ_ne_zero _)
  rw [x_cell_o ha (by omega)] at he
  refine va_getN hexec hb hts hin hown hK.1 hP k0 he hc k hk (va_Nw.use rfl hlink) hsame (v := .int (xI S f a)) ?_ hdg kk
  rw [List.getElem?_map, hf]; rfl
theorem x_getNR (hexec : p.tables.exec = Jvm.exec) (hb : c.code = cc) {own ref C host : String} {T : u_T} {N ci index f : Nat} {Ts : List Cond} (hts : ∀ w ∈ Ts, w.before args s = true) (hin : ∀ w ∈ u_ws C T N, w ∈ Ts) (hown : s.vm.findClass own = some m.cls) (hK : x_KK D d s) (hR : x_Rp D d A mc S H) (hc : vwCl[ci]? = some (C, T, N)) (k : Nat) (hk : k < N) (hlink : va_Nw (Cond.fieldLinkNest own index ref (T k).2.1 (T k).2.2.1 host) s) (hsame : ∀ x, s.fieldFound? (T k).1 (T k).2.1 (T k).2.2.1 = some x → s.fieldFound? ref (T k).2.1 (T k).2.2.1 = some x) (hf : (x_fl (ci + 1))[k]? = some (true, f)) (hci : ci < 29) (hdg : decode cc pc = .ok (.getfield index, 3)) (ha : xT S a = ci + 1)
    (kk : W p l e R s m args below meth c H locs cells slots Q (F0 m (pc + 3) ls (va_rf (xR S f a) :: rest))) : W p l e R s m args below meth c H locs cells slots Q (F0 m pc ls (.ref a :: rest)) := by
  obtain ⟨ws, k0, hP, he⟩ := hR.at (a := a) (by rw [ha]; exact Nat.succ_ne_zero _)
  rw [x_cell_o ha (by omega)] at he
  refine va_getN hexec hb hts hin hown hK.1 hP k0 he hc k hk (va_Nw.use rfl hlink) hsame (v := va_rf (xR S f a)) ?_ hdg kk
  rw [List.getElem?_map, hf]; rfl
theorem x_putI (hexec : p.tables.exec = Jvm.exec) (hb : c.code = cc) {own ref C : String} {T : u_T} {N ci index f : Nat} {Ts : List Cond} (hts : ∀ w ∈ Ts, w.before args s = true) (hin : ∀ w ∈ u_ws C T N, w ∈ Ts) (ty0 : Nat → FieldType) (hty : ∀ k, k < N → parseFieldDescriptor (T k).2.2.1 = some (ty0 k)) (hnm : ∀ a, a < N → ∀ b, b < N → a ≠ b → (T a).2.1 ≠ (T b).2.1) (hown : s.vm.findClass own = some m.cls) (hK : x_KK D d s) (hR : x_Rp D d A mc S H) (hS : va_S A H0 H locs) (hc : vwCl[ci]? = some (C, T, N)) (k : Nat) (hk : k < N) (hlink : (Cond.fieldLink own index ref (T k).2.1 (T k).2.2.1).before args s = true) (hsame : ∀ x, s.fieldFound? (T k).1 (T k).2.1 (T k).2.2.1 = some x → s.fieldFound? ref (T k).2.1 (T k).2.2.1 = some x) (hfin : (T k).2.2.2 = false) (hf : (x_fl (ci + 1))[k]? = some (false, f)) (hci : ci < 29) {x : Int32} (hn : narrow (ty0 k) (.int x) = .int x) (hfit : fits (ty0 k) (.int x) = true) (hdg : decode cc pc = .ok (.putfield index, 3)) (ha : xT S a = ci + 1)
    (kk : ∀ (H1 : Heap) (locs1 : List Loc), x_Rp D d A mc (sI S f a x) H1 → va_S A H0 H1 locs1 → W p l e R s m args below meth c H1 locs1 cells slots Q (F0 m (pc + 3) ls rest)) : W p l e R s m args below meth c H locs cells slots Q (F0 m pc ls (.int x :: .ref a :: rest)) := by
  obtain ⟨ws, hP, hD, hW⟩ := hR
  obtain ⟨k0, hk0⟩ := hW a (by rw [ha]; exact Nat.succ_ne_zero _)
  rw [x_cell_o ha (by omega)] at hk0
  exact va_put hexec hb hts hin ty0 hty hnm hown hK.1 hP hD hS (mc.length + k0) (x_idx hk0) hc k hk hlink hsame hfin (hty k hk) hn hfit (by rw [List.length_map]; exact (List.getElem?_eq_some_iff.mp hf).1) hdg
    (fun H1 locs1 hP1 hD1 hS1 => kk H1 locs1 (x_Rp.put hk0 hW hP1 hD1 (fun _ => rfl) (x_cell_sI ha hci hf) (fun b hb => x_cell_sI_ne hb)) hS1)
theorem x_putR (hexec : p.tables.exec = Jvm.exec) (hb : c.code = cc) {own ref C : String} {T : u_T} {N ci index f : Nat} {Ts : List Cond} (hts : ∀ w ∈ Ts, w.before args s = true) (hin : ∀ w ∈ u_ws C T N, w ∈ Ts) (ty0 : Nat → FieldType) (hty : ∀ k, k < N → parseFieldDescriptor (T k).2.2.1 = some (ty0 k)) (hnm : ∀ a, a < N → ∀ b, b < N → a ≠ b → (T a).2.1 ≠ (T b).2.1) (hown : s.vm.findClass own = some m.cls) (hK : x_KK D d s) (hR : x_Rp D d A mc S H) (hS : va_S A H0 H locs) (hc : vwCl[ci]? = some (C, T, N)) (k : Nat) (hk : k < N) (hlink : (Cond.fieldLink own index ref (T k).2.1 (T k).2.2.1).before args s = true) (hsame : ∀ x, s.fieldFound? (T k).1 (T k).2.1 (T k).2.2.1 = some x → s.fieldFound? ref (T k).2.1 (T k).2.2.1 = some x) (hfin : (T k).2.2.2 = false) (hf : (x_fl (ci + 1))[k]? = some (true, f)) (hci : ci < 29) {r : Option Nat} (hn : narrow (ty0 k) (va_rf r) = va_rf r) (hfit : fits (ty0 k) (va_rf r) = true) (hdg : decode cc pc = .ok (.putfield index, 3)) (ha : xT S a = ci + 1)
    (kk : ∀ (H1 : Heap) (locs1 : List Loc), x_Rp D d A mc (sR S f a r) H1 → va_S A H0 H1 locs1 → W p l e R s m args below meth c H1 locs1 cells slots Q (F0 m (pc + 3) ls rest)) : W p l e R s m args below meth c H locs cells slots Q (F0 m pc ls (va_rf r :: .ref a :: rest)) := by
  obtain ⟨ws, hP, hD, hW⟩ := hR
  obtain ⟨k0, hk0⟩ := hW a (by rw [ha]; exact Nat.succ_ne_zero _)
  rw [x_cell_o ha (by omega)] at hk0
  exact va_put hexec hb hts hin ty0 hty hnm hown hK.1 hP hD hS (mc.length + k0) (x_idx hk0) hc k hk hlink hsame hfin (hty k hk) hn hfit (by rw [List.length_map]; exact (List.getElem?_eq_some_iff.mp hf).1) hdg
    (fun H1 locs1 hP1 hD1 hS1 => kk H1 locs1 (x_Rp.put hk0 hW hP1 hD1 (fun _ => rfl) (x_cell_sR ha hci hf) (fun b hb => x_cell_sR_ne hb)) hS1)
theorem x_putFI (hexec : p.tables.exec = Jvm.exec) (hb : c.code = cc) {own ref C : String} {T : u_T} {N ci index f : Nat} {Ts : List Cond} (hts : ∀ w ∈ Ts, w.before args s = true) (hin : ∀ w ∈ u_ws C T N, w ∈ Ts) (ty0 : Nat → FieldType) (hty : ∀ k, k < N → parseFieldDescriptor (T k).2.2.1 = some (ty0 k)) (hnm : ∀ a, a < N → ∀ b, b < N → a ≠ b → (T a).2.1 ≠ (T b).2.1) (hown : s.vm.findClass own = some m.cls) (hK : x_KK D d s) (hR : x_Rp D d A mc S H) (hS : va_S A H0 H locs) (hc : vwCl[ci]? = some (C, T, N)) (k : Nat) (hk : k < N) (hlink : (Cond.fieldLink own index ref (T k).2.1 (T k).2.2.1).before args s = true) (hsame : ∀ x, s.fieldFound? (T k).1 (T k).2.1 (T k).2.2.1 = some x → s.fieldFound? ref (T k).2.1 (T k).2.2.1 = some x) (hfin : (T k).2.2.2 = true) (hin2 : meth.name = "<init>") (hdecl : (T k).1 = own) (hf : (x_fl (ci + 1))[k]? = some (false, f)) (hci : ci < 29) {x : Int32} (hn : narrow (ty0 k) (.int x) = .int x) (hfit : fits (ty0 k) (.int x) = true) (hdg : decode cc pc = .ok (.putfield index, 3)) (ha : xT S a = ci + 1)
    (kk : ∀ (H1 : Heap) (locs1 : List Loc), x_Rp D d A mc (sI S f a x) H1 → va_S A H0 H1 locs1 → W p l e R s m args below meth c H1 locs1 cells slots Q (F0 m (pc + 3) ls rest)) : W p l e R s m args below meth c H locs cells slots Q (F0 m pc ls (.int x :: .ref a :: rest)) := by
  obtain ⟨ws, hP, hD, hW⟩ := hR
  obtain ⟨k0, hk0⟩ := hW a (by rw [ha]; exact Nat.succ_ne_zero _)
  rw [x_cell_o ha (by omega)] at hk0
  exact va_putF hexec hb hts hin ty0 hty hnm hown hK.1 hP hD hS (mc.length + k0) (x_idx hk0) hc k hk hlink hsame hfin hin2 hdecl (hty k hk) hn hfit (by rw [List.length_map]; exact (List.getElem?_eq_some_iff.mp hf).1) hdg
    (fun H1 locs1 hP1 hD1 hS1 => kk H1 locs1 (x_Rp.put hk0 hW hP1 hD1 (fun _ => rfl) (x_cell_sI ha hci hf) (fun b hb => x_cell_sI_ne hb)) hS1)
theorem x_putFR (hexec : p.tables.exec = Jvm.exec) (hb : c.code = cc) {own ref C : String} {T : u_T} {N ci index f : Nat} {Ts : List Cond} (hts : ∀ w ∈ Ts, w.before args s = true) (hin : ∀ w ∈ u_ws C T N, w ∈ Ts) (ty0 : Nat → FieldType) (hty : ∀ k, k < N → parseFieldDescriptor (T k).2.2.1 = some (ty0 k)) (hnm : ∀ a, a < N → ∀ b, b < N → a ≠ b → (T a).2.1 ≠ (T b).2.1) (hown : s.vm.findClass own = some m.cls) (hK : x_KK D d s) (hR : x_Rp D d A mc S H) (hS : va_S A H0 H locs) (hc : vwCl[ci]? = some (C, T, N)) (k : Nat) (hk : k < N) (hlink : (Cond.fieldLink own index ref (T k).2.1 (T k).2.2.1).before args s = true) (hsame : ∀ x, s.fieldFound? (T k).1 (T k).2.1 (T k).2.2.1 = some x → s.fieldFound? ref (T k).2.1 (T k).2.2.1 = some x) (hfin : (T k).2.2.2 = true) (hin2 : meth.name = "<init>") (hdecl : (T k).1 = own) (hf : (x_fl (ci + 1))[k]? = some (true, f)) (hci : ci < 29) {r : Option Nat} (hn : narrow (ty0 k) (va_rf r) = va_rf r) (hfit : fits (ty0 k) (va_rf r) = true) (hdg : decode cc pc = .ok (.putfield index, 3)) (ha : xT S a = ci + 1)
    (kk : ∀ (H1 : Heap) (locs1 : List Loc), x_Rp D d A mc (sR S f a r) H1 → va_S A H0 H1 locs1 → W p l e R s m args below meth c H1 locs1 cells slots Q (F0 m (pc + 3) ls rest)) : W p l e R s m args below meth c H locs cells slots Q (F0 m pc ls (va_rf r :: .ref a :: rest)) := by
  obtain ⟨ws, hP, hD, hW⟩ := hR
  obtain ⟨k0, hk0⟩ := hW a (by rw [ha]; exact Nat.succ_ne_zero _)
  rw [x_cell_o ha (by omega)] at hk0
  exact va_putF hexec hb hts hin ty0 hty hnm hown hK.1 hP hD hS (mc.length + k0) (x_idx hk0) hc k hk hlink hsame hfin hin2 hdecl (hty k hk) hn hfit (by rw [List.length_map]; exact (List.getElem?_eq_some_iff.mp hf).1) hdg
    (fun H1 locs1 hP1 hD1 hS1 => kk H1 locs1 (x_Rp.put hk0 hW hP1 hD1 (fun _ => rfl) (x_cell_sR ha hci hf) (fun b hb => x_cell_sR_ne hb)) hS1)
theorem x_putNI (hexec : p.tables.exec = Jvm.exec) (hb : c.code = cc) {own ref C host : String} {T : u_T} {N ci index f : Nat} {Ts : List Cond} (hts : ∀ w ∈ Ts, w.before args s = true) (hin : ∀ w ∈ u_ws C T N, w ∈ Ts) (ty0 : Nat → FieldType) (hty : ∀ k, k < N → parseFieldDescriptor (T k).2.2.1 = some (ty0 k)) (hnm : ∀ a, a < N → ∀ b, b < N → a ≠ b → (T a).2.1 ≠ (T b).2.1) (hown : s.vm.findClass own = some m.cls) (hK : x_KK D d s) (hR : x_Rp D d A mc S H) (hS : va_S A H0 H locs) (hc : vwCl[ci]? = some (C, T, N)) (k : Nat) (hk : k < N) (hlink : va_Nw (Cond.fieldLinkNest own index ref (T k).2.1 (T k).2.2.1 host) s) (hsame : ∀ x, s.fieldFound? (T k).1 (T k).2.1 (T k).2.2.1 = some x → s.fieldFound? ref (T k).2.1 (T k).2.2.1 = some x) (hfin : (T k).2.2.2 = false) (hf : (x_fl (ci + 1))[k]? = some (false, f)) (hci : ci < 29) {x : Int32} (hn : narrow (ty0 k) (.int x) = .int x) (hfit : fits (ty0 k) (.int x) = true) (hdg : decode cc pc = .ok (.putfield index, 3)) (ha : xT S a = ci + 1)
    (kk : ∀ (H1 : Heap) (locs1 : List Loc), x_Rp D d A mc (sI S f a x) H1 → va_S A H0 H1 locs1 → W p l e R s m args below meth c H1 locs1 cells slots Q (F0 m (pc + 3) ls rest)) : W p l e R s m args below meth c H locs cells slots Q (F0 m pc ls (.int x :: .ref a :: rest)) := by
  obtain ⟨ws, hP, hD, hW⟩ := hR
  obtain ⟨k0, hk0⟩ := hW a (by rw [ha]; exact Nat.succ_ne_zero _)
  rw [x_cell_o ha (by omega)] at hk0
  exact va_putN hexec hb hts hin ty0 hty hnm hown hK.1 hP hD hS (mc.length + k0) (x_idx hk0) hc k hk (va_Nw.use rfl hlink) hsame hfin (hty k hk) hn hfit (by rw [List.length_map]; exact (List.getElem?_eq_some_iff.mp hf).1) hdg
    (fun H1 locs1 hP1 hD1 hS1 => kk H1 locs1 (x_Rp.put hk0 hW hP1 hD1 (fun _ => rfl) (x_cell_sI ha hci hf) (fun b hb => x_cell_sI_ne hb)) hS1)
theorem x_putNR (hexec : p.tables.exec = Jvm.exec) (hb : c.code = cc) {own ref C host : String} {T : u_T} {N ci index f : Nat} {Ts : List Cond} (hts : ∀ w ∈ Ts, w.before args s = true) (hin : ∀ w ∈ u_ws C T N, w ∈ Ts) (ty0 : Nat → FieldType) (hty : ∀ k, k < N → parseFieldDescriptor (T k).2.2.1 = some (ty0 k)) (hnm : ∀ a, a < N → ∀ b, b < N → a ≠ b → (T a).2.1 ≠ (T b).2.1) (hown : s.vm.findClass own = some m.cls) (hK : x_KK D d s) (hR : x_Rp D d A mc S H) (hS : va_S A H0 H locs) (hc : vwCl[ci]? = some (C, T, N)) (k : Nat) (hk : k < N) (hlink : va_Nw (Cond.fieldLinkNest own index ref (T k).2.1 (T k).2.2.1 host) s) (hsame : ∀ x, s.fieldFound? (T k).1 (T k).2.1 (T k).2.2.1 = some x → s.fieldFound? ref (T k).2.1 (T k).2.2.1 = some x) (hfin : (T k).2.2.2 = false) (hf : (x_fl (ci + 1))[k]? = some (true, f)) (hci : ci < 29) {r : Option Nat} (hn : narrow (ty0 k) (va_rf r) = va_rf r) (hfit : fits (ty0 k) (va_rf r) = true) (hdg : decode cc pc = .ok (.putfield index, 3)) (ha : xT S a = ci + 1)
    (kk : ∀ (H1 : Heap) (locs1 : List Loc), x_Rp D d A mc (sR S f a r) H1 → va_S A H0 H1 locs1 → W p l e R s m args below meth c H1 locs1 cells slots Q (F0 m (pc + 3) ls rest)) : W p l e R s m args below meth c H locs cells slots Q (F0 m pc ls (va_rf r :: .ref a :: rest)) := by
  obtain ⟨ws, hP, hD, hW⟩ := hR
  obtain ⟨k0, hk0⟩ := hW a (by rw [ha]; exact Nat.succ_ne_zero _)
  rw [x_cell_o ha (by omega)] at hk0
  exact va_putN hexec hb hts hin ty0 hty hnm hown hK.1 hP hD hS (mc.length + k0) (x_idx hk0) hc k hk (va_Nw.use rfl hlink) hsame hfin (hty k hk) hn hfit (by rw [List.length_map]; exact (List.getElem?_eq_some_iff.mp hf).1) hdg
    (fun H1 locs1 hP1 hD1 hS1 => kk H1 locs1 (x_Rp.put hk0 hW hP1 hD1 (fun _ => rfl) (x_cell_sR ha hci hf) (fun b hb => x_cell_sR_ne hb)) hS1)
theorem x_new (hexec : p.tables.exec = Jvm.exec) (hb : c.code = cc) {own C : String} {T : u_T} {N ci index : Nat} {Ts : List Cond} (hts : ∀ w ∈ Ts, w.before args s = true) (hin : ∀ w ∈ u_ws C T N, w ∈ Ts) (ty : Nat → FieldType) (hty : ∀ k, k < N → parseFieldDescriptor (T k).2.2.1 = some (ty k)) (hown : s.vm.findClass own = some m.cls) (hcl : (Cond.classLink own index C).before args s = true) (hinst : (Cond.instantiable C N).before args s = true) (hini : (Cond.initialized C).before args s = true)
    (hK : x_KK D d s) (hR : x_Rp D d A mc S H) (hS : va_S A H0 H locs) (hA : ∀ q, H0.size ≤ q → A q) (hc : vwCl[ci]? = some (C, T, N)) (hci : ci < 29) (hfs : ∀ j, j < N → defaultValue (ty j) = vp_V (x_df (ci + 1)) j) (hdg : decode cc pc = .ok (.new index, 3)) (hcells : cells + 1 ≤ R.cells) (hslots : slots + N ≤ R.slots)
    (kk : ∀ (q : Nat) (H1 : Heap), xT S q = 0 → x_Rp D d A mc (sN S q (ci + 1)) H1 → va_S A H0 H1 locs → W p l e R s m args below meth c H1 locs (cells + 1) (slots + N) Q (F0 m (pc + 3) ls (.ref q :: rest))) : W p l e R s m args below meth c H locs cells slots Q (F0 m pc ls rest) := by
  obtain ⟨ws, hP, hD, hW⟩ := hR
  exact va_new hexec hb hts hin ty hty hown hcl hinst hini hK.1 hP hD hS hA hc hfs hcells hslots hdg (fun q H1 hP1 hD1 hS1 => kk q H1 (x_fresh hW hD1) (x_Rp.push hW hP1 hD1 (fun b hb => by simp [sN, xT, va_up, hb]) (x_cell_sN (by omega)) (fun b hb => x_cell_sN_ne hb)) hS1)
theorem x_newa (hexec : p.tables.exec = Jvm.exec) (hb : c.code = cc) {atype : ArrayType} {t : Nat} {ty : FieldType} (hty : newarray.typeOf atype = ty) (ht1 : 100 < t) (ht2 : t ≤ 102) (ht : (x_tys d)[t - 101]? = some (d t, ty)) (hz : defaultValue ty = .int 0) (hnm : ∀ cA : ClassId, va_RA s cA ty = (s.vm.findClass ("[" ++ ty.toString) = some cA)) (harr : (Cond.arrayClass (newarray.typeOf atype)).before args s = true) (hK : x_KK D d s) (hR : x_Rp D d A mc S H) (hS : va_S A H0 H locs) (hA : ∀ q, H0.size ≤ q → A q) {n : Int32} {N' : Nat} (hdg : decode cc pc = .ok (.newarray atype, 2))
    (hn : ¬ n < 0) (hN : n.toNatClampNeg = N') (hbytes : N' * componentBytes ty ≤ 536870912) (hcells : cells + 1 ≤ R.cells) (hslots : slots + N' ≤ R.slots)
    (kk : ∀ (q : Nat) (H1 : Heap), xT S q = 0 → x_Rp D d A mc (sV S q t N') H1 → va_S A H0 H1 locs → W p l e R s m args below meth c H1 locs (cells + 1) (slots + N') Q (F0 m (pc + 2) ls (.ref q :: rest))) : W p l e R s m args below meth c H locs cells slots Q (F0 m pc ls (.int n :: rest)) := by
  obtain ⟨ws, hP, hD, hW⟩ := hR
  refine va_newa (a0 := (N', .inl (fun _ => 0))) hexec hb harr hty hK.1 hP hD hS hA (fun cA => by rw [vp_cell_i, hz]) hn hN hbytes hcells hslots hdg (fun q cA H1 hK1 hP1 hD1 hS1 => ?_)
  have e1 := (hK.1.2 _ _ ht).2
  have e2 := (hK1.2 (x_tys d).length (cA, ty) (by rw [List.getElem?_append_right (Nat.le_refl _), Nat.sub_self]; rfl)).2
  rw [hnm] at e1 e2
  have e : d t = cA := Option.some.inj (e1.symm.trans e2)
  subst e
  exact kk q H1 (x_fresh hW hD1) (x_Rp.push hW hP1 hD1 (fun b hb => by simp [sV, xT, va_up, hb]) (x_cell_sVp ht1 ht2) (fun b hb => x_cell_sV_ne hb)) hS1
theorem x_newq (hexec : p.tables.exec = Jvm.exec) (hb : c.code = cc) {own C : String} {index t : Nat} (ht1 : 102 < t) (ht : (x_tys d)[t - 101]? = some (d t, .object C)) (hown : s.vm.findClass own = some m.cls) (hclink : (Cond.classLink own index C).before args s = true) (hover : va_Nw (Cond.arrayOver (.object C)) s) (hK : x_KK D d s) (hR : x_Rp D d A mc S H) (hS : va_S A H0 H locs) (hA : ∀ q, H0.size ≤ q → A q) {n : Int32} {N' : Nat} (hdg : decode cc pc = .ok (.anewarray index, 3))
    (hn : ¬ n < 0) (hN : n.toNatClampNeg = N') (hbytes : N' * 4 ≤ 536870912) (hcells : cells + 1 ≤ R.cells) (hslots : slots + N' ≤ R.slots)
    (kk : ∀ (q : Nat) (H1 : Heap), xT S q = 0 → x_Rp D d A mc (sV S q t N') H1 → va_S A H0 H1 locs → W p l e R s m args below meth c H1 locs (cells + 1) (slots + N') Q (F0 m (pc + 3) ls (.ref q :: rest))) : W p l e R s m args below meth c H locs cells slots Q (F0 m pc ls (.int n :: rest)) := by
  obtain ⟨ws, hP, hD, hW⟩ := hR
  refine va_newq hexec hb hown hclink hover hK.1 hP hD hS hA hn hN hbytes hcells hslots hdg (fun q cA H1 hK1 hP1 hD1 hS1 => ?_)
  obtain ⟨k1, c1, -, -, -, e1⟩ := (hK.1.2 _ _ ht).2
  obtain ⟨k2, c2, -, -, -, e2⟩ := (hK1.2 (x_tys d).length (cA, .object C) (by rw [List.getElem?_append_right (Nat.le_refl _), Nat.sub_self]; rfl)).2
  have e : d t = cA := Option.some.inj (e1.symm.trans e2)
  subst e
  exact kk q H1 (x_fresh hW hD1) (x_Rp.push hW hP1 hD1 (fun b hb => by simp [sV, xT, va_up, hb]) (x_cell_sVq ht1) (fun b hb => x_cell_sV_ne hb)) hS1
theorem x_iald (hexec : p.tables.exec = Jvm.exec) (hb : c.code = cc) (hK : x_KK D d s) (hR : x_Rp D d A mc S H) {i : Int32} (hdg : decode cc pc = .ok (.iaload, 1)) (ha : xT S a = 101) (hin : vp_in i (xL S a))
    (kk : W p l e R s m args below meth c H locs cells slots Q (F0 m (pc + 1) ls (.int (xA S a i.toNatClampNeg) :: rest))) : W p l e R s m args below meth c H locs cells slots Q (F0 m pc ls (.int i :: .ref a :: rest)) := by
  obtain ⟨ws, k0, hP, he⟩ := hR.at (a := a) (by rw [ha]; decide)
  rw [x_cell_p ha (by decide) (by decide)] at he
  exact va_iald hexec hb hK.1 hP k0 0 he rfl hin hdg kk
theorem x_zald (hexec : p.tables.exec = Jvm.exec) (hb : c.code = cc) (hK : x_KK D d s) (hR : x_Rp D d A mc S H) {i : Int32} (hdg : decode cc pc = .ok (.baload, 1)) (ha : xT S a = 102) (hin : vp_in i (xL S a))
    (kk : W p l e R s m args below meth c H locs cells slots Q (F0 m (pc + 1) ls (.int (xA S a i.toNatClampNeg) :: rest))) : W p l e R s m args below meth c H locs cells slots Q (F0 m pc ls (.int i :: .ref a :: rest)) := by
  obtain ⟨ws, k0, hP, he⟩ := hR.at (a := a) (by rw [ha]; decide)
  rw [x_cell_p ha (by decide) (by decide)] at he
  exact va_zald hexec hb hK.1 hP k0 1 he rfl hin hdg kk
theorem x_aald (hexec : p.tables.exec = Jvm.exec) (hb : c.code = cc) (hK : x_KK D d s) (hR : x_Rp D d A mc S H) {i : Int32} {t : Nat} {ty : FieldType} (ht1 : 102 < t) (ht : (x_tys d)[t - 101]? = some (d t, ty)) (hrf : ty.isReference = true) (hdg : decode cc pc = .ok (.aaload, 1)) (ha : xT S a = t) (hin : vp_in i (xL S a))
    (kk : W p l e R s m args below meth c H locs cells slots Q (F0 m (pc + 1) ls (va_rf (xQ S a i.toNatClampNeg) :: rest))) : W p l e R s m args below meth c H locs cells slots Q (F0 m pc ls (.int i :: .ref a :: rest)) := by
  obtain ⟨ws, k0, hP, he⟩ := hR.at (a := a) (by rw [ha]; omega)
  rw [x_cell_q ha ht1] at he
  have hlt : i.toNatClampNeg < xL S a := Nat.not_le.mp fun q => hin (Or.inr q)
  exact W.aald (v := va_rf (xQ S a i.toNatClampNeg)) (ty := ty) hexec hb (hP k0 _ he) ((hK.1.2 _ _ ht).1 (xL S a) (fun j => va_rf (xQ S a j))) hrf (fun q => by cases q) (by show ¬ (i < 0 ∨ (arrV _ _ _).slots.size ≤ _); rw [arrV_size]; exact hin) (by show (arrV _ _ _).slots[_]? = _; rw [arrV_read _ _ hlt]) rfl rfl hdg kk
theorem x_sA_cell {S : xH} {a t i : Nat} {x : Int32} (ha : xT S a = t) (h1 : 100 < t) (h2 : t ≤ 102) : x_cell d (sA S a i x) a = .inl (d t, xL S a, .inl (upd (xA S a) i x)) := by
  rw [x_cell_p (S := sA S a i x) (t := t) ha h1 h2]
  refine congrArg (fun z => Sum.inl (d t, xL S a, Sum.inl z)) ?_
  funext j
  by_cases hj : j = i
  · subst hj; simp [sA, xA, x_u2, upd]
  · simp [sA, xA, x_u2, upd, hj]
theorem x_iast (hexec : p.tables.exec = Jvm.exec) (hb : c.code = cc) (hK : x_KK D d s) (hR : x_Rp D d A mc S H) (hS : va_S A H0 H locs) {i x : Int32} (hdg : decode cc pc = .ok (.iastore, 1)) (ha : xT S a = 101) (hin : vp_in i (xL S a))
    (kk : ∀ (H1 : Heap) (locs1 : List Loc), x_Rp D d A mc (sA S a i.toNatClampNeg x) H1 → va_S A H0 H1 locs1 → W p l e R s m args below meth c H1 locs1 cells slots Q (F0 m (pc + 1) ls rest)) : W p l e R s m args below meth c H locs cells slots Q (F0 m pc ls (.int x :: .int i :: .ref a :: rest)) := by
  obtain ⟨ws, hP, hD, hW⟩ := hR
  obtain ⟨k0, hk0⟩ := hW a (by rw [ha]; decide)
  rw [x_cell_p ha (by decide) (by decide)] at hk0
  exact va_iast hexec hb hK.1 hP hD hS (mc.length + k0) 0 (x_idx hk0) rfl hin hdg (fun H1 locs1 hP1 hD1 hS1 => kk H1 locs1 (x_Rp.put hk0 hW hP1 hD1 (fun _ => rfl) (x_sA_cell ha (by decide) (by decide)) (fun b hb => x_cell_sA_ne hb)) hS1)
theorem x_zast (hexec : p.tables.exec = Jvm.exec) (hb : c.code = cc) (hK : x_KK D d s) (hR : x_Rp D d A mc S H) (hS : va_S A H0 H locs) {i x : Int32} (hdg : decode cc pc = .ok (.bastore, 1)) (ha : xT S a = 102) (hin : vp_in i (xL S a)) (hx : x_B x)
    (kk : ∀ (H1 : Heap) (locs1 : List Loc), x_Rp D d A mc (sA S a i.toNatClampNeg x) H1 → va_S A H0 H1 locs1 → W p l e R s m args below meth c H1 locs1 cells slots Q (F0 m (pc + 1) ls rest)) : W p l e R s m args below meth c H locs cells slots Q (F0 m pc ls (.int x :: .int i :: .ref a :: rest)) := by
  obtain ⟨ws, hP, hD, hW⟩ := hR
  obtain ⟨k0, hk0⟩ := hW a (by rw [ha]; decide)
  rw [x_cell_p ha (by decide) (by decide)] at hk0
  exact va_zast hexec hb hK.1 hP hD hS (mc.length + k0) 1 (x_idx hk0) rfl hin hdg (fun H1 locs1 hP1 hD1 hS1 => by
    rw [hx.v] at hP1 hD1
    exact kk H1 locs1 (x_Rp.put hk0 hW hP1 hD1 (fun _ => rfl) (x_sA_cell ha (by decide) (by decide)) (fun b hb => x_cell_sA_ne hb)) hS1)
theorem x_sQ_cell {S : xH} {a t i : Nat} {r : Option Nat} (ha : xT S a = t) (h1 : 102 < t) : x_cell d (sQ S a i r) a = .inl (d t, xL S a, .inr (.inr (.inr (.inr (va_up (xQ S a) i r))))) := by
  rw [x_cell_q (S := sQ S a i r) (t := t) ha h1]
  refine congrArg (fun z => Sum.inl (d t, xL S a, Sum.inr (Sum.inr (Sum.inr (Sum.inr z))))) ?_
  funext j
  by_cases hj : j = i
  · subst hj; simp [sQ, xQ, x_u2, va_up]
  · simp [sQ, xQ, x_u2, va_up, hj]
theorem x_aast (hexec : p.tables.exec = Jvm.exec) (hb : c.code = cc) (hK : x_KK D d s) (hR : x_Rp D d A mc S H) (hS : va_S A H0 H locs) {i : Int32} {t ci v : Nat} {q : vw_C} (ht1 : 102 < t) (hc : vwCl[ci]? = some q) (hci : ci < 29) (ht : (x_tys d)[t - 101]? = some (d t, .object q.1)) (hdg : decode cc pc = .ok (.aastore, 1)) (ha : xT S a = t) (hin : vp_in i (xL S a)) (hv : xT S v = ci + 1)
    (kk : ∀ (H1 : Heap) (locs1 : List Loc), x_Rp D d A mc (sQ S a i.toNatClampNeg (some v)) H1 → va_S A H0 H1 locs1 → W p l e R s m args below meth c H1 locs1 cells slots Q (F0 m (pc + 1) ls rest)) : W p l e R s m args below meth c H locs cells slots Q (F0 m pc ls (.ref v :: .int i :: .ref a :: rest)) := by
  obtain ⟨ws, hP, hD, hW⟩ := hR
  obtain ⟨k0, hk0⟩ := hW a (by rw [ha]; omega)
  obtain ⟨k1, hk1⟩ := hW v (by rw [hv]; exact Nat.succ_ne_zero _)
  rw [x_cell_q ha ht1] at hk0
  rw [x_cell_o hv (by omega)] at hk1
  exact va_astq hexec hb hK.1 hP hD hS (mc.length + k0) _ (mc.length + k1) ci (x_idx hk0) ht (x_idx hk1) hc hin hdg (fun H1 locs1 hP1 hD1 hS1 => kk H1 locs1 (x_Rp.put hk0 hW hP1 hD1 (fun _ => rfl) (x_sQ_cell ha ht1) (fun b hb => x_cell_sQ_ne hb)) hS1)
theorem x_alen (hexec : p.tables.exec = Jvm.exec) (hb : c.code = cc) (hK : x_KK D d s) (hR : x_Rp D d A mc S H) (hdg : decode cc pc = .ok (.arraylength, 1)) (ha : xT S a = 101)
    (kk : W p l e R s m args below meth c H locs cells slots Q (F0 m (pc + 1) ls (.int (nI (xL S a)) :: rest))) : W p l e R s m args below meth c H locs cells slots Q (F0 m pc ls (.ref a :: rest)) := by
  obtain ⟨ws, k0, hP, he⟩ := hR.at (a := a) (by rw [ha]; decide)
  rw [x_cell_p ha (by decide) (by decide)] at he
  exact va_alen (v := nI (xL S a)) hexec hb hK.1 hP k0 0 he rfl rfl hdg kk
theorem x_Rp.recv {ci : Nat} {q : vw_C} (hR : x_Rp D d A mc S H) (hK : x_KK D d s) (hc : vwCl[ci]? = some q) (hci : ci < 29) (ha : xT S a = ci + 1) : ∃ cell : Cell, H[a]? = some cell ∧ cell.vm.isStatics = false ∧ s.vm.findClass q.1 = some cell.cls := by
  obtain ⟨ws, k0, hP, he⟩ := hR.at (a := a) (by rw [ha]; exact Nat.succ_ne_zero _)
  rw [x_cell_o ha (by omega)] at he
  exact va_recv hK.1 hP hc he
end XR
/-! ===== contracts ===== -/
def x_Pc (D : va_G) (d : Nat → ClassId) (base : Nat) (mc : va_W) (S : xH) (av : List Value) : Array Value → State → Prop := va_Pc av (fun U => base ≤ U.heap.size ∧ x_Rp D d (x_A base) mc S U.heap ∧ x_KK D d U)
theorem x_Pc_blind {D : va_G} {d : Nat → ClassId} {base : Nat} {mc : va_W} {S : xH} {av : List Value} : FrameBlind (x_Pc D d base mc S av) := fun a U g mk q => ⟨q.1, q.2.1, q.2.2.1, q.2.2.2.same (U := U.calling g mk a) rfl⟩
theorem x_Pc_pre {D : va_G} {d : Nat → ClassId} {base : Nat} {mc : va_W} {S : xH} {av : List Value} {s : State} {H H0 : Heap} {locs : List Loc} (hR : x_Rp D d (x_A base) mc S H) (hz : base ≤ H0.size) (hS : va_S (x_A base) H0 H locs) (hK : x_KK D d s) : ∀ U : State, U.heap = H → s.WarmedH U.vm → x_Pc D d base mc S av av.toArray U := fun U hU hW => ⟨rfl, by rw [hU]; exact Nat.le_trans hz hS.1, by rw [hU]; exact hR, hK.warm hW⟩
def x_Qi (D : va_G) (d : Nat → ClassId) (base : Nat) (mc : va_W) (post : Int32 → xH → Prop) : Array Value → State → Outcome → State → Prop := va_Qi post (fun S' t => x_Rp D d (x_A base) mc S' t.heap) (x_A base)
def x_Qv (D : va_G) (d : Nat → ClassId) (base : Nat) (mc : va_W) (post : xH → Prop) : Array Value → State → Outcome → State → Prop := va_Qv post (fun S' t => x_Rp D d (x_A base) mc S' t.heap) (x_A base)
def x_Qq (D : va_G) (d : Nat → ClassId) (base : Nat) (mc : va_W) (post : Option Nat → xH → Prop) : Array Value → State → Outcome → State → Prop := va_Qq post (fun S' t => x_Rp D d (x_A base) mc S' t.heap) (x_A base)
theorem x_met {l : Launch} {y : MethodName} {cc : ByteArray} {n : Nat} {ret : Option FieldType} {rm : Room} {D : va_G} {d : Nat → ClassId} {base : Nat} {mc : va_W} {S : xH} {av : List Value} {Qc : Array Value → State → Outcome → State → Prop} {k nn : Nat} (hy : plainName y.cls = true) (hn : (lg_sl av).length ≤ n)
    (body : ∀ (p : Program) (e : Env) (s : State) (m : MethodId) (below : List Frame) (meth : Method) (c : Code), p.tables.exec = Jvm.exec → c.code = cc → c.maxLocals = n → meth.sig.returnType = ret → meth.locks = false → s.vm.findClass y.cls = some m.cls → (∀ w ∈ lw_all, w.before av.toArray s = true) → base ≤ s.heap.size → x_Rp D d (x_A base) mc S s.heap → x_KK D d s → meth.name = y.name → ∀ ls : Array Slot, lv_has ls n (lv_args 0 av) →
      W p l e rm s m av.toArray below meth c s.heap [] 0 0 (MQ below Qc av.toArray s k nn (x_A base)) (F0 m 0 ls [])) : Met l y (ws_ y cc n ret) rm (x_Pc D d base mc S av) Qc k nn (x_A base) := by
  refine Met.ofW (cc := cc) (maxL := n) (ret := ret) hy rfl ?_
  intro p e s m args below meth c s₁ B hml hv
  obtain ⟨rfl, hz, hR, hK⟩ := hv
  have hts := atoms_spec (ws := ws_ y cc n ret) B.pre
  have hts : ∀ w ∈ lw_all, w.before _ s = true := fun w h => hts w (List.mem_cons_of_mem _ h)
  have hl := lv_entry av (n := n) hn
  rw [lg_entry_eq]
  exact body p e s m below meth c B.exec B.bytes hml B.returns B.notSynchronized (findClass_of_methodNamed B.named) hts hz hR hK (name_of_methodNamed B.named B.method).1 _ hl
section XC
variable {p : Program} {l : Launch} {e : Env} {R : Room} {s : State} {m : MethodId} {args : Array Value} {below : List Frame} {meth : Method} {c : Code} {H : Heap} {locs : List Loc} {cells slots : Nat} {Q : State → Prop}
variable {cc : ByteArray} {pc : Nat} {ls : Array Slot} {rest st0 : List Value} {a : Array Value} {D : va_G} {d : Nat → ClassId} {base : Nat} {mcw : va_W} {S : xH} {H0 : Heap} {mc ms : Nat}
theorem x_ci {post : Int32 → xH → Prop} (hr : va_Run p l e R s m args below meth c H locs cells slots mc ms (F0 m pc ls st0) rest (x_Qi D d base mcw post a) (x_A base)) (hS : va_S (x_A base) H0 H locs)
    (kk : ∀ (r : Int32) (S1 : xH) (H1 : Heap) (locs1 : List Loc), post r S1 → x_Rp D d (x_A base) mcw S1 H1 → va_S (x_A base) H0 H1 locs1 → W p l e R s m args below meth c H1 locs1 (cells + mc) (slots + ms) Q (F0 m (pc + 3) ls (.int r :: rest))) : W p l e R s m args below meth c H locs cells slots Q (F0 m pc ls st0) :=
  va_calli hr hS (fun _ _ h => h) (fun _ h => h) (fun r u t H1 locs1 ht _ hp hB _ _ hS1 => kk r u H1 locs1 hp (by rw [← ht]; exact hB) hS1)
theorem x_cv {post : xH → Prop} (hr : va_Run p l e R s m args below meth c H locs cells slots mc ms (F0 m pc ls st0) rest (x_Qv D d base mcw post a) (x_A base)) (hS : va_S (x_A base) H0 H locs)
    (kk : ∀ (S1 : xH) (H1 : Heap) (locs1 : List Loc), post S1 → x_Rp D d (x_A base) mcw S1 H1 → va_S (x_A base) H0 H1 locs1 → W p l e R s m args below meth c H1 locs1 (cells + mc) (slots + ms) Q (F0 m (pc + 3) ls rest)) : W p l e R s m args below meth c H locs cells slots Q (F0 m pc ls st0) :=
  va_callv hr hS (fun _ _ h => h) (fun _ h => h) (fun u t H1 locs1 ht _ hp hB _ _ hS1 => kk u H1 locs1 hp (by rw [← ht]; exact hB) hS1)
theorem x_cq {post : Option Nat → xH → Prop} (hr : va_Run p l e R s m args below meth c H locs cells slots mc ms (F0 m pc ls st0) rest (x_Qq D d base mcw post a) (x_A base)) (hS : va_S (x_A base) H0 H locs)
    (kk : ∀ (r : Option Nat) (S1 : xH) (H1 : Heap) (locs1 : List Loc), post r S1 → x_Rp D d (x_A base) mcw S1 H1 → va_S (x_A base) H0 H1 locs1 → W p l e R s m args below meth c H1 locs1 (cells + mc) (slots + ms) Q (F0 m (pc + 3) ls (va_rf r :: rest))) : W p l e R s m args below meth c H locs cells slots Q (F0 m pc ls st0) :=
  va_callq hr hS (fun _ _ h => h) (fun _ h => h) (fun r u t H1 locs1 ht _ hp hB _ _ hS1 => kk r u H1 locs1 hp (by rw [← ht]; exact hB) hS1)
theorem x_ri {post : Int32 → xH → Prop} {v : Int32} (hx : p.tables.exec = Jvm.exec) (hb : c.code = cc) (hr : meth.sig.returnType = some .int) (hlocks : meth.locks = false) (hR : x_Rp D d (x_A base) mcw S H) (hS : va_S (x_A base) s.heap H locs) (hdg : decode cc pc = .ok (.ireturn, 1)) (hq : post v S) : W p l e R s m args below meth c H locs cells slots (MQ below (x_Qi D d base mcw post) args s cells slots (x_A base)) (F0 m pc ls [.int v]) :=
  W.iret hx hb hr (fun t ht hW => ⟨⟨v, S, rfl, hq, by show x_Rp _ _ _ _ _ t.heap; rw [ht]; exact hR⟩, hS.F ht⟩) hS.2.2 hdg hlocks
theorem x_rz {post : Int32 → xH → Prop} {v : Int32} (hx : p.tables.exec = Jvm.exec) (hb : c.code = cc) (hr : meth.sig.returnType = some .boolean) (hlocks : meth.locks = false) (hR : x_Rp D d (x_A base) mcw S H) (hS : va_S (x_A base) s.heap H locs) (hdg : decode cc pc = .ok (.ireturn, 1)) (hB : x_B v) (hq : post v S) : W p l e R s m args below meth c H locs cells slots (MQ below (x_Qi D d base mcw post) args s cells slots (x_A base)) (F0 m pc ls [.int v]) :=
  W.zret hx hb hr hB.n (fun t ht hW => ⟨⟨v, S, rfl, hq, by show x_Rp _ _ _ _ _ t.heap; rw [ht]; exact hR⟩, hS.F ht⟩) hS.2.2 hdg hlocks
theorem x_rv {post : xH → Prop} (hx : p.tables.exec = Jvm.exec) (hb : c.code = cc) (hr : meth.sig.returnType = none) (hlocks : meth.locks = false) (hR : x_Rp D d (x_A base) mcw S H) (hS : va_S (x_A base) s.heap H locs) (hdg : decode cc pc = .ok (.return_, 1)) (hq : post S) : W p l e R s m args below meth c H locs cells slots (MQ below (x_Qv D d base mcw post) args s cells slots (x_A base)) (F0 m pc ls []) :=
  W.vret hx hb hr (fun t ht hW => ⟨⟨S, rfl, hq, by show x_Rp _ _ _ _ _ t.heap; rw [ht]; exact hR⟩, hS.F ht⟩) hS.2.2 hdg hlocks
theorem x_rq {post : Option Nat → xH → Prop} {r : Option Nat} {rt : FieldType} (hx : p.tables.exec = Jvm.exec) (hb : c.code = cc) (hr : meth.sig.returnType = some rt) (hrt : (∃ n, rt = .object n) ∨ ∃ t, rt = .array t) (hlocks : meth.locks = false) (hR : x_Rp D d (x_A base) mcw S H) (hS : va_S (x_A base) s.heap H locs) (hdg : decode cc pc = .ok (.areturn, 1)) (hq : post r S) : W p l e R s m args below meth c H locs cells slots (MQ below (x_Qq D d base mcw post) args s cells slots (x_A base)) (F0 m pc ls [va_rf r]) :=
  W.aret hx hb hr hrt (va_rf_or r) (fun t ht hW => ⟨⟨r, S, rfl, hq, by show x_Rp _ _ _ _ _ t.heap; rw [ht]; exact hR⟩, hS.F ht⟩) hS.2.2 hdg hlocks
end XC
theorem dfX0 : ∀ j, j < 19 → defaultValue (tyX0 j) = vp_V (x_df 1) j := by decide +kernel
theorem dfX1 : ∀ j, j < 39 → defaultValue (tyX1 j) = vp_V (x_df 2) j := by decide +kernel
theorem dfX2 : ∀ j, j < 5 → defaultValue (tyX2 j) = vp_V (x_df 3) j := by decide +kernel
theorem dfX3 : ∀ j, j < 3 → defaultValue (tyX3 j) = vp_V (x_df 4) j := by decide +kernel
theorem dfX4 : ∀ j, j < 4 → defaultValue (tyX4 j) = vp_V (x_df 5) j := by decide +kernel
theorem dfX5 : ∀ j, j < 6 → defaultValue (tyX5 j) = vp_V (x_df 6) j := by decide +kernel
theorem dfX7 : ∀ j, j < 2 → defaultValue (tyX7 j) = vp_V (x_df 8) j := by decide +kernel
theorem dfX8 : ∀ j, j < 2 → defaultValue (tyX8 j) = vp_V (x_df 9) j := by decide +kernel
theorem dfX9 : ∀ j, j < 1 → defaultValue (tyX9 j) = vp_V (x_df 10) j := by decide +kernel
theorem dfX10 : ∀ j, j < 2 → defaultValue (tyX10 j) = vp_V (x_df 11) j := by decide +kernel
theorem dfX11 : ∀ j, j < 2 → defaultValue (tyX11 j) = vp_V (x_df 12) j := by decide +kernel
theorem dfX12 : ∀ j, j < 2 → defaultValue (tyX12 j) = vp_V (x_df 13) j := by decide +kernel
theorem dfX13 : ∀ j, j < 0 → defaultValue (tyX13 j) = vp_V (x_df 14) j := by decide +kernel
theorem dfX14 : ∀ j, j < 0 → defaultValue (tyX14 j) = vp_V (x_df 15) j := by decide +kernel
theorem dfX15 : ∀ j, j < 0 → defaultValue (tyX15 j) = vp_V (x_df 16) j := by decide +kernel
theorem dfX16 : ∀ j, j < 6 → defaultValue (tyX16 j) = vp_V (x_df 17) j := by decide +kernel
theorem dfX17 : ∀ j, j < 10 → defaultValue (tyX17 j) = vp_V (x_df 18) j := by decide +kernel
theorem dfX18 : ∀ j, j < 5 → defaultValue (tyX18 j) = vp_V (x_df 19) j := by decide +kernel
theorem dfX19 : ∀ j, j < 6 → defaultValue (tyX19 j) = vp_V (x_df 20) j := by decide +kernel
