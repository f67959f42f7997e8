set_option maxRecDepth 100000
/-! ===== the law: its frame (out of the skeleton), what it loads ===== -/
def R_law : String := "PressedMenLaw"
def lw_P (b : Addr) (xs : List Int32) (args : Array Value) (s : State) : Prop := args = #[.ref b] ∧ s.IntsAt b xs ∧ xs.length ≤ 640 ∧ (Jvm.Cond.and given_1 narrow_1).before args s = true
def lw_Q (_ : Array Value) (s : State) (o : Outcome) (t : State) : Prop := o = .returned (some (.int 1)) ∧ Framed s o t [] 1200000 5502250
def lw_Z (below : List Frame) (a : Array Value) (s : State) : State → Prop := fun t => ∃ o, t.status = .running ∧ Ended t below o ∧ lw_Q a s o t
/-- the law's own end, with 1 on the stack, nothing written that was there before, its room as the claim has it -/
theorem lw_ret {p : Program} {l : Launch} {e : Env} {s : State} {m : MethodId} {below : List Frame} {meth : Method} {c : Code} {b : Nat} (hx : p.tables.exec = Jvm.exec) (hb : c.code = code) (hr : meth.sig.returnType = ret) (hlocks : meth.locks = false) {pc : Nat} {H : Heap} {ls : Array Slot} (hdg : decode code pc = .ok (.ireturn, 1)) : W p l e room_1 s m #[Value.ref b] below meth c H [] 1200000 5502250 (lw_Z below #[Value.ref b] s) (F0 m pc ls [.int 1]) := by
  intro T hT X
  obtain ⟨fs, hret, hrun, hended, hW, hframe⟩ := X.leave (v := some (.int 1)) (hlocks := hlocks) (fun h => by rw [hr] at h; cases h)
  have hmeth' : T.vm.method? m = some meth := X.method'
  refine ⟨T.setFrames fs, ?_, .returned (some (.int 1)), hrun, hended, rfl, ⟨_, rfl⟩, hW, hframe⟩
  jvm_step X.here [X.here.top, hx, hb, hdg, hmeth', hr, ret, narrow_b1]
  (try refine ⟨rfl, ?_⟩); (try refine ⟨rfl, ?_⟩)
  first | (intro acts; rw [hret _ acts rfl rfl rfl]) | rw [hret _ _ rfl rfl rfl]
  exact Steps.refl _
/-- what holds at the law's entry: the machine, the code, the tables' words (any of lw_tbl by 'hts w (by decide +kernel)'), the script of L ints xs at the cell b, what the Statement gives of the start (any of its parts by flat_of_before) -/
def lw_At (p : Program) (s : State) (m : MethodId) (meth : Method) (c : Code) (b L : Nat) (xs : Nat → Int32) : Prop :=
  p.tables.exec = Jvm.exec ∧ c.code = code ∧ meth.sig.returnType = ret ∧ c.maxLocals = 4 ∧ s.vm.findClass R_law = some m.cls ∧ (∀ w ∈ lw_tbl, w.before #[Value.ref b] s = true) ∧ va_X b L xs s s.heap ∧ b < s.heap.size ∧ meth.locks = false ∧ (Jvm.Cond.and given_1 narrow_1).before #[Value.ref b] s = true
section LC
variable {p : Program} {l : Launch} {e : Env} {s : State} {m : MethodId} {below : List Frame} {meth : Method} {c : Code} {H : Heap} {locs : List Loc} {cells slots : Nat} {Q : State → Prop} {ls : Array Slot} {rest : List Value} {b L : Nat} {xs : Nat → Int32} {pc o mo i : Nat}
theorem lc_ld {k : Nat} {kz : Int} (C0 : lw_At p s m meth c b L xs) (hS : va_S (x_A s.heap.size) s.heap H locs) (hl : lv_has ls 4 [(3, .int (nI i)), (2, .ref mo), (1, .ref o), (0, .ref b)]) (hL : L ≤ 640) (hk : i + k < L) (d0 : decode code pc = .ok (.aload_n 0, 1)) (d1 : decode code (pc + 1) = .ok (.iload_n 3, 1)) (d2 : decode code (pc + 2) = .ok (.iconst kz, 1)) (hz : Int32.ofInt kz = nI k) (d3 : decode code (pc + 3) = .ok (.iadd, 1)) (d4 : decode code (pc + 4) = .ok (.iaload, 1))
    (kk : W p l e room_1 s m #[Value.ref b] below meth c H locs cells slots Q (F0 m (pc + 5) ls (.int (xs (i + k)) :: rest))) : W p l e room_1 s m #[Value.ref b] below meth c H locs cells slots Q (F0 m pc ls rest) := by
  obtain ⟨hx, hb, hr, hml, hown, hts, hX, hbl, hlocks, hgv⟩ := C0
  have hbA : ¬ x_A s.heap.size b := Nat.not_le.mpr hbl
  refine lv_aload_n hx hb d0 rfl (lv_at hl 3 rfl) ?_
  refine lv_iload_n hx hb d1 rfl (lv_at hl 0 rfl) ?_
  refine lv_iconst (v := nI k) hx hb d2 hz ?_
  refine lv_iadd hx hb d3 ?_
  rw [nI_add]
  refine va_sld hx hb hX hbl hbA hS (vp_in_nI hk (by omega)) d4 ?_
  rw [nI_clamp (show i + k < 2 ^ 31 by omega)]
  exact kk
theorem lc_lb {k : Nat} {kz : Int} (C0 : lw_At p s m meth c b L xs) (hS : va_S (x_A s.heap.size) s.heap H locs) (hl : lv_has ls 4 [(3, .int (nI i)), (2, .ref mo), (1, .ref o), (0, .ref b)]) (hL : L ≤ 640) (hk : i + k < L) (d0 : decode code pc = .ok (.aload_n 0, 1)) (d1 : decode code (pc + 1) = .ok (.iload_n 3, 1)) (d2 : decode code (pc + 2) = .ok (.bipush kz, 2)) (hz : (Int8.ofInt kz).toInt32 = nI k) (d3 : decode code (pc + 4) = .ok (.iadd, 1)) (d4 : decode code (pc + 5) = .ok (.iaload, 1))
    (kk : W p l e room_1 s m #[Value.ref b] below meth c H locs cells slots Q (F0 m (pc + 6) ls (.int (xs (i + k)) :: rest))) : W p l e room_1 s m #[Value.ref b] below meth c H locs cells slots Q (F0 m pc ls rest) := by
  obtain ⟨hx, hb, hr, hml, hown, hts, hX, hbl, hlocks, hgv⟩ := C0
  have hbA : ¬ x_A s.heap.size b := Nat.not_le.mpr hbl
  refine lv_aload_n hx hb d0 rfl (lv_at hl 3 rfl) ?_
  refine lv_iload_n hx hb d1 rfl (lv_at hl 0 rfl) ?_
  refine lv_bipush (v := nI k) hx hb d2 hz ?_
  refine lv_iadd hx hb d3 ?_
  rw [nI_add]
  refine va_sld hx hb hX hbl hbA hS (vp_in_nI hk (by omega)) d4 ?_
  rw [nI_clamp (show i + k < 2 ^ 31 by omega)]
  exact kk
/-- is it not 0 -/
def nz (v : Int32) : Int32 := if v = 0 then 0 else 1
theorem nz_B (v : Int32) : x_B (nz v) := by
  unfold nz
  by_cases z : v = 0
  · rw [if_pos z]; exact Or.inl rfl
  · rw [if_neg z]; exact Or.inr rfl
theorem lc_nz {v : Int32} (C0 : lw_At p s m meth c b L xs) (d0 : decode code pc = .ok (.ifCond .eq 7, 3)) (d1 : decode code (pc + 3) = .ok (.iconst 1, 1)) (d2 : decode code (pc + 4) = .ok (.goto 4, 3)) (d3 : decode code (pc + 7) = .ok (.iconst 0, 1))
    (kk : W p l e room_1 s m #[Value.ref b] below meth c H locs cells slots Q (F0 m (pc + 8) ls (.int (nz v) :: rest))) : W p l e room_1 s m #[Value.ref b] below meth c H locs cells slots Q (F0 m pc ls (.int v :: rest)) := by
  obtain ⟨hx, hb, hr, hml, hown, hts, hX, hbl, hlocks, hgv⟩ := C0
  refine lv_if_eq (tgt := pc + 7) hx hb d0 (by omega) (fun z => ?_) (fun z => ?_)
  · refine lv_iconst (v := 0) hx hb d3 (by decide) ?_
    rw [nz, if_pos z] at kk
    exact kk
  · refine lv_iconst (v := 1) hx hb d1 (by decide) ?_
    refine lv_goto (tgt := pc + 8) hx hb d2 (by omega) ?_
    rw [nz, if_neg z] at kk
    exact kk
end LC
