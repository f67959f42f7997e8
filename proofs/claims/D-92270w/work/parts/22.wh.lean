set_option maxRecDepth 100000
theorem x_wU {own : String} {idx : Nat} {C owner : String} {x y : MethodName} {b : ByteArray} {L : Nat} {r : Option FieldType} (h1 : Cond.methodLink own idx x ∈ lw_all) (h2 : Cond.sameMethod x.cls owner x.name x.desc ∈ lw_all) (h3 : Cond.selects C x y ∈ lw_all) (h4 : Cond.instanceMethod y ∈ lw_all) (h5 : Cond.initialized y.cls ∈ lw_all) (h6 : Cond.code y b L r ∈ lw_all) : GoodIn lw_all (va_wsU own idx C owner x y (ws_ y b L r)) := by
  refine lw_app ?_ (lw_meth h6)
  intro w hw
  simp only [List.mem_cons, List.not_mem_nil, or_false] at hw
  rcases hw with e | e | e | e | e
  · rw [e]; exact h1
  · rw [e]; exact h2
  · rw [e]; exact h3
  · rw [e]; exact h4
  · rw [e]; exact h5
theorem x_wSU {own : String} {idx : Nat} {y : MethodName} {b : ByteArray} {L : Nat} {r : Option FieldType} (h1 : Cond.methodLink own idx y ∈ lw_all) (h2 : Cond.sameMethod y.cls y.cls y.name y.desc ∈ lw_all) (h3 : Cond.superclass own y.cls ∈ lw_all) (h4 : Cond.instanceMethod y ∈ lw_all) (h5 : Cond.initialized y.cls ∈ lw_all) (h6 : Cond.code y b L r ∈ lw_all) : GoodIn lw_all (va_wsSU own idx y (ws_ y b L r)) := by
  refine lw_app ?_ (lw_meth h6)
  intro w hw
  simp only [List.mem_cons, List.not_mem_nil, or_false] at hw
  rcases hw with e | e | e | e | e
  · rw [e]; exact h1
  · rw [e]; exact h2
  · rw [e]; exact h3
  · rw [e]; exact h4
  · rw [e]; exact h5
section XS
variable {p : Program} {l : Launch} {e : Env} {R : Room} {s : State} {m : MethodId} {args : Array Value} {below : List Frame} {meth : Method} {c : Code} {H : Heap} {locs : List Loc} {cells slots : Nat}
theorem x_runSU {y : MethodName} {bytes cc : ByteArray} {maxL nL mc ms n index : Nat} {ret : Option FieldType} {ws : List Cond} {rm : Room} {Pc : Array Value → State → Prop} {Qc : Array Value → State → Outcome → State → Prop} {free : Addr → Prop} {Ts : List Cond} {own : String} {b : Addr} {As rest : List Value} {g : JFrame}
    (hcl : ∃ (C : String) (cC : ClassId), ClassAt s C cC ∧ ∃ cell : Cell, H[b]? = some cell ∧ cell.vm.isStatics = false ∧ s.vm.findClass C = some cell.cls) (S : CallFix p m c cc nL s args Ts own) (hM : Met l y ws rm Pc Qc mc ms free) (cw : va_CS R s args own index y bytes maxL ret ws rm mc ms n) (hbl : FrameBlind Pc) (hpc : ∀ U : State, U.heap = H → s.WarmedH U.vm → Pc (Value.ref b :: As).toArray U)
    (hg : g.method = m) (hn : As.length = n) (hsize : g.locals.size = nL) (hstack : g.stack = As.reverse ++ .ref b :: rest) (hW : 2 * g.monitorRoom + (rest.map fun v => v.category).sum ≤ 8) (hdg : decode cc g.pc = .ok (.invokespecial index, 3)) (hf : cells + mc ≤ R.cells ∧ slots + ms ≤ R.slots) :
    va_Run p l e R s m args below meth c H locs cells slots mc ms g rest (Qc (Value.ref b :: As).toArray) (free) := by
  obtain ⟨C, cC, h1, h2⟩ := hcl
  exact va_runSU h1 S hM cw ⟨hbl, h2, hpc⟩ hg hn hsize hstack hW hdg hf
theorem x_runU {x y : MethodName} {bytes cc : ByteArray} {maxL nL mc ms n index : Nat} {ret : Option FieldType} {ws : List Cond} {rm : Room} {Pc : Array Value → State → Prop} {Qc : Array Value → State → Outcome → State → Prop} {free : Addr → Prop} {Ts : List Cond} {own owner : String} {b : Addr} {As rest : List Value} {g : JFrame}
    (S : CallFix p m c cc nL s args Ts own) (hM : Met l y ws rm Pc Qc mc ms free) (hcu : ∃ C : String, va_CU R s args own C owner index x y bytes maxL ret ws rm mc ms n ∧ ∃ cell : Cell, H[b]? = some cell ∧ cell.vm.isStatics = false ∧ s.vm.findClass C = some cell.cls) (hbl : FrameBlind Pc) (hpc : ∀ U : State, U.heap = H → s.WarmedH U.vm → Pc (Value.ref b :: As).toArray U)
    (hg : g.method = m) (hn : As.length = n) (hsize : g.locals.size = nL) (hstack : g.stack = As.reverse ++ .ref b :: rest) (hW : 2 * g.monitorRoom + (rest.map fun v => v.category).sum ≤ 8) (hdg : decode cc g.pc = .ok (.invokevirtual index, 3)) (hf : cells + mc ≤ R.cells ∧ slots + ms ≤ R.slots) :
    va_Run p l e R s m args below meth c H locs cells slots mc ms g rest (Qc (Value.ref b :: As).toArray) (free) := by
  obtain ⟨C, h1, h2⟩ := hcu
  exact va_runU S hM h1 ⟨hbl, h2, hpc⟩ hg hn hsize hstack hW hdg hf
end XS
/-- a call of Text.holds, whatever text it is -/
def x_VH (l : Launch) (F L : Nat) (rc : x_HT) : Prop := ∀ {p : Program} {e : Env} {R : Room} {s : State} {m : MethodId} {args : Array Value} {below : List Frame} {meth : Method} {c : Code} {H H0 : Heap} {locs : List Loc} {cells slots : Nat} {cc : ByteArray} {pc : Nat} {ls : Array Slot} {rest : List Value} {D : va_G} {d : Nat → ClassId} {base : Nat} {mc : va_W} {S : xH} {a mm : Nat} {x : Int32} {Q : Int32 → Prop} {own : String} {idx nL : Nat},
  rc S a mm x Q → CallFix p m c cc nL s args lw_all own → Cond.methodLink own idx ⟨"PressedMen$Text", "holds", "(LPressedMen$Man;Z)Z"⟩ ∈ lw_all → x_Rp D d (x_A base) mc S H → base ≤ H0.size → va_S (x_A base) H0 H locs → x_KK D d s → ls.size = nL → F + 1 ≤ R.frames → L + 22 ≤ R.locals → 2 * (F0 m pc ls (.int x :: .ref mm :: .ref a :: rest)).monitorRoom + (rest.map fun v => v.category).sum ≤ 8 → decode cc pc = .ok (.invokevirtual idx, 3) → cells + 0 ≤ R.cells ∧ slots + 0 ≤ R.slots →
  va_Run p l e R s m args below meth c H locs cells slots 0 0 (F0 m pc ls (.int x :: .ref mm :: .ref a :: rest)) rest (x_Qi D d base mc (fun r S' => S' = S ∧ Q r) (Value.ref a :: [.ref mm, .int x]).toArray) (x_A base)
theorem hd_X10_over : yX10_over.cls = "PressedMen$AtLeast" ∧ yX10_over.cls ≠ "java/lang/invoke/MethodHandle" ∧ yX10_over.cls ≠ "java/lang/invoke/VarHandle" ∧ (parseMethodDescriptor yX10_over.desc).map (fun d => d.parameters.length) = some 1 := by decide +kernel
set_option maxHeartbeats 4000000 in
theorem mt_X10_over (l : Launch) {D : va_G} {d : Nat → ClassId} {base : Nat} {mc : va_W} {S : xH} {o : Nat} {x1 : Nat} {Q : Int32 → Prop} (hw : w_X10_over S o x1 Q) : Met l yX10_over (ws_ yX10_over cX10_over 2 (some FieldType.int)) (x_rm 0 0 0 0) (x_Pc D d base mc S [.ref o, .ref x1]) (x_Qi D d base mc (fun r S' => S' = S ∧ Q r)) 0 0 (x_A base) := by
  refine x_met (by decide) (Nat.le_of_ble_eq_true rfl) ?_
  intro p e s m below meth c hx hb hml hr hlocks hown hts hz hR hK hin ls hl
  have hown : s.vm.findClass "PressedMen$AtLeast" = some m.cls := hown
  have hl : lv_has ls 2 [(0, .ref o), (1, .ref x1)] := hl
  have hS : va_S (x_A base) s.heap s.heap [] := va_S.rf
  unfold w_X10_over at hw
  refine lv_aload_n hx hb dX10_over_0 rfl (lv_at hl 1 rfl) ?_
  refine x_getNR (ci := 2) (C := RX2) (T := TX2) (N := 5) (f := 150) hx hb hts in_X2 hown hK hR rfl 0 (by decide) (hK.2 _ q228 rfl) (fun _ h => h) rfl (by decide) dX10_over_1 hw.1 ?_
  have hw := hw.2
  refine lv_aload_n hx hb dX10_over_4 rfl (lv_at hl 0 rfl) ?_
  refine x_get550 hx hb hts hown hK hR (hts _ q513) dX10_over_5 hw.1 ?_
  have hw := hw.2
  obtain ⟨b_1, e_2, hw⟩ := hw
  refine x_dr1 e_2 ?_
  refine x_iald hx hb hK hR dX10_over_8 hw.1 hw.2.1 ?_
  have hw := hw.2.2
  refine lv_aload_n hx hb dX10_over_9 rfl (lv_at hl 0 rfl) ?_
  refine x_get551 hx hb hts hown hK hR (hts _ q514) dX10_over_10 hw.1 ?_
  have hw := hw.2
  refine lv_isub hx hb dX10_over_13 ?_
  exact x_ri hx hb hr hlocks hR hS dX10_over_14 ⟨rfl, hw⟩
theorem hd_X10_holds : yX10_holds.cls = "PressedMen$AtLeast" ∧ yX10_holds.cls ≠ "java/lang/invoke/MethodHandle" ∧ yX10_holds.cls ≠ "java/lang/invoke/VarHandle" ∧ (parseMethodDescriptor yX10_holds.desc).map (fun d => d.parameters.length) = some 2 := by decide +kernel
set_option maxHeartbeats 4000000 in
theorem mt_X10_holds (l : Launch) {D : va_G} {d : Nat → ClassId} {base : Nat} {mc : va_W} {S : xH} {o : Nat} {x1 : Nat} {x2 : Int32} {Q : Int32 → Prop} (hw : w_X10_holds S o x1 x2 Q) : Met l yX10_holds (ws_ yX10_holds cX10_holds 3 (some FieldType.boolean)) (x_rm 1 0 0 30) (x_Pc D d base mc S [.ref o, .ref x1, .int x2]) (x_Qi D d base mc (fun r S' => S' = S ∧ Q r)) 0 0 (x_A base) := by
  refine x_met (by decide) (Nat.le_of_ble_eq_true rfl) ?_
  intro p e s m below meth c hx hb hml hr hlocks hown hts hz hR hK hin ls hl
  have hown : s.vm.findClass "PressedMen$AtLeast" = some m.cls := hown
  have hl : lv_has ls 3 [(0, .ref o), (1, .ref x1), (2, .int x2)] := hl
  have hS : va_S (x_A base) s.heap s.heap [] := va_S.rf
  unfold w_X10_holds at hw
  refine lv_aload_n hx hb dX10_holds_0 rfl (lv_at hl 0 rfl) ?_
  refine lv_aload_n hx hb dX10_holds_1 rfl (lv_at hl 1 rfl) ?_
  obtain ⟨ha, hw⟩ := hw
  refine x_ci (x_runU (x := ⟨"PressedMen$AtLeast", "over", "(LPressedMen$Man;)I"⟩) (owner := "PressedMen$AtLeast") (As := [.ref x1]) (rest := []) ⟨hx, hb, hml, hown, hts⟩ (mt_X10_over l hw) (ha.elim (fun ha => ⟨_, va_cwU 1 hts (x_wU q598 q601 q600 q599 q75 q604) rfl rfl rfl rfl hd_X10_over.2 ⟨Nat.le_of_ble_eq_true rfl, Nat.le_of_ble_eq_true rfl⟩, hR.recv hK (ci := 10) rfl (by decide) ha⟩) (fun ha => (ha.elim (fun ha => ⟨_, va_cwU 1 hts (x_wU q598 q601 q602 q599 q75 q604) rfl rfl rfl rfl hd_X10_over.2 ⟨Nat.le_of_ble_eq_true rfl, Nat.le_of_ble_eq_true rfl⟩, hR.recv hK (ci := 11) rfl (by decide) ha⟩) (fun ha => (⟨_, va_cwU 1 hts (x_wU q598 q601 q603 q599 q75 q604) rfl rfl rfl rfl hd_X10_over.2 ⟨Nat.le_of_ble_eq_true rfl, Nat.le_of_ble_eq_true rfl⟩, hR.recv hK (ci := 12) rfl (by decide) ha⟩))))) x_Pc_blind (x_Pc_pre hR hz hS hK) rfl rfl hl.1 rfl (lv_room (Nat.le_of_ble_eq_true rfl)) dX10_holds_2 ⟨Nat.le_refl _, Nat.le_refl _⟩) hS (fun r_1 S_2 H locs hp hR hS => ?_)
  have hw := hp.2
  rw [hp.1] at hR
  refine lv_if_lt (tgt := 12) hx hb dX10_holds_5 (by decide) (fun c_3 => ?_) (fun c_3 => ?_)
  · have hw := x_t hw c_3
    refine lv_iconst (v := 0) hx hb dX10_holds_12 (by decide) ?_
    exact x_rz hx hb hr hlocks hR hS dX10_holds_13 (Or.inl rfl) ⟨rfl, hw⟩
  · have hw := x_f hw c_3
    refine lv_iconst (v := 1) hx hb dX10_holds_8 (by decide) ?_
    refine lv_goto (tgt := 13) hx hb dX10_holds_9 (by decide) ?_
    exact x_rz hx hb hr hlocks hR hS dX10_holds_13 (Or.inr rfl) ⟨rfl, hw⟩
theorem hd_X11_holds : yX11_holds.cls = "PressedMen$Below" ∧ yX11_holds.cls ≠ "java/lang/invoke/MethodHandle" ∧ yX11_holds.cls ≠ "java/lang/invoke/VarHandle" ∧ (parseMethodDescriptor yX11_holds.desc).map (fun d => d.parameters.length) = some 2 := by decide +kernel
set_option maxHeartbeats 4000000 in
theorem mt_X11_holds (l : Launch) {D : va_G} {d : Nat → ClassId} {base : Nat} {mc : va_W} {S : xH} {o : Nat} {x1 : Nat} {x2 : Int32} {Q : Int32 → Prop} (hw : w_X11_holds S o x1 x2 Q) : Met l yX11_holds (ws_ yX11_holds cX11_holds 3 (some FieldType.boolean)) (x_rm 2 0 0 60) (x_Pc D d base mc S [.ref o, .ref x1, .int x2]) (x_Qi D d base mc (fun r S' => S' = S ∧ Q r)) 0 0 (x_A base) := by
  refine x_met (by decide) (Nat.le_of_ble_eq_true rfl) ?_
  intro p e s m below meth c hx hb hml hr hlocks hown hts hz hR hK hin ls hl
  have hown : s.vm.findClass "PressedMen$Below" = some m.cls := hown
  have hl : lv_has ls 3 [(0, .ref o), (1, .ref x1), (2, .int x2)] := hl
  have hS : va_S (x_A base) s.heap s.heap [] := va_S.rf
  unfold w_X11_holds at hw
  refine lv_aload_n hx hb dX11_holds_0 rfl (lv_at hl 0 rfl) ?_
  refine lv_aload_n hx hb dX11_holds_1 rfl (lv_at hl 1 rfl) ?_
  refine lv_iload_n hx hb dX11_holds_2 rfl (lv_at hl 2 rfl) ?_
  obtain ⟨ha, hw⟩ := hw
  refine x_ci (x_runSU (As := [.ref x1, .int x2]) (rest := []) (ha.elim (fun ha => ⟨_, _, (hK.1.1 11 _ rfl).2, hR.recv hK (ci := 11) rfl (by decide) ha⟩) (fun ha => (⟨_, _, (hK.1.1 12 _ rfl).2, hR.recv hK (ci := 12) rfl (by decide) ha⟩))) ⟨hx, hb, hml, hown, hts⟩ (mt_X10_holds l hw) (va_cwSU 2 hts (x_wSU q608 q1440 q528 q596 q75 q597) rfl rfl rfl ⟨by decide, hd_X10_holds.2.2.2⟩ ⟨Nat.le_of_ble_eq_true rfl, Nat.le_of_ble_eq_true rfl⟩) x_Pc_blind (x_Pc_pre hR hz hS hK) rfl rfl hl.1 rfl (lv_room (Nat.le_of_ble_eq_true rfl)) dX11_holds_3 ⟨Nat.le_refl _, Nat.le_refl _⟩) hS (fun r_1 S_2 H locs hp hR hS => ?_)
  have hw := hp.2
  rw [hp.1] at hR
  refine lv_if_ne (tgt := 13) hx hb dX11_holds_6 (by decide) (fun c_3 => ?_) (fun c_3 => ?_)
  · have hw := x_f hw c_3
    refine lv_iconst (v := 0) hx hb dX11_holds_13 (by decide) ?_
    exact x_rz hx hb hr hlocks hR hS dX11_holds_14 (Or.inl rfl) ⟨rfl, hw⟩
  · have hw := x_t hw c_3
    refine lv_iconst (v := 1) hx hb dX11_holds_9 (by decide) ?_
    refine lv_goto (tgt := 14) hx hb dX11_holds_10 (by decide) ?_
    exact x_rz hx hb hr hlocks hR hS dX11_holds_14 (Or.inr rfl) ⟨rfl, hw⟩
theorem hd_X12_holds : yX12_holds.cls = "PressedMen$Equal" ∧ yX12_holds.cls ≠ "java/lang/invoke/MethodHandle" ∧ yX12_holds.cls ≠ "java/lang/invoke/VarHandle" ∧ (parseMethodDescriptor yX12_holds.desc).map (fun d => d.parameters.length) = some 2 := by decide +kernel
set_option maxHeartbeats 4000000 in
theorem mt_X12_holds (l : Launch) {D : va_G} {d : Nat → ClassId} {base : Nat} {mc : va_W} {S : xH} {o : Nat} {x1 : Nat} {x2 : Int32} {Q : Int32 → Prop} (hw : w_X12_holds S o x1 x2 Q) : Met l yX12_holds (ws_ yX12_holds cX12_holds 3 (some FieldType.boolean)) (x_rm 3 0 0 90) (x_Pc D d base mc S [.ref o, .ref x1, .int x2]) (x_Qi D d base mc (fun r S' => S' = S ∧ Q r)) 0 0 (x_A base) := by
  refine x_met (by decide) (Nat.le_of_ble_eq_true rfl) ?_
  intro p e s m below meth c hx hb hml hr hlocks hown hts hz hR hK hin ls hl
  have hown : s.vm.findClass "PressedMen$Equal" = some m.cls := hown
  have hl : lv_has ls 3 [(0, .ref o), (1, .ref x1), (2, .int x2)] := hl
  have hS : va_S (x_A base) s.heap s.heap [] := va_S.rf
  unfold w_X12_holds at hw
  refine lv_aload_n hx hb dX12_holds_0 rfl (lv_at hl 0 rfl) ?_
  refine lv_aload_n hx hb dX12_holds_1 rfl (lv_at hl 1 rfl) ?_
  refine lv_iload_n hx hb dX12_holds_2 rfl (lv_at hl 2 rfl) ?_
  obtain ⟨ha, hw⟩ := hw
  refine x_ci (x_runSU (As := [.ref x1, .int x2]) (rest := []) (⟨_, _, (hK.1.1 12 _ rfl).2, hR.recv hK (ci := 12) rfl (by decide) ha⟩) ⟨hx, hb, hml, hown, hts⟩ (mt_X11_holds l hw) (va_cwSU 2 hts (x_wSU q626 q1442 q537 q606 q76 q607) rfl rfl rfl ⟨by decide, hd_X11_holds.2.2.2⟩ ⟨Nat.le_of_ble_eq_true rfl, Nat.le_of_ble_eq_true rfl⟩) x_Pc_blind (x_Pc_pre hR hz hS hK) rfl rfl hl.1 rfl (lv_room (Nat.le_of_ble_eq_true rfl)) dX12_holds_3 ⟨Nat.le_refl _, Nat.le_refl _⟩) hS (fun r_1 S_2 H locs hp hR hS => ?_)
  have hw := hp.2
  rw [hp.1] at hR
  refine lv_if_ne (tgt := 21) hx hb dX12_holds_6 (by decide) (fun c_3 => ?_) (fun c_3 => ?_)
  · have hw := x_f hw c_3
    refine lv_iconst (v := 0) hx hb dX12_holds_21 (by decide) ?_
    exact x_rz hx hb hr hlocks hR hS dX12_holds_22 (Or.inl rfl) ⟨rfl, hw⟩
  · have hw := x_t hw c_3
    refine lv_aload_n hx hb dX12_holds_9 rfl (lv_at hl 0 rfl) ?_
    refine lv_aload_n hx hb dX12_holds_10 rfl (lv_at hl 1 rfl) ?_
    obtain ⟨ha, hw⟩ := hw
    refine x_ci (x_runU (x := ⟨"PressedMen$Equal", "over", "(LPressedMen$Man;)I"⟩) (owner := "PressedMen$AtLeast") (As := [.ref x1]) (rest := []) ⟨hx, hb, hml, hown, hts⟩ (mt_X10_over l hw) (⟨_, va_cwU 1 hts (x_wU q627 q628 q630 q599 q75 q604) rfl rfl rfl rfl hd_X10_over.2 ⟨Nat.le_of_ble_eq_true rfl, Nat.le_of_ble_eq_true rfl⟩, hR.recv hK (ci := 12) rfl (by decide) ha⟩) x_Pc_blind (x_Pc_pre hR hz hS hK) rfl rfl hl.1 rfl (lv_room (Nat.le_of_ble_eq_true rfl)) dX12_holds_11 ⟨Nat.le_refl _, Nat.le_refl _⟩) hS (fun r_4 S_5 H locs hp hR hS => ?_)
    have hw := hp.2
    rw [hp.1] at hR
    refine lv_if_ne (tgt := 21) hx hb dX12_holds_14 (by decide) (fun c_6 => ?_) (fun c_6 => ?_)
    · have hw := x_f hw c_6
      refine lv_iconst (v := 0) hx hb dX12_holds_21 (by decide) ?_
      exact x_rz hx hb hr hlocks hR hS dX12_holds_22 (Or.inl rfl) ⟨rfl, hw⟩
    · have hw := x_t hw c_6
      refine lv_iconst (v := 1) hx hb dX12_holds_17 (by decide) ?_
      refine lv_goto (tgt := 22) hx hb dX12_holds_18 (by decide) ?_
      exact x_rz hx hb hr hlocks hR hS dX12_holds_22 (Or.inr rfl) ⟨rfl, hw⟩
theorem hd_X13_holds : yX13_holds.cls = "PressedMen$Covered" ∧ yX13_holds.cls ≠ "java/lang/invoke/MethodHandle" ∧ yX13_holds.cls ≠ "java/lang/invoke/VarHandle" ∧ (parseMethodDescriptor yX13_holds.desc).map (fun d => d.parameters.length) = some 2 := by decide +kernel
set_option maxHeartbeats 4000000 in
theorem mt_X13_holds (l : Launch) {D : va_G} {d : Nat → ClassId} {base : Nat} {mc : va_W} {S : xH} {o : Nat} {x1 : Nat} {x2 : Int32} {Q : Int32 → Prop} (hw : w_X13_holds S o x1 x2 Q) : Met l yX13_holds (ws_ yX13_holds cX13_holds 3 (some FieldType.boolean)) (x_rm 1 0 0 30) (x_Pc D d base mc S [.ref o, .ref x1, .int x2]) (x_Qi D d base mc (fun r S' => S' = S ∧ Q r)) 0 0 (x_A base) := by
  refine x_met (by decide) (Nat.le_of_ble_eq_true rfl) ?_
  intro p e s m below meth c hx hb hml hr hlocks hown hts hz hR hK hin ls hl
  have hown : s.vm.findClass "PressedMen$Covered" = some m.cls := hown
  have hl : lv_has ls 3 [(0, .ref o), (1, .ref x1), (2, .int x2)] := hl
  have hS : va_S (x_A base) s.heap s.heap [] := va_S.rf
  unfold w_X13_holds at hw
  refine lv_iload_n hx hb dX13_holds_0 rfl (lv_at hl 2 rfl) ?_
  exact x_rz hx hb hr hlocks hR hS dX13_holds_1 hw.1 ⟨rfl, hw.2⟩
theorem hd_X14_holds : yX14_holds.cls = "PressedMen$Aboard" ∧ yX14_holds.cls ≠ "java/lang/invoke/MethodHandle" ∧ yX14_holds.cls ≠ "java/lang/invoke/VarHandle" ∧ (parseMethodDescriptor yX14_holds.desc).map (fun d => d.parameters.length) = some 2 := by decide +kernel
set_option maxHeartbeats 4000000 in
theorem mt_X14_holds (l : Launch) {D : va_G} {d : Nat → ClassId} {base : Nat} {mc : va_W} {S : xH} {o : Nat} {x1 : Nat} {x2 : Int32} {Q : Int32 → Prop} (hw : w_X14_holds S o x1 x2 Q) : Met l yX14_holds (ws_ yX14_holds cX14_holds 3 (some FieldType.boolean)) (x_rm 1 0 0 30) (x_Pc D d base mc S [.ref o, .ref x1, .int x2]) (x_Qi D d base mc (fun r S' => S' = S ∧ Q r)) 0 0 (x_A base) := by
  refine x_met (by decide) (Nat.le_of_ble_eq_true rfl) ?_
  intro p e s m below meth c hx hb hml hr hlocks hown hts hz hR hK hin ls hl
  have hown : s.vm.findClass "PressedMen$Aboard" = some m.cls := hown
  have hl : lv_has ls 3 [(0, .ref o), (1, .ref x1), (2, .int x2)] := hl
  have hS : va_S (x_A base) s.heap s.heap [] := va_S.rf
  unfold w_X14_holds at hw
  refine lv_aload_n hx hb dX14_holds_0 rfl (lv_at hl 1 rfl) ?_
  obtain ⟨ha, hw⟩ := hw
  refine x_ci (va_runV (As := []) (rest := []) ⟨hx, hb, hml, hown, hts⟩ (mt_X2_place l hw) (cwV 0 hts (lw_V q588 q277 q278 q66 q279) rfl rfl rfl hd_X2_place ⟨Nat.le_of_ble_eq_true rfl, Nat.le_of_ble_eq_true rfl⟩) ⟨x_Pc_blind, hR.recv hK (ci := 2) rfl (by decide) ha, x_Pc_pre hR hz hS hK⟩ rfl rfl hl.1 rfl (lv_room (Nat.le_of_ble_eq_true rfl)) dX14_holds_1 ⟨Nat.le_refl _, Nat.le_refl _⟩) hS (fun r_1 S_2 H locs hp hR hS => ?_)
  have hw := hp.2
  rw [hp.1] at hR
  refine lv_bipush (v := 10) hx hb dX14_holds_4 (by decide) ?_
  refine lv_bipush (v := 19) hx hb dX14_holds_6 (by decide) ?_
  refine x_ci (va_runSN (As := [.int r_1, .int 10, .int 19]) (rest := []) ⟨hx, hb, hml, hown, hts⟩ (mt_X0_isIn l hw) ⟨va_cnB 3 hts (lw_meth q180) rfl rfl rfl (hK.2 _ q589 rfl) (hts _ q64) hd_X0_isIn.2 ⟨Nat.le_of_ble_eq_true rfl, Nat.le_of_ble_eq_true rfl⟩, hts _ q179, trivial⟩ ⟨x_Pc_blind, x_Pc_pre hR hz hS hK⟩ rfl rfl hl.1 rfl (lv_room (Nat.le_of_ble_eq_true rfl)) dX14_holds_8 ⟨Nat.le_refl _, Nat.le_refl _⟩) hS (fun r_3 S_4 H locs hp hR hS => ?_)
  have hw := hp.2
  rw [hp.1] at hR
  exact x_rz hx hb hr hlocks hR hS dX14_holds_11 hw.1 ⟨rfl, hw.2⟩
theorem hd_X15_holds : yX15_holds.cls = "PressedMen$AtHome" ∧ yX15_holds.cls ≠ "java/lang/invoke/MethodHandle" ∧ yX15_holds.cls ≠ "java/lang/invoke/VarHandle" ∧ (parseMethodDescriptor yX15_holds.desc).map (fun d => d.parameters.length) = some 2 := by decide +kernel
set_option maxHeartbeats 4000000 in
theorem mt_X15_holds (l : Launch) {D : va_G} {d : Nat → ClassId} {base : Nat} {mc : va_W} {S : xH} {o : Nat} {x1 : Nat} {x2 : Int32} {Q : Int32 → Prop} (hw : w_X15_holds S o x1 x2 Q) : Met l yX15_holds (ws_ yX15_holds cX15_holds 3 (some FieldType.boolean)) (x_rm 1 0 0 30) (x_Pc D d base mc S [.ref o, .ref x1, .int x2]) (x_Qi D d base mc (fun r S' => S' = S ∧ Q r)) 0 0 (x_A base) := by
  refine x_met (by decide) (Nat.le_of_ble_eq_true rfl) ?_
  intro p e s m below meth c hx hb hml hr hlocks hown hts hz hR hK hin ls hl
  have hown : s.vm.findClass "PressedMen$AtHome" = some m.cls := hown
  have hl : lv_has ls 3 [(0, .ref o), (1, .ref x1), (2, .int x2)] := hl
  have hS : va_S (x_A base) s.heap s.heap [] := va_S.rf
  unfold w_X15_holds at hw
  refine lv_aload_n hx hb dX15_holds_0 rfl (lv_at hl 1 rfl) ?_
  obtain ⟨ha, hw⟩ := hw
  refine x_ci (va_runV (As := []) (rest := []) ⟨hx, hb, hml, hown, hts⟩ (mt_X2_place l hw) (cwV 0 hts (lw_V q593 q277 q278 q66 q279) rfl rfl rfl hd_X2_place ⟨Nat.le_of_ble_eq_true rfl, Nat.le_of_ble_eq_true rfl⟩) ⟨x_Pc_blind, hR.recv hK (ci := 2) rfl (by decide) ha, x_Pc_pre hR hz hS hK⟩ rfl rfl hl.1 rfl (lv_room (Nat.le_of_ble_eq_true rfl)) dX15_holds_1 ⟨Nat.le_refl _, Nat.le_refl _⟩) hS (fun r_1 S_2 H locs hp hR hS => ?_)
  have hw := hp.2
  rw [hp.1] at hR
  refine lv_aload_n hx hb dX15_holds_4 rfl (lv_at hl 1 rfl) ?_
  obtain ⟨ha, hw⟩ := hw
  refine x_ci (va_runV (As := []) (rest := [.int r_1]) ⟨hx, hb, hml, hown, hts⟩ (mt_X2_home l hw) (cwV 0 hts (lw_V q594 q319 q320 q66 q321) rfl rfl rfl hd_X2_home ⟨Nat.le_of_ble_eq_true rfl, Nat.le_of_ble_eq_true rfl⟩) ⟨x_Pc_blind, hR.recv hK (ci := 2) rfl (by decide) ha, x_Pc_pre hR hz hS hK⟩ rfl rfl hl.1 rfl (lv_room (Nat.le_of_ble_eq_true rfl)) dX15_holds_5 ⟨Nat.le_refl _, Nat.le_refl _⟩) hS (fun r_3 S_4 H locs hp hR hS => ?_)
  have hw := hp.2
  rw [hp.1] at hR
  refine lv_icmp_ne (tgt := 15) hx hb dX15_holds_8 (by decide) (fun c_5 => ?_) (fun c_5 => ?_)
  · have hw := x_f hw c_5
    refine lv_iconst (v := 0) hx hb dX15_holds_15 (by decide) ?_
    exact x_rz hx hb hr hlocks hR hS dX15_holds_16 (Or.inl rfl) ⟨rfl, hw⟩
  · have hw := x_t hw c_5
    refine lv_iconst (v := 1) hx hb dX15_holds_11 (by decide) ?_
    refine lv_goto (tgt := 16) hx hb dX15_holds_12 (by decide) ?_
    exact x_rz hx hb hr hlocks hR hS dX15_holds_16 (Or.inr rfl) ⟨rfl, hw⟩
theorem hd_X7_holds : yX7_holds.cls = "PressedMen$Both" ∧ yX7_holds.cls ≠ "java/lang/invoke/MethodHandle" ∧ yX7_holds.cls ≠ "java/lang/invoke/VarHandle" ∧ (parseMethodDescriptor yX7_holds.desc).map (fun d => d.parameters.length) = some 2 := by decide +kernel
set_option maxHeartbeats 4000000 in
theorem mt_X7_holds (l : Launch) {F L : Nat} {rc : x_HT} (hv : x_VH l F L rc) {D : va_G} {d : Nat → ClassId} {base : Nat} {mc : va_W} {S : xH} {o : Nat} {x1 : Nat} {x2 : Int32} {Q : Int32 → Prop} (hw : w_X7_holds rc S o x1 x2 Q) : Met l yX7_holds (ws_ yX7_holds cX7_holds 3 (some FieldType.boolean)) (x_rm (F + 1) 0 0 (L + 22)) (x_Pc D d base mc S [.ref o, .ref x1, .int x2]) (x_Qi D d base mc (fun r S' => S' = S ∧ Q r)) 0 0 (x_A base) := by
  refine x_met (by decide) (Nat.le_of_ble_eq_true rfl) ?_
  intro p e s m below meth c hx hb hml hr hlocks hown hts hz hR hK hin ls hl
  have hown : s.vm.findClass "PressedMen$Both" = some m.cls := hown
  have hl : lv_has ls 3 [(0, .ref o), (1, .ref x1), (2, .int x2)] := hl
  have hS : va_S (x_A base) s.heap s.heap [] := va_S.rf
  unfold w_X7_holds at hw
  refine lv_aload_n hx hb dX7_holds_0 rfl (lv_at hl 0 rfl) ?_
  refine x_get400 hx hb hts hown hK hR (hts _ q468) dX7_holds_1 hw.1 ?_
  have hw := hw.2
  refine lv_aload_n hx hb dX7_holds_4 rfl (lv_at hl 1 rfl) ?_
  refine lv_iload_n hx hb dX7_holds_5 rfl (lv_at hl 2 rfl) ?_
  obtain ⟨b_1, e_2, hw⟩ := hw
  refine x_dr2 e_2 ?_
  refine x_ci (hv hw ⟨hx, hb, hml, hown, hts⟩ q612 hR hz hS hK hl.1 (by simp only [x_rm]; omega) (by simp only [x_rm]; omega) (lv_room (Nat.le_of_ble_eq_true rfl)) dX7_holds_6 ⟨Nat.le_refl _, Nat.le_refl _⟩) hS (fun r_3 S_4 H locs hp hR hS => ?_)
  have hw := hp.2
  rw [hp.1] at hR
  refine lv_if_eq (tgt := 28) hx hb dX7_holds_9 (by decide) (fun c_5 => ?_) (fun c_5 => ?_)
  · have hw := x_t hw c_5
    refine lv_iconst (v := 0) hx hb dX7_holds_28 (by decide) ?_
    exact x_rz hx hb hr hlocks hR hS dX7_holds_29 (Or.inl rfl) ⟨rfl, hw⟩
  · have hw := x_f hw c_5
    refine lv_aload_n hx hb dX7_holds_12 rfl (lv_at hl 0 rfl) ?_
    refine x_get401 hx hb hts hown hK hR (hts _ q469) dX7_holds_13 hw.1 ?_
    have hw := hw.2
    refine lv_aload_n hx hb dX7_holds_16 rfl (lv_at hl 1 rfl) ?_
    refine lv_iload_n hx hb dX7_holds_17 rfl (lv_at hl 2 rfl) ?_
    obtain ⟨b_6, e_7, hw⟩ := hw
    refine x_dr2 e_7 ?_
    refine x_ci (hv hw ⟨hx, hb, hml, hown, hts⟩ q612 hR hz hS hK hl.1 (by simp only [x_rm]; omega) (by simp only [x_rm]; omega) (lv_room (Nat.le_of_ble_eq_true rfl)) dX7_holds_18 ⟨Nat.le_refl _, Nat.le_refl _⟩) hS (fun r_8 S_9 H locs hp hR hS => ?_)
    have hw := hp.2
    rw [hp.1] at hR
    refine lv_if_eq (tgt := 28) hx hb dX7_holds_21 (by decide) (fun c_10 => ?_) (fun c_10 => ?_)
    · have hw := x_t hw c_10
      refine lv_iconst (v := 0) hx hb dX7_holds_28 (by decide) ?_
      exact x_rz hx hb hr hlocks hR hS dX7_holds_29 (Or.inl rfl) ⟨rfl, hw⟩
    · have hw := x_f hw c_10
      refine lv_iconst (v := 1) hx hb dX7_holds_24 (by decide) ?_
      refine lv_goto (tgt := 29) hx hb dX7_holds_25 (by decide) ?_
      exact x_rz hx hb hr hlocks hR hS dX7_holds_29 (Or.inr rfl) ⟨rfl, hw⟩
theorem hd_X7_holdsOne : yX7_holdsOne.cls = "PressedMen$Both" ∧ yX7_holdsOne.cls ≠ "java/lang/invoke/MethodHandle" ∧ yX7_holdsOne.cls ≠ "java/lang/invoke/VarHandle" ∧ (parseMethodDescriptor yX7_holdsOne.desc).map (fun d => d.parameters.length) = some 2 := by decide +kernel
set_option maxHeartbeats 4000000 in
theorem mt_X7_holdsOne (l : Launch) {F L : Nat} {rc : x_HT} (hv : x_VH l F L rc) {D : va_G} {d : Nat → ClassId} {base : Nat} {mc : va_W} {S : xH} {o : Nat} {x1 : Nat} {x2 : Int32} {Q : Int32 → Prop} (hw : w_X7_holdsOne rc S o x1 x2 Q) : Met l yX7_holdsOne (ws_ yX7_holdsOne cX7_holdsOne 3 (some FieldType.boolean)) (x_rm (F + 1) 0 0 (L + 22)) (x_Pc D d base mc S [.ref o, .ref x1, .int x2]) (x_Qi D d base mc (fun r S' => S' = S ∧ Q r)) 0 0 (x_A base) := by
  refine x_met (by decide) (Nat.le_of_ble_eq_true rfl) ?_
  intro p e s m below meth c hx hb hml hr hlocks hown hts hz hR hK hin ls hl
  have hown : s.vm.findClass "PressedMen$Both" = some m.cls := hown
  have hl : lv_has ls 3 [(0, .ref o), (1, .ref x1), (2, .int x2)] := hl
  have hS : va_S (x_A base) s.heap s.heap [] := va_S.rf
  unfold w_X7_holdsOne at hw
  refine lv_aload_n hx hb dX7_holdsOne_0 rfl (lv_at hl 0 rfl) ?_
  refine x_get400 hx hb hts hown hK hR (hts _ q468) dX7_holdsOne_1 hw.1 ?_
  have hw := hw.2
  refine lv_aload_n hx hb dX7_holdsOne_4 rfl (lv_at hl 1 rfl) ?_
  refine lv_iload_n hx hb dX7_holdsOne_5 rfl (lv_at hl 2 rfl) ?_
  obtain ⟨b_1, e_2, hw⟩ := hw
  refine x_dr2 e_2 ?_
  refine x_ci (hv hw ⟨hx, hb, hml, hown, hts⟩ q612 hR hz hS hK hl.1 (by simp only [x_rm]; omega) (by simp only [x_rm]; omega) (lv_room (Nat.le_of_ble_eq_true rfl)) dX7_holdsOne_6 ⟨Nat.le_refl _, Nat.le_refl _⟩) hS (fun r_3 S_4 H locs hp hR hS => ?_)
  have hw := hp.2
  rw [hp.1] at hR
  refine lv_if_ne (tgt := 24) hx hb dX7_holdsOne_9 (by decide) (fun c_5 => ?_) (fun c_5 => ?_)
  · have hw := x_f hw c_5
    refine lv_iconst (v := 1) hx hb dX7_holdsOne_24 (by decide) ?_
    refine lv_goto (tgt := 29) hx hb dX7_holdsOne_25 (by decide) ?_
    exact x_rz hx hb hr hlocks hR hS dX7_holdsOne_29 (Or.inr rfl) ⟨rfl, hw⟩
  · have hw := x_t hw c_5
    refine lv_aload_n hx hb dX7_holdsOne_12 rfl (lv_at hl 0 rfl) ?_
    refine x_get401 hx hb hts hown hK hR (hts _ q469) dX7_holdsOne_13 hw.1 ?_
    have hw := hw.2
    refine lv_aload_n hx hb dX7_holdsOne_16 rfl (lv_at hl 1 rfl) ?_
    refine lv_iload_n hx hb dX7_holdsOne_17 rfl (lv_at hl 2 rfl) ?_
    obtain ⟨b_6, e_7, hw⟩ := hw
    refine x_dr2 e_7 ?_
    refine x_ci (hv hw ⟨hx, hb, hml, hown, hts⟩ q612 hR hz hS hK hl.1 (by simp only [x_rm]; omega) (by simp only [x_rm]; omega) (lv_room (Nat.le_of_ble_eq_true rfl)) dX7_holdsOne_18 ⟨Nat.le_refl _, Nat.le_refl _⟩) hS (fun r_8 S_9 H locs hp hR hS => ?_)
    have hw := hp.2
    rw [hp.1] at hR
    refine lv_if_eq (tgt := 28) hx hb dX7_holdsOne_21 (by decide) (fun c_10 => ?_) (fun c_10 => ?_)
    · have hw := x_t hw c_10
      refine lv_iconst (v := 0) hx hb dX7_holdsOne_28 (by decide) ?_
      exact x_rz hx hb hr hlocks hR hS dX7_holdsOne_29 (Or.inl rfl) ⟨rfl, hw⟩
    · have hw := x_f hw c_10
      refine lv_iconst (v := 1) hx hb dX7_holdsOne_24 (by decide) ?_
      refine lv_goto (tgt := 29) hx hb dX7_holdsOne_25 (by decide) ?_
      exact x_rz hx hb hr hlocks hR hS dX7_holdsOne_29 (Or.inr rfl) ⟨rfl, hw⟩
theorem hd_X9_holds : yX9_holds.cls = "PressedMen$Not" ∧ yX9_holds.cls ≠ "java/lang/invoke/MethodHandle" ∧ yX9_holds.cls ≠ "java/lang/invoke/VarHandle" ∧ (parseMethodDescriptor yX9_holds.desc).map (fun d => d.parameters.length) = some 2 := by decide +kernel
set_option maxHeartbeats 4000000 in
theorem mt_X9_holds (l : Launch) {F L : Nat} {rc : x_HT} (hv : x_VH l F L rc) {D : va_G} {d : Nat → ClassId} {base : Nat} {mc : va_W} {S : xH} {o : Nat} {x1 : Nat} {x2 : Int32} {Q : Int32 → Prop} (hw : w_X9_holds rc S o x1 x2 Q) : Met l yX9_holds (ws_ yX9_holds cX9_holds 3 (some FieldType.boolean)) (x_rm (F + 1) 0 0 (L + 22)) (x_Pc D d base mc S [.ref o, .ref x1, .int x2]) (x_Qi D d base mc (fun r S' => S' = S ∧ Q r)) 0 0 (x_A base) := by
  refine x_met (by decide) (Nat.le_of_ble_eq_true rfl) ?_
  intro p e s m below meth c hx hb hml hr hlocks hown hts hz hR hK hin ls hl
  have hown : s.vm.findClass "PressedMen$Not" = some m.cls := hown
  have hl : lv_has ls 3 [(0, .ref o), (1, .ref x1), (2, .int x2)] := hl
  have hS : va_S (x_A base) s.heap s.heap [] := va_S.rf
  unfold w_X9_holds at hw
  refine lv_aload_n hx hb dX9_holds_0 rfl (lv_at hl 0 rfl) ?_
  refine x_getR (ci := 9) (C := RX9) (T := TX9) (N := 1) (f := 500) hx hb hts in_X9 hown hK hR rfl 0 (by decide) (hts _ q490) (fun _ h => h) rfl (by decide) dX9_holds_1 hw.1 ?_
  have hw := hw.2
  refine lv_aload_n hx hb dX9_holds_4 rfl (lv_at hl 1 rfl) ?_
  refine lv_iload_n hx hb dX9_holds_5 rfl (lv_at hl 2 rfl) ?_
  obtain ⟨b_1, e_2, hw⟩ := hw
  refine x_dr2 e_2 ?_
  refine x_ci (hv hw ⟨hx, hb, hml, hown, hts⟩ q633 hR hz hS hK hl.1 (by simp only [x_rm]; omega) (by simp only [x_rm]; omega) (lv_room (Nat.le_of_ble_eq_true rfl)) dX9_holds_6 ⟨Nat.le_refl _, Nat.le_refl _⟩) hS (fun r_3 S_4 H locs hp hR hS => ?_)
  have hw := hp.2
  rw [hp.1] at hR
  refine lv_if_ne (tgt := 16) hx hb dX9_holds_9 (by decide) (fun c_5 => ?_) (fun c_5 => ?_)
  · have hw := x_f hw c_5
    refine lv_iconst (v := 0) hx hb dX9_holds_16 (by decide) ?_
    exact x_rz hx hb hr hlocks hR hS dX9_holds_17 (Or.inl rfl) ⟨rfl, hw⟩
  · have hw := x_t hw c_5
    refine lv_iconst (v := 1) hx hb dX9_holds_12 (by decide) ?_
    refine lv_goto (tgt := 17) hx hb dX9_holds_13 (by decide) ?_
    exact x_rz hx hb hr hlocks hR hS dX9_holds_17 (Or.inr rfl) ⟨rfl, hw⟩
theorem hd_X8_holds : yX8_holds.cls = "PressedMen$Either" ∧ yX8_holds.cls ≠ "java/lang/invoke/MethodHandle" ∧ yX8_holds.cls ≠ "java/lang/invoke/VarHandle" ∧ (parseMethodDescriptor yX8_holds.desc).map (fun d => d.parameters.length) = some 2 := by decide +kernel
set_option maxHeartbeats 4000000 in
theorem mt_X8_holds (l : Launch) {F L : Nat} {rc : x_HT} (hv : x_VH l F L rc) {D : va_G} {d : Nat → ClassId} {base : Nat} {mc : va_W} {S : xH} {o : Nat} {x1 : Nat} {x2 : Int32} {Q : Int32 → Prop} (hw : w_X8_holds rc S o x1 x2 Q) : Met l yX8_holds (ws_ yX8_holds cX8_holds 3 (some FieldType.boolean)) (x_rm (F + 2) 0 0 (L + 44)) (x_Pc D d base mc S [.ref o, .ref x1, .int x2]) (x_Qi D d base mc (fun r S' => S' = S ∧ Q r)) 0 0 (x_A base) := by
  refine x_met (by decide) (Nat.le_of_ble_eq_true rfl) ?_
  intro p e s m below meth c hx hb hml hr hlocks hown hts hz hR hK hin ls hl
  have hown : s.vm.findClass "PressedMen$Either" = some m.cls := hown
  have hl : lv_has ls 3 [(0, .ref o), (1, .ref x1), (2, .int x2)] := hl
  have hS : va_S (x_A base) s.heap s.heap [] := va_S.rf
  unfold w_X8_holds at hw
  refine lv_aload_n hx hb dX8_holds_0 rfl (lv_at hl 0 rfl) ?_
  refine lv_aload_n hx hb dX8_holds_1 rfl (lv_at hl 1 rfl) ?_
  refine lv_iload_n hx hb dX8_holds_2 rfl (lv_at hl 2 rfl) ?_
  obtain ⟨ha, hw⟩ := hw
  refine x_ci (x_runSU (As := [.ref x1, .int x2]) (rest := []) (⟨_, _, (hK.1.1 8 _ rfl).2, hR.recv hK (ci := 8) rfl (by decide) ha⟩) ⟨hx, hb, hml, hown, hts⟩ (mt_X7_holds l hv hw) (va_cwSU 2 hts (x_wSU q617 q1441 q483 q610 q72 q611) rfl rfl rfl ⟨by decide, hd_X7_holds.2.2.2⟩ ⟨by simp only [x_rm]; omega, by simp only [x_rm]; omega⟩) x_Pc_blind (x_Pc_pre hR hz hS hK) rfl rfl hl.1 rfl (lv_room (Nat.le_of_ble_eq_true rfl)) dX8_holds_3 ⟨Nat.le_refl _, Nat.le_refl _⟩) hS (fun r_1 S_2 H locs hp hR hS => ?_)
  have hw := hp.2
  rw [hp.1] at hR
  refine lv_if_ne (tgt := 18) hx hb dX8_holds_6 (by decide) (fun c_3 => ?_) (fun c_3 => ?_)
  · have hw := x_f hw c_3
    refine lv_iconst (v := 1) hx hb dX8_holds_18 (by decide) ?_
    refine lv_goto (tgt := 23) hx hb dX8_holds_19 (by decide) ?_
    exact x_rz hx hb hr hlocks hR hS dX8_holds_23 (Or.inr rfl) ⟨rfl, hw⟩
  · have hw := x_t hw c_3
    refine lv_aload_n hx hb dX8_holds_9 rfl (lv_at hl 0 rfl) ?_
    refine lv_aload_n hx hb dX8_holds_10 rfl (lv_at hl 1 rfl) ?_
    refine lv_iload_n hx hb dX8_holds_11 rfl (lv_at hl 2 rfl) ?_
    obtain ⟨ha, hw⟩ := hw
    refine x_ci (x_runU (x := ⟨"PressedMen$Either", "holdsOne", "(LPressedMen$Man;Z)Z"⟩) (owner := "PressedMen$Both") (As := [.ref x1, .int x2]) (rest := []) ⟨hx, hb, hml, hown, hts⟩ (mt_X7_holdsOne l hv hw) (⟨_, va_cwU 2 hts (x_wU q618 q619 q621 q622 q72 q623) rfl rfl rfl rfl hd_X7_holdsOne.2 ⟨by simp only [x_rm]; omega, by simp only [x_rm]; omega⟩, hR.recv hK (ci := 8) rfl (by decide) ha⟩) x_Pc_blind (x_Pc_pre hR hz hS hK) rfl rfl hl.1 rfl (lv_room (Nat.le_of_ble_eq_true rfl)) dX8_holds_12 ⟨Nat.le_refl _, Nat.le_refl _⟩) hS (fun r_4 S_5 H locs hp hR hS => ?_)
    have hw := hp.2
    rw [hp.1] at hR
    refine lv_if_eq (tgt := 22) hx hb dX8_holds_15 (by decide) (fun c_6 => ?_) (fun c_6 => ?_)
    · have hw := x_t hw c_6
      refine lv_iconst (v := 0) hx hb dX8_holds_22 (by decide) ?_
      exact x_rz hx hb hr hlocks hR hS dX8_holds_23 (Or.inl rfl) ⟨rfl, hw⟩
    · have hw := x_f hw c_6
      refine lv_iconst (v := 1) hx hb dX8_holds_18 (by decide) ?_
      refine lv_goto (tgt := 23) hx hb dX8_holds_19 (by decide) ?_
      exact x_rz hx hb hr hlocks hR hS dX8_holds_23 (Or.inr rfl) ⟨rfl, hw⟩
theorem vh_d : ("PressedMen$Text" : String) ≠ "java/lang/invoke/MethodHandle" ∧ ("PressedMen$Text" : String) ≠ "java/lang/invoke/VarHandle" ∧ (parseMethodDescriptor "(LPressedMen$Man;Z)Z").map (fun d => d.parameters.length) = some 2 := by decide +kernel
theorem vh_step {l : Launch} {F L : Nat} {rc : x_HT} (hv : x_VH l F L rc) : x_VH l (F + 4) (L + 100) (w_hd rc) := by
  intro p e R s m args below meth c H H0 locs cells slots cc pc ls rest D d base mc S a mm x Q own idx nL hw hfix hlk hR hz hS hK hls hfr hlo hrm hdg hcs
  have hts := hfix.2.2.2.2
  rcases hw with ⟨ha, hw⟩ | ⟨ha, hw⟩ | ⟨ha, hw⟩ | ⟨ha, hw⟩ | ⟨ha, hw⟩ | ⟨ha, hw⟩ | ⟨ha, hw⟩ | ⟨ha, hw⟩ | ⟨ha, hw⟩
  · exact va_runU (x := ⟨"PressedMen$Text", "holds", "(LPressedMen$Man;Z)Z"⟩) (owner := "PressedMen$Text") (As := [.ref mm, .int x]) (rest := rest) hfix (mt_X7_holds l hv hw) (va_cwA 2 hts (x_wU hlk q584 q609 q610 q72 q611) rfl rfl rfl (hK.2 _ q583 rfl) vh_d ⟨by simp only [x_rm]; omega, by simp only [x_rm]; omega⟩) ⟨x_Pc_blind, hR.recv hK (ci := 7) rfl (by decide) ha, x_Pc_pre hR hz hS hK⟩ rfl rfl hls rfl hrm hdg hcs
  · exact va_runU (x := ⟨"PressedMen$Text", "holds", "(LPressedMen$Man;Z)Z"⟩) (owner := "PressedMen$Text") (As := [.ref mm, .int x]) (rest := rest) hfix (mt_X8_holds l hv hw) (va_cwA 2 hts (x_wU hlk q584 q635 q615 q73 q616) rfl rfl rfl (hK.2 _ q583 rfl) vh_d ⟨by simp only [x_rm]; omega, by simp only [x_rm]; omega⟩) ⟨x_Pc_blind, hR.recv hK (ci := 8) rfl (by decide) ha, x_Pc_pre hR hz hS hK⟩ rfl rfl hls rfl hrm hdg hcs
  · exact va_runU (x := ⟨"PressedMen$Text", "holds", "(LPressedMen$Man;Z)Z"⟩) (owner := "PressedMen$Text") (As := [.ref mm, .int x]) (rest := rest) hfix (mt_X9_holds l hv hw) (va_cwA 2 hts (x_wU hlk q584 q637 q631 q74 q632) rfl rfl rfl (hK.2 _ q583 rfl) vh_d ⟨by simp only [x_rm]; omega, by simp only [x_rm]; omega⟩) ⟨x_Pc_blind, hR.recv hK (ci := 9) rfl (by decide) ha, x_Pc_pre hR hz hS hK⟩ rfl rfl hls rfl hrm hdg hcs
  · exact va_runU (x := ⟨"PressedMen$Text", "holds", "(LPressedMen$Man;Z)Z"⟩) (owner := "PressedMen$Text") (As := [.ref mm, .int x]) (rest := rest) hfix (mt_X10_holds l hw) (va_cwA 2 hts (x_wU hlk q584 q595 q596 q75 q597) rfl rfl rfl (hK.2 _ q583 rfl) vh_d ⟨by simp only [x_rm]; omega, by simp only [x_rm]; omega⟩) ⟨x_Pc_blind, hR.recv hK (ci := 10) rfl (by decide) ha, x_Pc_pre hR hz hS hK⟩ rfl rfl hls rfl hrm hdg hcs
  · exact va_runU (x := ⟨"PressedMen$Text", "holds", "(LPressedMen$Man;Z)Z"⟩) (owner := "PressedMen$Text") (As := [.ref mm, .int x]) (rest := rest) hfix (mt_X11_holds l hw) (va_cwA 2 hts (x_wU hlk q584 q605 q606 q76 q607) rfl rfl rfl (hK.2 _ q583 rfl) vh_d ⟨by simp only [x_rm]; omega, by simp only [x_rm]; omega⟩) ⟨x_Pc_blind, hR.recv hK (ci := 11) rfl (by decide) ha, x_Pc_pre hR hz hS hK⟩ rfl rfl hls rfl hrm hdg hcs
  · exact va_runU (x := ⟨"PressedMen$Text", "holds", "(LPressedMen$Man;Z)Z"⟩) (owner := "PressedMen$Text") (As := [.ref mm, .int x]) (rest := rest) hfix (mt_X12_holds l hw) (va_cwA 2 hts (x_wU hlk q584 q636 q624 q77 q625) rfl rfl rfl (hK.2 _ q583 rfl) vh_d ⟨by simp only [x_rm]; omega, by simp only [x_rm]; omega⟩) ⟨x_Pc_blind, hR.recv hK (ci := 12) rfl (by decide) ha, x_Pc_pre hR hz hS hK⟩ rfl rfl hls rfl hrm hdg hcs
  · exact va_runU (x := ⟨"PressedMen$Text", "holds", "(LPressedMen$Man;Z)Z"⟩) (owner := "PressedMen$Text") (As := [.ref mm, .int x]) (rest := rest) hfix (mt_X13_holds l hw) (va_cwA 2 hts (x_wU hlk q584 q634 q613 q78 q614) rfl rfl rfl (hK.2 _ q583 rfl) vh_d ⟨by simp only [x_rm]; omega, by simp only [x_rm]; omega⟩) ⟨x_Pc_blind, hR.recv hK (ci := 13) rfl (by decide) ha, x_Pc_pre hR hz hS hK⟩ rfl rfl hls rfl hrm hdg hcs
  · exact va_runU (x := ⟨"PressedMen$Text", "holds", "(LPressedMen$Man;Z)Z"⟩) (owner := "PressedMen$Text") (As := [.ref mm, .int x]) (rest := rest) hfix (mt_X14_holds l hw) (va_cwA 2 hts (x_wU hlk q584 q585 q586 q79 q587) rfl rfl rfl (hK.2 _ q583 rfl) vh_d ⟨by simp only [x_rm]; omega, by simp only [x_rm]; omega⟩) ⟨x_Pc_blind, hR.recv hK (ci := 14) rfl (by decide) ha, x_Pc_pre hR hz hS hK⟩ rfl rfl hls rfl hrm hdg hcs
  · exact va_runU (x := ⟨"PressedMen$Text", "holds", "(LPressedMen$Man;Z)Z"⟩) (owner := "PressedMen$Text") (As := [.ref mm, .int x]) (rest := rest) hfix (mt_X15_holds l hw) (va_cwA 2 hts (x_wU hlk q584 q590 q591 q80 q592) rfl rfl rfl (hK.2 _ q583 rfl) vh_d ⟨by simp only [x_rm]; omega, by simp only [x_rm]; omega⟩) ⟨x_Pc_blind, hR.recv hK (ci := 15) rfl (by decide) ha, x_Pc_pre hR hz hS hK⟩ rfl rfl hls rfl hrm hdg hcs
theorem vh_all (l : Launch) : ∀ d : Nat, x_VH l (4 * d + 4) (100 * d + 100) (w_holds d) := by
  intro d
  induction d with
  | zero =>
    intro p e R s m args below meth c H H0 locs cells slots cc pc ls rest D d base mc S a mm x Q own idx nL hw
    exact hw.elim
  | succ d ih => exact vh_step ih
def x_VT (l : Launch) (F L : Nat) (rc : x_RT) : Prop := ∀ {D : va_G} {d : Nat → ClassId} {base : Nat} {mc : va_W} {S : xH} {k n : Nat} {o : Nat} {Q : Option Nat → xH → Prop}, rc k n S o Q → Met l yX5_readText (ws_ yX5_readText cX5_readText 3 (some (FieldType.object "PressedMen$Text"))) (x_rm F k n L) (x_Pc D d base mc S [.ref o]) (x_Qq D d base mc (fun r S' => Q r S')) k n (x_A base)
theorem hd_X5_readText : yX5_readText.cls = "PressedMen$Act" ∧ yX5_readText.cls ≠ "java/lang/invoke/MethodHandle" ∧ yX5_readText.cls ≠ "java/lang/invoke/VarHandle" ∧ (parseMethodDescriptor yX5_readText.desc).map (fun d => d.parameters.length) = some 0 := by decide +kernel
theorem hd_X5_readTwo : yX5_readTwo.cls = "PressedMen$Act" ∧ yX5_readTwo.cls ≠ "java/lang/invoke/MethodHandle" ∧ yX5_readTwo.cls ≠ "java/lang/invoke/VarHandle" ∧ (parseMethodDescriptor yX5_readTwo.desc).map (fun d => d.parameters.length) = some 1 := by decide +kernel
set_option maxHeartbeats 4000000 in
theorem mt_X5_readTwo (l : Launch) {F L : Nat} {rc : x_RT} (hv : x_VT l F L rc) {D : va_G} {d : Nat → ClassId} {base : Nat} {mc : va_W} {S : xH} {k n : Nat} {o : Nat} {x1 : Int32} {Q : Option Nat → xH → Prop} (hw : w_X5_readTwo rc k n S o x1 Q) : Met l yX5_readTwo (ws_ yX5_readTwo cX5_readTwo 4 (some (FieldType.object "PressedMen$Text"))) (x_rm (F + 8) k n (L + 120)) (x_Pc D d base mc S [.ref o, .int x1]) (x_Qq D d base mc (fun r S' => Q r S')) k n (x_A base) := by
  refine x_met (by decide) (Nat.le_of_ble_eq_true rfl) ?_
  intro p e s m below meth c hx hb hml hr hlocks hown hts hz hR hK hin ls hl
  have hown : s.vm.findClass "PressedMen$Act" = some m.cls := hown
  have hl : lv_has ls 4 [(0, .ref o), (1, .int x1)] := hl
  have hS : va_S (x_A base) s.heap s.heap [] := va_S.rf
  have hA : ∀ q : Nat, s.heap.size ≤ q → x_A base q := fun q h => Nat.le_trans hz h
  have hc : 0 + k ≤ k := by omega
  have hs : 0 + n ≤ n := by omega
  unfold w_X5_readTwo at hw
  refine lv_aload_n hx hb dX5_readTwo_0 rfl (lv_at hl 0 rfl) ?_
  obtain ⟨ha, hw⟩ := hw
  obtain ⟨k_1, n_2, h1, h2, hw⟩ := hw
  refine x_cq (va_runV (As := []) (rest := []) ⟨hx, hb, hml, hown, hts⟩ (hv hw) (cwV 0 hts (lw_V q447 q449 qs12 q70 q450) rfl rfl rfl hd_X5_readText ⟨by simp only [x_rm]; omega, by simp only [x_rm]; omega⟩) ⟨x_Pc_blind, hR.recv hK (ci := 5) rfl (by decide) ha, x_Pc_pre hR hz hS hK⟩ rfl rfl hl.1 rfl (lv_room (Nat.le_of_ble_eq_true rfl)) dX5_readTwo_1 ⟨by show _ ≤ k; omega, by show _ ≤ n; omega⟩) hS (fun r_3 S_4 H locs hp hR hS => ?_)
  have hw := hp
  have hc : (0 + k_1) + (k - k_1) ≤ k := by omega
  have hs : (0 + n_2) + (n - n_2) ≤ n := by omega
  refine x_astore_n (lv' := [(2, va_rf r_3), (0, .ref o), (1, .int x1)]) (r := r_3) hx hb dX5_readTwo_4 rfl hl (by decide) rfl (fun ls hl => ?_)
  refine x_aload_n hx hb dX5_readTwo_5 rfl (lv_at hl 0 rfl) ?_
  refine x_jn4 (G := fun (v0_5 : Option Nat) (S_6 : xH) (k_7 : Nat) (n_8 : Nat) => ∀ (ls : Array Slot) (H : Heap) (locs : List Loc) (cK nK : Nat), cK + k_7 ≤ k → nK + n_8 ≤ n → x_Rp D d (x_A base) mc S_6 H → va_S (x_A base) s.heap H locs → lv_has ls 4 [(1, .int x1), (2, va_rf r_3)] → W p l e (x_rm (F + 8) k n (L + 120)) s m ([.ref o, .int x1] : List Value).toArray below meth c H locs cK nK (MQ below (x_Qq D d base mc (fun r S' => Q r S')) ([.ref o, .int x1] : List Value).toArray s k n (x_A base)) (F0 m 17 ls [va_rf v0_5])) hw (fun v0_5 S_6 k_7 n_8 hw => ?_) (fun hJ_9 hw => ?_)
  · intro ls H locs cK nK hc hs hR hS hl
    refine x_astore_n (i := 3) (lv' := [(3, va_rf v0_5), (1, .int x1), (2, va_rf r_3)]) (r := v0_5) hx hb dX5_readTwo_17 rfl hl (by decide) (by simp [x_cat]) (fun ls hl => ?_)
    refine x_aload_n hx hb dX5_readTwo_18 rfl (lv_at hl 0 rfl) ?_
    refine x_ifnonnull (r := v0_5) (tgt := 26) hx hb dX5_readTwo_19 (by decide) (fun c_10 => ?_) (fun c_10 => ?_)
    · have hw := x_f hw c_10
      refine lv_iload_n hx hb dX5_readTwo_26 rfl (lv_at hl 1 rfl) ?_
      refine lv_if_eq (tgt := 42) hx hb dX5_readTwo_27 (by decide) (fun c_11 => ?_) (fun c_11 => ?_)
      · have hw := x_t hw c_11
        obtain ⟨h1, h2, hw⟩ := hw
        refine x_new (ci := 8) (C := RX8) (T := TX8) (N := 2) hx hb hts in_X8 tyX8 tyX8_ok hown (hts _ q475) (hts _ q476) (hts _ q73) hK hR hS hA rfl (by decide) dfX8 dX5_readTwo_42 (by show _ ≤ k; omega) (by show _ ≤ n; omega) (fun a_12 H hf hR hS => ?_)
        have hw := hw a_12 hf
        have hc : (cK + 1) + (k_7 - 1) ≤ k := by omega
        have hs : (nK + 2) + (n_8 - 2) ≤ n := by omega
        obtain ⟨S_13, eS_13⟩ : ∃ z, z = (sN S_6 a_12 9) := ⟨_, rfl⟩
        rw [← eS_13] at hR
        have hw := hw S_13 eS_13
        refine lv_dup hx hb dX5_readTwo_45 rfl ?_
        refine x_aload_n hx hb dX5_readTwo_46 rfl (lv_at hl 2 rfl) ?_
        refine x_aload_n hx hb dX5_readTwo_47 rfl (lv_at hl 0 rfl) ?_
        obtain ⟨b_14, e_15, hw⟩ := hw
        refine x_dr1 e_15 ?_
        obtain ⟨b_16, e_17, hw⟩ := hw
        refine x_dr0 e_17 ?_
        refine x_cv (va_runI (As := [.ref b_14, .ref b_16]) (rest := [.ref a_12]) ⟨hx, hb, hml, hown, hts⟩ (mt_X8_init l hw) (cwI 2 hts (lw_meth q479) rfl rfl rfl (hts _ q73) (hts _ q477) (hts _ q478) rfl hd_X8_init.2 ⟨by simp only [x_rm]; omega, by simp only [x_rm]; omega⟩) ⟨x_Pc_blind, x_Pc_pre hR hz hS hK⟩ rfl rfl hl.1 rfl (lv_room (Nat.le_of_ble_eq_true rfl)) dX5_readTwo_48 ⟨by show _ ≤ k; omega, by show _ ≤ n; omega⟩) hS (fun S_18 H locs hp hR hS => ?_)
        have hw := hp
        refine W.widen (k := k) (n := n) (by omega) (by omega) ?_
        exact x_rq (r := (some a_12)) hx hb hr (Or.inl ⟨_, rfl⟩) hlocks hR hS dX5_readTwo_51 hw
      · have hw := x_f hw c_11
        obtain ⟨h1, h2, hw⟩ := hw
        refine x_new (ci := 7) (C := RX7) (T := TX7) (N := 2) hx hb hts in_X7 tyX7 tyX7_ok hown (hts _ q459) (hts _ q460) (hts _ q72) hK hR hS hA rfl (by decide) dfX7 dX5_readTwo_30 (by show _ ≤ k; omega) (by show _ ≤ n; omega) (fun a_19 H hf hR hS => ?_)
        have hw := hw a_19 hf
        have hc : (cK + 1) + (k_7 - 1) ≤ k := by omega
        have hs : (nK + 2) + (n_8 - 2) ≤ n := by omega
        obtain ⟨S_20, eS_20⟩ : ∃ z, z = (sN S_6 a_19 8) := ⟨_, rfl⟩
        rw [← eS_20] at hR
        have hw := hw S_20 eS_20
        refine lv_dup hx hb dX5_readTwo_33 rfl ?_
        refine x_aload_n hx hb dX5_readTwo_34 rfl (lv_at hl 2 rfl) ?_
        refine x_aload_n hx hb dX5_readTwo_35 rfl (lv_at hl 0 rfl) ?_
        obtain ⟨b_21, e_22, hw⟩ := hw
        refine x_dr1 e_22 ?_
        obtain ⟨b_23, e_24, hw⟩ := hw
        refine x_dr0 e_24 ?_
        refine x_cv (va_runI (As := [.ref b_21, .ref b_23]) (rest := [.ref a_19]) ⟨hx, hb, hml, hown, hts⟩ (mt_X7_init l hw) (cwI 2 hts (lw_meth q463) rfl rfl rfl (hts _ q72) (hts _ q461) (hts _ q462) rfl hd_X7_init.2 ⟨by simp only [x_rm]; omega, by simp only [x_rm]; omega⟩) ⟨x_Pc_blind, x_Pc_pre hR hz hS hK⟩ rfl rfl hl.1 rfl (lv_room (Nat.le_of_ble_eq_true rfl)) dX5_readTwo_36 ⟨by show _ ≤ k; omega, by show _ ≤ n; omega⟩) hS (fun S_25 H locs hp hR hS => ?_)
        have hw := hp
        refine lv_goto (tgt := 51) hx hb dX5_readTwo_39 (by decide) ?_
        refine W.widen (k := k) (n := n) (by omega) (by omega) ?_
        exact x_rq (r := (some a_19)) hx hb hr (Or.inl ⟨_, rfl⟩) hlocks hR hS dX5_readTwo_51 hw
    · have hw := x_t hw c_10
      refine lv_null hx hb dX5_readTwo_22 ?_
      refine lv_goto (tgt := 51) hx hb dX5_readTwo_23 (by decide) ?_
      refine W.widen (k := k) (n := n) (by omega) (by omega) ?_
      exact x_rq (r := none) hx hb hr (Or.inl ⟨_, rfl⟩) hlocks hR hS dX5_readTwo_51 hw
  · refine x_ifnonnull (r := r_3) (tgt := 13) hx hb dX5_readTwo_6 (by decide) (fun c_26 => ?_) (fun c_26 => ?_)
    · have hw := x_f hw c_26
      refine lv_aload_n hx hb dX5_readTwo_13 rfl (lv_at hl 1 rfl) ?_
      obtain ⟨ha, hw⟩ := hw
      obtain ⟨k_27, n_28, h1, h2, hw⟩ := hw
      refine x_cq (va_runV (As := []) (rest := []) ⟨hx, hb, hml, hown, hts⟩ (hv hw) (cwV 0 hts (lw_V q447 q449 qs12 q70 q450) rfl rfl rfl hd_X5_readText ⟨by simp only [x_rm]; omega, by simp only [x_rm]; omega⟩) ⟨x_Pc_blind, hR.recv hK (ci := 5) rfl (by decide) ha, x_Pc_pre hR hz hS hK⟩ rfl rfl hl.1 rfl (lv_room (Nat.le_of_ble_eq_true rfl)) dX5_readTwo_14 ⟨by show _ ≤ k; omega, by show _ ≤ n; omega⟩) hS (fun r_29 S_30 H locs hp hR hS => ?_)
      have hw := hp
      have hc : ((0 + k_1) + k_27) + ((k - k_1) - k_27) ≤ k := by omega
      have hs : ((0 + n_2) + n_28) + ((n - n_2) - n_28) ≤ n := by omega
      exact hJ_9 r_29 S_30 ((k - k_1) - k_27) ((n - n_2) - n_28) hw ls _ _ _ _ hc hs hR hS (lv_sub hl [2, 0] rfl)
    · have hw := x_t hw c_26
      refine lv_null hx hb dX5_readTwo_9 ?_
      refine lv_goto (tgt := 17) hx hb dX5_readTwo_10 (by decide) ?_
      exact hJ_9 none S_4 (k - k_1) (n - n_2) hw ls _ _ _ _ hc hs hR hS (lv_sub hl [2, 0] rfl)
set_option maxHeartbeats 4000000 in
theorem mt_X5_readText_b (l : Launch) {F L : Nat} {rc : x_RT} (hv : x_VT l F L rc) {D : va_G} {d : Nat → ClassId} {base : Nat} {mc : va_W} {S : xH} {k n : Nat} {o : Nat} {Q : Option Nat → xH → Prop} (hw : w_X5_readText_b rc k n S o Q) : Met l yX5_readText (ws_ yX5_readText cX5_readText 3 (some (FieldType.object "PressedMen$Text"))) (x_rm (F + 10) k n (L + 180)) (x_Pc D d base mc S [.ref o]) (x_Qq D d base mc (fun r S' => Q r S')) k n (x_A base) := by
  refine x_met (by decide) (Nat.le_of_ble_eq_true rfl) ?_
  intro p e s m below meth c hx hb hml hr hlocks hown hts hz hR hK hin ls hl
  have hown : s.vm.findClass "PressedMen$Act" = some m.cls := hown
  have hl : lv_has ls 3 [(0, .ref o)] := hl
  have hS : va_S (x_A base) s.heap s.heap [] := va_S.rf
  have hA : ∀ q : Nat, s.heap.size ≤ q → x_A base q := fun q h => Nat.le_trans hz h
  have hc : 0 + k ≤ k := by omega
  have hs : 0 + n ≤ n := by omega
  unfold w_X5_readText_b at hw
  refine lv_aload_n hx hb dX5_readText_0 rfl (lv_at hl 0 rfl) ?_
  refine x_getI (ci := 5) (C := RX5) (T := TX5) (N := 6) (f := 303) hx hb hts in_X5 hown hK hR rfl 3 (by decide) (hts _ q414) (fun _ h => h) rfl (by decide) dX5_readText_1 hw.1 ?_
  have hw := hw.2
  refine lv_topi (fun x1_1 ex1_1 => ?_)
  have hw := hw x1_1 ex1_1
  refine lv_istore_n (lv' := [(1, .int x1_1), (0, .ref o)]) hx hb dX5_readText_4 rfl hl (by decide) rfl (fun ls hl => ?_)
  refine lv_aload_n hx hb dX5_readText_5 rfl (lv_at hl 1 rfl) ?_
  obtain ⟨ha, hw⟩ := hw
  refine x_ci (va_runV (As := []) (rest := []) ⟨hx, hb, hml, hown, hts⟩ (mt_X5_next l hw) (cwV 0 hts (lw_V q451 q453 qs13 q70 q454) rfl rfl rfl hd_X5_next ⟨by simp only [x_rm]; omega, by simp only [x_rm]; omega⟩) ⟨x_Pc_blind, hR.recv hK (ci := 5) rfl (by decide) ha, x_Pc_pre hR hz hS hK⟩ rfl rfl hl.1 rfl (lv_room (Nat.le_of_ble_eq_true rfl)) dX5_readText_6 ⟨by show _ ≤ k; omega, by show _ ≤ n; omega⟩) hS (fun r_2 S_3 H locs hp hR hS => ?_)
  have hw := hp
  rcases Classical.em (r_2 = 33) with c_40 | c_40
  · have hw := x_t hw c_40
    refine lv_lookup (off := 111) (tgt := 120) hx hb dX5_readText_9 (by decide) (by rw [c_40]; decide) (by decide) ?_
    refine lv_aload_n hx hb dX5_readText_120 rfl (lv_at hl 1 rfl) ?_
    obtain ⟨ha, hw⟩ := hw
    obtain ⟨k_5, n_6, h1, h2, hw⟩ := hw
    refine x_cq (va_runV (As := []) (rest := []) ⟨hx, hb, hml, hown, hts⟩ (hv hw) (cwV 0 hts (lw_V q447 q449 qs12 q70 q450) rfl rfl rfl hd_X5_readText ⟨by simp only [x_rm]; omega, by simp only [x_rm]; omega⟩) ⟨x_Pc_blind, hR.recv hK (ci := 5) rfl (by decide) ha, x_Pc_pre hR hz hS hK⟩ rfl rfl hl.1 rfl (lv_room (Nat.le_of_ble_eq_true rfl)) dX5_readText_121 ⟨by show _ ≤ k; omega, by show _ ≤ n; omega⟩) hS (fun r_7 S_8 H locs hp hR hS => ?_)
    have hw := hp
    have hc : (0 + k_5) + (k - k_5) ≤ k := by omega
    have hs : (0 + n_6) + (n - n_6) ≤ n := by omega
    refine x_astore_n (lv' := [(2, va_rf r_7), (1, .int x1_1), (0, .ref o)]) (r := r_7) hx hb dX5_readText_124 rfl hl (by decide) rfl (fun ls hl => ?_)
    refine x_aload_n hx hb dX5_readText_125 rfl (lv_at hl 0 rfl) ?_
    refine x_ifnonnull (r := r_7) (tgt := 133) hx hb dX5_readText_126 (by decide) (fun c_9 => ?_) (fun c_9 => ?_)
    · have hw := x_f hw c_9
      obtain ⟨h1, h2, hw⟩ := hw
      refine x_new (ci := 9) (C := RX9) (T := TX9) (N := 1) hx hb hts in_X9 tyX9 tyX9_ok hown (hts _ q484) (hts _ q485) (hts _ q74) hK hR hS hA rfl (by decide) dfX9 dX5_readText_133 (by show _ ≤ k; omega) (by show _ ≤ n; omega) (fun a_10 H hf hR hS => ?_)
      have hw := hw a_10 hf
      have hc : ((0 + k_5) + 1) + ((k - k_5) - 1) ≤ k := by omega
      have hs : ((0 + n_6) + 1) + ((n - n_6) - 1) ≤ n := by omega
      obtain ⟨S_11, eS_11⟩ : ∃ z, z = (sN S_8 a_10 10) := ⟨_, rfl⟩
      rw [← eS_11] at hR
      have hw := hw S_11 eS_11
      refine lv_dup hx hb dX5_readText_136 rfl ?_
      refine x_aload_n hx hb dX5_readText_137 rfl (lv_at hl 0 rfl) ?_
      obtain ⟨b_12, e_13, hw⟩ := hw
      refine x_dr0 e_13 ?_
      refine x_cv (va_runI (As := [.ref b_12]) (rest := [.ref a_10]) ⟨hx, hb, hml, hown, hts⟩ (mt_X9_init l hw) (cwI 1 hts (lw_meth q488) rfl rfl rfl (hts _ q74) (hts _ q486) (hts _ q487) rfl hd_X9_init.2 ⟨by simp only [x_rm]; omega, by simp only [x_rm]; omega⟩) ⟨x_Pc_blind, x_Pc_pre hR hz hS hK⟩ rfl rfl hl.1 rfl (lv_room (Nat.le_of_ble_eq_true rfl)) dX5_readText_138 ⟨by show _ ≤ k; omega, by show _ ≤ n; omega⟩) hS (fun S_14 H locs hp hR hS => ?_)
      have hw := hp
      refine W.widen (k := k) (n := n) (by omega) (by omega) ?_
      exact x_rq (r := (some a_10)) hx hb hr (Or.inl ⟨_, rfl⟩) hlocks hR hS dX5_readText_141 hw
    · have hw := x_t hw c_9
      refine lv_null hx hb dX5_readText_129 ?_
      refine lv_goto (tgt := 141) hx hb dX5_readText_130 (by decide) ?_
      refine W.widen (k := k) (n := n) (by omega) (by omega) ?_
      exact x_rq (r := none) hx hb hr (Or.inl ⟨_, rfl⟩) hlocks hR hS dX5_readText_141 hw
  · have hw := x_f hw c_40
    rcases Classical.em (r_2 = 38) with c_41 | c_41
    · have hw := x_t hw c_41
      refine lv_lookup (off := 99) (tgt := 108) hx hb dX5_readText_9 (by decide) (by rw [c_41]; decide) (by decide) ?_
      refine lv_aload_n hx hb dX5_readText_108 rfl (lv_at hl 1 rfl) ?_
      refine lv_iconst (v := 1) hx hb dX5_readText_109 (by decide) ?_
      obtain ⟨ha, hw⟩ := hw
      obtain ⟨k_15, n_16, h1, h2, hw⟩ := hw
      refine x_cq (va_runV (As := [.int 1]) (rest := []) ⟨hx, hb, hml, hown, hts⟩ (mt_X5_readTwo l hv hw) (cwV 1 hts (lw_V q455 q457 qs14 q70 q458) rfl rfl rfl hd_X5_readTwo ⟨by simp only [x_rm]; omega, by simp only [x_rm]; omega⟩) ⟨x_Pc_blind, hR.recv hK (ci := 5) rfl (by decide) ha, x_Pc_pre hR hz hS hK⟩ rfl rfl hl.1 rfl (lv_room (Nat.le_of_ble_eq_true rfl)) dX5_readText_110 ⟨by show _ ≤ k; omega, by show _ ≤ n; omega⟩) hS (fun r_17 S_18 H locs hp hR hS => ?_)
      have hw := hp
      have hc : (0 + k_15) + (k - k_15) ≤ k := by omega
      have hs : (0 + n_16) + (n - n_16) ≤ n := by omega
      refine W.widen (k := k) (n := n) (by omega) (by omega) ?_
      exact x_rq (r := r_17) hx hb hr (Or.inl ⟨_, rfl⟩) hlocks hR hS dX5_readText_113 hw
    · have hw := x_f hw c_41
      rcases Classical.em (r_2 = 65) with c_42 | c_42
      · have hw := x_t hw c_42
        refine lv_lookup (off := 141) (tgt := 150) hx hb dX5_readText_9 (by decide) (by rw [c_42]; decide) (by decide) ?_
        refine lv_aload_n hx hb dX5_readText_150 rfl (lv_at hl 1 rfl) ?_
        refine lv_iconst (v := 0) hx hb dX5_readText_151 (by decide) ?_
        refine lv_bipush (v := 65) hx hb dX5_readText_152 (by decide) ?_
        obtain ⟨ha, hw⟩ := hw
        obtain ⟨k_19, n_20, h1, h2, hw⟩ := hw
        refine x_cq (va_runV (As := [.int 0, .int 65]) (rest := []) ⟨hx, hb, hml, hown, hts⟩ (mt_X5_readNumber l hw) (cwV 2 hts (lw_V q494 q496 qs15 q70 q497) rfl rfl rfl hd_X5_readNumber ⟨by simp only [x_rm]; omega, by simp only [x_rm]; omega⟩) ⟨x_Pc_blind, hR.recv hK (ci := 5) rfl (by decide) ha, x_Pc_pre hR hz hS hK⟩ rfl rfl hl.1 rfl (lv_room (Nat.le_of_ble_eq_true rfl)) dX5_readText_154 ⟨by show _ ≤ k; omega, by show _ ≤ n; omega⟩) hS (fun r_21 S_22 H locs hp hR hS => ?_)
        have hw := hp
        have hc : (0 + k_19) + (k - k_19) ≤ k := by omega
        have hs : (0 + n_20) + (n - n_20) ≤ n := by omega
        refine W.widen (k := k) (n := n) (by omega) (by omega) ?_
        exact x_rq (r := r_21) hx hb hr (Or.inl ⟨_, rfl⟩) hlocks hR hS dX5_readText_157 hw
      · have hw := x_f hw c_42
        rcases Classical.em (r_2 = 89) with c_43 | c_43
        · have hw := x_t hw c_43
          refine lv_lookup (off := 157) (tgt := 166) hx hb dX5_readText_9 (by decide) (by rw [c_43]; decide) (by decide) ?_
          refine lv_aload_n hx hb dX5_readText_166 rfl (lv_at hl 1 rfl) ?_
          refine lv_iconst (v := 5) hx hb dX5_readText_167 (by decide) ?_
          refine lv_bipush (v := 65) hx hb dX5_readText_168 (by decide) ?_
          obtain ⟨ha, hw⟩ := hw
          obtain ⟨k_23, n_24, h1, h2, hw⟩ := hw
          refine x_cq (va_runV (As := [.int 5, .int 65]) (rest := []) ⟨hx, hb, hml, hown, hts⟩ (mt_X5_readNumber l hw) (cwV 2 hts (lw_V q494 q496 qs15 q70 q497) rfl rfl rfl hd_X5_readNumber ⟨by simp only [x_rm]; omega, by simp only [x_rm]; omega⟩) ⟨x_Pc_blind, hR.recv hK (ci := 5) rfl (by decide) ha, x_Pc_pre hR hz hS hK⟩ rfl rfl hl.1 rfl (lv_room (Nat.le_of_ble_eq_true rfl)) dX5_readText_170 ⟨by show _ ≤ k; omega, by show _ ≤ n; omega⟩) hS (fun r_25 S_26 H locs hp hR hS => ?_)
          have hw := hp
          have hc : (0 + k_23) + (k - k_23) ≤ k := by omega
          have hs : (0 + n_24) + (n - n_24) ≤ n := by omega
          refine W.widen (k := k) (n := n) (by omega) (by omega) ?_
          exact x_rq (r := r_25) hx hb hr (Or.inl ⟨_, rfl⟩) hlocks hR hS dX5_readText_173 hw
        · have hw := x_f hw c_43
          rcases Classical.em (r_2 = 97) with c_44 | c_44
          · have hw := x_t hw c_44
            refine lv_lookup (off := 133) (tgt := 142) hx hb dX5_readText_9 (by decide) (by rw [c_44]; decide) (by decide) ?_
            refine lv_aload_n hx hb dX5_readText_142 rfl (lv_at hl 1 rfl) ?_
            refine lv_iconst (v := 0) hx hb dX5_readText_143 (by decide) ?_
            refine lv_bipush (v := 97) hx hb dX5_readText_144 (by decide) ?_
            obtain ⟨ha, hw⟩ := hw
            obtain ⟨k_27, n_28, h1, h2, hw⟩ := hw
            refine x_cq (va_runV (As := [.int 0, .int 97]) (rest := []) ⟨hx, hb, hml, hown, hts⟩ (mt_X5_readNumber l hw) (cwV 2 hts (lw_V q494 q496 qs15 q70 q497) rfl rfl rfl hd_X5_readNumber ⟨by simp only [x_rm]; omega, by simp only [x_rm]; omega⟩) ⟨x_Pc_blind, hR.recv hK (ci := 5) rfl (by decide) ha, x_Pc_pre hR hz hS hK⟩ rfl rfl hl.1 rfl (lv_room (Nat.le_of_ble_eq_true rfl)) dX5_readText_146 ⟨by show _ ≤ k; omega, by show _ ≤ n; omega⟩) hS (fun r_29 S_30 H locs hp hR hS => ?_)
            have hw := hp
            have hc : (0 + k_27) + (k - k_27) ≤ k := by omega
            have hs : (0 + n_28) + (n - n_28) ≤ n := by omega
            refine W.widen (k := k) (n := n) (by omega) (by omega) ?_
            exact x_rq (r := r_29) hx hb hr (Or.inl ⟨_, rfl⟩) hlocks hR hS dX5_readText_149 hw
          · have hw := x_f hw c_44
            rcases Classical.em (r_2 = 104) with c_45 | c_45
            · have hw := x_t hw c_45
              refine lv_lookup (off := 189) (tgt := 198) hx hb dX5_readText_9 (by decide) (by rw [c_45]; decide) (by decide) ?_
              obtain ⟨h1, h2, hw⟩ := hw
              refine x_new (ci := 15) (C := RX15) (T := TX15) (N := 0) hx hb hts in_X15 tyX15 tyX15_ok hown (hts _ q552) (hts _ q553) (hts _ q80) hK hR hS hA rfl (by decide) dfX15 dX5_readText_198 (by show _ ≤ k; omega) (by show _ ≤ n; omega) (fun a_31 H hf hR hS => ?_)
              have hw := hw a_31 hf
              have hc : (0 + 1) + (k - 1) ≤ k := by omega
              have hs : (0 + 0) + (n - 0) ≤ n := by omega
              obtain ⟨S_32, eS_32⟩ : ∃ z, z = (sN S_3 a_31 16) := ⟨_, rfl⟩
              rw [← eS_32] at hR
              have hw := hw S_32 eS_32
              refine lv_dup hx hb dX5_readText_201 rfl ?_
              refine x_cv (va_runIN (As := []) (rest := [.ref a_31]) ⟨hx, hb, hml, hown, hts⟩ (mt_X15_init l hw) ⟨va_cnB 0 hts (lw_meth q556) rfl rfl rfl (hK.2 _ q554 rfl) (hts _ q80) hd_X15_init.2 ⟨by simp only [x_rm]; omega, by simp only [x_rm]; omega⟩, rfl, hts _ q555⟩ ⟨x_Pc_blind, x_Pc_pre hR hz hS hK⟩ rfl rfl hl.1 rfl (lv_room (Nat.le_of_ble_eq_true rfl)) dX5_readText_202 ⟨by show _ ≤ k; omega, by show _ ≤ n; omega⟩) hS (fun S_33 H locs hp hR hS => ?_)
              have hw := hp.2
              rw [hp.1] at hR
              refine W.widen (k := k) (n := n) (by omega) (by omega) ?_
              exact x_rq (r := (some a_31)) hx hb hr (Or.inl ⟨_, rfl⟩) hlocks hR hS dX5_readText_205 hw
            · have hw := x_f hw c_45
              rcases Classical.em (r_2 = 112) with c_46 | c_46
              · have hw := x_t hw c_46
                refine lv_lookup (off := 173) (tgt := 182) hx hb dX5_readText_9 (by decide) (by rw [c_46]; decide) (by decide) ?_
                obtain ⟨h1, h2, hw⟩ := hw
                refine x_new (ci := 13) (C := RX13) (T := TX13) (N := 0) hx hb hts in_X13 tyX13 tyX13_ok hown (hts _ q538) (hts _ q539) (hts _ q78) hK hR hS hA rfl (by decide) dfX13 dX5_readText_182 (by show _ ≤ k; omega) (by show _ ≤ n; omega) (fun a_34 H hf hR hS => ?_)
                have hw := hw a_34 hf
                have hc : (0 + 1) + (k - 1) ≤ k := by omega
                have hs : (0 + 0) + (n - 0) ≤ n := by omega
                obtain ⟨S_35, eS_35⟩ : ∃ z, z = (sN S_3 a_34 14) := ⟨_, rfl⟩
                rw [← eS_35] at hR
                have hw := hw S_35 eS_35
                refine lv_dup hx hb dX5_readText_185 rfl ?_
                refine x_cv (va_runIN (As := []) (rest := [.ref a_34]) ⟨hx, hb, hml, hown, hts⟩ (mt_X13_init l hw) ⟨va_cnB 0 hts (lw_meth q542) rfl rfl rfl (hK.2 _ q540 rfl) (hts _ q78) hd_X13_init.2 ⟨by simp only [x_rm]; omega, by simp only [x_rm]; omega⟩, rfl, hts _ q541⟩ ⟨x_Pc_blind, x_Pc_pre hR hz hS hK⟩ rfl rfl hl.1 rfl (lv_room (Nat.le_of_ble_eq_true rfl)) dX5_readText_186 ⟨by show _ ≤ k; omega, by show _ ≤ n; omega⟩) hS (fun S_36 H locs hp hR hS => ?_)
                have hw := hp.2
                rw [hp.1] at hR
                refine W.widen (k := k) (n := n) (by omega) (by omega) ?_
                exact x_rq (r := (some a_34)) hx hb hr (Or.inl ⟨_, rfl⟩) hlocks hR hS dX5_readText_189 hw
              · have hw := x_f hw c_46
                rcases Classical.em (r_2 = 115) with c_47 | c_47
                · have hw := x_t hw c_47
                  refine lv_lookup (off := 181) (tgt := 190) hx hb dX5_readText_9 (by decide) (by rw [c_47]; decide) (by decide) ?_
                  obtain ⟨h1, h2, hw⟩ := hw
                  refine x_new (ci := 14) (C := RX14) (T := TX14) (N := 0) hx hb hts in_X14 tyX14 tyX14_ok hown (hts _ q545) (hts _ q546) (hts _ q79) hK hR hS hA rfl (by decide) dfX14 dX5_readText_190 (by show _ ≤ k; omega) (by show _ ≤ n; omega) (fun a_37 H hf hR hS => ?_)
                  have hw := hw a_37 hf
                  have hc : (0 + 1) + (k - 1) ≤ k := by omega
                  have hs : (0 + 0) + (n - 0) ≤ n := by omega
                  obtain ⟨S_38, eS_38⟩ : ∃ z, z = (sN S_3 a_37 15) := ⟨_, rfl⟩
                  rw [← eS_38] at hR
                  have hw := hw S_38 eS_38
                  refine lv_dup hx hb dX5_readText_193 rfl ?_
                  refine x_cv (va_runIN (As := []) (rest := [.ref a_37]) ⟨hx, hb, hml, hown, hts⟩ (mt_X14_init l hw) ⟨va_cnB 0 hts (lw_meth q549) rfl rfl rfl (hK.2 _ q547 rfl) (hts _ q79) hd_X14_init.2 ⟨by simp only [x_rm]; omega, by simp only [x_rm]; omega⟩, rfl, hts _ q548⟩ ⟨x_Pc_blind, x_Pc_pre hR hz hS hK⟩ rfl rfl hl.1 rfl (lv_room (Nat.le_of_ble_eq_true rfl)) dX5_readText_194 ⟨by show _ ≤ k; omega, by show _ ≤ n; omega⟩) hS (fun S_39 H locs hp hR hS => ?_)
                  have hw := hp.2
                  rw [hp.1] at hR
                  refine W.widen (k := k) (n := n) (by omega) (by omega) ?_
                  exact x_rq (r := (some a_37)) hx hb hr (Or.inl ⟨_, rfl⟩) hlocks hR hS dX5_readText_197 hw
                · have hw := x_f hw c_47
                  rcases Classical.em (r_2 = 116) with c_48 | c_48
                  · have hw := x_t hw c_48
                    refine lv_lookup (off := 165) (tgt := 174) hx hb dX5_readText_9 (by decide) (by rw [c_48]; decide) (by decide) ?_
                    refine lv_aload_n hx hb dX5_readText_174 rfl (lv_at hl 1 rfl) ?_
                    refine lv_iconst (v := 4) hx hb dX5_readText_175 (by decide) ?_
                    refine lv_bipush (v := 116) hx hb dX5_readText_176 (by decide) ?_
                    obtain ⟨ha, hw⟩ := hw
                    obtain ⟨k_40, n_41, h1, h2, hw⟩ := hw
                    refine x_cq (va_runV (As := [.int 4, .int 116]) (rest := []) ⟨hx, hb, hml, hown, hts⟩ (mt_X5_readNumber l hw) (cwV 2 hts (lw_V q494 q496 qs15 q70 q497) rfl rfl rfl hd_X5_readNumber ⟨by simp only [x_rm]; omega, by simp only [x_rm]; omega⟩) ⟨x_Pc_blind, hR.recv hK (ci := 5) rfl (by decide) ha, x_Pc_pre hR hz hS hK⟩ rfl rfl hl.1 rfl (lv_room (Nat.le_of_ble_eq_true rfl)) dX5_readText_178 ⟨by show _ ≤ k; omega, by show _ ≤ n; omega⟩) hS (fun r_42 S_43 H locs hp hR hS => ?_)
                    have hw := hp
                    have hc : (0 + k_40) + (k - k_40) ≤ k := by omega
                    have hs : (0 + n_41) + (n - n_41) ≤ n := by omega
                    refine W.widen (k := k) (n := n) (by omega) (by omega) ?_
                    exact x_rq (r := r_42) hx hb hr (Or.inl ⟨_, rfl⟩) hlocks hR hS dX5_readText_181 hw
                  · have hw := x_f hw c_48
                    rcases Classical.em (r_2 = 121) with c_49 | c_49
                    · have hw := x_t hw c_49
                      refine lv_lookup (off := 149) (tgt := 158) hx hb dX5_readText_9 (by decide) (by rw [c_49]; decide) (by decide) ?_
                      refine lv_aload_n hx hb dX5_readText_158 rfl (lv_at hl 1 rfl) ?_
                      refine lv_iconst (v := 5) hx hb dX5_readText_159 (by decide) ?_
                      refine lv_bipush (v := 97) hx hb dX5_readText_160 (by decide) ?_
                      obtain ⟨ha, hw⟩ := hw
                      obtain ⟨k_44, n_45, h1, h2, hw⟩ := hw
                      refine x_cq (va_runV (As := [.int 5, .int 97]) (rest := []) ⟨hx, hb, hml, hown, hts⟩ (mt_X5_readNumber l hw) (cwV 2 hts (lw_V q494 q496 qs15 q70 q497) rfl rfl rfl hd_X5_readNumber ⟨by simp only [x_rm]; omega, by simp only [x_rm]; omega⟩) ⟨x_Pc_blind, hR.recv hK (ci := 5) rfl (by decide) ha, x_Pc_pre hR hz hS hK⟩ rfl rfl hl.1 rfl (lv_room (Nat.le_of_ble_eq_true rfl)) dX5_readText_162 ⟨by show _ ≤ k; omega, by show _ ≤ n; omega⟩) hS (fun r_46 S_47 H locs hp hR hS => ?_)
                      have hw := hp
                      have hc : (0 + k_44) + (k - k_44) ≤ k := by omega
                      have hs : (0 + n_45) + (n - n_45) ≤ n := by omega
                      refine W.widen (k := k) (n := n) (by omega) (by omega) ?_
                      exact x_rq (r := r_46) hx hb hr (Or.inl ⟨_, rfl⟩) hlocks hR hS dX5_readText_165 hw
                    · have hw := x_f hw c_49
                      rcases Classical.em (r_2 = 124) with c_410 | c_410
                      · have hw := x_t hw c_410
                        refine lv_lookup (off := 105) (tgt := 114) hx hb dX5_readText_9 (by decide) (by rw [c_410]; decide) (by decide) ?_
                        refine lv_aload_n hx hb dX5_readText_114 rfl (lv_at hl 1 rfl) ?_
                        refine lv_iconst (v := 0) hx hb dX5_readText_115 (by decide) ?_
                        obtain ⟨ha, hw⟩ := hw
                        obtain ⟨k_48, n_49, h1, h2, hw⟩ := hw
                        refine x_cq (va_runV (As := [.int 0]) (rest := []) ⟨hx, hb, hml, hown, hts⟩ (mt_X5_readTwo l hv hw) (cwV 1 hts (lw_V q455 q457 qs14 q70 q458) rfl rfl rfl hd_X5_readTwo ⟨by simp only [x_rm]; omega, by simp only [x_rm]; omega⟩) ⟨x_Pc_blind, hR.recv hK (ci := 5) rfl (by decide) ha, x_Pc_pre hR hz hS hK⟩ rfl rfl hl.1 rfl (lv_room (Nat.le_of_ble_eq_true rfl)) dX5_readText_116 ⟨by show _ ≤ k; omega, by show _ ≤ n; omega⟩) hS (fun r_50 S_51 H locs hp hR hS => ?_)
                        have hw := hp
                        have hc : (0 + k_48) + (k - k_48) ≤ k := by omega
                        have hs : (0 + n_49) + (n - n_49) ≤ n := by omega
                        refine W.widen (k := k) (n := n) (by omega) (by omega) ?_
                        exact x_rq (r := r_50) hx hb hr (Or.inl ⟨_, rfl⟩) hlocks hR hS dX5_readText_119 hw
                      · have hw := x_f hw c_410
                        refine lv_lookup (off := 197) (tgt := 206) hx hb dX5_readText_9 (by decide) (by rw [lv_osw c_40 (by decide)]; rw [lv_osw c_41 (by decide)]; rw [lv_osw c_42 (by decide)]; rw [lv_osw c_43 (by decide)]; rw [lv_osw c_44 (by decide)]; rw [lv_osw c_45 (by decide)]; rw [lv_osw c_46 (by decide)]; rw [lv_osw c_47 (by decide)]; rw [lv_osw c_48 (by decide)]; rw [lv_osw c_49 (by decide)]; rw [lv_osw c_410 (by decide)]; rfl) (by decide) ?_
                        refine lv_aload_n hx hb dX5_readText_206 rfl (lv_at hl 1 rfl) ?_
                        refine lv_iload_n hx hb dX5_readText_207 rfl (lv_at hl 0 rfl) ?_
                        refine x_putI (ci := 5) (C := RX5) (T := TX5) (N := 6) (f := 303) hx hb hts in_X5 tyX5 tyX5_ok nmX5 hown hK hR hS rfl 3 (by decide) (hts _ q414) (fun _ h => h) rfl rfl (by decide) rfl rfl dX5_readText_208 hw.1 (fun H locs hR hS => ?_)
                        have hw := hw.2
                        obtain ⟨S_52, eS_52⟩ : ∃ z, z = (sI S_3 303 o x1_1) := ⟨_, rfl⟩
                        rw [← eS_52] at hR
                        have hw := hw S_52 eS_52
                        refine lv_aload_n hx hb dX5_readText_211 rfl (lv_at hl 1 rfl) ?_
                        obtain ⟨ha, hw⟩ := hw
                        refine x_cq (va_runV (As := []) (rest := []) ⟨hx, hb, hml, hown, hts⟩ (mt_X5_fail l hw) (cwV 0 hts (lw_V q503 q505 qs17 q70 q506) rfl rfl rfl hd_X5_fail ⟨by simp only [x_rm]; omega, by simp only [x_rm]; omega⟩) ⟨x_Pc_blind, hR.recv hK (ci := 5) rfl (by decide) ha, x_Pc_pre hR hz hS hK⟩ rfl rfl hl.1 rfl (lv_room (Nat.le_of_ble_eq_true rfl)) dX5_readText_212 ⟨by show _ ≤ k; omega, by show _ ≤ n; omega⟩) hS (fun r_53 S_54 H locs hp hR hS => ?_)
                        have hw := hp
                        refine W.widen (k := k) (n := n) (by omega) (by omega) ?_
                        exact x_rq (r := r_53) hx hb hr (Or.inl ⟨_, rfl⟩) hlocks hR hS dX5_readText_215 hw
theorem vt_all (l : Launch) : ∀ d : Nat, x_VT l (10 * d + 8) (180 * d + 200) (w_X5_readText d) := by
  intro d
  induction d with
  | zero =>
    intro D d base mc S k n o Q hw
    exact hw.elim
  | succ d ih =>
    intro D dd base mc S k n o Q hw
    exact mt_X5_readText_b l ih hw
theorem mt_X5_readText (l : Launch) (dp : Nat) {D : va_G} {d : Nat → ClassId} {base : Nat} {mc : va_W} {S : xH} {k n : Nat} {o : Nat} {Q : Option Nat → xH → Prop} (hw : w_X5_readText dp k n S o Q) : Met l yX5_readText (ws_ yX5_readText cX5_readText 3 (some (FieldType.object "PressedMen$Text"))) (x_rm (10 * dp + 8) k n (180 * dp + 200)) (x_Pc D d base mc S [.ref o]) (x_Qq D d base mc (fun r S' => Q r S')) k n (x_A base) := vt_all l dp hw
def x_VL (l : Launch) (F L : Nat) (rc : x_LT) : Prop := ∀ {D : va_G} {d : Nat → ClassId} {base : Nat} {mc : va_W} {S : xH} {o : Nat} {x1 : Int32} {Q : xH → Prop}, rc S o x1 Q → Met l yX17_lay (ws_ yX17_lay cX17_lay 3 none) (x_rm F 0 0 L) (x_Pc D d base mc S [.ref o, .int x1]) (x_Qv D d base mc (fun S' => Q S')) 0 0 (x_A base)
theorem hd_X17_lay : yX17_lay.cls = "PressedMen$Laying" ∧ yX17_lay.cls ≠ "java/lang/invoke/MethodHandle" ∧ yX17_lay.cls ≠ "java/lang/invoke/VarHandle" ∧ (parseMethodDescriptor yX17_lay.desc).map (fun d => d.parameters.length) = some 1 := by decide +kernel
set_option maxHeartbeats 4000000 in
theorem mt_X17_lay_b (l : Launch) {F L : Nat} {rc : x_LT} (hv : x_VL l F L rc) {D : va_G} {d : Nat → ClassId} {base : Nat} {mc : va_W} {S : xH} {o : Nat} {x1 : Int32} {Q : xH → Prop} (hw : w_X17_lay_b rc S o x1 Q) : Met l yX17_lay (ws_ yX17_lay cX17_lay 3 none) (x_rm (F + 2) 0 0 (L + 100)) (x_Pc D d base mc S [.ref o, .int x1]) (x_Qv D d base mc (fun S' => Q S')) 0 0 (x_A base) := by
  refine x_met (by decide) (Nat.le_of_ble_eq_true rfl) ?_
  intro p e s m below meth c hx hb hml hr hlocks hown hts hz hR hK hin ls hl
  have hown : s.vm.findClass "PressedMen$Laying" = some m.cls := hown
  have hl : lv_has ls 3 [(0, .ref o), (1, .int x1)] := hl
  have hS : va_S (x_A base) s.heap s.heap [] := va_S.rf
  unfold w_X17_lay_b at hw
  refine lv_iload_n hx hb dX17_lay_0 rfl (lv_at hl 1 rfl) ?_
  refine lv_aload_n hx hb dX17_lay_1 rfl (lv_at hl 0 rfl) ?_
  refine x_getR (ci := 17) (C := RX17) (T := TX17) (N := 10) (f := 904) hx hb hts in_X17 hown hK hR rfl 4 (by decide) (hts _ q756) (fun _ h => h) rfl (by decide) dX17_lay_2 hw.1 ?_
  have hw := hw.2
  obtain ⟨b_1, e_2, hw⟩ := hw
  refine x_dr0 e_2 ?_
  refine x_alen hx hb hK hR dX17_lay_5 hw.1 ?_
  have hw := hw.2
  refine lv_icmp_ne (tgt := 14) hx hb dX17_lay_6 (by decide) (fun c_3 => ?_) (fun c_3 => ?_)
  · have hw := x_f hw c_3
    refine lv_iconst (v := 0) hx hb dX17_lay_14 (by decide) ?_
    refine lv_istore_n (lv' := [(2, .int 0), (0, .ref o), (1, .int x1)]) hx hb dX17_lay_15 rfl hl (by decide) rfl (fun ls hl => ?_)
    refine x_lf2 (G := fun (x2_4 : Int32) (S_5 : xH) => ∀ (ls : Array Slot) (H : Heap) (locs : List Loc), x_Rp D d (x_A base) mc S_5 H → va_S (x_A base) s.heap H locs → lv_has ls 3 [(0, .ref o), (1, .int x1), (2, .int x2_4)] → W p l e (x_rm (F + 2) 0 0 (L + 100)) s m ([.ref o, .int x1] : List Value).toArray below meth c H locs 0 0 (MQ below (x_Qv D d base mc (fun S' => Q S')) ([.ref o, .int x1] : List Value).toArray s 0 0 (x_A base)) (F0 m 16 ls [])) hw (fun x2_4 S_5 hw => ?_) ls _ _ hR hS (lv_sub hl [1, 2, 0] rfl)
    intro ls H locs hR hS hl
    refine lv_iload_n hx hb dX17_lay_16 rfl (lv_at hl 2 rfl) ?_
    refine lv_aload_n hx hb dX17_lay_17 rfl (lv_at hl 0 rfl) ?_
    refine x_getR (ci := 17) (C := RX17) (T := TX17) (N := 10) (f := 909) hx hb hts in_X17 hown hK hR rfl 9 (by decide) (hts _ q763) (fun _ h => h) rfl (by decide) dX17_lay_18 hw.1 ?_
    have hw := hw.2
    obtain ⟨b_7, e_8, hw⟩ := hw
    refine x_dr0 e_8 ?_
    refine x_getNI (ci := 0) (C := RX0) (T := TX0) (N := 19) (f := 50) hx hb hts in_X0 hown hK hR rfl 0 (by decide) (hK.2 _ q109 rfl) (fun _ h => h) rfl (by decide) dX17_lay_21 hw.1 ?_
    have hw := hw.2
    refine lv_icmp_ge (tgt := 67) hx hb dX17_lay_24 (by decide) (fun c_9 => ?_) (fun c_9 => ?_)
    · have hw := x_t hw c_9
      exact x_rv hx hb hr hlocks hR hS dX17_lay_67 hw
    · have hw := x_f hw c_9
      refine lv_aload_n hx hb dX17_lay_27 rfl (lv_at hl 0 rfl) ?_
      refine x_getI (ci := 17) (C := RX17) (T := TX17) (N := 10) (f := 906) hx hb hts in_X17 hown hK hR rfl 6 (by decide) (hts _ q759) (fun _ h => h) rfl (by decide) dX17_lay_28 hw.1 ?_
      have hw := hw.2
      refine lv_aload_n hx hb dX17_lay_31 rfl (lv_at hl 0 rfl) ?_
      refine x_getI (ci := 17) (C := RX17) (T := TX17) (N := 10) (f := 907) hx hb hts in_X17 hown hK hR rfl 7 (by decide) (hts _ q761) (fun _ h => h) rfl (by decide) dX17_lay_32 hw.1 ?_
      have hw := hw.2
      refine lv_icmp_ge (tgt := 67) hx hb dX17_lay_35 (by decide) (fun c_10 => ?_) (fun c_10 => ?_)
      · have hw := x_t hw c_10
        exact x_rv hx hb hr hlocks hR hS dX17_lay_67 hw
      · have hw := x_f hw c_10
        refine lv_aload_n hx hb dX17_lay_38 rfl (lv_at hl 0 rfl) ?_
        refine lv_iload_n hx hb dX17_lay_39 rfl (lv_at hl 1 rfl) ?_
        refine lv_iload_n hx hb dX17_lay_40 rfl (lv_at hl 2 rfl) ?_
        obtain ⟨ha, hw⟩ := hw
        refine x_ci (va_runV (As := [.int x1, .int x2_4]) (rest := []) ⟨hx, hb, hml, hown, hts⟩ (mt_X17_mayFollow l hw) (cwV 2 hts (lw_V q748 q750 qs27 q82 q751) rfl rfl rfl hd_X17_mayFollow ⟨by simp only [x_rm]; omega, by simp only [x_rm]; omega⟩) ⟨x_Pc_blind, hR.recv hK (ci := 17) rfl (by decide) ha, x_Pc_pre hR hz hS hK⟩ rfl rfl hl.1 rfl (lv_room (Nat.le_of_ble_eq_true rfl)) dX17_lay_41 ⟨Nat.le_refl _, Nat.le_refl _⟩) hS (fun r_11 S_12 H locs hp hR hS => ?_)
        have hw := hp.2
        rw [hp.1] at hR
        refine x_jn (G := fun (S_13 : xH) => ∀ (ls : Array Slot) (H : Heap) (locs : List Loc), x_Rp D d (x_A base) mc S_13 H → va_S (x_A base) s.heap H locs → lv_has ls 3 [(0, .ref o), (1, .int x1), (2, .int x2_4)] → W p l e (x_rm (F + 2) 0 0 (L + 100)) s m ([.ref o, .int x1] : List Value).toArray below meth c H locs 0 0 (MQ below (x_Qv D d base mc (fun S' => Q S')) ([.ref o, .int x1] : List Value).toArray s 0 0 (x_A base)) (F0 m 61 ls [])) hw (fun S_13 hw => ?_) (fun hJ_14 hw => ?_)
        · intro ls H locs hR hS hl
          refine lv_iinc (v := (x2_4 + 1)) (lv' := [(2, .int (x2_4 + 1)), (0, .ref o), (1, .int x1)]) hx hb dX17_lay_61 hl (k := 2) rfl rfl (by decide) rfl (fun ls hl => ?_)
          refine lv_goto (tgt := 16) hx hb dX17_lay_64 (by decide) ?_
          exact hw ls _ _ hR hS (lv_sub hl [1, 2, 0] rfl)
        · refine lv_if_eq (tgt := 61) hx hb dX17_lay_44 (by decide) (fun c_15 => ?_) (fun c_15 => ?_)
          · have hw := x_t hw c_15
            exact hJ_14 S_5 hw ls _ _ hR hS (lv_sub hl [0, 1, 2] rfl)
          · have hw := x_f hw c_15
            refine lv_aload_n hx hb dX17_lay_47 rfl (lv_at hl 0 rfl) ?_
            refine x_getR (ci := 17) (C := RX17) (T := TX17) (N := 10) (f := 904) hx hb hts in_X17 hown hK hR rfl 4 (by decide) (hts _ q756) (fun _ h => h) rfl (by decide) dX17_lay_48 hw.1 ?_
            have hw := hw.2
            refine lv_iload_n hx hb dX17_lay_51 rfl (lv_at hl 1 rfl) ?_
            refine lv_iload_n hx hb dX17_lay_52 rfl (lv_at hl 2 rfl) ?_
            obtain ⟨b_16, e_17, hw⟩ := hw
            refine x_dr2 e_17 ?_
            refine x_iast hx hb hK hR hS dX17_lay_53 hw.1 hw.2.1 (fun H locs hR hS => ?_)
            have hw := hw.2.2
            obtain ⟨S_18, eS_18⟩ : ∃ z, z = (sA S_5 b_16 (Int32.toNatClampNeg x1) x2_4) := ⟨_, rfl⟩
            rw [← eS_18] at hR
            have hw := hw S_18 eS_18
            refine lv_aload_n hx hb dX17_lay_54 rfl (lv_at hl 0 rfl) ?_
            refine lv_iload_n hx hb dX17_lay_55 rfl (lv_at hl 1 rfl) ?_
            refine lv_iconst (v := 1) hx hb dX17_lay_56 (by decide) ?_
            refine lv_iadd hx hb dX17_lay_57 ?_
            obtain ⟨ha, hw⟩ := hw
            refine x_cv (va_runV (As := [.int (x1 + 1)]) (rest := []) ⟨hx, hb, hml, hown, hts⟩ (hv hw) (cwV 1 hts (lw_V q733 q735 qs24 q82 q736) rfl rfl rfl hd_X17_lay ⟨by simp only [x_rm]; omega, by simp only [x_rm]; omega⟩) ⟨x_Pc_blind, hR.recv hK (ci := 17) rfl (by decide) ha, x_Pc_pre hR hz hS hK⟩ rfl rfl hl.1 rfl (lv_room (Nat.le_of_ble_eq_true rfl)) dX17_lay_58 ⟨Nat.le_refl _, Nat.le_refl _⟩) hS (fun S_19 H locs hp hR hS => ?_)
            have hw := hp
            exact hJ_14 S_19 hw ls _ _ hR hS (lv_sub hl [0, 1, 2] rfl)
  · have hw := x_t hw c_3
    refine lv_aload_n hx hb dX17_lay_9 rfl (lv_at hl 0 rfl) ?_
    obtain ⟨ha, hw⟩ := hw
    refine x_cv (va_runV (As := []) (rest := []) ⟨hx, hb, hml, hown, hts⟩ (mt_X17_judge l hw) (cwV 0 hts (lw_V q737 q739 qs25 q82 q740) rfl rfl rfl hd_X17_judge ⟨by simp only [x_rm]; omega, by simp only [x_rm]; omega⟩) ⟨x_Pc_blind, hR.recv hK (ci := 17) rfl (by decide) ha, x_Pc_pre hR hz hS hK⟩ rfl rfl hl.1 rfl (lv_room (Nat.le_of_ble_eq_true rfl)) dX17_lay_10 ⟨Nat.le_refl _, Nat.le_refl _⟩) hS (fun S_20 H locs hp hR hS => ?_)
    have hw := hp
    exact x_rv hx hb hr hlocks hR hS dX17_lay_13 hw
theorem vl_all (l : Launch) : ∀ d : Nat, x_VL l (2 * d + 3) (100 * d + 120) (w_X17_lay d) := by
  intro d
  induction d with
  | zero =>
    intro D d base mc S o x1 Q hw
    exact hw.elim
  | succ d ih =>
    intro D dd base mc S o x1 Q hw
    exact mt_X17_lay_b l ih hw
theorem mt_X17_lay (l : Launch) (dp : Nat) {D : va_G} {d : Nat → ClassId} {base : Nat} {mc : va_W} {S : xH} {o : Nat} {x1 : Int32} {Q : xH → Prop} (hw : w_X17_lay dp S o x1 Q) : Met l yX17_lay (ws_ yX17_lay cX17_lay 3 none) (x_rm (2 * dp + 3) 0 0 (100 * dp + 120)) (x_Pc D d base mc S [.ref o, .int x1]) (x_Qv D d base mc (fun S' => Q S')) 0 0 (x_A base) := vl_all l dp hw
