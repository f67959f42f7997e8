set_option maxRecDepth 100000
theorem hd_X5_read : yX5_read.cls = "PressedMen$Act" ∧ yX5_read.cls ≠ "java/lang/invoke/MethodHandle" ∧ yX5_read.cls ≠ "java/lang/invoke/VarHandle" ∧ (parseMethodDescriptor yX5_read.desc).map (fun d => d.parameters.length) = some 0 := by decide +kernel
set_option maxHeartbeats 4000000 in
theorem mt_X5_read (l : Launch) {D : va_G} {d : Nat → ClassId} {base : Nat} {mc : va_W} {S : xH} {k n : Nat} {o : Nat} {Q : Option Nat → xH → Prop} (hw : w_X5_read k n S o Q) : Met l yX5_read (ws_ yX5_read cX5_read 2 (some (FieldType.object "PressedMen$Text"))) (x_rm 649 k n 11742) (x_Pc D d base mc S [.ref o]) (x_Qq D d base mc (fun r S' => Q r S')) k n (x_A base) := by
  refine x_met (by decide) (Nat.le_of_ble_eq_true rfl) ?_
  intro p e s m below meth c hx hb hml hr hlocks hown hts hz hR hK hin ls hl
  have hown : s.vm.findClass "PressedMen$Act" = some m.cls := hown
  have hl : lv_has ls 2 [(0, .ref o)] := hl
  have hS : va_S (x_A base) s.heap s.heap [] := va_S.rf
  have hA : ∀ q : Nat, s.heap.size ≤ q → x_A base q := fun q h => Nat.le_trans hz h
  have hc : 0 + k ≤ k := by omega
  have hs : 0 + n ≤ n := by omega
  unfold w_X5_read at hw
  refine lv_aload_n hx hb dX5_read_0 rfl (lv_at hl 0 rfl) ?_
  refine lv_iconst (v := 0) hx hb dX5_read_1 (by decide) ?_
  refine x_putI (ci := 5) (C := RX5) (T := TX5) (N := 6) (f := 303) hx hb hts in_X5 tyX5 tyX5_ok nmX5 hown hK hR hS rfl 3 (by decide) (hts _ q414) (fun _ h => h) rfl rfl (by decide) rfl rfl dX5_read_2 hw.1 (fun H locs hR hS => ?_)
  have hw := hw.2
  obtain ⟨S_1, eS_1⟩ : ∃ z, z = (sI S 303 o 0) := ⟨_, rfl⟩
  rw [← eS_1] at hR
  have hw := hw S_1 eS_1
  refine lv_aload_n hx hb dX5_read_5 rfl (lv_at hl 0 rfl) ?_
  refine lv_bipush (v := (-9)) hx hb dX5_read_6 (by decide) ?_
  refine x_putI (ci := 5) (C := RX5) (T := TX5) (N := 6) (f := 304) hx hb hts in_X5 tyX5 tyX5_ok nmX5 hown hK hR hS rfl 4 (by decide) (hts _ q415) (fun _ h => h) rfl rfl (by decide) rfl rfl dX5_read_8 hw.1 (fun H locs hR hS => ?_)
  have hw := hw.2
  obtain ⟨S_2, eS_2⟩ : ∃ z, z = (sI S_1 304 o (-9)) := ⟨_, rfl⟩
  rw [← eS_2] at hR
  have hw := hw S_2 eS_2
  refine lv_aload_n hx hb dX5_read_11 rfl (lv_at hl 0 rfl) ?_
  obtain ⟨ha, hw⟩ := hw
  obtain ⟨k_3, n_4, h1, h2, hw⟩ := hw
  refine x_cq (va_runV (As := []) (rest := []) ⟨hx, hb, hml, hown, hts⟩ (mt_X5_readText l 64 hw) (cwV 0 hts (lw_V q447 q449 qs12 q70 q450) rfl rfl rfl hd_X5_readText ⟨Nat.le_of_ble_eq_true rfl, Nat.le_of_ble_eq_true rfl⟩) ⟨x_Pc_blind, hR.recv hK (ci := 5) rfl (by decide) ha, x_Pc_pre hR hz hS hK⟩ rfl rfl hl.1 rfl (lv_room (Nat.le_of_ble_eq_true rfl)) dX5_read_12 ⟨by show _ ≤ k; omega, by show _ ≤ n; omega⟩) hS (fun r_5 S_6 H locs hp hR hS => ?_)
  have hw := hp
  have hc : (0 + k_3) + (k - k_3) ≤ k := by omega
  have hs : (0 + n_4) + (n - n_4) ≤ n := by omega
  refine x_astore_n (lv' := [(1, va_rf r_5), (0, .ref o)]) (r := r_5) hx hb dX5_read_15 rfl hl (by decide) rfl (fun ls hl => ?_)
  refine x_aload_n hx hb dX5_read_16 rfl (lv_at hl 0 rfl) ?_
  refine x_ifnull (r := r_5) (tgt := 41) hx hb dX5_read_17 (by decide) (fun c_7 => ?_) (fun c_7 => ?_)
  · have hw := x_t hw c_7
    refine x_aload_n hx hb dX5_read_41 rfl (lv_at hl 0 rfl) ?_
    refine W.widen (k := k) (n := n) (by omega) (by omega) ?_
    exact x_rq (r := r_5) hx hb hr (Or.inl ⟨_, rfl⟩) hlocks hR hS dX5_read_42 hw
  · have hw := x_f hw c_7
    refine lv_aload_n hx hb dX5_read_20 rfl (lv_at hl 1 rfl) ?_
    refine x_getI (ci := 5) (C := RX5) (T := TX5) (N := 6) (f := 303) hx hb hts in_X5 hown hK hR rfl 3 (by decide) (hts _ q414) (fun _ h => h) rfl (by decide) dX5_read_21 hw.1 ?_
    have hw := hw.2
    refine lv_aload_n hx hb dX5_read_24 rfl (lv_at hl 1 rfl) ?_
    refine x_getI (ci := 5) (C := RX5) (T := TX5) (N := 6) (f := 302) hx hb hts in_X5 hown hK hR rfl 2 (by decide) (hts _ q412) (fun _ h => h) rfl (by decide) dX5_read_25 hw.1 ?_
    have hw := hw.2
    refine lv_icmp_ge (tgt := 41) hx hb dX5_read_28 (by decide) (fun c_8 => ?_) (fun c_8 => ?_)
    · have hw := x_t hw c_8
      refine x_aload_n hx hb dX5_read_41 rfl (lv_at hl 0 rfl) ?_
      refine W.widen (k := k) (n := n) (by omega) (by omega) ?_
      exact x_rq (r := r_5) hx hb hr (Or.inl ⟨_, rfl⟩) hlocks hR hS dX5_read_42 hw
    · have hw := x_f hw c_8
      refine lv_aload_n hx hb dX5_read_31 rfl (lv_at hl 1 rfl) ?_
      refine lv_aload_n hx hb dX5_read_32 rfl (lv_at hl 1 rfl) ?_
      refine x_getI (ci := 5) (C := RX5) (T := TX5) (N := 6) (f := 303) hx hb hts in_X5 hown hK hR rfl 3 (by decide) (hts _ q414) (fun _ h => h) rfl (by decide) dX5_read_33 hw.1 ?_
      have hw := hw.2
      refine x_putI (ci := 5) (C := RX5) (T := TX5) (N := 6) (f := 304) hx hb hts in_X5 tyX5 tyX5_ok nmX5 hown hK hR hS rfl 4 (by decide) (hts _ q415) (fun _ h => h) rfl rfl (by decide) rfl rfl dX5_read_36 hw.1 (fun H locs hR hS => ?_)
      have hw := hw.2
      obtain ⟨S_9, eS_9⟩ : ∃ z, z = (sI S_6 304 o (xI S_6 303 o)) := ⟨_, rfl⟩
      rw [← eS_9] at hR
      have hw := hw S_9 eS_9
      refine lv_null hx hb dX5_read_39 ?_
      refine x_astore_n (lv' := [(1, va_rf none), (0, .ref o)]) (r := none) hx hb dX5_read_40 rfl hl (by decide) rfl (fun ls hl => ?_)
      refine x_aload_n hx hb dX5_read_41 rfl (lv_at hl 0 rfl) ?_
      refine W.widen (k := k) (n := n) (by omega) (by omega) ?_
      exact x_rq (r := none) hx hb hr (Or.inl ⟨_, rfl⟩) hlocks hR hS dX5_read_42 hw
theorem hd_X0_fault : yX0_fault.cls = "PressedMen" ∧ yX0_fault.cls ≠ "java/lang/invoke/MethodHandle" ∧ yX0_fault.cls ≠ "java/lang/invoke/VarHandle" ∧ (parseMethodDescriptor yX0_fault.desc).map (fun d => d.parameters.length) = some 1 := by decide +kernel
set_option maxHeartbeats 4000000 in
theorem mt_X0_fault (l : Launch) {D : va_G} {d : Nat → ClassId} {base : Nat} {mc : va_W} {S : xH} {k n : Nat} {o : Nat} {x1 : Int32} {Q : Int32 → xH → Prop} (hw : w_X0_fault k n S o x1 Q) : Met l yX0_fault (ws_ yX0_fault cX0_fault 3 (some FieldType.int)) (x_rm 650 k n 11763) (x_Pc D d base mc S [.ref o, .int x1]) (x_Qi D d base mc (fun r S' => Q r S')) k n (x_A base) := by
  refine x_met (by decide) (Nat.le_of_ble_eq_true rfl) ?_
  intro p e s m below meth c hx hb hml hr hlocks hown hts hz hR hK hin ls hl
  have hown : s.vm.findClass "PressedMen" = some m.cls := hown
  have hl : lv_has ls 3 [(0, .ref o), (1, .int x1)] := hl
  have hS : va_S (x_A base) s.heap s.heap [] := va_S.rf
  have hA : ∀ q : Nat, s.heap.size ≤ q → x_A base q := fun q h => Nat.le_trans hz h
  have hc : 0 + k ≤ k := by omega
  have hs : 0 + n ≤ n := by omega
  unfold w_X0_fault at hw
  refine lv_aload_n hx hb dX0_fault_0 rfl (lv_at hl 0 rfl) ?_
  refine lv_iload_n hx hb dX0_fault_1 rfl (lv_at hl 1 rfl) ?_
  obtain ⟨ha, hw⟩ := hw
  refine x_ci (va_runV (As := [.int x1]) (rest := []) ⟨hx, hb, hml, hown, hts⟩ (mt_X0_isAct l hw) (cwV 1 hts (lw_V q435 q437 qs11 q64 q438) rfl rfl rfl hd_X0_isAct ⟨Nat.le_of_ble_eq_true rfl, Nat.le_of_ble_eq_true rfl⟩) ⟨x_Pc_blind, hR.recv hK (ci := 0) rfl (by decide) ha, x_Pc_pre hR hz hS hK⟩ rfl rfl hl.1 rfl (lv_room (Nat.le_of_ble_eq_true rfl)) dX0_fault_2 ⟨by show _ ≤ k; omega, by show _ ≤ n; omega⟩) hS (fun r_1 S_2 H locs hp hR hS => ?_)
  have hw := hp.2
  rw [hp.1] at hR
  refine lv_if_ne (tgt := 10) hx hb dX0_fault_5 (by decide) (fun c_3 => ?_) (fun c_3 => ?_)
  · have hw := x_f hw c_3
    refine lv_aload_n hx hb dX0_fault_10 rfl (lv_at hl 0 rfl) ?_
    refine x_getR (ci := 0) (C := RX0) (T := TX0) (N := 19) (f := 59) hx hb hts in_X0 hown hK hR rfl 9 (by decide) (hts _ q122) (fun _ h => h) rfl (by decide) dX0_fault_11 hw.1 ?_
    have hw := hw.2
    refine lv_iload_n hx hb dX0_fault_14 rfl (lv_at hl 1 rfl) ?_
    obtain ⟨b_4, e_5, hw⟩ := hw
    refine x_dr1 e_5 ?_
    refine x_aald (t := 105) hx hb hK hR (by decide) rfl rfl dX0_fault_15 hw.1 hw.2.1 ?_
    have hw := hw.2.2
    obtain ⟨b_6, e_7, hw⟩ := hw
    refine x_dr0 e_7 ?_
    obtain ⟨ha, hw⟩ := hw
    obtain ⟨k_8, n_9, h1, h2, hw⟩ := hw
    refine x_cq (va_runV (As := []) (rest := []) ⟨hx, hb, hml, hown, hts⟩ (mt_X5_read l hw) (cwV 0 hts (lw_V q443 q444 q445 q70 q446) rfl rfl rfl hd_X5_read ⟨Nat.le_of_ble_eq_true rfl, Nat.le_of_ble_eq_true rfl⟩) ⟨x_Pc_blind, hR.recv hK (ci := 5) rfl (by decide) ha, x_Pc_pre hR hz hS hK⟩ rfl rfl hl.1 rfl (lv_room (Nat.le_of_ble_eq_true rfl)) dX0_fault_16 ⟨by show _ ≤ k; omega, by show _ ≤ n; omega⟩) hS (fun r_10 S_11 H locs hp hR hS => ?_)
    have hw := hp
    have hc : (0 + k_8) + (k - k_8) ≤ k := by omega
    have hs : (0 + n_9) + (n - n_9) ≤ n := by omega
    refine x_astore_n (lv' := [(2, va_rf r_10), (0, .ref o), (1, .int x1)]) (r := r_10) hx hb dX0_fault_19 rfl hl (by decide) rfl (fun ls hl => ?_)
    refine x_aload_n hx hb dX0_fault_20 rfl (lv_at hl 0 rfl) ?_
    refine x_ifnonnull (r := r_10) (tgt := 36) hx hb dX0_fault_21 (by decide) (fun c_12 => ?_) (fun c_12 => ?_)
    · have hw := x_f hw c_12
      refine lv_bipush (v := (-9)) hx hb dX0_fault_36 (by decide) ?_
      refine W.widen (k := k) (n := n) (by omega) (by omega) ?_
      exact x_ri hx hb hr hlocks hR hS dX0_fault_38 hw
    · have hw := x_t hw c_12
      refine lv_aload_n hx hb dX0_fault_24 rfl (lv_at hl 1 rfl) ?_
      refine x_getR (ci := 0) (C := RX0) (T := TX0) (N := 19) (f := 59) hx hb hts in_X0 hown hK hR rfl 9 (by decide) (hts _ q122) (fun _ h => h) rfl (by decide) dX0_fault_25 hw.1 ?_
      have hw := hw.2
      refine lv_iload_n hx hb dX0_fault_28 rfl (lv_at hl 2 rfl) ?_
      obtain ⟨b_13, e_14, hw⟩ := hw
      refine x_dr1 e_14 ?_
      refine x_aald (t := 105) hx hb hK hR (by decide) rfl rfl dX0_fault_29 hw.1 hw.2.1 ?_
      have hw := hw.2.2
      obtain ⟨b_15, e_16, hw⟩ := hw
      refine x_dr0 e_16 ?_
      refine x_getNI (ci := 5) (C := RX5) (T := TX5) (N := 6) (f := 304) hx hb hts in_X5 hown hK hR rfl 4 (by decide) (hK.2 _ q416 rfl) (fun _ h => h) rfl (by decide) dX0_fault_30 hw.1 ?_
      have hw := hw.2
      refine lv_goto (tgt := 38) hx hb dX0_fault_33 (by decide) ?_
      refine W.widen (k := k) (n := n) (by omega) (by omega) ?_
      exact x_ri hx hb hr hlocks hR hS dX0_fault_38 hw
  · have hw := x_t hw c_3
    refine lv_iconst (v := (-1)) hx hb dX0_fault_8 (by decide) ?_
    refine W.widen (k := k) (n := n) (by omega) (by omega) ?_
    exact x_ri hx hb hr hlocks hR hS dX0_fault_9 hw
theorem hd_X0_forceOn : yX0_forceOn.cls = "PressedMen" ∧ yX0_forceOn.cls ≠ "java/lang/invoke/MethodHandle" ∧ yX0_forceOn.cls ≠ "java/lang/invoke/VarHandle" ∧ (parseMethodDescriptor yX0_forceOn.desc).map (fun d => d.parameters.length) = some 1 := by decide +kernel
set_option maxHeartbeats 4000000 in
theorem mt_X0_forceOn (l : Launch) {D : va_G} {d : Nat → ClassId} {base : Nat} {mc : va_W} {S : xH} {k n : Nat} {o : Nat} {x1 : Int32} {Q : Int32 → xH → Prop} (hw : w_X0_forceOn k n S o x1 Q) : Met l yX0_forceOn (ws_ yX0_forceOn cX0_forceOn 5 (some FieldType.int)) (x_rm 650 k n 11763) (x_Pc D d base mc S [.ref o, .int x1]) (x_Qi D d base mc (fun r S' => Q r S')) k n (x_A base) := by
  refine x_met (by decide) (Nat.le_of_ble_eq_true rfl) ?_
  intro p e s m below meth c hx hb hml hr hlocks hown hts hz hR hK hin ls hl
  have hown : s.vm.findClass "PressedMen" = some m.cls := hown
  have hl : lv_has ls 5 [(0, .ref o), (1, .int x1)] := hl
  have hS : va_S (x_A base) s.heap s.heap [] := va_S.rf
  have hA : ∀ q : Nat, s.heap.size ≤ q → x_A base q := fun q h => Nat.le_trans hz h
  have hc : 0 + k ≤ k := by omega
  have hs : 0 + n ≤ n := by omega
  unfold w_X0_forceOn at hw
  refine lv_bipush (v := (-9)) hx hb dX0_forceOn_0 (by decide) ?_
  refine lv_istore_n (lv' := [(2, .int (-9)), (0, .ref o), (1, .int x1)]) hx hb dX0_forceOn_2 rfl hl (by decide) rfl (fun ls hl => ?_)
  refine lv_iconst (v := 0) hx hb dX0_forceOn_3 (by decide) ?_
  refine lv_istore_n (lv' := [(3, .int 0), (2, .int (-9)), (0, .ref o), (1, .int x1)]) hx hb dX0_forceOn_4 rfl hl (by decide) rfl (fun ls hl => ?_)
  refine x_lf5 (G := fun (x2_1 : Int32) (x3_2 : Int32) (S_3 : xH) (k_4 : Nat) (n_5 : Nat) => ∀ (ls : Array Slot) (H : Heap) (locs : List Loc) (cK nK : Nat), cK + k_4 ≤ k → nK + n_5 ≤ n → x_Rp D d (x_A base) mc S_3 H → va_S (x_A base) s.heap H locs → lv_has ls 5 [(0, .ref o), (1, .int x1), (2, .int x2_1), (3, .int x3_2)] → W p l e (x_rm 650 k n 11763) s m ([.ref o, .int x1] : List Value).toArray below meth c H locs cK nK (MQ below (x_Qi D d base mc (fun r S' => Q r S')) ([.ref o, .int x1] : List Value).toArray s k n (x_A base)) (F0 m 5 ls [])) hw (fun x2_1 x3_2 S_3 k_4 n_5 hw => ?_) ls _ _ _ _ hc hs hR hS (lv_sub hl [2, 3, 1, 0] rfl)
  intro ls H locs cK nK hc hs hR hS hl
  refine lv_iload_n hx hb dX0_forceOn_5 rfl (lv_at hl 3 rfl) ?_
  refine lv_aload_n hx hb dX0_forceOn_6 rfl (lv_at hl 0 rfl) ?_
  refine x_getI (ci := 0) (C := RX0) (T := TX0) (N := 19) (f := 60) hx hb hts in_X0 hown hK hR rfl 10 (by decide) (hts _ q123) (fun _ h => h) rfl (by decide) dX0_forceOn_7 hw.1 ?_
  have hw := hw.2
  refine lv_icmp_ge (tgt := 89) hx hb dX0_forceOn_10 (by decide) (fun c_7 => ?_) (fun c_7 => ?_)
  · have hw := x_t hw c_7
    refine lv_iload_n hx hb dX0_forceOn_89 rfl (lv_at hl 2 rfl) ?_
    refine W.widen (k := k) (n := n) (by omega) (by omega) ?_
    exact x_ri hx hb hr hlocks hR hS dX0_forceOn_90 hw
  · have hw := x_f hw c_7
    refine lv_aload_n hx hb dX0_forceOn_13 rfl (lv_at hl 0 rfl) ?_
    refine x_getR (ci := 0) (C := RX0) (T := TX0) (N := 19) (f := 59) hx hb hts in_X0 hown hK hR rfl 9 (by decide) (hts _ q122) (fun _ h => h) rfl (by decide) dX0_forceOn_14 hw.1 ?_
    have hw := hw.2
    refine lv_iload_n hx hb dX0_forceOn_17 rfl (lv_at hl 3 rfl) ?_
    obtain ⟨b_8, e_9, hw⟩ := hw
    refine x_dr1 e_9 ?_
    refine x_aald (t := 105) hx hb hK hR (by decide) rfl rfl dX0_forceOn_18 hw.1 hw.2.1 ?_
    have hw := hw.2.2
    obtain ⟨b_10, e_11, hw⟩ := hw
    refine x_dr0 e_11 ?_
    refine x_getNI (ci := 5) (C := RX5) (T := TX5) (N := 6) (f := 300) hx hb hts in_X5 hown hK hR rfl 0 (by decide) (hK.2 _ q409 rfl) (fun _ h => h) rfl (by decide) dX0_forceOn_19 hw.1 ?_
    have hw := hw.2
    refine lv_iload_n hx hb dX0_forceOn_22 rfl (lv_at hl 1 rfl) ?_
    refine x_jn (G := fun (v0_12 : Int32) => ∀ (ls : Array Slot) (H : Heap) (locs : List Loc) (cK nK : Nat), cK + k_4 ≤ k → nK + n_5 ≤ n → x_Rp D d (x_A base) mc S_3 H → va_S (x_A base) s.heap H locs → lv_has ls 5 [(0, .ref o), (1, .int x1), (2, .int x2_1), (3, .int x3_2)] → W p l e (x_rm 650 k n 11763) s m ([.ref o, .int x1] : List Value).toArray below meth c H locs cK nK (MQ below (x_Qi D d base mc (fun r S' => Q r S')) ([.ref o, .int x1] : List Value).toArray s k n (x_A base)) (F0 m 58 ls [.int v0_12])) hw (fun v0_12 hw => ?_) (fun hJ_13 hw => ?_)
    · intro ls H locs cK nK hc hs hR hS hl
      refine lv_istore (lv' := [(4, .int v0_12), (0, .ref o), (1, .int x1), (2, .int x2_1), (3, .int x3_2)]) hx hb dX0_forceOn_58 hl (by decide) rfl (fun ls hl => ?_)
      refine lv_iload hx hb dX0_forceOn_60 (lv_at hl 0 rfl) ?_
      refine x_jn4 (G := fun (v0_14 : Int32) (S_15 : xH) (k_16 : Nat) (n_17 : Nat) => ∀ (ls : Array Slot) (H : Heap) (locs : List Loc) (cK nK : Nat), cK + k_16 ≤ k → nK + n_17 ≤ n → x_Rp D d (x_A base) mc S_15 H → va_S (x_A base) s.heap H locs → lv_has ls 5 [(0, .ref o), (1, .int x1), (3, .int x3_2)] → W p l e (x_rm 650 k n 11763) s m ([.ref o, .int x1] : List Value).toArray below meth c H locs cK nK (MQ below (x_Qi D d base mc (fun r S' => Q r S')) ([.ref o, .int x1] : List Value).toArray s k n (x_A base)) (F0 m 82 ls [.int v0_14])) hw (fun v0_14 S_15 k_16 n_17 hw => ?_) (fun hJ_18 hw => ?_)
      · intro ls H locs cK nK hc hs hR hS hl
        refine lv_istore_n (lv' := [(2, .int v0_14), (0, .ref o), (1, .int x1), (3, .int x3_2)]) hx hb dX0_forceOn_82 rfl hl (by decide) rfl (fun ls hl => ?_)
        refine lv_iinc (v := (x3_2 + 1)) (lv' := [(3, .int (x3_2 + 1)), (2, .int v0_14), (0, .ref o), (1, .int x1)]) hx hb dX0_forceOn_83 hl (k := 3) rfl rfl (by decide) rfl (fun ls hl => ?_)
        refine lv_goto (tgt := 5) hx hb dX0_forceOn_86 (by decide) ?_
        exact hw ls _ _ _ _ hc hs hR hS (lv_sub hl [2, 3, 1, 0] rfl)
      · refine x_jn3 (G := fun (S_19 : xH) (k_20 : Nat) (n_21 : Nat) => ∀ (ls : Array Slot) (H : Heap) (locs : List Loc) (cK nK : Nat), cK + k_20 ≤ k → nK + n_21 ≤ n → x_Rp D d (x_A base) mc S_19 H → va_S (x_A base) s.heap H locs → lv_has ls 5 [(0, .ref o), (1, .int x1), (2, .int x2_1), (3, .int x3_2)] → W p l e (x_rm 650 k n 11763) s m ([.ref o, .int x1] : List Value).toArray below meth c H locs cK nK (MQ below (x_Qi D d base mc (fun r S' => Q r S')) ([.ref o, .int x1] : List Value).toArray s k n (x_A base)) (F0 m 81 ls [])) hw (fun S_19 k_20 n_21 hw => ?_) (fun hJ_22 hw => ?_)
        · intro ls H locs cK nK hc hs hR hS hl
          refine lv_iload_n hx hb dX0_forceOn_81 rfl (lv_at hl 2 rfl) ?_
          exact hJ_18 x2_1 S_19 k_20 n_21 hw ls _ _ _ _ hc hs hR hS (lv_sub hl [0, 1, 3] rfl)
        · refine lv_if_eq (tgt := 81) hx hb dX0_forceOn_62 (by decide) (fun c_23 => ?_) (fun c_23 => ?_)
          · have hw := x_t hw c_23
            exact hJ_22 S_3 k_4 n_5 hw ls _ _ _ _ hc hs hR hS (lv_sub hl [1, 2, 3, 4] rfl)
          · have hw := x_f hw c_23
            refine lv_aload_n hx hb dX0_forceOn_65 rfl (lv_at hl 1 rfl) ?_
            refine x_getR (ci := 0) (C := RX0) (T := TX0) (N := 19) (f := 59) hx hb hts in_X0 hown hK hR rfl 9 (by decide) (hts _ q122) (fun _ h => h) rfl (by decide) dX0_forceOn_66 hw.1 ?_
            have hw := hw.2
            refine lv_iload_n hx hb dX0_forceOn_69 rfl (lv_at hl 4 rfl) ?_
            obtain ⟨b_24, e_25, hw⟩ := hw
            refine x_dr1 e_25 ?_
            refine x_aald (t := 105) hx hb hK hR (by decide) rfl rfl dX0_forceOn_70 hw.1 hw.2.1 ?_
            have hw := hw.2.2
            obtain ⟨b_26, e_27, hw⟩ := hw
            refine x_dr0 e_27 ?_
            obtain ⟨ha, hw⟩ := hw
            obtain ⟨k_28, n_29, h1, h2, hw⟩ := hw
            refine x_cq (va_runV (As := []) (rest := []) ⟨hx, hb, hml, hown, hts⟩ (mt_X5_read l hw) (cwV 0 hts (lw_V q443 q444 q445 q70 q446) rfl rfl rfl hd_X5_read ⟨Nat.le_of_ble_eq_true rfl, Nat.le_of_ble_eq_true rfl⟩) ⟨x_Pc_blind, hR.recv hK (ci := 5) rfl (by decide) ha, x_Pc_pre hR hz hS hK⟩ rfl rfl hl.1 rfl (lv_room (Nat.le_of_ble_eq_true rfl)) dX0_forceOn_71 ⟨by show _ ≤ k; omega, by show _ ≤ n; omega⟩) hS (fun r_30 S_31 H locs hp hR hS => ?_)
            have hw := hp
            have hc : (cK + k_28) + (k_4 - k_28) ≤ k := by omega
            have hs : (nK + n_29) + (n_5 - n_29) ≤ n := by omega
            refine x_ifnull (r := r_30) (tgt := 81) hx hb dX0_forceOn_74 (by decide) (fun c_32 => ?_) (fun c_32 => ?_)
            · have hw := x_t hw c_32
              exact hJ_22 S_31 (k_4 - k_28) (n_5 - n_29) hw ls _ _ _ _ hc hs hR hS (lv_sub hl [1, 2, 3, 4] rfl)
            · have hw := x_f hw c_32
              refine lv_iload_n hx hb dX0_forceOn_77 rfl (lv_at hl 4 rfl) ?_
              refine lv_goto (tgt := 82) hx hb dX0_forceOn_78 (by decide) ?_
              exact hJ_18 x3_2 S_31 (k_4 - k_28) (n_5 - n_29) hw ls _ _ _ _ hc hs hR hS (lv_sub hl [1, 2, 4] rfl)
    · refine x_jn0 (G := ∀ (ls : Array Slot) (H : Heap) (locs : List Loc) (cK nK : Nat), cK + k_4 ≤ k → nK + n_5 ≤ n → x_Rp D d (x_A base) mc S_3 H → va_S (x_A base) s.heap H locs → lv_has ls 5 [(0, .ref o), (1, .int x1), (2, .int x2_1), (3, .int x3_2)] → W p l e (x_rm 650 k n 11763) s m ([.ref o, .int x1] : List Value).toArray below meth c H locs cK nK (MQ below (x_Qi D d base mc (fun r S' => Q r S')) ([.ref o, .int x1] : List Value).toArray s k n (x_A base)) (F0 m 57 ls [])) hw (fun hw => ?_) (fun hJ_33 hw => ?_)
      · intro ls H locs cK nK hc hs hR hS hl
        refine lv_iconst (v := 0) hx hb dX0_forceOn_57 (by decide) ?_
        exact hJ_13 0 hw ls _ _ _ _ hc hs hR hS (lv_sub hl [0, 1, 2, 3] rfl)
      · refine lv_icmp_gt (tgt := 57) hx hb dX0_forceOn_23 (by decide) (fun c_34 => ?_) (fun c_34 => ?_)
        · have hw := x_t hw c_34
          exact hJ_33  hw ls _ _ _ _ hc hs hR hS (lv_sub hl [0, 1, 2, 3] rfl)
        · have hw := x_f hw c_34
          refine lv_iload_n hx hb dX0_forceOn_26 rfl (lv_at hl 2 rfl) ?_
          refine lv_bipush (v := (-9)) hx hb dX0_forceOn_27 (by decide) ?_
          refine x_jn0 (G := ∀ (ls : Array Slot) (H : Heap) (locs : List Loc) (cK nK : Nat), cK + k_4 ≤ k → nK + n_5 ≤ n → x_Rp D d (x_A base) mc S_3 H → va_S (x_A base) s.heap H locs → lv_has ls 5 [(0, .ref o), (1, .int x1), (2, .int x2_1), (3, .int x3_2)] → W p l e (x_rm 650 k n 11763) s m ([.ref o, .int x1] : List Value).toArray below meth c H locs cK nK (MQ below (x_Qi D d base mc (fun r S' => Q r S')) ([.ref o, .int x1] : List Value).toArray s k n (x_A base)) (F0 m 53 ls [])) hw (fun hw => ?_) (fun hJ_35 hw => ?_)
          · intro ls H locs cK nK hc hs hR hS hl
            refine lv_iconst (v := 1) hx hb dX0_forceOn_53 (by decide) ?_
            refine lv_goto (tgt := 58) hx hb dX0_forceOn_54 (by decide) ?_
            exact hJ_13 1 hw ls _ _ _ _ hc hs hR hS (lv_sub hl [0, 1, 2, 3] rfl)
          · refine lv_icmp_eq (tgt := 53) hx hb dX0_forceOn_29 (by decide) (fun c_36 => ?_) (fun c_36 => ?_)
            · have hw := x_t hw c_36
              exact hJ_35  hw ls _ _ _ _ hc hs hR hS (lv_sub hl [0, 1, 2, 3] rfl)
            · have hw := x_f hw c_36
              refine lv_aload_n hx hb dX0_forceOn_32 rfl (lv_at hl 0 rfl) ?_
              refine x_getR (ci := 0) (C := RX0) (T := TX0) (N := 19) (f := 59) hx hb hts in_X0 hown hK hR rfl 9 (by decide) (hts _ q122) (fun _ h => h) rfl (by decide) dX0_forceOn_33 hw.1 ?_
              have hw := hw.2
              refine lv_iload_n hx hb dX0_forceOn_36 rfl (lv_at hl 3 rfl) ?_
              obtain ⟨b_37, e_38, hw⟩ := hw
              refine x_dr1 e_38 ?_
              refine x_aald (t := 105) hx hb hK hR (by decide) rfl rfl dX0_forceOn_37 hw.1 hw.2.1 ?_
              have hw := hw.2.2
              obtain ⟨b_39, e_40, hw⟩ := hw
              refine x_dr0 e_40 ?_
              refine x_getNI (ci := 5) (C := RX5) (T := TX5) (N := 6) (f := 300) hx hb hts in_X5 hown hK hR rfl 0 (by decide) (hK.2 _ q409 rfl) (fun _ h => h) rfl (by decide) dX0_forceOn_38 hw.1 ?_
              have hw := hw.2
              refine lv_aload_n hx hb dX0_forceOn_41 rfl (lv_at hl 0 rfl) ?_
              refine x_getR (ci := 0) (C := RX0) (T := TX0) (N := 19) (f := 59) hx hb hts in_X0 hown hK hR rfl 9 (by decide) (hts _ q122) (fun _ h => h) rfl (by decide) dX0_forceOn_42 hw.1 ?_
              have hw := hw.2
              refine lv_iload_n hx hb dX0_forceOn_45 rfl (lv_at hl 2 rfl) ?_
              obtain ⟨b_41, e_42, hw⟩ := hw
              refine x_dr1 e_42 ?_
              refine x_aald (t := 105) hx hb hK hR (by decide) rfl rfl dX0_forceOn_46 hw.1 hw.2.1 ?_
              have hw := hw.2.2
              obtain ⟨b_43, e_44, hw⟩ := hw
              refine x_dr0 e_44 ?_
              refine x_getNI (ci := 5) (C := RX5) (T := TX5) (N := 6) (f := 300) hx hb hts in_X5 hown hK hR rfl 0 (by decide) (hK.2 _ q409 rfl) (fun _ h => h) rfl (by decide) dX0_forceOn_47 hw.1 ?_
              have hw := hw.2
              refine lv_icmp_lt (tgt := 57) hx hb dX0_forceOn_50 (by decide) (fun c_45 => ?_) (fun c_45 => ?_)
              · have hw := x_t hw c_45
                exact hJ_33  hw ls _ _ _ _ hc hs hR hS (lv_sub hl [0, 1, 2, 3] rfl)
              · have hw := x_f hw c_45
                exact hJ_35  hw ls _ _ _ _ hc hs hR hS (lv_sub hl [0, 1, 2, 3] rfl)
theorem hd_X0_force : yX0_force.cls = "PressedMen" ∧ yX0_force.cls ≠ "java/lang/invoke/MethodHandle" ∧ yX0_force.cls ≠ "java/lang/invoke/VarHandle" ∧ (parseMethodDescriptor yX0_force.desc).map (fun d => d.parameters.length) = some 1 := by decide +kernel
set_option maxHeartbeats 4000000 in
theorem mt_X0_force (l : Launch) {D : va_G} {d : Nat → ClassId} {base : Nat} {mc : va_W} {S : xH} {k n : Nat} {o : Nat} {x1 : Int32} {Q : Int32 → xH → Prop} (hw : w_X0_force k n S o x1 Q) : Met l yX0_force (ws_ yX0_force cX0_force 2 (some FieldType.int)) (x_rm 651 k n 11787) (x_Pc D d base mc S [.ref o, .int x1]) (x_Qi D d base mc (fun r S' => Q r S')) k n (x_A base) := by
  refine x_met (by decide) (Nat.le_of_ble_eq_true rfl) ?_
  intro p e s m below meth c hx hb hml hr hlocks hown hts hz hR hK hin ls hl
  have hown : s.vm.findClass "PressedMen" = some m.cls := hown
  have hl : lv_has ls 2 [(0, .ref o), (1, .int x1)] := hl
  have hS : va_S (x_A base) s.heap s.heap [] := va_S.rf
  have hA : ∀ q : Nat, s.heap.size ≤ q → x_A base q := fun q h => Nat.le_trans hz h
  have hc : 0 + k ≤ k := by omega
  have hs : 0 + n ≤ n := by omega
  unfold w_X0_force at hw
  refine lv_iload_n hx hb dX0_force_0 rfl (lv_at hl 1 rfl) ?_
  refine x_ci (va_runS (As := [.int x1]) (rest := []) ⟨hx, hb, hml, hown, hts⟩ (mt_X0_isTide l hw) (va_cwS 1 hts (lw_S q375 q376 q64 q377) rfl rfl rfl hd_X0_isTide.2 ⟨Nat.le_of_ble_eq_true rfl, Nat.le_of_ble_eq_true rfl⟩) ⟨x_Pc_blind, x_Pc_pre hR hz hS hK⟩ rfl rfl hl.1 rfl (lv_room (Nat.le_of_ble_eq_true rfl)) dX0_force_1 ⟨by show _ ≤ k; omega, by show _ ≤ n; omega⟩) hS (fun r_1 S_2 H locs hp hR hS => ?_)
  have hw := hp.2
  rw [hp.1] at hR
  refine lv_if_eq (tgt := 15) hx hb dX0_force_4 (by decide) (fun c_3 => ?_) (fun c_3 => ?_)
  · have hw := x_t hw c_3
    refine lv_bipush (v := (-2)) hx hb dX0_force_15 (by decide) ?_
    refine W.widen (k := k) (n := n) (by omega) (by omega) ?_
    exact x_ri hx hb hr hlocks hR hS dX0_force_17 hw
  · have hw := x_f hw c_3
    refine lv_aload_n hx hb dX0_force_7 rfl (lv_at hl 0 rfl) ?_
    refine lv_iload_n hx hb dX0_force_8 rfl (lv_at hl 1 rfl) ?_
    obtain ⟨ha, hw⟩ := hw
    obtain ⟨k_4, n_5, h1, h2, hw⟩ := hw
    refine x_ci (va_runV (As := [.int x1]) (rest := []) ⟨hx, hb, hml, hown, hts⟩ (mt_X0_forceOn l hw) (cwV 1 hts (lw_V q563 q565 qs18 q64 q566) rfl rfl rfl hd_X0_forceOn ⟨Nat.le_of_ble_eq_true rfl, Nat.le_of_ble_eq_true rfl⟩) ⟨x_Pc_blind, hR.recv hK (ci := 0) rfl (by decide) ha, x_Pc_pre hR hz hS hK⟩ rfl rfl hl.1 rfl (lv_room (Nat.le_of_ble_eq_true rfl)) dX0_force_9 ⟨by show _ ≤ k; omega, by show _ ≤ n; omega⟩) hS (fun r_6 S_7 H locs hp hR hS => ?_)
    have hw := hp
    have hc : (0 + k_4) + (k - k_4) ≤ k := by omega
    have hs : (0 + n_5) + (n - n_5) ≤ n := by omega
    refine lv_goto (tgt := 17) hx hb dX0_force_12 (by decide) ?_
    refine W.widen (k := k) (n := n) (by omega) (by omega) ?_
    exact x_ri hx hb hr hlocks hR hS dX0_force_17 hw
theorem hd_X0_law : yX0_law.cls = "PressedMen" ∧ yX0_law.cls ≠ "java/lang/invoke/MethodHandle" ∧ yX0_law.cls ≠ "java/lang/invoke/VarHandle" ∧ (parseMethodDescriptor yX0_law.desc).map (fun d => d.parameters.length) = some 0 := by decide +kernel
set_option maxHeartbeats 4000000 in
theorem mt_X0_law (l : Launch) {D : va_G} {d : Nat → ClassId} {base : Nat} {mc : va_W} {S : xH} {k n : Nat} {o : Nat} {Q : Option Nat → xH → Prop} (hw : w_X0_law k n S o Q) : Met l yX0_law (ws_ yX0_law cX0_law 2 (some (FieldType.object "PressedMen$Text"))) (x_rm 651 k n 11787) (x_Pc D d base mc S [.ref o]) (x_Qq D d base mc (fun r S' => Q r S')) k n (x_A base) := by
  refine x_met (by decide) (Nat.le_of_ble_eq_true rfl) ?_
  intro p e s m below meth c hx hb hml hr hlocks hown hts hz hR hK hin ls hl
  have hown : s.vm.findClass "PressedMen" = some m.cls := hown
  have hl : lv_has ls 2 [(0, .ref o)] := hl
  have hS : va_S (x_A base) s.heap s.heap [] := va_S.rf
  have hA : ∀ q : Nat, s.heap.size ≤ q → x_A base q := fun q h => Nat.le_trans hz h
  have hc : 0 + k ≤ k := by omega
  have hs : 0 + n ≤ n := by omega
  unfold w_X0_law at hw
  refine lv_aload_n hx hb dX0_law_0 rfl (lv_at hl 0 rfl) ?_
  refine lv_aload_n hx hb dX0_law_1 rfl (lv_at hl 0 rfl) ?_
  refine x_getI (ci := 0) (C := RX0) (T := TX0) (N := 19) (f := 54) hx hb hts in_X0 hown hK hR rfl 4 (by decide) (hts _ q117) (fun _ h => h) rfl (by decide) dX0_law_2 hw.1 ?_
  have hw := hw.2
  obtain ⟨ha, hw⟩ := hw
  obtain ⟨k_1, n_2, h1, h2, hw⟩ := hw
  refine x_ci (va_runV (As := [.int (xI S 54 o)]) (rest := []) ⟨hx, hb, hml, hown, hts⟩ (mt_X0_forceOn l hw) (cwV 1 hts (lw_V q563 q565 qs18 q64 q566) rfl rfl rfl hd_X0_forceOn ⟨Nat.le_of_ble_eq_true rfl, Nat.le_of_ble_eq_true rfl⟩) ⟨x_Pc_blind, hR.recv hK (ci := 0) rfl (by decide) ha, x_Pc_pre hR hz hS hK⟩ rfl rfl hl.1 rfl (lv_room (Nat.le_of_ble_eq_true rfl)) dX0_law_5 ⟨by show _ ≤ k; omega, by show _ ≤ n; omega⟩) hS (fun r_3 S_4 H locs hp hR hS => ?_)
  have hw := hp
  have hc : (0 + k_1) + (k - k_1) ≤ k := by omega
  have hs : (0 + n_2) + (n - n_2) ≤ n := by omega
  refine lv_istore_n (lv' := [(1, .int r_3), (0, .ref o)]) hx hb dX0_law_8 rfl hl (by decide) rfl (fun ls hl => ?_)
  refine lv_iload_n hx hb dX0_law_9 rfl (lv_at hl 0 rfl) ?_
  refine lv_bipush (v := (-9)) hx hb dX0_law_10 (by decide) ?_
  refine lv_icmp_ne (tgt := 19) hx hb dX0_law_12 (by decide) (fun c_5 => ?_) (fun c_5 => ?_)
  · have hw := x_f hw c_5
    refine lv_aload_n hx hb dX0_law_19 rfl (lv_at hl 1 rfl) ?_
    refine x_getR (ci := 0) (C := RX0) (T := TX0) (N := 19) (f := 59) hx hb hts in_X0 hown hK hR rfl 9 (by decide) (hts _ q122) (fun _ h => h) rfl (by decide) dX0_law_20 hw.1 ?_
    have hw := hw.2
    refine lv_iload_n hx hb dX0_law_23 rfl (lv_at hl 0 rfl) ?_
    obtain ⟨b_6, e_7, hw⟩ := hw
    refine x_dr1 e_7 ?_
    refine x_aald (t := 105) hx hb hK hR (by decide) rfl rfl dX0_law_24 hw.1 hw.2.1 ?_
    have hw := hw.2.2
    obtain ⟨b_8, e_9, hw⟩ := hw
    refine x_dr0 e_9 ?_
    obtain ⟨ha, hw⟩ := hw
    obtain ⟨k_10, n_11, h1, h2, hw⟩ := hw
    refine x_cq (va_runV (As := []) (rest := []) ⟨hx, hb, hml, hown, hts⟩ (mt_X5_read l hw) (cwV 0 hts (lw_V q443 q444 q445 q70 q446) rfl rfl rfl hd_X5_read ⟨Nat.le_of_ble_eq_true rfl, Nat.le_of_ble_eq_true rfl⟩) ⟨x_Pc_blind, hR.recv hK (ci := 5) rfl (by decide) ha, x_Pc_pre hR hz hS hK⟩ rfl rfl hl.1 rfl (lv_room (Nat.le_of_ble_eq_true rfl)) dX0_law_25 ⟨by show _ ≤ k; omega, by show _ ≤ n; omega⟩) hS (fun r_12 S_13 H locs hp hR hS => ?_)
    have hw := hp
    have hc : ((0 + k_1) + k_10) + ((k - k_1) - k_10) ≤ k := by omega
    have hs : ((0 + n_2) + n_11) + ((n - n_2) - n_11) ≤ n := by omega
    refine W.widen (k := k) (n := n) (by omega) (by omega) ?_
    exact x_rq (r := r_12) hx hb hr (Or.inl ⟨_, rfl⟩) hlocks hR hS dX0_law_28 hw
  · have hw := x_t hw c_5
    refine lv_null hx hb dX0_law_15 ?_
    refine lv_goto (tgt := 28) hx hb dX0_law_16 (by decide) ?_
    refine W.widen (k := k) (n := n) (by omega) (by omega) ?_
    exact x_rq (r := none) hx hb hr (Or.inl ⟨_, rfl⟩) hlocks hR hS dX0_law_28 hw
theorem hd_X0_mayBe : yX0_mayBe.cls = "PressedMen" ∧ yX0_mayBe.cls ≠ "java/lang/invoke/MethodHandle" ∧ yX0_mayBe.cls ≠ "java/lang/invoke/VarHandle" ∧ (parseMethodDescriptor yX0_mayBe.desc).map (fun d => d.parameters.length) = some 3 := by decide +kernel
set_option maxHeartbeats 4000000 in
theorem mt_X0_mayBe (l : Launch) {D : va_G} {d : Nat → ClassId} {base : Nat} {mc : va_W} {S : xH} {x0 : Option Nat} {x1 : Nat} {x2 : Int32} {Q : Int32 → Prop} (hw : w_X0_mayBe S x0 x1 x2 Q) : Met l yX0_mayBe (ws_ yX0_mayBe cX0_mayBe 3 (some FieldType.boolean)) (x_rm 261 0 0 6522) (x_Pc D d base mc S [va_rf x0, .ref x1, .int x2]) (x_Qi D d base mc (fun r S' => S' = S ∧ Q r)) 0 0 (x_A base) := by
  refine x_met (by decide) (by cases x0 <;> exact Nat.le_of_ble_eq_true rfl) ?_
  intro p e s m below meth c hx hb hml hr hlocks hown hts hz hR hK hin ls hl
  have hown : s.vm.findClass "PressedMen" = some m.cls := hown
  have hl : lv_has ls 3 [(0, va_rf x0), (1, .ref x1), (2, .int x2)] := by cases x0 <;> exact hl
  have hS : va_S (x_A base) s.heap s.heap [] := va_S.rf
  unfold w_X0_mayBe at hw
  refine x_aload_n hx hb dX0_mayBe_0 rfl (lv_at hl 0 rfl) ?_
  refine x_ifnull (r := x0) (tgt := 17) hx hb dX0_mayBe_1 (by decide) (fun c_1 => ?_) (fun c_1 => ?_)
  · have hw := x_t hw c_1
    refine lv_iconst (v := 0) hx hb dX0_mayBe_17 (by decide) ?_
    exact x_rz hx hb hr hlocks hR hS dX0_mayBe_18 (Or.inl rfl) ⟨rfl, hw⟩
  · have hw := x_f hw c_1
    refine x_aload_n hx hb dX0_mayBe_4 rfl (lv_at hl 0 rfl) ?_
    refine lv_aload_n hx hb dX0_mayBe_5 rfl (lv_at hl 1 rfl) ?_
    refine lv_iload_n hx hb dX0_mayBe_6 rfl (lv_at hl 2 rfl) ?_
    obtain ⟨b_2, e_3, hw⟩ := hw
    refine x_dr2 e_3 ?_
    refine x_ci (vh_all l 64 hw ⟨hx, hb, hml, hown, hts⟩ q582 hR hz hS hK hl.1 (Nat.le_of_ble_eq_true rfl) (Nat.le_of_ble_eq_true rfl) (lv_room (Nat.le_of_ble_eq_true rfl)) dX0_mayBe_7 ⟨Nat.le_refl _, Nat.le_refl _⟩) hS (fun r_4 S_5 H locs hp hR hS => ?_)
    have hw := hp.2
    rw [hp.1] at hR
    refine lv_if_eq (tgt := 17) hx hb dX0_mayBe_10 (by decide) (fun c_6 => ?_) (fun c_6 => ?_)
    · have hw := x_t hw c_6
      refine lv_iconst (v := 0) hx hb dX0_mayBe_17 (by decide) ?_
      exact x_rz hx hb hr hlocks hR hS dX0_mayBe_18 (Or.inl rfl) ⟨rfl, hw⟩
    · have hw := x_f hw c_6
      refine lv_iconst (v := 1) hx hb dX0_mayBe_13 (by decide) ?_
      refine lv_goto (tgt := 18) hx hb dX0_mayBe_14 (by decide) ?_
      exact x_rz hx hb hr hlocks hR hS dX0_mayBe_18 (Or.inr rfl) ⟨rfl, hw⟩
theorem hd_X0_mayShown : yX0_mayShown.cls = "PressedMen" ∧ yX0_mayShown.cls ≠ "java/lang/invoke/MethodHandle" ∧ yX0_mayShown.cls ≠ "java/lang/invoke/VarHandle" ∧ (parseMethodDescriptor yX0_mayShown.desc).map (fun d => d.parameters.length) = some 3 := by decide +kernel
set_option maxHeartbeats 4000000 in
theorem mt_X0_mayShown (l : Launch) {D : va_G} {d : Nat → ClassId} {base : Nat} {mc : va_W} {S : xH} {o : Nat} {x1 : Option Nat} {x2 : Nat} {x3 : Int32} {Q : Int32 → Prop} (hw : w_X0_mayShown S o x1 x2 x3 Q) : Met l yX0_mayShown (ws_ yX0_mayShown cX0_mayShown 4 (some FieldType.boolean)) (x_rm 262 0 0 6544) (x_Pc D d base mc S [.ref o, va_rf x1, .ref x2, .int x3]) (x_Qi D d base mc (fun r S' => S' = S ∧ Q r)) 0 0 (x_A base) := by
  refine x_met (by decide) (by cases x1 <;> exact Nat.le_of_ble_eq_true rfl) ?_
  intro p e s m below meth c hx hb hml hr hlocks hown hts hz hR hK hin ls hl
  have hown : s.vm.findClass "PressedMen" = some m.cls := hown
  have hl : lv_has ls 4 [(0, .ref o), (1, va_rf x1), (2, .ref x2), (3, .int x3)] := by cases x1 <;> exact hl
  have hS : va_S (x_A base) s.heap s.heap [] := va_S.rf
  unfold w_X0_mayShown at hw
  refine x_aload_n hx hb dX0_mayShown_0 rfl (lv_at hl 1 rfl) ?_
  refine lv_aload_n hx hb dX0_mayShown_1 rfl (lv_at hl 2 rfl) ?_
  refine lv_iload_n hx hb dX0_mayShown_2 rfl (lv_at hl 3 rfl) ?_
  refine lv_bipush (v := (-9)) hx hb dX0_mayShown_3 (by decide) ?_
  refine x_jn (G := fun (v2_1 : Int32) => ∀ (ls : Array Slot) (H : Heap) (locs : List Loc), x_Rp D d (x_A base) mc S H → va_S (x_A base) s.heap H locs → lv_has ls 4 [] → W p l e (x_rm 262 0 0 6544) s m ([.ref o, va_rf x1, .ref x2, .int x3] : List Value).toArray below meth c H locs 0 0 (MQ below (x_Qi D d base mc (fun r S' => S' = S ∧ Q r)) ([.ref o, va_rf x1, .ref x2, .int x3] : List Value).toArray s 0 0 (x_A base)) (F0 m 30 ls [.int v2_1, .ref x2, va_rf x1])) hw (fun v2_1 hw => ?_) (fun hJ_2 hw => ?_)
  · intro ls H locs hR hS hl
    refine x_ci (va_runS (As := [va_rf x1, .ref x2, .int v2_1]) (rest := []) ⟨hx, hb, hml, hown, hts⟩ (mt_X0_mayBe l hw) (va_cwS 3 hts (lw_S q579 q580 q64 q581) rfl rfl rfl hd_X0_mayBe.2 ⟨Nat.le_of_ble_eq_true rfl, Nat.le_of_ble_eq_true rfl⟩) ⟨x_Pc_blind, x_Pc_pre hR hz hS hK⟩ rfl rfl hl.1 rfl (lv_room (Nat.le_of_ble_eq_true rfl)) dX0_mayShown_30 ⟨Nat.le_refl _, Nat.le_refl _⟩) hS (fun r_3 S_4 H locs hp hR hS => ?_)
    have hw := hp.2
    rw [hp.1] at hR
    exact x_rz hx hb hr hlocks hR hS dX0_mayShown_33 hw.1 ⟨rfl, hw.2⟩
  · refine x_jn0 (G := ∀ (ls : Array Slot) (H : Heap) (locs : List Loc), x_Rp D d (x_A base) mc S H → va_S (x_A base) s.heap H locs → lv_has ls 4 [] → W p l e (x_rm 262 0 0 6544) s m ([.ref o, va_rf x1, .ref x2, .int x3] : List Value).toArray below meth c H locs 0 0 (MQ below (x_Qi D d base mc (fun r S' => S' = S ∧ Q r)) ([.ref o, va_rf x1, .ref x2, .int x3] : List Value).toArray s 0 0 (x_A base)) (F0 m 29 ls [.ref x2, va_rf x1])) hw (fun hw => ?_) (fun hJ_5 hw => ?_)
    · intro ls H locs hR hS hl
      refine lv_iconst (v := 0) hx hb dX0_mayShown_29 (by decide) ?_
      exact hJ_2 0 hw ls _ _ hR hS (lv_sub hl [] rfl)
    · refine lv_icmp_eq (tgt := 29) hx hb dX0_mayShown_5 (by decide) (fun c_6 => ?_) (fun c_6 => ?_)
      · have hw := x_t hw c_6
        exact hJ_5  hw ls _ _ hR hS (lv_sub hl [] rfl)
      · have hw := x_f hw c_6
        refine lv_aload_n hx hb dX0_mayShown_8 rfl (lv_at hl 0 rfl) ?_
        refine x_getR (ci := 0) (C := RX0) (T := TX0) (N := 19) (f := 57) hx hb hts in_X0 hown hK hR rfl 7 (by decide) (hts _ q120) (fun _ h => h) rfl (by decide) dX0_mayShown_9 hw.1 ?_
        have hw := hw.2
        refine lv_iload_n hx hb dX0_mayShown_12 rfl (lv_at hl 3 rfl) ?_
        obtain ⟨b_7, e_8, hw⟩ := hw
        refine x_dr1 e_8 ?_
        refine x_aald (t := 104) hx hb hK hR (by decide) rfl rfl dX0_mayShown_13 hw.1 hw.2.1 ?_
        have hw := hw.2.2
        refine lv_aload_n hx hb dX0_mayShown_14 rfl (lv_at hl 2 rfl) ?_
        refine lv_aload_n hx hb dX0_mayShown_15 rfl (lv_at hl 0 rfl) ?_
        refine x_getI (ci := 0) (C := RX0) (T := TX0) (N := 19) (f := 54) hx hb hts in_X0 hown hK hR rfl 4 (by decide) (hts _ q117) (fun _ h => h) rfl (by decide) dX0_mayShown_16 hw.1 ?_
        have hw := hw.2
        obtain ⟨b_9, e_10, hw⟩ := hw
        refine x_dr2 e_10 ?_
        obtain ⟨ha, hw⟩ := hw
        refine x_ci (va_runV (As := [.ref x2, .int (xI S 54 o)]) (rest := [.ref x2, va_rf x1]) ⟨hx, hb, hml, hown, hts⟩ (mt_X4_covers l hw) (cwV 2 hts (lw_V q378 q379 q380 q69 q381) rfl rfl rfl hd_X4_covers ⟨Nat.le_of_ble_eq_true rfl, Nat.le_of_ble_eq_true rfl⟩) ⟨x_Pc_blind, hR.recv hK (ci := 4) rfl (by decide) ha, x_Pc_pre hR hz hS hK⟩ rfl rfl hl.1 rfl (lv_room (by simp only [List.map_cons, List.map_nil, x_cat]; exact Nat.le_of_ble_eq_true rfl)) dX0_mayShown_19 ⟨Nat.le_refl _, Nat.le_refl _⟩) hS (fun r_11 S_12 H locs hp hR hS => ?_)
        have hw := hp.2
        rw [hp.1] at hR
        refine lv_if_le (tgt := 29) hx hb dX0_mayShown_22 (by decide) (fun c_13 => ?_) (fun c_13 => ?_)
        · have hw := x_t hw c_13
          exact hJ_5  hw ls _ _ hR hS (lv_sub hl [] rfl)
        · have hw := x_f hw c_13
          refine lv_iconst (v := 1) hx hb dX0_mayShown_25 (by decide) ?_
          refine lv_goto (tgt := 30) hx hb dX0_mayShown_26 (by decide) ?_
          exact hJ_2 1 hw ls _ _ hR hS (lv_sub hl [] rfl)
theorem hd_X0_may : yX0_may.cls = "PressedMen" ∧ yX0_may.cls ≠ "java/lang/invoke/MethodHandle" ∧ yX0_may.cls ≠ "java/lang/invoke/VarHandle" ∧ (parseMethodDescriptor yX0_may.desc).map (fun d => d.parameters.length) = some 2 := by decide +kernel
set_option maxHeartbeats 4000000 in
theorem mt_X0_may (l : Launch) {D : va_G} {d : Nat → ClassId} {base : Nat} {mc : va_W} {S : xH} {k n : Nat} {o : Nat} {x1 : Int32} {x2 : Int32} {Q : Int32 → xH → Prop} (hw : w_X0_may k n S o x1 x2 Q) : Met l yX0_may (ws_ yX0_may cX0_may 3 (some FieldType.int)) (x_rm 652 k n 11808) (x_Pc D d base mc S [.ref o, .int x1, .int x2]) (x_Qi D d base mc (fun r S' => Q r S')) k n (x_A base) := by
  refine x_met (by decide) (Nat.le_of_ble_eq_true rfl) ?_
  intro p e s m below meth c hx hb hml hr hlocks hown hts hz hR hK hin ls hl
  have hown : s.vm.findClass "PressedMen" = some m.cls := hown
  have hl : lv_has ls 3 [(0, .ref o), (1, .int x1), (2, .int x2)] := hl
  have hS : va_S (x_A base) s.heap s.heap [] := va_S.rf
  have hA : ∀ q : Nat, s.heap.size ≤ q → x_A base q := fun q h => Nat.le_trans hz h
  have hc : 0 + k ≤ k := by omega
  have hs : 0 + n ≤ n := by omega
  unfold w_X0_may at hw
  refine lv_aload_n hx hb dX0_may_0 rfl (lv_at hl 0 rfl) ?_
  refine lv_iload_n hx hb dX0_may_1 rfl (lv_at hl 1 rfl) ?_
  obtain ⟨ha, hw⟩ := hw
  refine x_ci (va_runV (As := [.int x1]) (rest := []) ⟨hx, hb, hml, hown, hts⟩ (mt_X0_isMan l hw) (cwV 1 hts (lw_V q252 q254 qs2 q64 q255) rfl rfl rfl hd_X0_isMan ⟨Nat.le_of_ble_eq_true rfl, Nat.le_of_ble_eq_true rfl⟩) ⟨x_Pc_blind, hR.recv hK (ci := 0) rfl (by decide) ha, x_Pc_pre hR hz hS hK⟩ rfl rfl hl.1 rfl (lv_room (Nat.le_of_ble_eq_true rfl)) dX0_may_2 ⟨by show _ ≤ k; omega, by show _ ≤ n; omega⟩) hS (fun r_1 S_2 H locs hp hR hS => ?_)
  have hw := hp.2
  rw [hp.1] at hR
  refine lv_if_eq (tgt := 22) hx hb dX0_may_5 (by decide) (fun c_3 => ?_) (fun c_3 => ?_)
  · have hw := x_t hw c_3
    refine lv_iconst (v := (-1)) hx hb dX0_may_22 (by decide) ?_
    refine W.widen (k := k) (n := n) (by omega) (by omega) ?_
    exact x_ri hx hb hr hlocks hR hS dX0_may_23 hw
  · have hw := x_f hw c_3
    refine lv_iload_n hx hb dX0_may_8 rfl (lv_at hl 2 rfl) ?_
    refine lv_bipush (v := (-9)) hx hb dX0_may_9 (by decide) ?_
    refine x_jn0 (G := ∀ (ls : Array Slot) (H : Heap) (locs : List Loc) (cK nK : Nat), cK + k ≤ k → nK + n ≤ n → x_Rp D d (x_A base) mc S H → va_S (x_A base) s.heap H locs → lv_has ls 3 [(0, .ref o), (1, .int x1), (2, .int x2)] → W p l e (x_rm 652 k n 11808) s m ([.ref o, .int x1, .int x2] : List Value).toArray below meth c H locs cK nK (MQ below (x_Qi D d base mc (fun r S' => Q r S')) ([.ref o, .int x1, .int x2] : List Value).toArray s k n (x_A base)) (F0 m 24 ls [])) hw (fun hw => ?_) (fun hJ_4 hw => ?_)
    · intro ls H locs cK nK hc hs hR hS hl
      refine lv_aload_n hx hb dX0_may_24 rfl (lv_at hl 0 rfl) ?_
      refine lv_aload_n hx hb dX0_may_25 rfl (lv_at hl 0 rfl) ?_
      obtain ⟨ha, hw⟩ := hw
      obtain ⟨k_5, n_6, h1, h2, hw⟩ := hw
      refine x_cq (va_runV (As := []) (rest := [.ref o]) ⟨hx, hb, hml, hown, hts⟩ (mt_X0_law l hw) (cwV 0 hts (lw_V q571 q573 qs19 q64 q574) rfl rfl rfl hd_X0_law ⟨Nat.le_of_ble_eq_true rfl, Nat.le_of_ble_eq_true rfl⟩) ⟨x_Pc_blind, hR.recv hK (ci := 0) rfl (by decide) ha, x_Pc_pre hR hz hS hK⟩ rfl rfl hl.1 rfl (lv_room (Nat.le_of_ble_eq_true rfl)) dX0_may_26 ⟨by show _ ≤ k; omega, by show _ ≤ n; omega⟩) hS (fun r_7 S_8 H locs hp hR hS => ?_)
      have hw := hp
      have hc : (cK + k_5) + (k - k_5) ≤ k := by omega
      have hs : (nK + n_6) + (n - n_6) ≤ n := by omega
      refine lv_aload_n hx hb dX0_may_29 rfl (lv_at hl 0 rfl) ?_
      refine x_getR (ci := 0) (C := RX0) (T := TX0) (N := 19) (f := 52) hx hb hts in_X0 hown hK hR rfl 2 (by decide) (hts _ q114) (fun _ h => h) rfl (by decide) dX0_may_30 hw.1 ?_
      have hw := hw.2
      refine lv_iload_n hx hb dX0_may_33 rfl (lv_at hl 1 rfl) ?_
      obtain ⟨b_9, e_10, hw⟩ := hw
      refine x_dr1 e_10 ?_
      refine x_aald (t := 103) hx hb hK hR (by decide) rfl rfl dX0_may_34 hw.1 hw.2.1 ?_
      have hw := hw.2.2
      refine lv_iload_n hx hb dX0_may_35 rfl (lv_at hl 2 rfl) ?_
      obtain ⟨b_11, e_12, hw⟩ := hw
      refine x_dr1 e_12 ?_
      obtain ⟨ha, hw⟩ := hw
      refine x_ci (va_runV (As := [va_rf r_7, .ref b_11, .int x2]) (rest := []) ⟨hx, hb, hml, hown, hts⟩ (mt_X0_mayShown l hw) (cwV 3 hts (lw_V q575 q577 qs20 q64 q578) rfl rfl rfl hd_X0_mayShown ⟨Nat.le_of_ble_eq_true rfl, Nat.le_of_ble_eq_true rfl⟩) ⟨x_Pc_blind, hR.recv hK (ci := 0) rfl (by decide) ha, x_Pc_pre hR hz hS hK⟩ rfl rfl hl.1 rfl (lv_room (Nat.le_of_ble_eq_true rfl)) dX0_may_36 ⟨by show _ ≤ k; omega, by show _ ≤ n; omega⟩) hS (fun r_13 S_14 H locs hp hR hS => ?_)
      have hw := hp.2
      rw [hp.1] at hR
      refine lv_if_eq (tgt := 46) hx hb dX0_may_39 (by decide) (fun c_15 => ?_) (fun c_15 => ?_)
      · have hw := x_t hw c_15
        refine lv_iconst (v := 0) hx hb dX0_may_46 (by decide) ?_
        refine W.widen (k := k) (n := n) (by omega) (by omega) ?_
        exact x_ri hx hb hr hlocks hR hS dX0_may_47 hw
      · have hw := x_f hw c_15
        refine lv_iconst (v := 1) hx hb dX0_may_42 (by decide) ?_
        refine lv_goto (tgt := 47) hx hb dX0_may_43 (by decide) ?_
        refine W.widen (k := k) (n := n) (by omega) (by omega) ?_
        exact x_ri hx hb hr hlocks hR hS dX0_may_47 hw
    · refine lv_icmp_eq (tgt := 24) hx hb dX0_may_11 (by decide) (fun c_16 => ?_) (fun c_16 => ?_)
      · have hw := x_t hw c_16
        exact hJ_4  hw ls _ _ _ _ hc hs hR hS (lv_sub hl [0, 1, 2] rfl)
      · have hw := x_f hw c_16
        refine lv_aload_n hx hb dX0_may_14 rfl (lv_at hl 0 rfl) ?_
        refine lv_iload_n hx hb dX0_may_15 rfl (lv_at hl 2 rfl) ?_
        obtain ⟨ha, hw⟩ := hw
        refine x_ci (va_runV (As := [.int x2]) (rest := []) ⟨hx, hb, hml, hown, hts⟩ (mt_X0_isPaper l hw) (cwV 1 hts (lw_V q371 q373 qs8 q64 q374) rfl rfl rfl hd_X0_isPaper ⟨Nat.le_of_ble_eq_true rfl, Nat.le_of_ble_eq_true rfl⟩) ⟨x_Pc_blind, hR.recv hK (ci := 0) rfl (by decide) ha, x_Pc_pre hR hz hS hK⟩ rfl rfl hl.1 rfl (lv_room (Nat.le_of_ble_eq_true rfl)) dX0_may_16 ⟨by show _ ≤ k; omega, by show _ ≤ n; omega⟩) hS (fun r_17 S_18 H locs hp hR hS => ?_)
        have hw := hp.2
        rw [hp.1] at hR
        refine lv_if_ne (tgt := 24) hx hb dX0_may_19 (by decide) (fun c_19 => ?_) (fun c_19 => ?_)
        · have hw := x_f hw c_19
          exact hJ_4  hw ls _ _ _ _ hc hs hR hS (lv_sub hl [0, 1, 2] rfl)
        · have hw := x_t hw c_19
          refine lv_iconst (v := (-1)) hx hb dX0_may_22 (by decide) ?_
          refine W.widen (k := k) (n := n) (by omega) (by omega) ?_
          exact x_ri hx hb hr hlocks hR hS dX0_may_23 hw
theorem hd_X0_mayTruly : yX0_mayTruly.cls = "PressedMen" ∧ yX0_mayTruly.cls ≠ "java/lang/invoke/MethodHandle" ∧ yX0_mayTruly.cls ≠ "java/lang/invoke/VarHandle" ∧ (parseMethodDescriptor yX0_mayTruly.desc).map (fun d => d.parameters.length) = some 1 := by decide +kernel
set_option maxHeartbeats 4000000 in
theorem mt_X0_mayTruly (l : Launch) {D : va_G} {d : Nat → ClassId} {base : Nat} {mc : va_W} {S : xH} {k n : Nat} {o : Nat} {x1 : Int32} {Q : Int32 → xH → Prop} (hw : w_X0_mayTruly k n S o x1 Q) : Met l yX0_mayTruly (ws_ yX0_mayTruly cX0_mayTruly 2 (some FieldType.int)) (x_rm 652 k n 11808) (x_Pc D d base mc S [.ref o, .int x1]) (x_Qi D d base mc (fun r S' => Q r S')) k n (x_A base) := by
  refine x_met (by decide) (Nat.le_of_ble_eq_true rfl) ?_
  intro p e s m below meth c hx hb hml hr hlocks hown hts hz hR hK hin ls hl
  have hown : s.vm.findClass "PressedMen" = some m.cls := hown
  have hl : lv_has ls 2 [(0, .ref o), (1, .int x1)] := hl
  have hS : va_S (x_A base) s.heap s.heap [] := va_S.rf
  have hA : ∀ q : Nat, s.heap.size ≤ q → x_A base q := fun q h => Nat.le_trans hz h
  have hc : 0 + k ≤ k := by omega
  have hs : 0 + n ≤ n := by omega
  unfold w_X0_mayTruly at hw
  refine lv_aload_n hx hb dX0_mayTruly_0 rfl (lv_at hl 0 rfl) ?_
  refine lv_iload_n hx hb dX0_mayTruly_1 rfl (lv_at hl 1 rfl) ?_
  obtain ⟨ha, hw⟩ := hw
  refine x_ci (va_runV (As := [.int x1]) (rest := []) ⟨hx, hb, hml, hown, hts⟩ (mt_X0_isMan l hw) (cwV 1 hts (lw_V q252 q254 qs2 q64 q255) rfl rfl rfl hd_X0_isMan ⟨Nat.le_of_ble_eq_true rfl, Nat.le_of_ble_eq_true rfl⟩) ⟨x_Pc_blind, hR.recv hK (ci := 0) rfl (by decide) ha, x_Pc_pre hR hz hS hK⟩ rfl rfl hl.1 rfl (lv_room (Nat.le_of_ble_eq_true rfl)) dX0_mayTruly_2 ⟨by show _ ≤ k; omega, by show _ ≤ n; omega⟩) hS (fun r_1 S_2 H locs hp hR hS => ?_)
  have hw := hp.2
  rw [hp.1] at hR
  refine lv_if_ne (tgt := 10) hx hb dX0_mayTruly_5 (by decide) (fun c_3 => ?_) (fun c_3 => ?_)
  · have hw := x_f hw c_3
    refine lv_aload_n hx hb dX0_mayTruly_10 rfl (lv_at hl 0 rfl) ?_
    obtain ⟨ha, hw⟩ := hw
    obtain ⟨k_4, n_5, h1, h2, hw⟩ := hw
    refine x_cq (va_runV (As := []) (rest := []) ⟨hx, hb, hml, hown, hts⟩ (mt_X0_law l hw) (cwV 0 hts (lw_V q571 q573 qs19 q64 q574) rfl rfl rfl hd_X0_law ⟨Nat.le_of_ble_eq_true rfl, Nat.le_of_ble_eq_true rfl⟩) ⟨x_Pc_blind, hR.recv hK (ci := 0) rfl (by decide) ha, x_Pc_pre hR hz hS hK⟩ rfl rfl hl.1 rfl (lv_room (Nat.le_of_ble_eq_true rfl)) dX0_mayTruly_11 ⟨by show _ ≤ k; omega, by show _ ≤ n; omega⟩) hS (fun r_6 S_7 H locs hp hR hS => ?_)
    have hw := hp
    have hc : (0 + k_4) + (k - k_4) ≤ k := by omega
    have hs : (0 + n_5) + (n - n_5) ≤ n := by omega
    refine lv_aload_n hx hb dX0_mayTruly_14 rfl (lv_at hl 0 rfl) ?_
    refine x_getR (ci := 0) (C := RX0) (T := TX0) (N := 19) (f := 52) hx hb hts in_X0 hown hK hR rfl 2 (by decide) (hts _ q114) (fun _ h => h) rfl (by decide) dX0_mayTruly_15 hw.1 ?_
    have hw := hw.2
    refine lv_iload_n hx hb dX0_mayTruly_18 rfl (lv_at hl 1 rfl) ?_
    obtain ⟨b_8, e_9, hw⟩ := hw
    refine x_dr1 e_9 ?_
    refine x_aald (t := 103) hx hb hK hR (by decide) rfl rfl dX0_mayTruly_19 hw.1 hw.2.1 ?_
    have hw := hw.2.2
    refine lv_aload_n hx hb dX0_mayTruly_20 rfl (lv_at hl 0 rfl) ?_
    refine lv_aload_n hx hb dX0_mayTruly_21 rfl (lv_at hl 0 rfl) ?_
    refine x_getR (ci := 0) (C := RX0) (T := TX0) (N := 19) (f := 52) hx hb hts in_X0 hown hK hR rfl 2 (by decide) (hts _ q114) (fun _ h => h) rfl (by decide) dX0_mayTruly_22 hw.1 ?_
    have hw := hw.2
    refine lv_iload_n hx hb dX0_mayTruly_25 rfl (lv_at hl 1 rfl) ?_
    obtain ⟨b_10, e_11, hw⟩ := hw
    refine x_dr1 e_11 ?_
    refine x_aald (t := 103) hx hb hK hR (by decide) rfl rfl dX0_mayTruly_26 hw.1 hw.2.1 ?_
    have hw := hw.2.2
    obtain ⟨b_12, e_13, hw⟩ := hw
    refine x_dr0 e_13 ?_
    obtain ⟨ha, hw⟩ := hw
    refine x_ci (va_runV (As := [.ref b_12]) (rest := [va_rf (xQ S_7 b_8 (Int32.toNatClampNeg x1)), va_rf r_6]) ⟨hx, hb, hml, hown, hts⟩ (mt_X0_isCoveredTruly l hw) (cwV 1 hts (lw_V q642 q644 qs21 q64 q645) rfl rfl rfl hd_X0_isCoveredTruly ⟨Nat.le_of_ble_eq_true rfl, Nat.le_of_ble_eq_true rfl⟩) ⟨x_Pc_blind, hR.recv hK (ci := 0) rfl (by decide) ha, x_Pc_pre hR hz hS hK⟩ rfl rfl hl.1 rfl (lv_room (by simp only [List.map_cons, List.map_nil, x_cat]; exact Nat.le_of_ble_eq_true rfl)) dX0_mayTruly_27 ⟨by show _ ≤ k; omega, by show _ ≤ n; omega⟩) hS (fun r_14 S_15 H locs hp hR hS => ?_)
    have hw := hp.2
    rw [hp.1] at hR
    obtain ⟨b_16, e_17, hw⟩ := hw
    refine x_dr1 e_17 ?_
    refine x_ci (va_runS (As := [va_rf r_6, .ref b_16, .int r_14]) (rest := []) ⟨hx, hb, hml, hown, hts⟩ (mt_X0_mayBe l hw) (va_cwS 3 hts (lw_S q579 q580 q64 q581) rfl rfl rfl hd_X0_mayBe.2 ⟨Nat.le_of_ble_eq_true rfl, Nat.le_of_ble_eq_true rfl⟩) ⟨x_Pc_blind, x_Pc_pre hR hz hS hK⟩ rfl rfl hl.1 rfl (lv_room (Nat.le_of_ble_eq_true rfl)) dX0_mayTruly_30 ⟨by show _ ≤ k; omega, by show _ ≤ n; omega⟩) hS (fun r_18 S_19 H locs hp hR hS => ?_)
    have hw := hp.2
    rw [hp.1] at hR
    refine lv_if_eq (tgt := 40) hx hb dX0_mayTruly_33 (by decide) (fun c_20 => ?_) (fun c_20 => ?_)
    · have hw := x_t hw c_20
      refine lv_iconst (v := 0) hx hb dX0_mayTruly_40 (by decide) ?_
      refine W.widen (k := k) (n := n) (by omega) (by omega) ?_
      exact x_ri hx hb hr hlocks hR hS dX0_mayTruly_41 hw
    · have hw := x_f hw c_20
      refine lv_iconst (v := 1) hx hb dX0_mayTruly_36 (by decide) ?_
      refine lv_goto (tgt := 41) hx hb dX0_mayTruly_37 (by decide) ?_
      refine W.widen (k := k) (n := n) (by omega) (by omega) ?_
      exact x_ri hx hb hr hlocks hR hS dX0_mayTruly_41 hw
  · have hw := x_t hw c_3
    refine lv_iconst (v := (-1)) hx hb dX0_mayTruly_8 (by decide) ?_
    refine W.widen (k := k) (n := n) (by omega) (by omega) ?_
    exact x_ri hx hb hr hlocks hR hS dX0_mayTruly_9 hw
theorem hd_X0_take : yX0_take.cls = "PressedMen" ∧ yX0_take.cls ≠ "java/lang/invoke/MethodHandle" ∧ yX0_take.cls ≠ "java/lang/invoke/VarHandle" ∧ (parseMethodDescriptor yX0_take.desc).map (fun d => d.parameters.length) = some 2 := by decide +kernel
set_option maxHeartbeats 4000000 in
theorem mt_X0_take (l : Launch) {D : va_G} {d : Nat → ClassId} {base : Nat} {mc : va_W} {S : xH} {k n : Nat} {o : Nat} {x1 : Int32} {x2 : Int32} {Q : Int32 → xH → Prop} (hw : w_X0_take k n S o x1 x2 Q) : Met l yX0_take (ws_ yX0_take cX0_take 6 (some FieldType.int)) (x_rm 652 k n 11808) (x_Pc D d base mc S [.ref o, .int x1, .int x2]) (x_Qi D d base mc (fun r S' => Q r S')) k n (x_A base) := by
  refine x_met (by decide) (Nat.le_of_ble_eq_true rfl) ?_
  intro p e s m below meth c hx hb hml hr hlocks hown hts hz hR hK hin ls hl
  have hown : s.vm.findClass "PressedMen" = some m.cls := hown
  have hl : lv_has ls 6 [(0, .ref o), (1, .int x1), (2, .int x2)] := hl
  have hS : va_S (x_A base) s.heap s.heap [] := va_S.rf
  have hA : ∀ q : Nat, s.heap.size ≤ q → x_A base q := fun q h => Nat.le_trans hz h
  have hc : 0 + k ≤ k := by omega
  have hs : 0 + n ≤ n := by omega
  unfold w_X0_take at hw
  refine lv_aload_n hx hb dX0_take_0 rfl (lv_at hl 0 rfl) ?_
  refine lv_iload_n hx hb dX0_take_1 rfl (lv_at hl 1 rfl) ?_
  obtain ⟨ha, hw⟩ := hw
  refine x_ci (va_runV (As := [.int x1]) (rest := []) ⟨hx, hb, hml, hown, hts⟩ (mt_X0_isMan l hw) (cwV 1 hts (lw_V q252 q254 qs2 q64 q255) rfl rfl rfl hd_X0_isMan ⟨Nat.le_of_ble_eq_true rfl, Nat.le_of_ble_eq_true rfl⟩) ⟨x_Pc_blind, hR.recv hK (ci := 0) rfl (by decide) ha, x_Pc_pre hR hz hS hK⟩ rfl rfl hl.1 rfl (lv_room (Nat.le_of_ble_eq_true rfl)) dX0_take_2 ⟨by show _ ≤ k; omega, by show _ ≤ n; omega⟩) hS (fun r_1 S_2 H locs hp hR hS => ?_)
  have hw := hp.2
  rw [hp.1] at hR
  refine lv_if_eq (tgt := 22) hx hb dX0_take_5 (by decide) (fun c_3 => ?_) (fun c_3 => ?_)
  · have hw := x_t hw c_3
    refine lv_iconst (v := (-1)) hx hb dX0_take_22 (by decide) ?_
    refine W.widen (k := k) (n := n) (by omega) (by omega) ?_
    exact x_ri hx hb hr hlocks hR hS dX0_take_23 hw
  · have hw := x_f hw c_3
    refine lv_iload_n hx hb dX0_take_8 rfl (lv_at hl 2 rfl) ?_
    refine lv_bipush (v := (-9)) hx hb dX0_take_9 (by decide) ?_
    refine x_jn0 (G := ∀ (ls : Array Slot) (H : Heap) (locs : List Loc) (cK nK : Nat), cK + k ≤ k → nK + n ≤ n → x_Rp D d (x_A base) mc S H → va_S (x_A base) s.heap H locs → lv_has ls 6 [(0, .ref o), (1, .int x1), (2, .int x2)] → W p l e (x_rm 652 k n 11808) s m ([.ref o, .int x1, .int x2] : List Value).toArray below meth c H locs cK nK (MQ below (x_Qi D d base mc (fun r S' => Q r S')) ([.ref o, .int x1, .int x2] : List Value).toArray s k n (x_A base)) (F0 m 24 ls [])) hw (fun hw => ?_) (fun hJ_4 hw => ?_)
    · intro ls H locs cK nK hc hs hR hS hl
      refine lv_aload_n hx hb dX0_take_24 rfl (lv_at hl 0 rfl) ?_
      refine x_getR (ci := 0) (C := RX0) (T := TX0) (N := 19) (f := 52) hx hb hts in_X0 hown hK hR rfl 2 (by decide) (hts _ q114) (fun _ h => h) rfl (by decide) dX0_take_25 hw.1 ?_
      have hw := hw.2
      refine lv_iload_n hx hb dX0_take_28 rfl (lv_at hl 1 rfl) ?_
      obtain ⟨b_5, e_6, hw⟩ := hw
      refine x_dr1 e_6 ?_
      refine x_aald (t := 103) hx hb hK hR (by decide) rfl rfl dX0_take_29 hw.1 hw.2.1 ?_
      have hw := hw.2.2
      obtain ⟨b_7, e_8, hw⟩ := hw
      refine x_dr0 e_8 ?_
      refine lv_astore_n (lv' := [(3, .ref b_7), (0, .ref o), (1, .int x1), (2, .int x2)]) hx hb dX0_take_30 rfl hl (by decide) rfl (fun ls hl => ?_)
      refine lv_aload_n hx hb dX0_take_31 rfl (lv_at hl 0 rfl) ?_
      obtain ⟨ha, hw⟩ := hw
      refine x_ci (va_runV (As := []) (rest := []) ⟨hx, hb, hml, hown, hts⟩ (mt_X2_place l hw) (cwV 0 hts (lw_V q276 q277 q278 q66 q279) rfl rfl rfl hd_X2_place ⟨Nat.le_of_ble_eq_true rfl, Nat.le_of_ble_eq_true rfl⟩) ⟨x_Pc_blind, hR.recv hK (ci := 2) rfl (by decide) ha, x_Pc_pre hR hz hS hK⟩ rfl rfl hl.1 rfl (lv_room (Nat.le_of_ble_eq_true rfl)) dX0_take_32 ⟨by show _ ≤ k; omega, by show _ ≤ n; omega⟩) hS (fun r_9 S_10 H locs hp hR hS => ?_)
      have hw := hp.2
      rw [hp.1] at hR
      refine lv_bipush (v := 10) hx hb dX0_take_35 (by decide) ?_
      refine x_jn0 (G := ∀ (ls : Array Slot) (H : Heap) (locs : List Loc) (cK nK : Nat), cK + k ≤ k → nK + n ≤ n → x_Rp D d (x_A base) mc S H → va_S (x_A base) s.heap H locs → lv_has ls 6 [(0, .ref o), (1, .int x1), (2, .int x2), (3, .ref b_7)] → W p l e (x_rm 652 k n 11808) s m ([.ref o, .int x1, .int x2] : List Value).toArray below meth c H locs cK nK (MQ below (x_Qi D d base mc (fun r S' => Q r S')) ([.ref o, .int x1, .int x2] : List Value).toArray s k n (x_A base)) (F0 m 55 ls [])) hw (fun hw => ?_) (fun hJ_11 hw => ?_)
      · intro ls H locs cK nK hc hs hR hS hl
        refine lv_aload_n hx hb dX0_take_55 rfl (lv_at hl 0 rfl) ?_
        refine x_getI (ci := 0) (C := RX0) (T := TX0) (N := 19) (f := 62) hx hb hts in_X0 hown hK hR rfl 12 (by decide) (hts _ q125) (fun _ h => h) rfl (by decide) dX0_take_56 hw.1 ?_
        have hw := hw.2
        refine lv_bipush (v := 60) hx hb dX0_take_59 (by decide) ?_
        refine lv_icmp_ne (tgt := 67) hx hb dX0_take_61 (by decide) (fun c_12 => ?_) (fun c_12 => ?_)
        · have hw := x_f hw c_12
          refine lv_aload_n hx hb dX0_take_67 rfl (lv_at hl 0 rfl) ?_
          obtain ⟨ha, hw⟩ := hw
          obtain ⟨k_13, n_14, h1, h2, hw⟩ := hw
          refine x_cq (va_runV (As := []) (rest := []) ⟨hx, hb, hml, hown, hts⟩ (mt_X0_law l hw) (cwV 0 hts (lw_V q571 q573 qs19 q64 q574) rfl rfl rfl hd_X0_law ⟨Nat.le_of_ble_eq_true rfl, Nat.le_of_ble_eq_true rfl⟩) ⟨x_Pc_blind, hR.recv hK (ci := 0) rfl (by decide) ha, x_Pc_pre hR hz hS hK⟩ rfl rfl hl.1 rfl (lv_room (Nat.le_of_ble_eq_true rfl)) dX0_take_68 ⟨by show _ ≤ k; omega, by show _ ≤ n; omega⟩) hS (fun r_15 S_16 H locs hp hR hS => ?_)
          have hw := hp
          have hc : (cK + k_13) + (k - k_13) ≤ k := by omega
          have hs : (nK + n_14) + (n - n_14) ≤ n := by omega
          refine x_astore (lv' := [(4, va_rf r_15), (0, .ref o), (1, .int x1), (2, .int x2), (3, .ref b_7)]) (r := r_15) hx hb dX0_take_71 hl (by decide) rfl (fun ls hl => ?_)
          obtain ⟨h1, h2, hw⟩ := hw
          refine x_new (ci := 16) (C := RX16) (T := TX16) (N := 6) hx hb hts in_X16 tyX16 tyX16_ok hown (hts _ q103) (hts _ q654) (hts _ q81) hK hR hS hA rfl (by decide) dfX16 dX0_take_73 (by show _ ≤ k; omega) (by show _ ≤ n; omega) (fun a_17 H hf hR hS => ?_)
          have hw := hw a_17 hf
          have hc : ((cK + k_13) + 1) + ((k - k_13) - 1) ≤ k := by omega
          have hs : ((nK + n_14) + 6) + ((n - n_14) - 6) ≤ n := by omega
          obtain ⟨S_18, eS_18⟩ : ∃ z, z = (sN S_16 a_17 17) := ⟨_, rfl⟩
          rw [← eS_18] at hR
          have hw := hw S_18 eS_18
          refine lv_dup hx hb dX0_take_76 rfl ?_
          refine lv_aload_n hx hb dX0_take_77 rfl (lv_at hl 1 rfl) ?_
          refine x_getI (ci := 0) (C := RX0) (T := TX0) (N := 19) (f := 54) hx hb hts in_X0 hown hK hR rfl 4 (by decide) (hts _ q117) (fun _ h => h) rfl (by decide) dX0_take_78 hw.1 ?_
          have hw := hw.2
          refine lv_iload_n hx hb dX0_take_81 rfl (lv_at hl 2 rfl) ?_
          refine lv_iload_n hx hb dX0_take_82 rfl (lv_at hl 3 rfl) ?_
          refine lv_aload_n hx hb dX0_take_83 rfl (lv_at hl 4 rfl) ?_
          obtain ⟨ha, hw⟩ := hw
          refine x_ci (va_runV (As := []) (rest := [.int x2, .int x1, .int (xI S_18 54 o), .ref a_17, .ref a_17]) ⟨hx, hb, hml, hown, hts⟩ (mt_X2_place l hw) (cwV 0 hts (lw_V q276 q277 q278 q66 q279) rfl rfl rfl hd_X2_place ⟨Nat.le_of_ble_eq_true rfl, Nat.le_of_ble_eq_true rfl⟩) ⟨x_Pc_blind, hR.recv hK (ci := 2) rfl (by decide) ha, x_Pc_pre hR hz hS hK⟩ rfl rfl hl.1 rfl (lv_room (Nat.le_of_ble_eq_true rfl)) dX0_take_84 ⟨by show _ ≤ k; omega, by show _ ≤ n; omega⟩) hS (fun r_19 S_20 H locs hp hR hS => ?_)
          have hw := hp.2
          rw [hp.1] at hR
          refine lv_aload_n hx hb dX0_take_87 rfl (lv_at hl 1 rfl) ?_
          refine x_aload hx hb dX0_take_88 (lv_at hl 0 rfl) ?_
          refine lv_aload_n hx hb dX0_take_90 rfl (lv_at hl 4 rfl) ?_
          refine lv_iload_n hx hb dX0_take_91 rfl (lv_at hl 3 rfl) ?_
          obtain ⟨ha, hw⟩ := hw
          refine x_ci (va_runV (As := [va_rf r_15, .ref b_7, .int x2]) (rest := [.int r_19, .int x2, .int x1, .int (xI S_18 54 o), .ref a_17, .ref a_17]) ⟨hx, hb, hml, hown, hts⟩ (mt_X0_mayShown l hw) (cwV 3 hts (lw_V q575 q577 qs20 q64 q578) rfl rfl rfl hd_X0_mayShown ⟨Nat.le_of_ble_eq_true rfl, Nat.le_of_ble_eq_true rfl⟩) ⟨x_Pc_blind, hR.recv hK (ci := 0) rfl (by decide) ha, x_Pc_pre hR hz hS hK⟩ rfl rfl hl.1 rfl (lv_room (Nat.le_of_ble_eq_true rfl)) dX0_take_92 ⟨by show _ ≤ k; omega, by show _ ≤ n; omega⟩) hS (fun r_21 S_22 H locs hp hR hS => ?_)
          have hw := hp.2
          rw [hp.1] at hR
          refine x_aload hx hb dX0_take_95 (lv_at hl 0 rfl) ?_
          refine lv_aload_n hx hb dX0_take_97 rfl (lv_at hl 4 rfl) ?_
          refine lv_aload_n hx hb dX0_take_98 rfl (lv_at hl 1 rfl) ?_
          refine lv_aload_n hx hb dX0_take_99 rfl (lv_at hl 4 rfl) ?_
          obtain ⟨ha, hw⟩ := hw
          refine x_ci (x_runV9 (As := [.ref b_7]) (rest := [.ref b_7, va_rf r_15, .int r_21, .int r_19, .int x2, .int x1, .int (xI S_18 54 o), .ref a_17, .ref a_17]) ⟨hx, hb, hml, hown, hts⟩ (mt_X0_isCoveredTruly l hw) (cwV 1 hts (lw_V q642 q644 qs21 q64 q645) rfl rfl rfl hd_X0_isCoveredTruly ⟨Nat.le_of_ble_eq_true rfl, Nat.le_of_ble_eq_true rfl⟩) (Nat.le_of_ble_eq_true rfl) ⟨x_Pc_blind, hR.recv hK (ci := 0) rfl (by decide) ha, x_Pc_pre hR hz hS hK⟩ rfl rfl hl.1 rfl (x_room9 (by simp only [List.map_cons, List.map_nil, x_cat]; exact Nat.le_of_ble_eq_true rfl)) dX0_take_100 ⟨by show _ ≤ k; omega, by show _ ≤ n; omega⟩) hS (fun r_23 S_24 H locs hp hR hS => ?_)
          have hw := hp.2
          rw [hp.1] at hR
          refine x_ci (va_runS (As := [va_rf r_15, .ref b_7, .int r_23]) (rest := [.int r_21, .int r_19, .int x2, .int x1, .int (xI S_18 54 o), .ref a_17, .ref a_17]) ⟨hx, hb, hml, hown, hts⟩ (mt_X0_mayBe l hw) (va_cwS 3 hts (lw_S q579 q580 q64 q581) rfl rfl rfl hd_X0_mayBe.2 ⟨Nat.le_of_ble_eq_true rfl, Nat.le_of_ble_eq_true rfl⟩) ⟨x_Pc_blind, x_Pc_pre hR hz hS hK⟩ rfl rfl hl.1 rfl (lv_room (Nat.le_of_ble_eq_true rfl)) dX0_take_103 ⟨by show _ ≤ k; omega, by show _ ≤ n; omega⟩) hS (fun r_25 S_26 H locs hp hR hS => ?_)
          have hw := hp.2
          rw [hp.1] at hR
          refine x_cv (va_runI (As := [.int (xI S_18 54 o), .int x1, .int x2, .int r_19, .int r_21, .int r_25]) (rest := [.ref a_17]) ⟨hx, hb, hml, hown, hts⟩ (mt_X16_init l hw) (cwI 6 hts (lw_meth q657) rfl rfl rfl (hts _ q81) (hts _ q655) (hts _ q656) rfl hd_X16_init.2 ⟨Nat.le_of_ble_eq_true rfl, Nat.le_of_ble_eq_true rfl⟩) ⟨x_Pc_blind, x_Pc_pre hR hz hS hK⟩ rfl rfl hl.1 rfl (lv_room (Nat.le_of_ble_eq_true rfl)) dX0_take_106 ⟨by show _ ≤ k; omega, by show _ ≤ n; omega⟩) hS (fun S_27 H locs hp hR hS => ?_)
          have hw := hp
          refine lv_astore (i := 5) (lv' := [(5, .ref a_17), (4, va_rf r_15), (0, .ref o), (1, .int x1), (2, .int x2), (3, .ref b_7)]) hx hb dX0_take_109 hl (by decide) (by simp [x_cat]) (fun ls hl => ?_)
          refine lv_aload_n hx hb dX0_take_111 rfl (lv_at hl 2 rfl) ?_
          refine x_getR (ci := 0) (C := RX0) (T := TX0) (N := 19) (f := 61) hx hb hts in_X0 hown hK hR rfl 11 (by decide) (hts _ q124) (fun _ h => h) rfl (by decide) dX0_take_112 hw.1 ?_
          have hw := hw.2
          refine lv_aload_n hx hb dX0_take_115 rfl (lv_at hl 2 rfl) ?_
          refine x_getI (ci := 0) (C := RX0) (T := TX0) (N := 19) (f := 62) hx hb hts in_X0 hown hK hR rfl 12 (by decide) (hts _ q125) (fun _ h => h) rfl (by decide) dX0_take_116 hw.1 ?_
          have hw := hw.2
          refine lv_aload hx hb dX0_take_119 (lv_at hl 0 rfl) ?_
          obtain ⟨b_28, e_29, hw⟩ := hw
          refine x_dr2 e_29 ?_
          refine x_aast (t := 106) (ci := 16) hx hb hK hR hS (by decide) rfl (by decide) rfl dX0_take_121 hw.1 hw.2.1 hw.2.2.1 (fun H locs hR hS => ?_)
          have hw := hw.2.2.2
          obtain ⟨S_30, eS_30⟩ : ∃ z, z = (sQ S_27 b_28 (Int32.toNatClampNeg (xI S_27 62 o)) (some a_17)) := ⟨_, rfl⟩
          rw [← eS_30] at hR
          have hw := hw S_30 eS_30
          refine lv_aload_n hx hb dX0_take_122 rfl (lv_at hl 2 rfl) ?_
          refine lv_dup hx hb dX0_take_123 rfl ?_
          refine x_getI (ci := 0) (C := RX0) (T := TX0) (N := 19) (f := 62) hx hb hts in_X0 hown hK hR rfl 12 (by decide) (hts _ q125) (fun _ h => h) rfl (by decide) dX0_take_124 hw.1 ?_
          have hw := hw.2
          refine lv_iconst (v := 1) hx hb dX0_take_127 (by decide) ?_
          refine lv_iadd hx hb dX0_take_128 ?_
          refine x_putI (ci := 0) (C := RX0) (T := TX0) (N := 19) (f := 62) hx hb hts in_X0 tyX0 tyX0_ok nmX0 hown hK hR hS rfl 12 (by decide) (hts _ q125) (fun _ h => h) rfl rfl (by decide) rfl rfl dX0_take_129 hw.1 (fun H locs hR hS => ?_)
          have hw := hw.2
          obtain ⟨S_31, eS_31⟩ : ∃ z, z = (sI S_30 62 o ((xI S_30 62 o) + 1)) := ⟨_, rfl⟩
          rw [← eS_31] at hR
          have hw := hw S_31 eS_31
          refine lv_aload_n hx hb dX0_take_132 rfl (lv_at hl 5 rfl) ?_
          refine lv_aload hx hb dX0_take_133 (lv_at hl 0 rfl) ?_
          refine x_putNR (ci := 2) (C := RX2) (T := TX2) (N := 5) (f := 153) (r := (some a_17)) hx hb hts in_X2 tyX2 tyX2_ok nmX2 hown hK hR hS rfl 3 (by decide) (hK.2 _ q234 rfl) (fun _ h => h) rfl rfl (by decide) (x_rn _ _) (x_rf _ _) dX0_take_135 hw.1 (fun H locs hR hS => ?_)
          have hw := hw.2
          obtain ⟨S_32, eS_32⟩ : ∃ z, z = (sR S_31 153 b_7 (some a_17)) := ⟨_, rfl⟩
          rw [← eS_32] at hR
          have hw := hw S_32 eS_32
          refine lv_aload_n hx hb dX0_take_138 rfl (lv_at hl 5 rfl) ?_
          refine lv_aload_n hx hb dX0_take_139 rfl (lv_at hl 2 rfl) ?_
          refine x_getI (ci := 0) (C := RX0) (T := TX0) (N := 19) (f := 54) hx hb hts in_X0 hown hK hR rfl 4 (by decide) (hts _ q117) (fun _ h => h) rfl (by decide) dX0_take_140 hw.1 ?_
          have hw := hw.2
          refine lv_bipush (v := 20) hx hb dX0_take_143 (by decide) ?_
          obtain ⟨ha, hw⟩ := hw
          obtain ⟨k_33, n_34, h1, h2, hw⟩ := hw
          refine x_cv (va_runV (As := [.int (xI S_32 54 o), .int 20]) (rest := []) ⟨hx, hb, hml, hown, hts⟩ (mt_X2_go l hw) (cwV 2 hts (lw_V q311 q312 q313 q66 q314) rfl rfl rfl hd_X2_go ⟨Nat.le_of_ble_eq_true rfl, Nat.le_of_ble_eq_true rfl⟩) ⟨x_Pc_blind, hR.recv hK (ci := 2) rfl (by decide) ha, x_Pc_pre hR hz hS hK⟩ rfl rfl hl.1 rfl (lv_room (Nat.le_of_ble_eq_true rfl)) dX0_take_145 ⟨by show _ ≤ k; omega, by show _ ≤ n; omega⟩) hS (fun S_35 H locs hp hR hS => ?_)
          have hw := hp
          have hc : (((cK + k_13) + 1) + k_33) + (((k - k_13) - 1) - k_33) ≤ k := by omega
          have hs : (((nK + n_14) + 6) + n_34) + (((n - n_14) - 6) - n_34) ≤ n := by omega
          refine lv_aload_n hx hb dX0_take_148 rfl (lv_at hl 2 rfl) ?_
          refine x_getI (ci := 0) (C := RX0) (T := TX0) (N := 19) (f := 62) hx hb hts in_X0 hown hK hR rfl 12 (by decide) (hts _ q125) (fun _ h => h) rfl (by decide) dX0_take_149 hw.1 ?_
          have hw := hw.2
          refine lv_iconst (v := 1) hx hb dX0_take_152 (by decide) ?_
          refine lv_isub hx hb dX0_take_153 ?_
          refine W.widen (k := k) (n := n) (by omega) (by omega) ?_
          exact x_ri hx hb hr hlocks hR hS dX0_take_154 hw
        · have hw := x_t hw c_12
          refine lv_bipush (v := (-4)) hx hb dX0_take_64 (by decide) ?_
          refine W.widen (k := k) (n := n) (by omega) (by omega) ?_
          exact x_ri hx hb hr hlocks hR hS dX0_take_66 hw
      · refine lv_icmp_lt (tgt := 55) hx hb dX0_take_37 (by decide) (fun c_36 => ?_) (fun c_36 => ?_)
        · have hw := x_t hw c_36
          exact hJ_11  hw ls _ _ _ _ hc hs hR hS (lv_sub hl [1, 2, 3, 0] rfl)
        · have hw := x_f hw c_36
          refine lv_aload_n hx hb dX0_take_40 rfl (lv_at hl 1 rfl) ?_
          refine lv_aload_n hx hb dX0_take_41 rfl (lv_at hl 0 rfl) ?_
          obtain ⟨ha, hw⟩ := hw
          refine x_ci (va_runV (As := []) (rest := [.ref o]) ⟨hx, hb, hml, hown, hts⟩ (mt_X2_place l hw) (cwV 0 hts (lw_V q276 q277 q278 q66 q279) rfl rfl rfl hd_X2_place ⟨Nat.le_of_ble_eq_true rfl, Nat.le_of_ble_eq_true rfl⟩) ⟨x_Pc_blind, hR.recv hK (ci := 2) rfl (by decide) ha, x_Pc_pre hR hz hS hK⟩ rfl rfl hl.1 rfl (lv_room (Nat.le_of_ble_eq_true rfl)) dX0_take_42 ⟨by show _ ≤ k; omega, by show _ ≤ n; omega⟩) hS (fun r_37 S_38 H locs hp hR hS => ?_)
          have hw := hp.2
          rw [hp.1] at hR
          refine lv_iconst (v := 1) hx hb dX0_take_45 (by decide) ?_
          obtain ⟨ha, hw⟩ := hw
          refine x_ci (va_runV (As := [.int r_37, .int 1]) (rest := []) ⟨hx, hb, hml, hown, hts⟩ (mt_X0_isHomeShip l hw) (cwV 2 hts (lw_V q650 q652 qs22 q64 q653) rfl rfl rfl hd_X0_isHomeShip ⟨Nat.le_of_ble_eq_true rfl, Nat.le_of_ble_eq_true rfl⟩) ⟨x_Pc_blind, hR.recv hK (ci := 0) rfl (by decide) ha, x_Pc_pre hR hz hS hK⟩ rfl rfl hl.1 rfl (lv_room (Nat.le_of_ble_eq_true rfl)) dX0_take_46 ⟨by show _ ≤ k; omega, by show _ ≤ n; omega⟩) hS (fun r_39 S_40 H locs hp hR hS => ?_)
          have hw := hp.2
          rw [hp.1] at hR
          refine lv_if_ne (tgt := 55) hx hb dX0_take_49 (by decide) (fun c_41 => ?_) (fun c_41 => ?_)
          · have hw := x_f hw c_41
            exact hJ_11  hw ls _ _ _ _ hc hs hR hS (lv_sub hl [1, 2, 3, 0] rfl)
          · have hw := x_t hw c_41
            refine lv_bipush (v := (-3)) hx hb dX0_take_52 (by decide) ?_
            refine W.widen (k := k) (n := n) (by omega) (by omega) ?_
            exact x_ri hx hb hr hlocks hR hS dX0_take_54 hw
    · refine lv_icmp_eq (tgt := 24) hx hb dX0_take_11 (by decide) (fun c_42 => ?_) (fun c_42 => ?_)
      · have hw := x_t hw c_42
        exact hJ_4  hw ls _ _ _ _ hc hs hR hS (lv_sub hl [0, 1, 2] rfl)
      · have hw := x_f hw c_42
        refine lv_aload_n hx hb dX0_take_14 rfl (lv_at hl 0 rfl) ?_
        refine lv_iload_n hx hb dX0_take_15 rfl (lv_at hl 2 rfl) ?_
        obtain ⟨ha, hw⟩ := hw
        refine x_ci (va_runV (As := [.int x2]) (rest := []) ⟨hx, hb, hml, hown, hts⟩ (mt_X0_isPaper l hw) (cwV 1 hts (lw_V q371 q373 qs8 q64 q374) rfl rfl rfl hd_X0_isPaper ⟨Nat.le_of_ble_eq_true rfl, Nat.le_of_ble_eq_true rfl⟩) ⟨x_Pc_blind, hR.recv hK (ci := 0) rfl (by decide) ha, x_Pc_pre hR hz hS hK⟩ rfl rfl hl.1 rfl (lv_room (Nat.le_of_ble_eq_true rfl)) dX0_take_16 ⟨by show _ ≤ k; omega, by show _ ≤ n; omega⟩) hS (fun r_43 S_44 H locs hp hR hS => ?_)
        have hw := hp.2
        rw [hp.1] at hR
        refine lv_if_ne (tgt := 24) hx hb dX0_take_19 (by decide) (fun c_45 => ?_) (fun c_45 => ?_)
        · have hw := x_f hw c_45
          exact hJ_4  hw ls _ _ _ _ hc hs hR hS (lv_sub hl [0, 1, 2] rfl)
        · have hw := x_t hw c_45
          refine lv_iconst (v := (-1)) hx hb dX0_take_22 (by decide) ?_
          refine W.widen (k := k) (n := n) (by omega) (by omega) ?_
          exact x_ri hx hb hr hlocks hR hS dX0_take_23 hw
theorem hd_X17_init : yX17_init.cls = "PressedMen$Laying" ∧ yX17_init.cls ≠ "java/lang/invoke/MethodHandle" ∧ yX17_init.cls ≠ "java/lang/invoke/VarHandle" ∧ (parseMethodDescriptor yX17_init.desc).map (fun d => d.parameters.length) = some 3 := by decide +kernel
set_option maxHeartbeats 4000000 in
theorem mt_X17_init (l : Launch) {D : va_G} {d : Nat → ClassId} {base : Nat} {mc : va_W} {S : xH} {k n : Nat} {o : Nat} {x1 : Nat} {x2 : Int32} {x3 : Int32} {Q : xH → Prop} (hw : w_X17_init k n S o x1 x2 x3 Q) : Met l yX17_init (ws_ yX17_init cX17_init 7 none) (x_rm 652 k n 11808) (x_Pc D d base mc S [.ref o, .ref x1, .int x2, .int x3]) (x_Qv D d base mc (fun S' => Q S')) k n (x_A base) := by
  refine x_met (by decide) (Nat.le_of_ble_eq_true rfl) ?_
  intro p e s m below meth c hx hb hml hr hlocks hown hts hz hR hK hin ls hl
  have hown : s.vm.findClass "PressedMen$Laying" = some m.cls := hown
  have hl : lv_has ls 7 [(0, .ref o), (1, .ref x1), (2, .int x2), (3, .int x3)] := hl
  have hS : va_S (x_A base) s.heap s.heap [] := va_S.rf
  have hA : ∀ q : Nat, s.heap.size ≤ q → x_A base q := fun q h => Nat.le_trans hz h
  have hc : 0 + k ≤ k := by omega
  have hs : 0 + n ≤ n := by omega
  unfold w_X17_init at hw
  refine lv_aload_n hx hb dX17_init_0 rfl (lv_at hl 0 rfl) ?_
  refine lv_aload_n hx hb dX17_init_1 rfl (lv_at hl 1 rfl) ?_
  refine x_putFR (ci := 17) (C := RX17) (T := TX17) (N := 10) (f := 909) (r := (some x1)) hx hb hts in_X17 tyX17 tyX17_ok nmX17 hown hK hR hS rfl 9 (by decide) (hts _ q763) (fun _ h => h) rfl hin rfl rfl (by decide) (x_rn _ _) (x_rf _ _) dX17_init_2 hw.1 (fun H locs hR hS => ?_)
  have hw := hw.2
  obtain ⟨S_1, eS_1⟩ : ∃ z, z = (sR S 909 o (some x1)) := ⟨_, rfl⟩
  rw [← eS_1] at hR
  have hw := hw S_1 eS_1
  refine lv_aload_n hx hb dX17_init_5 rfl (lv_at hl 0 rfl) ?_
  refine W.objInit hx hb hown (hts _ q725) (hts _ q93) (hts _ q94) rfl (by rw [hml]; exact hl.1) rfl dX17_init_6 (Nat.le_of_ble_eq_true rfl) (Nat.le_of_ble_eq_true rfl) ?_
  refine W.eq (g2 := F0 m 9 ls []) rfl ?_
  refine lv_aload_n hx hb dX17_init_9 rfl (lv_at hl 0 rfl) ?_
  refine lv_bipush (v := 8) hx hb dX17_init_10 (by decide) ?_
  obtain ⟨h1, h2, hw⟩ := hw
  refine x_newa (atype := .int) (t := 101) (N' := 8) hx hb rfl (by decide) (by decide) rfl rfl (fun _ => rfl) (hts _ q173) hK hR hS hA dX17_init_12 (by decide) (by decide) (by decide) (by show _ ≤ k; omega) (by show _ ≤ n; omega) (fun a_2 H hf hR hS => ?_)
  have hw := hw a_2 hf
  have hc : (0 + 1) + (k - 1) ≤ k := by omega
  have hs : (0 + 8) + (n - 8) ≤ n := by omega
  obtain ⟨S_3, eS_3⟩ : ∃ z, z = (sV S_1 a_2 101 8) := ⟨_, rfl⟩
  rw [← eS_3] at hR
  have hw := hw S_3 eS_3
  refine x_putFR (ci := 17) (C := RX17) (T := TX17) (N := 10) (f := 902) (r := (some a_2)) hx hb hts in_X17 tyX17 tyX17_ok nmX17 hown hK hR hS rfl 2 (by decide) (hts _ q754) (fun _ h => h) rfl hin rfl rfl (by decide) (x_rnA _ _) (x_rfA _ _) dX17_init_14 hw.1 (fun H locs hR hS => ?_)
  have hw := hw.2
  obtain ⟨S_4, eS_4⟩ : ∃ z, z = (sR S_3 902 o (some a_2)) := ⟨_, rfl⟩
  rw [← eS_4] at hR
  have hw := hw S_4 eS_4
  refine lv_aload_n hx hb dX17_init_17 rfl (lv_at hl 0 rfl) ?_
  refine lv_bipush (v := 8) hx hb dX17_init_18 (by decide) ?_
  obtain ⟨h1, h2, hw⟩ := hw
  refine x_newqA (N' := 8) hx hb hown (hts _ q726) (hK.2 _ q727 rfl) hK hR hS hA dX17_init_20 (by decide) (by decide) (by decide) (by show _ ≤ k; omega) (by show _ ≤ n; omega) (fun a_5 H hf hR hS => ?_)
  have hw := hw a_5 hf
  have hc : ((0 + 1) + 1) + ((k - 1) - 1) ≤ k := by omega
  have hs : ((0 + 8) + 8) + ((n - 8) - 8) ≤ n := by omega
  obtain ⟨S_6, eS_6⟩ : ∃ z, z = (sV S_4 a_5 110 8) := ⟨_, rfl⟩
  rw [← eS_6] at hR
  have hw := hw S_6 eS_6
  refine x_putFR (ci := 17) (C := RX17) (T := TX17) (N := 10) (f := 903) (r := (some a_5)) hx hb hts in_X17 tyX17 tyX17_ok nmX17 hown hK hR hS rfl 3 (by decide) (hts _ q755) (fun _ h => h) rfl hin rfl rfl (by decide) (x_rnA _ _) (x_rfA _ _) dX17_init_23 hw.1 (fun H locs hR hS => ?_)
  have hw := hw.2
  obtain ⟨S_7, eS_7⟩ : ∃ z, z = (sR S_6 903 o (some a_5)) := ⟨_, rfl⟩
  rw [← eS_7] at hR
  have hw := hw S_7 eS_7
  refine lv_aload_n hx hb dX17_init_26 rfl (lv_at hl 0 rfl) ?_
  refine lv_bipush (v := (-9)) hx hb dX17_init_27 (by decide) ?_
  refine x_putI (ci := 17) (C := RX17) (T := TX17) (N := 10) (f := 906) hx hb hts in_X17 tyX17 tyX17_ok nmX17 hown hK hR hS rfl 6 (by decide) (hts _ q759) (fun _ h => h) rfl rfl (by decide) rfl rfl dX17_init_29 hw.1 (fun H locs hR hS => ?_)
  have hw := hw.2
  obtain ⟨S_8, eS_8⟩ : ∃ z, z = (sI S_7 906 o (-9)) := ⟨_, rfl⟩
  rw [← eS_8] at hR
  have hw := hw S_8 eS_8
  refine lv_aload_n hx hb dX17_init_32 rfl (lv_at hl 0 rfl) ?_
  refine lv_bipush (v := 8) hx hb dX17_init_33 (by decide) ?_
  obtain ⟨h1, h2, hw⟩ := hw
  refine x_newa (atype := .int) (t := 101) (N' := 8) hx hb rfl (by decide) (by decide) rfl rfl (fun _ => rfl) (hts _ q173) hK hR hS hA dX17_init_35 (by decide) (by decide) (by decide) (by show _ ≤ k; omega) (by show _ ≤ n; omega) (fun a_9 H hf hR hS => ?_)
  have hw := hw a_9 hf
  have hc : (((0 + 1) + 1) + 1) + (((k - 1) - 1) - 1) ≤ k := by omega
  have hs : (((0 + 8) + 8) + 8) + (((n - 8) - 8) - 8) ≤ n := by omega
  obtain ⟨S_10, eS_10⟩ : ∃ z, z = (sV S_8 a_9 101 8) := ⟨_, rfl⟩
  rw [← eS_10] at hR
  have hw := hw S_10 eS_10
  refine x_putFR (ci := 17) (C := RX17) (T := TX17) (N := 10) (f := 908) (r := (some a_9)) hx hb hts in_X17 tyX17 tyX17_ok nmX17 hown hK hR hS rfl 8 (by decide) (hts _ q762) (fun _ h => h) rfl hin rfl rfl (by decide) (x_rnA _ _) (x_rfA _ _) dX17_init_37 hw.1 (fun H locs hR hS => ?_)
  have hw := hw.2
  obtain ⟨S_11, eS_11⟩ : ∃ z, z = (sR S_10 908 o (some a_9)) := ⟨_, rfl⟩
  rw [← eS_11] at hR
  have hw := hw S_11 eS_11
  refine lv_aload_n hx hb dX17_init_40 rfl (lv_at hl 0 rfl) ?_
  refine lv_iload_n hx hb dX17_init_41 rfl (lv_at hl 2 rfl) ?_
  refine x_putFI (ci := 17) (C := RX17) (T := TX17) (N := 10) (f := 900) hx hb hts in_X17 tyX17 tyX17_ok nmX17 hown hK hR hS rfl 0 (by decide) (hts _ q752) (fun _ h => h) rfl hin rfl rfl (by decide) rfl rfl dX17_init_42 hw.1 (fun H locs hR hS => ?_)
  have hw := hw.2
  obtain ⟨S_12, eS_12⟩ : ∃ z, z = (sI S_11 900 o x2) := ⟨_, rfl⟩
  rw [← eS_12] at hR
  have hw := hw S_12 eS_12
  refine lv_aload_n hx hb dX17_init_45 rfl (lv_at hl 0 rfl) ?_
  refine lv_iload_n hx hb dX17_init_46 rfl (lv_at hl 3 rfl) ?_
  refine x_putFI (ci := 17) (C := RX17) (T := TX17) (N := 10) (f := 901) hx hb hts in_X17 tyX17 tyX17_ok nmX17 hown hK hR hS rfl 1 (by decide) (hts _ q753) (fun _ h => h) rfl hin rfl rfl (by decide) rfl rfl dX17_init_47 hw.1 (fun H locs hR hS => ?_)
  have hw := hw.2
  obtain ⟨S_13, eS_13⟩ : ∃ z, z = (sI S_12 901 o x3) := ⟨_, rfl⟩
  rw [← eS_13] at hR
  have hw := hw S_13 eS_13
  refine lv_aload_n hx hb dX17_init_50 rfl (lv_at hl 0 rfl) ?_
  refine lv_iload_n hx hb dX17_init_51 rfl (lv_at hl 2 rfl) ?_
  refine lv_iload_n hx hb dX17_init_52 rfl (lv_at hl 3 rfl) ?_
  refine lv_imul hx hb dX17_init_53 ?_
  obtain ⟨g1, g2, h1, h2, hw⟩ := hw
  refine x_newa (atype := .int) (t := 101) (N' := (Int32.toNatClampNeg (x2 * x3))) hx hb rfl (by decide) (by decide) rfl rfl (fun _ => rfl) (hts _ q173) hK hR hS hA dX17_init_54 g1 rfl g2 (by show _ ≤ k; omega) (by show _ ≤ n; omega) (fun a_14 H hf hR hS => ?_)
  have hw := hw a_14 hf
  have hc : ((((0 + 1) + 1) + 1) + 1) + ((((k - 1) - 1) - 1) - 1) ≤ k := by omega
  have hs : ((((0 + 8) + 8) + 8) + (Int32.toNatClampNeg (x2 * x3))) + ((((n - 8) - 8) - 8) - (Int32.toNatClampNeg (x2 * x3))) ≤ n := by omega
  obtain ⟨S_15, eS_15⟩ : ∃ z, z = (sV S_13 a_14 101 (Int32.toNatClampNeg (x2 * x3))) := ⟨_, rfl⟩
  rw [← eS_15] at hR
  have hw := hw S_15 eS_15
  refine x_putFR (ci := 17) (C := RX17) (T := TX17) (N := 10) (f := 904) (r := (some a_14)) hx hb hts in_X17 tyX17 tyX17_ok nmX17 hown hK hR hS rfl 4 (by decide) (hts _ q756) (fun _ h => h) rfl hin rfl rfl (by decide) (x_rnA _ _) (x_rfA _ _) dX17_init_56 hw.1 (fun H locs hR hS => ?_)
  have hw := hw.2
  obtain ⟨S_16, eS_16⟩ : ∃ z, z = (sR S_15 904 o (some a_14)) := ⟨_, rfl⟩
  rw [← eS_16] at hR
  have hw := hw S_16 eS_16
  refine lv_aload_n hx hb dX17_init_59 rfl (lv_at hl 0 rfl) ?_
  refine lv_iload_n hx hb dX17_init_60 rfl (lv_at hl 2 rfl) ?_
  refine lv_iload_n hx hb dX17_init_61 rfl (lv_at hl 3 rfl) ?_
  refine lv_imul hx hb dX17_init_62 ?_
  obtain ⟨g1, g2, h1, h2, hw⟩ := hw
  refine x_newa (atype := .int) (t := 101) (N' := (Int32.toNatClampNeg (x2 * x3))) hx hb rfl (by decide) (by decide) rfl rfl (fun _ => rfl) (hts _ q173) hK hR hS hA dX17_init_63 g1 rfl g2 (by show _ ≤ k; omega) (by show _ ≤ n; omega) (fun a_17 H hf hR hS => ?_)
  have hw := hw a_17 hf
  have hc : (((((0 + 1) + 1) + 1) + 1) + 1) + (((((k - 1) - 1) - 1) - 1) - 1) ≤ k := by omega
  have hs : (((((0 + 8) + 8) + 8) + (Int32.toNatClampNeg (x2 * x3))) + (Int32.toNatClampNeg (x2 * x3))) + (((((n - 8) - 8) - 8) - (Int32.toNatClampNeg (x2 * x3))) - (Int32.toNatClampNeg (x2 * x3))) ≤ n := by omega
  obtain ⟨S_18, eS_18⟩ : ∃ z, z = (sV S_16 a_17 101 (Int32.toNatClampNeg (x2 * x3))) := ⟨_, rfl⟩
  rw [← eS_18] at hR
  have hw := hw S_18 eS_18
  refine x_putFR (ci := 17) (C := RX17) (T := TX17) (N := 10) (f := 905) (r := (some a_17)) hx hb hts in_X17 tyX17 tyX17_ok nmX17 hown hK hR hS rfl 5 (by decide) (hts _ q757) (fun _ h => h) rfl hin rfl rfl (by decide) (x_rnA _ _) (x_rfA _ _) dX17_init_65 hw.1 (fun H locs hR hS => ?_)
  have hw := hw.2
  obtain ⟨S_19, eS_19⟩ : ∃ z, z = (sR S_18 905 o (some a_17)) := ⟨_, rfl⟩
  rw [← eS_19] at hR
  have hw := hw S_19 eS_19
  refine lv_aload_n hx hb dX17_init_68 rfl (lv_at hl 1 rfl) ?_
  obtain ⟨ha, hw⟩ := hw
  obtain ⟨k_20, n_21, h1, h2, hw⟩ := hw
  refine x_cq (va_runVN (As := []) (rest := []) ⟨hx, hb, hml, hown, hts⟩ (mt_X0_law l hw) ⟨va_cnB 0 hts (lw_meth q574) rfl rfl rfl (hK.2 _ q728 rfl) (hts _ q64) hd_X0_law.2 ⟨Nat.le_of_ble_eq_true rfl, Nat.le_of_ble_eq_true rfl⟩, hts _ q573, hts _ qs19⟩ ⟨x_Pc_blind, hR.recv hK (ci := 0) rfl (by decide) ha, x_Pc_pre hR hz hS hK⟩ rfl rfl hl.1 rfl (lv_room (Nat.le_of_ble_eq_true rfl)) dX17_init_69 ⟨by show _ ≤ k; omega, by show _ ≤ n; omega⟩) hS (fun r_22 S_23 H locs hp hR hS => ?_)
  have hw := hp
  have hc : ((((((0 + 1) + 1) + 1) + 1) + 1) + k_20) + ((((((k - 1) - 1) - 1) - 1) - 1) - k_20) ≤ k := by omega
  have hs : ((((((0 + 8) + 8) + 8) + (Int32.toNatClampNeg (x2 * x3))) + (Int32.toNatClampNeg (x2 * x3))) + n_21) + ((((((n - 8) - 8) - 8) - (Int32.toNatClampNeg (x2 * x3))) - (Int32.toNatClampNeg (x2 * x3))) - n_21) ≤ n := by omega
  refine x_astore (lv' := [(4, va_rf r_22), (0, .ref o), (1, .ref x1), (2, .int x2), (3, .int x3)]) (r := r_22) hx hb dX17_init_72 hl (by decide) rfl (fun ls hl => ?_)
  refine lv_iconst (v := 0) hx hb dX17_init_74 (by decide) ?_
  refine lv_istore (lv' := [(5, .int 0), (4, va_rf r_22), (0, .ref o), (1, .ref x1), (2, .int x2), (3, .int x3)]) hx hb dX17_init_75 hl (by decide) (by simp [x_cat]) (fun ls hl => ?_)
  refine x_lf2 (G := fun (x5_24 : Int32) (S_25 : xH) => ∀ (ls : Array Slot) (H : Heap) (locs : List Loc) (cK nK : Nat), cK + ((((((k - 1) - 1) - 1) - 1) - 1) - k_20) ≤ k → nK + ((((((n - 8) - 8) - 8) - (Int32.toNatClampNeg (x2 * x3))) - (Int32.toNatClampNeg (x2 * x3))) - n_21) ≤ n → x_Rp D d (x_A base) mc S_25 H → va_S (x_A base) s.heap H locs → lv_has ls 7 [(0, .ref o), (1, .ref x1), (4, va_rf r_22), (5, .int x5_24)] → W p l e (x_rm 652 k n 11808) s m ([.ref o, .ref x1, .int x2, .int x3] : List Value).toArray below meth c H locs cK nK (MQ below (x_Qv D d base mc (fun S' => Q S')) ([.ref o, .ref x1, .int x2, .int x3] : List Value).toArray s k n (x_A base)) (F0 m 77 ls [])) hw (fun x5_24 S_25 hw => ?_) ls _ _ _ _ hc hs hR hS (lv_sub hl [2, 3, 1, 0] rfl)
  intro ls H locs cK nK hc hs hR hS hl
  refine lv_iload hx hb dX17_init_77 (lv_at hl 3 rfl) ?_
  refine lv_aload_n hx hb dX17_init_79 rfl (lv_at hl 1 rfl) ?_
  refine x_getNI (ci := 0) (C := RX0) (T := TX0) (N := 19) (f := 53) hx hb hts in_X0 hown hK hR rfl 3 (by decide) (hK.2 _ q115 rfl) (fun _ h => h) rfl (by decide) dX17_init_80 hw.1 ?_
  have hw := hw.2
  refine lv_icmp_ge (tgt := 174) hx hb dX17_init_83 (by decide) (fun c_27 => ?_) (fun c_27 => ?_)
  · have hw := x_t hw c_27
    refine lv_iconst (v := 0) hx hb dX17_init_174 (by decide) ?_
    refine lv_istore (lv' := [(5, .int 0), (0, .ref o), (1, .ref x1), (4, va_rf r_22)]) hx hb dX17_init_175 hl (by decide) (by simp [x_cat]) (fun ls hl => ?_)
    refine x_lf4 (G := fun (x5_28 : Int32) (S_29 : xH) (k_30 : Nat) (n_31 : Nat) => ∀ (ls : Array Slot) (H : Heap) (locs : List Loc) (cK nK : Nat), cK + k_30 ≤ k → nK + n_31 ≤ n → x_Rp D d (x_A base) mc S_29 H → va_S (x_A base) s.heap H locs → lv_has ls 7 [(0, .ref o), (1, .ref x1), (5, .int x5_28)] → W p l e (x_rm 652 k n 11808) s m ([.ref o, .ref x1, .int x2, .int x3] : List Value).toArray below meth c H locs cK nK (MQ below (x_Qv D d base mc (fun S' => Q S')) ([.ref o, .ref x1, .int x2, .int x3] : List Value).toArray s k n (x_A base)) (F0 m 177 ls [])) hw (fun x5_28 S_29 k_30 n_31 hw => ?_) ls _ _ _ _ hc hs hR hS (lv_sub hl [1, 2, 0] rfl)
    intro ls H locs cK nK hc hs hR hS hl
    refine lv_iload hx hb dX17_init_177 (lv_at hl 2 rfl) ?_
    refine lv_aload_n hx hb dX17_init_179 rfl (lv_at hl 1 rfl) ?_
    refine x_getNI (ci := 0) (C := RX0) (T := TX0) (N := 19) (f := 50) hx hb hts in_X0 hown hK hR rfl 0 (by decide) (hK.2 _ q109 rfl) (fun _ h => h) rfl (by decide) dX17_init_180 hw.1 ?_
    have hw := hw.2
    refine lv_icmp_ge (tgt := 205) hx hb dX17_init_183 (by decide) (fun c_33 => ?_) (fun c_33 => ?_)
    · have hw := x_t hw c_33
      refine lv_aload_n hx hb dX17_init_205 rfl (lv_at hl 0 rfl) ?_
      refine lv_iconst (v := 0) hx hb dX17_init_206 (by decide) ?_
      obtain ⟨ha, hw⟩ := hw
      refine x_cv (va_runV (As := [.int 0]) (rest := []) ⟨hx, hb, hml, hown, hts⟩ (mt_X17_lay l 8 hw) (cwV 1 hts (lw_V q733 q735 qs24 q82 q736) rfl rfl rfl hd_X17_lay ⟨Nat.le_of_ble_eq_true rfl, Nat.le_of_ble_eq_true rfl⟩) ⟨x_Pc_blind, hR.recv hK (ci := 17) rfl (by decide) ha, x_Pc_pre hR hz hS hK⟩ rfl rfl hl.1 rfl (lv_room (Nat.le_of_ble_eq_true rfl)) dX17_init_207 ⟨by show _ ≤ k; omega, by show _ ≤ n; omega⟩) hS (fun S_34 H locs hp hR hS => ?_)
      have hw := hp
      refine W.widen (k := k) (n := n) (by omega) (by omega) ?_
      exact x_rv hx hb hr hlocks hR hS dX17_init_210 hw
    · have hw := x_f hw c_33
      refine lv_aload_n hx hb dX17_init_186 rfl (lv_at hl 0 rfl) ?_
      refine x_getR (ci := 17) (C := RX17) (T := TX17) (N := 10) (f := 903) hx hb hts in_X17 hown hK hR rfl 3 (by decide) (hts _ q755) (fun _ h => h) rfl (by decide) dX17_init_187 hw.1 ?_
      have hw := hw.2
      refine lv_iload hx hb dX17_init_190 (lv_at hl 2 rfl) ?_
      refine lv_aload_n hx hb dX17_init_192 rfl (lv_at hl 1 rfl) ?_
      refine lv_iload hx hb dX17_init_193 (lv_at hl 2 rfl) ?_
      obtain ⟨ha, hw⟩ := hw
      obtain ⟨k_35, n_36, h1, h2, hw⟩ := hw
      refine x_cq (va_runVN (As := [.int x5_28]) (rest := [.int x5_28, va_rf (xR S_29 903 o)]) ⟨hx, hb, hml, hown, hts⟩ (mt_X0_farFrom l hw) ⟨va_cnB 1 hts (lw_meth q196) rfl rfl rfl (hK.2 _ q732 rfl) (hts _ q64) hd_X0_farFrom.2 ⟨Nat.le_of_ble_eq_true rfl, Nat.le_of_ble_eq_true rfl⟩, hts _ q195, hts _ qs1⟩ ⟨x_Pc_blind, hR.recv hK (ci := 0) rfl (by decide) ha, x_Pc_pre hR hz hS hK⟩ rfl rfl hl.1 rfl (lv_room (by simp only [List.map_cons, List.map_nil, x_cat]; exact Nat.le_of_ble_eq_true rfl)) dX17_init_195 ⟨by show _ ≤ k; omega, by show _ ≤ n; omega⟩) hS (fun r_37 S_38 H locs hp hR hS => ?_)
      have hw := hp
      have hc : (cK + k_35) + (k_30 - k_35) ≤ k := by omega
      have hs : (nK + n_36) + (n_31 - n_36) ≤ n := by omega
      obtain ⟨b_39, e_40, hw⟩ := hw
      refine x_dr0 e_40 ?_
      obtain ⟨b_41, e_42, hw⟩ := hw
      refine x_dr2 e_42 ?_
      refine x_aastA hx hb hK hR hS dX17_init_198 hw.1 hw.2.1 hw.2.2.1 (fun H locs hR hS => ?_)
      have hw := hw.2.2.2
      obtain ⟨S_43, eS_43⟩ : ∃ z, z = (sQ S_38 b_41 (Int32.toNatClampNeg x5_28) (some b_39)) := ⟨_, rfl⟩
      rw [← eS_43] at hR
      have hw := hw S_43 eS_43
      refine lv_iinc (v := (x5_28 + 1)) (lv' := [(5, .int (x5_28 + 1)), (0, .ref o), (1, .ref x1)]) hx hb dX17_init_199 hl (k := 2) rfl rfl (by decide) rfl (fun ls hl => ?_)
      refine lv_goto (tgt := 177) hx hb dX17_init_202 (by decide) ?_
      exact hw ls _ _ _ _ hc hs hR hS (lv_sub hl [1, 2, 0] rfl)
  · have hw := x_f hw c_27
    refine lv_aload_n hx hb dX17_init_86 rfl (lv_at hl 1 rfl) ?_
    refine x_getNR (ci := 0) (C := RX0) (T := TX0) (N := 19) (f := 52) hx hb hts in_X0 hown hK hR rfl 2 (by decide) (hK.2 _ q113 rfl) (fun _ h => h) rfl (by decide) dX17_init_87 hw.1 ?_
    have hw := hw.2
    refine lv_iload hx hb dX17_init_90 (lv_at hl 3 rfl) ?_
    obtain ⟨b_44, e_45, hw⟩ := hw
    refine x_dr1 e_45 ?_
    refine x_aald (t := 103) hx hb hK hR (by decide) rfl rfl dX17_init_92 hw.1 hw.2.1 ?_
    have hw := hw.2.2
    obtain ⟨b_46, e_47, hw⟩ := hw
    refine x_dr0 e_47 ?_
    obtain ⟨ha, hw⟩ := hw
    refine x_ci (va_runV (As := []) (rest := []) ⟨hx, hb, hml, hown, hts⟩ (mt_X2_place l hw) (cwV 0 hts (lw_V q729 q277 q278 q66 q279) rfl rfl rfl hd_X2_place ⟨Nat.le_of_ble_eq_true rfl, Nat.le_of_ble_eq_true rfl⟩) ⟨x_Pc_blind, hR.recv hK (ci := 2) rfl (by decide) ha, x_Pc_pre hR hz hS hK⟩ rfl rfl hl.1 rfl (lv_room (Nat.le_of_ble_eq_true rfl)) dX17_init_93 ⟨by show _ ≤ k; omega, by show _ ≤ n; omega⟩) hS (fun r_48 S_49 H locs hp hR hS => ?_)
    have hw := hp.2
    rw [hp.1] at hR
    refine lv_bipush (v := 10) hx hb dX17_init_96 (by decide) ?_
    refine x_jn (G := fun (v0_50 : Int32) => ∀ (ls : Array Slot) (H : Heap) (locs : List Loc) (cK nK : Nat), cK + ((((((k - 1) - 1) - 1) - 1) - 1) - k_20) ≤ k → nK + ((((((n - 8) - 8) - 8) - (Int32.toNatClampNeg (x2 * x3))) - (Int32.toNatClampNeg (x2 * x3))) - n_21) ≤ n → x_Rp D d (x_A base) mc S_25 H → va_S (x_A base) s.heap H locs → lv_has ls 7 [(0, .ref o), (1, .ref x1), (4, va_rf r_22), (5, .int x5_24)] → W p l e (x_rm 652 k n 11808) s m ([.ref o, .ref x1, .int x2, .int x3] : List Value).toArray below meth c H locs cK nK (MQ below (x_Qv D d base mc (fun S' => Q S')) ([.ref o, .ref x1, .int x2, .int x3] : List Value).toArray s k n (x_A base)) (F0 m 132 ls [.int v0_50])) hw (fun v0_50 hw => ?_) (fun hJ_51 hw => ?_)
    · intro ls H locs cK nK hc hs hR hS hl
      refine lv_istore (lv' := [(6, .int v0_50), (0, .ref o), (1, .ref x1), (4, va_rf r_22), (5, .int x5_24)]) hx hb dX17_init_132 hl (by decide) rfl (fun ls hl => ?_)
      refine lv_iload hx hb dX17_init_134 (lv_at hl 0 rfl) ?_
      refine x_jn (G := fun (S_52 : xH) => ∀ (ls : Array Slot) (H : Heap) (locs : List Loc) (cK nK : Nat), cK + ((((((k - 1) - 1) - 1) - 1) - 1) - k_20) ≤ k → nK + ((((((n - 8) - 8) - 8) - (Int32.toNatClampNeg (x2 * x3))) - (Int32.toNatClampNeg (x2 * x3))) - n_21) ≤ n → x_Rp D d (x_A base) mc S_52 H → va_S (x_A base) s.heap H locs → lv_has ls 7 [(0, .ref o), (1, .ref x1), (4, va_rf r_22), (5, .int x5_24)] → W p l e (x_rm 652 k n 11808) s m ([.ref o, .ref x1, .int x2, .int x3] : List Value).toArray below meth c H locs cK nK (MQ below (x_Qv D d base mc (fun S' => Q S')) ([.ref o, .ref x1, .int x2, .int x3] : List Value).toArray s k n (x_A base)) (F0 m 168 ls [])) hw (fun S_52 hw => ?_) (fun hJ_53 hw => ?_)
      · intro ls H locs cK nK hc hs hR hS hl
        refine lv_iinc (v := (x5_24 + 1)) (lv' := [(5, .int (x5_24 + 1)), (0, .ref o), (1, .ref x1), (4, va_rf r_22)]) hx hb dX17_init_168 hl (k := 3) rfl rfl (by decide) (by simp [x_cat]) (fun ls hl => ?_)
        refine lv_goto (tgt := 77) hx hb dX17_init_171 (by decide) ?_
        exact hw ls _ _ _ _ hc hs hR hS (lv_sub hl [1, 2, 3, 0] rfl)
      · refine lv_if_eq (tgt := 168) hx hb dX17_init_136 (by decide) (fun c_54 => ?_) (fun c_54 => ?_)
        · have hw := x_t hw c_54
          exact hJ_53 S_25 hw ls _ _ _ _ hc hs hR hS (lv_sub hl [1, 2, 3, 4] rfl)
        · have hw := x_f hw c_54
          refine lv_aload_n hx hb dX17_init_139 rfl (lv_at hl 1 rfl) ?_
          refine x_getR (ci := 17) (C := RX17) (T := TX17) (N := 10) (f := 902) hx hb hts in_X17 hown hK hR rfl 2 (by decide) (hts _ q754) (fun _ h => h) rfl (by decide) dX17_init_140 hw.1 ?_
          have hw := hw.2
          refine lv_aload_n hx hb dX17_init_143 rfl (lv_at hl 2 rfl) ?_
          refine x_getNR (ci := 0) (C := RX0) (T := TX0) (N := 19) (f := 52) hx hb hts in_X0 hown hK hR rfl 2 (by decide) (hK.2 _ q113 rfl) (fun _ h => h) rfl (by decide) dX17_init_144 hw.1 ?_
          have hw := hw.2
          refine lv_iload hx hb dX17_init_147 (lv_at hl 4 rfl) ?_
          obtain ⟨b_55, e_56, hw⟩ := hw
          refine x_dr1 e_56 ?_
          refine x_aald (t := 103) hx hb hK hR (by decide) rfl rfl dX17_init_149 hw.1 hw.2.1 ?_
          have hw := hw.2.2
          obtain ⟨b_57, e_58, hw⟩ := hw
          refine x_dr0 e_58 ?_
          obtain ⟨ha, hw⟩ := hw
          refine x_ci (va_runV (As := []) (rest := [va_rf (xR S_25 902 o)]) ⟨hx, hb, hml, hown, hts⟩ (mt_X2_place l hw) (cwV 0 hts (lw_V q729 q277 q278 q66 q279) rfl rfl rfl hd_X2_place ⟨Nat.le_of_ble_eq_true rfl, Nat.le_of_ble_eq_true rfl⟩) ⟨x_Pc_blind, hR.recv hK (ci := 2) rfl (by decide) ha, x_Pc_pre hR hz hS hK⟩ rfl rfl hl.1 rfl (lv_room (by simp only [List.map_cons, List.map_nil, x_cat]; exact Nat.le_of_ble_eq_true rfl)) dX17_init_150 ⟨by show _ ≤ k; omega, by show _ ≤ n; omega⟩) hS (fun r_59 S_60 H locs hp hR hS => ?_)
          have hw := hp.2
          rw [hp.1] at hR
          obtain ⟨b_61, e_62, hw⟩ := hw
          refine x_dr1 e_62 ?_
          refine lv_dup2_11 hx hb dX17_init_153 rfl rfl ?_
          refine x_iald hx hb hK hR dX17_init_154 hw.1 hw.2.1 ?_
          have hw := hw.2.2
          refine lv_iconst (v := 1) hx hb dX17_init_155 (by decide) ?_
          refine lv_iadd hx hb dX17_init_156 ?_
          refine x_iast hx hb hK hR hS dX17_init_157 hw.1 hw.2.1 (fun H locs hR hS => ?_)
          have hw := hw.2.2
          obtain ⟨S_63, eS_63⟩ : ∃ z, z = (sA S_25 b_61 (Int32.toNatClampNeg r_59) ((xA S_25 b_61 (Int32.toNatClampNeg r_59)) + 1)) := ⟨_, rfl⟩
          rw [← eS_63] at hR
          have hw := hw S_63 eS_63
          refine lv_aload_n hx hb dX17_init_158 rfl (lv_at hl 1 rfl) ?_
          refine lv_dup hx hb dX17_init_159 rfl ?_
          refine x_getI (ci := 17) (C := RX17) (T := TX17) (N := 10) (f := 907) hx hb hts in_X17 hown hK hR rfl 7 (by decide) (hts _ q761) (fun _ h => h) rfl (by decide) dX17_init_160 hw.1 ?_
          have hw := hw.2
          refine lv_iconst (v := 1) hx hb dX17_init_163 (by decide) ?_
          refine lv_iadd hx hb dX17_init_164 ?_
          refine x_putI (ci := 17) (C := RX17) (T := TX17) (N := 10) (f := 907) hx hb hts in_X17 tyX17 tyX17_ok nmX17 hown hK hR hS rfl 7 (by decide) (hts _ q761) (fun _ h => h) rfl rfl (by decide) rfl rfl dX17_init_165 hw.1 (fun H locs hR hS => ?_)
          have hw := hw.2
          obtain ⟨S_64, eS_64⟩ : ∃ z, z = (sI S_63 907 o ((xI S_63 907 o) + 1)) := ⟨_, rfl⟩
          rw [← eS_64] at hR
          have hw := hw S_64 eS_64
          exact hJ_53 S_64 hw ls _ _ _ _ hc hs hR hS (lv_sub hl [1, 2, 3, 4] rfl)
    · refine x_jn0 (G := ∀ (ls : Array Slot) (H : Heap) (locs : List Loc) (cK nK : Nat), cK + ((((((k - 1) - 1) - 1) - 1) - 1) - k_20) ≤ k → nK + ((((((n - 8) - 8) - 8) - (Int32.toNatClampNeg (x2 * x3))) - (Int32.toNatClampNeg (x2 * x3))) - n_21) ≤ n → x_Rp D d (x_A base) mc S_25 H → va_S (x_A base) s.heap H locs → lv_has ls 7 [(0, .ref o), (1, .ref x1), (4, va_rf r_22), (5, .int x5_24)] → W p l e (x_rm 652 k n 11808) s m ([.ref o, .ref x1, .int x2, .int x3] : List Value).toArray below meth c H locs cK nK (MQ below (x_Qv D d base mc (fun S' => Q S')) ([.ref o, .ref x1, .int x2, .int x3] : List Value).toArray s k n (x_A base)) (F0 m 131 ls [])) hw (fun hw => ?_) (fun hJ_65 hw => ?_)
      · intro ls H locs cK nK hc hs hR hS hl
        refine lv_iconst (v := 0) hx hb dX17_init_131 (by decide) ?_
        exact hJ_51 0 hw ls _ _ _ _ hc hs hR hS (lv_sub hl [0, 1, 2, 3] rfl)
      · refine lv_icmp_ge (tgt := 131) hx hb dX17_init_98 (by decide) (fun c_66 => ?_) (fun c_66 => ?_)
        · have hw := x_t hw c_66
          exact hJ_65  hw ls _ _ _ _ hc hs hR hS (lv_sub hl [0, 1, 2, 3] rfl)
        · have hw := x_f hw c_66
          refine x_aload hx hb dX17_init_101 (lv_at hl 2 rfl) ?_
          refine lv_aload_n hx hb dX17_init_103 rfl (lv_at hl 1 rfl) ?_
          refine x_getNR (ci := 0) (C := RX0) (T := TX0) (N := 19) (f := 52) hx hb hts in_X0 hown hK hR rfl 2 (by decide) (hK.2 _ q113 rfl) (fun _ h => h) rfl (by decide) dX17_init_104 hw.1 ?_
          have hw := hw.2
          refine lv_iload hx hb dX17_init_107 (lv_at hl 3 rfl) ?_
          obtain ⟨b_67, e_68, hw⟩ := hw
          refine x_dr1 e_68 ?_
          refine x_aald (t := 103) hx hb hK hR (by decide) rfl rfl dX17_init_109 hw.1 hw.2.1 ?_
          have hw := hw.2.2
          refine lv_aload_n hx hb dX17_init_110 rfl (lv_at hl 1 rfl) ?_
          refine lv_aload_n hx hb dX17_init_111 rfl (lv_at hl 1 rfl) ?_
          refine x_getNR (ci := 0) (C := RX0) (T := TX0) (N := 19) (f := 52) hx hb hts in_X0 hown hK hR rfl 2 (by decide) (hK.2 _ q113 rfl) (fun _ h => h) rfl (by decide) dX17_init_112 hw.1 ?_
          have hw := hw.2
          refine lv_iload hx hb dX17_init_115 (lv_at hl 3 rfl) ?_
          obtain ⟨b_69, e_70, hw⟩ := hw
          refine x_dr1 e_70 ?_
          refine x_aald (t := 103) hx hb hK hR (by decide) rfl rfl dX17_init_117 hw.1 hw.2.1 ?_
          have hw := hw.2.2
          obtain ⟨b_71, e_72, hw⟩ := hw
          refine x_dr0 e_72 ?_
          obtain ⟨ha, hw⟩ := hw
          refine x_ci (va_runVN (As := [.ref b_71]) (rest := [va_rf (xQ S_25 b_67 (Int32.toNatClampNeg x5_24)), va_rf r_22]) ⟨hx, hb, hml, hown, hts⟩ (mt_X0_isCoveredTruly l hw) ⟨va_cnB 1 hts (lw_meth q645) rfl rfl rfl (hK.2 _ q730 rfl) (hts _ q64) hd_X0_isCoveredTruly.2 ⟨Nat.le_of_ble_eq_true rfl, Nat.le_of_ble_eq_true rfl⟩, hts _ q644, hts _ qs21⟩ ⟨x_Pc_blind, hR.recv hK (ci := 0) rfl (by decide) ha, x_Pc_pre hR hz hS hK⟩ rfl rfl hl.1 rfl (lv_room (by simp only [List.map_cons, List.map_nil, x_cat]; exact Nat.le_of_ble_eq_true rfl)) dX17_init_118 ⟨by show _ ≤ k; omega, by show _ ≤ n; omega⟩) hS (fun r_73 S_74 H locs hp hR hS => ?_)
          have hw := hp.2
          rw [hp.1] at hR
          obtain ⟨b_75, e_76, hw⟩ := hw
          refine x_dr1 e_76 ?_
          refine x_ci (va_runSN (As := [va_rf r_22, .ref b_75, .int r_73]) (rest := []) ⟨hx, hb, hml, hown, hts⟩ (mt_X0_mayBe l hw) ⟨va_cnB 3 hts (lw_meth q581) rfl rfl rfl (hK.2 _ q731 rfl) (hts _ q64) hd_X0_mayBe.2 ⟨Nat.le_of_ble_eq_true rfl, Nat.le_of_ble_eq_true rfl⟩, hts _ q580, trivial⟩ ⟨x_Pc_blind, x_Pc_pre hR hz hS hK⟩ rfl rfl hl.1 rfl (lv_room (Nat.le_of_ble_eq_true rfl)) dX17_init_121 ⟨by show _ ≤ k; omega, by show _ ≤ n; omega⟩) hS (fun r_77 S_78 H locs hp hR hS => ?_)
          have hw := hp.2
          rw [hp.1] at hR
          refine lv_if_eq (tgt := 131) hx hb dX17_init_124 (by decide) (fun c_79 => ?_) (fun c_79 => ?_)
          · have hw := x_t hw c_79
            exact hJ_65  hw ls _ _ _ _ hc hs hR hS (lv_sub hl [0, 1, 2, 3] rfl)
          · have hw := x_f hw c_79
            refine lv_iconst (v := 1) hx hb dX17_init_127 (by decide) ?_
            refine lv_goto (tgt := 132) hx hb dX17_init_128 (by decide) ?_
            exact hJ_51 1 hw ls _ _ _ _ hc hs hR hS (lv_sub hl [0, 1, 2, 3] rfl)
theorem hd_X0_met : yX0_met.cls = "PressedMen" ∧ yX0_met.cls ≠ "java/lang/invoke/MethodHandle" ∧ yX0_met.cls ≠ "java/lang/invoke/VarHandle" ∧ (parseMethodDescriptor yX0_met.desc).map (fun d => d.parameters.length) = some 2 := by decide +kernel
set_option maxHeartbeats 4000000 in
theorem mt_X0_met (l : Launch) {D : va_G} {d : Nat → ClassId} {base : Nat} {mc : va_W} {S : xH} {k n : Nat} {o : Nat} {x1 : Int32} {x2 : Int32} {Q : Int32 → xH → Prop} (hw : w_X0_met k n S o x1 x2 Q) : Met l yX0_met (ws_ yX0_met cX0_met 3 (some FieldType.int)) (x_rm 653 k n 11834) (x_Pc D d base mc S [.ref o, .int x1, .int x2]) (x_Qi D d base mc (fun r S' => Q r S')) k n (x_A base) := by
  refine x_met (by decide) (Nat.le_of_ble_eq_true rfl) ?_
  intro p e s m below meth c hx hb hml hr hlocks hown hts hz hR hK hin ls hl
  have hown : s.vm.findClass "PressedMen" = some m.cls := hown
  have hl : lv_has ls 3 [(0, .ref o), (1, .int x1), (2, .int x2)] := hl
  have hS : va_S (x_A base) s.heap s.heap [] := va_S.rf
  have hA : ∀ q : Nat, s.heap.size ≤ q → x_A base q := fun q h => Nat.le_trans hz h
  have hc : 0 + k ≤ k := by omega
  have hs : 0 + n ≤ n := by omega
  unfold w_X0_met at hw
  refine lv_iload_n hx hb dX0_met_0 rfl (lv_at hl 1 rfl) ?_
  refine lv_iconst (v := 1) hx hb dX0_met_1 (by decide) ?_
  refine lv_iconst (v := 2) hx hb dX0_met_2 (by decide) ?_
  refine x_ci (va_runS (As := [.int x1, .int 1, .int 2]) (rest := []) ⟨hx, hb, hml, hown, hts⟩ (mt_X0_isIn l hw) (va_cwS 3 hts (lw_S q178 q179 q64 q180) rfl rfl rfl hd_X0_isIn.2 ⟨Nat.le_of_ble_eq_true rfl, Nat.le_of_ble_eq_true rfl⟩) ⟨x_Pc_blind, x_Pc_pre hR hz hS hK⟩ rfl rfl hl.1 rfl (lv_room (Nat.le_of_ble_eq_true rfl)) dX0_met_3 ⟨by show _ ≤ k; omega, by show _ ≤ n; omega⟩) hS (fun r_1 S_2 H locs hp hR hS => ?_)
  have hw := hp.2
  rw [hp.1] at hR
  refine lv_if_eq (tgt := 34) hx hb dX0_met_6 (by decide) (fun c_3 => ?_) (fun c_3 => ?_)
  · have hw := x_t hw c_3
    refine lv_bipush (v := (-2)) hx hb dX0_met_34 (by decide) ?_
    refine W.widen (k := k) (n := n) (by omega) (by omega) ?_
    exact x_ri hx hb hr hlocks hR hS dX0_met_36 hw
  · have hw := x_f hw c_3
    refine lv_iload_n hx hb dX0_met_9 rfl (lv_at hl 2 rfl) ?_
    refine lv_iconst (v := 1) hx hb dX0_met_10 (by decide) ?_
    refine lv_iconst (v := 3) hx hb dX0_met_11 (by decide) ?_
    refine x_ci (va_runS (As := [.int x2, .int 1, .int 3]) (rest := []) ⟨hx, hb, hml, hown, hts⟩ (mt_X0_isIn l hw) (va_cwS 3 hts (lw_S q178 q179 q64 q180) rfl rfl rfl hd_X0_isIn.2 ⟨Nat.le_of_ble_eq_true rfl, Nat.le_of_ble_eq_true rfl⟩) ⟨x_Pc_blind, x_Pc_pre hR hz hS hK⟩ rfl rfl hl.1 rfl (lv_room (Nat.le_of_ble_eq_true rfl)) dX0_met_12 ⟨by show _ ≤ k; omega, by show _ ≤ n; omega⟩) hS (fun r_4 S_5 H locs hp hR hS => ?_)
    have hw := hp.2
    rw [hp.1] at hR
    refine lv_if_eq (tgt := 34) hx hb dX0_met_15 (by decide) (fun c_6 => ?_) (fun c_6 => ?_)
    · have hw := x_t hw c_6
      refine lv_bipush (v := (-2)) hx hb dX0_met_34 (by decide) ?_
      refine W.widen (k := k) (n := n) (by omega) (by omega) ?_
      exact x_ri hx hb hr hlocks hR hS dX0_met_36 hw
    · have hw := x_f hw c_6
      obtain ⟨h1, h2, hw⟩ := hw
      refine x_new (ci := 17) (C := RX17) (T := TX17) (N := 10) hx hb hts in_X17 tyX17 tyX17_ok hown (hts _ q720) (hts _ q721) (hts _ q82) hK hR hS hA rfl (by decide) dfX17 dX0_met_18 (by show _ ≤ k; omega) (by show _ ≤ n; omega) (fun a_7 H hf hR hS => ?_)
      have hw := hw a_7 hf
      have hc : (0 + 1) + (k - 1) ≤ k := by omega
      have hs : (0 + 10) + (n - 10) ≤ n := by omega
      obtain ⟨S_8, eS_8⟩ : ∃ z, z = (sN S a_7 18) := ⟨_, rfl⟩
      rw [← eS_8] at hR
      have hw := hw S_8 eS_8
      refine lv_dup hx hb dX0_met_21 rfl ?_
      refine lv_aload_n hx hb dX0_met_22 rfl (lv_at hl 0 rfl) ?_
      refine lv_iload_n hx hb dX0_met_23 rfl (lv_at hl 1 rfl) ?_
      refine lv_iload_n hx hb dX0_met_24 rfl (lv_at hl 2 rfl) ?_
      obtain ⟨k_9, n_10, h1, h2, hw⟩ := hw
      refine x_cv (va_runI (As := [.ref o, .int x1, .int x2]) (rest := [.ref a_7]) ⟨hx, hb, hml, hown, hts⟩ (mt_X17_init l hw) (cwI 3 hts (lw_meth q724) rfl rfl rfl (hts _ q82) (hts _ q722) (hts _ q723) rfl hd_X17_init.2 ⟨Nat.le_of_ble_eq_true rfl, Nat.le_of_ble_eq_true rfl⟩) ⟨x_Pc_blind, x_Pc_pre hR hz hS hK⟩ rfl rfl hl.1 rfl (lv_room (Nat.le_of_ble_eq_true rfl)) dX0_met_25 ⟨by show _ ≤ k; omega, by show _ ≤ n; omega⟩) hS (fun S_11 H locs hp hR hS => ?_)
      have hw := hp
      have hc : ((0 + 1) + k_9) + ((k - 1) - k_9) ≤ k := by omega
      have hs : ((0 + 10) + n_10) + ((n - 10) - n_10) ≤ n := by omega
      refine x_getNI (ci := 17) (C := RX17) (T := TX17) (N := 10) (f := 906) hx hb hts in_X17 hown hK hR rfl 6 (by decide) (hK.2 _ q760 rfl) (fun _ h => h) rfl (by decide) dX0_met_28 hw.1 ?_
      have hw := hw.2
      refine lv_goto (tgt := 36) hx hb dX0_met_31 (by decide) ?_
      refine W.widen (k := k) (n := n) (by omega) (by omega) ?_
      exact x_ri hx hb hr hlocks hR hS dX0_met_36 hw
theorem hd_X0_laid : yX0_laid.cls = "PressedMen" ∧ yX0_laid.cls ≠ "java/lang/invoke/MethodHandle" ∧ yX0_laid.cls ≠ "java/lang/invoke/VarHandle" ∧ (parseMethodDescriptor yX0_laid.desc).map (fun d => d.parameters.length) = some 4 := by decide +kernel
set_option maxHeartbeats 4000000 in
theorem mt_X0_laid (l : Launch) {D : va_G} {d : Nat → ClassId} {base : Nat} {mc : va_W} {S : xH} {k n : Nat} {o : Nat} {x1 : Int32} {x2 : Int32} {x3 : Int32} {x4 : Int32} {Q : Int32 → xH → Prop} (hw : w_X0_laid k n S o x1 x2 x3 x4 Q) : Met l yX0_laid (ws_ yX0_laid cX0_laid 5 (some FieldType.int)) (x_rm 653 k n 11834) (x_Pc D d base mc S [.ref o, .int x1, .int x2, .int x3, .int x4]) (x_Qi D d base mc (fun r S' => Q r S')) k n (x_A base) := by
  refine x_met (by decide) (Nat.le_of_ble_eq_true rfl) ?_
  intro p e s m below meth c hx hb hml hr hlocks hown hts hz hR hK hin ls hl
  have hown : s.vm.findClass "PressedMen" = some m.cls := hown
  have hl : lv_has ls 5 [(0, .ref o), (1, .int x1), (2, .int x2), (3, .int x3), (4, .int x4)] := hl
  have hS : va_S (x_A base) s.heap s.heap [] := va_S.rf
  have hA : ∀ q : Nat, s.heap.size ≤ q → x_A base q := fun q h => Nat.le_trans hz h
  have hc : 0 + k ≤ k := by omega
  have hs : 0 + n ≤ n := by omega
  unfold w_X0_laid at hw
  refine lv_iload_n hx hb dX0_laid_0 rfl (lv_at hl 1 rfl) ?_
  refine lv_iconst (v := 1) hx hb dX0_laid_1 (by decide) ?_
  refine lv_iconst (v := 2) hx hb dX0_laid_2 (by decide) ?_
  refine x_ci (va_runS (As := [.int x1, .int 1, .int 2]) (rest := []) ⟨hx, hb, hml, hown, hts⟩ (mt_X0_isIn l hw) (va_cwS 3 hts (lw_S q178 q179 q64 q180) rfl rfl rfl hd_X0_isIn.2 ⟨Nat.le_of_ble_eq_true rfl, Nat.le_of_ble_eq_true rfl⟩) ⟨x_Pc_blind, x_Pc_pre hR hz hS hK⟩ rfl rfl hl.1 rfl (lv_room (Nat.le_of_ble_eq_true rfl)) dX0_laid_3 ⟨by show _ ≤ k; omega, by show _ ≤ n; omega⟩) hS (fun r_1 S_2 H locs hp hR hS => ?_)
  have hw := hp.2
  rw [hp.1] at hR
  refine lv_if_eq (tgt := 41) hx hb dX0_laid_6 (by decide) (fun c_3 => ?_) (fun c_3 => ?_)
  · have hw := x_t hw c_3
    refine lv_bipush (v := (-2)) hx hb dX0_laid_41 (by decide) ?_
    refine W.widen (k := k) (n := n) (by omega) (by omega) ?_
    exact x_ri hx hb hr hlocks hR hS dX0_laid_43 hw
  · have hw := x_f hw c_3
    refine lv_iload_n hx hb dX0_laid_9 rfl (lv_at hl 2 rfl) ?_
    refine lv_iconst (v := 1) hx hb dX0_laid_10 (by decide) ?_
    refine lv_iconst (v := 3) hx hb dX0_laid_11 (by decide) ?_
    refine x_ci (va_runS (As := [.int x2, .int 1, .int 3]) (rest := []) ⟨hx, hb, hml, hown, hts⟩ (mt_X0_isIn l hw) (va_cwS 3 hts (lw_S q178 q179 q64 q180) rfl rfl rfl hd_X0_isIn.2 ⟨Nat.le_of_ble_eq_true rfl, Nat.le_of_ble_eq_true rfl⟩) ⟨x_Pc_blind, x_Pc_pre hR hz hS hK⟩ rfl rfl hl.1 rfl (lv_room (Nat.le_of_ble_eq_true rfl)) dX0_laid_12 ⟨by show _ ≤ k; omega, by show _ ≤ n; omega⟩) hS (fun r_4 S_5 H locs hp hR hS => ?_)
    have hw := hp.2
    rw [hp.1] at hR
    refine lv_if_eq (tgt := 41) hx hb dX0_laid_15 (by decide) (fun c_6 => ?_) (fun c_6 => ?_)
    · have hw := x_t hw c_6
      refine lv_bipush (v := (-2)) hx hb dX0_laid_41 (by decide) ?_
      refine W.widen (k := k) (n := n) (by omega) (by omega) ?_
      exact x_ri hx hb hr hlocks hR hS dX0_laid_43 hw
    · have hw := x_f hw c_6
      refine lv_iload_n hx hb dX0_laid_18 rfl (lv_at hl 3 rfl) ?_
      refine lv_iconst (v := 0) hx hb dX0_laid_19 (by decide) ?_
      refine lv_iload_n hx hb dX0_laid_20 rfl (lv_at hl 1 rfl) ?_
      refine lv_iconst (v := 1) hx hb dX0_laid_21 (by decide) ?_
      refine lv_isub hx hb dX0_laid_22 ?_
      refine x_ci (va_runS (As := [.int x3, .int 0, .int (x1 - 1)]) (rest := []) ⟨hx, hb, hml, hown, hts⟩ (mt_X0_isIn l hw) (va_cwS 3 hts (lw_S q178 q179 q64 q180) rfl rfl rfl hd_X0_isIn.2 ⟨Nat.le_of_ble_eq_true rfl, Nat.le_of_ble_eq_true rfl⟩) ⟨x_Pc_blind, x_Pc_pre hR hz hS hK⟩ rfl rfl hl.1 rfl (lv_room (Nat.le_of_ble_eq_true rfl)) dX0_laid_23 ⟨by show _ ≤ k; omega, by show _ ≤ n; omega⟩) hS (fun r_7 S_8 H locs hp hR hS => ?_)
      have hw := hp.2
      rw [hp.1] at hR
      refine lv_if_eq (tgt := 41) hx hb dX0_laid_26 (by decide) (fun c_9 => ?_) (fun c_9 => ?_)
      · have hw := x_t hw c_9
        refine lv_bipush (v := (-2)) hx hb dX0_laid_41 (by decide) ?_
        refine W.widen (k := k) (n := n) (by omega) (by omega) ?_
        exact x_ri hx hb hr hlocks hR hS dX0_laid_43 hw
      · have hw := x_f hw c_9
        refine lv_iload hx hb dX0_laid_29 (lv_at hl 4 rfl) ?_
        refine lv_iconst (v := 0) hx hb dX0_laid_31 (by decide) ?_
        refine lv_iload_n hx hb dX0_laid_32 rfl (lv_at hl 2 rfl) ?_
        refine lv_iconst (v := 1) hx hb dX0_laid_33 (by decide) ?_
        refine lv_isub hx hb dX0_laid_34 ?_
        refine x_ci (va_runS (As := [.int x4, .int 0, .int (x2 - 1)]) (rest := []) ⟨hx, hb, hml, hown, hts⟩ (mt_X0_isIn l hw) (va_cwS 3 hts (lw_S q178 q179 q64 q180) rfl rfl rfl hd_X0_isIn.2 ⟨Nat.le_of_ble_eq_true rfl, Nat.le_of_ble_eq_true rfl⟩) ⟨x_Pc_blind, x_Pc_pre hR hz hS hK⟩ rfl rfl hl.1 rfl (lv_room (Nat.le_of_ble_eq_true rfl)) dX0_laid_35 ⟨by show _ ≤ k; omega, by show _ ≤ n; omega⟩) hS (fun r_10 S_11 H locs hp hR hS => ?_)
        have hw := hp.2
        rw [hp.1] at hR
        refine lv_if_ne (tgt := 44) hx hb dX0_laid_38 (by decide) (fun c_12 => ?_) (fun c_12 => ?_)
        · have hw := x_f hw c_12
          obtain ⟨h1, h2, hw⟩ := hw
          refine x_new (ci := 17) (C := RX17) (T := TX17) (N := 10) hx hb hts in_X17 tyX17 tyX17_ok hown (hts _ q720) (hts _ q721) (hts _ q82) hK hR hS hA rfl (by decide) dfX17 dX0_laid_44 (by show _ ≤ k; omega) (by show _ ≤ n; omega) (fun a_13 H hf hR hS => ?_)
          have hw := hw a_13 hf
          have hc : (0 + 1) + (k - 1) ≤ k := by omega
          have hs : (0 + 10) + (n - 10) ≤ n := by omega
          obtain ⟨S_14, eS_14⟩ : ∃ z, z = (sN S a_13 18) := ⟨_, rfl⟩
          rw [← eS_14] at hR
          have hw := hw S_14 eS_14
          refine lv_dup hx hb dX0_laid_47 rfl ?_
          refine lv_aload_n hx hb dX0_laid_48 rfl (lv_at hl 0 rfl) ?_
          refine lv_iload_n hx hb dX0_laid_49 rfl (lv_at hl 1 rfl) ?_
          refine lv_iload_n hx hb dX0_laid_50 rfl (lv_at hl 2 rfl) ?_
          obtain ⟨k_15, n_16, h1, h2, hw⟩ := hw
          refine x_cv (va_runI (As := [.ref o, .int x1, .int x2]) (rest := [.ref a_13]) ⟨hx, hb, hml, hown, hts⟩ (mt_X17_init l hw) (cwI 3 hts (lw_meth q724) rfl rfl rfl (hts _ q82) (hts _ q722) (hts _ q723) rfl hd_X17_init.2 ⟨Nat.le_of_ble_eq_true rfl, Nat.le_of_ble_eq_true rfl⟩) ⟨x_Pc_blind, x_Pc_pre hR hz hS hK⟩ rfl rfl hl.1 rfl (lv_room (Nat.le_of_ble_eq_true rfl)) dX0_laid_51 ⟨by show _ ≤ k; omega, by show _ ≤ n; omega⟩) hS (fun S_17 H locs hp hR hS => ?_)
          have hw := hp
          have hc : ((0 + 1) + k_15) + ((k - 1) - k_15) ≤ k := by omega
          have hs : ((0 + 10) + n_16) + ((n - 10) - n_16) ≤ n := by omega
          refine x_getNR (ci := 17) (C := RX17) (T := TX17) (N := 10) (f := 905) hx hb hts in_X17 hown hK hR rfl 5 (by decide) (hK.2 _ q758 rfl) (fun _ h => h) rfl (by decide) dX0_laid_54 hw.1 ?_
          have hw := hw.2
          refine lv_iload_n hx hb dX0_laid_57 rfl (lv_at hl 3 rfl) ?_
          refine lv_iload_n hx hb dX0_laid_58 rfl (lv_at hl 2 rfl) ?_
          refine lv_imul hx hb dX0_laid_59 ?_
          refine lv_iload hx hb dX0_laid_60 (lv_at hl 4 rfl) ?_
          refine lv_iadd hx hb dX0_laid_62 ?_
          obtain ⟨b_18, e_19, hw⟩ := hw
          refine x_dr1 e_19 ?_
          refine x_iald hx hb hK hR dX0_laid_63 hw.1 hw.2.1 ?_
          have hw := hw.2.2
          refine W.widen (k := k) (n := n) (by omega) (by omega) ?_
          exact x_ri hx hb hr hlocks hR hS dX0_laid_64 hw
        · have hw := x_t hw c_12
          refine lv_bipush (v := (-2)) hx hb dX0_laid_41 (by decide) ?_
          refine W.widen (k := k) (n := n) (by omega) (by omega) ?_
          exact x_ri hx hb hr hlocks hR hS dX0_laid_43 hw
