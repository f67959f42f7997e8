set_option maxRecDepth 100000
def w_X0_ticket (k n : Nat) (S : xH) (o : Nat) (x1 : Int32) (x2 : Int32) (x3 : Int32) (Q : Int32 → xH → Prop) : Prop := xT S o = 1 ∧ w_X0_isMan S o x1 (fun (r_1 : Int32) => wif (r_1 = 0) (Q (-1) S) (w_X0_isIn S x2 1 99 (fun (r_4 : Int32) => wif (r_4 = 0) (Q (-2) S) (w_X0_isIn S x3 1 50 (fun (r_7 : Int32) => wif (r_7 = 0) (Q (-2) S) (xT S o = 1 ∧ wif ((xI S 67 o) = 40) (Q (-4) S) (xT S o = 1 ∧ xT S o = 1 ∧ 1 ≤ k ∧ 6 ≤ n ∧ ∀ a_11, xT S a_11 = 0 → nm (sN S a_11 20) (fun S_12 : xH => xT S_12 o = 1 ∧ ∃ b_13, (xR S_12 52 o) = some b_13 ∧ xT S_12 b_13 = 103 ∧ vp_in x1 (xL S_12 b_13) ∧ ∃ b_15, (xQ S_12 b_13 (Int32.toNatClampNeg x1)) = some b_15 ∧ w_X19_init S_12 a_11 o b_15 (x2 * x3) (fun (S_17 : xH) => ∃ b_18, (xR S 66 o) = some b_18 ∧ xT S_17 b_18 = 108 ∧ vp_in (xI S 67 o) (xL S_17 b_18) ∧ xT S_17 a_11 = 20 ∧ nm (sQ S_17 b_18 (Int32.toNatClampNeg (xI S 67 o)) (some a_11)) (fun S_20 : xH => xT S_20 o = 1 ∧ xT S_20 o = 1 ∧ nm (sI S_20 67 o ((xI S_20 67 o) + 1)) (fun S_21 : xH => xT S_21 o = 1 ∧ Q ((xI S_21 67 o) - 1) S_21)))))))))))
theorem hd_X0_ticket : yX0_ticket.cls = "PressedMen" ∧ yX0_ticket.cls ≠ "java/lang/invoke/MethodHandle" ∧ yX0_ticket.cls ≠ "java/lang/invoke/VarHandle" ∧ (parseMethodDescriptor yX0_ticket.desc).map (fun d => d.parameters.length) = some 3 := by decide +kernel
set_option maxHeartbeats 4000000 in
theorem mt_X0_ticket (l : Launch) {D : va_G} {d : Nat → ClassId} {base : Nat} {mc : va_W} {S : xH} {k n : Nat} {o : Nat} {x1 : Int32} {x2 : Int32} {x3 : Int32} {Q : Int32 → xH → Prop} (hw : w_X0_ticket k n S o x1 x2 x3 Q) : Met l yX0_ticket (ws_ yX0_ticket cX0_ticket 4 (some FieldType.int)) (x_rm 2 k n 51) (x_Pc D d base mc S [.ref o, .int x1, .int x2, .int x3]) (x_Qi D d base mc (fun r S' => Q r S')) k n (x_A base) := by
  refine x_met (by decide) (Nat.le_of_ble_eq_true rfl) ?_
  intro p e s m below meth c hx hb hml hr hlocks hown hts hz hR hK hin ls hl
  have hown : s.vm.findClass "PressedMen" = some m.cls := hown
  have hl : lv_has ls 4 [(0, .ref o), (1, .int x1), (2, .int x2), (3, .int x3)] := hl
  have hS : va_S (x_A base) s.heap s.heap [] := va_S.rf
  have hA : ∀ q : Nat, s.heap.size ≤ q → x_A base q := fun q h => Nat.le_trans hz h
  have hc : 0 + k ≤ k := by omega
  have hs : 0 + n ≤ n := by omega
  unfold w_X0_ticket at hw
  refine lv_aload_n hx hb dX0_ticket_0 rfl (lv_at hl 0 rfl) ?_
  refine lv_iload_n hx hb dX0_ticket_1 rfl (lv_at hl 1 rfl) ?_
  obtain ⟨ha, hw⟩ := hw
  refine x_ci (va_runV (As := [.int x1]) (rest := []) ⟨hx, hb, hml, hown, hts⟩ (mt_X0_isMan l hw) (cwV 1 hts (lw_V q252 q254 qs2 q64 q255) rfl rfl rfl hd_X0_isMan ⟨Nat.le_of_ble_eq_true rfl, Nat.le_of_ble_eq_true rfl⟩) ⟨x_Pc_blind, hR.recv hK (ci := 0) rfl (by decide) ha, x_Pc_pre hR hz hS hK⟩ rfl rfl hl.1 rfl (lv_room (Nat.le_of_ble_eq_true rfl)) dX0_ticket_2 ⟨by show _ ≤ k; omega, by show _ ≤ n; omega⟩) hS (fun r_1 S_2 H locs hp hR hS => ?_)
  have hw := hp.2
  rw [hp.1] at hR
  refine lv_if_ne (tgt := 10) hx hb dX0_ticket_5 (by decide) (fun c_3 => ?_) (fun c_3 => ?_)
  · have hw := x_f hw c_3
    refine lv_iload_n hx hb dX0_ticket_10 rfl (lv_at hl 2 rfl) ?_
    refine lv_iconst (v := 1) hx hb dX0_ticket_11 (by decide) ?_
    refine lv_bipush (v := 99) hx hb dX0_ticket_12 (by decide) ?_
    refine x_ci (va_runS (As := [.int x2, .int 1, .int 99]) (rest := []) ⟨hx, hb, hml, hown, hts⟩ (mt_X0_isIn l hw) (va_cwS 3 hts (lw_S q178 q179 q64 q180) rfl rfl rfl hd_X0_isIn.2 ⟨Nat.le_of_ble_eq_true rfl, Nat.le_of_ble_eq_true rfl⟩) ⟨x_Pc_blind, x_Pc_pre hR hz hS hK⟩ rfl rfl hl.1 rfl (lv_room (Nat.le_of_ble_eq_true rfl)) dX0_ticket_14 ⟨by show _ ≤ k; omega, by show _ ≤ n; omega⟩) hS (fun r_4 S_5 H locs hp hR hS => ?_)
    have hw := hp.2
    rw [hp.1] at hR
    refine lv_if_eq (tgt := 30) hx hb dX0_ticket_17 (by decide) (fun c_6 => ?_) (fun c_6 => ?_)
    · have hw := x_t hw c_6
      refine lv_bipush (v := (-2)) hx hb dX0_ticket_30 (by decide) ?_
      refine W.widen (k := k) (n := n) (by omega) (by omega) ?_
      exact x_ri hx hb hr hlocks hR hS dX0_ticket_32 hw
    · have hw := x_f hw c_6
      refine lv_iload_n hx hb dX0_ticket_20 rfl (lv_at hl 3 rfl) ?_
      refine lv_iconst (v := 1) hx hb dX0_ticket_21 (by decide) ?_
      refine lv_bipush (v := 50) hx hb dX0_ticket_22 (by decide) ?_
      refine x_ci (va_runS (As := [.int x3, .int 1, .int 50]) (rest := []) ⟨hx, hb, hml, hown, hts⟩ (mt_X0_isIn l hw) (va_cwS 3 hts (lw_S q178 q179 q64 q180) rfl rfl rfl hd_X0_isIn.2 ⟨Nat.le_of_ble_eq_true rfl, Nat.le_of_ble_eq_true rfl⟩) ⟨x_Pc_blind, x_Pc_pre hR hz hS hK⟩ rfl rfl hl.1 rfl (lv_room (Nat.le_of_ble_eq_true rfl)) dX0_ticket_24 ⟨by show _ ≤ k; omega, by show _ ≤ n; omega⟩) hS (fun r_7 S_8 H locs hp hR hS => ?_)
      have hw := hp.2
      rw [hp.1] at hR
      refine lv_if_ne (tgt := 33) hx hb dX0_ticket_27 (by decide) (fun c_9 => ?_) (fun c_9 => ?_)
      · have hw := x_f hw c_9
        refine lv_aload_n hx hb dX0_ticket_33 rfl (lv_at hl 0 rfl) ?_
        refine x_getI (ci := 0) (C := RX0) (T := TX0) (N := 19) (f := 67) hx hb hts in_X0 hown hK hR rfl 17 (by decide) (hts _ q130) (fun _ h => h) rfl (by decide) dX0_ticket_34 hw.1 ?_
        have hw := hw.2
        refine lv_bipush (v := 40) hx hb dX0_ticket_37 (by decide) ?_
        refine lv_icmp_ne (tgt := 45) hx hb dX0_ticket_39 (by decide) (fun c_10 => ?_) (fun c_10 => ?_)
        · have hw := x_f hw c_10
          refine lv_aload_n hx hb dX0_ticket_45 rfl (lv_at hl 0 rfl) ?_
          refine x_getR (ci := 0) (C := RX0) (T := TX0) (N := 19) (f := 66) hx hb hts in_X0 hown hK hR rfl 16 (by decide) (hts _ q129) (fun _ h => h) rfl (by decide) dX0_ticket_46 hw.1 ?_
          have hw := hw.2
          refine lv_aload_n hx hb dX0_ticket_49 rfl (lv_at hl 0 rfl) ?_
          refine x_getI (ci := 0) (C := RX0) (T := TX0) (N := 19) (f := 67) hx hb hts in_X0 hown hK hR rfl 17 (by decide) (hts _ q130) (fun _ h => h) rfl (by decide) dX0_ticket_50 hw.1 ?_
          have hw := hw.2
          obtain ⟨h1, h2, hw⟩ := hw
          refine x_new (ci := 19) (C := RX19) (T := TX19) (N := 6) hx hb hts in_X19 tyX19 tyX19_ok hown (hts _ q107) (hts _ q896) (hts _ q86) hK hR hS hA rfl (by decide) dfX19 dX0_ticket_53 (by show _ ≤ k; omega) (by show _ ≤ n; omega) (fun a_11 H hf hR hS => ?_)
          have hw := hw a_11 hf
          have hc : (0 + 1) + (k - 1) ≤ k := by omega
          have hs : (0 + 6) + (n - 6) ≤ n := by omega
          obtain ⟨S_12, eS_12⟩ : ∃ z, z = (sN S a_11 20) := ⟨_, rfl⟩
          rw [← eS_12] at hR
          have hw := hw S_12 eS_12
          refine lv_dup hx hb dX0_ticket_56 rfl ?_
          refine lv_aload_n hx hb dX0_ticket_57 rfl (lv_at hl 0 rfl) ?_
          refine lv_aload_n hx hb dX0_ticket_58 rfl (lv_at hl 0 rfl) ?_
          refine x_getR (ci := 0) (C := RX0) (T := TX0) (N := 19) (f := 52) hx hb hts in_X0 hown hK hR rfl 2 (by decide) (hts _ q114) (fun _ h => h) rfl (by decide) dX0_ticket_59 hw.1 ?_
          have hw := hw.2
          refine lv_iload_n hx hb dX0_ticket_62 rfl (lv_at hl 1 rfl) ?_
          obtain ⟨b_13, e_14, hw⟩ := hw
          refine x_dr1 e_14 ?_
          refine x_aald (t := 103) hx hb hK hR (by decide) rfl rfl dX0_ticket_63 hw.1 hw.2.1 ?_
          have hw := hw.2.2
          refine lv_iload_n hx hb dX0_ticket_64 rfl (lv_at hl 2 rfl) ?_
          refine lv_iload_n hx hb dX0_ticket_65 rfl (lv_at hl 3 rfl) ?_
          refine lv_imul hx hb dX0_ticket_66 ?_
          obtain ⟨b_15, e_16, hw⟩ := hw
          refine x_dr1 e_16 ?_
          refine x_cv (va_runI (As := [.ref o, .ref b_15, .int (x2 * x3)]) (rest := [.ref a_11, .int (xI S 67 o), va_rf (xR S 66 o)]) ⟨hx, hb, hml, hown, hts⟩ (mt_X19_init l hw) (cwI 3 hts (lw_meth q899) rfl rfl rfl (hts _ q86) (hts _ q897) (hts _ q898) rfl hd_X19_init.2 ⟨Nat.le_of_ble_eq_true rfl, Nat.le_of_ble_eq_true rfl⟩) ⟨x_Pc_blind, x_Pc_pre hR hz hS hK⟩ rfl rfl hl.1 rfl (lv_room (by simp only [List.map_cons, List.map_nil, x_cat]; exact Nat.le_of_ble_eq_true rfl)) dX0_ticket_67 ⟨by show _ ≤ k; omega, by show _ ≤ n; omega⟩) hS (fun S_17 H locs hp hR hS => ?_)
          have hw := hp
          obtain ⟨b_18, e_19, hw⟩ := hw
          refine x_dr2 e_19 ?_
          refine x_aast (t := 108) (ci := 19) hx hb hK hR hS (by decide) rfl (by decide) rfl dX0_ticket_70 hw.1 hw.2.1 hw.2.2.1 (fun H locs hR hS => ?_)
          have hw := hw.2.2.2
          obtain ⟨S_20, eS_20⟩ : ∃ z, z = (sQ S_17 b_18 (Int32.toNatClampNeg (xI S 67 o)) (some a_11)) := ⟨_, rfl⟩
          rw [← eS_20] at hR
          have hw := hw S_20 eS_20
          refine lv_aload_n hx hb dX0_ticket_71 rfl (lv_at hl 0 rfl) ?_
          refine lv_dup hx hb dX0_ticket_72 rfl ?_
          refine x_getI (ci := 0) (C := RX0) (T := TX0) (N := 19) (f := 67) hx hb hts in_X0 hown hK hR rfl 17 (by decide) (hts _ q130) (fun _ h => h) rfl (by decide) dX0_ticket_73 hw.1 ?_
          have hw := hw.2
          refine lv_iconst (v := 1) hx hb dX0_ticket_76 (by decide) ?_
          refine lv_iadd hx hb dX0_ticket_77 ?_
          refine x_putI (ci := 0) (C := RX0) (T := TX0) (N := 19) (f := 67) hx hb hts in_X0 tyX0 tyX0_ok nmX0 hown hK hR hS rfl 17 (by decide) (hts _ q130) (fun _ h => h) rfl rfl (by decide) rfl rfl dX0_ticket_78 hw.1 (fun H locs hR hS => ?_)
          have hw := hw.2
          obtain ⟨S_21, eS_21⟩ : ∃ z, z = (sI S_20 67 o ((xI S_20 67 o) + 1)) := ⟨_, rfl⟩
          rw [← eS_21] at hR
          have hw := hw S_21 eS_21
          refine lv_aload_n hx hb dX0_ticket_81 rfl (lv_at hl 0 rfl) ?_
          refine x_getI (ci := 0) (C := RX0) (T := TX0) (N := 19) (f := 67) hx hb hts in_X0 hown hK hR rfl 17 (by decide) (hts _ q130) (fun _ h => h) rfl (by decide) dX0_ticket_82 hw.1 ?_
          have hw := hw.2
          refine lv_iconst (v := 1) hx hb dX0_ticket_85 (by decide) ?_
          refine lv_isub hx hb dX0_ticket_86 ?_
          refine W.widen (k := k) (n := n) (by omega) (by omega) ?_
          exact x_ri hx hb hr hlocks hR hS dX0_ticket_87 hw
        · have hw := x_t hw c_10
          refine lv_bipush (v := (-4)) hx hb dX0_ticket_42 (by decide) ?_
          refine W.widen (k := k) (n := n) (by omega) (by omega) ?_
          exact x_ri hx hb hr hlocks hR hS dX0_ticket_44 hw
      · have hw := x_t hw c_9
        refine lv_bipush (v := (-2)) hx hb dX0_ticket_30 (by decide) ?_
        refine W.widen (k := k) (n := n) (by omega) (by omega) ?_
        exact x_ri hx hb hr hlocks hR hS dX0_ticket_32 hw
  · have hw := x_t hw c_3
    refine lv_iconst (v := (-1)) hx hb dX0_ticket_8 (by decide) ?_
    refine W.widen (k := k) (n := n) (by omega) (by omega) ?_
    exact x_ri hx hb hr hlocks hR hS dX0_ticket_9 hw
def w_X0_isTicket (S : xH) (o : Nat) (x1 : Int32) (Q : Int32 → Prop) : Prop := xT S o = 1 ∧ w_X0_isIn S x1 0 ((xI S 67 o) - 1) (fun (r_1 : Int32) => x_B r_1 ∧ Q r_1)
theorem hd_X0_isTicket : yX0_isTicket.cls = "PressedMen" ∧ yX0_isTicket.cls ≠ "java/lang/invoke/MethodHandle" ∧ yX0_isTicket.cls ≠ "java/lang/invoke/VarHandle" ∧ (parseMethodDescriptor yX0_isTicket.desc).map (fun d => d.parameters.length) = some 1 := by decide +kernel
set_option maxHeartbeats 4000000 in
theorem mt_X0_isTicket (l : Launch) {D : va_G} {d : Nat → ClassId} {base : Nat} {mc : va_W} {S : xH} {o : Nat} {x1 : Int32} {Q : Int32 → Prop} (hw : w_X0_isTicket S o x1 Q) : Met l yX0_isTicket (ws_ yX0_isTicket cX0_isTicket 2 (some FieldType.boolean)) (x_rm 1 0 0 22) (x_Pc D d base mc S [.ref o, .int x1]) (x_Qi D d base mc (fun r S' => S' = S ∧ Q r)) 0 0 (x_A base) := by
  refine x_met (by decide) (Nat.le_of_ble_eq_true rfl) ?_
  intro p e s m below meth c hx hb hml hr hlocks hown hts hz hR hK hin ls hl
  have hown : s.vm.findClass "PressedMen" = some m.cls := hown
  have hl : lv_has ls 2 [(0, .ref o), (1, .int x1)] := hl
  have hS : va_S (x_A base) s.heap s.heap [] := va_S.rf
  unfold w_X0_isTicket at hw
  refine lv_iload_n hx hb dX0_isTicket_0 rfl (lv_at hl 1 rfl) ?_
  refine lv_iconst (v := 0) hx hb dX0_isTicket_1 (by decide) ?_
  refine lv_aload_n hx hb dX0_isTicket_2 rfl (lv_at hl 0 rfl) ?_
  refine x_getI (ci := 0) (C := RX0) (T := TX0) (N := 19) (f := 67) hx hb hts in_X0 hown hK hR rfl 17 (by decide) (hts _ q130) (fun _ h => h) rfl (by decide) dX0_isTicket_3 hw.1 ?_
  have hw := hw.2
  refine lv_iconst (v := 1) hx hb dX0_isTicket_6 (by decide) ?_
  refine lv_isub hx hb dX0_isTicket_7 ?_
  refine x_ci (va_runS (As := [.int x1, .int 0, .int ((xI S 67 o) - 1)]) (rest := []) ⟨hx, hb, hml, hown, hts⟩ (mt_X0_isIn l hw) (va_cwS 3 hts (lw_S q178 q179 q64 q180) rfl rfl rfl hd_X0_isIn.2 ⟨Nat.le_of_ble_eq_true rfl, Nat.le_of_ble_eq_true rfl⟩) ⟨x_Pc_blind, x_Pc_pre hR hz hS hK⟩ rfl rfl hl.1 rfl (lv_room (Nat.le_of_ble_eq_true rfl)) dX0_isTicket_8 ⟨Nat.le_refl _, Nat.le_refl _⟩) hS (fun r_1 S_2 H locs hp hR hS => ?_)
  have hw := hp.2
  rw [hp.1] at hR
  exact x_rz hx hb hr hlocks hR hS dX0_isTicket_11 hw.1 ⟨rfl, hw.2⟩
def w_X0_isHolder (S : xH) (x0 : Int32) (Q : Int32 → Prop) : Prop := w_X0_isIn S x0 0 9 (fun (r_1 : Int32) => x_B r_1 ∧ Q r_1)
theorem hd_X0_isHolder : yX0_isHolder.cls = "PressedMen" ∧ yX0_isHolder.cls ≠ "java/lang/invoke/MethodHandle" ∧ yX0_isHolder.cls ≠ "java/lang/invoke/VarHandle" ∧ (parseMethodDescriptor yX0_isHolder.desc).map (fun d => d.parameters.length) = some 1 := by decide +kernel
set_option maxHeartbeats 4000000 in
theorem mt_X0_isHolder (l : Launch) {D : va_G} {d : Nat → ClassId} {base : Nat} {mc : va_W} {S : xH} {x0 : Int32} {Q : Int32 → Prop} (hw : w_X0_isHolder S x0 Q) : Met l yX0_isHolder (ws_ yX0_isHolder cX0_isHolder 1 (some FieldType.boolean)) (x_rm 1 0 0 22) (x_Pc D d base mc S [.int x0]) (x_Qi D d base mc (fun r S' => S' = S ∧ Q r)) 0 0 (x_A base) := by
  refine x_met (by decide) (Nat.le_of_ble_eq_true rfl) ?_
  intro p e s m below meth c hx hb hml hr hlocks hown hts hz hR hK hin ls hl
  have hown : s.vm.findClass "PressedMen" = some m.cls := hown
  have hl : lv_has ls 1 [(0, .int x0)] := hl
  have hS : va_S (x_A base) s.heap s.heap [] := va_S.rf
  unfold w_X0_isHolder at hw
  refine lv_iload_n hx hb dX0_isHolder_0 rfl (lv_at hl 0 rfl) ?_
  refine lv_iconst (v := 0) hx hb dX0_isHolder_1 (by decide) ?_
  refine lv_bipush (v := 9) hx hb dX0_isHolder_2 (by decide) ?_
  refine x_ci (va_runS (As := [.int x0, .int 0, .int 9]) (rest := []) ⟨hx, hb, hml, hown, hts⟩ (mt_X0_isIn l hw) (va_cwS 3 hts (lw_S q178 q179 q64 q180) rfl rfl rfl hd_X0_isIn.2 ⟨Nat.le_of_ble_eq_true rfl, Nat.le_of_ble_eq_true rfl⟩) ⟨x_Pc_blind, x_Pc_pre hR hz hS hK⟩ rfl rfl hl.1 rfl (lv_room (Nat.le_of_ble_eq_true rfl)) dX0_isHolder_4 ⟨Nat.le_refl _, Nat.le_refl _⟩) hS (fun r_1 S_2 H locs hp hR hS => ?_)
  have hw := hp.2
  rw [hp.1] at hR
  exact x_rz hx hb hr hlocks hR hS dX0_isHolder_7 hw.1 ⟨rfl, hw.2⟩
def w_X19_gain (S : xH) (o : Nat) (x1 : Int32) (x2 : Int32) (Q : xH → Prop) : Prop := wif (x1 = (-9)) (xT S o = 20 ∧ ∃ b_7, (xR S 1000 o) = some b_7 ∧ xT S b_7 = 3 ∧ ∃ b_9, (xR S 1000 o) = some b_9 ∧ xT S b_9 = 3 ∧ nm (sI S 154 b_9 ((xI S 154 b_7) + x2)) (fun S_11 : xH => Q S_11)) (xT S o = 20 ∧ ∃ b_2, (xR S 1005 o) = some b_2 ∧ xT S b_2 = 1 ∧ ∃ b_4, (xR S 68 b_2) = some b_4 ∧ xT S b_4 = 101 ∧ vp_in x1 (xL S b_4) ∧ xT S b_4 = 101 ∧ vp_in x1 (xL S b_4) ∧ nm (sA S b_4 (Int32.toNatClampNeg x1) ((xA S b_4 (Int32.toNatClampNeg x1)) + x2)) (fun S_6 : xH => Q S_6))
theorem hd_X19_gain : yX19_gain.cls = "PressedMen$Ticket" ∧ yX19_gain.cls ≠ "java/lang/invoke/MethodHandle" ∧ yX19_gain.cls ≠ "java/lang/invoke/VarHandle" ∧ (parseMethodDescriptor yX19_gain.desc).map (fun d => d.parameters.length) = some 2 := by decide +kernel
set_option maxHeartbeats 4000000 in
theorem mt_X19_gain (l : Launch) {D : va_G} {d : Nat → ClassId} {base : Nat} {mc : va_W} {S : xH} {o : Nat} {x1 : Int32} {x2 : Int32} {Q : xH → Prop} (hw : w_X19_gain S o x1 x2 Q) : Met l yX19_gain (ws_ yX19_gain cX19_gain 3 none) (x_rm 0 0 0 0) (x_Pc D d base mc S [.ref o, .int x1, .int x2]) (x_Qv D d base mc (fun S' => Q S')) 0 0 (x_A base) := by
  refine x_met (by decide) (Nat.le_of_ble_eq_true rfl) ?_
  intro p e s m below meth c hx hb hml hr hlocks hown hts hz hR hK hin ls hl
  have hown : s.vm.findClass "PressedMen$Ticket" = some m.cls := hown
  have hl : lv_has ls 3 [(0, .ref o), (1, .int x1), (2, .int x2)] := hl
  have hS : va_S (x_A base) s.heap s.heap [] := va_S.rf
  unfold w_X19_gain at hw
  refine lv_iload_n hx hb dX19_gain_0 rfl (lv_at hl 1 rfl) ?_
  refine lv_bipush (v := (-9)) hx hb dX19_gain_1 (by decide) ?_
  refine lv_icmp_ne (tgt := 22) hx hb dX19_gain_3 (by decide) (fun c_1 => ?_) (fun c_1 => ?_)
  · have hw := x_f hw c_1
    refine lv_aload_n hx hb dX19_gain_22 rfl (lv_at hl 0 rfl) ?_
    refine x_getR (ci := 19) (C := RX19) (T := TX19) (N := 6) (f := 1005) hx hb hts in_X19 hown hK hR rfl 5 (by decide) (hts _ q909) (fun _ h => h) rfl (by decide) dX19_gain_23 hw.1 ?_
    have hw := hw.2
    obtain ⟨b_2, e_3, hw⟩ := hw
    refine x_dr0 e_3 ?_
    refine x_getNR (ci := 0) (C := RX0) (T := TX0) (N := 19) (f := 68) hx hb hts in_X0 hown hK hR rfl 18 (by decide) (hK.2 _ q131 rfl) (fun _ h => h) rfl (by decide) dX19_gain_26 hw.1 ?_
    have hw := hw.2
    refine lv_iload_n hx hb dX19_gain_29 rfl (lv_at hl 1 rfl) ?_
    obtain ⟨b_4, e_5, hw⟩ := hw
    refine x_dr1 e_5 ?_
    refine lv_dup2_11 hx hb dX19_gain_30 rfl rfl ?_
    refine x_iald hx hb hK hR dX19_gain_31 hw.1 hw.2.1 ?_
    have hw := hw.2.2
    refine lv_iload_n hx hb dX19_gain_32 rfl (lv_at hl 2 rfl) ?_
    refine lv_iadd hx hb dX19_gain_33 ?_
    refine x_iast hx hb hK hR hS dX19_gain_34 hw.1 hw.2.1 (fun H locs hR hS => ?_)
    have hw := hw.2.2
    obtain ⟨S_6, eS_6⟩ : ∃ z, z = (sA S b_4 (Int32.toNatClampNeg x1) ((xA S b_4 (Int32.toNatClampNeg x1)) + x2)) := ⟨_, rfl⟩
    rw [← eS_6] at hR
    have hw := hw S_6 eS_6
    exact x_rv hx hb hr hlocks hR hS dX19_gain_35 hw
  · have hw := x_t hw c_1
    refine lv_aload_n hx hb dX19_gain_6 rfl (lv_at hl 0 rfl) ?_
    refine x_getR (ci := 19) (C := RX19) (T := TX19) (N := 6) (f := 1000) hx hb hts in_X19 hown hK hR rfl 0 (by decide) (hts _ q901) (fun _ h => h) rfl (by decide) dX19_gain_7 hw.1 ?_
    have hw := hw.2
    refine lv_dup hx hb dX19_gain_10 (x_cat _) ?_
    obtain ⟨b_7, e_8, hw⟩ := hw
    refine x_dr0 e_8 ?_
    refine x_getNI (ci := 2) (C := RX2) (T := TX2) (N := 5) (f := 154) hx hb hts in_X2 hown hK hR rfl 4 (by decide) (hK.2 _ q235 rfl) (fun _ h => h) rfl (by decide) dX19_gain_11 hw.1 ?_
    have hw := hw.2
    refine lv_iload_n hx hb dX19_gain_14 rfl (lv_at hl 2 rfl) ?_
    refine lv_iadd hx hb dX19_gain_15 ?_
    obtain ⟨b_9, e_10, hw⟩ := hw
    refine x_dr1 e_10 ?_
    refine x_putNI (ci := 2) (C := RX2) (T := TX2) (N := 5) (f := 154) hx hb hts in_X2 tyX2 tyX2_ok nmX2 hown hK hR hS rfl 4 (by decide) (hK.2 _ q235 rfl) (fun _ h => h) rfl rfl (by decide) rfl rfl dX19_gain_16 hw.1 (fun H locs hR hS => ?_)
    have hw := hw.2
    obtain ⟨S_11, eS_11⟩ : ∃ z, z = (sI S 154 b_9 ((xI S 154 b_7) + x2)) := ⟨_, rfl⟩
    rw [← eS_11] at hR
    have hw := hw S_11 eS_11
    refine lv_goto (tgt := 35) hx hb dX19_gain_19 (by decide) ?_
    exact x_rv hx hb hr hlocks hR hS dX19_gain_35 hw
def w_X0_sell (S : xH) (o : Nat) (x1 : Int32) (x2 : Int32) (x3 : Int32) (Q : Int32 → xH → Prop) : Prop := xT S o = 1 ∧ w_X0_isTicket S o x1 (fun (r_1 : Int32) => wif (r_1 = 0) (Q (-1) S) (w_X0_isHolder S x2 (fun (r_4 : Int32) => wif (r_4 = 0) (Q (-1) S) (w_X0_isIn S x3 1 100 (fun (r_7 : Int32) => wif (r_7 = 0) (Q (-2) S) (xT S o = 1 ∧ ∃ b_10, (xR S 66 o) = some b_10 ∧ xT S b_10 = 108 ∧ vp_in x1 (xL S b_10) ∧ ∃ b_12, (xQ S b_10 (Int32.toNatClampNeg x1)) = some b_12 ∧ xT S b_12 = 20 ∧ wif ((xI S 1003 b_12) = 0) (xT S b_12 = 20 ∧ wif ((xI S 1002 b_12) = x2) (Q (-3) S) (xT S b_12 = 20 ∧ nm (((xI S 1001 b_12) * x3) / 100) (fun x5_16 : Int32 => xT S b_12 = 20 ∧ xT S b_12 = 20 ∧ w_X19_gain S b_12 (xI S 1002 b_12) x5_16 (fun (S_17 : xH) => xT S_17 b_12 = 20 ∧ w_X19_gain S_17 b_12 x2 (-x5_16) (fun (S_18 : xH) => xT S_18 b_12 = 20 ∧ nm (sI S_18 1002 b_12 x2) (fun S_19 : xH => Q x5_16 S_19)))))) (Q (-3) S)))))))
theorem hd_X0_sell : yX0_sell.cls = "PressedMen" ∧ yX0_sell.cls ≠ "java/lang/invoke/MethodHandle" ∧ yX0_sell.cls ≠ "java/lang/invoke/VarHandle" ∧ (parseMethodDescriptor yX0_sell.desc).map (fun d => d.parameters.length) = some 3 := by decide +kernel
set_option maxHeartbeats 4000000 in
theorem mt_X0_sell (l : Launch) {D : va_G} {d : Nat → ClassId} {base : Nat} {mc : va_W} {S : xH} {o : Nat} {x1 : Int32} {x2 : Int32} {x3 : Int32} {Q : Int32 → xH → Prop} (hw : w_X0_sell S o x1 x2 x3 Q) : Met l yX0_sell (ws_ yX0_sell cX0_sell 6 (some FieldType.int)) (x_rm 2 0 0 43) (x_Pc D d base mc S [.ref o, .int x1, .int x2, .int x3]) (x_Qi D d base mc (fun r S' => Q r S')) 0 0 (x_A base) := by
  refine x_met (by decide) (Nat.le_of_ble_eq_true rfl) ?_
  intro p e s m below meth c hx hb hml hr hlocks hown hts hz hR hK hin ls hl
  have hown : s.vm.findClass "PressedMen" = some m.cls := hown
  have hl : lv_has ls 6 [(0, .ref o), (1, .int x1), (2, .int x2), (3, .int x3)] := hl
  have hS : va_S (x_A base) s.heap s.heap [] := va_S.rf
  unfold w_X0_sell at hw
  refine lv_aload_n hx hb dX0_sell_0 rfl (lv_at hl 0 rfl) ?_
  refine lv_iload_n hx hb dX0_sell_1 rfl (lv_at hl 1 rfl) ?_
  obtain ⟨ha, hw⟩ := hw
  refine x_ci (va_runV (As := [.int x1]) (rest := []) ⟨hx, hb, hml, hown, hts⟩ (mt_X0_isTicket l hw) (cwV 1 hts (lw_V q927 q929 qs35 q64 q930) rfl rfl rfl hd_X0_isTicket ⟨Nat.le_of_ble_eq_true rfl, Nat.le_of_ble_eq_true rfl⟩) ⟨x_Pc_blind, hR.recv hK (ci := 0) rfl (by decide) ha, x_Pc_pre hR hz hS hK⟩ rfl rfl hl.1 rfl (lv_room (Nat.le_of_ble_eq_true rfl)) dX0_sell_2 ⟨Nat.le_refl _, Nat.le_refl _⟩) hS (fun r_1 S_2 H locs hp hR hS => ?_)
  have hw := hp.2
  rw [hp.1] at hR
  refine lv_if_eq (tgt := 15) hx hb dX0_sell_5 (by decide) (fun c_3 => ?_) (fun c_3 => ?_)
  · have hw := x_t hw c_3
    refine lv_iconst (v := (-1)) hx hb dX0_sell_15 (by decide) ?_
    exact x_ri hx hb hr hlocks hR hS dX0_sell_16 hw
  · have hw := x_f hw c_3
    refine lv_iload_n hx hb dX0_sell_8 rfl (lv_at hl 2 rfl) ?_
    refine x_ci (va_runS (As := [.int x2]) (rest := []) ⟨hx, hb, hml, hown, hts⟩ (mt_X0_isHolder l hw) (va_cwS 1 hts (lw_S q931 q932 q64 q933) rfl rfl rfl hd_X0_isHolder.2 ⟨Nat.le_of_ble_eq_true rfl, Nat.le_of_ble_eq_true rfl⟩) ⟨x_Pc_blind, x_Pc_pre hR hz hS hK⟩ rfl rfl hl.1 rfl (lv_room (Nat.le_of_ble_eq_true rfl)) dX0_sell_9 ⟨Nat.le_refl _, Nat.le_refl _⟩) hS (fun r_4 S_5 H locs hp hR hS => ?_)
    have hw := hp.2
    rw [hp.1] at hR
    refine lv_if_ne (tgt := 17) hx hb dX0_sell_12 (by decide) (fun c_6 => ?_) (fun c_6 => ?_)
    · have hw := x_f hw c_6
      refine lv_iload_n hx hb dX0_sell_17 rfl (lv_at hl 3 rfl) ?_
      refine lv_iconst (v := 1) hx hb dX0_sell_18 (by decide) ?_
      refine lv_bipush (v := 100) hx hb dX0_sell_19 (by decide) ?_
      refine x_ci (va_runS (As := [.int x3, .int 1, .int 100]) (rest := []) ⟨hx, hb, hml, hown, hts⟩ (mt_X0_isIn l hw) (va_cwS 3 hts (lw_S q178 q179 q64 q180) rfl rfl rfl hd_X0_isIn.2 ⟨Nat.le_of_ble_eq_true rfl, Nat.le_of_ble_eq_true rfl⟩) ⟨x_Pc_blind, x_Pc_pre hR hz hS hK⟩ rfl rfl hl.1 rfl (lv_room (Nat.le_of_ble_eq_true rfl)) dX0_sell_21 ⟨Nat.le_refl _, Nat.le_refl _⟩) hS (fun r_7 S_8 H locs hp hR hS => ?_)
      have hw := hp.2
      rw [hp.1] at hR
      refine lv_if_ne (tgt := 30) hx hb dX0_sell_24 (by decide) (fun c_9 => ?_) (fun c_9 => ?_)
      · have hw := x_f hw c_9
        refine lv_aload_n hx hb dX0_sell_30 rfl (lv_at hl 0 rfl) ?_
        refine x_getR (ci := 0) (C := RX0) (T := TX0) (N := 19) (f := 66) hx hb hts in_X0 hown hK hR rfl 16 (by decide) (hts _ q129) (fun _ h => h) rfl (by decide) dX0_sell_31 hw.1 ?_
        have hw := hw.2
        refine lv_iload_n hx hb dX0_sell_34 rfl (lv_at hl 1 rfl) ?_
        obtain ⟨b_10, e_11, hw⟩ := hw
        refine x_dr1 e_11 ?_
        refine x_aald (t := 108) hx hb hK hR (by decide) rfl rfl dX0_sell_35 hw.1 hw.2.1 ?_
        have hw := hw.2.2
        obtain ⟨b_12, e_13, hw⟩ := hw
        refine x_dr0 e_13 ?_
        refine lv_astore (lv' := [(4, .ref b_12), (0, .ref o), (1, .int x1), (2, .int x2), (3, .int x3)]) hx hb dX0_sell_36 hl (by decide) rfl (fun ls hl => ?_)
        refine lv_aload hx hb dX0_sell_38 (lv_at hl 0 rfl) ?_
        refine x_getNI (ci := 19) (C := RX19) (T := TX19) (N := 6) (f := 1003) hx hb hts in_X19 hown hK hR rfl 3 (by decide) (hK.2 _ q907 rfl) (fun _ h => h) rfl (by decide) dX0_sell_40 hw.1 ?_
        have hw := hw.2
        refine lv_if_ne (tgt := 55) hx hb dX0_sell_43 (by decide) (fun c_14 => ?_) (fun c_14 => ?_)
        · have hw := x_f hw c_14
          refine lv_bipush (v := (-3)) hx hb dX0_sell_55 (by decide) ?_
          exact x_ri hx hb hr hlocks hR hS dX0_sell_57 hw
        · have hw := x_t hw c_14
          refine lv_aload hx hb dX0_sell_46 (lv_at hl 0 rfl) ?_
          refine x_getNI (ci := 19) (C := RX19) (T := TX19) (N := 6) (f := 1002) hx hb hts in_X19 hown hK hR rfl 2 (by decide) (hK.2 _ q906 rfl) (fun _ h => h) rfl (by decide) dX0_sell_48 hw.1 ?_
          have hw := hw.2
          refine lv_iload_n hx hb dX0_sell_51 rfl (lv_at hl 3 rfl) ?_
          refine lv_icmp_ne (tgt := 58) hx hb dX0_sell_52 (by decide) (fun c_15 => ?_) (fun c_15 => ?_)
          · have hw := x_f hw c_15
            refine lv_aload hx hb dX0_sell_58 (lv_at hl 0 rfl) ?_
            refine x_getNI (ci := 19) (C := RX19) (T := TX19) (N := 6) (f := 1001) hx hb hts in_X19 hown hK hR rfl 1 (by decide) (hK.2 _ q904 rfl) (fun _ h => h) rfl (by decide) dX0_sell_60 hw.1 ?_
            have hw := hw.2
            refine lv_iload_n hx hb dX0_sell_63 rfl (lv_at hl 4 rfl) ?_
            refine lv_imul hx hb dX0_sell_64 ?_
            refine lv_bipush (v := 100) hx hb dX0_sell_65 (by decide) ?_
            refine lv_idiv hx hb dX0_sell_67 (by decide) ?_
            refine lv_topi (fun x5_16 ex5_16 => ?_)
            have hw := hw x5_16 ex5_16
            refine lv_istore (lv' := [(5, .int x5_16), (4, .ref b_12), (0, .ref o), (1, .int x1), (2, .int x2), (3, .int x3)]) hx hb dX0_sell_68 hl (by decide) rfl (fun ls hl => ?_)
            refine lv_aload hx hb dX0_sell_70 (lv_at hl 1 rfl) ?_
            refine lv_aload hx hb dX0_sell_72 (lv_at hl 1 rfl) ?_
            refine x_getNI (ci := 19) (C := RX19) (T := TX19) (N := 6) (f := 1002) hx hb hts in_X19 hown hK hR rfl 2 (by decide) (hK.2 _ q906 rfl) (fun _ h => h) rfl (by decide) dX0_sell_74 hw.1 ?_
            have hw := hw.2
            refine lv_iload hx hb dX0_sell_77 (lv_at hl 0 rfl) ?_
            obtain ⟨ha, hw⟩ := hw
            refine x_cv (va_runV (As := [.int (xI S 1002 b_12), .int x5_16]) (rest := []) ⟨hx, hb, hml, hown, hts⟩ (mt_X19_gain l hw) (cwV 2 hts (lw_V q934 q935 q936 q86 q937) rfl rfl rfl hd_X19_gain ⟨Nat.le_of_ble_eq_true rfl, Nat.le_of_ble_eq_true rfl⟩) ⟨x_Pc_blind, hR.recv hK (ci := 19) rfl (by decide) ha, x_Pc_pre hR hz hS hK⟩ rfl rfl hl.1 rfl (lv_room (Nat.le_of_ble_eq_true rfl)) dX0_sell_79 ⟨Nat.le_refl _, Nat.le_refl _⟩) hS (fun S_17 H locs hp hR hS => ?_)
            have hw := hp
            refine lv_aload hx hb dX0_sell_82 (lv_at hl 1 rfl) ?_
            refine lv_iload_n hx hb dX0_sell_84 rfl (lv_at hl 4 rfl) ?_
            refine lv_iload hx hb dX0_sell_85 (lv_at hl 0 rfl) ?_
            refine lv_ineg hx hb dX0_sell_87 ?_
            obtain ⟨ha, hw⟩ := hw
            refine x_cv (va_runV (As := [.int x2, .int (-x5_16)]) (rest := []) ⟨hx, hb, hml, hown, hts⟩ (mt_X19_gain l hw) (cwV 2 hts (lw_V q934 q935 q936 q86 q937) rfl rfl rfl hd_X19_gain ⟨Nat.le_of_ble_eq_true rfl, Nat.le_of_ble_eq_true rfl⟩) ⟨x_Pc_blind, hR.recv hK (ci := 19) rfl (by decide) ha, x_Pc_pre hR hz hS hK⟩ rfl rfl hl.1 rfl (lv_room (Nat.le_of_ble_eq_true rfl)) dX0_sell_88 ⟨Nat.le_refl _, Nat.le_refl _⟩) hS (fun S_18 H locs hp hR hS => ?_)
            have hw := hp
            refine lv_aload hx hb dX0_sell_91 (lv_at hl 1 rfl) ?_
            refine lv_iload_n hx hb dX0_sell_93 rfl (lv_at hl 4 rfl) ?_
            refine x_putNI (ci := 19) (C := RX19) (T := TX19) (N := 6) (f := 1002) hx hb hts in_X19 tyX19 tyX19_ok nmX19 hown hK hR hS rfl 2 (by decide) (hK.2 _ q906 rfl) (fun _ h => h) rfl rfl (by decide) rfl rfl dX0_sell_94 hw.1 (fun H locs hR hS => ?_)
            have hw := hw.2
            obtain ⟨S_19, eS_19⟩ : ∃ z, z = (sI S_18 1002 b_12 x2) := ⟨_, rfl⟩
            rw [← eS_19] at hR
            have hw := hw S_19 eS_19
            refine lv_iload hx hb dX0_sell_97 (lv_at hl 0 rfl) ?_
            exact x_ri hx hb hr hlocks hR hS dX0_sell_99 hw
          · have hw := x_t hw c_15
            refine lv_bipush (v := (-3)) hx hb dX0_sell_55 (by decide) ?_
            exact x_ri hx hb hr hlocks hR hS dX0_sell_57 hw
      · have hw := x_t hw c_9
        refine lv_bipush (v := (-2)) hx hb dX0_sell_27 (by decide) ?_
        exact x_ri hx hb hr hlocks hR hS dX0_sell_29 hw
    · have hw := x_t hw c_6
      refine lv_iconst (v := (-1)) hx hb dX0_sell_15 (by decide) ?_
      exact x_ri hx hb hr hlocks hR hS dX0_sell_16 hw
def w_X0_pay (S : xH) (o : Nat) (x1 : Int32) (x2 : Int32) (Q : Int32 → xH → Prop) : Prop := xT S o = 1 ∧ w_X0_isTicket S o x1 (fun (r_1 : Int32) => wif (r_1 = 0) (Q (-1) S) (jn0 (xT S o = 1 ∧ ∃ b_5, (xR S 66 o) = some b_5 ∧ xT S b_5 = 108 ∧ vp_in x1 (xL S b_5) ∧ ∃ b_7, (xQ S b_5 (Int32.toNatClampNeg x1)) = some b_7 ∧ xT S b_7 = 20 ∧ jn (fun (S_9 : xH) => xT S_9 b_7 = 20 ∧ xT S_9 b_7 = 20 ∧ w_X19_gain S_9 b_7 x2 (xI S_9 1001 b_7) (fun (S_11 : xH) => xT S_11 b_7 = 20 ∧ Q (xI S_11 1001 b_7) S_11)) (fun J_10 => jn0 (xT S b_7 = 20 ∧ xT S b_7 = 20 ∧ nm (sI S 1004 b_7 ((xI S 1004 b_7) + 1)) (fun S_13 : xH => J_10 S_13)) (fun J_12 => wif ((xI S 1003 b_7) = 0) (xT S b_7 = 20 ∧ wif ((xI S 1002 b_7) = x2) (xT S b_7 = 20 ∧ nm (sI S 1003 b_7 1) (fun S_16 : xH => J_10 S_16)) (J_12)) (J_12)))) (fun J_4 => wif (x2 = (-9)) (J_4) (w_X0_isHolder S x2 (fun (r_18 : Int32) => wif (r_18 = 0) (Q (-1) S) (J_4))))))
theorem hd_X0_pay : yX0_pay.cls = "PressedMen" ∧ yX0_pay.cls ≠ "java/lang/invoke/MethodHandle" ∧ yX0_pay.cls ≠ "java/lang/invoke/VarHandle" ∧ (parseMethodDescriptor yX0_pay.desc).map (fun d => d.parameters.length) = some 2 := by decide +kernel
set_option maxHeartbeats 4000000 in
theorem mt_X0_pay (l : Launch) {D : va_G} {d : Nat → ClassId} {base : Nat} {mc : va_W} {S : xH} {o : Nat} {x1 : Int32} {x2 : Int32} {Q : Int32 → xH → Prop} (hw : w_X0_pay S o x1 x2 Q) : Met l yX0_pay (ws_ yX0_pay cX0_pay 4 (some FieldType.int)) (x_rm 2 0 0 43) (x_Pc D d base mc S [.ref o, .int x1, .int x2]) (x_Qi D d base mc (fun r S' => Q r S')) 0 0 (x_A base) := by
  refine x_met (by decide) (Nat.le_of_ble_eq_true rfl) ?_
  intro p e s m below meth c hx hb hml hr hlocks hown hts hz hR hK hin ls hl
  have hown : s.vm.findClass "PressedMen" = some m.cls := hown
  have hl : lv_has ls 4 [(0, .ref o), (1, .int x1), (2, .int x2)] := hl
  have hS : va_S (x_A base) s.heap s.heap [] := va_S.rf
  unfold w_X0_pay at hw
  refine lv_aload_n hx hb dX0_pay_0 rfl (lv_at hl 0 rfl) ?_
  refine lv_iload_n hx hb dX0_pay_1 rfl (lv_at hl 1 rfl) ?_
  obtain ⟨ha, hw⟩ := hw
  refine x_ci (va_runV (As := [.int x1]) (rest := []) ⟨hx, hb, hml, hown, hts⟩ (mt_X0_isTicket l hw) (cwV 1 hts (lw_V q927 q929 qs35 q64 q930) rfl rfl rfl hd_X0_isTicket ⟨Nat.le_of_ble_eq_true rfl, Nat.le_of_ble_eq_true rfl⟩) ⟨x_Pc_blind, hR.recv hK (ci := 0) rfl (by decide) ha, x_Pc_pre hR hz hS hK⟩ rfl rfl hl.1 rfl (lv_room (Nat.le_of_ble_eq_true rfl)) dX0_pay_2 ⟨Nat.le_refl _, Nat.le_refl _⟩) hS (fun r_1 S_2 H locs hp hR hS => ?_)
  have hw := hp.2
  rw [hp.1] at hR
  refine lv_if_eq (tgt := 21) hx hb dX0_pay_5 (by decide) (fun c_3 => ?_) (fun c_3 => ?_)
  · have hw := x_t hw c_3
    refine lv_iconst (v := (-1)) hx hb dX0_pay_21 (by decide) ?_
    exact x_ri hx hb hr hlocks hR hS dX0_pay_22 hw
  · have hw := x_f hw c_3
    refine lv_iload_n hx hb dX0_pay_8 rfl (lv_at hl 2 rfl) ?_
    refine lv_bipush (v := (-9)) hx hb dX0_pay_9 (by decide) ?_
    refine x_jn0 (G := ∀ (ls : Array Slot) (H : Heap) (locs : List Loc), x_Rp D d (x_A base) mc S H → va_S (x_A base) s.heap H locs → lv_has ls 4 [(0, .ref o), (1, .int x1), (2, .int x2)] → W p l e (x_rm 2 0 0 43) s m ([.ref o, .int x1, .int x2] : List Value).toArray below meth c H locs 0 0 (MQ below (x_Qi D d base mc (fun r S' => Q r S')) ([.ref o, .int x1, .int x2] : List Value).toArray s 0 0 (x_A base)) (F0 m 23 ls [])) hw (fun hw => ?_) (fun hJ_4 hw => ?_)
    · intro ls H locs hR hS hl
      refine lv_aload_n hx hb dX0_pay_23 rfl (lv_at hl 0 rfl) ?_
      refine x_getR (ci := 0) (C := RX0) (T := TX0) (N := 19) (f := 66) hx hb hts in_X0 hown hK hR rfl 16 (by decide) (hts _ q129) (fun _ h => h) rfl (by decide) dX0_pay_24 hw.1 ?_
      have hw := hw.2
      refine lv_iload_n hx hb dX0_pay_27 rfl (lv_at hl 1 rfl) ?_
      obtain ⟨b_5, e_6, hw⟩ := hw
      refine x_dr1 e_6 ?_
      refine x_aald (t := 108) hx hb hK hR (by decide) rfl rfl dX0_pay_28 hw.1 hw.2.1 ?_
      have hw := hw.2.2
      obtain ⟨b_7, e_8, hw⟩ := hw
      refine x_dr0 e_8 ?_
      refine lv_astore_n (lv' := [(3, .ref b_7), (0, .ref o), (1, .int x1), (2, .int x2)]) hx hb dX0_pay_29 rfl hl (by decide) rfl (fun ls hl => ?_)
      refine lv_aload_n hx hb dX0_pay_30 rfl (lv_at hl 0 rfl) ?_
      refine x_getNI (ci := 19) (C := RX19) (T := TX19) (N := 6) (f := 1003) hx hb hts in_X19 hown hK hR rfl 3 (by decide) (hK.2 _ q907 rfl) (fun _ h => h) rfl (by decide) dX0_pay_31 hw.1 ?_
      have hw := hw.2
      refine x_jn (G := fun (S_9 : xH) => ∀ (ls : Array Slot) (H : Heap) (locs : List Loc), x_Rp D d (x_A base) mc S_9 H → va_S (x_A base) s.heap H locs → lv_has ls 4 [(2, .int x2), (3, .ref b_7)] → W p l e (x_rm 2 0 0 43) s m ([.ref o, .int x1, .int x2] : List Value).toArray below meth c H locs 0 0 (MQ below (x_Qi D d base mc (fun r S' => Q r S')) ([.ref o, .int x1, .int x2] : List Value).toArray s 0 0 (x_A base)) (F0 m 63 ls [])) hw (fun S_9 hw => ?_) (fun hJ_10 hw => ?_)
      · intro ls H locs hR hS hl
        refine lv_aload_n hx hb dX0_pay_63 rfl (lv_at hl 1 rfl) ?_
        refine lv_iload_n hx hb dX0_pay_64 rfl (lv_at hl 0 rfl) ?_
        refine lv_aload_n hx hb dX0_pay_65 rfl (lv_at hl 1 rfl) ?_
        refine x_getNI (ci := 19) (C := RX19) (T := TX19) (N := 6) (f := 1001) hx hb hts in_X19 hown hK hR rfl 1 (by decide) (hK.2 _ q904 rfl) (fun _ h => h) rfl (by decide) dX0_pay_66 hw.1 ?_
        have hw := hw.2
        obtain ⟨ha, hw⟩ := hw
        refine x_cv (va_runV (As := [.int x2, .int (xI S_9 1001 b_7)]) (rest := []) ⟨hx, hb, hml, hown, hts⟩ (mt_X19_gain l hw) (cwV 2 hts (lw_V q934 q935 q936 q86 q937) rfl rfl rfl hd_X19_gain ⟨Nat.le_of_ble_eq_true rfl, Nat.le_of_ble_eq_true rfl⟩) ⟨x_Pc_blind, hR.recv hK (ci := 19) rfl (by decide) ha, x_Pc_pre hR hz hS hK⟩ rfl rfl hl.1 rfl (lv_room (Nat.le_of_ble_eq_true rfl)) dX0_pay_69 ⟨Nat.le_refl _, Nat.le_refl _⟩) hS (fun S_11 H locs hp hR hS => ?_)
        have hw := hp
        refine lv_aload_n hx hb dX0_pay_72 rfl (lv_at hl 1 rfl) ?_
        refine x_getNI (ci := 19) (C := RX19) (T := TX19) (N := 6) (f := 1001) hx hb hts in_X19 hown hK hR rfl 1 (by decide) (hK.2 _ q904 rfl) (fun _ h => h) rfl (by decide) dX0_pay_73 hw.1 ?_
        have hw := hw.2
        exact x_ri hx hb hr hlocks hR hS dX0_pay_76 hw
      · refine x_jn0 (G := ∀ (ls : Array Slot) (H : Heap) (locs : List Loc), x_Rp D d (x_A base) mc S H → va_S (x_A base) s.heap H locs → lv_has ls 4 [(2, .int x2), (3, .ref b_7)] → W p l e (x_rm 2 0 0 43) s m ([.ref o, .int x1, .int x2] : List Value).toArray below meth c H locs 0 0 (MQ below (x_Qi D d base mc (fun r S' => Q r S')) ([.ref o, .int x1, .int x2] : List Value).toArray s 0 0 (x_A base)) (F0 m 45 ls [])) hw (fun hw => ?_) (fun hJ_12 hw => ?_)
        · intro ls H locs hR hS hl
          refine lv_aload_n hx hb dX0_pay_45 rfl (lv_at hl 1 rfl) ?_
          refine lv_dup hx hb dX0_pay_46 rfl ?_
          refine x_getNI (ci := 19) (C := RX19) (T := TX19) (N := 6) (f := 1004) hx hb hts in_X19 hown hK hR rfl 4 (by decide) (hK.2 _ q908 rfl) (fun _ h => h) rfl (by decide) dX0_pay_47 hw.1 ?_
          have hw := hw.2
          refine lv_iconst (v := 1) hx hb dX0_pay_50 (by decide) ?_
          refine lv_iadd hx hb dX0_pay_51 ?_
          refine x_putNI (ci := 19) (C := RX19) (T := TX19) (N := 6) (f := 1004) hx hb hts in_X19 tyX19 tyX19_ok nmX19 hown hK hR hS rfl 4 (by decide) (hK.2 _ q908 rfl) (fun _ h => h) rfl rfl (by decide) rfl rfl dX0_pay_52 hw.1 (fun H locs hR hS => ?_)
          have hw := hw.2
          obtain ⟨S_13, eS_13⟩ : ∃ z, z = (sI S 1004 b_7 ((xI S 1004 b_7) + 1)) := ⟨_, rfl⟩
          rw [← eS_13] at hR
          have hw := hw S_13 eS_13
          refine lv_goto (tgt := 63) hx hb dX0_pay_55 (by decide) ?_
          exact hJ_10 S_13 hw ls _ _ hR hS (lv_sub hl [0, 1] rfl)
        · refine lv_if_ne (tgt := 45) hx hb dX0_pay_34 (by decide) (fun c_14 => ?_) (fun c_14 => ?_)
          · have hw := x_f hw c_14
            exact hJ_12  hw ls _ _ hR hS (lv_sub hl [3, 0] rfl)
          · have hw := x_t hw c_14
            refine lv_aload_n hx hb dX0_pay_37 rfl (lv_at hl 0 rfl) ?_
            refine x_getNI (ci := 19) (C := RX19) (T := TX19) (N := 6) (f := 1002) hx hb hts in_X19 hown hK hR rfl 2 (by decide) (hK.2 _ q906 rfl) (fun _ h => h) rfl (by decide) dX0_pay_38 hw.1 ?_
            have hw := hw.2
            refine lv_iload_n hx hb dX0_pay_41 rfl (lv_at hl 3 rfl) ?_
            refine lv_icmp_eq (tgt := 58) hx hb dX0_pay_42 (by decide) (fun c_15 => ?_) (fun c_15 => ?_)
            · have hw := x_t hw c_15
              refine lv_aload_n hx hb dX0_pay_58 rfl (lv_at hl 0 rfl) ?_
              refine lv_iconst (v := 1) hx hb dX0_pay_59 (by decide) ?_
              refine x_putNI (ci := 19) (C := RX19) (T := TX19) (N := 6) (f := 1003) hx hb hts in_X19 tyX19 tyX19_ok nmX19 hown hK hR hS rfl 3 (by decide) (hK.2 _ q907 rfl) (fun _ h => h) rfl rfl (by decide) (x_B.n (Or.inr rfl)) (x_B.f (Or.inr rfl)) dX0_pay_60 hw.1 (fun H locs hR hS => ?_)
              have hw := hw.2
              obtain ⟨S_16, eS_16⟩ : ∃ z, z = (sI S 1003 b_7 1) := ⟨_, rfl⟩
              rw [← eS_16] at hR
              have hw := hw S_16 eS_16
              exact hJ_10 S_16 hw ls _ _ hR hS (lv_sub hl [3, 0] rfl)
            · have hw := x_f hw c_15
              exact hJ_12  hw ls _ _ hR hS (lv_sub hl [3, 0] rfl)
    · refine lv_icmp_eq (tgt := 23) hx hb dX0_pay_11 (by decide) (fun c_17 => ?_) (fun c_17 => ?_)
      · have hw := x_t hw c_17
        exact hJ_4  hw ls _ _ hR hS (lv_sub hl [0, 1, 2] rfl)
      · have hw := x_f hw c_17
        refine lv_iload_n hx hb dX0_pay_14 rfl (lv_at hl 2 rfl) ?_
        refine x_ci (va_runS (As := [.int x2]) (rest := []) ⟨hx, hb, hml, hown, hts⟩ (mt_X0_isHolder l hw) (va_cwS 1 hts (lw_S q931 q932 q64 q933) rfl rfl rfl hd_X0_isHolder.2 ⟨Nat.le_of_ble_eq_true rfl, Nat.le_of_ble_eq_true rfl⟩) ⟨x_Pc_blind, x_Pc_pre hR hz hS hK⟩ rfl rfl hl.1 rfl (lv_room (Nat.le_of_ble_eq_true rfl)) dX0_pay_15 ⟨Nat.le_refl _, Nat.le_refl _⟩) hS (fun r_18 S_19 H locs hp hR hS => ?_)
        have hw := hp.2
        rw [hp.1] at hR
        refine lv_if_ne (tgt := 23) hx hb dX0_pay_18 (by decide) (fun c_20 => ?_) (fun c_20 => ?_)
        · have hw := x_f hw c_20
          exact hJ_4  hw ls _ _ hR hS (lv_sub hl [0, 1, 2] rfl)
        · have hw := x_t hw c_20
          refine lv_iconst (v := (-1)) hx hb dX0_pay_21 (by decide) ?_
          exact x_ri hx hb hr hlocks hR hS dX0_pay_22 hw
def w_X0_ticketOf (S : xH) (o : Nat) (x1 : Int32) (x2 : Int32) (Q : Int32 → Prop) : Prop := xT S o = 1 ∧ w_X0_isTicket S o x1 (fun (r_1 : Int32) => wif (r_1 = 0) (Q (-1)) (xT S o = 1 ∧ ∃ b_4, (xR S 66 o) = some b_4 ∧ xT S b_4 = 108 ∧ vp_in x1 (xL S b_4) ∧ ∃ b_6, (xQ S b_4 (Int32.toNatClampNeg x1)) = some b_6 ∧ wif (x2 = 0) (xT S b_6 = 20 ∧ Q (xI S 1002 b_6)) (wif (x2 = 1) (xT S b_6 = 20 ∧ wif ((xI S 1003 b_6) = 0) (Q 0) (Q 1)) (wif (x2 = 2) (xT S b_6 = 20 ∧ Q (xI S 1004 b_6)) (wif (x2 = 3) (xT S b_6 = 20 ∧ Q (xI S 1001 b_6)) ((Q (-2))))))))
theorem hd_X0_ticketOf : yX0_ticketOf.cls = "PressedMen" ∧ yX0_ticketOf.cls ≠ "java/lang/invoke/MethodHandle" ∧ yX0_ticketOf.cls ≠ "java/lang/invoke/VarHandle" ∧ (parseMethodDescriptor yX0_ticketOf.desc).map (fun d => d.parameters.length) = some 2 := by decide +kernel
set_option maxHeartbeats 4000000 in
theorem mt_X0_ticketOf (l : Launch) {D : va_G} {d : Nat → ClassId} {base : Nat} {mc : va_W} {S : xH} {o : Nat} {x1 : Int32} {x2 : Int32} {Q : Int32 → Prop} (hw : w_X0_ticketOf S o x1 x2 Q) : Met l yX0_ticketOf (ws_ yX0_ticketOf cX0_ticketOf 4 (some FieldType.int)) (x_rm 2 0 0 43) (x_Pc D d base mc S [.ref o, .int x1, .int x2]) (x_Qi D d base mc (fun r S' => S' = S ∧ Q r)) 0 0 (x_A base) := by
  refine x_met (by decide) (Nat.le_of_ble_eq_true rfl) ?_
  intro p e s m below meth c hx hb hml hr hlocks hown hts hz hR hK hin ls hl
  have hown : s.vm.findClass "PressedMen" = some m.cls := hown
  have hl : lv_has ls 4 [(0, .ref o), (1, .int x1), (2, .int x2)] := hl
  have hS : va_S (x_A base) s.heap s.heap [] := va_S.rf
  unfold w_X0_ticketOf at hw
  refine lv_aload_n hx hb dX0_ticketOf_0 rfl (lv_at hl 0 rfl) ?_
  refine lv_iload_n hx hb dX0_ticketOf_1 rfl (lv_at hl 1 rfl) ?_
  obtain ⟨ha, hw⟩ := hw
  refine x_ci (va_runV (As := [.int x1]) (rest := []) ⟨hx, hb, hml, hown, hts⟩ (mt_X0_isTicket l hw) (cwV 1 hts (lw_V q927 q929 qs35 q64 q930) rfl rfl rfl hd_X0_isTicket ⟨Nat.le_of_ble_eq_true rfl, Nat.le_of_ble_eq_true rfl⟩) ⟨x_Pc_blind, hR.recv hK (ci := 0) rfl (by decide) ha, x_Pc_pre hR hz hS hK⟩ rfl rfl hl.1 rfl (lv_room (Nat.le_of_ble_eq_true rfl)) dX0_ticketOf_2 ⟨Nat.le_refl _, Nat.le_refl _⟩) hS (fun r_1 S_2 H locs hp hR hS => ?_)
  have hw := hp.2
  rw [hp.1] at hR
  refine lv_if_ne (tgt := 10) hx hb dX0_ticketOf_5 (by decide) (fun c_3 => ?_) (fun c_3 => ?_)
  · have hw := x_f hw c_3
    refine lv_aload_n hx hb dX0_ticketOf_10 rfl (lv_at hl 0 rfl) ?_
    refine x_getR (ci := 0) (C := RX0) (T := TX0) (N := 19) (f := 66) hx hb hts in_X0 hown hK hR rfl 16 (by decide) (hts _ q129) (fun _ h => h) rfl (by decide) dX0_ticketOf_11 hw.1 ?_
    have hw := hw.2
    refine lv_iload_n hx hb dX0_ticketOf_14 rfl (lv_at hl 1 rfl) ?_
    obtain ⟨b_4, e_5, hw⟩ := hw
    refine x_dr1 e_5 ?_
    refine x_aald (t := 108) hx hb hK hR (by decide) rfl rfl dX0_ticketOf_15 hw.1 hw.2.1 ?_
    have hw := hw.2.2
    obtain ⟨b_6, e_7, hw⟩ := hw
    refine x_dr0 e_7 ?_
    refine lv_astore_n (lv' := [(3, .ref b_6), (0, .ref o), (1, .int x1), (2, .int x2)]) hx hb dX0_ticketOf_16 rfl hl (by decide) rfl (fun ls hl => ?_)
    refine lv_iload_n hx hb dX0_ticketOf_17 rfl (lv_at hl 3 rfl) ?_
    rcases Classical.em (x2 = 0) with c_80 | c_80
    · have hw := x_t hw c_80
      refine lv_tableIn (off := 30) (tgt := 48) hx hb dX0_ticketOf_18 (by rw [c_80]; decide) (by rw [c_80]; decide) (by rw [c_80]; rfl) (by decide) ?_
      refine lv_aload_n hx hb dX0_ticketOf_48 rfl (lv_at hl 0 rfl) ?_
      refine x_getNI (ci := 19) (C := RX19) (T := TX19) (N := 6) (f := 1002) hx hb hts in_X19 hown hK hR rfl 2 (by decide) (hK.2 _ q906 rfl) (fun _ h => h) rfl (by decide) dX0_ticketOf_49 hw.1 ?_
      have hw := hw.2
      exact x_ri hx hb hr hlocks hR hS dX0_ticketOf_52 ⟨rfl, hw⟩
    · have hw := x_f hw c_80
      rcases Classical.em (x2 = 1) with c_81 | c_81
      · have hw := x_t hw c_81
        refine lv_tableIn (off := 35) (tgt := 53) hx hb dX0_ticketOf_18 (by rw [c_81]; decide) (by rw [c_81]; decide) (by rw [c_81]; rfl) (by decide) ?_
        refine lv_aload_n hx hb dX0_ticketOf_53 rfl (lv_at hl 0 rfl) ?_
        refine x_getNI (ci := 19) (C := RX19) (T := TX19) (N := 6) (f := 1003) hx hb hts in_X19 hown hK hR rfl 3 (by decide) (hK.2 _ q907 rfl) (fun _ h => h) rfl (by decide) dX0_ticketOf_54 hw.1 ?_
        have hw := hw.2
        refine lv_if_eq (tgt := 64) hx hb dX0_ticketOf_57 (by decide) (fun c_9 => ?_) (fun c_9 => ?_)
        · have hw := x_t hw c_9
          refine lv_iconst (v := 0) hx hb dX0_ticketOf_64 (by decide) ?_
          exact x_ri hx hb hr hlocks hR hS dX0_ticketOf_65 ⟨rfl, hw⟩
        · have hw := x_f hw c_9
          refine lv_iconst (v := 1) hx hb dX0_ticketOf_60 (by decide) ?_
          refine lv_goto (tgt := 65) hx hb dX0_ticketOf_61 (by decide) ?_
          exact x_ri hx hb hr hlocks hR hS dX0_ticketOf_65 ⟨rfl, hw⟩
      · have hw := x_f hw c_81
        rcases Classical.em (x2 = 2) with c_82 | c_82
        · have hw := x_t hw c_82
          refine lv_tableIn (off := 48) (tgt := 66) hx hb dX0_ticketOf_18 (by rw [c_82]; decide) (by rw [c_82]; decide) (by rw [c_82]; rfl) (by decide) ?_
          refine lv_aload_n hx hb dX0_ticketOf_66 rfl (lv_at hl 0 rfl) ?_
          refine x_getNI (ci := 19) (C := RX19) (T := TX19) (N := 6) (f := 1004) hx hb hts in_X19 hown hK hR rfl 4 (by decide) (hK.2 _ q908 rfl) (fun _ h => h) rfl (by decide) dX0_ticketOf_67 hw.1 ?_
          have hw := hw.2
          exact x_ri hx hb hr hlocks hR hS dX0_ticketOf_70 ⟨rfl, hw⟩
        · have hw := x_f hw c_82
          rcases Classical.em (x2 = 3) with c_83 | c_83
          · have hw := x_t hw c_83
            refine lv_tableIn (off := 53) (tgt := 71) hx hb dX0_ticketOf_18 (by rw [c_83]; decide) (by rw [c_83]; decide) (by rw [c_83]; rfl) (by decide) ?_
            refine lv_aload_n hx hb dX0_ticketOf_71 rfl (lv_at hl 0 rfl) ?_
            refine x_getNI (ci := 19) (C := RX19) (T := TX19) (N := 6) (f := 1001) hx hb hts in_X19 hown hK hR rfl 1 (by decide) (hK.2 _ q904 rfl) (fun _ h => h) rfl (by decide) dX0_ticketOf_72 hw.1 ?_
            have hw := hw.2
            exact x_ri hx hb hr hlocks hR hS dX0_ticketOf_75 ⟨rfl, hw⟩
          · have hw := x_f hw c_83
            refine lv_tableOut (tgt := 76) hx hb dX0_ticketOf_18 (x_swo 3 (fun j hj => by rcases (show j = 0 ∨ j = 1 ∨ j = 2 ∨ j = 3 by omega) with rfl | rfl | rfl | rfl <;> assumption)) (by decide) ?_
            refine lv_bipush (v := (-2)) hx hb dX0_ticketOf_76 (by decide) ?_
            exact x_ri hx hb hr hlocks hR hS dX0_ticketOf_78 ⟨rfl, hw⟩
  · have hw := x_t hw c_3
    refine lv_iconst (v := (-1)) hx hb dX0_ticketOf_8 (by decide) ?_
    exact x_ri hx hb hr hlocks hR hS dX0_ticketOf_9 ⟨rfl, hw⟩
def w_X0_purse (S : xH) (o : Nat) (x1 : Int32) (Q : Int32 → Prop) : Prop := w_X0_isHolder S x1 (fun (r_1 : Int32) => wif (r_1 = 0) (Q (-1)) (xT S o = 1 ∧ ∃ b_4, (xR S 68 o) = some b_4 ∧ xT S b_4 = 101 ∧ vp_in x1 (xL S b_4) ∧ Q (10000000 + (xA S b_4 (Int32.toNatClampNeg x1)))))
theorem hd_X0_purse : yX0_purse.cls = "PressedMen" ∧ yX0_purse.cls ≠ "java/lang/invoke/MethodHandle" ∧ yX0_purse.cls ≠ "java/lang/invoke/VarHandle" ∧ (parseMethodDescriptor yX0_purse.desc).map (fun d => d.parameters.length) = some 1 := by decide +kernel
set_option maxHeartbeats 4000000 in
theorem mt_X0_purse (l : Launch) {D : va_G} {d : Nat → ClassId} {base : Nat} {mc : va_W} {S : xH} {o : Nat} {x1 : Int32} {Q : Int32 → Prop} (hw : w_X0_purse S o x1 Q) : Met l yX0_purse (ws_ yX0_purse cX0_purse 2 (some FieldType.int)) (x_rm 2 0 0 42) (x_Pc D d base mc S [.ref o, .int x1]) (x_Qi D d base mc (fun r S' => S' = S ∧ Q r)) 0 0 (x_A base) := by
  refine x_met (by decide) (Nat.le_of_ble_eq_true rfl) ?_
  intro p e s m below meth c hx hb hml hr hlocks hown hts hz hR hK hin ls hl
  have hown : s.vm.findClass "PressedMen" = some m.cls := hown
  have hl : lv_has ls 2 [(0, .ref o), (1, .int x1)] := hl
  have hS : va_S (x_A base) s.heap s.heap [] := va_S.rf
  unfold w_X0_purse at hw
  refine lv_iload_n hx hb dX0_purse_0 rfl (lv_at hl 1 rfl) ?_
  refine x_ci (va_runS (As := [.int x1]) (rest := []) ⟨hx, hb, hml, hown, hts⟩ (mt_X0_isHolder l hw) (va_cwS 1 hts (lw_S q931 q932 q64 q933) rfl rfl rfl hd_X0_isHolder.2 ⟨Nat.le_of_ble_eq_true rfl, Nat.le_of_ble_eq_true rfl⟩) ⟨x_Pc_blind, x_Pc_pre hR hz hS hK⟩ rfl rfl hl.1 rfl (lv_room (Nat.le_of_ble_eq_true rfl)) dX0_purse_1 ⟨Nat.le_refl _, Nat.le_refl _⟩) hS (fun r_1 S_2 H locs hp hR hS => ?_)
  have hw := hp.2
  rw [hp.1] at hR
  refine lv_if_eq (tgt := 20) hx hb dX0_purse_4 (by decide) (fun c_3 => ?_) (fun c_3 => ?_)
  · have hw := x_t hw c_3
    refine lv_iconst (v := (-1)) hx hb dX0_purse_20 (by decide) ?_
    exact x_ri hx hb hr hlocks hR hS dX0_purse_21 ⟨rfl, hw⟩
  · have hw := x_f hw c_3
    refine lv_ldcw (v := 10000000) hx hb hown (hts _ q950) dX0_purse_7 ?_
    refine lv_aload_n hx hb dX0_purse_10 rfl (lv_at hl 0 rfl) ?_
    refine x_getR (ci := 0) (C := RX0) (T := TX0) (N := 19) (f := 68) hx hb hts in_X0 hown hK hR rfl 18 (by decide) (hts _ q132) (fun _ h => h) rfl (by decide) dX0_purse_11 hw.1 ?_
    have hw := hw.2
    refine lv_iload_n hx hb dX0_purse_14 rfl (lv_at hl 1 rfl) ?_
    obtain ⟨b_4, e_5, hw⟩ := hw
    refine x_dr1 e_5 ?_
    refine x_iald hx hb hK hR dX0_purse_15 hw.1 hw.2.1 ?_
    have hw := hw.2.2
    refine lv_iadd hx hb dX0_purse_16 ?_
    refine lv_goto (tgt := 21) hx hb dX0_purse_17 (by decide) ?_
    exact x_ri hx hb hr hlocks hR hS dX0_purse_21 ⟨rfl, hw⟩
def w_X0_wages (S : xH) (o : Nat) (x1 : Int32) (x2 : Int32) (Q : Int32 → Prop) : Prop := xT S o = 1 ∧ w_X0_isMan S o x1 (fun (r_1 : Int32) => wif (r_1 = 0) (Q (-1)) (wif (x2 = 0) (xT S o = 1 ∧ ∃ b_22, (xR S 52 o) = some b_22 ∧ xT S b_22 = 103 ∧ vp_in x1 (xL S b_22) ∧ ∃ b_24, (xQ S b_22 (Int32.toNatClampNeg x1)) = some b_24 ∧ xT S b_24 = 3 ∧ Q (xI S 154 b_24)) (lf2 (fun L_7 (x3_5 : Int32) (x4_6 : Int32) => xT S o = 1 ∧ wif ((xI S 67 o) ≤ x4_6) (Q x3_5) (xT S o = 1 ∧ ∃ b_9, (xR S 66 o) = some b_9 ∧ xT S b_9 = 108 ∧ vp_in x4_6 (xL S b_9) ∧ ∃ b_11, (xQ S b_9 (Int32.toNatClampNeg x4_6)) = some b_11 ∧ xT S b_11 = 20 ∧ xT S o = 1 ∧ ∃ b_13, (xR S 52 o) = some b_13 ∧ xT S b_13 = 103 ∧ vp_in x1 (xL S b_13) ∧ jn (fun (v1_15 : Int32) => nm (x3_5 + v1_15) (fun x3_17 : Int32 => L_7 x3_17 (x4_6 + 1))) (fun J_16 => jn0 (J_16 0) (fun J_18 => wif ((xR S 1000 b_11) = (xQ S b_13 (Int32.toNatClampNeg x1))) (xT S b_11 = 20 ∧ wif ((xI S 1002 b_11) = (-9)) (xT S b_11 = 20 ∧ wif ((xI S 1003 b_11) = 0) (xT S b_11 = 20 ∧ J_16 (xI S 1001 b_11)) (J_18)) (J_18)) (J_18))))) 0 0)))
theorem hd_X0_wages : yX0_wages.cls = "PressedMen" ∧ yX0_wages.cls ≠ "java/lang/invoke/MethodHandle" ∧ yX0_wages.cls ≠ "java/lang/invoke/VarHandle" ∧ (parseMethodDescriptor yX0_wages.desc).map (fun d => d.parameters.length) = some 2 := by decide +kernel
set_option maxHeartbeats 4000000 in
theorem mt_X0_wages (l : Launch) {D : va_G} {d : Nat → ClassId} {base : Nat} {mc : va_W} {S : xH} {o : Nat} {x1 : Int32} {x2 : Int32} {Q : Int32 → Prop} (hw : w_X0_wages S o x1 x2 Q) : Met l yX0_wages (ws_ yX0_wages cX0_wages 6 (some FieldType.int)) (x_rm 2 0 0 43) (x_Pc D d base mc S [.ref o, .int x1, .int x2]) (x_Qi D d base mc (fun r S' => S' = S ∧ Q r)) 0 0 (x_A base) := by
  refine x_met (by decide) (Nat.le_of_ble_eq_true rfl) ?_
  intro p e s m below meth c hx hb hml hr hlocks hown hts hz hR hK hin ls hl
  have hown : s.vm.findClass "PressedMen" = some m.cls := hown
  have hl : lv_has ls 6 [(0, .ref o), (1, .int x1), (2, .int x2)] := hl
  have hS : va_S (x_A base) s.heap s.heap [] := va_S.rf
  unfold w_X0_wages at hw
  refine lv_aload_n hx hb dX0_wages_0 rfl (lv_at hl 0 rfl) ?_
  refine lv_iload_n hx hb dX0_wages_1 rfl (lv_at hl 1 rfl) ?_
  obtain ⟨ha, hw⟩ := hw
  refine x_ci (va_runV (As := [.int x1]) (rest := []) ⟨hx, hb, hml, hown, hts⟩ (mt_X0_isMan l hw) (cwV 1 hts (lw_V q252 q254 qs2 q64 q255) rfl rfl rfl hd_X0_isMan ⟨Nat.le_of_ble_eq_true rfl, Nat.le_of_ble_eq_true rfl⟩) ⟨x_Pc_blind, hR.recv hK (ci := 0) rfl (by decide) ha, x_Pc_pre hR hz hS hK⟩ rfl rfl hl.1 rfl (lv_room (Nat.le_of_ble_eq_true rfl)) dX0_wages_2 ⟨Nat.le_refl _, Nat.le_refl _⟩) hS (fun r_1 S_2 H locs hp hR hS => ?_)
  have hw := hp.2
  rw [hp.1] at hR
  refine lv_if_ne (tgt := 10) hx hb dX0_wages_5 (by decide) (fun c_3 => ?_) (fun c_3 => ?_)
  · have hw := x_f hw c_3
    refine lv_iload_n hx hb dX0_wages_10 rfl (lv_at hl 2 rfl) ?_
    refine lv_if_ne (tgt := 24) hx hb dX0_wages_11 (by decide) (fun c_4 => ?_) (fun c_4 => ?_)
    · have hw := x_f hw c_4
      refine lv_iconst (v := 0) hx hb dX0_wages_24 (by decide) ?_
      refine lv_istore_n (lv' := [(3, .int 0), (0, .ref o), (1, .int x1), (2, .int x2)]) hx hb dX0_wages_25 rfl hl (by decide) rfl (fun ls hl => ?_)
      refine lv_iconst (v := 0) hx hb dX0_wages_26 (by decide) ?_
      refine lv_istore (lv' := [(4, .int 0), (3, .int 0), (0, .ref o), (1, .int x1), (2, .int x2)]) hx hb dX0_wages_27 hl (by decide) rfl (fun ls hl => ?_)
      refine x_lf2 (G := fun (x3_5 : Int32) (x4_6 : Int32) => ∀ (ls : Array Slot) (H : Heap) (locs : List Loc), x_Rp D d (x_A base) mc S H → va_S (x_A base) s.heap H locs → lv_has ls 6 [(0, .ref o), (1, .int x1), (3, .int x3_5), (4, .int x4_6)] → W p l e (x_rm 2 0 0 43) s m ([.ref o, .int x1, .int x2] : List Value).toArray below meth c H locs 0 0 (MQ below (x_Qi D d base mc (fun r S' => S' = S ∧ Q r)) ([.ref o, .int x1, .int x2] : List Value).toArray s 0 0 (x_A base)) (F0 m 29 ls [])) hw (fun x3_5 x4_6 hw => ?_) ls _ _ hR hS (lv_sub hl [2, 3, 1, 0] rfl)
      intro ls H locs hR hS hl
      refine lv_iload hx hb dX0_wages_29 (lv_at hl 3 rfl) ?_
      refine lv_aload_n hx hb dX0_wages_31 rfl (lv_at hl 0 rfl) ?_
      refine x_getI (ci := 0) (C := RX0) (T := TX0) (N := 19) (f := 67) hx hb hts in_X0 hown hK hR rfl 17 (by decide) (hts _ q130) (fun _ h => h) rfl (by decide) dX0_wages_32 hw.1 ?_
      have hw := hw.2
      refine lv_icmp_ge (tgt := 97) hx hb dX0_wages_35 (by decide) (fun c_8 => ?_) (fun c_8 => ?_)
      · have hw := x_t hw c_8
        refine lv_iload_n hx hb dX0_wages_97 rfl (lv_at hl 2 rfl) ?_
        exact x_ri hx hb hr hlocks hR hS dX0_wages_98 ⟨rfl, hw⟩
      · have hw := x_f hw c_8
        refine lv_aload_n hx hb dX0_wages_38 rfl (lv_at hl 0 rfl) ?_
        refine x_getR (ci := 0) (C := RX0) (T := TX0) (N := 19) (f := 66) hx hb hts in_X0 hown hK hR rfl 16 (by decide) (hts _ q129) (fun _ h => h) rfl (by decide) dX0_wages_39 hw.1 ?_
        have hw := hw.2
        refine lv_iload hx hb dX0_wages_42 (lv_at hl 3 rfl) ?_
        obtain ⟨b_9, e_10, hw⟩ := hw
        refine x_dr1 e_10 ?_
        refine x_aald (t := 108) hx hb hK hR (by decide) rfl rfl dX0_wages_44 hw.1 hw.2.1 ?_
        have hw := hw.2.2
        obtain ⟨b_11, e_12, hw⟩ := hw
        refine x_dr0 e_12 ?_
        refine lv_astore (lv' := [(5, .ref b_11), (0, .ref o), (1, .int x1), (3, .int x3_5), (4, .int x4_6)]) hx hb dX0_wages_45 hl (by decide) rfl (fun ls hl => ?_)
        refine lv_iload_n hx hb dX0_wages_47 rfl (lv_at hl 3 rfl) ?_
        refine lv_aload hx hb dX0_wages_48 (lv_at hl 0 rfl) ?_
        refine x_getNR (ci := 19) (C := RX19) (T := TX19) (N := 6) (f := 1000) hx hb hts in_X19 hown hK hR rfl 0 (by decide) (hK.2 _ q902 rfl) (fun _ h => h) rfl (by decide) dX0_wages_50 hw.1 ?_
        have hw := hw.2
        refine lv_aload_n hx hb dX0_wages_53 rfl (lv_at hl 1 rfl) ?_
        refine x_getR (ci := 0) (C := RX0) (T := TX0) (N := 19) (f := 52) hx hb hts in_X0 hown hK hR rfl 2 (by decide) (hts _ q114) (fun _ h => h) rfl (by decide) dX0_wages_54 hw.1 ?_
        have hw := hw.2
        refine lv_iload_n hx hb dX0_wages_57 rfl (lv_at hl 2 rfl) ?_
        obtain ⟨b_13, e_14, hw⟩ := hw
        refine x_dr1 e_14 ?_
        refine x_aald (t := 103) hx hb hK hR (by decide) rfl rfl dX0_wages_58 hw.1 hw.2.1 ?_
        have hw := hw.2.2
        refine x_jn (G := fun (v1_15 : Int32) => ∀ (ls : Array Slot) (H : Heap) (locs : List Loc), x_Rp D d (x_A base) mc S H → va_S (x_A base) s.heap H locs → lv_has ls 6 [(0, .ref o), (1, .int x1), (4, .int x4_6)] → W p l e (x_rm 2 0 0 43) s m ([.ref o, .int x1, .int x2] : List Value).toArray below meth c H locs 0 0 (MQ below (x_Qi D d base mc (fun r S' => S' = S ∧ Q r)) ([.ref o, .int x1, .int x2] : List Value).toArray s 0 0 (x_A base)) (F0 m 89 ls [.int v1_15, .int x3_5])) hw (fun v1_15 hw => ?_) (fun hJ_16 hw => ?_)
        · intro ls H locs hR hS hl
          refine lv_iadd hx hb dX0_wages_89 ?_
          refine lv_topi (fun x3_17 ex3_17 => ?_)
          have hw := hw x3_17 ex3_17
          refine lv_istore_n (lv' := [(3, .int x3_17), (0, .ref o), (1, .int x1), (4, .int x4_6)]) hx hb dX0_wages_90 rfl hl (by decide) rfl (fun ls hl => ?_)
          refine lv_iinc (v := (x4_6 + 1)) (lv' := [(4, .int (x4_6 + 1)), (3, .int x3_17), (0, .ref o), (1, .int x1)]) hx hb dX0_wages_91 hl (k := 3) rfl rfl (by decide) rfl (fun ls hl => ?_)
          refine lv_goto (tgt := 29) hx hb dX0_wages_94 (by decide) ?_
          exact hw ls _ _ hR hS (lv_sub hl [2, 3, 1, 0] rfl)
        · refine x_jn0 (G := ∀ (ls : Array Slot) (H : Heap) (locs : List Loc), x_Rp D d (x_A base) mc S H → va_S (x_A base) s.heap H locs → lv_has ls 6 [(0, .ref o), (1, .int x1), (4, .int x4_6)] → W p l e (x_rm 2 0 0 43) s m ([.ref o, .int x1, .int x2] : List Value).toArray below meth c H locs 0 0 (MQ below (x_Qi D d base mc (fun r S' => S' = S ∧ Q r)) ([.ref o, .int x1, .int x2] : List Value).toArray s 0 0 (x_A base)) (F0 m 88 ls [.int x3_5])) hw (fun hw => ?_) (fun hJ_18 hw => ?_)
          · intro ls H locs hR hS hl
            refine lv_iconst (v := 0) hx hb dX0_wages_88 (by decide) ?_
            exact hJ_16 0 hw ls _ _ hR hS (lv_sub hl [0, 1, 2] rfl)
          · refine lv_acmp_ne (rx := (xR S 1000 b_11)) (ry := (xQ S b_13 (Int32.toNatClampNeg x1))) (tgt := 88) hx hb dX0_wages_59 (by decide) (fun c_19 => ?_) (fun c_19 => ?_)
            · have hw := x_f hw c_19
              exact hJ_18  hw ls _ _ hR hS (lv_sub hl [1, 2, 4] rfl)
            · have hw := x_t hw c_19
              refine lv_aload hx hb dX0_wages_62 (lv_at hl 0 rfl) ?_
              refine x_getNI (ci := 19) (C := RX19) (T := TX19) (N := 6) (f := 1002) hx hb hts in_X19 hown hK hR rfl 2 (by decide) (hK.2 _ q906 rfl) (fun _ h => h) rfl (by decide) dX0_wages_64 hw.1 ?_
              have hw := hw.2
              refine lv_bipush (v := (-9)) hx hb dX0_wages_67 (by decide) ?_
              refine lv_icmp_ne (tgt := 88) hx hb dX0_wages_69 (by decide) (fun c_20 => ?_) (fun c_20 => ?_)
              · have hw := x_f hw c_20
                exact hJ_18  hw ls _ _ hR hS (lv_sub hl [1, 2, 4] rfl)
              · have hw := x_t hw c_20
                refine lv_aload hx hb dX0_wages_72 (lv_at hl 0 rfl) ?_
                refine x_getNI (ci := 19) (C := RX19) (T := TX19) (N := 6) (f := 1003) hx hb hts in_X19 hown hK hR rfl 3 (by decide) (hK.2 _ q907 rfl) (fun _ h => h) rfl (by decide) dX0_wages_74 hw.1 ?_
                have hw := hw.2
                refine lv_if_ne (tgt := 88) hx hb dX0_wages_77 (by decide) (fun c_21 => ?_) (fun c_21 => ?_)
                · have hw := x_f hw c_21
                  exact hJ_18  hw ls _ _ hR hS (lv_sub hl [1, 2, 4] rfl)
                · have hw := x_t hw c_21
                  refine lv_aload hx hb dX0_wages_80 (lv_at hl 0 rfl) ?_
                  refine x_getNI (ci := 19) (C := RX19) (T := TX19) (N := 6) (f := 1001) hx hb hts in_X19 hown hK hR rfl 1 (by decide) (hK.2 _ q904 rfl) (fun _ h => h) rfl (by decide) dX0_wages_82 hw.1 ?_
                  have hw := hw.2
                  refine lv_goto (tgt := 89) hx hb dX0_wages_85 (by decide) ?_
                  exact hJ_16 (xI S 1001 b_11) hw ls _ _ hR hS (lv_sub hl [1, 2, 4] rfl)
    · have hw := x_t hw c_4
      refine lv_aload_n hx hb dX0_wages_14 rfl (lv_at hl 0 rfl) ?_
      refine x_getR (ci := 0) (C := RX0) (T := TX0) (N := 19) (f := 52) hx hb hts in_X0 hown hK hR rfl 2 (by decide) (hts _ q114) (fun _ h => h) rfl (by decide) dX0_wages_15 hw.1 ?_
      have hw := hw.2
      refine lv_iload_n hx hb dX0_wages_18 rfl (lv_at hl 1 rfl) ?_
      obtain ⟨b_22, e_23, hw⟩ := hw
      refine x_dr1 e_23 ?_
      refine x_aald (t := 103) hx hb hK hR (by decide) rfl rfl dX0_wages_19 hw.1 hw.2.1 ?_
      have hw := hw.2.2
      obtain ⟨b_24, e_25, hw⟩ := hw
      refine x_dr0 e_25 ?_
      refine x_getNI (ci := 2) (C := RX2) (T := TX2) (N := 5) (f := 154) hx hb hts in_X2 hown hK hR rfl 4 (by decide) (hK.2 _ q236 rfl) (fun _ h => h) rfl (by decide) dX0_wages_20 hw.1 ?_
      have hw := hw.2
      exact x_ri hx hb hr hlocks hR hS dX0_wages_23 ⟨rfl, hw⟩
  · have hw := x_t hw c_3
    refine lv_iconst (v := (-1)) hx hb dX0_wages_8 (by decide) ?_
    exact x_ri hx hb hr hlocks hR hS dX0_wages_9 ⟨rfl, hw⟩
def w_X0_count (S : xH) (o : Nat) (x1 : Int32) (Q : Int32 → Prop) : Prop := wif (x1 = 0) (xT S o = 1 ∧ Q (xI S 53 o)) (wif (x1 = 1) (xT S o = 1 ∧ Q (xI S 65 o)) (wif (x1 = 2) (xT S o = 1 ∧ Q (xI S 58 o)) (wif (x1 = 3) (xT S o = 1 ∧ Q (xI S 60 o)) (wif (x1 = 4) (xT S o = 1 ∧ Q (xI S 62 o)) (wif (x1 = 5) (xT S o = 1 ∧ Q (xI S 67 o)) (wif (x1 = 6) (lf2 (fun L_4 (x2_2 : Int32) (x3_3 : Int32) => xT S o = 1 ∧ wif ((xI S 53 o) ≤ x3_3) (Q x2_2) (xT S o = 1 ∧ ∃ b_6, (xR S 52 o) = some b_6 ∧ xT S b_6 = 103 ∧ vp_in x3_3 (xL S b_6) ∧ ∃ b_8, (xQ S b_6 (Int32.toNatClampNeg x3_3)) = some b_8 ∧ xT S b_8 = 3 ∧ w_X2_place S b_8 (fun (r_10 : Int32) => jn (fun (v1_12 : Int32) => nm (x2_2 + v1_12) (fun x2_14 : Int32 => L_4 x2_14 (x3_3 + 1))) (fun J_13 => wif (r_10 < 10) (J_13 0) (J_13 1))))) 0 0) (wif (x1 = 7) (xT S o = 1 ∧ Q (xI S 50 o)) ((Q (-2))))))))))
theorem hd_X0_count : yX0_count.cls = "PressedMen" ∧ yX0_count.cls ≠ "java/lang/invoke/MethodHandle" ∧ yX0_count.cls ≠ "java/lang/invoke/VarHandle" ∧ (parseMethodDescriptor yX0_count.desc).map (fun d => d.parameters.length) = some 1 := by decide +kernel
set_option maxHeartbeats 4000000 in
theorem mt_X0_count (l : Launch) {D : va_G} {d : Nat → ClassId} {base : Nat} {mc : va_W} {S : xH} {o : Nat} {x1 : Int32} {Q : Int32 → Prop} (hw : w_X0_count S o x1 Q) : Met l yX0_count (ws_ yX0_count cX0_count 4 (some FieldType.int)) (x_rm 1 0 0 20) (x_Pc D d base mc S [.ref o, .int x1]) (x_Qi D d base mc (fun r S' => S' = S ∧ Q r)) 0 0 (x_A base) := by
  refine x_met (by decide) (Nat.le_of_ble_eq_true rfl) ?_
  intro p e s m below meth c hx hb hml hr hlocks hown hts hz hR hK hin ls hl
  have hown : s.vm.findClass "PressedMen" = some m.cls := hown
  have hl : lv_has ls 4 [(0, .ref o), (1, .int x1)] := hl
  have hS : va_S (x_A base) s.heap s.heap [] := va_S.rf
  unfold w_X0_count at hw
  refine lv_iconst (v := 0) hx hb dX0_count_0 (by decide) ?_
  refine lv_istore_n (lv' := [(2, .int 0), (0, .ref o), (1, .int x1)]) hx hb dX0_count_1 rfl hl (by decide) rfl (fun ls hl => ?_)
  refine lv_iload_n hx hb dX0_count_2 rfl (lv_at hl 2 rfl) ?_
  rcases Classical.em (x1 = 0) with c_10 | c_10
  · have hw := x_t hw c_10
    refine lv_tableIn (off := 45) (tgt := 48) hx hb dX0_count_3 (by rw [c_10]; decide) (by rw [c_10]; decide) (by rw [c_10]; rfl) (by decide) ?_
    refine lv_aload_n hx hb dX0_count_48 rfl (lv_at hl 1 rfl) ?_
    refine x_getI (ci := 0) (C := RX0) (T := TX0) (N := 19) (f := 53) hx hb hts in_X0 hown hK hR rfl 3 (by decide) (hts _ q116) (fun _ h => h) rfl (by decide) dX0_count_49 hw.1 ?_
    have hw := hw.2
    exact x_ri hx hb hr hlocks hR hS dX0_count_52 ⟨rfl, hw⟩
  · have hw := x_f hw c_10
    rcases Classical.em (x1 = 1) with c_11 | c_11
    · have hw := x_t hw c_11
      refine lv_tableIn (off := 50) (tgt := 53) hx hb dX0_count_3 (by rw [c_11]; decide) (by rw [c_11]; decide) (by rw [c_11]; rfl) (by decide) ?_
      refine lv_aload_n hx hb dX0_count_53 rfl (lv_at hl 1 rfl) ?_
      refine x_getI (ci := 0) (C := RX0) (T := TX0) (N := 19) (f := 65) hx hb hts in_X0 hown hK hR rfl 15 (by decide) (hts _ q128) (fun _ h => h) rfl (by decide) dX0_count_54 hw.1 ?_
      have hw := hw.2
      exact x_ri hx hb hr hlocks hR hS dX0_count_57 ⟨rfl, hw⟩
    · have hw := x_f hw c_11
      rcases Classical.em (x1 = 2) with c_12 | c_12
      · have hw := x_t hw c_12
        refine lv_tableIn (off := 55) (tgt := 58) hx hb dX0_count_3 (by rw [c_12]; decide) (by rw [c_12]; decide) (by rw [c_12]; rfl) (by decide) ?_
        refine lv_aload_n hx hb dX0_count_58 rfl (lv_at hl 1 rfl) ?_
        refine x_getI (ci := 0) (C := RX0) (T := TX0) (N := 19) (f := 58) hx hb hts in_X0 hown hK hR rfl 8 (by decide) (hts _ q121) (fun _ h => h) rfl (by decide) dX0_count_59 hw.1 ?_
        have hw := hw.2
        exact x_ri hx hb hr hlocks hR hS dX0_count_62 ⟨rfl, hw⟩
      · have hw := x_f hw c_12
        rcases Classical.em (x1 = 3) with c_13 | c_13
        · have hw := x_t hw c_13
          refine lv_tableIn (off := 60) (tgt := 63) hx hb dX0_count_3 (by rw [c_13]; decide) (by rw [c_13]; decide) (by rw [c_13]; rfl) (by decide) ?_
          refine lv_aload_n hx hb dX0_count_63 rfl (lv_at hl 1 rfl) ?_
          refine x_getI (ci := 0) (C := RX0) (T := TX0) (N := 19) (f := 60) hx hb hts in_X0 hown hK hR rfl 10 (by decide) (hts _ q123) (fun _ h => h) rfl (by decide) dX0_count_64 hw.1 ?_
          have hw := hw.2
          exact x_ri hx hb hr hlocks hR hS dX0_count_67 ⟨rfl, hw⟩
        · have hw := x_f hw c_13
          rcases Classical.em (x1 = 4) with c_14 | c_14
          · have hw := x_t hw c_14
            refine lv_tableIn (off := 65) (tgt := 68) hx hb dX0_count_3 (by rw [c_14]; decide) (by rw [c_14]; decide) (by rw [c_14]; rfl) (by decide) ?_
            refine lv_aload_n hx hb dX0_count_68 rfl (lv_at hl 1 rfl) ?_
            refine x_getI (ci := 0) (C := RX0) (T := TX0) (N := 19) (f := 62) hx hb hts in_X0 hown hK hR rfl 12 (by decide) (hts _ q125) (fun _ h => h) rfl (by decide) dX0_count_69 hw.1 ?_
            have hw := hw.2
            exact x_ri hx hb hr hlocks hR hS dX0_count_72 ⟨rfl, hw⟩
          · have hw := x_f hw c_14
            rcases Classical.em (x1 = 5) with c_15 | c_15
            · have hw := x_t hw c_15
              refine lv_tableIn (off := 70) (tgt := 73) hx hb dX0_count_3 (by rw [c_15]; decide) (by rw [c_15]; decide) (by rw [c_15]; rfl) (by decide) ?_
              refine lv_aload_n hx hb dX0_count_73 rfl (lv_at hl 1 rfl) ?_
              refine x_getI (ci := 0) (C := RX0) (T := TX0) (N := 19) (f := 67) hx hb hts in_X0 hown hK hR rfl 17 (by decide) (hts _ q130) (fun _ h => h) rfl (by decide) dX0_count_74 hw.1 ?_
              have hw := hw.2
              exact x_ri hx hb hr hlocks hR hS dX0_count_77 ⟨rfl, hw⟩
            · have hw := x_f hw c_15
              rcases Classical.em (x1 = 6) with c_16 | c_16
              · have hw := x_t hw c_16
                refine lv_tableIn (off := 75) (tgt := 78) hx hb dX0_count_3 (by rw [c_16]; decide) (by rw [c_16]; decide) (by rw [c_16]; rfl) (by decide) ?_
                refine lv_iconst (v := 0) hx hb dX0_count_78 (by decide) ?_
                refine lv_istore_n (lv' := [(3, .int 0), (2, .int 0), (0, .ref o), (1, .int x1)]) hx hb dX0_count_79 rfl hl (by decide) rfl (fun ls hl => ?_)
                refine x_lf2 (G := fun (x2_2 : Int32) (x3_3 : Int32) => ∀ (ls : Array Slot) (H : Heap) (locs : List Loc), x_Rp D d (x_A base) mc S H → va_S (x_A base) s.heap H locs → lv_has ls 4 [(0, .ref o), (2, .int x2_2), (3, .int x3_3)] → W p l e (x_rm 1 0 0 20) s m ([.ref o, .int x1] : List Value).toArray below meth c H locs 0 0 (MQ below (x_Qi D d base mc (fun r S' => S' = S ∧ Q r)) ([.ref o, .int x1] : List Value).toArray s 0 0 (x_A base)) (F0 m 80 ls [])) hw (fun x2_2 x3_3 hw => ?_) ls _ _ hR hS (lv_sub hl [2, 1, 0] rfl)
                intro ls H locs hR hS hl
                refine lv_iload_n hx hb dX0_count_80 rfl (lv_at hl 2 rfl) ?_
                refine lv_aload_n hx hb dX0_count_81 rfl (lv_at hl 0 rfl) ?_
                refine x_getI (ci := 0) (C := RX0) (T := TX0) (N := 19) (f := 53) hx hb hts in_X0 hown hK hR rfl 3 (by decide) (hts _ q116) (fun _ h => h) rfl (by decide) dX0_count_82 hw.1 ?_
                have hw := hw.2
                refine lv_icmp_ge (tgt := 116) hx hb dX0_count_85 (by decide) (fun c_5 => ?_) (fun c_5 => ?_)
                · have hw := x_t hw c_5
                  refine lv_iload_n hx hb dX0_count_116 rfl (lv_at hl 1 rfl) ?_
                  exact x_ri hx hb hr hlocks hR hS dX0_count_117 ⟨rfl, hw⟩
                · have hw := x_f hw c_5
                  refine lv_iload_n hx hb dX0_count_88 rfl (lv_at hl 1 rfl) ?_
                  refine lv_aload_n hx hb dX0_count_89 rfl (lv_at hl 0 rfl) ?_
                  refine x_getR (ci := 0) (C := RX0) (T := TX0) (N := 19) (f := 52) hx hb hts in_X0 hown hK hR rfl 2 (by decide) (hts _ q114) (fun _ h => h) rfl (by decide) dX0_count_90 hw.1 ?_
                  have hw := hw.2
                  refine lv_iload_n hx hb dX0_count_93 rfl (lv_at hl 2 rfl) ?_
                  obtain ⟨b_6, e_7, hw⟩ := hw
                  refine x_dr1 e_7 ?_
                  refine x_aald (t := 103) hx hb hK hR (by decide) rfl rfl dX0_count_94 hw.1 hw.2.1 ?_
                  have hw := hw.2.2
                  obtain ⟨b_8, e_9, hw⟩ := hw
                  refine x_dr0 e_9 ?_
                  obtain ⟨ha, hw⟩ := hw
                  refine x_ci (va_runV (As := []) (rest := [.int x2_2]) ⟨hx, hb, hml, hown, hts⟩ (mt_X2_place l hw) (cwV 0 hts (lw_V q276 q277 q278 q66 q279) rfl rfl rfl hd_X2_place ⟨Nat.le_of_ble_eq_true rfl, Nat.le_of_ble_eq_true rfl⟩) ⟨x_Pc_blind, hR.recv hK (ci := 2) rfl (by decide) ha, x_Pc_pre hR hz hS hK⟩ rfl rfl hl.1 rfl (lv_room (Nat.le_of_ble_eq_true rfl)) dX0_count_95 ⟨Nat.le_refl _, Nat.le_refl _⟩) hS (fun r_10 S_11 H locs hp hR hS => ?_)
                  have hw := hp.2
                  rw [hp.1] at hR
                  refine lv_bipush (v := 10) hx hb dX0_count_98 (by decide) ?_
                  refine x_jn (G := fun (v1_12 : Int32) => ∀ (ls : Array Slot) (H : Heap) (locs : List Loc), x_Rp D d (x_A base) mc S H → va_S (x_A base) s.heap H locs → lv_has ls 4 [(0, .ref o), (3, .int x3_3)] → W p l e (x_rm 1 0 0 20) s m ([.ref o, .int x1] : List Value).toArray below meth c H locs 0 0 (MQ below (x_Qi D d base mc (fun r S' => S' = S ∧ Q r)) ([.ref o, .int x1] : List Value).toArray s 0 0 (x_A base)) (F0 m 108 ls [.int v1_12, .int x2_2])) hw (fun v1_12 hw => ?_) (fun hJ_13 hw => ?_)
                  · intro ls H locs hR hS hl
                    refine lv_iadd hx hb dX0_count_108 ?_
                    refine lv_topi (fun x2_14 ex2_14 => ?_)
                    have hw := hw x2_14 ex2_14
                    refine lv_istore_n (lv' := [(2, .int x2_14), (0, .ref o), (3, .int x3_3)]) hx hb dX0_count_109 rfl hl (by decide) rfl (fun ls hl => ?_)
                    refine lv_iinc (v := (x3_3 + 1)) (lv' := [(3, .int (x3_3 + 1)), (2, .int x2_14), (0, .ref o)]) hx hb dX0_count_110 hl (k := 2) rfl rfl (by decide) rfl (fun ls hl => ?_)
                    refine lv_goto (tgt := 80) hx hb dX0_count_113 (by decide) ?_
                    exact hw ls _ _ hR hS (lv_sub hl [2, 1, 0] rfl)
                  · refine lv_icmp_lt (tgt := 107) hx hb dX0_count_100 (by decide) (fun c_15 => ?_) (fun c_15 => ?_)
                    · have hw := x_t hw c_15
                      refine lv_iconst (v := 0) hx hb dX0_count_107 (by decide) ?_
                      exact hJ_13 0 hw ls _ _ hR hS (lv_sub hl [0, 2] rfl)
                    · have hw := x_f hw c_15
                      refine lv_iconst (v := 1) hx hb dX0_count_103 (by decide) ?_
                      refine lv_goto (tgt := 108) hx hb dX0_count_104 (by decide) ?_
                      exact hJ_13 1 hw ls _ _ hR hS (lv_sub hl [0, 2] rfl)
              · have hw := x_f hw c_16
                rcases Classical.em (x1 = 7) with c_17 | c_17
                · have hw := x_t hw c_17
                  refine lv_tableIn (off := 115) (tgt := 118) hx hb dX0_count_3 (by rw [c_17]; decide) (by rw [c_17]; decide) (by rw [c_17]; rfl) (by decide) ?_
                  refine lv_aload_n hx hb dX0_count_118 rfl (lv_at hl 1 rfl) ?_
                  refine x_getI (ci := 0) (C := RX0) (T := TX0) (N := 19) (f := 50) hx hb hts in_X0 hown hK hR rfl 0 (by decide) (hts _ q110) (fun _ h => h) rfl (by decide) dX0_count_119 hw.1 ?_
                  have hw := hw.2
                  exact x_ri hx hb hr hlocks hR hS dX0_count_122 ⟨rfl, hw⟩
                · have hw := x_f hw c_17
                  refine lv_tableOut (tgt := 123) hx hb dX0_count_3 (x_swo 7 (fun j hj => by rcases (show j = 0 ∨ j = 1 ∨ j = 2 ∨ j = 3 ∨ j = 4 ∨ j = 5 ∨ j = 6 ∨ j = 7 by omega) with rfl | rfl | rfl | rfl | rfl | rfl | rfl | rfl <;> assumption)) (by decide) ?_
                  refine lv_bipush (v := (-2)) hx hb dX0_count_123 (by decide) ?_
                  exact x_ri hx hb hr hlocks hR hS dX0_count_125 ⟨rfl, hw⟩
def w_X1_init (k n : Nat) (S : xH) (o : Nat) (Q : xH → Prop) : Prop := xT S o = 2 ∧ nm (sI S 101 o 4) (fun S_1 : xH => 1 ≤ k ∧ 64 ≤ n ∧ ∀ a_2, xT S_1 a_2 = 0 → nm (sV S_1 a_2 102 64) (fun S_3 : xH => xT S_3 o = 2 ∧ nm (sR S_3 102 o (some a_2)) (fun S_4 : xH => 1 ≤ (k - 1) ∧ 64 ≤ (n - 64) ∧ ∀ a_5, xT S_4 a_5 = 0 → nm (sV S_4 a_5 101 64) (fun S_6 : xH => xT S_6 o = 2 ∧ nm (sR S_6 103 o (some a_5)) (fun S_7 : xH => 1 ≤ ((k - 1) - 1) ∧ 320 ≤ ((n - 64) - 64) ∧ ∀ a_8, xT S_7 a_8 = 0 → nm (sV S_7 a_8 101 320) (fun S_9 : xH => xT S_9 o = 2 ∧ nm (sR S_9 106 o (some a_8)) (fun S_10 : xH => 1 ≤ (((k - 1) - 1) - 1) ∧ 40 ≤ (((n - 64) - 64) - 320) ∧ ∀ a_11, xT S_10 a_11 = 0 → nm (sV S_10 a_11 101 40) (fun S_12 : xH => xT S_12 o = 2 ∧ nm (sR S_12 107 o (some a_11)) (fun S_13 : xH => 1 ≤ ((((k - 1) - 1) - 1) - 1) ∧ 36000 ≤ ((((n - 64) - 64) - 320) - 40) ∧ ∀ a_14, xT S_13 a_14 = 0 → nm (sV S_13 a_14 101 36000) (fun S_15 : xH => xT S_15 o = 2 ∧ nm (sR S_15 108 o (some a_14)) (fun S_16 : xH => 1 ≤ (((((k - 1) - 1) - 1) - 1) - 1) ∧ 10 ≤ (((((n - 64) - 64) - 320) - 40) - 36000) ∧ ∀ a_17, xT S_16 a_17 = 0 → nm (sV S_16 a_17 101 10) (fun S_18 : xH => xT S_18 o = 2 ∧ nm (sR S_18 110 o (some a_17)) (fun S_19 : xH => 1 ≤ ((((((k - 1) - 1) - 1) - 1) - 1) - 1) ∧ 10 ≤ ((((((n - 64) - 64) - 320) - 40) - 36000) - 10) ∧ ∀ a_20, xT S_19 a_20 = 0 → nm (sV S_19 a_20 101 10) (fun S_21 : xH => xT S_21 o = 2 ∧ nm (sR S_21 111 o (some a_20)) (fun S_22 : xH => 1 ≤ (((((((k - 1) - 1) - 1) - 1) - 1) - 1) - 1) ∧ 10 ≤ (((((((n - 64) - 64) - 320) - 40) - 36000) - 10) - 10) ∧ ∀ a_23, xT S_22 a_23 = 0 → nm (sV S_22 a_23 101 10) (fun S_24 : xH => xT S_24 o = 2 ∧ nm (sR S_24 112 o (some a_23)) (fun S_25 : xH => 1 ≤ ((((((((k - 1) - 1) - 1) - 1) - 1) - 1) - 1) - 1) ∧ 10 ≤ ((((((((n - 64) - 64) - 320) - 40) - 36000) - 10) - 10) - 10) ∧ ∀ a_26, xT S_25 a_26 = 0 → nm (sV S_25 a_26 101 10) (fun S_27 : xH => xT S_27 o = 2 ∧ nm (sR S_27 113 o (some a_26)) (fun S_28 : xH => 1 ≤ (((((((((k - 1) - 1) - 1) - 1) - 1) - 1) - 1) - 1) - 1) ∧ 10 ≤ (((((((((n - 64) - 64) - 320) - 40) - 36000) - 10) - 10) - 10) - 10) ∧ ∀ a_29, xT S_28 a_29 = 0 → nm (sV S_28 a_29 102 10) (fun S_30 : xH => xT S_30 o = 2 ∧ nm (sR S_30 114 o (some a_29)) (fun S_31 : xH => 1 ≤ ((((((((((k - 1) - 1) - 1) - 1) - 1) - 1) - 1) - 1) - 1) - 1) ∧ 540 ≤ ((((((((((n - 64) - 64) - 320) - 40) - 36000) - 10) - 10) - 10) - 10) - 10) ∧ ∀ a_32, xT S_31 a_32 = 0 → nm (sV S_31 a_32 101 540) (fun S_33 : xH => xT S_33 o = 2 ∧ nm (sR S_33 116 o (some a_32)) (fun S_34 : xH => 1 ≤ (((((((((((k - 1) - 1) - 1) - 1) - 1) - 1) - 1) - 1) - 1) - 1) - 1) ∧ 8 ≤ (((((((((((n - 64) - 64) - 320) - 40) - 36000) - 10) - 10) - 10) - 10) - 10) - 540) ∧ ∀ a_35, xT S_34 a_35 = 0 → nm (sV S_34 a_35 101 8) (fun S_36 : xH => xT S_36 o = 2 ∧ nm (sR S_36 118 o (some a_35)) (fun S_37 : xH => 1 ≤ ((((((((((((k - 1) - 1) - 1) - 1) - 1) - 1) - 1) - 1) - 1) - 1) - 1) - 1) ∧ 8 ≤ ((((((((((((n - 64) - 64) - 320) - 40) - 36000) - 10) - 10) - 10) - 10) - 10) - 540) - 8) ∧ ∀ a_38, xT S_37 a_38 = 0 → nm (sV S_37 a_38 101 8) (fun S_39 : xH => xT S_39 o = 2 ∧ nm (sR S_39 119 o (some a_38)) (fun S_40 : xH => 1 ≤ (((((((((((((k - 1) - 1) - 1) - 1) - 1) - 1) - 1) - 1) - 1) - 1) - 1) - 1) - 1) ∧ 480 ≤ (((((((((((((n - 64) - 64) - 320) - 40) - 36000) - 10) - 10) - 10) - 10) - 10) - 540) - 8) - 8) ∧ ∀ a_41, xT S_40 a_41 = 0 → nm (sV S_40 a_41 101 480) (fun S_42 : xH => xT S_42 o = 2 ∧ nm (sR S_42 120 o (some a_41)) (fun S_43 : xH => 1 ≤ ((((((((((((((k - 1) - 1) - 1) - 1) - 1) - 1) - 1) - 1) - 1) - 1) - 1) - 1) - 1) - 1) ∧ 64 ≤ ((((((((((((((n - 64) - 64) - 320) - 40) - 36000) - 10) - 10) - 10) - 10) - 10) - 540) - 8) - 8) - 480) ∧ ∀ a_44, xT S_43 a_44 = 0 → nm (sV S_43 a_44 102 64) (fun S_45 : xH => xT S_45 o = 2 ∧ nm (sR S_45 121 o (some a_44)) (fun S_46 : xH => 1 ≤ (((((((((((((((k - 1) - 1) - 1) - 1) - 1) - 1) - 1) - 1) - 1) - 1) - 1) - 1) - 1) - 1) - 1) ∧ 360 ≤ (((((((((((((((n - 64) - 64) - 320) - 40) - 36000) - 10) - 10) - 10) - 10) - 10) - 540) - 8) - 8) - 480) - 64) ∧ ∀ a_47, xT S_46 a_47 = 0 → nm (sV S_46 a_47 101 360) (fun S_48 : xH => xT S_48 o = 2 ∧ nm (sR S_48 123 o (some a_47)) (fun S_49 : xH => xT S_49 o = 2 ∧ nm (sI S_49 125 o 10) (fun S_50 : xH => xT S_50 o = 2 ∧ nm (sI S_50 126 o 50) (fun S_51 : xH => 1 ≤ ((((((((((((((((k - 1) - 1) - 1) - 1) - 1) - 1) - 1) - 1) - 1) - 1) - 1) - 1) - 1) - 1) - 1) - 1) ∧ 8 ≤ ((((((((((((((((n - 64) - 64) - 320) - 40) - 36000) - 10) - 10) - 10) - 10) - 10) - 540) - 8) - 8) - 480) - 64) - 360) ∧ ∀ a_52, xT S_51 a_52 = 0 → nm (sV S_51 a_52 101 8) (fun S_53 : xH => xT S_53 o = 2 ∧ nm (sR S_53 127 o (some a_52)) (fun S_54 : xH => 1 ≤ (((((((((((((((((k - 1) - 1) - 1) - 1) - 1) - 1) - 1) - 1) - 1) - 1) - 1) - 1) - 1) - 1) - 1) - 1) - 1) ∧ 6 ≤ (((((((((((((((((n - 64) - 64) - 320) - 40) - 36000) - 10) - 10) - 10) - 10) - 10) - 540) - 8) - 8) - 480) - 64) - 360) - 8) ∧ ∀ a_55, xT S_54 a_55 = 0 → nm (sV S_54 a_55 101 6) (fun S_56 : xH => xT S_56 o = 2 ∧ nm (sR S_56 128 o (some a_55)) (fun S_57 : xH => 1 ≤ ((((((((((((((((((k - 1) - 1) - 1) - 1) - 1) - 1) - 1) - 1) - 1) - 1) - 1) - 1) - 1) - 1) - 1) - 1) - 1) - 1) ∧ 8 ≤ ((((((((((((((((((n - 64) - 64) - 320) - 40) - 36000) - 10) - 10) - 10) - 10) - 10) - 540) - 8) - 8) - 480) - 64) - 360) - 8) - 6) ∧ ∀ a_58, xT S_57 a_58 = 0 → nm (sV S_57 a_58 101 8) (fun S_59 : xH => xT S_59 o = 2 ∧ nm (sR S_59 129 o (some a_58)) (fun S_60 : xH => 1 ≤ (((((((((((((((((((k - 1) - 1) - 1) - 1) - 1) - 1) - 1) - 1) - 1) - 1) - 1) - 1) - 1) - 1) - 1) - 1) - 1) - 1) - 1) ∧ 40 ≤ (((((((((((((((((((n - 64) - 64) - 320) - 40) - 36000) - 10) - 10) - 10) - 10) - 10) - 540) - 8) - 8) - 480) - 64) - 360) - 8) - 6) - 8) ∧ ∀ a_61, xT S_60 a_61 = 0 → nm (sV S_60 a_61 101 40) (fun S_62 : xH => xT S_62 o = 2 ∧ nm (sR S_62 132 o (some a_61)) (fun S_63 : xH => 1 ≤ ((((((((((((((((((((k - 1) - 1) - 1) - 1) - 1) - 1) - 1) - 1) - 1) - 1) - 1) - 1) - 1) - 1) - 1) - 1) - 1) - 1) - 1) - 1) ∧ 40 ≤ ((((((((((((((((((((n - 64) - 64) - 320) - 40) - 36000) - 10) - 10) - 10) - 10) - 10) - 540) - 8) - 8) - 480) - 64) - 360) - 8) - 6) - 8) - 40) ∧ ∀ a_64, xT S_63 a_64 = 0 → nm (sV S_63 a_64 101 40) (fun S_65 : xH => xT S_65 o = 2 ∧ nm (sR S_65 133 o (some a_64)) (fun S_66 : xH => 1 ≤ (((((((((((((((((((((k - 1) - 1) - 1) - 1) - 1) - 1) - 1) - 1) - 1) - 1) - 1) - 1) - 1) - 1) - 1) - 1) - 1) - 1) - 1) - 1) - 1) ∧ 40 ≤ (((((((((((((((((((((n - 64) - 64) - 320) - 40) - 36000) - 10) - 10) - 10) - 10) - 10) - 540) - 8) - 8) - 480) - 64) - 360) - 8) - 6) - 8) - 40) - 40) ∧ ∀ a_67, xT S_66 a_67 = 0 → nm (sV S_66 a_67 101 40) (fun S_68 : xH => xT S_68 o = 2 ∧ nm (sR S_68 134 o (some a_67)) (fun S_69 : xH => 1 ≤ ((((((((((((((((((((((k - 1) - 1) - 1) - 1) - 1) - 1) - 1) - 1) - 1) - 1) - 1) - 1) - 1) - 1) - 1) - 1) - 1) - 1) - 1) - 1) - 1) - 1) ∧ 40 ≤ ((((((((((((((((((((((n - 64) - 64) - 320) - 40) - 36000) - 10) - 10) - 10) - 10) - 10) - 540) - 8) - 8) - 480) - 64) - 360) - 8) - 6) - 8) - 40) - 40) - 40) ∧ ∀ a_70, xT S_69 a_70 = 0 → nm (sV S_69 a_70 102 40) (fun S_71 : xH => xT S_71 o = 2 ∧ nm (sR S_71 135 o (some a_70)) (fun S_72 : xH => 1 ≤ (((((((((((((((((((((((k - 1) - 1) - 1) - 1) - 1) - 1) - 1) - 1) - 1) - 1) - 1) - 1) - 1) - 1) - 1) - 1) - 1) - 1) - 1) - 1) - 1) - 1) - 1) ∧ 40 ≤ (((((((((((((((((((((((n - 64) - 64) - 320) - 40) - 36000) - 10) - 10) - 10) - 10) - 10) - 540) - 8) - 8) - 480) - 64) - 360) - 8) - 6) - 8) - 40) - 40) - 40) - 40) ∧ ∀ a_73, xT S_72 a_73 = 0 → nm (sV S_72 a_73 101 40) (fun S_74 : xH => xT S_74 o = 2 ∧ nm (sR S_74 136 o (some a_73)) (fun S_75 : xH => 1 ≤ ((((((((((((((((((((((((k - 1) - 1) - 1) - 1) - 1) - 1) - 1) - 1) - 1) - 1) - 1) - 1) - 1) - 1) - 1) - 1) - 1) - 1) - 1) - 1) - 1) - 1) - 1) - 1) ∧ 10 ≤ ((((((((((((((((((((((((n - 64) - 64) - 320) - 40) - 36000) - 10) - 10) - 10) - 10) - 10) - 540) - 8) - 8) - 480) - 64) - 360) - 8) - 6) - 8) - 40) - 40) - 40) - 40) - 40) ∧ ∀ a_76, xT S_75 a_76 = 0 → nm (sV S_75 a_76 101 10) (fun S_77 : xH => xT S_77 o = 2 ∧ nm (sR S_77 137 o (some a_76)) (fun S_78 : xH => 1 ≤ (((((((((((((((((((((((((k - 1) - 1) - 1) - 1) - 1) - 1) - 1) - 1) - 1) - 1) - 1) - 1) - 1) - 1) - 1) - 1) - 1) - 1) - 1) - 1) - 1) - 1) - 1) - 1) - 1) ∧ 40 ≤ (((((((((((((((((((((((((n - 64) - 64) - 320) - 40) - 36000) - 10) - 10) - 10) - 10) - 10) - 540) - 8) - 8) - 480) - 64) - 360) - 8) - 6) - 8) - 40) - 40) - 40) - 40) - 40) - 10) ∧ ∀ a_79, xT S_78 a_79 = 0 → nm (sV S_78 a_79 101 40) (fun S_80 : xH => xT S_80 o = 2 ∧ nm (sR S_80 138 o (some a_79)) (fun S_81 : xH => Q S_81)))))))))))))))))))))))))))))))))))))))))))))))))))))))
theorem hd_X1_init : yX1_init.cls = "PressedMenModel" ∧ yX1_init.cls ≠ "java/lang/invoke/MethodHandle" ∧ yX1_init.cls ≠ "java/lang/invoke/VarHandle" ∧ (parseMethodDescriptor yX1_init.desc).map (fun d => d.parameters.length) = some 0 := by decide +kernel
set_option maxHeartbeats 4000000 in
theorem mt_X1_init (l : Launch) {D : va_G} {d : Nat → ClassId} {base : Nat} {mc : va_W} {S : xH} {k n : Nat} {o : Nat} {Q : xH → Prop} (hw : w_X1_init k n S o Q) : Met l yX1_init (ws_ yX1_init cX1_init 1 none) (x_rm 1 k n 28) (x_Pc D d base mc S [.ref o]) (x_Qv D d base mc (fun S' => Q S')) k n (x_A base) := by
  refine x_met (by decide) (Nat.le_of_ble_eq_true rfl) ?_
  intro p e s m below meth c hx hb hml hr hlocks hown hts hz hR hK hin ls hl
  have hown : s.vm.findClass "PressedMenModel" = some m.cls := hown
  have hl : lv_has ls 1 [(0, .ref o)] := hl
  have hS : va_S (x_A base) s.heap s.heap [] := va_S.rf
  have hA : ∀ q : Nat, s.heap.size ≤ q → x_A base q := fun q h => Nat.le_trans hz h
  have hc : 0 + k ≤ k := by omega
  have hs : 0 + n ≤ n := by omega
  unfold w_X1_init at hw
  refine lv_aload_n hx hb dX1_init_0 rfl (lv_at hl 0 rfl) ?_
  refine W.objInit hx hb hown (hts _ q964) (hts _ q93) (hts _ q94) rfl (by rw [hml]; exact hl.1) rfl dX1_init_1 (Nat.le_of_ble_eq_true rfl) (Nat.le_of_ble_eq_true rfl) ?_
  refine W.eq (g2 := F0 m 4 ls []) rfl ?_
  refine lv_aload_n hx hb dX1_init_4 rfl (lv_at hl 0 rfl) ?_
  refine lv_iconst (v := 4) hx hb dX1_init_5 (by decide) ?_
  refine x_putI (ci := 1) (C := RX1) (T := TX1) (N := 39) (f := 101) hx hb hts in_X1 tyX1 tyX1_ok nmX1 hown hK hR hS rfl 1 (by decide) (hts _ q967) (fun _ h => h) rfl rfl (by decide) rfl rfl dX1_init_6 hw.1 (fun H locs hR hS => ?_)
  have hw := hw.2
  obtain ⟨S_1, eS_1⟩ : ∃ z, z = (sI S 101 o 4) := ⟨_, rfl⟩
  rw [← eS_1] at hR
  have hw := hw S_1 eS_1
  refine lv_aload_n hx hb dX1_init_9 rfl (lv_at hl 0 rfl) ?_
  refine lv_bipush (v := 64) hx hb dX1_init_10 (by decide) ?_
  obtain ⟨h1, h2, hw⟩ := hw
  refine x_newa (atype := .boolean) (t := 102) (N' := 64) hx hb rfl (by decide) (by decide) rfl rfl (fun _ => rfl) (hts _ q172) hK hR hS hA dX1_init_12 (by decide) (by decide) (by decide) (by show _ ≤ k; omega) (by show _ ≤ n; omega) (fun a_2 H hf hR hS => ?_)
  have hw := hw a_2 hf
  have hc : (0 + 1) + (k - 1) ≤ k := by omega
  have hs : (0 + 64) + (n - 64) ≤ n := by omega
  obtain ⟨S_3, eS_3⟩ : ∃ z, z = (sV S_1 a_2 102 64) := ⟨_, rfl⟩
  rw [← eS_3] at hR
  have hw := hw S_3 eS_3
  refine x_putFR (ci := 1) (C := RX1) (T := TX1) (N := 39) (f := 102) (r := (some a_2)) hx hb hts in_X1 tyX1 tyX1_ok nmX1 hown hK hR hS rfl 2 (by decide) (hts _ q968) (fun _ h => h) rfl hin rfl rfl (by decide) (x_rnA _ _) (x_rfA _ _) dX1_init_14 hw.1 (fun H locs hR hS => ?_)
  have hw := hw.2
  obtain ⟨S_4, eS_4⟩ : ∃ z, z = (sR S_3 102 o (some a_2)) := ⟨_, rfl⟩
  rw [← eS_4] at hR
  have hw := hw S_4 eS_4
  refine lv_aload_n hx hb dX1_init_17 rfl (lv_at hl 0 rfl) ?_
  refine lv_bipush (v := 64) hx hb dX1_init_18 (by decide) ?_
  obtain ⟨h1, h2, hw⟩ := hw
  refine x_newa (atype := .int) (t := 101) (N' := 64) hx hb rfl (by decide) (by decide) rfl rfl (fun _ => rfl) (hts _ q173) hK hR hS hA dX1_init_20 (by decide) (by decide) (by decide) (by show _ ≤ k; omega) (by show _ ≤ n; omega) (fun a_5 H hf hR hS => ?_)
  have hw := hw a_5 hf
  have hc : ((0 + 1) + 1) + ((k - 1) - 1) ≤ k := by omega
  have hs : ((0 + 64) + 64) + ((n - 64) - 64) ≤ n := by omega
  obtain ⟨S_6, eS_6⟩ : ∃ z, z = (sV S_4 a_5 101 64) := ⟨_, rfl⟩
  rw [← eS_6] at hR
  have hw := hw S_6 eS_6
  refine x_putFR (ci := 1) (C := RX1) (T := TX1) (N := 39) (f := 103) (r := (some a_5)) hx hb hts in_X1 tyX1 tyX1_ok nmX1 hown hK hR hS rfl 3 (by decide) (hts _ q969) (fun _ h => h) rfl hin rfl rfl (by decide) (x_rnA _ _) (x_rfA _ _) dX1_init_22 hw.1 (fun H locs hR hS => ?_)
  have hw := hw.2
  obtain ⟨S_7, eS_7⟩ : ∃ z, z = (sR S_6 103 o (some a_5)) := ⟨_, rfl⟩
  rw [← eS_7] at hR
  have hw := hw S_7 eS_7
  refine lv_aload_n hx hb dX1_init_25 rfl (lv_at hl 0 rfl) ?_
  refine lv_sipush (v := 320) hx hb dX1_init_26 (by decide) ?_
  obtain ⟨h1, h2, hw⟩ := hw
  refine x_newa (atype := .int) (t := 101) (N' := 320) hx hb rfl (by decide) (by decide) rfl rfl (fun _ => rfl) (hts _ q173) hK hR hS hA dX1_init_29 (by decide) (by decide) (by decide) (by show _ ≤ k; omega) (by show _ ≤ n; omega) (fun a_8 H hf hR hS => ?_)
  have hw := hw a_8 hf
  have hc : (((0 + 1) + 1) + 1) + (((k - 1) - 1) - 1) ≤ k := by omega
  have hs : (((0 + 64) + 64) + 320) + (((n - 64) - 64) - 320) ≤ n := by omega
  obtain ⟨S_9, eS_9⟩ : ∃ z, z = (sV S_7 a_8 101 320) := ⟨_, rfl⟩
  rw [← eS_9] at hR
  have hw := hw S_9 eS_9
  refine x_putFR (ci := 1) (C := RX1) (T := TX1) (N := 39) (f := 106) (r := (some a_8)) hx hb hts in_X1 tyX1 tyX1_ok nmX1 hown hK hR hS rfl 6 (by decide) (hts _ q972) (fun _ h => h) rfl hin rfl rfl (by decide) (x_rnA _ _) (x_rfA _ _) dX1_init_31 hw.1 (fun H locs hR hS => ?_)
  have hw := hw.2
  obtain ⟨S_10, eS_10⟩ : ∃ z, z = (sR S_9 106 o (some a_8)) := ⟨_, rfl⟩
  rw [← eS_10] at hR
  have hw := hw S_10 eS_10
  refine lv_aload_n hx hb dX1_init_34 rfl (lv_at hl 0 rfl) ?_
  refine lv_bipush (v := 40) hx hb dX1_init_35 (by decide) ?_
  obtain ⟨h1, h2, hw⟩ := hw
  refine x_newa (atype := .int) (t := 101) (N' := 40) hx hb rfl (by decide) (by decide) rfl rfl (fun _ => rfl) (hts _ q173) hK hR hS hA dX1_init_37 (by decide) (by decide) (by decide) (by show _ ≤ k; omega) (by show _ ≤ n; omega) (fun a_11 H hf hR hS => ?_)
  have hw := hw a_11 hf
  have hc : ((((0 + 1) + 1) + 1) + 1) + ((((k - 1) - 1) - 1) - 1) ≤ k := by omega
  have hs : ((((0 + 64) + 64) + 320) + 40) + ((((n - 64) - 64) - 320) - 40) ≤ n := by omega
  obtain ⟨S_12, eS_12⟩ : ∃ z, z = (sV S_10 a_11 101 40) := ⟨_, rfl⟩
  rw [← eS_12] at hR
  have hw := hw S_12 eS_12
  refine x_putFR (ci := 1) (C := RX1) (T := TX1) (N := 39) (f := 107) (r := (some a_11)) hx hb hts in_X1 tyX1 tyX1_ok nmX1 hown hK hR hS rfl 7 (by decide) (hts _ q973) (fun _ h => h) rfl hin rfl rfl (by decide) (x_rnA _ _) (x_rfA _ _) dX1_init_39 hw.1 (fun H locs hR hS => ?_)
  have hw := hw.2
  obtain ⟨S_13, eS_13⟩ : ∃ z, z = (sR S_12 107 o (some a_11)) := ⟨_, rfl⟩
  rw [← eS_13] at hR
  have hw := hw S_13 eS_13
  refine lv_aload_n hx hb dX1_init_42 rfl (lv_at hl 0 rfl) ?_
  refine lv_ldc (v := 36000) hx hb hown (hts _ q965) dX1_init_43 ?_
  obtain ⟨h1, h2, hw⟩ := hw
  refine x_newa (atype := .int) (t := 101) (N' := 36000) hx hb rfl (by decide) (by decide) rfl rfl (fun _ => rfl) (hts _ q173) hK hR hS hA dX1_init_45 (by decide) (by decide) (by decide) (by show _ ≤ k; omega) (by show _ ≤ n; omega) (fun a_14 H hf hR hS => ?_)
  have hw := hw a_14 hf
  have hc : (((((0 + 1) + 1) + 1) + 1) + 1) + (((((k - 1) - 1) - 1) - 1) - 1) ≤ k := by omega
  have hs : (((((0 + 64) + 64) + 320) + 40) + 36000) + (((((n - 64) - 64) - 320) - 40) - 36000) ≤ n := by omega
  obtain ⟨S_15, eS_15⟩ : ∃ z, z = (sV S_13 a_14 101 36000) := ⟨_, rfl⟩
  rw [← eS_15] at hR
  have hw := hw S_15 eS_15
  refine x_putFR (ci := 1) (C := RX1) (T := TX1) (N := 39) (f := 108) (r := (some a_14)) hx hb hts in_X1 tyX1 tyX1_ok nmX1 hown hK hR hS rfl 8 (by decide) (hts _ q974) (fun _ h => h) rfl hin rfl rfl (by decide) (x_rnA _ _) (x_rfA _ _) dX1_init_47 hw.1 (fun H locs hR hS => ?_)
  have hw := hw.2
  obtain ⟨S_16, eS_16⟩ : ∃ z, z = (sR S_15 108 o (some a_14)) := ⟨_, rfl⟩
  rw [← eS_16] at hR
  have hw := hw S_16 eS_16
  refine lv_aload_n hx hb dX1_init_50 rfl (lv_at hl 0 rfl) ?_
  refine lv_bipush (v := 10) hx hb dX1_init_51 (by decide) ?_
  obtain ⟨h1, h2, hw⟩ := hw
  refine x_newa (atype := .int) (t := 101) (N' := 10) hx hb rfl (by decide) (by decide) rfl rfl (fun _ => rfl) (hts _ q173) hK hR hS hA dX1_init_53 (by decide) (by decide) (by decide) (by show _ ≤ k; omega) (by show _ ≤ n; omega) (fun a_17 H hf hR hS => ?_)
  have hw := hw a_17 hf
  have hc : ((((((0 + 1) + 1) + 1) + 1) + 1) + 1) + ((((((k - 1) - 1) - 1) - 1) - 1) - 1) ≤ k := by omega
  have hs : ((((((0 + 64) + 64) + 320) + 40) + 36000) + 10) + ((((((n - 64) - 64) - 320) - 40) - 36000) - 10) ≤ n := by omega
  obtain ⟨S_18, eS_18⟩ : ∃ z, z = (sV S_16 a_17 101 10) := ⟨_, rfl⟩
  rw [← eS_18] at hR
  have hw := hw S_18 eS_18
  refine x_putFR (ci := 1) (C := RX1) (T := TX1) (N := 39) (f := 110) (r := (some a_17)) hx hb hts in_X1 tyX1 tyX1_ok nmX1 hown hK hR hS rfl 10 (by decide) (hts _ q976) (fun _ h => h) rfl hin rfl rfl (by decide) (x_rnA _ _) (x_rfA _ _) dX1_init_55 hw.1 (fun H locs hR hS => ?_)
  have hw := hw.2
  obtain ⟨S_19, eS_19⟩ : ∃ z, z = (sR S_18 110 o (some a_17)) := ⟨_, rfl⟩
  rw [← eS_19] at hR
  have hw := hw S_19 eS_19
  refine lv_aload_n hx hb dX1_init_58 rfl (lv_at hl 0 rfl) ?_
  refine lv_bipush (v := 10) hx hb dX1_init_59 (by decide) ?_
  obtain ⟨h1, h2, hw⟩ := hw
  refine x_newa (atype := .int) (t := 101) (N' := 10) hx hb rfl (by decide) (by decide) rfl rfl (fun _ => rfl) (hts _ q173) hK hR hS hA dX1_init_61 (by decide) (by decide) (by decide) (by show _ ≤ k; omega) (by show _ ≤ n; omega) (fun a_20 H hf hR hS => ?_)
  have hw := hw a_20 hf
  have hc : (((((((0 + 1) + 1) + 1) + 1) + 1) + 1) + 1) + (((((((k - 1) - 1) - 1) - 1) - 1) - 1) - 1) ≤ k := by omega
  have hs : (((((((0 + 64) + 64) + 320) + 40) + 36000) + 10) + 10) + (((((((n - 64) - 64) - 320) - 40) - 36000) - 10) - 10) ≤ n := by omega
  obtain ⟨S_21, eS_21⟩ : ∃ z, z = (sV S_19 a_20 101 10) := ⟨_, rfl⟩
  rw [← eS_21] at hR
  have hw := hw S_21 eS_21
  refine x_putFR (ci := 1) (C := RX1) (T := TX1) (N := 39) (f := 111) (r := (some a_20)) hx hb hts in_X1 tyX1 tyX1_ok nmX1 hown hK hR hS rfl 11 (by decide) (hts _ q977) (fun _ h => h) rfl hin rfl rfl (by decide) (x_rnA _ _) (x_rfA _ _) dX1_init_63 hw.1 (fun H locs hR hS => ?_)
  have hw := hw.2
  obtain ⟨S_22, eS_22⟩ : ∃ z, z = (sR S_21 111 o (some a_20)) := ⟨_, rfl⟩
  rw [← eS_22] at hR
  have hw := hw S_22 eS_22
  refine lv_aload_n hx hb dX1_init_66 rfl (lv_at hl 0 rfl) ?_
  refine lv_bipush (v := 10) hx hb dX1_init_67 (by decide) ?_
  obtain ⟨h1, h2, hw⟩ := hw
  refine x_newa (atype := .int) (t := 101) (N' := 10) hx hb rfl (by decide) (by decide) rfl rfl (fun _ => rfl) (hts _ q173) hK hR hS hA dX1_init_69 (by decide) (by decide) (by decide) (by show _ ≤ k; omega) (by show _ ≤ n; omega) (fun a_23 H hf hR hS => ?_)
  have hw := hw a_23 hf
  have hc : ((((((((0 + 1) + 1) + 1) + 1) + 1) + 1) + 1) + 1) + ((((((((k - 1) - 1) - 1) - 1) - 1) - 1) - 1) - 1) ≤ k := by omega
  have hs : ((((((((0 + 64) + 64) + 320) + 40) + 36000) + 10) + 10) + 10) + ((((((((n - 64) - 64) - 320) - 40) - 36000) - 10) - 10) - 10) ≤ n := by omega
  obtain ⟨S_24, eS_24⟩ : ∃ z, z = (sV S_22 a_23 101 10) := ⟨_, rfl⟩
  rw [← eS_24] at hR
  have hw := hw S_24 eS_24
  refine x_putFR (ci := 1) (C := RX1) (T := TX1) (N := 39) (f := 112) (r := (some a_23)) hx hb hts in_X1 tyX1 tyX1_ok nmX1 hown hK hR hS rfl 12 (by decide) (hts _ q978) (fun _ h => h) rfl hin rfl rfl (by decide) (x_rnA _ _) (x_rfA _ _) dX1_init_71 hw.1 (fun H locs hR hS => ?_)
  have hw := hw.2
  obtain ⟨S_25, eS_25⟩ : ∃ z, z = (sR S_24 112 o (some a_23)) := ⟨_, rfl⟩
  rw [← eS_25] at hR
  have hw := hw S_25 eS_25
  refine lv_aload_n hx hb dX1_init_74 rfl (lv_at hl 0 rfl) ?_
  refine lv_bipush (v := 10) hx hb dX1_init_75 (by decide) ?_
  obtain ⟨h1, h2, hw⟩ := hw
  refine x_newa (atype := .int) (t := 101) (N' := 10) hx hb rfl (by decide) (by decide) rfl rfl (fun _ => rfl) (hts _ q173) hK hR hS hA dX1_init_77 (by decide) (by decide) (by decide) (by show _ ≤ k; omega) (by show _ ≤ n; omega) (fun a_26 H hf hR hS => ?_)
  have hw := hw a_26 hf
  have hc : (((((((((0 + 1) + 1) + 1) + 1) + 1) + 1) + 1) + 1) + 1) + (((((((((k - 1) - 1) - 1) - 1) - 1) - 1) - 1) - 1) - 1) ≤ k := by omega
  have hs : (((((((((0 + 64) + 64) + 320) + 40) + 36000) + 10) + 10) + 10) + 10) + (((((((((n - 64) - 64) - 320) - 40) - 36000) - 10) - 10) - 10) - 10) ≤ n := by omega
  obtain ⟨S_27, eS_27⟩ : ∃ z, z = (sV S_25 a_26 101 10) := ⟨_, rfl⟩
  rw [← eS_27] at hR
  have hw := hw S_27 eS_27
  refine x_putFR (ci := 1) (C := RX1) (T := TX1) (N := 39) (f := 113) (r := (some a_26)) hx hb hts in_X1 tyX1 tyX1_ok nmX1 hown hK hR hS rfl 13 (by decide) (hts _ q979) (fun _ h => h) rfl hin rfl rfl (by decide) (x_rnA _ _) (x_rfA _ _) dX1_init_79 hw.1 (fun H locs hR hS => ?_)
  have hw := hw.2
  obtain ⟨S_28, eS_28⟩ : ∃ z, z = (sR S_27 113 o (some a_26)) := ⟨_, rfl⟩
  rw [← eS_28] at hR
  have hw := hw S_28 eS_28
  refine lv_aload_n hx hb dX1_init_82 rfl (lv_at hl 0 rfl) ?_
  refine lv_bipush (v := 10) hx hb dX1_init_83 (by decide) ?_
  obtain ⟨h1, h2, hw⟩ := hw
  refine x_newa (atype := .boolean) (t := 102) (N' := 10) hx hb rfl (by decide) (by decide) rfl rfl (fun _ => rfl) (hts _ q172) hK hR hS hA dX1_init_85 (by decide) (by decide) (by decide) (by show _ ≤ k; omega) (by show _ ≤ n; omega) (fun a_29 H hf hR hS => ?_)
  have hw := hw a_29 hf
  have hc : ((((((((((0 + 1) + 1) + 1) + 1) + 1) + 1) + 1) + 1) + 1) + 1) + ((((((((((k - 1) - 1) - 1) - 1) - 1) - 1) - 1) - 1) - 1) - 1) ≤ k := by omega
  have hs : ((((((((((0 + 64) + 64) + 320) + 40) + 36000) + 10) + 10) + 10) + 10) + 10) + ((((((((((n - 64) - 64) - 320) - 40) - 36000) - 10) - 10) - 10) - 10) - 10) ≤ n := by omega
  obtain ⟨S_30, eS_30⟩ : ∃ z, z = (sV S_28 a_29 102 10) := ⟨_, rfl⟩
  rw [← eS_30] at hR
  have hw := hw S_30 eS_30
  refine x_putFR (ci := 1) (C := RX1) (T := TX1) (N := 39) (f := 114) (r := (some a_29)) hx hb hts in_X1 tyX1 tyX1_ok nmX1 hown hK hR hS rfl 14 (by decide) (hts _ q980) (fun _ h => h) rfl hin rfl rfl (by decide) (x_rnA _ _) (x_rfA _ _) dX1_init_87 hw.1 (fun H locs hR hS => ?_)
  have hw := hw.2
  obtain ⟨S_31, eS_31⟩ : ∃ z, z = (sR S_30 114 o (some a_29)) := ⟨_, rfl⟩
  rw [← eS_31] at hR
  have hw := hw S_31 eS_31
  refine lv_aload_n hx hb dX1_init_90 rfl (lv_at hl 0 rfl) ?_
  refine lv_sipush (v := 540) hx hb dX1_init_91 (by decide) ?_
  obtain ⟨h1, h2, hw⟩ := hw
  refine x_newa (atype := .int) (t := 101) (N' := 540) hx hb rfl (by decide) (by decide) rfl rfl (fun _ => rfl) (hts _ q173) hK hR hS hA dX1_init_94 (by decide) (by decide) (by decide) (by show _ ≤ k; omega) (by show _ ≤ n; omega) (fun a_32 H hf hR hS => ?_)
  have hw := hw a_32 hf
  have hc : (((((((((((0 + 1) + 1) + 1) + 1) + 1) + 1) + 1) + 1) + 1) + 1) + 1) + (((((((((((k - 1) - 1) - 1) - 1) - 1) - 1) - 1) - 1) - 1) - 1) - 1) ≤ k := by omega
  have hs : (((((((((((0 + 64) + 64) + 320) + 40) + 36000) + 10) + 10) + 10) + 10) + 10) + 540) + (((((((((((n - 64) - 64) - 320) - 40) - 36000) - 10) - 10) - 10) - 10) - 10) - 540) ≤ n := by omega
  obtain ⟨S_33, eS_33⟩ : ∃ z, z = (sV S_31 a_32 101 540) := ⟨_, rfl⟩
  rw [← eS_33] at hR
  have hw := hw S_33 eS_33
  refine x_putFR (ci := 1) (C := RX1) (T := TX1) (N := 39) (f := 116) (r := (some a_32)) hx hb hts in_X1 tyX1 tyX1_ok nmX1 hown hK hR hS rfl 16 (by decide) (hts _ q982) (fun _ h => h) rfl hin rfl rfl (by decide) (x_rnA _ _) (x_rfA _ _) dX1_init_96 hw.1 (fun H locs hR hS => ?_)
  have hw := hw.2
  obtain ⟨S_34, eS_34⟩ : ∃ z, z = (sR S_33 116 o (some a_32)) := ⟨_, rfl⟩
  rw [← eS_34] at hR
  have hw := hw S_34 eS_34
  refine lv_aload_n hx hb dX1_init_99 rfl (lv_at hl 0 rfl) ?_
  refine lv_bipush (v := 8) hx hb dX1_init_100 (by decide) ?_
  obtain ⟨h1, h2, hw⟩ := hw
  refine x_newa (atype := .int) (t := 101) (N' := 8) hx hb rfl (by decide) (by decide) rfl rfl (fun _ => rfl) (hts _ q173) hK hR hS hA dX1_init_102 (by decide) (by decide) (by decide) (by show _ ≤ k; omega) (by show _ ≤ n; omega) (fun a_35 H hf hR hS => ?_)
  have hw := hw a_35 hf
  have hc : ((((((((((((0 + 1) + 1) + 1) + 1) + 1) + 1) + 1) + 1) + 1) + 1) + 1) + 1) + ((((((((((((k - 1) - 1) - 1) - 1) - 1) - 1) - 1) - 1) - 1) - 1) - 1) - 1) ≤ k := by omega
  have hs : ((((((((((((0 + 64) + 64) + 320) + 40) + 36000) + 10) + 10) + 10) + 10) + 10) + 540) + 8) + ((((((((((((n - 64) - 64) - 320) - 40) - 36000) - 10) - 10) - 10) - 10) - 10) - 540) - 8) ≤ n := by omega
  obtain ⟨S_36, eS_36⟩ : ∃ z, z = (sV S_34 a_35 101 8) := ⟨_, rfl⟩
  rw [← eS_36] at hR
  have hw := hw S_36 eS_36
  refine x_putFR (ci := 1) (C := RX1) (T := TX1) (N := 39) (f := 118) (r := (some a_35)) hx hb hts in_X1 tyX1 tyX1_ok nmX1 hown hK hR hS rfl 18 (by decide) (hts _ q984) (fun _ h => h) rfl hin rfl rfl (by decide) (x_rnA _ _) (x_rfA _ _) dX1_init_104 hw.1 (fun H locs hR hS => ?_)
  have hw := hw.2
  obtain ⟨S_37, eS_37⟩ : ∃ z, z = (sR S_36 118 o (some a_35)) := ⟨_, rfl⟩
  rw [← eS_37] at hR
  have hw := hw S_37 eS_37
  refine lv_aload_n hx hb dX1_init_107 rfl (lv_at hl 0 rfl) ?_
  refine lv_bipush (v := 8) hx hb dX1_init_108 (by decide) ?_
  obtain ⟨h1, h2, hw⟩ := hw
  refine x_newa (atype := .int) (t := 101) (N' := 8) hx hb rfl (by decide) (by decide) rfl rfl (fun _ => rfl) (hts _ q173) hK hR hS hA dX1_init_110 (by decide) (by decide) (by decide) (by show _ ≤ k; omega) (by show _ ≤ n; omega) (fun a_38 H hf hR hS => ?_)
  have hw := hw a_38 hf
  have hc : (((((((((((((0 + 1) + 1) + 1) + 1) + 1) + 1) + 1) + 1) + 1) + 1) + 1) + 1) + 1) + (((((((((((((k - 1) - 1) - 1) - 1) - 1) - 1) - 1) - 1) - 1) - 1) - 1) - 1) - 1) ≤ k := by omega
  have hs : (((((((((((((0 + 64) + 64) + 320) + 40) + 36000) + 10) + 10) + 10) + 10) + 10) + 540) + 8) + 8) + (((((((((((((n - 64) - 64) - 320) - 40) - 36000) - 10) - 10) - 10) - 10) - 10) - 540) - 8) - 8) ≤ n := by omega
  obtain ⟨S_39, eS_39⟩ : ∃ z, z = (sV S_37 a_38 101 8) := ⟨_, rfl⟩
  rw [← eS_39] at hR
  have hw := hw S_39 eS_39
  refine x_putFR (ci := 1) (C := RX1) (T := TX1) (N := 39) (f := 119) (r := (some a_38)) hx hb hts in_X1 tyX1 tyX1_ok nmX1 hown hK hR hS rfl 19 (by decide) (hts _ q985) (fun _ h => h) rfl hin rfl rfl (by decide) (x_rnA _ _) (x_rfA _ _) dX1_init_112 hw.1 (fun H locs hR hS => ?_)
  have hw := hw.2
  obtain ⟨S_40, eS_40⟩ : ∃ z, z = (sR S_39 119 o (some a_38)) := ⟨_, rfl⟩
  rw [← eS_40] at hR
  have hw := hw S_40 eS_40
  refine lv_aload_n hx hb dX1_init_115 rfl (lv_at hl 0 rfl) ?_
  refine lv_sipush (v := 480) hx hb dX1_init_116 (by decide) ?_
  obtain ⟨h1, h2, hw⟩ := hw
  refine x_newa (atype := .int) (t := 101) (N' := 480) hx hb rfl (by decide) (by decide) rfl rfl (fun _ => rfl) (hts _ q173) hK hR hS hA dX1_init_119 (by decide) (by decide) (by decide) (by show _ ≤ k; omega) (by show _ ≤ n; omega) (fun a_41 H hf hR hS => ?_)
  have hw := hw a_41 hf
  have hc : ((((((((((((((0 + 1) + 1) + 1) + 1) + 1) + 1) + 1) + 1) + 1) + 1) + 1) + 1) + 1) + 1) + ((((((((((((((k - 1) - 1) - 1) - 1) - 1) - 1) - 1) - 1) - 1) - 1) - 1) - 1) - 1) - 1) ≤ k := by omega
  have hs : ((((((((((((((0 + 64) + 64) + 320) + 40) + 36000) + 10) + 10) + 10) + 10) + 10) + 540) + 8) + 8) + 480) + ((((((((((((((n - 64) - 64) - 320) - 40) - 36000) - 10) - 10) - 10) - 10) - 10) - 540) - 8) - 8) - 480) ≤ n := by omega
  obtain ⟨S_42, eS_42⟩ : ∃ z, z = (sV S_40 a_41 101 480) := ⟨_, rfl⟩
  rw [← eS_42] at hR
  have hw := hw S_42 eS_42
  refine x_putFR (ci := 1) (C := RX1) (T := TX1) (N := 39) (f := 120) (r := (some a_41)) hx hb hts in_X1 tyX1 tyX1_ok nmX1 hown hK hR hS rfl 20 (by decide) (hts _ q986) (fun _ h => h) rfl hin rfl rfl (by decide) (x_rnA _ _) (x_rfA _ _) dX1_init_121 hw.1 (fun H locs hR hS => ?_)
  have hw := hw.2
  obtain ⟨S_43, eS_43⟩ : ∃ z, z = (sR S_42 120 o (some a_41)) := ⟨_, rfl⟩
  rw [← eS_43] at hR
  have hw := hw S_43 eS_43
  refine lv_aload_n hx hb dX1_init_124 rfl (lv_at hl 0 rfl) ?_
  refine lv_bipush (v := 64) hx hb dX1_init_125 (by decide) ?_
  obtain ⟨h1, h2, hw⟩ := hw
  refine x_newa (atype := .boolean) (t := 102) (N' := 64) hx hb rfl (by decide) (by decide) rfl rfl (fun _ => rfl) (hts _ q172) hK hR hS hA dX1_init_127 (by decide) (by decide) (by decide) (by show _ ≤ k; omega) (by show _ ≤ n; omega) (fun a_44 H hf hR hS => ?_)
  have hw := hw a_44 hf
  have hc : (((((((((((((((0 + 1) + 1) + 1) + 1) + 1) + 1) + 1) + 1) + 1) + 1) + 1) + 1) + 1) + 1) + 1) + (((((((((((((((k - 1) - 1) - 1) - 1) - 1) - 1) - 1) - 1) - 1) - 1) - 1) - 1) - 1) - 1) - 1) ≤ k := by omega
  have hs : (((((((((((((((0 + 64) + 64) + 320) + 40) + 36000) + 10) + 10) + 10) + 10) + 10) + 540) + 8) + 8) + 480) + 64) + (((((((((((((((n - 64) - 64) - 320) - 40) - 36000) - 10) - 10) - 10) - 10) - 10) - 540) - 8) - 8) - 480) - 64) ≤ n := by omega
  obtain ⟨S_45, eS_45⟩ : ∃ z, z = (sV S_43 a_44 102 64) := ⟨_, rfl⟩
  rw [← eS_45] at hR
  have hw := hw S_45 eS_45
  refine x_putFR (ci := 1) (C := RX1) (T := TX1) (N := 39) (f := 121) (r := (some a_44)) hx hb hts in_X1 tyX1 tyX1_ok nmX1 hown hK hR hS rfl 21 (by decide) (hts _ q987) (fun _ h => h) rfl hin rfl rfl (by decide) (x_rnA _ _) (x_rfA _ _) dX1_init_129 hw.1 (fun H locs hR hS => ?_)
  have hw := hw.2
  obtain ⟨S_46, eS_46⟩ : ∃ z, z = (sR S_45 121 o (some a_44)) := ⟨_, rfl⟩
  rw [← eS_46] at hR
  have hw := hw S_46 eS_46
  refine lv_aload_n hx hb dX1_init_132 rfl (lv_at hl 0 rfl) ?_
  refine lv_sipush (v := 360) hx hb dX1_init_133 (by decide) ?_
  obtain ⟨h1, h2, hw⟩ := hw
  refine x_newa (atype := .int) (t := 101) (N' := 360) hx hb rfl (by decide) (by decide) rfl rfl (fun _ => rfl) (hts _ q173) hK hR hS hA dX1_init_136 (by decide) (by decide) (by decide) (by show _ ≤ k; omega) (by show _ ≤ n; omega) (fun a_47 H hf hR hS => ?_)
  have hw := hw a_47 hf
  have hc : ((((((((((((((((0 + 1) + 1) + 1) + 1) + 1) + 1) + 1) + 1) + 1) + 1) + 1) + 1) + 1) + 1) + 1) + 1) + ((((((((((((((((k - 1) - 1) - 1) - 1) - 1) - 1) - 1) - 1) - 1) - 1) - 1) - 1) - 1) - 1) - 1) - 1) ≤ k := by omega
  have hs : ((((((((((((((((0 + 64) + 64) + 320) + 40) + 36000) + 10) + 10) + 10) + 10) + 10) + 540) + 8) + 8) + 480) + 64) + 360) + ((((((((((((((((n - 64) - 64) - 320) - 40) - 36000) - 10) - 10) - 10) - 10) - 10) - 540) - 8) - 8) - 480) - 64) - 360) ≤ n := by omega
  obtain ⟨S_48, eS_48⟩ : ∃ z, z = (sV S_46 a_47 101 360) := ⟨_, rfl⟩
  rw [← eS_48] at hR
  have hw := hw S_48 eS_48
  refine x_putFR (ci := 1) (C := RX1) (T := TX1) (N := 39) (f := 123) (r := (some a_47)) hx hb hts in_X1 tyX1 tyX1_ok nmX1 hown hK hR hS rfl 23 (by decide) (hts _ q989) (fun _ h => h) rfl hin rfl rfl (by decide) (x_rnA _ _) (x_rfA _ _) dX1_init_138 hw.1 (fun H locs hR hS => ?_)
  have hw := hw.2
  obtain ⟨S_49, eS_49⟩ : ∃ z, z = (sR S_48 123 o (some a_47)) := ⟨_, rfl⟩
  rw [← eS_49] at hR
  have hw := hw S_49 eS_49
  refine lv_aload_n hx hb dX1_init_141 rfl (lv_at hl 0 rfl) ?_
  refine lv_bipush (v := 10) hx hb dX1_init_142 (by decide) ?_
  refine x_putI (ci := 1) (C := RX1) (T := TX1) (N := 39) (f := 125) hx hb hts in_X1 tyX1 tyX1_ok nmX1 hown hK hR hS rfl 25 (by decide) (hts _ q991) (fun _ h => h) rfl rfl (by decide) rfl rfl dX1_init_144 hw.1 (fun H locs hR hS => ?_)
  have hw := hw.2
  obtain ⟨S_50, eS_50⟩ : ∃ z, z = (sI S_49 125 o 10) := ⟨_, rfl⟩
  rw [← eS_50] at hR
  have hw := hw S_50 eS_50
  refine lv_aload_n hx hb dX1_init_147 rfl (lv_at hl 0 rfl) ?_
  refine lv_bipush (v := 50) hx hb dX1_init_148 (by decide) ?_
  refine x_putI (ci := 1) (C := RX1) (T := TX1) (N := 39) (f := 126) hx hb hts in_X1 tyX1 tyX1_ok nmX1 hown hK hR hS rfl 26 (by decide) (hts _ q992) (fun _ h => h) rfl rfl (by decide) rfl rfl dX1_init_150 hw.1 (fun H locs hR hS => ?_)
  have hw := hw.2
  obtain ⟨S_51, eS_51⟩ : ∃ z, z = (sI S_50 126 o 50) := ⟨_, rfl⟩
  rw [← eS_51] at hR
  have hw := hw S_51 eS_51
  refine lv_aload_n hx hb dX1_init_153 rfl (lv_at hl 0 rfl) ?_
  refine lv_bipush (v := 8) hx hb dX1_init_154 (by decide) ?_
  obtain ⟨h1, h2, hw⟩ := hw
  refine x_newa (atype := .int) (t := 101) (N' := 8) hx hb rfl (by decide) (by decide) rfl rfl (fun _ => rfl) (hts _ q173) hK hR hS hA dX1_init_156 (by decide) (by decide) (by decide) (by show _ ≤ k; omega) (by show _ ≤ n; omega) (fun a_52 H hf hR hS => ?_)
  have hw := hw a_52 hf
  have hc : (((((((((((((((((0 + 1) + 1) + 1) + 1) + 1) + 1) + 1) + 1) + 1) + 1) + 1) + 1) + 1) + 1) + 1) + 1) + 1) + (((((((((((((((((k - 1) - 1) - 1) - 1) - 1) - 1) - 1) - 1) - 1) - 1) - 1) - 1) - 1) - 1) - 1) - 1) - 1) ≤ k := by omega
  have hs : (((((((((((((((((0 + 64) + 64) + 320) + 40) + 36000) + 10) + 10) + 10) + 10) + 10) + 540) + 8) + 8) + 480) + 64) + 360) + 8) + (((((((((((((((((n - 64) - 64) - 320) - 40) - 36000) - 10) - 10) - 10) - 10) - 10) - 540) - 8) - 8) - 480) - 64) - 360) - 8) ≤ n := by omega
  obtain ⟨S_53, eS_53⟩ : ∃ z, z = (sV S_51 a_52 101 8) := ⟨_, rfl⟩
  rw [← eS_53] at hR
  have hw := hw S_53 eS_53
  refine x_putFR (ci := 1) (C := RX1) (T := TX1) (N := 39) (f := 127) (r := (some a_52)) hx hb hts in_X1 tyX1 tyX1_ok nmX1 hown hK hR hS rfl 27 (by decide) (hts _ q993) (fun _ h => h) rfl hin rfl rfl (by decide) (x_rnA _ _) (x_rfA _ _) dX1_init_158 hw.1 (fun H locs hR hS => ?_)
  have hw := hw.2
  obtain ⟨S_54, eS_54⟩ : ∃ z, z = (sR S_53 127 o (some a_52)) := ⟨_, rfl⟩
  rw [← eS_54] at hR
  have hw := hw S_54 eS_54
  refine lv_aload_n hx hb dX1_init_161 rfl (lv_at hl 0 rfl) ?_
  refine lv_bipush (v := 6) hx hb dX1_init_162 (by decide) ?_
  obtain ⟨h1, h2, hw⟩ := hw
  refine x_newa (atype := .int) (t := 101) (N' := 6) hx hb rfl (by decide) (by decide) rfl rfl (fun _ => rfl) (hts _ q173) hK hR hS hA dX1_init_164 (by decide) (by decide) (by decide) (by show _ ≤ k; omega) (by show _ ≤ n; omega) (fun a_55 H hf hR hS => ?_)
  have hw := hw a_55 hf
  have hc : ((((((((((((((((((0 + 1) + 1) + 1) + 1) + 1) + 1) + 1) + 1) + 1) + 1) + 1) + 1) + 1) + 1) + 1) + 1) + 1) + 1) + ((((((((((((((((((k - 1) - 1) - 1) - 1) - 1) - 1) - 1) - 1) - 1) - 1) - 1) - 1) - 1) - 1) - 1) - 1) - 1) - 1) ≤ k := by omega
  have hs : ((((((((((((((((((0 + 64) + 64) + 320) + 40) + 36000) + 10) + 10) + 10) + 10) + 10) + 540) + 8) + 8) + 480) + 64) + 360) + 8) + 6) + ((((((((((((((((((n - 64) - 64) - 320) - 40) - 36000) - 10) - 10) - 10) - 10) - 10) - 540) - 8) - 8) - 480) - 64) - 360) - 8) - 6) ≤ n := by omega
  obtain ⟨S_56, eS_56⟩ : ∃ z, z = (sV S_54 a_55 101 6) := ⟨_, rfl⟩
  rw [← eS_56] at hR
  have hw := hw S_56 eS_56
  refine x_putFR (ci := 1) (C := RX1) (T := TX1) (N := 39) (f := 128) (r := (some a_55)) hx hb hts in_X1 tyX1 tyX1_ok nmX1 hown hK hR hS rfl 28 (by decide) (hts _ q994) (fun _ h => h) rfl hin rfl rfl (by decide) (x_rnA _ _) (x_rfA _ _) dX1_init_166 hw.1 (fun H locs hR hS => ?_)
  have hw := hw.2
  obtain ⟨S_57, eS_57⟩ : ∃ z, z = (sR S_56 128 o (some a_55)) := ⟨_, rfl⟩
  rw [← eS_57] at hR
  have hw := hw S_57 eS_57
  refine lv_aload_n hx hb dX1_init_169 rfl (lv_at hl 0 rfl) ?_
  refine lv_bipush (v := 8) hx hb dX1_init_170 (by decide) ?_
  obtain ⟨h1, h2, hw⟩ := hw
  refine x_newa (atype := .int) (t := 101) (N' := 8) hx hb rfl (by decide) (by decide) rfl rfl (fun _ => rfl) (hts _ q173) hK hR hS hA dX1_init_172 (by decide) (by decide) (by decide) (by show _ ≤ k; omega) (by show _ ≤ n; omega) (fun a_58 H hf hR hS => ?_)
  have hw := hw a_58 hf
  have hc : (((((((((((((((((((0 + 1) + 1) + 1) + 1) + 1) + 1) + 1) + 1) + 1) + 1) + 1) + 1) + 1) + 1) + 1) + 1) + 1) + 1) + 1) + (((((((((((((((((((k - 1) - 1) - 1) - 1) - 1) - 1) - 1) - 1) - 1) - 1) - 1) - 1) - 1) - 1) - 1) - 1) - 1) - 1) - 1) ≤ k := by omega
  have hs : (((((((((((((((((((0 + 64) + 64) + 320) + 40) + 36000) + 10) + 10) + 10) + 10) + 10) + 540) + 8) + 8) + 480) + 64) + 360) + 8) + 6) + 8) + (((((((((((((((((((n - 64) - 64) - 320) - 40) - 36000) - 10) - 10) - 10) - 10) - 10) - 540) - 8) - 8) - 480) - 64) - 360) - 8) - 6) - 8) ≤ n := by omega
  obtain ⟨S_59, eS_59⟩ : ∃ z, z = (sV S_57 a_58 101 8) := ⟨_, rfl⟩
  rw [← eS_59] at hR
  have hw := hw S_59 eS_59
  refine x_putFR (ci := 1) (C := RX1) (T := TX1) (N := 39) (f := 129) (r := (some a_58)) hx hb hts in_X1 tyX1 tyX1_ok nmX1 hown hK hR hS rfl 29 (by decide) (hts _ q995) (fun _ h => h) rfl hin rfl rfl (by decide) (x_rnA _ _) (x_rfA _ _) dX1_init_174 hw.1 (fun H locs hR hS => ?_)
  have hw := hw.2
  obtain ⟨S_60, eS_60⟩ : ∃ z, z = (sR S_59 129 o (some a_58)) := ⟨_, rfl⟩
  rw [← eS_60] at hR
  have hw := hw S_60 eS_60
  refine lv_aload_n hx hb dX1_init_177 rfl (lv_at hl 0 rfl) ?_
  refine lv_bipush (v := 40) hx hb dX1_init_178 (by decide) ?_
  obtain ⟨h1, h2, hw⟩ := hw
  refine x_newa (atype := .int) (t := 101) (N' := 40) hx hb rfl (by decide) (by decide) rfl rfl (fun _ => rfl) (hts _ q173) hK hR hS hA dX1_init_180 (by decide) (by decide) (by decide) (by show _ ≤ k; omega) (by show _ ≤ n; omega) (fun a_61 H hf hR hS => ?_)
  have hw := hw a_61 hf
  have hc : ((((((((((((((((((((0 + 1) + 1) + 1) + 1) + 1) + 1) + 1) + 1) + 1) + 1) + 1) + 1) + 1) + 1) + 1) + 1) + 1) + 1) + 1) + 1) + ((((((((((((((((((((k - 1) - 1) - 1) - 1) - 1) - 1) - 1) - 1) - 1) - 1) - 1) - 1) - 1) - 1) - 1) - 1) - 1) - 1) - 1) - 1) ≤ k := by omega
  have hs : ((((((((((((((((((((0 + 64) + 64) + 320) + 40) + 36000) + 10) + 10) + 10) + 10) + 10) + 540) + 8) + 8) + 480) + 64) + 360) + 8) + 6) + 8) + 40) + ((((((((((((((((((((n - 64) - 64) - 320) - 40) - 36000) - 10) - 10) - 10) - 10) - 10) - 540) - 8) - 8) - 480) - 64) - 360) - 8) - 6) - 8) - 40) ≤ n := by omega
  obtain ⟨S_62, eS_62⟩ : ∃ z, z = (sV S_60 a_61 101 40) := ⟨_, rfl⟩
  rw [← eS_62] at hR
  have hw := hw S_62 eS_62
  refine x_putFR (ci := 1) (C := RX1) (T := TX1) (N := 39) (f := 132) (r := (some a_61)) hx hb hts in_X1 tyX1 tyX1_ok nmX1 hown hK hR hS rfl 32 (by decide) (hts _ q998) (fun _ h => h) rfl hin rfl rfl (by decide) (x_rnA _ _) (x_rfA _ _) dX1_init_182 hw.1 (fun H locs hR hS => ?_)
  have hw := hw.2
  obtain ⟨S_63, eS_63⟩ : ∃ z, z = (sR S_62 132 o (some a_61)) := ⟨_, rfl⟩
  rw [← eS_63] at hR
  have hw := hw S_63 eS_63
  refine lv_aload_n hx hb dX1_init_185 rfl (lv_at hl 0 rfl) ?_
  refine lv_bipush (v := 40) hx hb dX1_init_186 (by decide) ?_
  obtain ⟨h1, h2, hw⟩ := hw
  refine x_newa (atype := .int) (t := 101) (N' := 40) hx hb rfl (by decide) (by decide) rfl rfl (fun _ => rfl) (hts _ q173) hK hR hS hA dX1_init_188 (by decide) (by decide) (by decide) (by show _ ≤ k; omega) (by show _ ≤ n; omega) (fun a_64 H hf hR hS => ?_)
  have hw := hw a_64 hf
  have hc : (((((((((((((((((((((0 + 1) + 1) + 1) + 1) + 1) + 1) + 1) + 1) + 1) + 1) + 1) + 1) + 1) + 1) + 1) + 1) + 1) + 1) + 1) + 1) + 1) + (((((((((((((((((((((k - 1) - 1) - 1) - 1) - 1) - 1) - 1) - 1) - 1) - 1) - 1) - 1) - 1) - 1) - 1) - 1) - 1) - 1) - 1) - 1) - 1) ≤ k := by omega
  have hs : (((((((((((((((((((((0 + 64) + 64) + 320) + 40) + 36000) + 10) + 10) + 10) + 10) + 10) + 540) + 8) + 8) + 480) + 64) + 360) + 8) + 6) + 8) + 40) + 40) + (((((((((((((((((((((n - 64) - 64) - 320) - 40) - 36000) - 10) - 10) - 10) - 10) - 10) - 540) - 8) - 8) - 480) - 64) - 360) - 8) - 6) - 8) - 40) - 40) ≤ n := by omega
  obtain ⟨S_65, eS_65⟩ : ∃ z, z = (sV S_63 a_64 101 40) := ⟨_, rfl⟩
  rw [← eS_65] at hR
  have hw := hw S_65 eS_65
  refine x_putFR (ci := 1) (C := RX1) (T := TX1) (N := 39) (f := 133) (r := (some a_64)) hx hb hts in_X1 tyX1 tyX1_ok nmX1 hown hK hR hS rfl 33 (by decide) (hts _ q999) (fun _ h => h) rfl hin rfl rfl (by decide) (x_rnA _ _) (x_rfA _ _) dX1_init_190 hw.1 (fun H locs hR hS => ?_)
  have hw := hw.2
  obtain ⟨S_66, eS_66⟩ : ∃ z, z = (sR S_65 133 o (some a_64)) := ⟨_, rfl⟩
  rw [← eS_66] at hR
  have hw := hw S_66 eS_66
  refine lv_aload_n hx hb dX1_init_193 rfl (lv_at hl 0 rfl) ?_
  refine lv_bipush (v := 40) hx hb dX1_init_194 (by decide) ?_
  obtain ⟨h1, h2, hw⟩ := hw
  refine x_newa (atype := .int) (t := 101) (N' := 40) hx hb rfl (by decide) (by decide) rfl rfl (fun _ => rfl) (hts _ q173) hK hR hS hA dX1_init_196 (by decide) (by decide) (by decide) (by show _ ≤ k; omega) (by show _ ≤ n; omega) (fun a_67 H hf hR hS => ?_)
  have hw := hw a_67 hf
  have hc : ((((((((((((((((((((((0 + 1) + 1) + 1) + 1) + 1) + 1) + 1) + 1) + 1) + 1) + 1) + 1) + 1) + 1) + 1) + 1) + 1) + 1) + 1) + 1) + 1) + 1) + ((((((((((((((((((((((k - 1) - 1) - 1) - 1) - 1) - 1) - 1) - 1) - 1) - 1) - 1) - 1) - 1) - 1) - 1) - 1) - 1) - 1) - 1) - 1) - 1) - 1) ≤ k := by omega
  have hs : ((((((((((((((((((((((0 + 64) + 64) + 320) + 40) + 36000) + 10) + 10) + 10) + 10) + 10) + 540) + 8) + 8) + 480) + 64) + 360) + 8) + 6) + 8) + 40) + 40) + 40) + ((((((((((((((((((((((n - 64) - 64) - 320) - 40) - 36000) - 10) - 10) - 10) - 10) - 10) - 540) - 8) - 8) - 480) - 64) - 360) - 8) - 6) - 8) - 40) - 40) - 40) ≤ n := by omega
  obtain ⟨S_68, eS_68⟩ : ∃ z, z = (sV S_66 a_67 101 40) := ⟨_, rfl⟩
  rw [← eS_68] at hR
  have hw := hw S_68 eS_68
  refine x_putFR (ci := 1) (C := RX1) (T := TX1) (N := 39) (f := 134) (r := (some a_67)) hx hb hts in_X1 tyX1 tyX1_ok nmX1 hown hK hR hS rfl 34 (by decide) (hts _ q1000) (fun _ h => h) rfl hin rfl rfl (by decide) (x_rnA _ _) (x_rfA _ _) dX1_init_198 hw.1 (fun H locs hR hS => ?_)
  have hw := hw.2
  obtain ⟨S_69, eS_69⟩ : ∃ z, z = (sR S_68 134 o (some a_67)) := ⟨_, rfl⟩
  rw [← eS_69] at hR
  have hw := hw S_69 eS_69
  refine lv_aload_n hx hb dX1_init_201 rfl (lv_at hl 0 rfl) ?_
  refine lv_bipush (v := 40) hx hb dX1_init_202 (by decide) ?_
  obtain ⟨h1, h2, hw⟩ := hw
  refine x_newa (atype := .boolean) (t := 102) (N' := 40) hx hb rfl (by decide) (by decide) rfl rfl (fun _ => rfl) (hts _ q172) hK hR hS hA dX1_init_204 (by decide) (by decide) (by decide) (by show _ ≤ k; omega) (by show _ ≤ n; omega) (fun a_70 H hf hR hS => ?_)
  have hw := hw a_70 hf
  have hc : (((((((((((((((((((((((0 + 1) + 1) + 1) + 1) + 1) + 1) + 1) + 1) + 1) + 1) + 1) + 1) + 1) + 1) + 1) + 1) + 1) + 1) + 1) + 1) + 1) + 1) + 1) + (((((((((((((((((((((((k - 1) - 1) - 1) - 1) - 1) - 1) - 1) - 1) - 1) - 1) - 1) - 1) - 1) - 1) - 1) - 1) - 1) - 1) - 1) - 1) - 1) - 1) - 1) ≤ k := by omega
  have hs : (((((((((((((((((((((((0 + 64) + 64) + 320) + 40) + 36000) + 10) + 10) + 10) + 10) + 10) + 540) + 8) + 8) + 480) + 64) + 360) + 8) + 6) + 8) + 40) + 40) + 40) + 40) + (((((((((((((((((((((((n - 64) - 64) - 320) - 40) - 36000) - 10) - 10) - 10) - 10) - 10) - 540) - 8) - 8) - 480) - 64) - 360) - 8) - 6) - 8) - 40) - 40) - 40) - 40) ≤ n := by omega
  obtain ⟨S_71, eS_71⟩ : ∃ z, z = (sV S_69 a_70 102 40) := ⟨_, rfl⟩
  rw [← eS_71] at hR
  have hw := hw S_71 eS_71
  refine x_putFR (ci := 1) (C := RX1) (T := TX1) (N := 39) (f := 135) (r := (some a_70)) hx hb hts in_X1 tyX1 tyX1_ok nmX1 hown hK hR hS rfl 35 (by decide) (hts _ q1001) (fun _ h => h) rfl hin rfl rfl (by decide) (x_rnA _ _) (x_rfA _ _) dX1_init_206 hw.1 (fun H locs hR hS => ?_)
  have hw := hw.2
  obtain ⟨S_72, eS_72⟩ : ∃ z, z = (sR S_71 135 o (some a_70)) := ⟨_, rfl⟩
  rw [← eS_72] at hR
  have hw := hw S_72 eS_72
  refine lv_aload_n hx hb dX1_init_209 rfl (lv_at hl 0 rfl) ?_
  refine lv_bipush (v := 40) hx hb dX1_init_210 (by decide) ?_
  obtain ⟨h1, h2, hw⟩ := hw
  refine x_newa (atype := .int) (t := 101) (N' := 40) hx hb rfl (by decide) (by decide) rfl rfl (fun _ => rfl) (hts _ q173) hK hR hS hA dX1_init_212 (by decide) (by decide) (by decide) (by show _ ≤ k; omega) (by show _ ≤ n; omega) (fun a_73 H hf hR hS => ?_)
  have hw := hw a_73 hf
  have hc : ((((((((((((((((((((((((0 + 1) + 1) + 1) + 1) + 1) + 1) + 1) + 1) + 1) + 1) + 1) + 1) + 1) + 1) + 1) + 1) + 1) + 1) + 1) + 1) + 1) + 1) + 1) + 1) + ((((((((((((((((((((((((k - 1) - 1) - 1) - 1) - 1) - 1) - 1) - 1) - 1) - 1) - 1) - 1) - 1) - 1) - 1) - 1) - 1) - 1) - 1) - 1) - 1) - 1) - 1) - 1) ≤ k := by omega
  have hs : ((((((((((((((((((((((((0 + 64) + 64) + 320) + 40) + 36000) + 10) + 10) + 10) + 10) + 10) + 540) + 8) + 8) + 480) + 64) + 360) + 8) + 6) + 8) + 40) + 40) + 40) + 40) + 40) + ((((((((((((((((((((((((n - 64) - 64) - 320) - 40) - 36000) - 10) - 10) - 10) - 10) - 10) - 540) - 8) - 8) - 480) - 64) - 360) - 8) - 6) - 8) - 40) - 40) - 40) - 40) - 40) ≤ n := by omega
  obtain ⟨S_74, eS_74⟩ : ∃ z, z = (sV S_72 a_73 101 40) := ⟨_, rfl⟩
  rw [← eS_74] at hR
  have hw := hw S_74 eS_74
  refine x_putFR (ci := 1) (C := RX1) (T := TX1) (N := 39) (f := 136) (r := (some a_73)) hx hb hts in_X1 tyX1 tyX1_ok nmX1 hown hK hR hS rfl 36 (by decide) (hts _ q1002) (fun _ h => h) rfl hin rfl rfl (by decide) (x_rnA _ _) (x_rfA _ _) dX1_init_214 hw.1 (fun H locs hR hS => ?_)
  have hw := hw.2
  obtain ⟨S_75, eS_75⟩ : ∃ z, z = (sR S_74 136 o (some a_73)) := ⟨_, rfl⟩
  rw [← eS_75] at hR
  have hw := hw S_75 eS_75
  refine lv_aload_n hx hb dX1_init_217 rfl (lv_at hl 0 rfl) ?_
  refine lv_bipush (v := 10) hx hb dX1_init_218 (by decide) ?_
  obtain ⟨h1, h2, hw⟩ := hw
  refine x_newa (atype := .int) (t := 101) (N' := 10) hx hb rfl (by decide) (by decide) rfl rfl (fun _ => rfl) (hts _ q173) hK hR hS hA dX1_init_220 (by decide) (by decide) (by decide) (by show _ ≤ k; omega) (by show _ ≤ n; omega) (fun a_76 H hf hR hS => ?_)
  have hw := hw a_76 hf
  have hc : (((((((((((((((((((((((((0 + 1) + 1) + 1) + 1) + 1) + 1) + 1) + 1) + 1) + 1) + 1) + 1) + 1) + 1) + 1) + 1) + 1) + 1) + 1) + 1) + 1) + 1) + 1) + 1) + 1) + (((((((((((((((((((((((((k - 1) - 1) - 1) - 1) - 1) - 1) - 1) - 1) - 1) - 1) - 1) - 1) - 1) - 1) - 1) - 1) - 1) - 1) - 1) - 1) - 1) - 1) - 1) - 1) - 1) ≤ k := by omega
  have hs : (((((((((((((((((((((((((0 + 64) + 64) + 320) + 40) + 36000) + 10) + 10) + 10) + 10) + 10) + 540) + 8) + 8) + 480) + 64) + 360) + 8) + 6) + 8) + 40) + 40) + 40) + 40) + 40) + 10) + (((((((((((((((((((((((((n - 64) - 64) - 320) - 40) - 36000) - 10) - 10) - 10) - 10) - 10) - 540) - 8) - 8) - 480) - 64) - 360) - 8) - 6) - 8) - 40) - 40) - 40) - 40) - 40) - 10) ≤ n := by omega
  obtain ⟨S_77, eS_77⟩ : ∃ z, z = (sV S_75 a_76 101 10) := ⟨_, rfl⟩
  rw [← eS_77] at hR
  have hw := hw S_77 eS_77
  refine x_putFR (ci := 1) (C := RX1) (T := TX1) (N := 39) (f := 137) (r := (some a_76)) hx hb hts in_X1 tyX1 tyX1_ok nmX1 hown hK hR hS rfl 37 (by decide) (hts _ q1003) (fun _ h => h) rfl hin rfl rfl (by decide) (x_rnA _ _) (x_rfA _ _) dX1_init_222 hw.1 (fun H locs hR hS => ?_)
  have hw := hw.2
  obtain ⟨S_78, eS_78⟩ : ∃ z, z = (sR S_77 137 o (some a_76)) := ⟨_, rfl⟩
  rw [← eS_78] at hR
  have hw := hw S_78 eS_78
  refine lv_aload_n hx hb dX1_init_225 rfl (lv_at hl 0 rfl) ?_
  refine lv_bipush (v := 40) hx hb dX1_init_226 (by decide) ?_
  obtain ⟨h1, h2, hw⟩ := hw
  refine x_newa (atype := .int) (t := 101) (N' := 40) hx hb rfl (by decide) (by decide) rfl rfl (fun _ => rfl) (hts _ q173) hK hR hS hA dX1_init_228 (by decide) (by decide) (by decide) (by show _ ≤ k; omega) (by show _ ≤ n; omega) (fun a_79 H hf hR hS => ?_)
  have hw := hw a_79 hf
  have hc : ((((((((((((((((((((((((((0 + 1) + 1) + 1) + 1) + 1) + 1) + 1) + 1) + 1) + 1) + 1) + 1) + 1) + 1) + 1) + 1) + 1) + 1) + 1) + 1) + 1) + 1) + 1) + 1) + 1) + 1) + ((((((((((((((((((((((((((k - 1) - 1) - 1) - 1) - 1) - 1) - 1) - 1) - 1) - 1) - 1) - 1) - 1) - 1) - 1) - 1) - 1) - 1) - 1) - 1) - 1) - 1) - 1) - 1) - 1) - 1) ≤ k := by omega
  have hs : ((((((((((((((((((((((((((0 + 64) + 64) + 320) + 40) + 36000) + 10) + 10) + 10) + 10) + 10) + 540) + 8) + 8) + 480) + 64) + 360) + 8) + 6) + 8) + 40) + 40) + 40) + 40) + 40) + 10) + 40) + ((((((((((((((((((((((((((n - 64) - 64) - 320) - 40) - 36000) - 10) - 10) - 10) - 10) - 10) - 540) - 8) - 8) - 480) - 64) - 360) - 8) - 6) - 8) - 40) - 40) - 40) - 40) - 40) - 10) - 40) ≤ n := by omega
  obtain ⟨S_80, eS_80⟩ : ∃ z, z = (sV S_78 a_79 101 40) := ⟨_, rfl⟩
  rw [← eS_80] at hR
  have hw := hw S_80 eS_80
  refine x_putFR (ci := 1) (C := RX1) (T := TX1) (N := 39) (f := 138) (r := (some a_79)) hx hb hts in_X1 tyX1 tyX1_ok nmX1 hown hK hR hS rfl 38 (by decide) (hts _ q1004) (fun _ h => h) rfl hin rfl rfl (by decide) (x_rnA _ _) (x_rfA _ _) dX1_init_230 hw.1 (fun H locs hR hS => ?_)
  have hw := hw.2
  obtain ⟨S_81, eS_81⟩ : ∃ z, z = (sR S_80 138 o (some a_79)) := ⟨_, rfl⟩
  rw [← eS_81] at hR
  have hw := hw S_81 eS_81
  refine W.widen (k := k) (n := n) (by omega) (by omega) ?_
  exact x_rv hx hb hr hlocks hR hS dX1_init_233 hw
