set_option maxRecDepth 100000
def w_X1_ticket (M : xM) (x1 : Int32) (x2 : Int32) (x3 : Int32) (Q : Int32 → xM → Prop) : Prop := nm (m1 M 0 0) (fun M_1 : xM => w_X1_noMan M_1 x1 (fun (r_2 : Int32) => wif (r_2 = 0) (w_X1_in M_1 (Int32.toInt64 x2) 1 99 (fun (r_5 : Int32) => wif (r_5 = 0) (Q (-2) M_1) (w_X1_in M_1 (Int32.toInt64 x3) 1 50 (fun (r_8 : Int32) => wif (r_8 = 0) (Q (-2) M_1) (wif ((M1 M_1 31) = 40) (Q (-4) M_1) (vp_in (M1 M_1 31) 40 ∧ nm (m2 M_1 32 (Int32.toNatClampNeg (M1 M_1 31)) x1) (fun M_12 : xM => vp_in (M1 M_12 31) 40 ∧ nm (m2 M_12 33 (Int32.toNatClampNeg (M1 M_12 31)) (x2 * x3)) (fun M_13 : xM => vp_in (M1 M_13 31) 40 ∧ nm (m2 M_13 34 (Int32.toNatClampNeg (M1 M_13 31)) (-9)) (fun M_14 : xM => nm (m1 M_14 31 ((M1 M_14 31) + 1)) (fun M_15 : xM => Q ((M1 M_15 31) - 1) M_15)))))))))) (Q (-1) M_1)))
theorem hd_X1_ticket : yX1_ticket.cls = "PressedMenModel" ∧ yX1_ticket.cls ≠ "java/lang/invoke/MethodHandle" ∧ yX1_ticket.cls ≠ "java/lang/invoke/VarHandle" ∧ (parseMethodDescriptor yX1_ticket.desc).map (fun d => d.parameters.length) = some 3 := by decide +kernel
set_option maxHeartbeats 4000000 in
theorem mt_X1_ticket (l : Launch) {D : va_G} {d : Nat → ClassId} {base : Nat} {mo : Nat} {Aa : Nat → Nat} {M : xM} {S : xH} {x1 : Int32} {x2 : Int32} {x3 : Int32} {Q : Int32 → xM → Prop} (hw : w_X1_ticket M x1 x2 x3 Q) : Met l yX1_ticket (ws_ yX1_ticket cX1_ticket 4 (some FieldType.int)) (x_rm 2 0 0 46) (x_Pc D d base (x_mc d mo Aa M) S [.ref mo, .int x1, .int x2, .int x3]) (xm_Qi D d base mo Aa S (fun r M' => Q r M')) 0 0 (x_A base) := by
  refine x_met (by decide) (Nat.le_of_ble_eq_true rfl) ?_
  intro p e s m below meth c hx hb hml hr hlocks hown hts hz hR hK hin ls hl
  have hown : s.vm.findClass "PressedMenModel" = some m.cls := hown
  have hl : lv_has ls 4 [(0, .ref mo), (1, .int x1), (2, .int x2), (3, .int x3)] := hl
  have hS : va_S (x_A base) s.heap s.heap [] := va_S.rf
  unfold w_X1_ticket at hw
  refine lv_aload_n hx hb dX1_ticket_0 rfl (lv_at hl 0 rfl) ?_
  refine lv_iconst (v := 0) hx hb dX1_ticket_1 (by decide) ?_
  refine xm_putI (M := M) (k := 0) hx hb hts in_X1 hown hK hR hS (by decide) (hts _ q966) rfl rfl rfl rfl dX1_ticket_2 (fun H locs hR hS => ?_)
  obtain ⟨M_1, eM_1⟩ : ∃ z, z = (m1 M 0 0) := ⟨_, rfl⟩
  rw [← eM_1] at hR
  have hw := hw M_1 eM_1
  refine lv_aload_n hx hb dX1_ticket_5 rfl (lv_at hl 0 rfl) ?_
  refine lv_iload_n hx hb dX1_ticket_6 rfl (lv_at hl 1 rfl) ?_
  refine xm_ci (va_runV (As := [.int x1]) (rest := []) ⟨hx, hb, hml, hown, hts⟩ (mt_X1_noMan l hw) (cwV 1 hts (lw_V q1123 q1125 qs38 q65 q1126) rfl rfl rfl hd_X1_noMan ⟨Nat.le_of_ble_eq_true rfl, Nat.le_of_ble_eq_true rfl⟩) ⟨x_Pc_blind, xm_recv hR hK, x_Pc_pre hR hz hS hK⟩ rfl rfl hl.1 rfl (lv_room (Nat.le_of_ble_eq_true rfl)) dX1_ticket_7 ⟨Nat.le_refl _, Nat.le_refl _⟩) hS (fun r_2 M_3 H locs hp hR hS => ?_)
  have hw := hp.2
  rw [hp.1] at hR
  refine lv_if_eq (tgt := 15) hx hb dX1_ticket_10 (by decide) (fun c_4 => ?_) (fun c_4 => ?_)
  · have hw := x_t hw c_4
    refine lv_iload_n hx hb dX1_ticket_15 rfl (lv_at hl 2 rfl) ?_
    refine lv_i2l (v := (Int32.toInt64 x2)) hx hb dX1_ticket_16 rfl ?_
    refine lv_lconst (v := 1) hx hb dX1_ticket_17 (by decide) ?_
    refine lv_ldc2 (v := 99) hx hb hown (hts _ q1402) dX1_ticket_18 ?_
    refine xm_ci (va_runS (As := [.long (Int32.toInt64 x2), .long 1, .long 99]) (rest := []) ⟨hx, hb, hml, hown, hts⟩ (mt_X1_in l hw) (va_cwS 3 hts (lw_S q1089 q1090 q65 q1091) rfl rfl rfl hd_X1_in.2 ⟨Nat.le_of_ble_eq_true rfl, Nat.le_of_ble_eq_true rfl⟩) ⟨x_Pc_blind, x_Pc_pre hR hz hS hK⟩ rfl rfl hl.1 rfl (lv_room (Nat.le_of_ble_eq_true rfl)) dX1_ticket_21 ⟨Nat.le_refl _, Nat.le_refl _⟩) hS (fun r_5 M_6 H locs hp hR hS => ?_)
    have hw := hp.2
    rw [hp.1] at hR
    refine lv_if_eq (tgt := 39) hx hb dX1_ticket_24 (by decide) (fun c_7 => ?_) (fun c_7 => ?_)
    · have hw := x_t hw c_7
      refine lv_bipush (v := (-2)) hx hb dX1_ticket_39 (by decide) ?_
      exact xm_ri hx hb hr hlocks hR hS dX1_ticket_41 hw
    · have hw := x_f hw c_7
      refine lv_iload_n hx hb dX1_ticket_27 rfl (lv_at hl 3 rfl) ?_
      refine lv_i2l (v := (Int32.toInt64 x3)) hx hb dX1_ticket_28 rfl ?_
      refine lv_lconst (v := 1) hx hb dX1_ticket_29 (by decide) ?_
      refine lv_ldc2 (v := 50) hx hb hown (hts _ q1115) dX1_ticket_30 ?_
      refine xm_ci (va_runS (As := [.long (Int32.toInt64 x3), .long 1, .long 50]) (rest := []) ⟨hx, hb, hml, hown, hts⟩ (mt_X1_in l hw) (va_cwS 3 hts (lw_S q1089 q1090 q65 q1091) rfl rfl rfl hd_X1_in.2 ⟨Nat.le_of_ble_eq_true rfl, Nat.le_of_ble_eq_true rfl⟩) ⟨x_Pc_blind, x_Pc_pre hR hz hS hK⟩ rfl rfl hl.1 rfl (lv_room (Nat.le_of_ble_eq_true rfl)) dX1_ticket_33 ⟨Nat.le_refl _, Nat.le_refl _⟩) hS (fun r_8 M_9 H locs hp hR hS => ?_)
      have hw := hp.2
      rw [hp.1] at hR
      refine lv_if_ne (tgt := 42) hx hb dX1_ticket_36 (by decide) (fun c_10 => ?_) (fun c_10 => ?_)
      · have hw := x_f hw c_10
        refine lv_aload_n hx hb dX1_ticket_42 rfl (lv_at hl 0 rfl) ?_
        refine xm_getI (k := 31) hx hb hts in_X1 hown hK hR (by decide) (hts _ q997) rfl dX1_ticket_43 ?_
        refine lv_bipush (v := 40) hx hb dX1_ticket_46 (by decide) ?_
        refine lv_icmp_ne (tgt := 54) hx hb dX1_ticket_48 (by decide) (fun c_11 => ?_) (fun c_11 => ?_)
        · have hw := x_f hw c_11
          refine lv_aload_n hx hb dX1_ticket_54 rfl (lv_at hl 0 rfl) ?_
          refine xm_getA (k := 32) hx hb hts in_X1 hown hK hR (by decide) (hts _ q998) rfl dX1_ticket_55 ?_
          refine lv_aload_n hx hb dX1_ticket_58 rfl (lv_at hl 0 rfl) ?_
          refine xm_getI (k := 31) hx hb hts in_X1 hown hK hR (by decide) (hts _ q997) rfl dX1_ticket_59 ?_
          refine lv_iload_n hx hb dX1_ticket_62 rfl (lv_at hl 1 rfl) ?_
          refine xm_ist (M := M_1) (k := 32) (j := 19) hx hb hK hR hS dX1_ticket_63 rfl hw.1 (fun H locs hR hS => ?_)
          have hw := hw.2
          obtain ⟨M_12, eM_12⟩ : ∃ z, z = (m2 M_1 32 (Int32.toNatClampNeg (M1 M_1 31)) x1) := ⟨_, rfl⟩
          rw [← eM_12] at hR
          have hw := hw M_12 eM_12
          refine lv_aload_n hx hb dX1_ticket_64 rfl (lv_at hl 0 rfl) ?_
          refine xm_getA (k := 33) hx hb hts in_X1 hown hK hR (by decide) (hts _ q999) rfl dX1_ticket_65 ?_
          refine lv_aload_n hx hb dX1_ticket_68 rfl (lv_at hl 0 rfl) ?_
          refine xm_getI (k := 31) hx hb hts in_X1 hown hK hR (by decide) (hts _ q997) rfl dX1_ticket_69 ?_
          refine lv_iload_n hx hb dX1_ticket_72 rfl (lv_at hl 2 rfl) ?_
          refine lv_iload_n hx hb dX1_ticket_73 rfl (lv_at hl 3 rfl) ?_
          refine lv_imul hx hb dX1_ticket_74 ?_
          refine xm_ist (M := M_12) (k := 33) (j := 20) hx hb hK hR hS dX1_ticket_75 rfl hw.1 (fun H locs hR hS => ?_)
          have hw := hw.2
          obtain ⟨M_13, eM_13⟩ : ∃ z, z = (m2 M_12 33 (Int32.toNatClampNeg (M1 M_12 31)) (x2 * x3)) := ⟨_, rfl⟩
          rw [← eM_13] at hR
          have hw := hw M_13 eM_13
          refine lv_aload_n hx hb dX1_ticket_76 rfl (lv_at hl 0 rfl) ?_
          refine xm_getA (k := 34) hx hb hts in_X1 hown hK hR (by decide) (hts _ q1000) rfl dX1_ticket_77 ?_
          refine lv_aload_n hx hb dX1_ticket_80 rfl (lv_at hl 0 rfl) ?_
          refine xm_getI (k := 31) hx hb hts in_X1 hown hK hR (by decide) (hts _ q997) rfl dX1_ticket_81 ?_
          refine lv_bipush (v := (-9)) hx hb dX1_ticket_84 (by decide) ?_
          refine xm_ist (M := M_13) (k := 34) (j := 21) hx hb hK hR hS dX1_ticket_86 rfl hw.1 (fun H locs hR hS => ?_)
          have hw := hw.2
          obtain ⟨M_14, eM_14⟩ : ∃ z, z = (m2 M_13 34 (Int32.toNatClampNeg (M1 M_13 31)) (-9)) := ⟨_, rfl⟩
          rw [← eM_14] at hR
          have hw := hw M_14 eM_14
          refine lv_aload_n hx hb dX1_ticket_87 rfl (lv_at hl 0 rfl) ?_
          refine lv_dup hx hb dX1_ticket_88 rfl ?_
          refine xm_getI (k := 31) hx hb hts in_X1 hown hK hR (by decide) (hts _ q997) rfl dX1_ticket_89 ?_
          refine lv_iconst (v := 1) hx hb dX1_ticket_92 (by decide) ?_
          refine lv_iadd hx hb dX1_ticket_93 ?_
          refine xm_putI (M := M_14) (k := 31) hx hb hts in_X1 hown hK hR hS (by decide) (hts _ q997) rfl rfl rfl rfl dX1_ticket_94 (fun H locs hR hS => ?_)
          obtain ⟨M_15, eM_15⟩ : ∃ z, z = (m1 M_14 31 ((M1 M_14 31) + 1)) := ⟨_, rfl⟩
          rw [← eM_15] at hR
          have hw := hw M_15 eM_15
          refine lv_aload_n hx hb dX1_ticket_97 rfl (lv_at hl 0 rfl) ?_
          refine xm_getI (k := 31) hx hb hts in_X1 hown hK hR (by decide) (hts _ q997) rfl dX1_ticket_98 ?_
          refine lv_iconst (v := 1) hx hb dX1_ticket_101 (by decide) ?_
          refine lv_isub hx hb dX1_ticket_102 ?_
          exact xm_ri hx hb hr hlocks hR hS dX1_ticket_103 hw
        · have hw := x_t hw c_11
          refine lv_bipush (v := (-4)) hx hb dX1_ticket_51 (by decide) ?_
          exact xm_ri hx hb hr hlocks hR hS dX1_ticket_53 hw
      · have hw := x_t hw c_10
        refine lv_bipush (v := (-2)) hx hb dX1_ticket_39 (by decide) ?_
        exact xm_ri hx hb hr hlocks hR hS dX1_ticket_41 hw
  · have hw := x_f hw c_4
    refine lv_iconst (v := (-1)) hx hb dX1_ticket_13 (by decide) ?_
    exact xm_ri hx hb hr hlocks hR hS dX1_ticket_14 hw
def w_X1_noTicket (M : xM) (x1 : Int32) (Q : Int32 → Prop) : Prop := w_X1_in M (Int32.toInt64 x1) 0 (Int32.toInt64 ((M1 M 31) - 1)) (fun (r_1 : Int32) => wif (r_1 = 0) (Q 1) (Q 0))
theorem hd_X1_noTicket : yX1_noTicket.cls = "PressedMenModel" ∧ yX1_noTicket.cls ≠ "java/lang/invoke/MethodHandle" ∧ yX1_noTicket.cls ≠ "java/lang/invoke/VarHandle" ∧ (parseMethodDescriptor yX1_noTicket.desc).map (fun d => d.parameters.length) = some 1 := by decide +kernel
set_option maxHeartbeats 4000000 in
theorem mt_X1_noTicket (l : Launch) {D : va_G} {d : Nat → ClassId} {base : Nat} {mo : Nat} {Aa : Nat → Nat} {M : xM} {S : xH} {x1 : Int32} {Q : Int32 → Prop} (hw : w_X1_noTicket M x1 Q) : Met l yX1_noTicket (ws_ yX1_noTicket cX1_noTicket 2 (some FieldType.boolean)) (x_rm 1 0 0 25) (x_Pc D d base (x_mc d mo Aa M) S [.ref mo, .int x1]) (xm_Qi D d base mo Aa S (fun r M' => M' = M ∧ Q r)) 0 0 (x_A base) := by
  refine x_met (by decide) (Nat.le_of_ble_eq_true rfl) ?_
  intro p e s m below meth c hx hb hml hr hlocks hown hts hz hR hK hin ls hl
  have hown : s.vm.findClass "PressedMenModel" = some m.cls := hown
  have hl : lv_has ls 2 [(0, .ref mo), (1, .int x1)] := hl
  have hS : va_S (x_A base) s.heap s.heap [] := va_S.rf
  unfold w_X1_noTicket at hw
  refine lv_iload_n hx hb dX1_noTicket_0 rfl (lv_at hl 1 rfl) ?_
  refine lv_i2l (v := (Int32.toInt64 x1)) hx hb dX1_noTicket_1 rfl ?_
  refine lv_lconst (v := 0) hx hb dX1_noTicket_2 (by decide) ?_
  refine lv_aload_n hx hb dX1_noTicket_3 rfl (lv_at hl 0 rfl) ?_
  refine xm_getI (k := 31) hx hb hts in_X1 hown hK hR (by decide) (hts _ q997) rfl dX1_noTicket_4 ?_
  refine lv_iconst (v := 1) hx hb dX1_noTicket_7 (by decide) ?_
  refine lv_isub hx hb dX1_noTicket_8 ?_
  refine lv_i2l (v := (Int32.toInt64 ((M1 M 31) - 1))) hx hb dX1_noTicket_9 rfl ?_
  refine xm_ci (va_runS (As := [.long (Int32.toInt64 x1), .long 0, .long (Int32.toInt64 ((M1 M 31) - 1))]) (rest := []) ⟨hx, hb, hml, hown, hts⟩ (mt_X1_in l hw) (va_cwS 3 hts (lw_S q1089 q1090 q65 q1091) rfl rfl rfl hd_X1_in.2 ⟨Nat.le_of_ble_eq_true rfl, Nat.le_of_ble_eq_true rfl⟩) ⟨x_Pc_blind, x_Pc_pre hR hz hS hK⟩ rfl rfl hl.1 rfl (lv_room (Nat.le_of_ble_eq_true rfl)) dX1_noTicket_10 ⟨Nat.le_refl _, Nat.le_refl _⟩) hS (fun r_1 M_2 H locs hp hR hS => ?_)
  have hw := hp.2
  rw [hp.1] at hR
  refine lv_if_ne (tgt := 20) hx hb dX1_noTicket_13 (by decide) (fun c_3 => ?_) (fun c_3 => ?_)
  · have hw := x_f hw c_3
    refine lv_iconst (v := 0) hx hb dX1_noTicket_20 (by decide) ?_
    exact xm_rz hx hb hr hlocks hR hS dX1_noTicket_21 (Or.inl rfl) ⟨rfl, hw⟩
  · have hw := x_t hw c_3
    refine lv_iconst (v := 1) hx hb dX1_noTicket_16 (by decide) ?_
    refine lv_goto (tgt := 21) hx hb dX1_noTicket_17 (by decide) ?_
    exact xm_rz hx hb hr hlocks hR hS dX1_noTicket_21 (Or.inr rfl) ⟨rfl, hw⟩
def w_X1_noHolder (M : xM) (x0 : Int32) (Q : Int32 → Prop) : Prop := w_X1_in M (Int32.toInt64 x0) 0 9 (fun (r_1 : Int32) => wif (r_1 = 0) (Q 1) (Q 0))
theorem hd_X1_noHolder : yX1_noHolder.cls = "PressedMenModel" ∧ yX1_noHolder.cls ≠ "java/lang/invoke/MethodHandle" ∧ yX1_noHolder.cls ≠ "java/lang/invoke/VarHandle" ∧ (parseMethodDescriptor yX1_noHolder.desc).map (fun d => d.parameters.length) = some 1 := by decide +kernel
set_option maxHeartbeats 4000000 in
theorem mt_X1_noHolder (l : Launch) {D : va_G} {d : Nat → ClassId} {base : Nat} {mo : Nat} {Aa : Nat → Nat} {M : xM} {S : xH} {x0 : Int32} {Q : Int32 → Prop} (hw : w_X1_noHolder M x0 Q) : Met l yX1_noHolder (ws_ yX1_noHolder cX1_noHolder 1 (some FieldType.boolean)) (x_rm 1 0 0 25) (x_Pc D d base (x_mc d mo Aa M) S [.int x0]) (xm_Qi D d base mo Aa S (fun r M' => M' = M ∧ Q r)) 0 0 (x_A base) := by
  refine x_met (by decide) (Nat.le_of_ble_eq_true rfl) ?_
  intro p e s m below meth c hx hb hml hr hlocks hown hts hz hR hK hin ls hl
  have hown : s.vm.findClass "PressedMenModel" = some m.cls := hown
  have hl : lv_has ls 1 [(0, .int x0)] := hl
  have hS : va_S (x_A base) s.heap s.heap [] := va_S.rf
  unfold w_X1_noHolder at hw
  refine lv_iload_n hx hb dX1_noHolder_0 rfl (lv_at hl 0 rfl) ?_
  refine lv_i2l (v := (Int32.toInt64 x0)) hx hb dX1_noHolder_1 rfl ?_
  refine lv_lconst (v := 0) hx hb dX1_noHolder_2 (by decide) ?_
  refine lv_ldc2 (v := 9) hx hb hown (hts _ q1414) dX1_noHolder_3 ?_
  refine xm_ci (va_runS (As := [.long (Int32.toInt64 x0), .long 0, .long 9]) (rest := []) ⟨hx, hb, hml, hown, hts⟩ (mt_X1_in l hw) (va_cwS 3 hts (lw_S q1089 q1090 q65 q1091) rfl rfl rfl hd_X1_in.2 ⟨Nat.le_of_ble_eq_true rfl, Nat.le_of_ble_eq_true rfl⟩) ⟨x_Pc_blind, x_Pc_pre hR hz hS hK⟩ rfl rfl hl.1 rfl (lv_room (Nat.le_of_ble_eq_true rfl)) dX1_noHolder_6 ⟨Nat.le_refl _, Nat.le_refl _⟩) hS (fun r_1 M_2 H locs hp hR hS => ?_)
  have hw := hp.2
  rw [hp.1] at hR
  refine lv_if_ne (tgt := 16) hx hb dX1_noHolder_9 (by decide) (fun c_3 => ?_) (fun c_3 => ?_)
  · have hw := x_f hw c_3
    refine lv_iconst (v := 0) hx hb dX1_noHolder_16 (by decide) ?_
    exact xm_rz hx hb hr hlocks hR hS dX1_noHolder_17 (Or.inl rfl) ⟨rfl, hw⟩
  · have hw := x_t hw c_3
    refine lv_iconst (v := 1) hx hb dX1_noHolder_12 (by decide) ?_
    refine lv_goto (tgt := 17) hx hb dX1_noHolder_13 (by decide) ?_
    exact xm_rz hx hb hr hlocks hR hS dX1_noHolder_17 (Or.inr rfl) ⟨rfl, hw⟩
def w_X1_give (M : xM) (x1 : Int32) (x2 : Int32) (x3 : Int32) (Q : xM → Prop) : Prop := wif (x2 = (-9)) (vp_in x1 40 ∧ vp_in (M2 M 32 (Int32.toNatClampNeg x1)) 40 ∧ vp_in (M2 M 32 (Int32.toNatClampNeg x1)) 40 ∧ nm (m2 M 38 (Int32.toNatClampNeg (M2 M 32 (Int32.toNatClampNeg x1))) ((M2 M 38 (Int32.toNatClampNeg (M2 M 32 (Int32.toNatClampNeg x1)))) + x3)) (fun M_3 : xM => Q M_3)) (vp_in x2 10 ∧ vp_in x2 10 ∧ nm (m2 M 37 (Int32.toNatClampNeg x2) ((M2 M 37 (Int32.toNatClampNeg x2)) + x3)) (fun M_2 : xM => Q M_2))
theorem hd_X1_give : yX1_give.cls = "PressedMenModel" ∧ yX1_give.cls ≠ "java/lang/invoke/MethodHandle" ∧ yX1_give.cls ≠ "java/lang/invoke/VarHandle" ∧ (parseMethodDescriptor yX1_give.desc).map (fun d => d.parameters.length) = some 3 := by decide +kernel
set_option maxHeartbeats 4000000 in
theorem mt_X1_give (l : Launch) {D : va_G} {d : Nat → ClassId} {base : Nat} {mo : Nat} {Aa : Nat → Nat} {M : xM} {S : xH} {x1 : Int32} {x2 : Int32} {x3 : Int32} {Q : xM → Prop} (hw : w_X1_give M x1 x2 x3 Q) : Met l yX1_give (ws_ yX1_give cX1_give 4 none) (x_rm 0 0 0 0) (x_Pc D d base (x_mc d mo Aa M) S [.ref mo, .int x1, .int x2, .int x3]) (xm_Qv D d base mo Aa S (fun M' => Q M')) 0 0 (x_A base) := by
  refine x_met (by decide) (Nat.le_of_ble_eq_true rfl) ?_
  intro p e s m below meth c hx hb hml hr hlocks hown hts hz hR hK hin ls hl
  have hown : s.vm.findClass "PressedMenModel" = some m.cls := hown
  have hl : lv_has ls 4 [(0, .ref mo), (1, .int x1), (2, .int x2), (3, .int x3)] := hl
  have hS : va_S (x_A base) s.heap s.heap [] := va_S.rf
  unfold w_X1_give at hw
  refine lv_iload_n hx hb dX1_give_0 rfl (lv_at hl 2 rfl) ?_
  refine lv_bipush (v := (-9)) hx hb dX1_give_1 (by decide) ?_
  refine lv_icmp_ne (tgt := 24) hx hb dX1_give_3 (by decide) (fun c_1 => ?_) (fun c_1 => ?_)
  · have hw := x_f hw c_1
    refine lv_aload_n hx hb dX1_give_24 rfl (lv_at hl 0 rfl) ?_
    refine xm_getA (k := 37) hx hb hts in_X1 hown hK hR (by decide) (hts _ q1003) rfl dX1_give_25 ?_
    refine lv_iload_n hx hb dX1_give_28 rfl (lv_at hl 2 rfl) ?_
    refine lv_dup2_11 hx hb dX1_give_29 rfl rfl ?_
    refine xm_ild (M := M) (k := 37) (j := 24) hx hb hK hR dX1_give_30 rfl hw.1 ?_
    have hw := hw.2
    refine lv_iload_n hx hb dX1_give_31 rfl (lv_at hl 3 rfl) ?_
    refine lv_iadd hx hb dX1_give_32 ?_
    refine xm_ist (M := M) (k := 37) (j := 24) hx hb hK hR hS dX1_give_33 rfl hw.1 (fun H locs hR hS => ?_)
    have hw := hw.2
    obtain ⟨M_2, eM_2⟩ : ∃ z, z = (m2 M 37 (Int32.toNatClampNeg x2) ((M2 M 37 (Int32.toNatClampNeg x2)) + x3)) := ⟨_, rfl⟩
    rw [← eM_2] at hR
    have hw := hw M_2 eM_2
    exact xm_rv hx hb hr hlocks hR hS dX1_give_34 hw
  · have hw := x_t hw c_1
    refine lv_aload_n hx hb dX1_give_6 rfl (lv_at hl 0 rfl) ?_
    refine xm_getA (k := 38) hx hb hts in_X1 hown hK hR (by decide) (hts _ q1004) rfl dX1_give_7 ?_
    refine lv_aload_n hx hb dX1_give_10 rfl (lv_at hl 0 rfl) ?_
    refine xm_getA (k := 32) hx hb hts in_X1 hown hK hR (by decide) (hts _ q998) rfl dX1_give_11 ?_
    refine lv_iload_n hx hb dX1_give_14 rfl (lv_at hl 1 rfl) ?_
    refine xm_ild (M := M) (k := 32) (j := 19) hx hb hK hR dX1_give_15 rfl hw.1 ?_
    have hw := hw.2
    refine lv_dup2_11 hx hb dX1_give_16 rfl rfl ?_
    refine xm_ild (M := M) (k := 38) (j := 25) hx hb hK hR dX1_give_17 rfl hw.1 ?_
    have hw := hw.2
    refine lv_iload_n hx hb dX1_give_18 rfl (lv_at hl 3 rfl) ?_
    refine lv_iadd hx hb dX1_give_19 ?_
    refine xm_ist (M := M) (k := 38) (j := 25) hx hb hK hR hS dX1_give_20 rfl hw.1 (fun H locs hR hS => ?_)
    have hw := hw.2
    obtain ⟨M_3, eM_3⟩ : ∃ z, z = (m2 M 38 (Int32.toNatClampNeg (M2 M 32 (Int32.toNatClampNeg x1))) ((M2 M 38 (Int32.toNatClampNeg (M2 M 32 (Int32.toNatClampNeg x1)))) + x3)) := ⟨_, rfl⟩
    rw [← eM_3] at hR
    have hw := hw M_3 eM_3
    refine lv_goto (tgt := 34) hx hb dX1_give_21 (by decide) ?_
    exact xm_rv hx hb hr hlocks hR hS dX1_give_34 hw
def w_X1_sell (M : xM) (x1 : Int32) (x2 : Int32) (x3 : Int32) (Q : Int32 → xM → Prop) : Prop := nm (m1 M 0 0) (fun M_1 : xM => w_X1_noTicket M_1 x1 (fun (r_2 : Int32) => wif (r_2 = 0) (w_X1_noHolder M_1 x2 (fun (r_5 : Int32) => wif (r_5 = 0) (w_X1_in M_1 (Int32.toInt64 x3) 1 100 (fun (r_8 : Int32) => wif (r_8 = 0) (Q (-2) M_1) (vp_in x1 40 ∧ wif ((M2 M_1 35 (Int32.toNatClampNeg x1)) = 0) (vp_in x1 40 ∧ wif ((M2 M_1 34 (Int32.toNatClampNeg x1)) = x2) (Q (-3) M_1) (vp_in x1 40 ∧ nm (((M2 M_1 33 (Int32.toNatClampNeg x1)) * x3) / 100) (fun x4_13 : Int32 => vp_in x1 40 ∧ w_X1_give M_1 x1 (M2 M_1 34 (Int32.toNatClampNeg x1)) x4_13 (fun (M_14 : xM) => w_X1_give M_14 x1 x2 (-x4_13) (fun (M_15 : xM) => vp_in x1 40 ∧ nm (m2 M_15 34 (Int32.toNatClampNeg x1) x2) (fun M_16 : xM => Q x4_13 M_16)))))) (Q (-3) M_1)))) (Q (-1) M_1))) (Q (-1) M_1)))
theorem hd_X1_sell : yX1_sell.cls = "PressedMenModel" ∧ yX1_sell.cls ≠ "java/lang/invoke/MethodHandle" ∧ yX1_sell.cls ≠ "java/lang/invoke/VarHandle" ∧ (parseMethodDescriptor yX1_sell.desc).map (fun d => d.parameters.length) = some 3 := by decide +kernel
set_option maxHeartbeats 4000000 in
theorem mt_X1_sell (l : Launch) {D : va_G} {d : Nat → ClassId} {base : Nat} {mo : Nat} {Aa : Nat → Nat} {M : xM} {S : xH} {x1 : Int32} {x2 : Int32} {x3 : Int32} {Q : Int32 → xM → Prop} (hw : w_X1_sell M x1 x2 x3 Q) : Met l yX1_sell (ws_ yX1_sell cX1_sell 5 (some FieldType.int)) (x_rm 2 0 0 46) (x_Pc D d base (x_mc d mo Aa M) S [.ref mo, .int x1, .int x2, .int x3]) (xm_Qi D d base mo Aa S (fun r M' => Q r M')) 0 0 (x_A base) := by
  refine x_met (by decide) (Nat.le_of_ble_eq_true rfl) ?_
  intro p e s m below meth c hx hb hml hr hlocks hown hts hz hR hK hin ls hl
  have hown : s.vm.findClass "PressedMenModel" = some m.cls := hown
  have hl : lv_has ls 5 [(0, .ref mo), (1, .int x1), (2, .int x2), (3, .int x3)] := hl
  have hS : va_S (x_A base) s.heap s.heap [] := va_S.rf
  unfold w_X1_sell at hw
  refine lv_aload_n hx hb dX1_sell_0 rfl (lv_at hl 0 rfl) ?_
  refine lv_iconst (v := 0) hx hb dX1_sell_1 (by decide) ?_
  refine xm_putI (M := M) (k := 0) hx hb hts in_X1 hown hK hR hS (by decide) (hts _ q966) rfl rfl rfl rfl dX1_sell_2 (fun H locs hR hS => ?_)
  obtain ⟨M_1, eM_1⟩ : ∃ z, z = (m1 M 0 0) := ⟨_, rfl⟩
  rw [← eM_1] at hR
  have hw := hw M_1 eM_1
  refine lv_aload_n hx hb dX1_sell_5 rfl (lv_at hl 0 rfl) ?_
  refine lv_iload_n hx hb dX1_sell_6 rfl (lv_at hl 1 rfl) ?_
  refine xm_ci (va_runV (As := [.int x1]) (rest := []) ⟨hx, hb, hml, hown, hts⟩ (mt_X1_noTicket l hw) (cwV 1 hts (lw_V q1407 q1409 qs61 q65 q1410) rfl rfl rfl hd_X1_noTicket ⟨Nat.le_of_ble_eq_true rfl, Nat.le_of_ble_eq_true rfl⟩) ⟨x_Pc_blind, xm_recv hR hK, x_Pc_pre hR hz hS hK⟩ rfl rfl hl.1 rfl (lv_room (Nat.le_of_ble_eq_true rfl)) dX1_sell_7 ⟨Nat.le_refl _, Nat.le_refl _⟩) hS (fun r_2 M_3 H locs hp hR hS => ?_)
  have hw := hp.2
  rw [hp.1] at hR
  refine lv_if_ne (tgt := 20) hx hb dX1_sell_10 (by decide) (fun c_4 => ?_) (fun c_4 => ?_)
  · have hw := x_f hw c_4
    refine lv_iconst (v := (-1)) hx hb dX1_sell_20 (by decide) ?_
    exact xm_ri hx hb hr hlocks hR hS dX1_sell_21 hw
  · have hw := x_t hw c_4
    refine lv_iload_n hx hb dX1_sell_13 rfl (lv_at hl 2 rfl) ?_
    refine xm_ci (va_runS (As := [.int x2]) (rest := []) ⟨hx, hb, hml, hown, hts⟩ (mt_X1_noHolder l hw) (va_cwS 1 hts (lw_S q1411 q1412 q65 q1413) rfl rfl rfl hd_X1_noHolder.2 ⟨Nat.le_of_ble_eq_true rfl, Nat.le_of_ble_eq_true rfl⟩) ⟨x_Pc_blind, x_Pc_pre hR hz hS hK⟩ rfl rfl hl.1 rfl (lv_room (Nat.le_of_ble_eq_true rfl)) dX1_sell_14 ⟨Nat.le_refl _, Nat.le_refl _⟩) hS (fun r_5 M_6 H locs hp hR hS => ?_)
    have hw := hp.2
    rw [hp.1] at hR
    refine lv_if_eq (tgt := 22) hx hb dX1_sell_17 (by decide) (fun c_7 => ?_) (fun c_7 => ?_)
    · have hw := x_t hw c_7
      refine lv_iload_n hx hb dX1_sell_22 rfl (lv_at hl 3 rfl) ?_
      refine lv_i2l (v := (Int32.toInt64 x3)) hx hb dX1_sell_23 rfl ?_
      refine lv_lconst (v := 1) hx hb dX1_sell_24 (by decide) ?_
      refine lv_ldc2 (v := 100) hx hb hown (hts _ q1314) dX1_sell_25 ?_
      refine xm_ci (va_runS (As := [.long (Int32.toInt64 x3), .long 1, .long 100]) (rest := []) ⟨hx, hb, hml, hown, hts⟩ (mt_X1_in l hw) (va_cwS 3 hts (lw_S q1089 q1090 q65 q1091) rfl rfl rfl hd_X1_in.2 ⟨Nat.le_of_ble_eq_true rfl, Nat.le_of_ble_eq_true rfl⟩) ⟨x_Pc_blind, x_Pc_pre hR hz hS hK⟩ rfl rfl hl.1 rfl (lv_room (Nat.le_of_ble_eq_true rfl)) dX1_sell_28 ⟨Nat.le_refl _, Nat.le_refl _⟩) hS (fun r_8 M_9 H locs hp hR hS => ?_)
      have hw := hp.2
      rw [hp.1] at hR
      refine lv_if_ne (tgt := 37) hx hb dX1_sell_31 (by decide) (fun c_10 => ?_) (fun c_10 => ?_)
      · have hw := x_f hw c_10
        refine lv_aload_n hx hb dX1_sell_37 rfl (lv_at hl 0 rfl) ?_
        refine xm_getA (k := 35) hx hb hts in_X1 hown hK hR (by decide) (hts _ q1001) rfl dX1_sell_38 ?_
        refine lv_iload_n hx hb dX1_sell_41 rfl (lv_at hl 1 rfl) ?_
        refine xm_zld (M := M_1) (k := 35) (j := 22) hx hb hK hR dX1_sell_42 rfl hw.1 ?_
        have hw := hw.2
        refine lv_if_ne (tgt := 56) hx hb dX1_sell_43 (by decide) (fun c_11 => ?_) (fun c_11 => ?_)
        · have hw := x_f hw c_11
          refine lv_bipush (v := (-3)) hx hb dX1_sell_56 (by decide) ?_
          exact xm_ri hx hb hr hlocks hR hS dX1_sell_58 hw
        · have hw := x_t hw c_11
          refine lv_aload_n hx hb dX1_sell_46 rfl (lv_at hl 0 rfl) ?_
          refine xm_getA (k := 34) hx hb hts in_X1 hown hK hR (by decide) (hts _ q1000) rfl dX1_sell_47 ?_
          refine lv_iload_n hx hb dX1_sell_50 rfl (lv_at hl 1 rfl) ?_
          refine xm_ild (M := M_1) (k := 34) (j := 21) hx hb hK hR dX1_sell_51 rfl hw.1 ?_
          have hw := hw.2
          refine lv_iload_n hx hb dX1_sell_52 rfl (lv_at hl 2 rfl) ?_
          refine lv_icmp_ne (tgt := 59) hx hb dX1_sell_53 (by decide) (fun c_12 => ?_) (fun c_12 => ?_)
          · have hw := x_f hw c_12
            refine lv_aload_n hx hb dX1_sell_59 rfl (lv_at hl 0 rfl) ?_
            refine xm_getA (k := 33) hx hb hts in_X1 hown hK hR (by decide) (hts _ q999) rfl dX1_sell_60 ?_
            refine lv_iload_n hx hb dX1_sell_63 rfl (lv_at hl 1 rfl) ?_
            refine xm_ild (M := M_1) (k := 33) (j := 20) hx hb hK hR dX1_sell_64 rfl hw.1 ?_
            have hw := hw.2
            refine lv_iload_n hx hb dX1_sell_65 rfl (lv_at hl 3 rfl) ?_
            refine lv_imul hx hb dX1_sell_66 ?_
            refine lv_bipush (v := 100) hx hb dX1_sell_67 (by decide) ?_
            refine lv_idiv hx hb dX1_sell_69 (by decide) ?_
            refine lv_topi (fun x4_13 ex4_13 => ?_)
            have hw := hw x4_13 ex4_13
            refine lv_istore (lv' := [(4, .int x4_13), (0, .ref mo), (1, .int x1), (2, .int x2), (3, .int x3)]) hx hb dX1_sell_70 hl (by decide) rfl (fun ls hl => ?_)
            refine lv_aload_n hx hb dX1_sell_72 rfl (lv_at hl 1 rfl) ?_
            refine lv_iload_n hx hb dX1_sell_73 rfl (lv_at hl 2 rfl) ?_
            refine lv_aload_n hx hb dX1_sell_74 rfl (lv_at hl 1 rfl) ?_
            refine xm_getA (k := 34) hx hb hts in_X1 hown hK hR (by decide) (hts _ q1000) rfl dX1_sell_75 ?_
            refine lv_iload_n hx hb dX1_sell_78 rfl (lv_at hl 2 rfl) ?_
            refine xm_ild (M := M_1) (k := 34) (j := 21) hx hb hK hR dX1_sell_79 rfl hw.1 ?_
            have hw := hw.2
            refine lv_iload hx hb dX1_sell_80 (lv_at hl 0 rfl) ?_
            refine xm_cv (va_runV (As := [.int x1, .int (M2 M_1 34 (Int32.toNatClampNeg x1)), .int x4_13]) (rest := []) ⟨hx, hb, hml, hown, hts⟩ (mt_X1_give l hw) (cwV 3 hts (lw_V q1415 q1417 qs62 q65 q1418) rfl rfl rfl hd_X1_give ⟨Nat.le_of_ble_eq_true rfl, Nat.le_of_ble_eq_true rfl⟩) ⟨x_Pc_blind, xm_recv hR hK, x_Pc_pre hR hz hS hK⟩ rfl rfl hl.1 rfl (lv_room (Nat.le_of_ble_eq_true rfl)) dX1_sell_82 ⟨Nat.le_refl _, Nat.le_refl _⟩) hS (fun M_14 H locs hp hR hS => ?_)
            have hw := hp
            refine lv_aload_n hx hb dX1_sell_85 rfl (lv_at hl 1 rfl) ?_
            refine lv_iload_n hx hb dX1_sell_86 rfl (lv_at hl 2 rfl) ?_
            refine lv_iload_n hx hb dX1_sell_87 rfl (lv_at hl 3 rfl) ?_
            refine lv_iload hx hb dX1_sell_88 (lv_at hl 0 rfl) ?_
            refine lv_ineg hx hb dX1_sell_90 ?_
            refine xm_cv (va_runV (As := [.int x1, .int x2, .int (-x4_13)]) (rest := []) ⟨hx, hb, hml, hown, hts⟩ (mt_X1_give l hw) (cwV 3 hts (lw_V q1415 q1417 qs62 q65 q1418) rfl rfl rfl hd_X1_give ⟨Nat.le_of_ble_eq_true rfl, Nat.le_of_ble_eq_true rfl⟩) ⟨x_Pc_blind, xm_recv hR hK, x_Pc_pre hR hz hS hK⟩ rfl rfl hl.1 rfl (lv_room (Nat.le_of_ble_eq_true rfl)) dX1_sell_91 ⟨Nat.le_refl _, Nat.le_refl _⟩) hS (fun M_15 H locs hp hR hS => ?_)
            have hw := hp
            refine lv_aload_n hx hb dX1_sell_94 rfl (lv_at hl 1 rfl) ?_
            refine xm_getA (k := 34) hx hb hts in_X1 hown hK hR (by decide) (hts _ q1000) rfl dX1_sell_95 ?_
            refine lv_iload_n hx hb dX1_sell_98 rfl (lv_at hl 2 rfl) ?_
            refine lv_iload_n hx hb dX1_sell_99 rfl (lv_at hl 3 rfl) ?_
            refine xm_ist (M := M_15) (k := 34) (j := 21) hx hb hK hR hS dX1_sell_100 rfl hw.1 (fun H locs hR hS => ?_)
            have hw := hw.2
            obtain ⟨M_16, eM_16⟩ : ∃ z, z = (m2 M_15 34 (Int32.toNatClampNeg x1) x2) := ⟨_, rfl⟩
            rw [← eM_16] at hR
            have hw := hw M_16 eM_16
            refine lv_iload hx hb dX1_sell_101 (lv_at hl 0 rfl) ?_
            exact xm_ri hx hb hr hlocks hR hS dX1_sell_103 hw
          · have hw := x_t hw c_12
            refine lv_bipush (v := (-3)) hx hb dX1_sell_56 (by decide) ?_
            exact xm_ri hx hb hr hlocks hR hS dX1_sell_58 hw
      · have hw := x_t hw c_10
        refine lv_bipush (v := (-2)) hx hb dX1_sell_34 (by decide) ?_
        exact xm_ri hx hb hr hlocks hR hS dX1_sell_36 hw
    · have hw := x_f hw c_7
      refine lv_iconst (v := (-1)) hx hb dX1_sell_20 (by decide) ?_
      exact xm_ri hx hb hr hlocks hR hS dX1_sell_21 hw
def w_X1_pay (M : xM) (x1 : Int32) (x2 : Int32) (Q : Int32 → xM → Prop) : Prop := nm (m1 M 0 0) (fun M_1 : xM => w_X1_noTicket M_1 x1 (fun (r_2 : Int32) => wif (r_2 = 0) (jn0 (vp_in x1 40 ∧ jn (fun (M_6 : xM) => vp_in x1 40 ∧ w_X1_give M_6 x1 x2 (M2 M_6 33 (Int32.toNatClampNeg x1)) (fun (M_8 : xM) => vp_in x1 40 ∧ Q (M2 M_8 33 (Int32.toNatClampNeg x1)) M_8)) (fun J_7 => jn0 (vp_in x1 40 ∧ vp_in x1 40 ∧ nm (m2 M_1 36 (Int32.toNatClampNeg x1) ((M2 M_1 36 (Int32.toNatClampNeg x1)) + 1)) (fun M_10 : xM => J_7 M_10)) (fun J_9 => wif ((M2 M_1 35 (Int32.toNatClampNeg x1)) = 0) (vp_in x1 40 ∧ wif ((M2 M_1 34 (Int32.toNatClampNeg x1)) = x2) (vp_in x1 40 ∧ nm (m2 M_1 35 (Int32.toNatClampNeg x1) 1) (fun M_13 : xM => J_7 M_13)) (J_9)) (J_9)))) (fun J_5 => wif (x2 = (-9)) (J_5) (w_X1_noHolder M_1 x2 (fun (r_15 : Int32) => wif (r_15 = 0) (J_5) (Q (-1) M_1))))) (Q (-1) M_1)))
theorem hd_X1_pay : yX1_pay.cls = "PressedMenModel" ∧ yX1_pay.cls ≠ "java/lang/invoke/MethodHandle" ∧ yX1_pay.cls ≠ "java/lang/invoke/VarHandle" ∧ (parseMethodDescriptor yX1_pay.desc).map (fun d => d.parameters.length) = some 2 := by decide +kernel
set_option maxHeartbeats 4000000 in
theorem mt_X1_pay (l : Launch) {D : va_G} {d : Nat → ClassId} {base : Nat} {mo : Nat} {Aa : Nat → Nat} {M : xM} {S : xH} {x1 : Int32} {x2 : Int32} {Q : Int32 → xM → Prop} (hw : w_X1_pay M x1 x2 Q) : Met l yX1_pay (ws_ yX1_pay cX1_pay 3 (some FieldType.int)) (x_rm 2 0 0 46) (x_Pc D d base (x_mc d mo Aa M) S [.ref mo, .int x1, .int x2]) (xm_Qi D d base mo Aa S (fun r M' => Q r M')) 0 0 (x_A base) := by
  refine x_met (by decide) (Nat.le_of_ble_eq_true rfl) ?_
  intro p e s m below meth c hx hb hml hr hlocks hown hts hz hR hK hin ls hl
  have hown : s.vm.findClass "PressedMenModel" = some m.cls := hown
  have hl : lv_has ls 3 [(0, .ref mo), (1, .int x1), (2, .int x2)] := hl
  have hS : va_S (x_A base) s.heap s.heap [] := va_S.rf
  unfold w_X1_pay at hw
  refine lv_aload_n hx hb dX1_pay_0 rfl (lv_at hl 0 rfl) ?_
  refine lv_iconst (v := 0) hx hb dX1_pay_1 (by decide) ?_
  refine xm_putI (M := M) (k := 0) hx hb hts in_X1 hown hK hR hS (by decide) (hts _ q966) rfl rfl rfl rfl dX1_pay_2 (fun H locs hR hS => ?_)
  obtain ⟨M_1, eM_1⟩ : ∃ z, z = (m1 M 0 0) := ⟨_, rfl⟩
  rw [← eM_1] at hR
  have hw := hw M_1 eM_1
  refine lv_aload_n hx hb dX1_pay_5 rfl (lv_at hl 0 rfl) ?_
  refine lv_iload_n hx hb dX1_pay_6 rfl (lv_at hl 1 rfl) ?_
  refine xm_ci (va_runV (As := [.int x1]) (rest := []) ⟨hx, hb, hml, hown, hts⟩ (mt_X1_noTicket l hw) (cwV 1 hts (lw_V q1407 q1409 qs61 q65 q1410) rfl rfl rfl hd_X1_noTicket ⟨Nat.le_of_ble_eq_true rfl, Nat.le_of_ble_eq_true rfl⟩) ⟨x_Pc_blind, xm_recv hR hK, x_Pc_pre hR hz hS hK⟩ rfl rfl hl.1 rfl (lv_room (Nat.le_of_ble_eq_true rfl)) dX1_pay_7 ⟨Nat.le_refl _, Nat.le_refl _⟩) hS (fun r_2 M_3 H locs hp hR hS => ?_)
  have hw := hp.2
  rw [hp.1] at hR
  refine lv_if_ne (tgt := 26) hx hb dX1_pay_10 (by decide) (fun c_4 => ?_) (fun c_4 => ?_)
  · have hw := x_f hw c_4
    refine lv_iconst (v := (-1)) hx hb dX1_pay_26 (by decide) ?_
    exact xm_ri hx hb hr hlocks hR hS dX1_pay_27 hw
  · have hw := x_t hw c_4
    refine lv_iload_n hx hb dX1_pay_13 rfl (lv_at hl 2 rfl) ?_
    refine lv_bipush (v := (-9)) hx hb dX1_pay_14 (by decide) ?_
    refine x_jn0 (G := ∀ (ls : Array Slot) (H : Heap) (locs : List Loc), x_Rp D d (x_A base) (x_mc d mo Aa M_1) S H → va_S (x_A base) s.heap H locs → lv_has ls 3 [(0, .ref mo), (1, .int x1), (2, .int x2)] → W p l e (x_rm 2 0 0 46) s m ([.ref mo, .int x1, .int x2] : List Value).toArray below meth c H locs 0 0 (MQ below (xm_Qi D d base mo Aa S (fun r M' => Q r M')) ([.ref mo, .int x1, .int x2] : List Value).toArray s 0 0 (x_A base)) (F0 m 28 ls [])) hw (fun hw => ?_) (fun hJ_5 hw => ?_)
    · intro ls H locs hR hS hl
      refine lv_aload_n hx hb dX1_pay_28 rfl (lv_at hl 0 rfl) ?_
      refine xm_getA (k := 35) hx hb hts in_X1 hown hK hR (by decide) (hts _ q1001) rfl dX1_pay_29 ?_
      refine lv_iload_n hx hb dX1_pay_32 rfl (lv_at hl 1 rfl) ?_
      refine xm_zld (M := M_1) (k := 35) (j := 22) hx hb hK hR dX1_pay_33 rfl hw.1 ?_
      have hw := hw.2
      refine x_jn (G := fun (M_6 : xM) => ∀ (ls : Array Slot) (H : Heap) (locs : List Loc), x_Rp D d (x_A base) (x_mc d mo Aa M_6) S H → va_S (x_A base) s.heap H locs → lv_has ls 3 [(0, .ref mo), (1, .int x1), (2, .int x2)] → W p l e (x_rm 2 0 0 46) s m ([.ref mo, .int x1, .int x2] : List Value).toArray below meth c H locs 0 0 (MQ below (xm_Qi D d base mo Aa S (fun r M' => Q r M')) ([.ref mo, .int x1, .int x2] : List Value).toArray s 0 0 (x_A base)) (F0 m 67 ls [])) hw (fun M_6 hw => ?_) (fun hJ_7 hw => ?_)
      · intro ls H locs hR hS hl
        refine lv_aload_n hx hb dX1_pay_67 rfl (lv_at hl 0 rfl) ?_
        refine lv_iload_n hx hb dX1_pay_68 rfl (lv_at hl 1 rfl) ?_
        refine lv_iload_n hx hb dX1_pay_69 rfl (lv_at hl 2 rfl) ?_
        refine lv_aload_n hx hb dX1_pay_70 rfl (lv_at hl 0 rfl) ?_
        refine xm_getA (k := 33) hx hb hts in_X1 hown hK hR (by decide) (hts _ q999) rfl dX1_pay_71 ?_
        refine lv_iload_n hx hb dX1_pay_74 rfl (lv_at hl 1 rfl) ?_
        refine xm_ild (M := M_6) (k := 33) (j := 20) hx hb hK hR dX1_pay_75 rfl hw.1 ?_
        have hw := hw.2
        refine xm_cv (va_runV (As := [.int x1, .int x2, .int (M2 M_6 33 (Int32.toNatClampNeg x1))]) (rest := []) ⟨hx, hb, hml, hown, hts⟩ (mt_X1_give l hw) (cwV 3 hts (lw_V q1415 q1417 qs62 q65 q1418) rfl rfl rfl hd_X1_give ⟨Nat.le_of_ble_eq_true rfl, Nat.le_of_ble_eq_true rfl⟩) ⟨x_Pc_blind, xm_recv hR hK, x_Pc_pre hR hz hS hK⟩ rfl rfl hl.1 rfl (lv_room (Nat.le_of_ble_eq_true rfl)) dX1_pay_76 ⟨Nat.le_refl _, Nat.le_refl _⟩) hS (fun M_8 H locs hp hR hS => ?_)
        have hw := hp
        refine lv_aload_n hx hb dX1_pay_79 rfl (lv_at hl 0 rfl) ?_
        refine xm_getA (k := 33) hx hb hts in_X1 hown hK hR (by decide) (hts _ q999) rfl dX1_pay_80 ?_
        refine lv_iload_n hx hb dX1_pay_83 rfl (lv_at hl 1 rfl) ?_
        refine xm_ild (M := M_8) (k := 33) (j := 20) hx hb hK hR dX1_pay_84 rfl hw.1 ?_
        have hw := hw.2
        exact xm_ri hx hb hr hlocks hR hS dX1_pay_85 hw
      · refine x_jn0 (G := ∀ (ls : Array Slot) (H : Heap) (locs : List Loc), x_Rp D d (x_A base) (x_mc d mo Aa M_1) S H → va_S (x_A base) s.heap H locs → lv_has ls 3 [(0, .ref mo), (1, .int x1), (2, .int x2)] → W p l e (x_rm 2 0 0 46) s m ([.ref mo, .int x1, .int x2] : List Value).toArray below meth c H locs 0 0 (MQ below (xm_Qi D d base mo Aa S (fun r M' => Q r M')) ([.ref mo, .int x1, .int x2] : List Value).toArray s 0 0 (x_A base)) (F0 m 47 ls [])) hw (fun hw => ?_) (fun hJ_9 hw => ?_)
        · intro ls H locs hR hS hl
          refine lv_aload_n hx hb dX1_pay_47 rfl (lv_at hl 0 rfl) ?_
          refine xm_getA (k := 36) hx hb hts in_X1 hown hK hR (by decide) (hts _ q1002) rfl dX1_pay_48 ?_
          refine lv_iload_n hx hb dX1_pay_51 rfl (lv_at hl 1 rfl) ?_
          refine lv_dup2_11 hx hb dX1_pay_52 rfl rfl ?_
          refine xm_ild (M := M_1) (k := 36) (j := 23) hx hb hK hR dX1_pay_53 rfl hw.1 ?_
          have hw := hw.2
          refine lv_iconst (v := 1) hx hb dX1_pay_54 (by decide) ?_
          refine lv_iadd hx hb dX1_pay_55 ?_
          refine xm_ist (M := M_1) (k := 36) (j := 23) hx hb hK hR hS dX1_pay_56 rfl hw.1 (fun H locs hR hS => ?_)
          have hw := hw.2
          obtain ⟨M_10, eM_10⟩ : ∃ z, z = (m2 M_1 36 (Int32.toNatClampNeg x1) ((M2 M_1 36 (Int32.toNatClampNeg x1)) + 1)) := ⟨_, rfl⟩
          rw [← eM_10] at hR
          have hw := hw M_10 eM_10
          refine lv_goto (tgt := 67) hx hb dX1_pay_57 (by decide) ?_
          exact hJ_7 M_10 hw ls _ _ hR hS (lv_sub hl [0, 1, 2] rfl)
        · refine lv_if_ne (tgt := 47) hx hb dX1_pay_34 (by decide) (fun c_11 => ?_) (fun c_11 => ?_)
          · have hw := x_f hw c_11
            exact hJ_9  hw ls _ _ hR hS (lv_sub hl [0, 1, 2] rfl)
          · have hw := x_t hw c_11
            refine lv_aload_n hx hb dX1_pay_37 rfl (lv_at hl 0 rfl) ?_
            refine xm_getA (k := 34) hx hb hts in_X1 hown hK hR (by decide) (hts _ q1000) rfl dX1_pay_38 ?_
            refine lv_iload_n hx hb dX1_pay_41 rfl (lv_at hl 1 rfl) ?_
            refine xm_ild (M := M_1) (k := 34) (j := 21) hx hb hK hR dX1_pay_42 rfl hw.1 ?_
            have hw := hw.2
            refine lv_iload_n hx hb dX1_pay_43 rfl (lv_at hl 2 rfl) ?_
            refine lv_icmp_eq (tgt := 60) hx hb dX1_pay_44 (by decide) (fun c_12 => ?_) (fun c_12 => ?_)
            · have hw := x_t hw c_12
              refine lv_aload_n hx hb dX1_pay_60 rfl (lv_at hl 0 rfl) ?_
              refine xm_getA (k := 35) hx hb hts in_X1 hown hK hR (by decide) (hts _ q1001) rfl dX1_pay_61 ?_
              refine lv_iload_n hx hb dX1_pay_64 rfl (lv_at hl 1 rfl) ?_
              refine lv_iconst (v := 1) hx hb dX1_pay_65 (by decide) ?_
              refine xm_zst (M := M_1) (k := 35) (j := 22) hx hb hK hR hS dX1_pay_66 rfl hw.1 (Or.inr rfl) (fun H locs hR hS => ?_)
              have hw := hw.2
              obtain ⟨M_13, eM_13⟩ : ∃ z, z = (m2 M_1 35 (Int32.toNatClampNeg x1) 1) := ⟨_, rfl⟩
              rw [← eM_13] at hR
              have hw := hw M_13 eM_13
              exact hJ_7 M_13 hw ls _ _ hR hS (lv_sub hl [0, 1, 2] rfl)
            · have hw := x_f hw c_12
              exact hJ_9  hw ls _ _ hR hS (lv_sub hl [0, 1, 2] rfl)
    · refine lv_icmp_eq (tgt := 28) hx hb dX1_pay_16 (by decide) (fun c_14 => ?_) (fun c_14 => ?_)
      · have hw := x_t hw c_14
        exact hJ_5  hw ls _ _ hR hS (lv_sub hl [0, 1, 2] rfl)
      · have hw := x_f hw c_14
        refine lv_iload_n hx hb dX1_pay_19 rfl (lv_at hl 2 rfl) ?_
        refine xm_ci (va_runS (As := [.int x2]) (rest := []) ⟨hx, hb, hml, hown, hts⟩ (mt_X1_noHolder l hw) (va_cwS 1 hts (lw_S q1411 q1412 q65 q1413) rfl rfl rfl hd_X1_noHolder.2 ⟨Nat.le_of_ble_eq_true rfl, Nat.le_of_ble_eq_true rfl⟩) ⟨x_Pc_blind, x_Pc_pre hR hz hS hK⟩ rfl rfl hl.1 rfl (lv_room (Nat.le_of_ble_eq_true rfl)) dX1_pay_20 ⟨Nat.le_refl _, Nat.le_refl _⟩) hS (fun r_15 M_16 H locs hp hR hS => ?_)
        have hw := hp.2
        rw [hp.1] at hR
        refine lv_if_eq (tgt := 28) hx hb dX1_pay_23 (by decide) (fun c_17 => ?_) (fun c_17 => ?_)
        · have hw := x_t hw c_17
          exact hJ_5  hw ls _ _ hR hS (lv_sub hl [0, 1, 2] rfl)
        · have hw := x_f hw c_17
          refine lv_iconst (v := (-1)) hx hb dX1_pay_26 (by decide) ?_
          exact xm_ri hx hb hr hlocks hR hS dX1_pay_27 hw
def w_X1_ticketOf (M : xM) (x1 : Int32) (x2 : Int32) (Q : Int32 → xM → Prop) : Prop := nm (m1 M 0 0) (fun M_1 : xM => w_X1_noTicket M_1 x1 (fun (r_2 : Int32) => wif (r_2 = 0) (wif (x2 = 0) (vp_in x1 40 ∧ Q (M2 M_1 34 (Int32.toNatClampNeg x1)) M_1) (wif (x2 = 1) (vp_in x1 40 ∧ wif ((M2 M_1 35 (Int32.toNatClampNeg x1)) = 0) (Q 0 M_1) (Q 1 M_1)) (wif (x2 = 2) (vp_in x1 40 ∧ Q (M2 M_1 36 (Int32.toNatClampNeg x1)) M_1) (wif (x2 = 3) (vp_in x1 40 ∧ Q (M2 M_1 33 (Int32.toNatClampNeg x1)) M_1) ((Q (-2) M_1)))))) (Q (-1) M_1)))
theorem hd_X1_ticketOf : yX1_ticketOf.cls = "PressedMenModel" ∧ yX1_ticketOf.cls ≠ "java/lang/invoke/MethodHandle" ∧ yX1_ticketOf.cls ≠ "java/lang/invoke/VarHandle" ∧ (parseMethodDescriptor yX1_ticketOf.desc).map (fun d => d.parameters.length) = some 2 := by decide +kernel
set_option maxHeartbeats 4000000 in
theorem mt_X1_ticketOf (l : Launch) {D : va_G} {d : Nat → ClassId} {base : Nat} {mo : Nat} {Aa : Nat → Nat} {M : xM} {S : xH} {x1 : Int32} {x2 : Int32} {Q : Int32 → xM → Prop} (hw : w_X1_ticketOf M x1 x2 Q) : Met l yX1_ticketOf (ws_ yX1_ticketOf cX1_ticketOf 3 (some FieldType.int)) (x_rm 2 0 0 46) (x_Pc D d base (x_mc d mo Aa M) S [.ref mo, .int x1, .int x2]) (xm_Qi D d base mo Aa S (fun r M' => Q r M')) 0 0 (x_A base) := by
  refine x_met (by decide) (Nat.le_of_ble_eq_true rfl) ?_
  intro p e s m below meth c hx hb hml hr hlocks hown hts hz hR hK hin ls hl
  have hown : s.vm.findClass "PressedMenModel" = some m.cls := hown
  have hl : lv_has ls 3 [(0, .ref mo), (1, .int x1), (2, .int x2)] := hl
  have hS : va_S (x_A base) s.heap s.heap [] := va_S.rf
  unfold w_X1_ticketOf at hw
  refine lv_aload_n hx hb dX1_ticketOf_0 rfl (lv_at hl 0 rfl) ?_
  refine lv_iconst (v := 0) hx hb dX1_ticketOf_1 (by decide) ?_
  refine xm_putI (M := M) (k := 0) hx hb hts in_X1 hown hK hR hS (by decide) (hts _ q966) rfl rfl rfl rfl dX1_ticketOf_2 (fun H locs hR hS => ?_)
  obtain ⟨M_1, eM_1⟩ : ∃ z, z = (m1 M 0 0) := ⟨_, rfl⟩
  rw [← eM_1] at hR
  have hw := hw M_1 eM_1
  refine lv_aload_n hx hb dX1_ticketOf_5 rfl (lv_at hl 0 rfl) ?_
  refine lv_iload_n hx hb dX1_ticketOf_6 rfl (lv_at hl 1 rfl) ?_
  refine xm_ci (va_runV (As := [.int x1]) (rest := []) ⟨hx, hb, hml, hown, hts⟩ (mt_X1_noTicket l hw) (cwV 1 hts (lw_V q1407 q1409 qs61 q65 q1410) rfl rfl rfl hd_X1_noTicket ⟨Nat.le_of_ble_eq_true rfl, Nat.le_of_ble_eq_true rfl⟩) ⟨x_Pc_blind, xm_recv hR hK, x_Pc_pre hR hz hS hK⟩ rfl rfl hl.1 rfl (lv_room (Nat.le_of_ble_eq_true rfl)) dX1_ticketOf_7 ⟨Nat.le_refl _, Nat.le_refl _⟩) hS (fun r_2 M_3 H locs hp hR hS => ?_)
  have hw := hp.2
  rw [hp.1] at hR
  refine lv_if_eq (tgt := 15) hx hb dX1_ticketOf_10 (by decide) (fun c_4 => ?_) (fun c_4 => ?_)
  · have hw := x_t hw c_4
    refine lv_iload_n hx hb dX1_ticketOf_15 rfl (lv_at hl 2 rfl) ?_
    rcases Classical.em (x2 = 0) with c_50 | c_50
    · have hw := x_t hw c_50
      refine lv_tableIn (off := 32) (tgt := 48) hx hb dX1_ticketOf_16 (by rw [c_50]; decide) (by rw [c_50]; decide) (by rw [c_50]; rfl) (by decide) ?_
      refine lv_aload_n hx hb dX1_ticketOf_48 rfl (lv_at hl 0 rfl) ?_
      refine xm_getA (k := 34) hx hb hts in_X1 hown hK hR (by decide) (hts _ q1000) rfl dX1_ticketOf_49 ?_
      refine lv_iload_n hx hb dX1_ticketOf_52 rfl (lv_at hl 1 rfl) ?_
      refine xm_ild (M := M_1) (k := 34) (j := 21) hx hb hK hR dX1_ticketOf_53 rfl hw.1 ?_
      have hw := hw.2
      exact xm_ri hx hb hr hlocks hR hS dX1_ticketOf_54 hw
    · have hw := x_f hw c_50
      rcases Classical.em (x2 = 1) with c_51 | c_51
      · have hw := x_t hw c_51
        refine lv_tableIn (off := 39) (tgt := 55) hx hb dX1_ticketOf_16 (by rw [c_51]; decide) (by rw [c_51]; decide) (by rw [c_51]; rfl) (by decide) ?_
        refine lv_aload_n hx hb dX1_ticketOf_55 rfl (lv_at hl 0 rfl) ?_
        refine xm_getA (k := 35) hx hb hts in_X1 hown hK hR (by decide) (hts _ q1001) rfl dX1_ticketOf_56 ?_
        refine lv_iload_n hx hb dX1_ticketOf_59 rfl (lv_at hl 1 rfl) ?_
        refine xm_zld (M := M_1) (k := 35) (j := 22) hx hb hK hR dX1_ticketOf_60 rfl hw.1 ?_
        have hw := hw.2
        refine lv_if_eq (tgt := 68) hx hb dX1_ticketOf_61 (by decide) (fun c_6 => ?_) (fun c_6 => ?_)
        · have hw := x_t hw c_6
          refine lv_iconst (v := 0) hx hb dX1_ticketOf_68 (by decide) ?_
          exact xm_ri hx hb hr hlocks hR hS dX1_ticketOf_69 hw
        · have hw := x_f hw c_6
          refine lv_iconst (v := 1) hx hb dX1_ticketOf_64 (by decide) ?_
          refine lv_goto (tgt := 69) hx hb dX1_ticketOf_65 (by decide) ?_
          exact xm_ri hx hb hr hlocks hR hS dX1_ticketOf_69 hw
      · have hw := x_f hw c_51
        rcases Classical.em (x2 = 2) with c_52 | c_52
        · have hw := x_t hw c_52
          refine lv_tableIn (off := 54) (tgt := 70) hx hb dX1_ticketOf_16 (by rw [c_52]; decide) (by rw [c_52]; decide) (by rw [c_52]; rfl) (by decide) ?_
          refine lv_aload_n hx hb dX1_ticketOf_70 rfl (lv_at hl 0 rfl) ?_
          refine xm_getA (k := 36) hx hb hts in_X1 hown hK hR (by decide) (hts _ q1002) rfl dX1_ticketOf_71 ?_
          refine lv_iload_n hx hb dX1_ticketOf_74 rfl (lv_at hl 1 rfl) ?_
          refine xm_ild (M := M_1) (k := 36) (j := 23) hx hb hK hR dX1_ticketOf_75 rfl hw.1 ?_
          have hw := hw.2
          exact xm_ri hx hb hr hlocks hR hS dX1_ticketOf_76 hw
        · have hw := x_f hw c_52
          rcases Classical.em (x2 = 3) with c_53 | c_53
          · have hw := x_t hw c_53
            refine lv_tableIn (off := 61) (tgt := 77) hx hb dX1_ticketOf_16 (by rw [c_53]; decide) (by rw [c_53]; decide) (by rw [c_53]; rfl) (by decide) ?_
            refine lv_aload_n hx hb dX1_ticketOf_77 rfl (lv_at hl 0 rfl) ?_
            refine xm_getA (k := 33) hx hb hts in_X1 hown hK hR (by decide) (hts _ q999) rfl dX1_ticketOf_78 ?_
            refine lv_iload_n hx hb dX1_ticketOf_81 rfl (lv_at hl 1 rfl) ?_
            refine xm_ild (M := M_1) (k := 33) (j := 20) hx hb hK hR dX1_ticketOf_82 rfl hw.1 ?_
            have hw := hw.2
            exact xm_ri hx hb hr hlocks hR hS dX1_ticketOf_83 hw
          · have hw := x_f hw c_53
            refine lv_tableOut (tgt := 84) hx hb dX1_ticketOf_16 (x_swo 3 (fun j hj => by rcases (show j = 0 ∨ j = 1 ∨ j = 2 ∨ j = 3 by omega) with rfl | rfl | rfl | rfl <;> assumption)) (by decide) ?_
            refine lv_bipush (v := (-2)) hx hb dX1_ticketOf_84 (by decide) ?_
            exact xm_ri hx hb hr hlocks hR hS dX1_ticketOf_86 hw
  · have hw := x_f hw c_4
    refine lv_iconst (v := (-1)) hx hb dX1_ticketOf_13 (by decide) ?_
    exact xm_ri hx hb hr hlocks hR hS dX1_ticketOf_14 hw
def w_X1_purse (M : xM) (x1 : Int32) (Q : Int32 → xM → Prop) : Prop := nm (m1 M 0 0) (fun M_1 : xM => w_X1_noHolder M_1 x1 (fun (r_2 : Int32) => wif (r_2 = 0) (vp_in x1 10 ∧ Q ((M2 M_1 37 (Int32.toNatClampNeg x1)) + 10000000) M_1) (Q (-1) M_1)))
theorem hd_X1_purse : yX1_purse.cls = "PressedMenModel" ∧ yX1_purse.cls ≠ "java/lang/invoke/MethodHandle" ∧ yX1_purse.cls ≠ "java/lang/invoke/VarHandle" ∧ (parseMethodDescriptor yX1_purse.desc).map (fun d => d.parameters.length) = some 1 := by decide +kernel
set_option maxHeartbeats 4000000 in
theorem mt_X1_purse (l : Launch) {D : va_G} {d : Nat → ClassId} {base : Nat} {mo : Nat} {Aa : Nat → Nat} {M : xM} {S : xH} {x1 : Int32} {Q : Int32 → xM → Prop} (hw : w_X1_purse M x1 Q) : Met l yX1_purse (ws_ yX1_purse cX1_purse 2 (some FieldType.int)) (x_rm 2 0 0 45) (x_Pc D d base (x_mc d mo Aa M) S [.ref mo, .int x1]) (xm_Qi D d base mo Aa S (fun r M' => Q r M')) 0 0 (x_A base) := by
  refine x_met (by decide) (Nat.le_of_ble_eq_true rfl) ?_
  intro p e s m below meth c hx hb hml hr hlocks hown hts hz hR hK hin ls hl
  have hown : s.vm.findClass "PressedMenModel" = some m.cls := hown
  have hl : lv_has ls 2 [(0, .ref mo), (1, .int x1)] := hl
  have hS : va_S (x_A base) s.heap s.heap [] := va_S.rf
  unfold w_X1_purse at hw
  refine lv_aload_n hx hb dX1_purse_0 rfl (lv_at hl 0 rfl) ?_
  refine lv_iconst (v := 0) hx hb dX1_purse_1 (by decide) ?_
  refine xm_putI (M := M) (k := 0) hx hb hts in_X1 hown hK hR hS (by decide) (hts _ q966) rfl rfl rfl rfl dX1_purse_2 (fun H locs hR hS => ?_)
  obtain ⟨M_1, eM_1⟩ : ∃ z, z = (m1 M 0 0) := ⟨_, rfl⟩
  rw [← eM_1] at hR
  have hw := hw M_1 eM_1
  refine lv_iload_n hx hb dX1_purse_5 rfl (lv_at hl 1 rfl) ?_
  refine xm_ci (va_runS (As := [.int x1]) (rest := []) ⟨hx, hb, hml, hown, hts⟩ (mt_X1_noHolder l hw) (va_cwS 1 hts (lw_S q1411 q1412 q65 q1413) rfl rfl rfl hd_X1_noHolder.2 ⟨Nat.le_of_ble_eq_true rfl, Nat.le_of_ble_eq_true rfl⟩) ⟨x_Pc_blind, x_Pc_pre hR hz hS hK⟩ rfl rfl hl.1 rfl (lv_room (Nat.le_of_ble_eq_true rfl)) dX1_purse_6 ⟨Nat.le_refl _, Nat.le_refl _⟩) hS (fun r_2 M_3 H locs hp hR hS => ?_)
  have hw := hp.2
  rw [hp.1] at hR
  refine lv_if_eq (tgt := 16) hx hb dX1_purse_9 (by decide) (fun c_4 => ?_) (fun c_4 => ?_)
  · have hw := x_t hw c_4
    refine lv_aload_n hx hb dX1_purse_16 rfl (lv_at hl 0 rfl) ?_
    refine xm_getA (k := 37) hx hb hts in_X1 hown hK hR (by decide) (hts _ q1003) rfl dX1_purse_17 ?_
    refine lv_iload_n hx hb dX1_purse_20 rfl (lv_at hl 1 rfl) ?_
    refine xm_ild (M := M_1) (k := 37) (j := 24) hx hb hK hR dX1_purse_21 rfl hw.1 ?_
    have hw := hw.2
    refine lv_ldcw (v := 10000000) hx hb hown (hts _ q1431) dX1_purse_22 ?_
    refine lv_iadd hx hb dX1_purse_25 ?_
    exact xm_ri hx hb hr hlocks hR hS dX1_purse_26 hw
  · have hw := x_f hw c_4
    refine lv_iconst (v := (-1)) hx hb dX1_purse_12 (by decide) ?_
    refine lv_goto (tgt := 26) hx hb dX1_purse_13 (by decide) ?_
    exact xm_ri hx hb hr hlocks hR hS dX1_purse_26 hw
def w_X1_wages (M : xM) (x1 : Int32) (x2 : Int32) (Q : Int32 → xM → Prop) : Prop := nm (m1 M 0 0) (fun M_1 : xM => w_X1_noMan M_1 x1 (fun (r_2 : Int32) => wif (r_2 = 0) (jn (fun (v0_5 : Int32) => lf2 (fun L_9 (x3_7 : Int32) (x4_8 : Int32) => wif ((M1 M_1 31) ≤ x4_8) (Q x3_7 M_1) (wif (x2 = 0) (Q x3_7 M_1) (vp_in x4_8 40 ∧ jn (fun (v1_12 : Int32) => nm (x3_7 + v1_12) (fun x3_14 : Int32 => L_9 x3_14 (x4_8 + 1))) (fun J_13 => jn0 (J_13 0) (fun J_15 => wif ((M2 M_1 32 (Int32.toNatClampNeg x4_8)) = x1) (vp_in x4_8 40 ∧ wif ((M2 M_1 34 (Int32.toNatClampNeg x4_8)) = (-9)) (vp_in x4_8 40 ∧ wif ((M2 M_1 35 (Int32.toNatClampNeg x4_8)) = 0) (vp_in x4_8 40 ∧ J_13 (M2 M_1 33 (Int32.toNatClampNeg x4_8))) (J_15)) (J_15)) (J_15)))))) v0_5 0) (fun J_6 => wif (x2 = 0) (vp_in x1 40 ∧ J_6 (M2 M_1 38 (Int32.toNatClampNeg x1))) (J_6 0))) (Q (-1) M_1)))
theorem hd_X1_wages : yX1_wages.cls = "PressedMenModel" ∧ yX1_wages.cls ≠ "java/lang/invoke/MethodHandle" ∧ yX1_wages.cls ≠ "java/lang/invoke/VarHandle" ∧ (parseMethodDescriptor yX1_wages.desc).map (fun d => d.parameters.length) = some 2 := by decide +kernel
set_option maxHeartbeats 4000000 in
theorem mt_X1_wages (l : Launch) {D : va_G} {d : Nat → ClassId} {base : Nat} {mo : Nat} {Aa : Nat → Nat} {M : xM} {S : xH} {x1 : Int32} {x2 : Int32} {Q : Int32 → xM → Prop} (hw : w_X1_wages M x1 x2 Q) : Met l yX1_wages (ws_ yX1_wages cX1_wages 5 (some FieldType.int)) (x_rm 2 0 0 46) (x_Pc D d base (x_mc d mo Aa M) S [.ref mo, .int x1, .int x2]) (xm_Qi D d base mo Aa S (fun r M' => Q r M')) 0 0 (x_A base) := by
  refine x_met (by decide) (Nat.le_of_ble_eq_true rfl) ?_
  intro p e s m below meth c hx hb hml hr hlocks hown hts hz hR hK hin ls hl
  have hown : s.vm.findClass "PressedMenModel" = some m.cls := hown
  have hl : lv_has ls 5 [(0, .ref mo), (1, .int x1), (2, .int x2)] := hl
  have hS : va_S (x_A base) s.heap s.heap [] := va_S.rf
  unfold w_X1_wages at hw
  refine lv_aload_n hx hb dX1_wages_0 rfl (lv_at hl 0 rfl) ?_
  refine lv_iconst (v := 0) hx hb dX1_wages_1 (by decide) ?_
  refine xm_putI (M := M) (k := 0) hx hb hts in_X1 hown hK hR hS (by decide) (hts _ q966) rfl rfl rfl rfl dX1_wages_2 (fun H locs hR hS => ?_)
  obtain ⟨M_1, eM_1⟩ : ∃ z, z = (m1 M 0 0) := ⟨_, rfl⟩
  rw [← eM_1] at hR
  have hw := hw M_1 eM_1
  refine lv_aload_n hx hb dX1_wages_5 rfl (lv_at hl 0 rfl) ?_
  refine lv_iload_n hx hb dX1_wages_6 rfl (lv_at hl 1 rfl) ?_
  refine xm_ci (va_runV (As := [.int x1]) (rest := []) ⟨hx, hb, hml, hown, hts⟩ (mt_X1_noMan l hw) (cwV 1 hts (lw_V q1123 q1125 qs38 q65 q1126) rfl rfl rfl hd_X1_noMan ⟨Nat.le_of_ble_eq_true rfl, Nat.le_of_ble_eq_true rfl⟩) ⟨x_Pc_blind, xm_recv hR hK, x_Pc_pre hR hz hS hK⟩ rfl rfl hl.1 rfl (lv_room (Nat.le_of_ble_eq_true rfl)) dX1_wages_7 ⟨Nat.le_refl _, Nat.le_refl _⟩) hS (fun r_2 M_3 H locs hp hR hS => ?_)
  have hw := hp.2
  rw [hp.1] at hR
  refine lv_if_eq (tgt := 15) hx hb dX1_wages_10 (by decide) (fun c_4 => ?_) (fun c_4 => ?_)
  · have hw := x_t hw c_4
    refine lv_iload_n hx hb dX1_wages_15 rfl (lv_at hl 2 rfl) ?_
    refine x_jn (G := fun (v0_5 : Int32) => ∀ (ls : Array Slot) (H : Heap) (locs : List Loc), x_Rp D d (x_A base) (x_mc d mo Aa M_1) S H → va_S (x_A base) s.heap H locs → lv_has ls 5 [(0, .ref mo), (1, .int x1), (2, .int x2)] → W p l e (x_rm 2 0 0 46) s m ([.ref mo, .int x1, .int x2] : List Value).toArray below meth c H locs 0 0 (MQ below (xm_Qi D d base mo Aa S (fun r M' => Q r M')) ([.ref mo, .int x1, .int x2] : List Value).toArray s 0 0 (x_A base)) (F0 m 29 ls [.int v0_5])) hw (fun v0_5 hw => ?_) (fun hJ_6 hw => ?_)
    · intro ls H locs hR hS hl
      refine lv_istore_n (lv' := [(3, .int v0_5), (0, .ref mo), (1, .int x1), (2, .int x2)]) hx hb dX1_wages_29 rfl hl (by decide) rfl (fun ls hl => ?_)
      refine lv_iconst (v := 0) hx hb dX1_wages_30 (by decide) ?_
      refine lv_istore (lv' := [(4, .int 0), (3, .int v0_5), (0, .ref mo), (1, .int x1), (2, .int x2)]) hx hb dX1_wages_31 hl (by decide) rfl (fun ls hl => ?_)
      refine x_lf2 (G := fun (x3_7 : Int32) (x4_8 : Int32) => ∀ (ls : Array Slot) (H : Heap) (locs : List Loc), x_Rp D d (x_A base) (x_mc d mo Aa M_1) S H → va_S (x_A base) s.heap H locs → lv_has ls 5 [(0, .ref mo), (1, .int x1), (2, .int x2), (3, .int x3_7), (4, .int x4_8)] → W p l e (x_rm 2 0 0 46) s m ([.ref mo, .int x1, .int x2] : List Value).toArray below meth c H locs 0 0 (MQ below (xm_Qi D d base mo Aa S (fun r M' => Q r M')) ([.ref mo, .int x1, .int x2] : List Value).toArray s 0 0 (x_A base)) (F0 m 33 ls [])) hw (fun x3_7 x4_8 hw => ?_) ls _ _ hR hS (lv_sub hl [2, 3, 4, 1, 0] rfl)
      intro ls H locs hR hS hl
      refine lv_iload hx hb dX1_wages_33 (lv_at hl 4 rfl) ?_
      refine lv_aload_n hx hb dX1_wages_35 rfl (lv_at hl 0 rfl) ?_
      refine xm_getI (k := 31) hx hb hts in_X1 hown hK hR (by decide) (hts _ q997) rfl dX1_wages_36 ?_
      refine lv_icmp_ge (tgt := 99) hx hb dX1_wages_39 (by decide) (fun c_10 => ?_) (fun c_10 => ?_)
      · have hw := x_t hw c_10
        refine lv_iload_n hx hb dX1_wages_99 rfl (lv_at hl 3 rfl) ?_
        exact xm_ri hx hb hr hlocks hR hS dX1_wages_100 hw
      · have hw := x_f hw c_10
        refine lv_iload_n hx hb dX1_wages_42 rfl (lv_at hl 2 rfl) ?_
        refine lv_if_eq (tgt := 99) hx hb dX1_wages_43 (by decide) (fun c_11 => ?_) (fun c_11 => ?_)
        · have hw := x_t hw c_11
          refine lv_iload_n hx hb dX1_wages_99 rfl (lv_at hl 3 rfl) ?_
          exact xm_ri hx hb hr hlocks hR hS dX1_wages_100 hw
        · have hw := x_f hw c_11
          refine lv_iload_n hx hb dX1_wages_46 rfl (lv_at hl 3 rfl) ?_
          refine lv_aload_n hx hb dX1_wages_47 rfl (lv_at hl 0 rfl) ?_
          refine xm_getA (k := 32) hx hb hts in_X1 hown hK hR (by decide) (hts _ q998) rfl dX1_wages_48 ?_
          refine lv_iload hx hb dX1_wages_51 (lv_at hl 4 rfl) ?_
          refine xm_ild (M := M_1) (k := 32) (j := 19) hx hb hK hR dX1_wages_53 rfl hw.1 ?_
          have hw := hw.2
          refine lv_iload_n hx hb dX1_wages_54 rfl (lv_at hl 1 rfl) ?_
          refine x_jn (G := fun (v1_12 : Int32) => ∀ (ls : Array Slot) (H : Heap) (locs : List Loc), x_Rp D d (x_A base) (x_mc d mo Aa M_1) S H → va_S (x_A base) s.heap H locs → lv_has ls 5 [(0, .ref mo), (1, .int x1), (2, .int x2), (4, .int x4_8)] → W p l e (x_rm 2 0 0 46) s m ([.ref mo, .int x1, .int x2] : List Value).toArray below meth c H locs 0 0 (MQ below (xm_Qi D d base mo Aa S (fun r M' => Q r M')) ([.ref mo, .int x1, .int x2] : List Value).toArray s 0 0 (x_A base)) (F0 m 91 ls [.int v1_12, .int x3_7])) hw (fun v1_12 hw => ?_) (fun hJ_13 hw => ?_)
          · intro ls H locs hR hS hl
            refine lv_iadd hx hb dX1_wages_91 ?_
            refine lv_topi (fun x3_14 ex3_14 => ?_)
            have hw := hw x3_14 ex3_14
            refine lv_istore_n (lv' := [(3, .int x3_14), (0, .ref mo), (1, .int x1), (2, .int x2), (4, .int x4_8)]) hx hb dX1_wages_92 rfl hl (by decide) rfl (fun ls hl => ?_)
            refine lv_iinc (v := (x4_8 + 1)) (lv' := [(4, .int (x4_8 + 1)), (3, .int x3_14), (0, .ref mo), (1, .int x1), (2, .int x2)]) hx hb dX1_wages_93 hl (k := 4) rfl rfl (by decide) rfl (fun ls hl => ?_)
            refine lv_goto (tgt := 33) hx hb dX1_wages_96 (by decide) ?_
            exact hw ls _ _ hR hS (lv_sub hl [2, 3, 4, 1, 0] rfl)
          · refine x_jn0 (G := ∀ (ls : Array Slot) (H : Heap) (locs : List Loc), x_Rp D d (x_A base) (x_mc d mo Aa M_1) S H → va_S (x_A base) s.heap H locs → lv_has ls 5 [(0, .ref mo), (1, .int x1), (2, .int x2), (4, .int x4_8)] → W p l e (x_rm 2 0 0 46) s m ([.ref mo, .int x1, .int x2] : List Value).toArray below meth c H locs 0 0 (MQ below (xm_Qi D d base mo Aa S (fun r M' => Q r M')) ([.ref mo, .int x1, .int x2] : List Value).toArray s 0 0 (x_A base)) (F0 m 90 ls [.int x3_7])) hw (fun hw => ?_) (fun hJ_15 hw => ?_)
            · intro ls H locs hR hS hl
              refine lv_iconst (v := 0) hx hb dX1_wages_90 (by decide) ?_
              exact hJ_13 0 hw ls _ _ hR hS (lv_sub hl [0, 1, 2, 3] rfl)
            · refine lv_icmp_ne (tgt := 90) hx hb dX1_wages_55 (by decide) (fun c_16 => ?_) (fun c_16 => ?_)
              · have hw := x_f hw c_16
                exact hJ_15  hw ls _ _ hR hS (lv_sub hl [0, 1, 2, 4] rfl)
              · have hw := x_t hw c_16
                refine lv_aload_n hx hb dX1_wages_58 rfl (lv_at hl 0 rfl) ?_
                refine xm_getA (k := 34) hx hb hts in_X1 hown hK hR (by decide) (hts _ q1000) rfl dX1_wages_59 ?_
                refine lv_iload hx hb dX1_wages_62 (lv_at hl 4 rfl) ?_
                refine xm_ild (M := M_1) (k := 34) (j := 21) hx hb hK hR dX1_wages_64 rfl hw.1 ?_
                have hw := hw.2
                refine lv_bipush (v := (-9)) hx hb dX1_wages_65 (by decide) ?_
                refine lv_icmp_ne (tgt := 90) hx hb dX1_wages_67 (by decide) (fun c_17 => ?_) (fun c_17 => ?_)
                · have hw := x_f hw c_17
                  exact hJ_15  hw ls _ _ hR hS (lv_sub hl [0, 1, 2, 4] rfl)
                · have hw := x_t hw c_17
                  refine lv_aload_n hx hb dX1_wages_70 rfl (lv_at hl 0 rfl) ?_
                  refine xm_getA (k := 35) hx hb hts in_X1 hown hK hR (by decide) (hts _ q1001) rfl dX1_wages_71 ?_
                  refine lv_iload hx hb dX1_wages_74 (lv_at hl 4 rfl) ?_
                  refine xm_zld (M := M_1) (k := 35) (j := 22) hx hb hK hR dX1_wages_76 rfl hw.1 ?_
                  have hw := hw.2
                  refine lv_if_ne (tgt := 90) hx hb dX1_wages_77 (by decide) (fun c_18 => ?_) (fun c_18 => ?_)
                  · have hw := x_f hw c_18
                    exact hJ_15  hw ls _ _ hR hS (lv_sub hl [0, 1, 2, 4] rfl)
                  · have hw := x_t hw c_18
                    refine lv_aload_n hx hb dX1_wages_80 rfl (lv_at hl 0 rfl) ?_
                    refine xm_getA (k := 33) hx hb hts in_X1 hown hK hR (by decide) (hts _ q999) rfl dX1_wages_81 ?_
                    refine lv_iload hx hb dX1_wages_84 (lv_at hl 4 rfl) ?_
                    refine xm_ild (M := M_1) (k := 33) (j := 20) hx hb hK hR dX1_wages_86 rfl hw.1 ?_
                    have hw := hw.2
                    refine lv_goto (tgt := 91) hx hb dX1_wages_87 (by decide) ?_
                    exact hJ_13 (M2 M_1 33 (Int32.toNatClampNeg x4_8)) hw ls _ _ hR hS (lv_sub hl [0, 1, 2, 4] rfl)
    · refine lv_if_eq (tgt := 23) hx hb dX1_wages_16 (by decide) (fun c_19 => ?_) (fun c_19 => ?_)
      · have hw := x_t hw c_19
        refine lv_aload_n hx hb dX1_wages_23 rfl (lv_at hl 0 rfl) ?_
        refine xm_getA (k := 38) hx hb hts in_X1 hown hK hR (by decide) (hts _ q1004) rfl dX1_wages_24 ?_
        refine lv_iload_n hx hb dX1_wages_27 rfl (lv_at hl 1 rfl) ?_
        refine xm_ild (M := M_1) (k := 38) (j := 25) hx hb hK hR dX1_wages_28 rfl hw.1 ?_
        have hw := hw.2
        exact hJ_6 (M2 M_1 38 (Int32.toNatClampNeg x1)) hw ls _ _ hR hS (lv_sub hl [0, 1, 2] rfl)
      · have hw := x_f hw c_19
        refine lv_iconst (v := 0) hx hb dX1_wages_19 (by decide) ?_
        refine lv_goto (tgt := 29) hx hb dX1_wages_20 (by decide) ?_
        exact hJ_6 0 hw ls _ _ hR hS (lv_sub hl [0, 1, 2] rfl)
  · have hw := x_f hw c_4
    refine lv_iconst (v := (-1)) hx hb dX1_wages_13 (by decide) ?_
    exact xm_ri hx hb hr hlocks hR hS dX1_wages_14 hw
def w_X1_count (M : xM) (x1 : Int32) (Q : Int32 → xM → Prop) : Prop := nm (m1 M 0 0) (fun M_1 : xM => lf2 (fun L_4 (x2_2 : Int32) (x3_3 : Int32) => wif ((M1 M_1 5) ≤ x3_3) (wif (x1 = 0) (Q (M1 M_1 5) M_1) (wif (x1 = 1) (Q (M1 M_1 9) M_1) (wif (x1 = 2) (Q (M1 M_1 15) M_1) (wif (x1 = 3) (Q (M1 M_1 17) M_1) (wif (x1 = 4) (Q (M1 M_1 22) M_1) (wif (x1 = 5) (Q (M1 M_1 31) M_1) (wif (x1 = 6) (Q x2_2 M_1) (wif (x1 = 7) (Q (M1 M_1 1) M_1) ((Q (-2) M_1)))))))))) (w_X1_placeOf M_1 x3_3 (fun (r_7 : Int32) => w_X1_isStreet M_1 r_7 (fun (r_9 : Int32) => jn (fun (v1_11 : Int32) => nm (x2_2 + v1_11) (fun x2_13 : Int32 => L_4 x2_13 (x3_3 + 1))) (fun J_12 => wif (r_9 = 0) (J_12 1) (J_12 0)))))) 0 0)
theorem hd_X1_count : yX1_count.cls = "PressedMenModel" ∧ yX1_count.cls ≠ "java/lang/invoke/MethodHandle" ∧ yX1_count.cls ≠ "java/lang/invoke/VarHandle" ∧ (parseMethodDescriptor yX1_count.desc).map (fun d => d.parameters.length) = some 1 := by decide +kernel
set_option maxHeartbeats 4000000 in
theorem mt_X1_count (l : Launch) {D : va_G} {d : Nat → ClassId} {base : Nat} {mo : Nat} {Aa : Nat → Nat} {M : xM} {S : xH} {x1 : Int32} {Q : Int32 → xM → Prop} (hw : w_X1_count M x1 Q) : Met l yX1_count (ws_ yX1_count cX1_count 4 (some FieldType.int)) (x_rm 2 0 0 45) (x_Pc D d base (x_mc d mo Aa M) S [.ref mo, .int x1]) (xm_Qi D d base mo Aa S (fun r M' => Q r M')) 0 0 (x_A base) := by
  refine x_met (by decide) (Nat.le_of_ble_eq_true rfl) ?_
  intro p e s m below meth c hx hb hml hr hlocks hown hts hz hR hK hin ls hl
  have hown : s.vm.findClass "PressedMenModel" = some m.cls := hown
  have hl : lv_has ls 4 [(0, .ref mo), (1, .int x1)] := hl
  have hS : va_S (x_A base) s.heap s.heap [] := va_S.rf
  unfold w_X1_count at hw
  refine lv_aload_n hx hb dX1_count_0 rfl (lv_at hl 0 rfl) ?_
  refine lv_iconst (v := 0) hx hb dX1_count_1 (by decide) ?_
  refine xm_putI (M := M) (k := 0) hx hb hts in_X1 hown hK hR hS (by decide) (hts _ q966) rfl rfl rfl rfl dX1_count_2 (fun H locs hR hS => ?_)
  obtain ⟨M_1, eM_1⟩ : ∃ z, z = (m1 M 0 0) := ⟨_, rfl⟩
  rw [← eM_1] at hR
  have hw := hw M_1 eM_1
  refine lv_iconst (v := 0) hx hb dX1_count_5 (by decide) ?_
  refine lv_istore_n (lv' := [(2, .int 0), (0, .ref mo), (1, .int x1)]) hx hb dX1_count_6 rfl hl (by decide) rfl (fun ls hl => ?_)
  refine lv_iconst (v := 0) hx hb dX1_count_7 (by decide) ?_
  refine lv_istore_n (lv' := [(3, .int 0), (2, .int 0), (0, .ref mo), (1, .int x1)]) hx hb dX1_count_8 rfl hl (by decide) rfl (fun ls hl => ?_)
  refine x_lf2 (G := fun (x2_2 : Int32) (x3_3 : Int32) => ∀ (ls : Array Slot) (H : Heap) (locs : List Loc), x_Rp D d (x_A base) (x_mc d mo Aa M_1) S H → va_S (x_A base) s.heap H locs → lv_has ls 4 [(0, .ref mo), (1, .int x1), (2, .int x2_2), (3, .int x3_3)] → W p l e (x_rm 2 0 0 45) s m ([.ref mo, .int x1] : List Value).toArray below meth c H locs 0 0 (MQ below (xm_Qi D d base mo Aa S (fun r M' => Q r M')) ([.ref mo, .int x1] : List Value).toArray s 0 0 (x_A base)) (F0 m 9 ls [])) hw (fun x2_2 x3_3 hw => ?_) ls _ _ hR hS (lv_sub hl [2, 3, 1, 0] rfl)
  intro ls H locs hR hS hl
  refine lv_iload_n hx hb dX1_count_9 rfl (lv_at hl 3 rfl) ?_
  refine lv_aload_n hx hb dX1_count_10 rfl (lv_at hl 0 rfl) ?_
  refine xm_getI (k := 5) hx hb hts in_X1 hown hK hR (by decide) (hts _ q971) rfl dX1_count_11 ?_
  refine lv_icmp_ge (tgt := 42) hx hb dX1_count_14 (by decide) (fun c_5 => ?_) (fun c_5 => ?_)
  · have hw := x_t hw c_5
    refine lv_iload_n hx hb dX1_count_42 rfl (lv_at hl 1 rfl) ?_
    rcases Classical.em (x1 = 0) with c_60 | c_60
    · have hw := x_t hw c_60
      refine lv_tableIn (off := 45) (tgt := 88) hx hb dX1_count_43 (by rw [c_60]; decide) (by rw [c_60]; decide) (by rw [c_60]; rfl) (by decide) ?_
      refine lv_aload_n hx hb dX1_count_88 rfl (lv_at hl 0 rfl) ?_
      refine xm_getI (k := 5) hx hb hts in_X1 hown hK hR (by decide) (hts _ q971) rfl dX1_count_89 ?_
      exact xm_ri hx hb hr hlocks hR hS dX1_count_92 hw
    · have hw := x_f hw c_60
      rcases Classical.em (x1 = 1) with c_61 | c_61
      · have hw := x_t hw c_61
        refine lv_tableIn (off := 50) (tgt := 93) hx hb dX1_count_43 (by rw [c_61]; decide) (by rw [c_61]; decide) (by rw [c_61]; rfl) (by decide) ?_
        refine lv_aload_n hx hb dX1_count_93 rfl (lv_at hl 0 rfl) ?_
        refine xm_getI (k := 9) hx hb hts in_X1 hown hK hR (by decide) (hts _ q975) rfl dX1_count_94 ?_
        exact xm_ri hx hb hr hlocks hR hS dX1_count_97 hw
      · have hw := x_f hw c_61
        rcases Classical.em (x1 = 2) with c_62 | c_62
        · have hw := x_t hw c_62
          refine lv_tableIn (off := 55) (tgt := 98) hx hb dX1_count_43 (by rw [c_62]; decide) (by rw [c_62]; decide) (by rw [c_62]; rfl) (by decide) ?_
          refine lv_aload_n hx hb dX1_count_98 rfl (lv_at hl 0 rfl) ?_
          refine xm_getI (k := 15) hx hb hts in_X1 hown hK hR (by decide) (hts _ q981) rfl dX1_count_99 ?_
          exact xm_ri hx hb hr hlocks hR hS dX1_count_102 hw
        · have hw := x_f hw c_62
          rcases Classical.em (x1 = 3) with c_63 | c_63
          · have hw := x_t hw c_63
            refine lv_tableIn (off := 60) (tgt := 103) hx hb dX1_count_43 (by rw [c_63]; decide) (by rw [c_63]; decide) (by rw [c_63]; rfl) (by decide) ?_
            refine lv_aload_n hx hb dX1_count_103 rfl (lv_at hl 0 rfl) ?_
            refine xm_getI (k := 17) hx hb hts in_X1 hown hK hR (by decide) (hts _ q983) rfl dX1_count_104 ?_
            exact xm_ri hx hb hr hlocks hR hS dX1_count_107 hw
          · have hw := x_f hw c_63
            rcases Classical.em (x1 = 4) with c_64 | c_64
            · have hw := x_t hw c_64
              refine lv_tableIn (off := 65) (tgt := 108) hx hb dX1_count_43 (by rw [c_64]; decide) (by rw [c_64]; decide) (by rw [c_64]; rfl) (by decide) ?_
              refine lv_aload_n hx hb dX1_count_108 rfl (lv_at hl 0 rfl) ?_
              refine xm_getI (k := 22) hx hb hts in_X1 hown hK hR (by decide) (hts _ q988) rfl dX1_count_109 ?_
              exact xm_ri hx hb hr hlocks hR hS dX1_count_112 hw
            · have hw := x_f hw c_64
              rcases Classical.em (x1 = 5) with c_65 | c_65
              · have hw := x_t hw c_65
                refine lv_tableIn (off := 70) (tgt := 113) hx hb dX1_count_43 (by rw [c_65]; decide) (by rw [c_65]; decide) (by rw [c_65]; rfl) (by decide) ?_
                refine lv_aload_n hx hb dX1_count_113 rfl (lv_at hl 0 rfl) ?_
                refine xm_getI (k := 31) hx hb hts in_X1 hown hK hR (by decide) (hts _ q997) rfl dX1_count_114 ?_
                exact xm_ri hx hb hr hlocks hR hS dX1_count_117 hw
              · have hw := x_f hw c_65
                rcases Classical.em (x1 = 6) with c_66 | c_66
                · have hw := x_t hw c_66
                  refine lv_tableIn (off := 75) (tgt := 118) hx hb dX1_count_43 (by rw [c_66]; decide) (by rw [c_66]; decide) (by rw [c_66]; rfl) (by decide) ?_
                  refine lv_iload_n hx hb dX1_count_118 rfl (lv_at hl 2 rfl) ?_
                  exact xm_ri hx hb hr hlocks hR hS dX1_count_119 hw
                · have hw := x_f hw c_66
                  rcases Classical.em (x1 = 7) with c_67 | c_67
                  · have hw := x_t hw c_67
                    refine lv_tableIn (off := 77) (tgt := 120) hx hb dX1_count_43 (by rw [c_67]; decide) (by rw [c_67]; decide) (by rw [c_67]; rfl) (by decide) ?_
                    refine lv_aload_n hx hb dX1_count_120 rfl (lv_at hl 0 rfl) ?_
                    refine xm_getI (k := 1) hx hb hts in_X1 hown hK hR (by decide) (hts _ q967) rfl dX1_count_121 ?_
                    exact xm_ri hx hb hr hlocks hR hS dX1_count_124 hw
                  · have hw := x_f hw c_67
                    refine lv_tableOut (tgt := 125) hx hb dX1_count_43 (x_swo 7 (fun j hj => by rcases (show j = 0 ∨ j = 1 ∨ j = 2 ∨ j = 3 ∨ j = 4 ∨ j = 5 ∨ j = 6 ∨ j = 7 by omega) with rfl | rfl | rfl | rfl | rfl | rfl | rfl | rfl <;> assumption)) (by decide) ?_
                    refine lv_bipush (v := (-2)) hx hb dX1_count_125 (by decide) ?_
                    exact xm_ri hx hb hr hlocks hR hS dX1_count_127 hw
  · have hw := x_f hw c_5
    refine lv_iload_n hx hb dX1_count_17 rfl (lv_at hl 2 rfl) ?_
    refine lv_aload_n hx hb dX1_count_18 rfl (lv_at hl 0 rfl) ?_
    refine lv_iload_n hx hb dX1_count_19 rfl (lv_at hl 3 rfl) ?_
    refine xm_ci (va_runV (As := [.int x3_3]) (rest := [.int x2_2]) ⟨hx, hb, hml, hown, hts⟩ (mt_X1_placeOf l hw) (cwV 1 hts (lw_V q1146 q1148 qs40 q65 q1149) rfl rfl rfl hd_X1_placeOf ⟨Nat.le_of_ble_eq_true rfl, Nat.le_of_ble_eq_true rfl⟩) ⟨x_Pc_blind, xm_recv hR hK, x_Pc_pre hR hz hS hK⟩ rfl rfl hl.1 rfl (lv_room (Nat.le_of_ble_eq_true rfl)) dX1_count_20 ⟨Nat.le_refl _, Nat.le_refl _⟩) hS (fun r_7 M_8 H locs hp hR hS => ?_)
    have hw := hp.2
    rw [hp.1] at hR
    refine xm_ci (va_runS (As := [.int r_7]) (rest := [.int x2_2]) ⟨hx, hb, hml, hown, hts⟩ (mt_X1_isStreet l hw) (va_cwS 1 hts (lw_S q1162 q1163 q65 q1164) rfl rfl rfl hd_X1_isStreet.2 ⟨Nat.le_of_ble_eq_true rfl, Nat.le_of_ble_eq_true rfl⟩) ⟨x_Pc_blind, x_Pc_pre hR hz hS hK⟩ rfl rfl hl.1 rfl (lv_room (Nat.le_of_ble_eq_true rfl)) dX1_count_23 ⟨Nat.le_refl _, Nat.le_refl _⟩) hS (fun r_9 M_10 H locs hp hR hS => ?_)
    have hw := hp.2
    rw [hp.1] at hR
    refine x_jn (G := fun (v1_11 : Int32) => ∀ (ls : Array Slot) (H : Heap) (locs : List Loc), x_Rp D d (x_A base) (x_mc d mo Aa M_1) S H → va_S (x_A base) s.heap H locs → lv_has ls 4 [(0, .ref mo), (1, .int x1), (3, .int x3_3)] → W p l e (x_rm 2 0 0 45) s m ([.ref mo, .int x1] : List Value).toArray below meth c H locs 0 0 (MQ below (xm_Qi D d base mo Aa S (fun r M' => Q r M')) ([.ref mo, .int x1] : List Value).toArray s 0 0 (x_A base)) (F0 m 34 ls [.int v1_11, .int x2_2])) hw (fun v1_11 hw => ?_) (fun hJ_12 hw => ?_)
    · intro ls H locs hR hS hl
      refine lv_iadd hx hb dX1_count_34 ?_
      refine lv_topi (fun x2_13 ex2_13 => ?_)
      have hw := hw x2_13 ex2_13
      refine lv_istore_n (lv' := [(2, .int x2_13), (0, .ref mo), (1, .int x1), (3, .int x3_3)]) hx hb dX1_count_35 rfl hl (by decide) rfl (fun ls hl => ?_)
      refine lv_iinc (v := (x3_3 + 1)) (lv' := [(3, .int (x3_3 + 1)), (2, .int x2_13), (0, .ref mo), (1, .int x1)]) hx hb dX1_count_36 hl (k := 3) rfl rfl (by decide) rfl (fun ls hl => ?_)
      refine lv_goto (tgt := 9) hx hb dX1_count_39 (by decide) ?_
      exact hw ls _ _ hR hS (lv_sub hl [2, 3, 1, 0] rfl)
    · refine lv_if_eq (tgt := 33) hx hb dX1_count_26 (by decide) (fun c_14 => ?_) (fun c_14 => ?_)
      · have hw := x_t hw c_14
        refine lv_iconst (v := 1) hx hb dX1_count_33 (by decide) ?_
        exact hJ_12 1 hw ls _ _ hR hS (lv_sub hl [0, 1, 3] rfl)
      · have hw := x_f hw c_14
        refine lv_iconst (v := 0) hx hb dX1_count_29 (by decide) ?_
        refine lv_goto (tgt := 34) hx hb dX1_count_30 (by decide) ?_
        exact hJ_12 0 hw ls _ _ hR hS (lv_sub hl [0, 1, 3] rfl)
