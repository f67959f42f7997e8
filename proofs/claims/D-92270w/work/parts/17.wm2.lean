set_option maxRecDepth 100000
def w_X1_run (M : xM) (x1 : Int32) (Q : Int32 → xM → Prop) : Prop := nm (m1 M 0 0) (fun M_1 : xM => w_X1_noMan M_1 x1 (fun (r_2 : Int32) => wif (r_2 = 0) (w_X1_placeOf M_1 x1 (fun (r_5 : Int32) => wif (r_5 = 23) (Q (-3) M_1) (w_X1_go M_1 x1 23 (fun (M_8 : xM) => Q r_5 M_8)))) (Q (-1) M_1)))
theorem hd_X1_run : yX1_run.cls = "PressedMenModel" ∧ yX1_run.cls ≠ "java/lang/invoke/MethodHandle" ∧ yX1_run.cls ≠ "java/lang/invoke/VarHandle" ∧ (parseMethodDescriptor yX1_run.desc).map (fun d => d.parameters.length) = some 1 := by decide +kernel
set_option maxHeartbeats 4000000 in
theorem mt_X1_run (l : Launch) {D : va_G} {d : Nat → ClassId} {base : Nat} {mo : Nat} {Aa : Nat → Nat} {M : xM} {S : xH} {x1 : Int32} {Q : Int32 → xM → Prop} (hw : w_X1_run M x1 Q) : Met l yX1_run (ws_ yX1_run cX1_run 3 (some FieldType.int)) (x_rm 2 0 0 46) (x_Pc D d base (x_mc d mo Aa M) S [.ref mo, .int x1]) (xm_Qi D d base mo Aa S (fun r M' => Q r M')) 0 0 (x_A base) := by
  refine x_met (by decide) (Nat.le_of_ble_eq_true rfl) ?_
  intro p e s m below meth c hx hb hml hr hlocks hown hts hz hR hK hin ls hl
  have hown : s.vm.findClass "PressedMenModel" = some m.cls := hown
  have hl : lv_has ls 3 [(0, .ref mo), (1, .int x1)] := hl
  have hS : va_S (x_A base) s.heap s.heap [] := va_S.rf
  unfold w_X1_run at hw
  refine lv_aload_n hx hb dX1_run_0 rfl (lv_at hl 0 rfl) ?_
  refine lv_iconst (v := 0) hx hb dX1_run_1 (by decide) ?_
  refine xm_putI (M := M) (k := 0) hx hb hts in_X1 hown hK hR hS (by decide) (hts _ q966) rfl rfl rfl rfl dX1_run_2 (fun H locs hR hS => ?_)
  obtain ⟨M_1, eM_1⟩ : ∃ z, z = (m1 M 0 0) := ⟨_, rfl⟩
  rw [← eM_1] at hR
  have hw := hw M_1 eM_1
  refine lv_aload_n hx hb dX1_run_5 rfl (lv_at hl 0 rfl) ?_
  refine lv_iload_n hx hb dX1_run_6 rfl (lv_at hl 1 rfl) ?_
  refine xm_ci (va_runV (As := [.int x1]) (rest := []) ⟨hx, hb, hml, hown, hts⟩ (mt_X1_noMan l hw) (cwV 1 hts (lw_V q1123 q1125 qs38 q65 q1126) rfl rfl rfl hd_X1_noMan ⟨Nat.le_of_ble_eq_true rfl, Nat.le_of_ble_eq_true rfl⟩) ⟨x_Pc_blind, xm_recv hR hK, x_Pc_pre hR hz hS hK⟩ rfl rfl hl.1 rfl (lv_room (Nat.le_of_ble_eq_true rfl)) dX1_run_7 ⟨Nat.le_refl _, Nat.le_refl _⟩) hS (fun r_2 M_3 H locs hp hR hS => ?_)
  have hw := hp.2
  rw [hp.1] at hR
  refine lv_if_eq (tgt := 15) hx hb dX1_run_10 (by decide) (fun c_4 => ?_) (fun c_4 => ?_)
  · have hw := x_t hw c_4
    refine lv_aload_n hx hb dX1_run_15 rfl (lv_at hl 0 rfl) ?_
    refine lv_iload_n hx hb dX1_run_16 rfl (lv_at hl 1 rfl) ?_
    refine xm_ci (va_runV (As := [.int x1]) (rest := []) ⟨hx, hb, hml, hown, hts⟩ (mt_X1_placeOf l hw) (cwV 1 hts (lw_V q1146 q1148 qs40 q65 q1149) rfl rfl rfl hd_X1_placeOf ⟨Nat.le_of_ble_eq_true rfl, Nat.le_of_ble_eq_true rfl⟩) ⟨x_Pc_blind, xm_recv hR hK, x_Pc_pre hR hz hS hK⟩ rfl rfl hl.1 rfl (lv_room (Nat.le_of_ble_eq_true rfl)) dX1_run_17 ⟨Nat.le_refl _, Nat.le_refl _⟩) hS (fun r_5 M_6 H locs hp hR hS => ?_)
    have hw := hp.2
    rw [hp.1] at hR
    refine lv_istore_n (lv' := [(2, .int r_5), (0, .ref mo), (1, .int x1)]) hx hb dX1_run_20 rfl hl (by decide) rfl (fun ls hl => ?_)
    refine lv_iload_n hx hb dX1_run_21 rfl (lv_at hl 0 rfl) ?_
    refine lv_bipush (v := 23) hx hb dX1_run_22 (by decide) ?_
    refine lv_icmp_ne (tgt := 30) hx hb dX1_run_24 (by decide) (fun c_7 => ?_) (fun c_7 => ?_)
    · have hw := x_f hw c_7
      refine lv_aload_n hx hb dX1_run_30 rfl (lv_at hl 1 rfl) ?_
      refine lv_iload_n hx hb dX1_run_31 rfl (lv_at hl 2 rfl) ?_
      refine lv_bipush (v := 23) hx hb dX1_run_32 (by decide) ?_
      refine xm_cv (va_runV (As := [.int x1, .int 23]) (rest := []) ⟨hx, hb, hml, hown, hts⟩ (mt_X1_go l hw) (cwV 2 hts (lw_V q1169 q1171 qs43 q65 q1172) rfl rfl rfl hd_X1_go ⟨Nat.le_of_ble_eq_true rfl, Nat.le_of_ble_eq_true rfl⟩) ⟨x_Pc_blind, xm_recv hR hK, x_Pc_pre hR hz hS hK⟩ rfl rfl hl.1 rfl (lv_room (Nat.le_of_ble_eq_true rfl)) dX1_run_34 ⟨Nat.le_refl _, Nat.le_refl _⟩) hS (fun M_8 H locs hp hR hS => ?_)
      have hw := hp
      refine lv_iload_n hx hb dX1_run_37 rfl (lv_at hl 0 rfl) ?_
      exact xm_ri hx hb hr hlocks hR hS dX1_run_38 hw
    · have hw := x_t hw c_7
      refine lv_bipush (v := (-3)) hx hb dX1_run_27 (by decide) ?_
      exact xm_ri hx hb hr hlocks hR hS dX1_run_29 hw
  · have hw := x_f hw c_4
    refine lv_iconst (v := (-1)) hx hb dX1_run_13 (by decide) ?_
    exact xm_ri hx hb hr hlocks hR hS dX1_run_14 hw
def w_X1_badLook (M : xM) (x0 : Int32) (Q : Int32 → Prop) : Prop := wif (x0 = (-9)) (Q 0) (w_X1_in M (Int32.toInt64 x0) 0 3 (fun (r_2 : Int32) => wif (r_2 = 0) (Q 1) (Q 0)))
theorem hd_X1_badLook : yX1_badLook.cls = "PressedMenModel" ∧ yX1_badLook.cls ≠ "java/lang/invoke/MethodHandle" ∧ yX1_badLook.cls ≠ "java/lang/invoke/VarHandle" ∧ (parseMethodDescriptor yX1_badLook.desc).map (fun d => d.parameters.length) = some 1 := by decide +kernel
set_option maxHeartbeats 4000000 in
theorem mt_X1_badLook (l : Launch) {D : va_G} {d : Nat → ClassId} {base : Nat} {mo : Nat} {Aa : Nat → Nat} {M : xM} {S : xH} {x0 : Int32} {Q : Int32 → Prop} (hw : w_X1_badLook M x0 Q) : Met l yX1_badLook (ws_ yX1_badLook cX1_badLook 1 (some FieldType.boolean)) (x_rm 1 0 0 25) (x_Pc D d base (x_mc d mo Aa M) S [.int x0]) (xm_Qi D d base mo Aa S (fun r M' => M' = M ∧ Q r)) 0 0 (x_A base) := by
  refine x_met (by decide) (Nat.le_of_ble_eq_true rfl) ?_
  intro p e s m below meth c hx hb hml hr hlocks hown hts hz hR hK hin ls hl
  have hown : s.vm.findClass "PressedMenModel" = some m.cls := hown
  have hl : lv_has ls 1 [(0, .int x0)] := hl
  have hS : va_S (x_A base) s.heap s.heap [] := va_S.rf
  unfold w_X1_badLook at hw
  refine lv_iload_n hx hb dX1_badLook_0 rfl (lv_at hl 0 rfl) ?_
  refine lv_bipush (v := (-9)) hx hb dX1_badLook_1 (by decide) ?_
  refine lv_icmp_eq (tgt := 22) hx hb dX1_badLook_3 (by decide) (fun c_1 => ?_) (fun c_1 => ?_)
  · have hw := x_t hw c_1
    refine lv_iconst (v := 0) hx hb dX1_badLook_22 (by decide) ?_
    exact xm_rz hx hb hr hlocks hR hS dX1_badLook_23 (Or.inl rfl) ⟨rfl, hw⟩
  · have hw := x_f hw c_1
    refine lv_iload_n hx hb dX1_badLook_6 rfl (lv_at hl 0 rfl) ?_
    refine lv_i2l (v := (Int32.toInt64 x0)) hx hb dX1_badLook_7 rfl ?_
    refine lv_lconst (v := 0) hx hb dX1_badLook_8 (by decide) ?_
    refine lv_ldc2 (v := 3) hx hb hown (hts _ q1114) dX1_badLook_9 ?_
    refine xm_ci (va_runS (As := [.long (Int32.toInt64 x0), .long 0, .long 3]) (rest := []) ⟨hx, hb, hml, hown, hts⟩ (mt_X1_in l hw) (va_cwS 3 hts (lw_S q1089 q1090 q65 q1091) rfl rfl rfl hd_X1_in.2 ⟨Nat.le_of_ble_eq_true rfl, Nat.le_of_ble_eq_true rfl⟩) ⟨x_Pc_blind, x_Pc_pre hR hz hS hK⟩ rfl rfl hl.1 rfl (lv_room (Nat.le_of_ble_eq_true rfl)) dX1_badLook_12 ⟨Nat.le_refl _, Nat.le_refl _⟩) hS (fun r_2 M_3 H locs hp hR hS => ?_)
    have hw := hp.2
    rw [hp.1] at hR
    refine lv_if_ne (tgt := 22) hx hb dX1_badLook_15 (by decide) (fun c_4 => ?_) (fun c_4 => ?_)
    · have hw := x_f hw c_4
      refine lv_iconst (v := 0) hx hb dX1_badLook_22 (by decide) ?_
      exact xm_rz hx hb hr hlocks hR hS dX1_badLook_23 (Or.inl rfl) ⟨rfl, hw⟩
    · have hw := x_t hw c_4
      refine lv_iconst (v := 1) hx hb dX1_badLook_18 (by decide) ?_
      refine lv_goto (tgt := 23) hx hb dX1_badLook_19 (by decide) ?_
      exact xm_rz hx hb hr hlocks hR hS dX1_badLook_23 (Or.inr rfl) ⟨rfl, hw⟩
def w_X1_badSpan (M : xM) (x0 : Int32) (x1 : Int32) (x2 : Int32) (Q : Int32 → Prop) : Prop := w_X1_in M (Int32.toInt64 x0) 0 (Int32.toInt64 x1) (fun (r_1 : Int32) => wif (r_1 = 0) (Q 1) (wif (x1 ≤ x2) (Q 0) (Q 1)))
theorem hd_X1_badSpan : yX1_badSpan.cls = "PressedMenModel" ∧ yX1_badSpan.cls ≠ "java/lang/invoke/MethodHandle" ∧ yX1_badSpan.cls ≠ "java/lang/invoke/VarHandle" ∧ (parseMethodDescriptor yX1_badSpan.desc).map (fun d => d.parameters.length) = some 3 := by decide +kernel
set_option maxHeartbeats 4000000 in
theorem mt_X1_badSpan (l : Launch) {D : va_G} {d : Nat → ClassId} {base : Nat} {mo : Nat} {Aa : Nat → Nat} {M : xM} {S : xH} {x0 : Int32} {x1 : Int32} {x2 : Int32} {Q : Int32 → Prop} (hw : w_X1_badSpan M x0 x1 x2 Q) : Met l yX1_badSpan (ws_ yX1_badSpan cX1_badSpan 3 (some FieldType.boolean)) (x_rm 1 0 0 25) (x_Pc D d base (x_mc d mo Aa M) S [.int x0, .int x1, .int x2]) (xm_Qi D d base mo Aa S (fun r M' => M' = M ∧ Q r)) 0 0 (x_A base) := by
  refine x_met (by decide) (Nat.le_of_ble_eq_true rfl) ?_
  intro p e s m below meth c hx hb hml hr hlocks hown hts hz hR hK hin ls hl
  have hown : s.vm.findClass "PressedMenModel" = some m.cls := hown
  have hl : lv_has ls 3 [(0, .int x0), (1, .int x1), (2, .int x2)] := hl
  have hS : va_S (x_A base) s.heap s.heap [] := va_S.rf
  unfold w_X1_badSpan at hw
  refine lv_iload_n hx hb dX1_badSpan_0 rfl (lv_at hl 0 rfl) ?_
  refine lv_i2l (v := (Int32.toInt64 x0)) hx hb dX1_badSpan_1 rfl ?_
  refine lv_lconst (v := 0) hx hb dX1_badSpan_2 (by decide) ?_
  refine lv_iload_n hx hb dX1_badSpan_3 rfl (lv_at hl 1 rfl) ?_
  refine lv_i2l (v := (Int32.toInt64 x1)) hx hb dX1_badSpan_4 rfl ?_
  refine xm_ci (va_runS (As := [.long (Int32.toInt64 x0), .long 0, .long (Int32.toInt64 x1)]) (rest := []) ⟨hx, hb, hml, hown, hts⟩ (mt_X1_in l hw) (va_cwS 3 hts (lw_S q1089 q1090 q65 q1091) rfl rfl rfl hd_X1_in.2 ⟨Nat.le_of_ble_eq_true rfl, Nat.le_of_ble_eq_true rfl⟩) ⟨x_Pc_blind, x_Pc_pre hR hz hS hK⟩ rfl rfl hl.1 rfl (lv_room (Nat.le_of_ble_eq_true rfl)) dX1_badSpan_5 ⟨Nat.le_refl _, Nat.le_refl _⟩) hS (fun r_1 M_2 H locs hp hR hS => ?_)
  have hw := hp.2
  rw [hp.1] at hR
  refine lv_if_eq (tgt := 16) hx hb dX1_badSpan_8 (by decide) (fun c_3 => ?_) (fun c_3 => ?_)
  · have hw := x_t hw c_3
    refine lv_iconst (v := 1) hx hb dX1_badSpan_16 (by decide) ?_
    refine lv_goto (tgt := 21) hx hb dX1_badSpan_17 (by decide) ?_
    exact xm_rz hx hb hr hlocks hR hS dX1_badSpan_21 (Or.inr rfl) ⟨rfl, hw⟩
  · have hw := x_f hw c_3
    refine lv_iload_n hx hb dX1_badSpan_11 rfl (lv_at hl 1 rfl) ?_
    refine lv_iload_n hx hb dX1_badSpan_12 rfl (lv_at hl 2 rfl) ?_
    refine lv_icmp_le (tgt := 20) hx hb dX1_badSpan_13 (by decide) (fun c_4 => ?_) (fun c_4 => ?_)
    · have hw := x_t hw c_4
      refine lv_iconst (v := 0) hx hb dX1_badSpan_20 (by decide) ?_
      exact xm_rz hx hb hr hlocks hR hS dX1_badSpan_21 (Or.inl rfl) ⟨rfl, hw⟩
    · have hw := x_f hw c_4
      refine lv_iconst (v := 1) hx hb dX1_badSpan_16 (by decide) ?_
      refine lv_goto (tgt := 21) hx hb dX1_badSpan_17 (by decide) ?_
      exact xm_rz hx hb hr hlocks hR hS dX1_badSpan_21 (Or.inr rfl) ⟨rfl, hw⟩
def w_X1_paper (M : xM) (x1 : Int32) (x2 : Int32) (x3 : Int32) (x4 : Int32) (x5 : Int32) (x6 : Int32) (x7 : Int32) (x8 : Int32) (x9 : Int32) (Q : Int32 → xM → Prop) : Prop := nm (m1 M 0 0) (fun M_1 : xM => w_X1_noMan M_1 x1 (fun (r_2 : Int32) => wif (r_2 = 0) (w_X1_badLook M_1 x2 (fun (r_5 : Int32) => wif (r_5 = 0) (w_X1_badLook M_1 x3 (fun (r_8 : Int32) => wif (r_8 = 0) (w_X1_badSpan M_1 x4 x5 99 (fun (r_11 : Int32) => wif (r_11 = 0) (w_X1_badSpan M_1 x6 x7 99 (fun (r_14 : Int32) => wif (r_14 = 0) (w_X1_badSpan M_1 x8 x9 899 (fun (r_17 : Int32) => wif (r_17 = 0) (wif ((M1 M_1 15) = 60) (Q (-4) M_1) (nm (9 * (M1 M_1 15)) (fun x10_21 : Int32 => vp_in x10_21 540 ∧ nm (m2 M_1 16 (Int32.toNatClampNeg x10_21) x1) (fun M_22 : xM => vp_in (x10_21 + 1) 540 ∧ nm (m2 M_22 16 (Int32.toNatClampNeg (x10_21 + 1)) x2) (fun M_23 : xM => vp_in (x10_21 + 2) 540 ∧ nm (m2 M_23 16 (Int32.toNatClampNeg (x10_21 + 2)) x3) (fun M_24 : xM => vp_in (x10_21 + 3) 540 ∧ nm (m2 M_24 16 (Int32.toNatClampNeg (x10_21 + 3)) x4) (fun M_25 : xM => vp_in (x10_21 + 4) 540 ∧ nm (m2 M_25 16 (Int32.toNatClampNeg (x10_21 + 4)) x5) (fun M_26 : xM => vp_in (x10_21 + 5) 540 ∧ nm (m2 M_26 16 (Int32.toNatClampNeg (x10_21 + 5)) x6) (fun M_27 : xM => vp_in (x10_21 + 6) 540 ∧ nm (m2 M_27 16 (Int32.toNatClampNeg (x10_21 + 6)) x7) (fun M_28 : xM => vp_in (x10_21 + 7) 540 ∧ nm (m2 M_28 16 (Int32.toNatClampNeg (x10_21 + 7)) x8) (fun M_29 : xM => vp_in (x10_21 + 8) 540 ∧ nm (m2 M_29 16 (Int32.toNatClampNeg (x10_21 + 8)) x9) (fun M_30 : xM => nm (m1 M_30 15 ((M1 M_30 15) + 1)) (fun M_31 : xM => Q ((M1 M_31 15) - 1) M_31))))))))))))) (Q (-2) M_1))) (Q (-2) M_1))) (Q (-2) M_1))) (Q (-2) M_1))) (Q (-2) M_1))) (Q (-1) M_1)))
theorem hd_X1_paper : yX1_paper.cls = "PressedMenModel" ∧ yX1_paper.cls ≠ "java/lang/invoke/MethodHandle" ∧ yX1_paper.cls ≠ "java/lang/invoke/VarHandle" ∧ (parseMethodDescriptor yX1_paper.desc).map (fun d => d.parameters.length) = some 9 := by decide +kernel
set_option maxHeartbeats 4000000 in
theorem mt_X1_paper (l : Launch) {D : va_G} {d : Nat → ClassId} {base : Nat} {mo : Nat} {Aa : Nat → Nat} {M : xM} {S : xH} {x1 : Int32} {x2 : Int32} {x3 : Int32} {x4 : Int32} {x5 : Int32} {x6 : Int32} {x7 : Int32} {x8 : Int32} {x9 : Int32} {Q : Int32 → xM → Prop} (hw : w_X1_paper M x1 x2 x3 x4 x5 x6 x7 x8 x9 Q) : Met l yX1_paper (ws_ yX1_paper cX1_paper 11 (some FieldType.int)) (x_rm 2 0 0 47) (x_Pc D d base (x_mc d mo Aa M) S [.ref mo, .int x1, .int x2, .int x3, .int x4, .int x5, .int x6, .int x7, .int x8, .int x9]) (xm_Qi D d base mo Aa S (fun r M' => Q r M')) 0 0 (x_A base) := by
  refine x_met (by decide) (Nat.le_of_ble_eq_true rfl) ?_
  intro p e s m below meth c hx hb hml hr hlocks hown hts hz hR hK hin ls hl
  have hown : s.vm.findClass "PressedMenModel" = some m.cls := hown
  have hl : lv_has ls 11 [(0, .ref mo), (1, .int x1), (2, .int x2), (3, .int x3), (4, .int x4), (5, .int x5), (6, .int x6), (7, .int x7), (8, .int x8), (9, .int x9)] := hl
  have hS : va_S (x_A base) s.heap s.heap [] := va_S.rf
  unfold w_X1_paper at hw
  refine lv_aload_n hx hb dX1_paper_0 rfl (lv_at hl 0 rfl) ?_
  refine lv_iconst (v := 0) hx hb dX1_paper_1 (by decide) ?_
  refine xm_putI (M := M) (k := 0) hx hb hts in_X1 hown hK hR hS (by decide) (hts _ q966) rfl rfl rfl rfl dX1_paper_2 (fun H locs hR hS => ?_)
  obtain ⟨M_1, eM_1⟩ : ∃ z, z = (m1 M 0 0) := ⟨_, rfl⟩
  rw [← eM_1] at hR
  have hw := hw M_1 eM_1
  refine lv_aload_n hx hb dX1_paper_5 rfl (lv_at hl 0 rfl) ?_
  refine lv_iload_n hx hb dX1_paper_6 rfl (lv_at hl 1 rfl) ?_
  refine xm_ci (va_runV (As := [.int x1]) (rest := []) ⟨hx, hb, hml, hown, hts⟩ (mt_X1_noMan l hw) (cwV 1 hts (lw_V q1123 q1125 qs38 q65 q1126) rfl rfl rfl hd_X1_noMan ⟨Nat.le_of_ble_eq_true rfl, Nat.le_of_ble_eq_true rfl⟩) ⟨x_Pc_blind, xm_recv hR hK, x_Pc_pre hR hz hS hK⟩ rfl rfl hl.1 rfl (lv_room (Nat.le_of_ble_eq_true rfl)) dX1_paper_7 ⟨Nat.le_refl _, Nat.le_refl _⟩) hS (fun r_2 M_3 H locs hp hR hS => ?_)
  have hw := hp.2
  rw [hp.1] at hR
  refine lv_if_eq (tgt := 15) hx hb dX1_paper_10 (by decide) (fun c_4 => ?_) (fun c_4 => ?_)
  · have hw := x_t hw c_4
    refine lv_iload_n hx hb dX1_paper_15 rfl (lv_at hl 2 rfl) ?_
    refine xm_ci (va_runS (As := [.int x2]) (rest := []) ⟨hx, hb, hml, hown, hts⟩ (mt_X1_badLook l hw) (va_cwS 1 hts (lw_S q1185 q1186 q65 q1187) rfl rfl rfl hd_X1_badLook.2 ⟨Nat.le_of_ble_eq_true rfl, Nat.le_of_ble_eq_true rfl⟩) ⟨x_Pc_blind, x_Pc_pre hR hz hS hK⟩ rfl rfl hl.1 rfl (lv_room (Nat.le_of_ble_eq_true rfl)) dX1_paper_16 ⟨Nat.le_refl _, Nat.le_refl _⟩) hS (fun r_5 M_6 H locs hp hR hS => ?_)
    have hw := hp.2
    rw [hp.1] at hR
    refine lv_if_ne (tgt := 66) hx hb dX1_paper_19 (by decide) (fun c_7 => ?_) (fun c_7 => ?_)
    · have hw := x_f hw c_7
      refine lv_bipush (v := (-2)) hx hb dX1_paper_66 (by decide) ?_
      exact xm_ri hx hb hr hlocks hR hS dX1_paper_68 hw
    · have hw := x_t hw c_7
      refine lv_iload_n hx hb dX1_paper_22 rfl (lv_at hl 3 rfl) ?_
      refine xm_ci (va_runS (As := [.int x3]) (rest := []) ⟨hx, hb, hml, hown, hts⟩ (mt_X1_badLook l hw) (va_cwS 1 hts (lw_S q1185 q1186 q65 q1187) rfl rfl rfl hd_X1_badLook.2 ⟨Nat.le_of_ble_eq_true rfl, Nat.le_of_ble_eq_true rfl⟩) ⟨x_Pc_blind, x_Pc_pre hR hz hS hK⟩ rfl rfl hl.1 rfl (lv_room (Nat.le_of_ble_eq_true rfl)) dX1_paper_23 ⟨Nat.le_refl _, Nat.le_refl _⟩) hS (fun r_8 M_9 H locs hp hR hS => ?_)
      have hw := hp.2
      rw [hp.1] at hR
      refine lv_if_ne (tgt := 66) hx hb dX1_paper_26 (by decide) (fun c_10 => ?_) (fun c_10 => ?_)
      · have hw := x_f hw c_10
        refine lv_bipush (v := (-2)) hx hb dX1_paper_66 (by decide) ?_
        exact xm_ri hx hb hr hlocks hR hS dX1_paper_68 hw
      · have hw := x_t hw c_10
        refine lv_iload hx hb dX1_paper_29 (lv_at hl 4 rfl) ?_
        refine lv_iload hx hb dX1_paper_31 (lv_at hl 5 rfl) ?_
        refine lv_bipush (v := 99) hx hb dX1_paper_33 (by decide) ?_
        refine xm_ci (va_runS (As := [.int x4, .int x5, .int 99]) (rest := []) ⟨hx, hb, hml, hown, hts⟩ (mt_X1_badSpan l hw) (va_cwS 3 hts (lw_S q1188 q1189 q65 q1190) rfl rfl rfl hd_X1_badSpan.2 ⟨Nat.le_of_ble_eq_true rfl, Nat.le_of_ble_eq_true rfl⟩) ⟨x_Pc_blind, x_Pc_pre hR hz hS hK⟩ rfl rfl hl.1 rfl (lv_room (Nat.le_of_ble_eq_true rfl)) dX1_paper_35 ⟨Nat.le_refl _, Nat.le_refl _⟩) hS (fun r_11 M_12 H locs hp hR hS => ?_)
        have hw := hp.2
        rw [hp.1] at hR
        refine lv_if_ne (tgt := 66) hx hb dX1_paper_38 (by decide) (fun c_13 => ?_) (fun c_13 => ?_)
        · have hw := x_f hw c_13
          refine lv_bipush (v := (-2)) hx hb dX1_paper_66 (by decide) ?_
          exact xm_ri hx hb hr hlocks hR hS dX1_paper_68 hw
        · have hw := x_t hw c_13
          refine lv_iload hx hb dX1_paper_41 (lv_at hl 6 rfl) ?_
          refine lv_iload hx hb dX1_paper_43 (lv_at hl 7 rfl) ?_
          refine lv_bipush (v := 99) hx hb dX1_paper_45 (by decide) ?_
          refine xm_ci (va_runS (As := [.int x6, .int x7, .int 99]) (rest := []) ⟨hx, hb, hml, hown, hts⟩ (mt_X1_badSpan l hw) (va_cwS 3 hts (lw_S q1188 q1189 q65 q1190) rfl rfl rfl hd_X1_badSpan.2 ⟨Nat.le_of_ble_eq_true rfl, Nat.le_of_ble_eq_true rfl⟩) ⟨x_Pc_blind, x_Pc_pre hR hz hS hK⟩ rfl rfl hl.1 rfl (lv_room (Nat.le_of_ble_eq_true rfl)) dX1_paper_47 ⟨Nat.le_refl _, Nat.le_refl _⟩) hS (fun r_14 M_15 H locs hp hR hS => ?_)
          have hw := hp.2
          rw [hp.1] at hR
          refine lv_if_ne (tgt := 66) hx hb dX1_paper_50 (by decide) (fun c_16 => ?_) (fun c_16 => ?_)
          · have hw := x_f hw c_16
            refine lv_bipush (v := (-2)) hx hb dX1_paper_66 (by decide) ?_
            exact xm_ri hx hb hr hlocks hR hS dX1_paper_68 hw
          · have hw := x_t hw c_16
            refine lv_iload hx hb dX1_paper_53 (lv_at hl 8 rfl) ?_
            refine lv_iload hx hb dX1_paper_55 (lv_at hl 9 rfl) ?_
            refine lv_sipush (v := 899) hx hb dX1_paper_57 (by decide) ?_
            refine xm_ci (va_runS (As := [.int x8, .int x9, .int 899]) (rest := []) ⟨hx, hb, hml, hown, hts⟩ (mt_X1_badSpan l hw) (va_cwS 3 hts (lw_S q1188 q1189 q65 q1190) rfl rfl rfl hd_X1_badSpan.2 ⟨Nat.le_of_ble_eq_true rfl, Nat.le_of_ble_eq_true rfl⟩) ⟨x_Pc_blind, x_Pc_pre hR hz hS hK⟩ rfl rfl hl.1 rfl (lv_room (Nat.le_of_ble_eq_true rfl)) dX1_paper_60 ⟨Nat.le_refl _, Nat.le_refl _⟩) hS (fun r_17 M_18 H locs hp hR hS => ?_)
            have hw := hp.2
            rw [hp.1] at hR
            refine lv_if_eq (tgt := 69) hx hb dX1_paper_63 (by decide) (fun c_19 => ?_) (fun c_19 => ?_)
            · have hw := x_t hw c_19
              refine lv_aload_n hx hb dX1_paper_69 rfl (lv_at hl 0 rfl) ?_
              refine xm_getI (k := 15) hx hb hts in_X1 hown hK hR (by decide) (hts _ q981) rfl dX1_paper_70 ?_
              refine lv_bipush (v := 60) hx hb dX1_paper_73 (by decide) ?_
              refine lv_icmp_ne (tgt := 81) hx hb dX1_paper_75 (by decide) (fun c_20 => ?_) (fun c_20 => ?_)
              · have hw := x_f hw c_20
                refine lv_bipush (v := 9) hx hb dX1_paper_81 (by decide) ?_
                refine lv_aload_n hx hb dX1_paper_83 rfl (lv_at hl 0 rfl) ?_
                refine xm_getI (k := 15) hx hb hts in_X1 hown hK hR (by decide) (hts _ q981) rfl dX1_paper_84 ?_
                refine lv_imul hx hb dX1_paper_87 ?_
                refine lv_topi (fun x10_21 ex10_21 => ?_)
                have hw := hw x10_21 ex10_21
                refine lv_istore (lv' := [(10, .int x10_21), (0, .ref mo), (1, .int x1), (2, .int x2), (3, .int x3), (4, .int x4), (5, .int x5), (6, .int x6), (7, .int x7), (8, .int x8), (9, .int x9)]) hx hb dX1_paper_88 hl (by decide) rfl (fun ls hl => ?_)
                refine lv_aload_n hx hb dX1_paper_90 rfl (lv_at hl 1 rfl) ?_
                refine xm_getA (k := 16) hx hb hts in_X1 hown hK hR (by decide) (hts _ q982) rfl dX1_paper_91 ?_
                refine lv_iload hx hb dX1_paper_94 (lv_at hl 0 rfl) ?_
                refine lv_iload_n hx hb dX1_paper_96 rfl (lv_at hl 2 rfl) ?_
                refine xm_ist (M := M_1) (k := 16) (j := 10) hx hb hK hR hS dX1_paper_97 rfl hw.1 (fun H locs hR hS => ?_)
                have hw := hw.2
                obtain ⟨M_22, eM_22⟩ : ∃ z, z = (m2 M_1 16 (Int32.toNatClampNeg x10_21) x1) := ⟨_, rfl⟩
                rw [← eM_22] at hR
                have hw := hw M_22 eM_22
                refine lv_aload_n hx hb dX1_paper_98 rfl (lv_at hl 1 rfl) ?_
                refine xm_getA (k := 16) hx hb hts in_X1 hown hK hR (by decide) (hts _ q982) rfl dX1_paper_99 ?_
                refine lv_iload hx hb dX1_paper_102 (lv_at hl 0 rfl) ?_
                refine lv_iconst (v := 1) hx hb dX1_paper_104 (by decide) ?_
                refine lv_iadd hx hb dX1_paper_105 ?_
                refine lv_iload_n hx hb dX1_paper_106 rfl (lv_at hl 3 rfl) ?_
                refine xm_ist (M := M_22) (k := 16) (j := 10) hx hb hK hR hS dX1_paper_107 rfl hw.1 (fun H locs hR hS => ?_)
                have hw := hw.2
                obtain ⟨M_23, eM_23⟩ : ∃ z, z = (m2 M_22 16 (Int32.toNatClampNeg (x10_21 + 1)) x2) := ⟨_, rfl⟩
                rw [← eM_23] at hR
                have hw := hw M_23 eM_23
                refine lv_aload_n hx hb dX1_paper_108 rfl (lv_at hl 1 rfl) ?_
                refine xm_getA (k := 16) hx hb hts in_X1 hown hK hR (by decide) (hts _ q982) rfl dX1_paper_109 ?_
                refine lv_iload hx hb dX1_paper_112 (lv_at hl 0 rfl) ?_
                refine lv_iconst (v := 2) hx hb dX1_paper_114 (by decide) ?_
                refine lv_iadd hx hb dX1_paper_115 ?_
                refine lv_iload_n hx hb dX1_paper_116 rfl (lv_at hl 4 rfl) ?_
                refine xm_ist (M := M_23) (k := 16) (j := 10) hx hb hK hR hS dX1_paper_117 rfl hw.1 (fun H locs hR hS => ?_)
                have hw := hw.2
                obtain ⟨M_24, eM_24⟩ : ∃ z, z = (m2 M_23 16 (Int32.toNatClampNeg (x10_21 + 2)) x3) := ⟨_, rfl⟩
                rw [← eM_24] at hR
                have hw := hw M_24 eM_24
                refine lv_aload_n hx hb dX1_paper_118 rfl (lv_at hl 1 rfl) ?_
                refine xm_getA (k := 16) hx hb hts in_X1 hown hK hR (by decide) (hts _ q982) rfl dX1_paper_119 ?_
                refine lv_iload hx hb dX1_paper_122 (lv_at hl 0 rfl) ?_
                refine lv_iconst (v := 3) hx hb dX1_paper_124 (by decide) ?_
                refine lv_iadd hx hb dX1_paper_125 ?_
                refine lv_iload hx hb dX1_paper_126 (lv_at hl 5 rfl) ?_
                refine xm_ist (M := M_24) (k := 16) (j := 10) hx hb hK hR hS dX1_paper_128 rfl hw.1 (fun H locs hR hS => ?_)
                have hw := hw.2
                obtain ⟨M_25, eM_25⟩ : ∃ z, z = (m2 M_24 16 (Int32.toNatClampNeg (x10_21 + 3)) x4) := ⟨_, rfl⟩
                rw [← eM_25] at hR
                have hw := hw M_25 eM_25
                refine lv_aload_n hx hb dX1_paper_129 rfl (lv_at hl 1 rfl) ?_
                refine xm_getA (k := 16) hx hb hts in_X1 hown hK hR (by decide) (hts _ q982) rfl dX1_paper_130 ?_
                refine lv_iload hx hb dX1_paper_133 (lv_at hl 0 rfl) ?_
                refine lv_iconst (v := 4) hx hb dX1_paper_135 (by decide) ?_
                refine lv_iadd hx hb dX1_paper_136 ?_
                refine lv_iload hx hb dX1_paper_137 (lv_at hl 6 rfl) ?_
                refine xm_ist (M := M_25) (k := 16) (j := 10) hx hb hK hR hS dX1_paper_139 rfl hw.1 (fun H locs hR hS => ?_)
                have hw := hw.2
                obtain ⟨M_26, eM_26⟩ : ∃ z, z = (m2 M_25 16 (Int32.toNatClampNeg (x10_21 + 4)) x5) := ⟨_, rfl⟩
                rw [← eM_26] at hR
                have hw := hw M_26 eM_26
                refine lv_aload_n hx hb dX1_paper_140 rfl (lv_at hl 1 rfl) ?_
                refine xm_getA (k := 16) hx hb hts in_X1 hown hK hR (by decide) (hts _ q982) rfl dX1_paper_141 ?_
                refine lv_iload hx hb dX1_paper_144 (lv_at hl 0 rfl) ?_
                refine lv_iconst (v := 5) hx hb dX1_paper_146 (by decide) ?_
                refine lv_iadd hx hb dX1_paper_147 ?_
                refine lv_iload hx hb dX1_paper_148 (lv_at hl 7 rfl) ?_
                refine xm_ist (M := M_26) (k := 16) (j := 10) hx hb hK hR hS dX1_paper_150 rfl hw.1 (fun H locs hR hS => ?_)
                have hw := hw.2
                obtain ⟨M_27, eM_27⟩ : ∃ z, z = (m2 M_26 16 (Int32.toNatClampNeg (x10_21 + 5)) x6) := ⟨_, rfl⟩
                rw [← eM_27] at hR
                have hw := hw M_27 eM_27
                refine lv_aload_n hx hb dX1_paper_151 rfl (lv_at hl 1 rfl) ?_
                refine xm_getA (k := 16) hx hb hts in_X1 hown hK hR (by decide) (hts _ q982) rfl dX1_paper_152 ?_
                refine lv_iload hx hb dX1_paper_155 (lv_at hl 0 rfl) ?_
                refine lv_bipush (v := 6) hx hb dX1_paper_157 (by decide) ?_
                refine lv_iadd hx hb dX1_paper_159 ?_
                refine lv_iload hx hb dX1_paper_160 (lv_at hl 8 rfl) ?_
                refine xm_ist (M := M_27) (k := 16) (j := 10) hx hb hK hR hS dX1_paper_162 rfl hw.1 (fun H locs hR hS => ?_)
                have hw := hw.2
                obtain ⟨M_28, eM_28⟩ : ∃ z, z = (m2 M_27 16 (Int32.toNatClampNeg (x10_21 + 6)) x7) := ⟨_, rfl⟩
                rw [← eM_28] at hR
                have hw := hw M_28 eM_28
                refine lv_aload_n hx hb dX1_paper_163 rfl (lv_at hl 1 rfl) ?_
                refine xm_getA (k := 16) hx hb hts in_X1 hown hK hR (by decide) (hts _ q982) rfl dX1_paper_164 ?_
                refine lv_iload hx hb dX1_paper_167 (lv_at hl 0 rfl) ?_
                refine lv_bipush (v := 7) hx hb dX1_paper_169 (by decide) ?_
                refine lv_iadd hx hb dX1_paper_171 ?_
                refine lv_iload hx hb dX1_paper_172 (lv_at hl 9 rfl) ?_
                refine xm_ist (M := M_28) (k := 16) (j := 10) hx hb hK hR hS dX1_paper_174 rfl hw.1 (fun H locs hR hS => ?_)
                have hw := hw.2
                obtain ⟨M_29, eM_29⟩ : ∃ z, z = (m2 M_28 16 (Int32.toNatClampNeg (x10_21 + 7)) x8) := ⟨_, rfl⟩
                rw [← eM_29] at hR
                have hw := hw M_29 eM_29
                refine lv_aload_n hx hb dX1_paper_175 rfl (lv_at hl 1 rfl) ?_
                refine xm_getA (k := 16) hx hb hts in_X1 hown hK hR (by decide) (hts _ q982) rfl dX1_paper_176 ?_
                refine lv_iload hx hb dX1_paper_179 (lv_at hl 0 rfl) ?_
                refine lv_bipush (v := 8) hx hb dX1_paper_181 (by decide) ?_
                refine lv_iadd hx hb dX1_paper_183 ?_
                refine lv_iload hx hb dX1_paper_184 (lv_at hl 10 rfl) ?_
                refine xm_ist (M := M_29) (k := 16) (j := 10) hx hb hK hR hS dX1_paper_186 rfl hw.1 (fun H locs hR hS => ?_)
                have hw := hw.2
                obtain ⟨M_30, eM_30⟩ : ∃ z, z = (m2 M_29 16 (Int32.toNatClampNeg (x10_21 + 8)) x9) := ⟨_, rfl⟩
                rw [← eM_30] at hR
                have hw := hw M_30 eM_30
                refine lv_aload_n hx hb dX1_paper_187 rfl (lv_at hl 1 rfl) ?_
                refine lv_dup hx hb dX1_paper_188 rfl ?_
                refine xm_getI (k := 15) hx hb hts in_X1 hown hK hR (by decide) (hts _ q981) rfl dX1_paper_189 ?_
                refine lv_iconst (v := 1) hx hb dX1_paper_192 (by decide) ?_
                refine lv_iadd hx hb dX1_paper_193 ?_
                refine xm_putI (M := M_30) (k := 15) hx hb hts in_X1 hown hK hR hS (by decide) (hts _ q981) rfl rfl rfl rfl dX1_paper_194 (fun H locs hR hS => ?_)
                obtain ⟨M_31, eM_31⟩ : ∃ z, z = (m1 M_30 15 ((M1 M_30 15) + 1)) := ⟨_, rfl⟩
                rw [← eM_31] at hR
                have hw := hw M_31 eM_31
                refine lv_aload_n hx hb dX1_paper_197 rfl (lv_at hl 1 rfl) ?_
                refine xm_getI (k := 15) hx hb hts in_X1 hown hK hR (by decide) (hts _ q981) rfl dX1_paper_198 ?_
                refine lv_iconst (v := 1) hx hb dX1_paper_201 (by decide) ?_
                refine lv_isub hx hb dX1_paper_202 ?_
                exact xm_ri hx hb hr hlocks hR hS dX1_paper_203 hw
              · have hw := x_t hw c_20
                refine lv_bipush (v := (-4)) hx hb dX1_paper_78 (by decide) ?_
                exact xm_ri hx hb hr hlocks hR hS dX1_paper_80 hw
            · have hw := x_f hw c_19
              refine lv_bipush (v := (-2)) hx hb dX1_paper_66 (by decide) ?_
              exact xm_ri hx hb hr hlocks hR hS dX1_paper_68 hw
  · have hw := x_f hw c_4
    refine lv_iconst (v := (-1)) hx hb dX1_paper_13 (by decide) ?_
    exact xm_ri hx hb hr hlocks hR hS dX1_paper_14 hw
def w_X1_noPaper (M : xM) (x1 : Int32) (Q : Int32 → Prop) : Prop := w_X1_in M (Int32.toInt64 x1) 0 (Int32.toInt64 ((M1 M 15) - 1)) (fun (r_1 : Int32) => wif (r_1 = 0) (Q 1) (Q 0))
theorem hd_X1_noPaper : yX1_noPaper.cls = "PressedMenModel" ∧ yX1_noPaper.cls ≠ "java/lang/invoke/MethodHandle" ∧ yX1_noPaper.cls ≠ "java/lang/invoke/VarHandle" ∧ (parseMethodDescriptor yX1_noPaper.desc).map (fun d => d.parameters.length) = some 1 := by decide +kernel
set_option maxHeartbeats 4000000 in
theorem mt_X1_noPaper (l : Launch) {D : va_G} {d : Nat → ClassId} {base : Nat} {mo : Nat} {Aa : Nat → Nat} {M : xM} {S : xH} {x1 : Int32} {Q : Int32 → Prop} (hw : w_X1_noPaper M x1 Q) : Met l yX1_noPaper (ws_ yX1_noPaper cX1_noPaper 2 (some FieldType.boolean)) (x_rm 1 0 0 25) (x_Pc D d base (x_mc d mo Aa M) S [.ref mo, .int x1]) (xm_Qi D d base mo Aa S (fun r M' => M' = M ∧ Q r)) 0 0 (x_A base) := by
  refine x_met (by decide) (Nat.le_of_ble_eq_true rfl) ?_
  intro p e s m below meth c hx hb hml hr hlocks hown hts hz hR hK hin ls hl
  have hown : s.vm.findClass "PressedMenModel" = some m.cls := hown
  have hl : lv_has ls 2 [(0, .ref mo), (1, .int x1)] := hl
  have hS : va_S (x_A base) s.heap s.heap [] := va_S.rf
  unfold w_X1_noPaper at hw
  refine lv_iload_n hx hb dX1_noPaper_0 rfl (lv_at hl 1 rfl) ?_
  refine lv_i2l (v := (Int32.toInt64 x1)) hx hb dX1_noPaper_1 rfl ?_
  refine lv_lconst (v := 0) hx hb dX1_noPaper_2 (by decide) ?_
  refine lv_aload_n hx hb dX1_noPaper_3 rfl (lv_at hl 0 rfl) ?_
  refine xm_getI (k := 15) hx hb hts in_X1 hown hK hR (by decide) (hts _ q981) rfl dX1_noPaper_4 ?_
  refine lv_iconst (v := 1) hx hb dX1_noPaper_7 (by decide) ?_
  refine lv_isub hx hb dX1_noPaper_8 ?_
  refine lv_i2l (v := (Int32.toInt64 ((M1 M 15) - 1))) hx hb dX1_noPaper_9 rfl ?_
  refine xm_ci (va_runS (As := [.long (Int32.toInt64 x1), .long 0, .long (Int32.toInt64 ((M1 M 15) - 1))]) (rest := []) ⟨hx, hb, hml, hown, hts⟩ (mt_X1_in l hw) (va_cwS 3 hts (lw_S q1089 q1090 q65 q1091) rfl rfl rfl hd_X1_in.2 ⟨Nat.le_of_ble_eq_true rfl, Nat.le_of_ble_eq_true rfl⟩) ⟨x_Pc_blind, x_Pc_pre hR hz hS hK⟩ rfl rfl hl.1 rfl (lv_room (Nat.le_of_ble_eq_true rfl)) dX1_noPaper_10 ⟨Nat.le_refl _, Nat.le_refl _⟩) hS (fun r_1 M_2 H locs hp hR hS => ?_)
  have hw := hp.2
  rw [hp.1] at hR
  refine lv_if_ne (tgt := 20) hx hb dX1_noPaper_13 (by decide) (fun c_3 => ?_) (fun c_3 => ?_)
  · have hw := x_f hw c_3
    refine lv_iconst (v := 0) hx hb dX1_noPaper_20 (by decide) ?_
    exact xm_rz hx hb hr hlocks hR hS dX1_noPaper_21 (Or.inl rfl) ⟨rfl, hw⟩
  · have hw := x_t hw c_3
    refine lv_iconst (v := 1) hx hb dX1_noPaper_16 (by decide) ?_
    refine lv_goto (tgt := 21) hx hb dX1_noPaper_17 (by decide) ?_
    exact xm_rz hx hb hr hlocks hR hS dX1_noPaper_21 (Or.inr rfl) ⟨rfl, hw⟩
def w_X1_noTide (M : xM) (x0 : Int32) (Q : Int32 → Prop) : Prop := w_X1_in M (Int32.toInt64 x0) 0 899 (fun (r_1 : Int32) => wif (r_1 = 0) (Q 1) (Q 0))
theorem hd_X1_noTide : yX1_noTide.cls = "PressedMenModel" ∧ yX1_noTide.cls ≠ "java/lang/invoke/MethodHandle" ∧ yX1_noTide.cls ≠ "java/lang/invoke/VarHandle" ∧ (parseMethodDescriptor yX1_noTide.desc).map (fun d => d.parameters.length) = some 1 := by decide +kernel
set_option maxHeartbeats 4000000 in
theorem mt_X1_noTide (l : Launch) {D : va_G} {d : Nat → ClassId} {base : Nat} {mo : Nat} {Aa : Nat → Nat} {M : xM} {S : xH} {x0 : Int32} {Q : Int32 → Prop} (hw : w_X1_noTide M x0 Q) : Met l yX1_noTide (ws_ yX1_noTide cX1_noTide 1 (some FieldType.boolean)) (x_rm 1 0 0 25) (x_Pc D d base (x_mc d mo Aa M) S [.int x0]) (xm_Qi D d base mo Aa S (fun r M' => M' = M ∧ Q r)) 0 0 (x_A base) := by
  refine x_met (by decide) (Nat.le_of_ble_eq_true rfl) ?_
  intro p e s m below meth c hx hb hml hr hlocks hown hts hz hR hK hin ls hl
  have hown : s.vm.findClass "PressedMenModel" = some m.cls := hown
  have hl : lv_has ls 1 [(0, .int x0)] := hl
  have hS : va_S (x_A base) s.heap s.heap [] := va_S.rf
  unfold w_X1_noTide at hw
  refine lv_iload_n hx hb dX1_noTide_0 rfl (lv_at hl 0 rfl) ?_
  refine lv_i2l (v := (Int32.toInt64 x0)) hx hb dX1_noTide_1 rfl ?_
  refine lv_lconst (v := 0) hx hb dX1_noTide_2 (by decide) ?_
  refine lv_ldc2 (v := 899) hx hb hown (hts _ q1202) dX1_noTide_3 ?_
  refine xm_ci (va_runS (As := [.long (Int32.toInt64 x0), .long 0, .long 899]) (rest := []) ⟨hx, hb, hml, hown, hts⟩ (mt_X1_in l hw) (va_cwS 3 hts (lw_S q1089 q1090 q65 q1091) rfl rfl rfl hd_X1_in.2 ⟨Nat.le_of_ble_eq_true rfl, Nat.le_of_ble_eq_true rfl⟩) ⟨x_Pc_blind, x_Pc_pre hR hz hS hK⟩ rfl rfl hl.1 rfl (lv_room (Nat.le_of_ble_eq_true rfl)) dX1_noTide_6 ⟨Nat.le_refl _, Nat.le_refl _⟩) hS (fun r_1 M_2 H locs hp hR hS => ?_)
  have hw := hp.2
  rw [hp.1] at hR
  refine lv_if_ne (tgt := 16) hx hb dX1_noTide_9 (by decide) (fun c_3 => ?_) (fun c_3 => ?_)
  · have hw := x_f hw c_3
    refine lv_iconst (v := 0) hx hb dX1_noTide_16 (by decide) ?_
    exact xm_rz hx hb hr hlocks hR hS dX1_noTide_17 (Or.inl rfl) ⟨rfl, hw⟩
  · have hw := x_t hw c_3
    refine lv_iconst (v := 1) hx hb dX1_noTide_12 (by decide) ?_
    refine lv_goto (tgt := 17) hx hb dX1_noTide_13 (by decide) ?_
    exact xm_rz hx hb hr hlocks hR hS dX1_noTide_17 (Or.inr rfl) ⟨rfl, hw⟩
def w_X1_covers (M : xM) (x1 : Int32) (x2 : Int32) (x3 : Int32) (Q : Int32 → Prop) : Prop := nm (9 * x1) (fun x4_1 : Int32 => nm (8 * x2) (fun x5_2 : Int32 => vp_in (x4_1 + 1) 540 ∧ jn (fun (v0_3 : Int32) => jn (fun (v0_5 : Int32) => vp_in (x4_1 + 1) 540 ∧ jn (fun (v0_7 : Int32) => wif (v0_5 = 0) (Q 0) (wif (v0_7 = 0) (Q 1) (Q 2))) (fun J_8 => jn0 (J_8 0) (fun J_11 => wif ((M2 M 16 (Int32.toNatClampNeg (x4_1 + 1))) = (-9)) (J_11) (vp_in (x4_1 + 2) 540 ∧ wif ((M2 M 16 (Int32.toNatClampNeg (x4_1 + 2))) = (-9)) (J_11) (vp_in (x4_1 + 4) 540 ∧ vp_in (x4_1 + 3) 540 ∧ wif (5 < ((M2 M 16 (Int32.toNatClampNeg (x4_1 + 4))) - (M2 M 16 (Int32.toNatClampNeg (x4_1 + 3))))) (J_11) (vp_in (x4_1 + 6) 540 ∧ vp_in (x4_1 + 5) 540 ∧ wif (2 < ((M2 M 16 (Int32.toNatClampNeg (x4_1 + 6))) - (M2 M 16 (Int32.toNatClampNeg (x4_1 + 5))))) (J_11) (J_8 1))))))) (fun J_6 => jn0 (J_6 0) (fun J_16 => wif (v0_3 = 0) (J_16) (vp_in (x4_1 + 7) 540 ∧ vp_in (x4_1 + 8) 540 ∧ w_X1_in M (Int32.toInt64 x3) (Int32.toInt64 (M2 M 16 (Int32.toNatClampNeg (x4_1 + 7)))) (Int32.toInt64 (M2 M 16 (Int32.toNatClampNeg (x4_1 + 8)))) (fun (r_18 : Int32) => wif (r_18 = 0) (J_16) (vp_in x5_2 320 ∧ vp_in (x4_1 + 3) 540 ∧ vp_in (x4_1 + 4) 540 ∧ w_X1_in M (Int32.toInt64 (M2 M 6 (Int32.toNatClampNeg x5_2))) (Int32.toInt64 (M2 M 16 (Int32.toNatClampNeg (x4_1 + 3)))) (Int32.toInt64 (M2 M 16 (Int32.toNatClampNeg (x4_1 + 4)))) (fun (r_21 : Int32) => wif (r_21 = 0) (J_16) (vp_in (x5_2 + 3) 320 ∧ vp_in (x4_1 + 5) 540 ∧ vp_in (x4_1 + 6) 540 ∧ w_X1_in M (Int32.toInt64 (M2 M 6 (Int32.toNatClampNeg (x5_2 + 3)))) (Int32.toInt64 (M2 M 16 (Int32.toNatClampNeg (x4_1 + 5)))) (Int32.toInt64 (M2 M 16 (Int32.toNatClampNeg (x4_1 + 6)))) (fun (r_24 : Int32) => wif (r_24 = 0) (J_16) (J_6 1)))))))))) (fun J_4 => jn0 (J_4 0) (fun J_27 => jn0 (vp_in (x4_1 + 2) 540 ∧ jn0 (J_4 1) (fun J_29 => wif ((M2 M 16 (Int32.toNatClampNeg (x4_1 + 2))) = (-9)) (J_29) (vp_in (x4_1 + 2) 540 ∧ vp_in (x5_2 + 2) 320 ∧ wif ((M2 M 16 (Int32.toNatClampNeg (x4_1 + 2))) = (M2 M 6 (Int32.toNatClampNeg (x5_2 + 2)))) (J_29) (J_27)))) (fun J_28 => wif ((M2 M 16 (Int32.toNatClampNeg (x4_1 + 1))) = (-9)) (J_28) (vp_in (x4_1 + 1) 540 ∧ vp_in (x5_2 + 1) 320 ∧ wif ((M2 M 16 (Int32.toNatClampNeg (x4_1 + 1))) = (M2 M 6 (Int32.toNatClampNeg (x5_2 + 1)))) (J_28) (J_27)))))))
theorem hd_X1_covers : yX1_covers.cls = "PressedMenModel" ∧ yX1_covers.cls ≠ "java/lang/invoke/MethodHandle" ∧ yX1_covers.cls ≠ "java/lang/invoke/VarHandle" ∧ (parseMethodDescriptor yX1_covers.desc).map (fun d => d.parameters.length) = some 3 := by decide +kernel
set_option maxHeartbeats 4000000 in
theorem mt_X1_covers (l : Launch) {D : va_G} {d : Nat → ClassId} {base : Nat} {mo : Nat} {Aa : Nat → Nat} {M : xM} {S : xH} {x1 : Int32} {x2 : Int32} {x3 : Int32} {Q : Int32 → Prop} (hw : w_X1_covers M x1 x2 x3 Q) : Met l yX1_covers (ws_ yX1_covers cX1_covers 9 (some FieldType.int)) (x_rm 1 0 0 25) (x_Pc D d base (x_mc d mo Aa M) S [.ref mo, .int x1, .int x2, .int x3]) (xm_Qi D d base mo Aa S (fun r M' => M' = M ∧ Q r)) 0 0 (x_A base) := by
  refine x_met (by decide) (Nat.le_of_ble_eq_true rfl) ?_
  intro p e s m below meth c hx hb hml hr hlocks hown hts hz hR hK hin ls hl
  have hown : s.vm.findClass "PressedMenModel" = some m.cls := hown
  have hl : lv_has ls 9 [(0, .ref mo), (1, .int x1), (2, .int x2), (3, .int x3)] := hl
  have hS : va_S (x_A base) s.heap s.heap [] := va_S.rf
  unfold w_X1_covers at hw
  refine lv_bipush (v := 9) hx hb dX1_covers_0 (by decide) ?_
  refine lv_iload_n hx hb dX1_covers_2 rfl (lv_at hl 1 rfl) ?_
  refine lv_imul hx hb dX1_covers_3 ?_
  refine lv_topi (fun x4_1 ex4_1 => ?_)
  have hw := hw x4_1 ex4_1
  refine lv_istore (lv' := [(4, .int x4_1), (0, .ref mo), (1, .int x1), (2, .int x2), (3, .int x3)]) hx hb dX1_covers_4 hl (by decide) rfl (fun ls hl => ?_)
  refine lv_bipush (v := 8) hx hb dX1_covers_6 (by decide) ?_
  refine lv_iload_n hx hb dX1_covers_8 rfl (lv_at hl 3 rfl) ?_
  refine lv_imul hx hb dX1_covers_9 ?_
  refine lv_topi (fun x5_2 ex5_2 => ?_)
  have hw := hw x5_2 ex5_2
  refine lv_istore (lv' := [(5, .int x5_2), (4, .int x4_1), (0, .ref mo), (1, .int x1), (2, .int x2), (3, .int x3)]) hx hb dX1_covers_10 hl (by decide) rfl (fun ls hl => ?_)
  refine lv_aload_n hx hb dX1_covers_12 rfl (lv_at hl 2 rfl) ?_
  refine xm_getA (k := 16) hx hb hts in_X1 hown hK hR (by decide) (hts _ q982) rfl dX1_covers_13 ?_
  refine lv_iload hx hb dX1_covers_16 (lv_at hl 1 rfl) ?_
  refine lv_iconst (v := 1) hx hb dX1_covers_18 (by decide) ?_
  refine lv_iadd hx hb dX1_covers_19 ?_
  refine xm_ild (M := M) (k := 16) (j := 10) hx hb hK hR dX1_covers_20 rfl hw.1 ?_
  have hw := hw.2
  refine lv_bipush (v := (-9)) hx hb dX1_covers_21 (by decide) ?_
  refine x_jn (G := fun (v0_3 : Int32) => ∀ (ls : Array Slot) (H : Heap) (locs : List Loc), x_Rp D d (x_A base) (x_mc d mo Aa M) S H → va_S (x_A base) s.heap H locs → lv_has ls 9 [(0, .ref mo), (3, .int x3), (4, .int x4_1), (5, .int x5_2)] → W p l e (x_rm 1 0 0 25) s m ([.ref mo, .int x1, .int x2, .int x3] : List Value).toArray below meth c H locs 0 0 (MQ below (xm_Qi D d base mo Aa S (fun r M' => M' = M ∧ Q r)) ([.ref mo, .int x1, .int x2, .int x3] : List Value).toArray s 0 0 (x_A base)) (F0 m 87 ls [.int v0_3])) hw (fun v0_3 hw => ?_) (fun hJ_4 hw => ?_)
  · intro ls H locs hR hS hl
    refine lv_istore (lv' := [(6, .int v0_3), (0, .ref mo), (3, .int x3), (4, .int x4_1), (5, .int x5_2)]) hx hb dX1_covers_87 hl (by decide) rfl (fun ls hl => ?_)
    refine lv_iload hx hb dX1_covers_89 (lv_at hl 0 rfl) ?_
    refine x_jn (G := fun (v0_5 : Int32) => ∀ (ls : Array Slot) (H : Heap) (locs : List Loc), x_Rp D d (x_A base) (x_mc d mo Aa M) S H → va_S (x_A base) s.heap H locs → lv_has ls 9 [(0, .ref mo), (4, .int x4_1)] → W p l e (x_rm 1 0 0 25) s m ([.ref mo, .int x1, .int x2, .int x3] : List Value).toArray below meth c H locs 0 0 (MQ below (xm_Qi D d base mo Aa S (fun r M' => M' = M ∧ Q r)) ([.ref mo, .int x1, .int x2, .int x3] : List Value).toArray s 0 0 (x_A base)) (F0 m 200 ls [.int v0_5])) hw (fun v0_5 hw => ?_) (fun hJ_6 hw => ?_)
    · intro ls H locs hR hS hl
      refine lv_istore (lv' := [(7, .int v0_5), (0, .ref mo), (4, .int x4_1)]) hx hb dX1_covers_200 hl (by decide) rfl (fun ls hl => ?_)
      refine lv_aload_n hx hb dX1_covers_202 rfl (lv_at hl 1 rfl) ?_
      refine xm_getA (k := 16) hx hb hts in_X1 hown hK hR (by decide) (hts _ q982) rfl dX1_covers_203 ?_
      refine lv_iload hx hb dX1_covers_206 (lv_at hl 2 rfl) ?_
      refine lv_iconst (v := 1) hx hb dX1_covers_208 (by decide) ?_
      refine lv_iadd hx hb dX1_covers_209 ?_
      refine xm_ild (M := M) (k := 16) (j := 10) hx hb hK hR dX1_covers_210 rfl hw.1 ?_
      have hw := hw.2
      refine lv_bipush (v := (-9)) hx hb dX1_covers_211 (by decide) ?_
      refine x_jn (G := fun (v0_7 : Int32) => ∀ (ls : Array Slot) (H : Heap) (locs : List Loc), x_Rp D d (x_A base) (x_mc d mo Aa M) S H → va_S (x_A base) s.heap H locs → lv_has ls 9 [(7, .int v0_5)] → W p l e (x_rm 1 0 0 25) s m ([.ref mo, .int x1, .int x2, .int x3] : List Value).toArray below meth c H locs 0 0 (MQ below (xm_Qi D d base mo Aa S (fun r M' => M' = M ∧ Q r)) ([.ref mo, .int x1, .int x2, .int x3] : List Value).toArray s 0 0 (x_A base)) (F0 m 282 ls [.int v0_7])) hw (fun v0_7 hw => ?_) (fun hJ_8 hw => ?_)
      · intro ls H locs hR hS hl
        refine lv_istore (lv' := [(8, .int v0_7), (7, .int v0_5)]) hx hb dX1_covers_282 hl (by decide) rfl (fun ls hl => ?_)
        refine lv_iload hx hb dX1_covers_284 (lv_at hl 1 rfl) ?_
        refine lv_if_ne (tgt := 293) hx hb dX1_covers_286 (by decide) (fun c_9 => ?_) (fun c_9 => ?_)
        · have hw := x_f hw c_9
          refine lv_iload hx hb dX1_covers_293 (lv_at hl 0 rfl) ?_
          refine lv_if_eq (tgt := 302) hx hb dX1_covers_295 (by decide) (fun c_10 => ?_) (fun c_10 => ?_)
          · have hw := x_t hw c_10
            refine lv_iconst (v := 1) hx hb dX1_covers_302 (by decide) ?_
            exact xm_ri hx hb hr hlocks hR hS dX1_covers_303 ⟨rfl, hw⟩
          · have hw := x_f hw c_10
            refine lv_iconst (v := 2) hx hb dX1_covers_298 (by decide) ?_
            refine lv_goto (tgt := 303) hx hb dX1_covers_299 (by decide) ?_
            exact xm_ri hx hb hr hlocks hR hS dX1_covers_303 ⟨rfl, hw⟩
        · have hw := x_t hw c_9
          refine lv_iconst (v := 0) hx hb dX1_covers_289 (by decide) ?_
          refine lv_goto (tgt := 303) hx hb dX1_covers_290 (by decide) ?_
          exact xm_ri hx hb hr hlocks hR hS dX1_covers_303 ⟨rfl, hw⟩
      · refine x_jn0 (G := ∀ (ls : Array Slot) (H : Heap) (locs : List Loc), x_Rp D d (x_A base) (x_mc d mo Aa M) S H → va_S (x_A base) s.heap H locs → lv_has ls 9 [(7, .int v0_5)] → W p l e (x_rm 1 0 0 25) s m ([.ref mo, .int x1, .int x2, .int x3] : List Value).toArray below meth c H locs 0 0 (MQ below (xm_Qi D d base mo Aa S (fun r M' => M' = M ∧ Q r)) ([.ref mo, .int x1, .int x2, .int x3] : List Value).toArray s 0 0 (x_A base)) (F0 m 281 ls [])) hw (fun hw => ?_) (fun hJ_11 hw => ?_)
        · intro ls H locs hR hS hl
          refine lv_iconst (v := 0) hx hb dX1_covers_281 (by decide) ?_
          exact hJ_8 0 hw ls _ _ hR hS (lv_sub hl [0] rfl)
        · refine lv_icmp_eq (tgt := 281) hx hb dX1_covers_213 (by decide) (fun c_12 => ?_) (fun c_12 => ?_)
          · have hw := x_t hw c_12
            exact hJ_11  hw ls _ _ hR hS (lv_sub hl [0] rfl)
          · have hw := x_f hw c_12
            refine lv_aload_n hx hb dX1_covers_216 rfl (lv_at hl 1 rfl) ?_
            refine xm_getA (k := 16) hx hb hts in_X1 hown hK hR (by decide) (hts _ q982) rfl dX1_covers_217 ?_
            refine lv_iload hx hb dX1_covers_220 (lv_at hl 2 rfl) ?_
            refine lv_iconst (v := 2) hx hb dX1_covers_222 (by decide) ?_
            refine lv_iadd hx hb dX1_covers_223 ?_
            refine xm_ild (M := M) (k := 16) (j := 10) hx hb hK hR dX1_covers_224 rfl hw.1 ?_
            have hw := hw.2
            refine lv_bipush (v := (-9)) hx hb dX1_covers_225 (by decide) ?_
            refine lv_icmp_eq (tgt := 281) hx hb dX1_covers_227 (by decide) (fun c_13 => ?_) (fun c_13 => ?_)
            · have hw := x_t hw c_13
              exact hJ_11  hw ls _ _ hR hS (lv_sub hl [0] rfl)
            · have hw := x_f hw c_13
              refine lv_aload_n hx hb dX1_covers_230 rfl (lv_at hl 1 rfl) ?_
              refine xm_getA (k := 16) hx hb hts in_X1 hown hK hR (by decide) (hts _ q982) rfl dX1_covers_231 ?_
              refine lv_iload hx hb dX1_covers_234 (lv_at hl 2 rfl) ?_
              refine lv_iconst (v := 4) hx hb dX1_covers_236 (by decide) ?_
              refine lv_iadd hx hb dX1_covers_237 ?_
              refine xm_ild (M := M) (k := 16) (j := 10) hx hb hK hR dX1_covers_238 rfl hw.1 ?_
              have hw := hw.2
              refine lv_aload_n hx hb dX1_covers_239 rfl (lv_at hl 1 rfl) ?_
              refine xm_getA (k := 16) hx hb hts in_X1 hown hK hR (by decide) (hts _ q982) rfl dX1_covers_240 ?_
              refine lv_iload hx hb dX1_covers_243 (lv_at hl 2 rfl) ?_
              refine lv_iconst (v := 3) hx hb dX1_covers_245 (by decide) ?_
              refine lv_iadd hx hb dX1_covers_246 ?_
              refine xm_ild (M := M) (k := 16) (j := 10) hx hb hK hR dX1_covers_247 rfl hw.1 ?_
              have hw := hw.2
              refine lv_isub hx hb dX1_covers_248 ?_
              refine lv_iconst (v := 5) hx hb dX1_covers_249 (by decide) ?_
              refine lv_icmp_gt (tgt := 281) hx hb dX1_covers_250 (by decide) (fun c_14 => ?_) (fun c_14 => ?_)
              · have hw := x_t hw c_14
                exact hJ_11  hw ls _ _ hR hS (lv_sub hl [0] rfl)
              · have hw := x_f hw c_14
                refine lv_aload_n hx hb dX1_covers_253 rfl (lv_at hl 1 rfl) ?_
                refine xm_getA (k := 16) hx hb hts in_X1 hown hK hR (by decide) (hts _ q982) rfl dX1_covers_254 ?_
                refine lv_iload hx hb dX1_covers_257 (lv_at hl 2 rfl) ?_
                refine lv_bipush (v := 6) hx hb dX1_covers_259 (by decide) ?_
                refine lv_iadd hx hb dX1_covers_261 ?_
                refine xm_ild (M := M) (k := 16) (j := 10) hx hb hK hR dX1_covers_262 rfl hw.1 ?_
                have hw := hw.2
                refine lv_aload_n hx hb dX1_covers_263 rfl (lv_at hl 1 rfl) ?_
                refine xm_getA (k := 16) hx hb hts in_X1 hown hK hR (by decide) (hts _ q982) rfl dX1_covers_264 ?_
                refine lv_iload hx hb dX1_covers_267 (lv_at hl 2 rfl) ?_
                refine lv_iconst (v := 5) hx hb dX1_covers_269 (by decide) ?_
                refine lv_iadd hx hb dX1_covers_270 ?_
                refine xm_ild (M := M) (k := 16) (j := 10) hx hb hK hR dX1_covers_271 rfl hw.1 ?_
                have hw := hw.2
                refine lv_isub hx hb dX1_covers_272 ?_
                refine lv_iconst (v := 2) hx hb dX1_covers_273 (by decide) ?_
                refine lv_icmp_gt (tgt := 281) hx hb dX1_covers_274 (by decide) (fun c_15 => ?_) (fun c_15 => ?_)
                · have hw := x_t hw c_15
                  exact hJ_11  hw ls _ _ hR hS (lv_sub hl [0] rfl)
                · have hw := x_f hw c_15
                  refine lv_iconst (v := 1) hx hb dX1_covers_277 (by decide) ?_
                  refine lv_goto (tgt := 282) hx hb dX1_covers_278 (by decide) ?_
                  exact hJ_8 1 hw ls _ _ hR hS (lv_sub hl [0] rfl)
    · refine x_jn0 (G := ∀ (ls : Array Slot) (H : Heap) (locs : List Loc), x_Rp D d (x_A base) (x_mc d mo Aa M) S H → va_S (x_A base) s.heap H locs → lv_has ls 9 [(0, .ref mo), (4, .int x4_1)] → W p l e (x_rm 1 0 0 25) s m ([.ref mo, .int x1, .int x2, .int x3] : List Value).toArray below meth c H locs 0 0 (MQ below (xm_Qi D d base mo Aa S (fun r M' => M' = M ∧ Q r)) ([.ref mo, .int x1, .int x2, .int x3] : List Value).toArray s 0 0 (x_A base)) (F0 m 199 ls [])) hw (fun hw => ?_) (fun hJ_16 hw => ?_)
      · intro ls H locs hR hS hl
        refine lv_iconst (v := 0) hx hb dX1_covers_199 (by decide) ?_
        exact hJ_6 0 hw ls _ _ hR hS (lv_sub hl [0, 1] rfl)
      · refine lv_if_eq (tgt := 199) hx hb dX1_covers_91 (by decide) (fun c_17 => ?_) (fun c_17 => ?_)
        · have hw := x_t hw c_17
          exact hJ_16  hw ls _ _ hR hS (lv_sub hl [1, 3] rfl)
        · have hw := x_f hw c_17
          refine lv_iload_n hx hb dX1_covers_94 rfl (lv_at hl 2 rfl) ?_
          refine lv_i2l (v := (Int32.toInt64 x3)) hx hb dX1_covers_95 rfl ?_
          refine lv_aload_n hx hb dX1_covers_96 rfl (lv_at hl 1 rfl) ?_
          refine xm_getA (k := 16) hx hb hts in_X1 hown hK hR (by decide) (hts _ q982) rfl dX1_covers_97 ?_
          refine lv_iload hx hb dX1_covers_100 (lv_at hl 3 rfl) ?_
          refine lv_bipush (v := 7) hx hb dX1_covers_102 (by decide) ?_
          refine lv_iadd hx hb dX1_covers_104 ?_
          refine xm_ild (M := M) (k := 16) (j := 10) hx hb hK hR dX1_covers_105 rfl hw.1 ?_
          have hw := hw.2
          refine lv_i2l (v := (Int32.toInt64 (M2 M 16 (Int32.toNatClampNeg (x4_1 + 7))))) hx hb dX1_covers_106 rfl ?_
          refine lv_aload_n hx hb dX1_covers_107 rfl (lv_at hl 1 rfl) ?_
          refine xm_getA (k := 16) hx hb hts in_X1 hown hK hR (by decide) (hts _ q982) rfl dX1_covers_108 ?_
          refine lv_iload hx hb dX1_covers_111 (lv_at hl 3 rfl) ?_
          refine lv_bipush (v := 8) hx hb dX1_covers_113 (by decide) ?_
          refine lv_iadd hx hb dX1_covers_115 ?_
          refine xm_ild (M := M) (k := 16) (j := 10) hx hb hK hR dX1_covers_116 rfl hw.1 ?_
          have hw := hw.2
          refine lv_i2l (v := (Int32.toInt64 (M2 M 16 (Int32.toNatClampNeg (x4_1 + 8))))) hx hb dX1_covers_117 rfl ?_
          refine xm_ci (va_runS (As := [.long (Int32.toInt64 x3), .long (Int32.toInt64 (M2 M 16 (Int32.toNatClampNeg (x4_1 + 7)))), .long (Int32.toInt64 (M2 M 16 (Int32.toNatClampNeg (x4_1 + 8))))]) (rest := []) ⟨hx, hb, hml, hown, hts⟩ (mt_X1_in l hw) (va_cwS 3 hts (lw_S q1089 q1090 q65 q1091) rfl rfl rfl hd_X1_in.2 ⟨Nat.le_of_ble_eq_true rfl, Nat.le_of_ble_eq_true rfl⟩) ⟨x_Pc_blind, x_Pc_pre hR hz hS hK⟩ rfl rfl hl.1 rfl (lv_room (Nat.le_of_ble_eq_true rfl)) dX1_covers_118 ⟨Nat.le_refl _, Nat.le_refl _⟩) hS (fun r_18 M_19 H locs hp hR hS => ?_)
          have hw := hp.2
          rw [hp.1] at hR
          refine lv_if_eq (tgt := 199) hx hb dX1_covers_121 (by decide) (fun c_20 => ?_) (fun c_20 => ?_)
          · have hw := x_t hw c_20
            exact hJ_16  hw ls _ _ hR hS (lv_sub hl [1, 3] rfl)
          · have hw := x_f hw c_20
            refine lv_aload_n hx hb dX1_covers_124 rfl (lv_at hl 1 rfl) ?_
            refine xm_getA (k := 6) hx hb hts in_X1 hown hK hR (by decide) (hts _ q972) rfl dX1_covers_125 ?_
            refine lv_iload hx hb dX1_covers_128 (lv_at hl 4 rfl) ?_
            refine xm_ild (M := M) (k := 6) (j := 2) hx hb hK hR dX1_covers_130 rfl hw.1 ?_
            have hw := hw.2
            refine lv_i2l (v := (Int32.toInt64 (M2 M 6 (Int32.toNatClampNeg x5_2)))) hx hb dX1_covers_131 rfl ?_
            refine lv_aload_n hx hb dX1_covers_132 rfl (lv_at hl 1 rfl) ?_
            refine xm_getA (k := 16) hx hb hts in_X1 hown hK hR (by decide) (hts _ q982) rfl dX1_covers_133 ?_
            refine lv_iload hx hb dX1_covers_136 (lv_at hl 3 rfl) ?_
            refine lv_iconst (v := 3) hx hb dX1_covers_138 (by decide) ?_
            refine lv_iadd hx hb dX1_covers_139 ?_
            refine xm_ild (M := M) (k := 16) (j := 10) hx hb hK hR dX1_covers_140 rfl hw.1 ?_
            have hw := hw.2
            refine lv_i2l (v := (Int32.toInt64 (M2 M 16 (Int32.toNatClampNeg (x4_1 + 3))))) hx hb dX1_covers_141 rfl ?_
            refine lv_aload_n hx hb dX1_covers_142 rfl (lv_at hl 1 rfl) ?_
            refine xm_getA (k := 16) hx hb hts in_X1 hown hK hR (by decide) (hts _ q982) rfl dX1_covers_143 ?_
            refine lv_iload hx hb dX1_covers_146 (lv_at hl 3 rfl) ?_
            refine lv_iconst (v := 4) hx hb dX1_covers_148 (by decide) ?_
            refine lv_iadd hx hb dX1_covers_149 ?_
            refine xm_ild (M := M) (k := 16) (j := 10) hx hb hK hR dX1_covers_150 rfl hw.1 ?_
            have hw := hw.2
            refine lv_i2l (v := (Int32.toInt64 (M2 M 16 (Int32.toNatClampNeg (x4_1 + 4))))) hx hb dX1_covers_151 rfl ?_
            refine xm_ci (va_runS (As := [.long (Int32.toInt64 (M2 M 6 (Int32.toNatClampNeg x5_2))), .long (Int32.toInt64 (M2 M 16 (Int32.toNatClampNeg (x4_1 + 3)))), .long (Int32.toInt64 (M2 M 16 (Int32.toNatClampNeg (x4_1 + 4))))]) (rest := []) ⟨hx, hb, hml, hown, hts⟩ (mt_X1_in l hw) (va_cwS 3 hts (lw_S q1089 q1090 q65 q1091) rfl rfl rfl hd_X1_in.2 ⟨Nat.le_of_ble_eq_true rfl, Nat.le_of_ble_eq_true rfl⟩) ⟨x_Pc_blind, x_Pc_pre hR hz hS hK⟩ rfl rfl hl.1 rfl (lv_room (Nat.le_of_ble_eq_true rfl)) dX1_covers_152 ⟨Nat.le_refl _, Nat.le_refl _⟩) hS (fun r_21 M_22 H locs hp hR hS => ?_)
            have hw := hp.2
            rw [hp.1] at hR
            refine lv_if_eq (tgt := 199) hx hb dX1_covers_155 (by decide) (fun c_23 => ?_) (fun c_23 => ?_)
            · have hw := x_t hw c_23
              exact hJ_16  hw ls _ _ hR hS (lv_sub hl [1, 3] rfl)
            · have hw := x_f hw c_23
              refine lv_aload_n hx hb dX1_covers_158 rfl (lv_at hl 1 rfl) ?_
              refine xm_getA (k := 6) hx hb hts in_X1 hown hK hR (by decide) (hts _ q972) rfl dX1_covers_159 ?_
              refine lv_iload hx hb dX1_covers_162 (lv_at hl 4 rfl) ?_
              refine lv_iconst (v := 3) hx hb dX1_covers_164 (by decide) ?_
              refine lv_iadd hx hb dX1_covers_165 ?_
              refine xm_ild (M := M) (k := 6) (j := 2) hx hb hK hR dX1_covers_166 rfl hw.1 ?_
              have hw := hw.2
              refine lv_i2l (v := (Int32.toInt64 (M2 M 6 (Int32.toNatClampNeg (x5_2 + 3))))) hx hb dX1_covers_167 rfl ?_
              refine lv_aload_n hx hb dX1_covers_168 rfl (lv_at hl 1 rfl) ?_
              refine xm_getA (k := 16) hx hb hts in_X1 hown hK hR (by decide) (hts _ q982) rfl dX1_covers_169 ?_
              refine lv_iload hx hb dX1_covers_172 (lv_at hl 3 rfl) ?_
              refine lv_iconst (v := 5) hx hb dX1_covers_174 (by decide) ?_
              refine lv_iadd hx hb dX1_covers_175 ?_
              refine xm_ild (M := M) (k := 16) (j := 10) hx hb hK hR dX1_covers_176 rfl hw.1 ?_
              have hw := hw.2
              refine lv_i2l (v := (Int32.toInt64 (M2 M 16 (Int32.toNatClampNeg (x4_1 + 5))))) hx hb dX1_covers_177 rfl ?_
              refine lv_aload_n hx hb dX1_covers_178 rfl (lv_at hl 1 rfl) ?_
              refine xm_getA (k := 16) hx hb hts in_X1 hown hK hR (by decide) (hts _ q982) rfl dX1_covers_179 ?_
              refine lv_iload hx hb dX1_covers_182 (lv_at hl 3 rfl) ?_
              refine lv_bipush (v := 6) hx hb dX1_covers_184 (by decide) ?_
              refine lv_iadd hx hb dX1_covers_186 ?_
              refine xm_ild (M := M) (k := 16) (j := 10) hx hb hK hR dX1_covers_187 rfl hw.1 ?_
              have hw := hw.2
              refine lv_i2l (v := (Int32.toInt64 (M2 M 16 (Int32.toNatClampNeg (x4_1 + 6))))) hx hb dX1_covers_188 rfl ?_
              refine xm_ci (va_runS (As := [.long (Int32.toInt64 (M2 M 6 (Int32.toNatClampNeg (x5_2 + 3)))), .long (Int32.toInt64 (M2 M 16 (Int32.toNatClampNeg (x4_1 + 5)))), .long (Int32.toInt64 (M2 M 16 (Int32.toNatClampNeg (x4_1 + 6))))]) (rest := []) ⟨hx, hb, hml, hown, hts⟩ (mt_X1_in l hw) (va_cwS 3 hts (lw_S q1089 q1090 q65 q1091) rfl rfl rfl hd_X1_in.2 ⟨Nat.le_of_ble_eq_true rfl, Nat.le_of_ble_eq_true rfl⟩) ⟨x_Pc_blind, x_Pc_pre hR hz hS hK⟩ rfl rfl hl.1 rfl (lv_room (Nat.le_of_ble_eq_true rfl)) dX1_covers_189 ⟨Nat.le_refl _, Nat.le_refl _⟩) hS (fun r_24 M_25 H locs hp hR hS => ?_)
              have hw := hp.2
              rw [hp.1] at hR
              refine lv_if_eq (tgt := 199) hx hb dX1_covers_192 (by decide) (fun c_26 => ?_) (fun c_26 => ?_)
              · have hw := x_t hw c_26
                exact hJ_16  hw ls _ _ hR hS (lv_sub hl [1, 3] rfl)
              · have hw := x_f hw c_26
                refine lv_iconst (v := 1) hx hb dX1_covers_195 (by decide) ?_
                refine lv_goto (tgt := 200) hx hb dX1_covers_196 (by decide) ?_
                exact hJ_6 1 hw ls _ _ hR hS (lv_sub hl [1, 3] rfl)
  · refine x_jn0 (G := ∀ (ls : Array Slot) (H : Heap) (locs : List Loc), x_Rp D d (x_A base) (x_mc d mo Aa M) S H → va_S (x_A base) s.heap H locs → lv_has ls 9 [(0, .ref mo), (3, .int x3), (4, .int x4_1), (5, .int x5_2)] → W p l e (x_rm 1 0 0 25) s m ([.ref mo, .int x1, .int x2, .int x3] : List Value).toArray below meth c H locs 0 0 (MQ below (xm_Qi D d base mo Aa S (fun r M' => M' = M ∧ Q r)) ([.ref mo, .int x1, .int x2, .int x3] : List Value).toArray s 0 0 (x_A base)) (F0 m 86 ls [])) hw (fun hw => ?_) (fun hJ_27 hw => ?_)
    · intro ls H locs hR hS hl
      refine lv_iconst (v := 0) hx hb dX1_covers_86 (by decide) ?_
      exact hJ_4 0 hw ls _ _ hR hS (lv_sub hl [0, 1, 2, 3] rfl)
    · refine x_jn0 (G := ∀ (ls : Array Slot) (H : Heap) (locs : List Loc), x_Rp D d (x_A base) (x_mc d mo Aa M) S H → va_S (x_A base) s.heap H locs → lv_has ls 9 [(0, .ref mo), (3, .int x3), (4, .int x4_1), (5, .int x5_2)] → W p l e (x_rm 1 0 0 25) s m ([.ref mo, .int x1, .int x2, .int x3] : List Value).toArray below meth c H locs 0 0 (MQ below (xm_Qi D d base mo Aa S (fun r M' => M' = M ∧ Q r)) ([.ref mo, .int x1, .int x2, .int x3] : List Value).toArray s 0 0 (x_A base)) (F0 m 47 ls [])) hw (fun hw => ?_) (fun hJ_28 hw => ?_)
      · intro ls H locs hR hS hl
        refine lv_aload_n hx hb dX1_covers_47 rfl (lv_at hl 0 rfl) ?_
        refine xm_getA (k := 16) hx hb hts in_X1 hown hK hR (by decide) (hts _ q982) rfl dX1_covers_48 ?_
        refine lv_iload hx hb dX1_covers_51 (lv_at hl 2 rfl) ?_
        refine lv_iconst (v := 2) hx hb dX1_covers_53 (by decide) ?_
        refine lv_iadd hx hb dX1_covers_54 ?_
        refine xm_ild (M := M) (k := 16) (j := 10) hx hb hK hR dX1_covers_55 rfl hw.1 ?_
        have hw := hw.2
        refine lv_bipush (v := (-9)) hx hb dX1_covers_56 (by decide) ?_
        refine x_jn0 (G := ∀ (ls : Array Slot) (H : Heap) (locs : List Loc), x_Rp D d (x_A base) (x_mc d mo Aa M) S H → va_S (x_A base) s.heap H locs → lv_has ls 9 [(0, .ref mo), (3, .int x3), (4, .int x4_1), (5, .int x5_2)] → W p l e (x_rm 1 0 0 25) s m ([.ref mo, .int x1, .int x2, .int x3] : List Value).toArray below meth c H locs 0 0 (MQ below (xm_Qi D d base mo Aa S (fun r M' => M' = M ∧ Q r)) ([.ref mo, .int x1, .int x2, .int x3] : List Value).toArray s 0 0 (x_A base)) (F0 m 82 ls [])) hw (fun hw => ?_) (fun hJ_29 hw => ?_)
        · intro ls H locs hR hS hl
          refine lv_iconst (v := 1) hx hb dX1_covers_82 (by decide) ?_
          refine lv_goto (tgt := 87) hx hb dX1_covers_83 (by decide) ?_
          exact hJ_4 1 hw ls _ _ hR hS (lv_sub hl [0, 1, 2, 3] rfl)
        · refine lv_icmp_eq (tgt := 82) hx hb dX1_covers_58 (by decide) (fun c_30 => ?_) (fun c_30 => ?_)
          · have hw := x_t hw c_30
            exact hJ_29  hw ls _ _ hR hS (lv_sub hl [0, 1, 2, 3] rfl)
          · have hw := x_f hw c_30
            refine lv_aload_n hx hb dX1_covers_61 rfl (lv_at hl 0 rfl) ?_
            refine xm_getA (k := 16) hx hb hts in_X1 hown hK hR (by decide) (hts _ q982) rfl dX1_covers_62 ?_
            refine lv_iload hx hb dX1_covers_65 (lv_at hl 2 rfl) ?_
            refine lv_iconst (v := 2) hx hb dX1_covers_67 (by decide) ?_
            refine lv_iadd hx hb dX1_covers_68 ?_
            refine xm_ild (M := M) (k := 16) (j := 10) hx hb hK hR dX1_covers_69 rfl hw.1 ?_
            have hw := hw.2
            refine lv_aload_n hx hb dX1_covers_70 rfl (lv_at hl 0 rfl) ?_
            refine xm_getA (k := 6) hx hb hts in_X1 hown hK hR (by decide) (hts _ q972) rfl dX1_covers_71 ?_
            refine lv_iload hx hb dX1_covers_74 (lv_at hl 3 rfl) ?_
            refine lv_iconst (v := 2) hx hb dX1_covers_76 (by decide) ?_
            refine lv_iadd hx hb dX1_covers_77 ?_
            refine xm_ild (M := M) (k := 6) (j := 2) hx hb hK hR dX1_covers_78 rfl hw.1 ?_
            have hw := hw.2
            refine lv_icmp_ne (tgt := 86) hx hb dX1_covers_79 (by decide) (fun c_31 => ?_) (fun c_31 => ?_)
            · have hw := x_f hw c_31
              exact hJ_27  hw ls _ _ hR hS (lv_sub hl [0, 1, 2, 3] rfl)
            · have hw := x_t hw c_31
              exact hJ_29  hw ls _ _ hR hS (lv_sub hl [0, 1, 2, 3] rfl)
      · refine lv_icmp_eq (tgt := 47) hx hb dX1_covers_23 (by decide) (fun c_32 => ?_) (fun c_32 => ?_)
        · have hw := x_t hw c_32
          exact hJ_28  hw ls _ _ hR hS (lv_sub hl [2, 5, 1, 0] rfl)
        · have hw := x_f hw c_32
          refine lv_aload_n hx hb dX1_covers_26 rfl (lv_at hl 2 rfl) ?_
          refine xm_getA (k := 16) hx hb hts in_X1 hown hK hR (by decide) (hts _ q982) rfl dX1_covers_27 ?_
          refine lv_iload hx hb dX1_covers_30 (lv_at hl 1 rfl) ?_
          refine lv_iconst (v := 1) hx hb dX1_covers_32 (by decide) ?_
          refine lv_iadd hx hb dX1_covers_33 ?_
          refine xm_ild (M := M) (k := 16) (j := 10) hx hb hK hR dX1_covers_34 rfl hw.1 ?_
          have hw := hw.2
          refine lv_aload_n hx hb dX1_covers_35 rfl (lv_at hl 2 rfl) ?_
          refine xm_getA (k := 6) hx hb hts in_X1 hown hK hR (by decide) (hts _ q972) rfl dX1_covers_36 ?_
          refine lv_iload hx hb dX1_covers_39 (lv_at hl 0 rfl) ?_
          refine lv_iconst (v := 1) hx hb dX1_covers_41 (by decide) ?_
          refine lv_iadd hx hb dX1_covers_42 ?_
          refine xm_ild (M := M) (k := 6) (j := 2) hx hb hK hR dX1_covers_43 rfl hw.1 ?_
          have hw := hw.2
          refine lv_icmp_ne (tgt := 86) hx hb dX1_covers_44 (by decide) (fun c_33 => ?_) (fun c_33 => ?_)
          · have hw := x_f hw c_33
            exact hJ_27  hw ls _ _ hR hS (lv_sub hl [2, 5, 1, 0] rfl)
          · have hw := x_t hw c_33
            exact hJ_28  hw ls _ _ hR hS (lv_sub hl [2, 5, 1, 0] rfl)
def w_X1_cover (M : xM) (x1 : Int32) (x2 : Int32) (x3 : Int32) (Q : Int32 → xM → Prop) : Prop := nm (m1 M 0 0) (fun M_1 : xM => w_X1_noPaper M_1 x1 (fun (r_2 : Int32) => wif (r_2 = 0) (w_X1_noMan M_1 x2 (fun (r_5 : Int32) => wif (r_5 = 0) (w_X1_noTide M_1 x3 (fun (r_8 : Int32) => wif (r_8 = 0) (w_X1_covers M_1 x1 x2 x3 (fun (r_11 : Int32) => Q r_11 M_1)) (Q (-2) M_1))) (Q (-1) M_1))) (Q (-1) M_1)))
theorem hd_X1_cover : yX1_cover.cls = "PressedMenModel" ∧ yX1_cover.cls ≠ "java/lang/invoke/MethodHandle" ∧ yX1_cover.cls ≠ "java/lang/invoke/VarHandle" ∧ (parseMethodDescriptor yX1_cover.desc).map (fun d => d.parameters.length) = some 3 := by decide +kernel
set_option maxHeartbeats 4000000 in
theorem mt_X1_cover (l : Launch) {D : va_G} {d : Nat → ClassId} {base : Nat} {mo : Nat} {Aa : Nat → Nat} {M : xM} {S : xH} {x1 : Int32} {x2 : Int32} {x3 : Int32} {Q : Int32 → xM → Prop} (hw : w_X1_cover M x1 x2 x3 Q) : Met l yX1_cover (ws_ yX1_cover cX1_cover 4 (some FieldType.int)) (x_rm 2 0 0 53) (x_Pc D d base (x_mc d mo Aa M) S [.ref mo, .int x1, .int x2, .int x3]) (xm_Qi D d base mo Aa S (fun r M' => Q r M')) 0 0 (x_A base) := by
  refine x_met (by decide) (Nat.le_of_ble_eq_true rfl) ?_
  intro p e s m below meth c hx hb hml hr hlocks hown hts hz hR hK hin ls hl
  have hown : s.vm.findClass "PressedMenModel" = some m.cls := hown
  have hl : lv_has ls 4 [(0, .ref mo), (1, .int x1), (2, .int x2), (3, .int x3)] := hl
  have hS : va_S (x_A base) s.heap s.heap [] := va_S.rf
  unfold w_X1_cover at hw
  refine lv_aload_n hx hb dX1_cover_0 rfl (lv_at hl 0 rfl) ?_
  refine lv_iconst (v := 0) hx hb dX1_cover_1 (by decide) ?_
  refine xm_putI (M := M) (k := 0) hx hb hts in_X1 hown hK hR hS (by decide) (hts _ q966) rfl rfl rfl rfl dX1_cover_2 (fun H locs hR hS => ?_)
  obtain ⟨M_1, eM_1⟩ : ∃ z, z = (m1 M 0 0) := ⟨_, rfl⟩
  rw [← eM_1] at hR
  have hw := hw M_1 eM_1
  refine lv_aload_n hx hb dX1_cover_5 rfl (lv_at hl 0 rfl) ?_
  refine lv_iload_n hx hb dX1_cover_6 rfl (lv_at hl 1 rfl) ?_
  refine xm_ci (va_runV (As := [.int x1]) (rest := []) ⟨hx, hb, hml, hown, hts⟩ (mt_X1_noPaper l hw) (cwV 1 hts (lw_V q1195 q1197 qs44 q65 q1198) rfl rfl rfl hd_X1_noPaper ⟨Nat.le_of_ble_eq_true rfl, Nat.le_of_ble_eq_true rfl⟩) ⟨x_Pc_blind, xm_recv hR hK, x_Pc_pre hR hz hS hK⟩ rfl rfl hl.1 rfl (lv_room (Nat.le_of_ble_eq_true rfl)) dX1_cover_7 ⟨Nat.le_refl _, Nat.le_refl _⟩) hS (fun r_2 M_3 H locs hp hR hS => ?_)
  have hw := hp.2
  rw [hp.1] at hR
  refine lv_if_ne (tgt := 21) hx hb dX1_cover_10 (by decide) (fun c_4 => ?_) (fun c_4 => ?_)
  · have hw := x_f hw c_4
    refine lv_iconst (v := (-1)) hx hb dX1_cover_21 (by decide) ?_
    exact xm_ri hx hb hr hlocks hR hS dX1_cover_22 hw
  · have hw := x_t hw c_4
    refine lv_aload_n hx hb dX1_cover_13 rfl (lv_at hl 0 rfl) ?_
    refine lv_iload_n hx hb dX1_cover_14 rfl (lv_at hl 2 rfl) ?_
    refine xm_ci (va_runV (As := [.int x2]) (rest := []) ⟨hx, hb, hml, hown, hts⟩ (mt_X1_noMan l hw) (cwV 1 hts (lw_V q1123 q1125 qs38 q65 q1126) rfl rfl rfl hd_X1_noMan ⟨Nat.le_of_ble_eq_true rfl, Nat.le_of_ble_eq_true rfl⟩) ⟨x_Pc_blind, xm_recv hR hK, x_Pc_pre hR hz hS hK⟩ rfl rfl hl.1 rfl (lv_room (Nat.le_of_ble_eq_true rfl)) dX1_cover_15 ⟨Nat.le_refl _, Nat.le_refl _⟩) hS (fun r_5 M_6 H locs hp hR hS => ?_)
    have hw := hp.2
    rw [hp.1] at hR
    refine lv_if_eq (tgt := 23) hx hb dX1_cover_18 (by decide) (fun c_7 => ?_) (fun c_7 => ?_)
    · have hw := x_t hw c_7
      refine lv_iload_n hx hb dX1_cover_23 rfl (lv_at hl 3 rfl) ?_
      refine xm_ci (va_runS (As := [.int x3]) (rest := []) ⟨hx, hb, hml, hown, hts⟩ (mt_X1_noTide l hw) (va_cwS 1 hts (lw_S q1199 q1200 q65 q1201) rfl rfl rfl hd_X1_noTide.2 ⟨Nat.le_of_ble_eq_true rfl, Nat.le_of_ble_eq_true rfl⟩) ⟨x_Pc_blind, x_Pc_pre hR hz hS hK⟩ rfl rfl hl.1 rfl (lv_room (Nat.le_of_ble_eq_true rfl)) dX1_cover_24 ⟨Nat.le_refl _, Nat.le_refl _⟩) hS (fun r_8 M_9 H locs hp hR hS => ?_)
      have hw := hp.2
      rw [hp.1] at hR
      refine lv_if_eq (tgt := 35) hx hb dX1_cover_27 (by decide) (fun c_10 => ?_) (fun c_10 => ?_)
      · have hw := x_t hw c_10
        refine lv_aload_n hx hb dX1_cover_35 rfl (lv_at hl 0 rfl) ?_
        refine lv_iload_n hx hb dX1_cover_36 rfl (lv_at hl 1 rfl) ?_
        refine lv_iload_n hx hb dX1_cover_37 rfl (lv_at hl 2 rfl) ?_
        refine lv_iload_n hx hb dX1_cover_38 rfl (lv_at hl 3 rfl) ?_
        refine xm_ci (va_runV (As := [.int x1, .int x2, .int x3]) (rest := []) ⟨hx, hb, hml, hown, hts⟩ (mt_X1_covers l hw) (cwV 3 hts (lw_V q1203 q1205 qs45 q65 q1206) rfl rfl rfl hd_X1_covers ⟨Nat.le_of_ble_eq_true rfl, Nat.le_of_ble_eq_true rfl⟩) ⟨x_Pc_blind, xm_recv hR hK, x_Pc_pre hR hz hS hK⟩ rfl rfl hl.1 rfl (lv_room (Nat.le_of_ble_eq_true rfl)) dX1_cover_39 ⟨Nat.le_refl _, Nat.le_refl _⟩) hS (fun r_11 M_12 H locs hp hR hS => ?_)
        have hw := hp.2
        rw [hp.1] at hR
        exact xm_ri hx hb hr hlocks hR hS dX1_cover_42 hw
      · have hw := x_f hw c_10
        refine lv_bipush (v := (-2)) hx hb dX1_cover_30 (by decide) ?_
        refine lv_goto (tgt := 42) hx hb dX1_cover_32 (by decide) ?_
        exact xm_ri hx hb hr hlocks hR hS dX1_cover_42 hw
    · have hw := x_f hw c_7
      refine lv_iconst (v := (-1)) hx hb dX1_cover_21 (by decide) ?_
      exact xm_ri hx hb hr hlocks hR hS dX1_cover_22 hw
def w_X1_same (M : xM) (x1 : Int32) (x2 : Int32) (Q : Int32 → xM → Prop) : Prop := nm (m1 M 0 0) (fun M_1 : xM => w_X1_noPaper M_1 x1 (fun (r_2 : Int32) => wif (r_2 = 0) (w_X1_noTide M_1 x2 (fun (r_5 : Int32) => wif (r_5 = 0) (lf2 (fun L_10 (x3_8 : Int32) (x4_9 : Int32) => wif ((M1 M_1 5) ≤ x4_9) (Q x3_8 M_1) (w_X1_covers M_1 x1 x4_9 x2 (fun (r_12 : Int32) => jn (fun (v1_14 : Int32) => nm (x3_8 + v1_14) (fun x3_16 : Int32 => L_10 x3_16 (x4_9 + 1))) (fun J_15 => wif (r_12 ≤ 0) (J_15 0) (J_15 1))))) 0 0) (Q (-2) M_1))) (Q (-1) M_1)))
theorem hd_X1_same : yX1_same.cls = "PressedMenModel" ∧ yX1_same.cls ≠ "java/lang/invoke/MethodHandle" ∧ yX1_same.cls ≠ "java/lang/invoke/VarHandle" ∧ (parseMethodDescriptor yX1_same.desc).map (fun d => d.parameters.length) = some 2 := by decide +kernel
set_option maxHeartbeats 4000000 in
theorem mt_X1_same (l : Launch) {D : va_G} {d : Nat → ClassId} {base : Nat} {mo : Nat} {Aa : Nat → Nat} {M : xM} {S : xH} {x1 : Int32} {x2 : Int32} {Q : Int32 → xM → Prop} (hw : w_X1_same M x1 x2 Q) : Met l yX1_same (ws_ yX1_same cX1_same 5 (some FieldType.int)) (x_rm 2 0 0 53) (x_Pc D d base (x_mc d mo Aa M) S [.ref mo, .int x1, .int x2]) (xm_Qi D d base mo Aa S (fun r M' => Q r M')) 0 0 (x_A base) := by
  refine x_met (by decide) (Nat.le_of_ble_eq_true rfl) ?_
  intro p e s m below meth c hx hb hml hr hlocks hown hts hz hR hK hin ls hl
  have hown : s.vm.findClass "PressedMenModel" = some m.cls := hown
  have hl : lv_has ls 5 [(0, .ref mo), (1, .int x1), (2, .int x2)] := hl
  have hS : va_S (x_A base) s.heap s.heap [] := va_S.rf
  unfold w_X1_same at hw
  refine lv_aload_n hx hb dX1_same_0 rfl (lv_at hl 0 rfl) ?_
  refine lv_iconst (v := 0) hx hb dX1_same_1 (by decide) ?_
  refine xm_putI (M := M) (k := 0) hx hb hts in_X1 hown hK hR hS (by decide) (hts _ q966) rfl rfl rfl rfl dX1_same_2 (fun H locs hR hS => ?_)
  obtain ⟨M_1, eM_1⟩ : ∃ z, z = (m1 M 0 0) := ⟨_, rfl⟩
  rw [← eM_1] at hR
  have hw := hw M_1 eM_1
  refine lv_aload_n hx hb dX1_same_5 rfl (lv_at hl 0 rfl) ?_
  refine lv_iload_n hx hb dX1_same_6 rfl (lv_at hl 1 rfl) ?_
  refine xm_ci (va_runV (As := [.int x1]) (rest := []) ⟨hx, hb, hml, hown, hts⟩ (mt_X1_noPaper l hw) (cwV 1 hts (lw_V q1195 q1197 qs44 q65 q1198) rfl rfl rfl hd_X1_noPaper ⟨Nat.le_of_ble_eq_true rfl, Nat.le_of_ble_eq_true rfl⟩) ⟨x_Pc_blind, xm_recv hR hK, x_Pc_pre hR hz hS hK⟩ rfl rfl hl.1 rfl (lv_room (Nat.le_of_ble_eq_true rfl)) dX1_same_7 ⟨Nat.le_refl _, Nat.le_refl _⟩) hS (fun r_2 M_3 H locs hp hR hS => ?_)
  have hw := hp.2
  rw [hp.1] at hR
  refine lv_if_eq (tgt := 15) hx hb dX1_same_10 (by decide) (fun c_4 => ?_) (fun c_4 => ?_)
  · have hw := x_t hw c_4
    refine lv_iload_n hx hb dX1_same_15 rfl (lv_at hl 2 rfl) ?_
    refine xm_ci (va_runS (As := [.int x2]) (rest := []) ⟨hx, hb, hml, hown, hts⟩ (mt_X1_noTide l hw) (va_cwS 1 hts (lw_S q1199 q1200 q65 q1201) rfl rfl rfl hd_X1_noTide.2 ⟨Nat.le_of_ble_eq_true rfl, Nat.le_of_ble_eq_true rfl⟩) ⟨x_Pc_blind, x_Pc_pre hR hz hS hK⟩ rfl rfl hl.1 rfl (lv_room (Nat.le_of_ble_eq_true rfl)) dX1_same_16 ⟨Nat.le_refl _, Nat.le_refl _⟩) hS (fun r_5 M_6 H locs hp hR hS => ?_)
    have hw := hp.2
    rw [hp.1] at hR
    refine lv_if_eq (tgt := 25) hx hb dX1_same_19 (by decide) (fun c_7 => ?_) (fun c_7 => ?_)
    · have hw := x_t hw c_7
      refine lv_iconst (v := 0) hx hb dX1_same_25 (by decide) ?_
      refine lv_istore_n (lv' := [(3, .int 0), (0, .ref mo), (1, .int x1), (2, .int x2)]) hx hb dX1_same_26 rfl hl (by decide) rfl (fun ls hl => ?_)
      refine lv_iconst (v := 0) hx hb dX1_same_27 (by decide) ?_
      refine lv_istore (lv' := [(4, .int 0), (3, .int 0), (0, .ref mo), (1, .int x1), (2, .int x2)]) hx hb dX1_same_28 hl (by decide) rfl (fun ls hl => ?_)
      refine x_lf2 (G := fun (x3_8 : Int32) (x4_9 : Int32) => ∀ (ls : Array Slot) (H : Heap) (locs : List Loc), x_Rp D d (x_A base) (x_mc d mo Aa M_1) S H → va_S (x_A base) s.heap H locs → lv_has ls 5 [(0, .ref mo), (1, .int x1), (2, .int x2), (3, .int x3_8), (4, .int x4_9)] → W p l e (x_rm 2 0 0 53) s m ([.ref mo, .int x1, .int x2] : List Value).toArray below meth c H locs 0 0 (MQ below (xm_Qi D d base mo Aa S (fun r M' => Q r M')) ([.ref mo, .int x1, .int x2] : List Value).toArray s 0 0 (x_A base)) (F0 m 30 ls [])) hw (fun x3_8 x4_9 hw => ?_) ls _ _ hR hS (lv_sub hl [2, 3, 4, 1, 0] rfl)
      intro ls H locs hR hS hl
      refine lv_iload hx hb dX1_same_30 (lv_at hl 4 rfl) ?_
      refine lv_aload_n hx hb dX1_same_32 rfl (lv_at hl 0 rfl) ?_
      refine xm_getI (k := 5) hx hb hts in_X1 hown hK hR (by decide) (hts _ q971) rfl dX1_same_33 ?_
      refine lv_icmp_ge (tgt := 64) hx hb dX1_same_36 (by decide) (fun c_11 => ?_) (fun c_11 => ?_)
      · have hw := x_t hw c_11
        refine lv_iload_n hx hb dX1_same_64 rfl (lv_at hl 3 rfl) ?_
        exact xm_ri hx hb hr hlocks hR hS dX1_same_65 hw
      · have hw := x_f hw c_11
        refine lv_iload_n hx hb dX1_same_39 rfl (lv_at hl 3 rfl) ?_
        refine lv_aload_n hx hb dX1_same_40 rfl (lv_at hl 0 rfl) ?_
        refine lv_iload_n hx hb dX1_same_41 rfl (lv_at hl 1 rfl) ?_
        refine lv_iload hx hb dX1_same_42 (lv_at hl 4 rfl) ?_
        refine lv_iload_n hx hb dX1_same_44 rfl (lv_at hl 2 rfl) ?_
        refine xm_ci (va_runV (As := [.int x1, .int x4_9, .int x2]) (rest := [.int x3_8]) ⟨hx, hb, hml, hown, hts⟩ (mt_X1_covers l hw) (cwV 3 hts (lw_V q1203 q1205 qs45 q65 q1206) rfl rfl rfl hd_X1_covers ⟨Nat.le_of_ble_eq_true rfl, Nat.le_of_ble_eq_true rfl⟩) ⟨x_Pc_blind, xm_recv hR hK, x_Pc_pre hR hz hS hK⟩ rfl rfl hl.1 rfl (lv_room (Nat.le_of_ble_eq_true rfl)) dX1_same_45 ⟨Nat.le_refl _, Nat.le_refl _⟩) hS (fun r_12 M_13 H locs hp hR hS => ?_)
        have hw := hp.2
        rw [hp.1] at hR
        refine x_jn (G := fun (v1_14 : Int32) => ∀ (ls : Array Slot) (H : Heap) (locs : List Loc), x_Rp D d (x_A base) (x_mc d mo Aa M_1) S H → va_S (x_A base) s.heap H locs → lv_has ls 5 [(0, .ref mo), (1, .int x1), (2, .int x2), (4, .int x4_9)] → W p l e (x_rm 2 0 0 53) s m ([.ref mo, .int x1, .int x2] : List Value).toArray below meth c H locs 0 0 (MQ below (xm_Qi D d base mo Aa S (fun r M' => Q r M')) ([.ref mo, .int x1, .int x2] : List Value).toArray s 0 0 (x_A base)) (F0 m 56 ls [.int v1_14, .int x3_8])) hw (fun v1_14 hw => ?_) (fun hJ_15 hw => ?_)
        · intro ls H locs hR hS hl
          refine lv_iadd hx hb dX1_same_56 ?_
          refine lv_topi (fun x3_16 ex3_16 => ?_)
          have hw := hw x3_16 ex3_16
          refine lv_istore_n (lv' := [(3, .int x3_16), (0, .ref mo), (1, .int x1), (2, .int x2), (4, .int x4_9)]) hx hb dX1_same_57 rfl hl (by decide) rfl (fun ls hl => ?_)
          refine lv_iinc (v := (x4_9 + 1)) (lv' := [(4, .int (x4_9 + 1)), (3, .int x3_16), (0, .ref mo), (1, .int x1), (2, .int x2)]) hx hb dX1_same_58 hl (k := 4) rfl rfl (by decide) rfl (fun ls hl => ?_)
          refine lv_goto (tgt := 30) hx hb dX1_same_61 (by decide) ?_
          exact hw ls _ _ hR hS (lv_sub hl [2, 3, 4, 1, 0] rfl)
        · refine lv_if_le (tgt := 55) hx hb dX1_same_48 (by decide) (fun c_17 => ?_) (fun c_17 => ?_)
          · have hw := x_t hw c_17
            refine lv_iconst (v := 0) hx hb dX1_same_55 (by decide) ?_
            exact hJ_15 0 hw ls _ _ hR hS (lv_sub hl [0, 1, 2, 4] rfl)
          · have hw := x_f hw c_17
            refine lv_iconst (v := 1) hx hb dX1_same_51 (by decide) ?_
            refine lv_goto (tgt := 56) hx hb dX1_same_52 (by decide) ?_
            exact hJ_15 1 hw ls _ _ hR hS (lv_sub hl [0, 1, 2, 4] rfl)
    · have hw := x_f hw c_7
      refine lv_bipush (v := (-2)) hx hb dX1_same_22 (by decide) ?_
      exact xm_ri hx hb hr hlocks hR hS dX1_same_24 hw
  · have hw := x_f hw c_4
    refine lv_iconst (v := (-1)) hx hb dX1_same_13 (by decide) ?_
    exact xm_ri hx hb hr hlocks hR hS dX1_same_14 hw
def w_X1_shown (M : xM) (x1 : Int32) (x2 : Int32) (Q : Int32 → xM → Prop) : Prop := nm (m1 M 0 0) (fun M_1 : xM => w_X1_noPaper M_1 x1 (fun (r_2 : Int32) => wif (r_2 = 0) (w_X1_noTide M_1 x2 (fun (r_5 : Int32) => wif (r_5 = 0) (lf2 (fun L_10 (x3_8 : Int32) (x4_9 : Int32) => wif ((M1 M_1 5) ≤ x4_9) (Q x3_8 M_1) (lf2 (fun L_14 (x5_12 : Int32) (x6_13 : Int32) => wif ((M1 M_1 22) ≤ x6_13) (jn (fun (v1_16 : Int32) => nm (x3_8 + v1_16) (fun x3_18 : Int32 => L_10 x3_18 (x4_9 + 1))) (fun J_17 => wif (x5_12 = 0) (J_17 0) (J_17 1))) (jn (fun (v0_20 : Int32) => L_14 v0_20 (x6_13 + 1)) (fun J_21 => jn0 (J_21 1) (fun J_22 => wif (x5_12 = 0) (vp_in ((6 * x6_13) + 1) 360 ∧ jn0 (J_21 0) (fun J_24 => wif ((M2 M_1 23 (Int32.toNatClampNeg ((6 * x6_13) + 1))) = x4_9) (vp_in ((6 * x6_13) + 2) 360 ∧ wif ((M2 M_1 23 (Int32.toNatClampNeg ((6 * x6_13) + 2))) = x1) (vp_in (6 * x6_13) 360 ∧ w_X1_in M_1 (Int32.toInt64 (M2 M_1 23 (Int32.toNatClampNeg (6 * x6_13)))) (Int32.toInt64 (x2 - 13)) (Int32.toInt64 x2) (fun (r_27 : Int32) => wif (r_27 = 0) (J_24) (J_22))) (J_24)) (J_24))) (J_22))))) 0 0)) 0 0) (Q (-2) M_1))) (Q (-1) M_1)))
theorem hd_X1_shown : yX1_shown.cls = "PressedMenModel" ∧ yX1_shown.cls ≠ "java/lang/invoke/MethodHandle" ∧ yX1_shown.cls ≠ "java/lang/invoke/VarHandle" ∧ (parseMethodDescriptor yX1_shown.desc).map (fun d => d.parameters.length) = some 2 := by decide +kernel
set_option maxHeartbeats 4000000 in
theorem mt_X1_shown (l : Launch) {D : va_G} {d : Nat → ClassId} {base : Nat} {mo : Nat} {Aa : Nat → Nat} {M : xM} {S : xH} {x1 : Int32} {x2 : Int32} {Q : Int32 → xM → Prop} (hw : w_X1_shown M x1 x2 Q) : Met l yX1_shown (ws_ yX1_shown cX1_shown 7 (some FieldType.int)) (x_rm 2 0 0 46) (x_Pc D d base (x_mc d mo Aa M) S [.ref mo, .int x1, .int x2]) (xm_Qi D d base mo Aa S (fun r M' => Q r M')) 0 0 (x_A base) := by
  refine x_met (by decide) (Nat.le_of_ble_eq_true rfl) ?_
  intro p e s m below meth c hx hb hml hr hlocks hown hts hz hR hK hin ls hl
  have hown : s.vm.findClass "PressedMenModel" = some m.cls := hown
  have hl : lv_has ls 7 [(0, .ref mo), (1, .int x1), (2, .int x2)] := hl
  have hS : va_S (x_A base) s.heap s.heap [] := va_S.rf
  unfold w_X1_shown at hw
  refine lv_aload_n hx hb dX1_shown_0 rfl (lv_at hl 0 rfl) ?_
  refine lv_iconst (v := 0) hx hb dX1_shown_1 (by decide) ?_
  refine xm_putI (M := M) (k := 0) hx hb hts in_X1 hown hK hR hS (by decide) (hts _ q966) rfl rfl rfl rfl dX1_shown_2 (fun H locs hR hS => ?_)
  obtain ⟨M_1, eM_1⟩ : ∃ z, z = (m1 M 0 0) := ⟨_, rfl⟩
  rw [← eM_1] at hR
  have hw := hw M_1 eM_1
  refine lv_aload_n hx hb dX1_shown_5 rfl (lv_at hl 0 rfl) ?_
  refine lv_iload_n hx hb dX1_shown_6 rfl (lv_at hl 1 rfl) ?_
  refine xm_ci (va_runV (As := [.int x1]) (rest := []) ⟨hx, hb, hml, hown, hts⟩ (mt_X1_noPaper l hw) (cwV 1 hts (lw_V q1195 q1197 qs44 q65 q1198) rfl rfl rfl hd_X1_noPaper ⟨Nat.le_of_ble_eq_true rfl, Nat.le_of_ble_eq_true rfl⟩) ⟨x_Pc_blind, xm_recv hR hK, x_Pc_pre hR hz hS hK⟩ rfl rfl hl.1 rfl (lv_room (Nat.le_of_ble_eq_true rfl)) dX1_shown_7 ⟨Nat.le_refl _, Nat.le_refl _⟩) hS (fun r_2 M_3 H locs hp hR hS => ?_)
  have hw := hp.2
  rw [hp.1] at hR
  refine lv_if_eq (tgt := 15) hx hb dX1_shown_10 (by decide) (fun c_4 => ?_) (fun c_4 => ?_)
  · have hw := x_t hw c_4
    refine lv_iload_n hx hb dX1_shown_15 rfl (lv_at hl 2 rfl) ?_
    refine xm_ci (va_runS (As := [.int x2]) (rest := []) ⟨hx, hb, hml, hown, hts⟩ (mt_X1_noTide l hw) (va_cwS 1 hts (lw_S q1199 q1200 q65 q1201) rfl rfl rfl hd_X1_noTide.2 ⟨Nat.le_of_ble_eq_true rfl, Nat.le_of_ble_eq_true rfl⟩) ⟨x_Pc_blind, x_Pc_pre hR hz hS hK⟩ rfl rfl hl.1 rfl (lv_room (Nat.le_of_ble_eq_true rfl)) dX1_shown_16 ⟨Nat.le_refl _, Nat.le_refl _⟩) hS (fun r_5 M_6 H locs hp hR hS => ?_)
    have hw := hp.2
    rw [hp.1] at hR
    refine lv_if_eq (tgt := 25) hx hb dX1_shown_19 (by decide) (fun c_7 => ?_) (fun c_7 => ?_)
    · have hw := x_t hw c_7
      refine lv_iconst (v := 0) hx hb dX1_shown_25 (by decide) ?_
      refine lv_istore_n (lv' := [(3, .int 0), (0, .ref mo), (1, .int x1), (2, .int x2)]) hx hb dX1_shown_26 rfl hl (by decide) rfl (fun ls hl => ?_)
      refine lv_iconst (v := 0) hx hb dX1_shown_27 (by decide) ?_
      refine lv_istore (lv' := [(4, .int 0), (3, .int 0), (0, .ref mo), (1, .int x1), (2, .int x2)]) hx hb dX1_shown_28 hl (by decide) rfl (fun ls hl => ?_)
      refine x_lf2 (G := fun (x3_8 : Int32) (x4_9 : Int32) => ∀ (ls : Array Slot) (H : Heap) (locs : List Loc), x_Rp D d (x_A base) (x_mc d mo Aa M_1) S H → va_S (x_A base) s.heap H locs → lv_has ls 7 [(0, .ref mo), (1, .int x1), (2, .int x2), (3, .int x3_8), (4, .int x4_9)] → W p l e (x_rm 2 0 0 46) s m ([.ref mo, .int x1, .int x2] : List Value).toArray below meth c H locs 0 0 (MQ below (xm_Qi D d base mo Aa S (fun r M' => Q r M')) ([.ref mo, .int x1, .int x2] : List Value).toArray s 0 0 (x_A base)) (F0 m 30 ls [])) hw (fun x3_8 x4_9 hw => ?_) ls _ _ hR hS (lv_sub hl [2, 3, 4, 1, 0] rfl)
      intro ls H locs hR hS hl
      refine lv_iload hx hb dX1_shown_30 (lv_at hl 4 rfl) ?_
      refine lv_aload_n hx hb dX1_shown_32 rfl (lv_at hl 0 rfl) ?_
      refine xm_getI (k := 5) hx hb hts in_X1 hown hK hR (by decide) (hts _ q971) rfl dX1_shown_33 ?_
      refine lv_icmp_ge (tgt := 148) hx hb dX1_shown_36 (by decide) (fun c_11 => ?_) (fun c_11 => ?_)
      · have hw := x_t hw c_11
        refine lv_iload_n hx hb dX1_shown_148 rfl (lv_at hl 3 rfl) ?_
        exact xm_ri hx hb hr hlocks hR hS dX1_shown_149 hw
      · have hw := x_f hw c_11
        refine lv_iconst (v := 0) hx hb dX1_shown_39 (by decide) ?_
        refine lv_istore (lv' := [(5, .int 0), (0, .ref mo), (1, .int x1), (2, .int x2), (3, .int x3_8), (4, .int x4_9)]) hx hb dX1_shown_40 hl (by decide) rfl (fun ls hl => ?_)
        refine lv_iconst (v := 0) hx hb dX1_shown_42 (by decide) ?_
        refine lv_istore (lv' := [(6, .int 0), (5, .int 0), (0, .ref mo), (1, .int x1), (2, .int x2), (3, .int x3_8), (4, .int x4_9)]) hx hb dX1_shown_43 hl (by decide) rfl (fun ls hl => ?_)
        refine x_lf2 (G := fun (x5_12 : Int32) (x6_13 : Int32) => ∀ (ls : Array Slot) (H : Heap) (locs : List Loc), x_Rp D d (x_A base) (x_mc d mo Aa M_1) S H → va_S (x_A base) s.heap H locs → lv_has ls 7 [(0, .ref mo), (1, .int x1), (2, .int x2), (3, .int x3_8), (4, .int x4_9), (5, .int x5_12), (6, .int x6_13)] → W p l e (x_rm 2 0 0 46) s m ([.ref mo, .int x1, .int x2] : List Value).toArray below meth c H locs 0 0 (MQ below (xm_Qi D d base mo Aa S (fun r M' => Q r M')) ([.ref mo, .int x1, .int x2] : List Value).toArray s 0 0 (x_A base)) (F0 m 45 ls [])) hw (fun x5_12 x6_13 hw => ?_) ls _ _ hR hS (lv_sub hl [2, 3, 4, 5, 6, 1, 0] rfl)
        intro ls H locs hR hS hl
        refine lv_iload hx hb dX1_shown_45 (lv_at hl 6 rfl) ?_
        refine lv_aload_n hx hb dX1_shown_47 rfl (lv_at hl 0 rfl) ?_
        refine xm_getI (k := 22) hx hb hts in_X1 hown hK hR (by decide) (hts _ q988) rfl dX1_shown_48 ?_
        refine lv_icmp_ge (tgt := 129) hx hb dX1_shown_51 (by decide) (fun c_15 => ?_) (fun c_15 => ?_)
        · have hw := x_t hw c_15
          refine lv_iload_n hx hb dX1_shown_129 rfl (lv_at hl 3 rfl) ?_
          refine lv_iload hx hb dX1_shown_130 (lv_at hl 5 rfl) ?_
          refine x_jn (G := fun (v1_16 : Int32) => ∀ (ls : Array Slot) (H : Heap) (locs : List Loc), x_Rp D d (x_A base) (x_mc d mo Aa M_1) S H → va_S (x_A base) s.heap H locs → lv_has ls 7 [(0, .ref mo), (1, .int x1), (2, .int x2), (4, .int x4_9)] → W p l e (x_rm 2 0 0 46) s m ([.ref mo, .int x1, .int x2] : List Value).toArray below meth c H locs 0 0 (MQ below (xm_Qi D d base mo Aa S (fun r M' => Q r M')) ([.ref mo, .int x1, .int x2] : List Value).toArray s 0 0 (x_A base)) (F0 m 140 ls [.int v1_16, .int x3_8])) hw (fun v1_16 hw => ?_) (fun hJ_17 hw => ?_)
          · intro ls H locs hR hS hl
            refine lv_iadd hx hb dX1_shown_140 ?_
            refine lv_topi (fun x3_18 ex3_18 => ?_)
            have hw := hw x3_18 ex3_18
            refine lv_istore_n (lv' := [(3, .int x3_18), (0, .ref mo), (1, .int x1), (2, .int x2), (4, .int x4_9)]) hx hb dX1_shown_141 rfl hl (by decide) rfl (fun ls hl => ?_)
            refine lv_iinc (v := (x4_9 + 1)) (lv' := [(4, .int (x4_9 + 1)), (3, .int x3_18), (0, .ref mo), (1, .int x1), (2, .int x2)]) hx hb dX1_shown_142 hl (k := 4) rfl rfl (by decide) rfl (fun ls hl => ?_)
            refine lv_goto (tgt := 30) hx hb dX1_shown_145 (by decide) ?_
            exact hw ls _ _ hR hS (lv_sub hl [2, 3, 4, 1, 0] rfl)
          · refine lv_if_eq (tgt := 139) hx hb dX1_shown_132 (by decide) (fun c_19 => ?_) (fun c_19 => ?_)
            · have hw := x_t hw c_19
              refine lv_iconst (v := 0) hx hb dX1_shown_139 (by decide) ?_
              exact hJ_17 0 hw ls _ _ hR hS (lv_sub hl [0, 1, 2, 4] rfl)
            · have hw := x_f hw c_19
              refine lv_iconst (v := 1) hx hb dX1_shown_135 (by decide) ?_
              refine lv_goto (tgt := 140) hx hb dX1_shown_136 (by decide) ?_
              exact hJ_17 1 hw ls _ _ hR hS (lv_sub hl [0, 1, 2, 4] rfl)
        · have hw := x_f hw c_15
          refine lv_iload hx hb dX1_shown_54 (lv_at hl 5 rfl) ?_
          refine x_jn (G := fun (v0_20 : Int32) => ∀ (ls : Array Slot) (H : Heap) (locs : List Loc), x_Rp D d (x_A base) (x_mc d mo Aa M_1) S H → va_S (x_A base) s.heap H locs → lv_has ls 7 [(0, .ref mo), (1, .int x1), (2, .int x2), (3, .int x3_8), (4, .int x4_9), (6, .int x6_13)] → W p l e (x_rm 2 0 0 46) s m ([.ref mo, .int x1, .int x2] : List Value).toArray below meth c H locs 0 0 (MQ below (xm_Qi D d base mo Aa S (fun r M' => Q r M')) ([.ref mo, .int x1, .int x2] : List Value).toArray s 0 0 (x_A base)) (F0 m 121 ls [.int v0_20])) hw (fun v0_20 hw => ?_) (fun hJ_21 hw => ?_)
          · intro ls H locs hR hS hl
            refine lv_istore (lv' := [(5, .int v0_20), (0, .ref mo), (1, .int x1), (2, .int x2), (3, .int x3_8), (4, .int x4_9), (6, .int x6_13)]) hx hb dX1_shown_121 hl (by decide) rfl (fun ls hl => ?_)
            refine lv_iinc (v := (x6_13 + 1)) (lv' := [(6, .int (x6_13 + 1)), (5, .int v0_20), (0, .ref mo), (1, .int x1), (2, .int x2), (3, .int x3_8), (4, .int x4_9)]) hx hb dX1_shown_123 hl (k := 6) rfl rfl (by decide) rfl (fun ls hl => ?_)
            refine lv_goto (tgt := 45) hx hb dX1_shown_126 (by decide) ?_
            exact hw ls _ _ hR hS (lv_sub hl [2, 3, 4, 5, 6, 1, 0] rfl)
          · refine x_jn0 (G := ∀ (ls : Array Slot) (H : Heap) (locs : List Loc), x_Rp D d (x_A base) (x_mc d mo Aa M_1) S H → va_S (x_A base) s.heap H locs → lv_has ls 7 [(0, .ref mo), (1, .int x1), (2, .int x2), (3, .int x3_8), (4, .int x4_9), (6, .int x6_13)] → W p l e (x_rm 2 0 0 46) s m ([.ref mo, .int x1, .int x2] : List Value).toArray below meth c H locs 0 0 (MQ below (xm_Qi D d base mo Aa S (fun r M' => Q r M')) ([.ref mo, .int x1, .int x2] : List Value).toArray s 0 0 (x_A base)) (F0 m 116 ls [])) hw (fun hw => ?_) (fun hJ_22 hw => ?_)
            · intro ls H locs hR hS hl
              refine lv_iconst (v := 1) hx hb dX1_shown_116 (by decide) ?_
              refine lv_goto (tgt := 121) hx hb dX1_shown_117 (by decide) ?_
              exact hJ_21 1 hw ls _ _ hR hS (lv_sub hl [0, 1, 2, 3, 4, 5] rfl)
            · refine lv_if_ne (tgt := 116) hx hb dX1_shown_56 (by decide) (fun c_23 => ?_) (fun c_23 => ?_)
              · have hw := x_f hw c_23
                exact hJ_22  hw ls _ _ hR hS (lv_sub hl [0, 1, 2, 3, 4, 6] rfl)
              · have hw := x_t hw c_23
                refine lv_aload_n hx hb dX1_shown_59 rfl (lv_at hl 0 rfl) ?_
                refine xm_getA (k := 23) hx hb hts in_X1 hown hK hR (by decide) (hts _ q989) rfl dX1_shown_60 ?_
                refine lv_bipush (v := 6) hx hb dX1_shown_63 (by decide) ?_
                refine lv_iload hx hb dX1_shown_65 (lv_at hl 6 rfl) ?_
                refine lv_imul hx hb dX1_shown_67 ?_
                refine lv_iconst (v := 1) hx hb dX1_shown_68 (by decide) ?_
                refine lv_iadd hx hb dX1_shown_69 ?_
                refine xm_ild (M := M_1) (k := 23) (j := 15) hx hb hK hR dX1_shown_70 rfl hw.1 ?_
                have hw := hw.2
                refine lv_iload hx hb dX1_shown_71 (lv_at hl 4 rfl) ?_
                refine x_jn0 (G := ∀ (ls : Array Slot) (H : Heap) (locs : List Loc), x_Rp D d (x_A base) (x_mc d mo Aa M_1) S H → va_S (x_A base) s.heap H locs → lv_has ls 7 [(0, .ref mo), (1, .int x1), (2, .int x2), (3, .int x3_8), (4, .int x4_9), (6, .int x6_13)] → W p l e (x_rm 2 0 0 46) s m ([.ref mo, .int x1, .int x2] : List Value).toArray below meth c H locs 0 0 (MQ below (xm_Qi D d base mo Aa S (fun r M' => Q r M')) ([.ref mo, .int x1, .int x2] : List Value).toArray s 0 0 (x_A base)) (F0 m 120 ls [])) hw (fun hw => ?_) (fun hJ_24 hw => ?_)
                · intro ls H locs hR hS hl
                  refine lv_iconst (v := 0) hx hb dX1_shown_120 (by decide) ?_
                  exact hJ_21 0 hw ls _ _ hR hS (lv_sub hl [0, 1, 2, 3, 4, 5] rfl)
                · refine lv_icmp_ne (tgt := 120) hx hb dX1_shown_73 (by decide) (fun c_25 => ?_) (fun c_25 => ?_)
                  · have hw := x_f hw c_25
                    exact hJ_24  hw ls _ _ hR hS (lv_sub hl [0, 1, 2, 3, 4, 6] rfl)
                  · have hw := x_t hw c_25
                    refine lv_aload_n hx hb dX1_shown_76 rfl (lv_at hl 0 rfl) ?_
                    refine xm_getA (k := 23) hx hb hts in_X1 hown hK hR (by decide) (hts _ q989) rfl dX1_shown_77 ?_
                    refine lv_bipush (v := 6) hx hb dX1_shown_80 (by decide) ?_
                    refine lv_iload hx hb dX1_shown_82 (lv_at hl 6 rfl) ?_
                    refine lv_imul hx hb dX1_shown_84 ?_
                    refine lv_iconst (v := 2) hx hb dX1_shown_85 (by decide) ?_
                    refine lv_iadd hx hb dX1_shown_86 ?_
                    refine xm_ild (M := M_1) (k := 23) (j := 15) hx hb hK hR dX1_shown_87 rfl hw.1 ?_
                    have hw := hw.2
                    refine lv_iload_n hx hb dX1_shown_88 rfl (lv_at hl 1 rfl) ?_
                    refine lv_icmp_ne (tgt := 120) hx hb dX1_shown_89 (by decide) (fun c_26 => ?_) (fun c_26 => ?_)
                    · have hw := x_f hw c_26
                      exact hJ_24  hw ls _ _ hR hS (lv_sub hl [0, 1, 2, 3, 4, 6] rfl)
                    · have hw := x_t hw c_26
                      refine lv_aload_n hx hb dX1_shown_92 rfl (lv_at hl 0 rfl) ?_
                      refine xm_getA (k := 23) hx hb hts in_X1 hown hK hR (by decide) (hts _ q989) rfl dX1_shown_93 ?_
                      refine lv_bipush (v := 6) hx hb dX1_shown_96 (by decide) ?_
                      refine lv_iload hx hb dX1_shown_98 (lv_at hl 6 rfl) ?_
                      refine lv_imul hx hb dX1_shown_100 ?_
                      refine xm_ild (M := M_1) (k := 23) (j := 15) hx hb hK hR dX1_shown_101 rfl hw.1 ?_
                      have hw := hw.2
                      refine lv_i2l (v := (Int32.toInt64 (M2 M_1 23 (Int32.toNatClampNeg (6 * x6_13))))) hx hb dX1_shown_102 rfl ?_
                      refine lv_iload_n hx hb dX1_shown_103 rfl (lv_at hl 2 rfl) ?_
                      refine lv_bipush (v := 13) hx hb dX1_shown_104 (by decide) ?_
                      refine lv_isub hx hb dX1_shown_106 ?_
                      refine lv_i2l (v := (Int32.toInt64 (x2 - 13))) hx hb dX1_shown_107 rfl ?_
                      refine lv_iload_n hx hb dX1_shown_108 rfl (lv_at hl 2 rfl) ?_
                      refine lv_i2l (v := (Int32.toInt64 x2)) hx hb dX1_shown_109 rfl ?_
                      refine xm_ci (va_runS (As := [.long (Int32.toInt64 (M2 M_1 23 (Int32.toNatClampNeg (6 * x6_13)))), .long (Int32.toInt64 (x2 - 13)), .long (Int32.toInt64 x2)]) (rest := []) ⟨hx, hb, hml, hown, hts⟩ (mt_X1_in l hw) (va_cwS 3 hts (lw_S q1089 q1090 q65 q1091) rfl rfl rfl hd_X1_in.2 ⟨Nat.le_of_ble_eq_true rfl, Nat.le_of_ble_eq_true rfl⟩) ⟨x_Pc_blind, x_Pc_pre hR hz hS hK⟩ rfl rfl hl.1 rfl (lv_room (Nat.le_of_ble_eq_true rfl)) dX1_shown_110 ⟨Nat.le_refl _, Nat.le_refl _⟩) hS (fun r_27 M_28 H locs hp hR hS => ?_)
                      have hw := hp.2
                      rw [hp.1] at hR
                      refine lv_if_eq (tgt := 120) hx hb dX1_shown_113 (by decide) (fun c_29 => ?_) (fun c_29 => ?_)
                      · have hw := x_t hw c_29
                        exact hJ_24  hw ls _ _ hR hS (lv_sub hl [0, 1, 2, 3, 4, 6] rfl)
                      · have hw := x_f hw c_29
                        exact hJ_22  hw ls _ _ hR hS (lv_sub hl [0, 1, 2, 3, 4, 6] rfl)
    · have hw := x_f hw c_7
      refine lv_bipush (v := (-2)) hx hb dX1_shown_22 (by decide) ?_
      exact xm_ri hx hb hr hlocks hR hS dX1_shown_24 hw
  · have hw := x_f hw c_4
    refine lv_iconst (v := (-1)) hx hb dX1_shown_13 (by decide) ?_
    exact xm_ri hx hb hr hlocks hR hS dX1_shown_14 hw
def w_X1_act (M : xM) (x1 : Int32) (Q : Int32 → xM → Prop) : Prop := nm (m1 M 0 0) (fun M_1 : xM => w_X1_noTide M_1 x1 (fun (r_2 : Int32) => wif (r_2 = 0) (wif ((M1 M_1 17) = 8) (Q (-4) M_1) (vp_in (M1 M_1 17) 8 ∧ nm (m2 M_1 18 (Int32.toNatClampNeg (M1 M_1 17)) x1) (fun M_6 : xM => nm (m1 M_6 17 ((M1 M_6 17) + 1)) (fun M_7 : xM => Q ((M1 M_7 17) - 1) M_7)))) (Q (-2) M_1)))
theorem hd_X1_act : yX1_act.cls = "PressedMenModel" ∧ yX1_act.cls ≠ "java/lang/invoke/MethodHandle" ∧ yX1_act.cls ≠ "java/lang/invoke/VarHandle" ∧ (parseMethodDescriptor yX1_act.desc).map (fun d => d.parameters.length) = some 1 := by decide +kernel
set_option maxHeartbeats 4000000 in
theorem mt_X1_act (l : Launch) {D : va_G} {d : Nat → ClassId} {base : Nat} {mo : Nat} {Aa : Nat → Nat} {M : xM} {S : xH} {x1 : Int32} {Q : Int32 → xM → Prop} (hw : w_X1_act M x1 Q) : Met l yX1_act (ws_ yX1_act cX1_act 2 (some FieldType.int)) (x_rm 2 0 0 45) (x_Pc D d base (x_mc d mo Aa M) S [.ref mo, .int x1]) (xm_Qi D d base mo Aa S (fun r M' => Q r M')) 0 0 (x_A base) := by
  refine x_met (by decide) (Nat.le_of_ble_eq_true rfl) ?_
  intro p e s m below meth c hx hb hml hr hlocks hown hts hz hR hK hin ls hl
  have hown : s.vm.findClass "PressedMenModel" = some m.cls := hown
  have hl : lv_has ls 2 [(0, .ref mo), (1, .int x1)] := hl
  have hS : va_S (x_A base) s.heap s.heap [] := va_S.rf
  unfold w_X1_act at hw
  refine lv_aload_n hx hb dX1_act_0 rfl (lv_at hl 0 rfl) ?_
  refine lv_iconst (v := 0) hx hb dX1_act_1 (by decide) ?_
  refine xm_putI (M := M) (k := 0) hx hb hts in_X1 hown hK hR hS (by decide) (hts _ q966) rfl rfl rfl rfl dX1_act_2 (fun H locs hR hS => ?_)
  obtain ⟨M_1, eM_1⟩ : ∃ z, z = (m1 M 0 0) := ⟨_, rfl⟩
  rw [← eM_1] at hR
  have hw := hw M_1 eM_1
  refine lv_iload_n hx hb dX1_act_5 rfl (lv_at hl 1 rfl) ?_
  refine xm_ci (va_runS (As := [.int x1]) (rest := []) ⟨hx, hb, hml, hown, hts⟩ (mt_X1_noTide l hw) (va_cwS 1 hts (lw_S q1199 q1200 q65 q1201) rfl rfl rfl hd_X1_noTide.2 ⟨Nat.le_of_ble_eq_true rfl, Nat.le_of_ble_eq_true rfl⟩) ⟨x_Pc_blind, x_Pc_pre hR hz hS hK⟩ rfl rfl hl.1 rfl (lv_room (Nat.le_of_ble_eq_true rfl)) dX1_act_6 ⟨Nat.le_refl _, Nat.le_refl _⟩) hS (fun r_2 M_3 H locs hp hR hS => ?_)
  have hw := hp.2
  rw [hp.1] at hR
  refine lv_if_eq (tgt := 15) hx hb dX1_act_9 (by decide) (fun c_4 => ?_) (fun c_4 => ?_)
  · have hw := x_t hw c_4
    refine lv_aload_n hx hb dX1_act_15 rfl (lv_at hl 0 rfl) ?_
    refine xm_getI (k := 17) hx hb hts in_X1 hown hK hR (by decide) (hts _ q983) rfl dX1_act_16 ?_
    refine lv_bipush (v := 8) hx hb dX1_act_19 (by decide) ?_
    refine lv_icmp_ne (tgt := 27) hx hb dX1_act_21 (by decide) (fun c_5 => ?_) (fun c_5 => ?_)
    · have hw := x_f hw c_5
      refine lv_aload_n hx hb dX1_act_27 rfl (lv_at hl 0 rfl) ?_
      refine xm_getA (k := 18) hx hb hts in_X1 hown hK hR (by decide) (hts _ q984) rfl dX1_act_28 ?_
      refine lv_aload_n hx hb dX1_act_31 rfl (lv_at hl 0 rfl) ?_
      refine xm_getI (k := 17) hx hb hts in_X1 hown hK hR (by decide) (hts _ q983) rfl dX1_act_32 ?_
      refine lv_iload_n hx hb dX1_act_35 rfl (lv_at hl 1 rfl) ?_
      refine xm_ist (M := M_1) (k := 18) (j := 11) hx hb hK hR hS dX1_act_36 rfl hw.1 (fun H locs hR hS => ?_)
      have hw := hw.2
      obtain ⟨M_6, eM_6⟩ : ∃ z, z = (m2 M_1 18 (Int32.toNatClampNeg (M1 M_1 17)) x1) := ⟨_, rfl⟩
      rw [← eM_6] at hR
      have hw := hw M_6 eM_6
      refine lv_aload_n hx hb dX1_act_37 rfl (lv_at hl 0 rfl) ?_
      refine lv_dup hx hb dX1_act_38 rfl ?_
      refine xm_getI (k := 17) hx hb hts in_X1 hown hK hR (by decide) (hts _ q983) rfl dX1_act_39 ?_
      refine lv_iconst (v := 1) hx hb dX1_act_42 (by decide) ?_
      refine lv_iadd hx hb dX1_act_43 ?_
      refine xm_putI (M := M_6) (k := 17) hx hb hts in_X1 hown hK hR hS (by decide) (hts _ q983) rfl rfl rfl rfl dX1_act_44 (fun H locs hR hS => ?_)
      obtain ⟨M_7, eM_7⟩ : ∃ z, z = (m1 M_6 17 ((M1 M_6 17) + 1)) := ⟨_, rfl⟩
      rw [← eM_7] at hR
      have hw := hw M_7 eM_7
      refine lv_aload_n hx hb dX1_act_47 rfl (lv_at hl 0 rfl) ?_
      refine xm_getI (k := 17) hx hb hts in_X1 hown hK hR (by decide) (hts _ q983) rfl dX1_act_48 ?_
      refine lv_iconst (v := 1) hx hb dX1_act_51 (by decide) ?_
      refine lv_isub hx hb dX1_act_52 ?_
      exact xm_ri hx hb hr hlocks hR hS dX1_act_53 hw
    · have hw := x_t hw c_5
      refine lv_bipush (v := (-4)) hx hb dX1_act_24 (by decide) ?_
      exact xm_ri hx hb hr hlocks hR hS dX1_act_26 hw
  · have hw := x_f hw c_4
    refine lv_bipush (v := (-2)) hx hb dX1_act_12 (by decide) ?_
    exact xm_ri hx hb hr hlocks hR hS dX1_act_14 hw
def w_X1_sign (M : xM) (x1 : Int32) (x2 : Int32) (Q : Int32 → xM → Prop) : Prop := nm (m1 M 0 0) (fun M_1 : xM => w_X1_in M_1 (Int32.toInt64 x1) 0 (Int32.toInt64 ((M1 M_1 17) - 1)) (fun (r_2 : Int32) => wif (r_2 = 0) (Q (-1) M_1) (w_X1_in M_1 (Int32.toInt64 x2) 33 126 (fun (r_5 : Int32) => wif (r_5 = 0) (Q (-2) M_1) (vp_in x1 8 ∧ wif ((M2 M_1 19 (Int32.toNatClampNeg x1)) = 60) (Q (-4) M_1) (vp_in x1 8 ∧ vp_in ((60 * x1) + (M2 M_1 19 (Int32.toNatClampNeg x1))) 480 ∧ nm (m2 M_1 20 (Int32.toNatClampNeg ((60 * x1) + (M2 M_1 19 (Int32.toNatClampNeg x1)))) x2) (fun M_9 : xM => vp_in x1 8 ∧ vp_in x1 8 ∧ nm (m2 M_9 19 (Int32.toNatClampNeg x1) ((M2 M_9 19 (Int32.toNatClampNeg x1)) + 1)) (fun M_10 : xM => vp_in x1 8 ∧ Q (M2 M_10 19 (Int32.toNatClampNeg x1)) M_10))))))))
theorem hd_X1_sign : yX1_sign.cls = "PressedMenModel" ∧ yX1_sign.cls ≠ "java/lang/invoke/MethodHandle" ∧ yX1_sign.cls ≠ "java/lang/invoke/VarHandle" ∧ (parseMethodDescriptor yX1_sign.desc).map (fun d => d.parameters.length) = some 2 := by decide +kernel
set_option maxHeartbeats 4000000 in
theorem mt_X1_sign (l : Launch) {D : va_G} {d : Nat → ClassId} {base : Nat} {mo : Nat} {Aa : Nat → Nat} {M : xM} {S : xH} {x1 : Int32} {x2 : Int32} {Q : Int32 → xM → Prop} (hw : w_X1_sign M x1 x2 Q) : Met l yX1_sign (ws_ yX1_sign cX1_sign 3 (some FieldType.int)) (x_rm 1 0 0 25) (x_Pc D d base (x_mc d mo Aa M) S [.ref mo, .int x1, .int x2]) (xm_Qi D d base mo Aa S (fun r M' => Q r M')) 0 0 (x_A base) := by
  refine x_met (by decide) (Nat.le_of_ble_eq_true rfl) ?_
  intro p e s m below meth c hx hb hml hr hlocks hown hts hz hR hK hin ls hl
  have hown : s.vm.findClass "PressedMenModel" = some m.cls := hown
  have hl : lv_has ls 3 [(0, .ref mo), (1, .int x1), (2, .int x2)] := hl
  have hS : va_S (x_A base) s.heap s.heap [] := va_S.rf
  unfold w_X1_sign at hw
  refine lv_aload_n hx hb dX1_sign_0 rfl (lv_at hl 0 rfl) ?_
  refine lv_iconst (v := 0) hx hb dX1_sign_1 (by decide) ?_
  refine xm_putI (M := M) (k := 0) hx hb hts in_X1 hown hK hR hS (by decide) (hts _ q966) rfl rfl rfl rfl dX1_sign_2 (fun H locs hR hS => ?_)
  obtain ⟨M_1, eM_1⟩ : ∃ z, z = (m1 M 0 0) := ⟨_, rfl⟩
  rw [← eM_1] at hR
  have hw := hw M_1 eM_1
  refine lv_iload_n hx hb dX1_sign_5 rfl (lv_at hl 1 rfl) ?_
  refine lv_i2l (v := (Int32.toInt64 x1)) hx hb dX1_sign_6 rfl ?_
  refine lv_lconst (v := 0) hx hb dX1_sign_7 (by decide) ?_
  refine lv_aload_n hx hb dX1_sign_8 rfl (lv_at hl 0 rfl) ?_
  refine xm_getI (k := 17) hx hb hts in_X1 hown hK hR (by decide) (hts _ q983) rfl dX1_sign_9 ?_
  refine lv_iconst (v := 1) hx hb dX1_sign_12 (by decide) ?_
  refine lv_isub hx hb dX1_sign_13 ?_
  refine lv_i2l (v := (Int32.toInt64 ((M1 M_1 17) - 1))) hx hb dX1_sign_14 rfl ?_
  refine xm_ci (va_runS (As := [.long (Int32.toInt64 x1), .long 0, .long (Int32.toInt64 ((M1 M_1 17) - 1))]) (rest := []) ⟨hx, hb, hml, hown, hts⟩ (mt_X1_in l hw) (va_cwS 3 hts (lw_S q1089 q1090 q65 q1091) rfl rfl rfl hd_X1_in.2 ⟨Nat.le_of_ble_eq_true rfl, Nat.le_of_ble_eq_true rfl⟩) ⟨x_Pc_blind, x_Pc_pre hR hz hS hK⟩ rfl rfl hl.1 rfl (lv_room (Nat.le_of_ble_eq_true rfl)) dX1_sign_15 ⟨Nat.le_refl _, Nat.le_refl _⟩) hS (fun r_2 M_3 H locs hp hR hS => ?_)
  have hw := hp.2
  rw [hp.1] at hR
  refine lv_if_ne (tgt := 23) hx hb dX1_sign_18 (by decide) (fun c_4 => ?_) (fun c_4 => ?_)
  · have hw := x_f hw c_4
    refine lv_iload_n hx hb dX1_sign_23 rfl (lv_at hl 2 rfl) ?_
    refine lv_i2l (v := (Int32.toInt64 x2)) hx hb dX1_sign_24 rfl ?_
    refine lv_ldc2 (v := 33) hx hb hown (hts _ q1223) dX1_sign_25 ?_
    refine lv_ldc2 (v := 126) hx hb hown (hts _ q1224) dX1_sign_28 ?_
    refine xm_ci (va_runS (As := [.long (Int32.toInt64 x2), .long 33, .long 126]) (rest := []) ⟨hx, hb, hml, hown, hts⟩ (mt_X1_in l hw) (va_cwS 3 hts (lw_S q1089 q1090 q65 q1091) rfl rfl rfl hd_X1_in.2 ⟨Nat.le_of_ble_eq_true rfl, Nat.le_of_ble_eq_true rfl⟩) ⟨x_Pc_blind, x_Pc_pre hR hz hS hK⟩ rfl rfl hl.1 rfl (lv_room (Nat.le_of_ble_eq_true rfl)) dX1_sign_31 ⟨Nat.le_refl _, Nat.le_refl _⟩) hS (fun r_5 M_6 H locs hp hR hS => ?_)
    have hw := hp.2
    rw [hp.1] at hR
    refine lv_if_ne (tgt := 40) hx hb dX1_sign_34 (by decide) (fun c_7 => ?_) (fun c_7 => ?_)
    · have hw := x_f hw c_7
      refine lv_aload_n hx hb dX1_sign_40 rfl (lv_at hl 0 rfl) ?_
      refine xm_getA (k := 19) hx hb hts in_X1 hown hK hR (by decide) (hts _ q985) rfl dX1_sign_41 ?_
      refine lv_iload_n hx hb dX1_sign_44 rfl (lv_at hl 1 rfl) ?_
      refine xm_ild (M := M_1) (k := 19) (j := 12) hx hb hK hR dX1_sign_45 rfl hw.1 ?_
      have hw := hw.2
      refine lv_bipush (v := 60) hx hb dX1_sign_46 (by decide) ?_
      refine lv_icmp_ne (tgt := 54) hx hb dX1_sign_48 (by decide) (fun c_8 => ?_) (fun c_8 => ?_)
      · have hw := x_f hw c_8
        refine lv_aload_n hx hb dX1_sign_54 rfl (lv_at hl 0 rfl) ?_
        refine xm_getA (k := 20) hx hb hts in_X1 hown hK hR (by decide) (hts _ q986) rfl dX1_sign_55 ?_
        refine lv_bipush (v := 60) hx hb dX1_sign_58 (by decide) ?_
        refine lv_iload_n hx hb dX1_sign_60 rfl (lv_at hl 1 rfl) ?_
        refine lv_imul hx hb dX1_sign_61 ?_
        refine lv_aload_n hx hb dX1_sign_62 rfl (lv_at hl 0 rfl) ?_
        refine xm_getA (k := 19) hx hb hts in_X1 hown hK hR (by decide) (hts _ q985) rfl dX1_sign_63 ?_
        refine lv_iload_n hx hb dX1_sign_66 rfl (lv_at hl 1 rfl) ?_
        refine xm_ild (M := M_1) (k := 19) (j := 12) hx hb hK hR dX1_sign_67 rfl hw.1 ?_
        have hw := hw.2
        refine lv_iadd hx hb dX1_sign_68 ?_
        refine lv_iload_n hx hb dX1_sign_69 rfl (lv_at hl 2 rfl) ?_
        refine xm_ist (M := M_1) (k := 20) (j := 13) hx hb hK hR hS dX1_sign_70 rfl hw.1 (fun H locs hR hS => ?_)
        have hw := hw.2
        obtain ⟨M_9, eM_9⟩ : ∃ z, z = (m2 M_1 20 (Int32.toNatClampNeg ((60 * x1) + (M2 M_1 19 (Int32.toNatClampNeg x1)))) x2) := ⟨_, rfl⟩
        rw [← eM_9] at hR
        have hw := hw M_9 eM_9
        refine lv_aload_n hx hb dX1_sign_71 rfl (lv_at hl 0 rfl) ?_
        refine xm_getA (k := 19) hx hb hts in_X1 hown hK hR (by decide) (hts _ q985) rfl dX1_sign_72 ?_
        refine lv_iload_n hx hb dX1_sign_75 rfl (lv_at hl 1 rfl) ?_
        refine lv_dup2_11 hx hb dX1_sign_76 rfl rfl ?_
        refine xm_ild (M := M_9) (k := 19) (j := 12) hx hb hK hR dX1_sign_77 rfl hw.1 ?_
        have hw := hw.2
        refine lv_iconst (v := 1) hx hb dX1_sign_78 (by decide) ?_
        refine lv_iadd hx hb dX1_sign_79 ?_
        refine xm_ist (M := M_9) (k := 19) (j := 12) hx hb hK hR hS dX1_sign_80 rfl hw.1 (fun H locs hR hS => ?_)
        have hw := hw.2
        obtain ⟨M_10, eM_10⟩ : ∃ z, z = (m2 M_9 19 (Int32.toNatClampNeg x1) ((M2 M_9 19 (Int32.toNatClampNeg x1)) + 1)) := ⟨_, rfl⟩
        rw [← eM_10] at hR
        have hw := hw M_10 eM_10
        refine lv_aload_n hx hb dX1_sign_81 rfl (lv_at hl 0 rfl) ?_
        refine xm_getA (k := 19) hx hb hts in_X1 hown hK hR (by decide) (hts _ q985) rfl dX1_sign_82 ?_
        refine lv_iload_n hx hb dX1_sign_85 rfl (lv_at hl 1 rfl) ?_
        refine xm_ild (M := M_10) (k := 19) (j := 12) hx hb hK hR dX1_sign_86 rfl hw.1 ?_
        have hw := hw.2
        exact xm_ri hx hb hr hlocks hR hS dX1_sign_87 hw
      · have hw := x_t hw c_8
        refine lv_bipush (v := (-4)) hx hb dX1_sign_51 (by decide) ?_
        exact xm_ri hx hb hr hlocks hR hS dX1_sign_53 hw
    · have hw := x_t hw c_7
      refine lv_bipush (v := (-2)) hx hb dX1_sign_37 (by decide) ?_
      exact xm_ri hx hb hr hlocks hR hS dX1_sign_39 hw
  · have hw := x_t hw c_4
    refine lv_iconst (v := (-1)) hx hb dX1_sign_21 (by decide) ?_
    exact xm_ri hx hb hr hlocks hR hS dX1_sign_22 hw
def w_X1_hasDigits (M : xM) (x0 : Int32) (Q : Int32 → Prop) : Prop := wif (x0 = 97) (Q 1) (wif (x0 = 65) (Q 1) (wif (x0 = 121) (Q 1) (wif (x0 = 89) (Q 1) (wif (x0 = 116) (Q 1) (Q 0)))))
theorem hd_X1_hasDigits : yX1_hasDigits.cls = "PressedMenModel" ∧ yX1_hasDigits.cls ≠ "java/lang/invoke/MethodHandle" ∧ yX1_hasDigits.cls ≠ "java/lang/invoke/VarHandle" ∧ (parseMethodDescriptor yX1_hasDigits.desc).map (fun d => d.parameters.length) = some 1 := by decide +kernel
set_option maxHeartbeats 4000000 in
theorem mt_X1_hasDigits (l : Launch) {D : va_G} {d : Nat → ClassId} {base : Nat} {mo : Nat} {Aa : Nat → Nat} {M : xM} {S : xH} {x0 : Int32} {Q : Int32 → Prop} (hw : w_X1_hasDigits M x0 Q) : Met l yX1_hasDigits (ws_ yX1_hasDigits cX1_hasDigits 1 (some FieldType.boolean)) (x_rm 0 0 0 0) (x_Pc D d base (x_mc d mo Aa M) S [.int x0]) (xm_Qi D d base mo Aa S (fun r M' => M' = M ∧ Q r)) 0 0 (x_A base) := by
  refine x_met (by decide) (Nat.le_of_ble_eq_true rfl) ?_
  intro p e s m below meth c hx hb hml hr hlocks hown hts hz hR hK hin ls hl
  have hown : s.vm.findClass "PressedMenModel" = some m.cls := hown
  have hl : lv_has ls 1 [(0, .int x0)] := hl
  have hS : va_S (x_A base) s.heap s.heap [] := va_S.rf
  unfold w_X1_hasDigits at hw
  refine lv_iload_n hx hb dX1_hasDigits_0 rfl (lv_at hl 0 rfl) ?_
  refine lv_bipush (v := 97) hx hb dX1_hasDigits_1 (by decide) ?_
  refine lv_icmp_eq (tgt := 30) hx hb dX1_hasDigits_3 (by decide) (fun c_1 => ?_) (fun c_1 => ?_)
  · have hw := x_t hw c_1
    refine lv_iconst (v := 1) hx hb dX1_hasDigits_30 (by decide) ?_
    refine lv_goto (tgt := 35) hx hb dX1_hasDigits_31 (by decide) ?_
    exact xm_rz hx hb hr hlocks hR hS dX1_hasDigits_35 (Or.inr rfl) ⟨rfl, hw⟩
  · have hw := x_f hw c_1
    refine lv_iload_n hx hb dX1_hasDigits_6 rfl (lv_at hl 0 rfl) ?_
    refine lv_bipush (v := 65) hx hb dX1_hasDigits_7 (by decide) ?_
    refine lv_icmp_eq (tgt := 30) hx hb dX1_hasDigits_9 (by decide) (fun c_2 => ?_) (fun c_2 => ?_)
    · have hw := x_t hw c_2
      refine lv_iconst (v := 1) hx hb dX1_hasDigits_30 (by decide) ?_
      refine lv_goto (tgt := 35) hx hb dX1_hasDigits_31 (by decide) ?_
      exact xm_rz hx hb hr hlocks hR hS dX1_hasDigits_35 (Or.inr rfl) ⟨rfl, hw⟩
    · have hw := x_f hw c_2
      refine lv_iload_n hx hb dX1_hasDigits_12 rfl (lv_at hl 0 rfl) ?_
      refine lv_bipush (v := 121) hx hb dX1_hasDigits_13 (by decide) ?_
      refine lv_icmp_eq (tgt := 30) hx hb dX1_hasDigits_15 (by decide) (fun c_3 => ?_) (fun c_3 => ?_)
      · have hw := x_t hw c_3
        refine lv_iconst (v := 1) hx hb dX1_hasDigits_30 (by decide) ?_
        refine lv_goto (tgt := 35) hx hb dX1_hasDigits_31 (by decide) ?_
        exact xm_rz hx hb hr hlocks hR hS dX1_hasDigits_35 (Or.inr rfl) ⟨rfl, hw⟩
      · have hw := x_f hw c_3
        refine lv_iload_n hx hb dX1_hasDigits_18 rfl (lv_at hl 0 rfl) ?_
        refine lv_bipush (v := 89) hx hb dX1_hasDigits_19 (by decide) ?_
        refine lv_icmp_eq (tgt := 30) hx hb dX1_hasDigits_21 (by decide) (fun c_4 => ?_) (fun c_4 => ?_)
        · have hw := x_t hw c_4
          refine lv_iconst (v := 1) hx hb dX1_hasDigits_30 (by decide) ?_
          refine lv_goto (tgt := 35) hx hb dX1_hasDigits_31 (by decide) ?_
          exact xm_rz hx hb hr hlocks hR hS dX1_hasDigits_35 (Or.inr rfl) ⟨rfl, hw⟩
        · have hw := x_f hw c_4
          refine lv_iload_n hx hb dX1_hasDigits_24 rfl (lv_at hl 0 rfl) ?_
          refine lv_bipush (v := 116) hx hb dX1_hasDigits_25 (by decide) ?_
          refine lv_icmp_ne (tgt := 34) hx hb dX1_hasDigits_27 (by decide) (fun c_5 => ?_) (fun c_5 => ?_)
          · have hw := x_f hw c_5
            refine lv_iconst (v := 0) hx hb dX1_hasDigits_34 (by decide) ?_
            exact xm_rz hx hb hr hlocks hR hS dX1_hasDigits_35 (Or.inl rfl) ⟨rfl, hw⟩
          · have hw := x_t hw c_5
            refine lv_iconst (v := 1) hx hb dX1_hasDigits_30 (by decide) ?_
            refine lv_goto (tgt := 35) hx hb dX1_hasDigits_31 (by decide) ?_
            exact xm_rz hx hb hr hlocks hR hS dX1_hasDigits_35 (Or.inr rfl) ⟨rfl, hw⟩
def w_X1_faultOf (M : xM) (x1 : Int32) (Q : Int32 → Prop) : Prop := lf3 (fun L_4 (x2_1 : Int32) (x3_2 : Int32) (x4_3 : Int32) => vp_in x1 8 ∧ wif ((M2 M 19 (Int32.toNatClampNeg x1)) ≤ x4_3) (jn0 (vp_in x1 8 ∧ Q (M2 M 19 (Int32.toNatClampNeg x1))) (fun J_6 => wif (x2_1 = 0) (wif (x3_2 = 0) (Q (-9)) (J_6)) (J_6))) (vp_in ((60 * x1) + x4_3) 480 ∧ nm (M2 M 20 (Int32.toNatClampNeg ((60 * x1) + x4_3))) (fun x5_9 : Int32 => jn2 (fun (x2_10 : Int32) (x3_11 : Int32) => L_4 x2_10 x3_11 (x4_3 + 1)) (fun J_12 => wif (x3_2 ≤ 0) (wif (x2_1 = 0) (Q x4_3) (jn0 (J_12 (x2_1 + 1) x3_2) (fun J_15 => wif (x5_9 = 38) (J_15) (wif (x5_9 = 124) (J_15) (w_X1_hasDigits M x5_9 (fun (r_18 : Int32) => wif (r_18 = 0) (jn0 (J_12 (x2_1 + (-1)) x3_2) (fun J_21 => wif (x5_9 = 112) (J_21) (wif (x5_9 = 115) (J_21) (wif (x5_9 = 104) (J_21) (wif (x5_9 = 33) (J_12 x2_1 x3_2) (Q x4_3)))))) (J_12 (x2_1 + (-1)) 2))))))) (w_X1_in M (Int32.toInt64 x5_9) 48 57 (fun (r_26 : Int32) => wif (r_26 = 0) (Q x4_3) (J_12 x2_1 (x3_2 + (-1))))))))) 1 0 0
theorem hd_X1_faultOf : yX1_faultOf.cls = "PressedMenModel" ∧ yX1_faultOf.cls ≠ "java/lang/invoke/MethodHandle" ∧ yX1_faultOf.cls ≠ "java/lang/invoke/VarHandle" ∧ (parseMethodDescriptor yX1_faultOf.desc).map (fun d => d.parameters.length) = some 1 := by decide +kernel
set_option maxHeartbeats 4000000 in
theorem mt_X1_faultOf (l : Launch) {D : va_G} {d : Nat → ClassId} {base : Nat} {mo : Nat} {Aa : Nat → Nat} {M : xM} {S : xH} {x1 : Int32} {Q : Int32 → Prop} (hw : w_X1_faultOf M x1 Q) : Met l yX1_faultOf (ws_ yX1_faultOf cX1_faultOf 6 (some FieldType.int)) (x_rm 1 0 0 25) (x_Pc D d base (x_mc d mo Aa M) S [.ref mo, .int x1]) (xm_Qi D d base mo Aa S (fun r M' => M' = M ∧ Q r)) 0 0 (x_A base) := by
  refine x_met (by decide) (Nat.le_of_ble_eq_true rfl) ?_
  intro p e s m below meth c hx hb hml hr hlocks hown hts hz hR hK hin ls hl
  have hown : s.vm.findClass "PressedMenModel" = some m.cls := hown
  have hl : lv_has ls 6 [(0, .ref mo), (1, .int x1)] := hl
  have hS : va_S (x_A base) s.heap s.heap [] := va_S.rf
  unfold w_X1_faultOf at hw
  refine lv_iconst (v := 1) hx hb dX1_faultOf_0 (by decide) ?_
  refine lv_istore_n (lv' := [(2, .int 1), (0, .ref mo), (1, .int x1)]) hx hb dX1_faultOf_1 rfl hl (by decide) rfl (fun ls hl => ?_)
  refine lv_iconst (v := 0) hx hb dX1_faultOf_2 (by decide) ?_
  refine lv_istore_n (lv' := [(3, .int 0), (2, .int 1), (0, .ref mo), (1, .int x1)]) hx hb dX1_faultOf_3 rfl hl (by decide) rfl (fun ls hl => ?_)
  refine lv_iconst (v := 0) hx hb dX1_faultOf_4 (by decide) ?_
  refine lv_istore (lv' := [(4, .int 0), (3, .int 0), (2, .int 1), (0, .ref mo), (1, .int x1)]) hx hb dX1_faultOf_5 hl (by decide) rfl (fun ls hl => ?_)
  refine x_lf3 (G := fun (x2_1 : Int32) (x3_2 : Int32) (x4_3 : Int32) => ∀ (ls : Array Slot) (H : Heap) (locs : List Loc), x_Rp D d (x_A base) (x_mc d mo Aa M) S H → va_S (x_A base) s.heap H locs → lv_has ls 6 [(0, .ref mo), (1, .int x1), (2, .int x2_1), (3, .int x3_2), (4, .int x4_3)] → W p l e (x_rm 1 0 0 25) s m ([.ref mo, .int x1] : List Value).toArray below meth c H locs 0 0 (MQ below (xm_Qi D d base mo Aa S (fun r M' => M' = M ∧ Q r)) ([.ref mo, .int x1] : List Value).toArray s 0 0 (x_A base)) (F0 m 7 ls [])) hw (fun x2_1 x3_2 x4_3 hw => ?_) ls _ _ hR hS (lv_sub hl [3, 4, 2, 1, 0] rfl)
  intro ls H locs hR hS hl
  refine lv_iload hx hb dX1_faultOf_7 (lv_at hl 4 rfl) ?_
  refine lv_aload_n hx hb dX1_faultOf_9 rfl (lv_at hl 0 rfl) ?_
  refine xm_getA (k := 19) hx hb hts in_X1 hown hK hR (by decide) (hts _ q985) rfl dX1_faultOf_10 ?_
  refine lv_iload_n hx hb dX1_faultOf_13 rfl (lv_at hl 1 rfl) ?_
  refine xm_ild (M := M) (k := 19) (j := 12) hx hb hK hR dX1_faultOf_14 rfl hw.1 ?_
  have hw := hw.2
  refine lv_icmp_ge (tgt := 146) hx hb dX1_faultOf_15 (by decide) (fun c_5 => ?_) (fun c_5 => ?_)
  · have hw := x_t hw c_5
    refine lv_iload_n hx hb dX1_faultOf_146 rfl (lv_at hl 2 rfl) ?_
    refine x_jn0 (G := ∀ (ls : Array Slot) (H : Heap) (locs : List Loc), x_Rp D d (x_A base) (x_mc d mo Aa M) S H → va_S (x_A base) s.heap H locs → lv_has ls 6 [(0, .ref mo), (1, .int x1)] → W p l e (x_rm 1 0 0 25) s m ([.ref mo, .int x1] : List Value).toArray below meth c H locs 0 0 (MQ below (xm_Qi D d base mo Aa S (fun r M' => M' = M ∧ Q r)) ([.ref mo, .int x1] : List Value).toArray s 0 0 (x_A base)) (F0 m 159 ls [])) hw (fun hw => ?_) (fun hJ_6 hw => ?_)
    · intro ls H locs hR hS hl
      refine lv_aload_n hx hb dX1_faultOf_159 rfl (lv_at hl 0 rfl) ?_
      refine xm_getA (k := 19) hx hb hts in_X1 hown hK hR (by decide) (hts _ q985) rfl dX1_faultOf_160 ?_
      refine lv_iload_n hx hb dX1_faultOf_163 rfl (lv_at hl 1 rfl) ?_
      refine xm_ild (M := M) (k := 19) (j := 12) hx hb hK hR dX1_faultOf_164 rfl hw.1 ?_
      have hw := hw.2
      exact xm_ri hx hb hr hlocks hR hS dX1_faultOf_165 ⟨rfl, hw⟩
    · refine lv_if_ne (tgt := 159) hx hb dX1_faultOf_147 (by decide) (fun c_7 => ?_) (fun c_7 => ?_)
      · have hw := x_f hw c_7
        exact hJ_6  hw ls _ _ hR hS (lv_sub hl [0, 1] rfl)
      · have hw := x_t hw c_7
        refine lv_iload_n hx hb dX1_faultOf_150 rfl (lv_at hl 3 rfl) ?_
        refine lv_if_ne (tgt := 159) hx hb dX1_faultOf_151 (by decide) (fun c_8 => ?_) (fun c_8 => ?_)
        · have hw := x_f hw c_8
          exact hJ_6  hw ls _ _ hR hS (lv_sub hl [0, 1] rfl)
        · have hw := x_t hw c_8
          refine lv_bipush (v := (-9)) hx hb dX1_faultOf_154 (by decide) ?_
          refine lv_goto (tgt := 165) hx hb dX1_faultOf_156 (by decide) ?_
          exact xm_ri hx hb hr hlocks hR hS dX1_faultOf_165 ⟨rfl, hw⟩
  · have hw := x_f hw c_5
    refine lv_aload_n hx hb dX1_faultOf_18 rfl (lv_at hl 0 rfl) ?_
    refine xm_getA (k := 20) hx hb hts in_X1 hown hK hR (by decide) (hts _ q986) rfl dX1_faultOf_19 ?_
    refine lv_bipush (v := 60) hx hb dX1_faultOf_22 (by decide) ?_
    refine lv_iload_n hx hb dX1_faultOf_24 rfl (lv_at hl 1 rfl) ?_
    refine lv_imul hx hb dX1_faultOf_25 ?_
    refine lv_iload hx hb dX1_faultOf_26 (lv_at hl 4 rfl) ?_
    refine lv_iadd hx hb dX1_faultOf_28 ?_
    refine xm_ild (M := M) (k := 20) (j := 13) hx hb hK hR dX1_faultOf_29 rfl hw.1 ?_
    have hw := hw.2
    refine lv_topi (fun x5_9 ex5_9 => ?_)
    have hw := hw x5_9 ex5_9
    refine lv_istore (lv' := [(5, .int x5_9), (0, .ref mo), (1, .int x1), (2, .int x2_1), (3, .int x3_2), (4, .int x4_3)]) hx hb dX1_faultOf_30 hl (by decide) rfl (fun ls hl => ?_)
    refine lv_iload_n hx hb dX1_faultOf_32 rfl (lv_at hl 4 rfl) ?_
    refine x_jn2 (G := fun (x2_10 : Int32) (x3_11 : Int32) => ∀ (ls : Array Slot) (H : Heap) (locs : List Loc), x_Rp D d (x_A base) (x_mc d mo Aa M) S H → va_S (x_A base) s.heap H locs → lv_has ls 6 [(0, .ref mo), (1, .int x1), (2, .int x2_10), (3, .int x3_11), (4, .int x4_3)] → W p l e (x_rm 1 0 0 25) s m ([.ref mo, .int x1] : List Value).toArray below meth c H locs 0 0 (MQ below (xm_Qi D d base mo Aa S (fun r M' => M' = M ∧ Q r)) ([.ref mo, .int x1] : List Value).toArray s 0 0 (x_A base)) (F0 m 140 ls [])) hw (fun x2_10 x3_11 hw => ?_) (fun hJ_12 hw => ?_)
    · intro ls H locs hR hS hl
      refine lv_iinc (v := (x4_3 + 1)) (lv' := [(4, .int (x4_3 + 1)), (0, .ref mo), (1, .int x1), (2, .int x2_10), (3, .int x3_11)]) hx hb dX1_faultOf_140 hl (k := 4) rfl rfl (by decide) rfl (fun ls hl => ?_)
      refine lv_goto (tgt := 7) hx hb dX1_faultOf_143 (by decide) ?_
      exact hw ls _ _ hR hS (lv_sub hl [1, 2, 3, 4, 0] rfl)
    · refine lv_if_le (tgt := 60) hx hb dX1_faultOf_33 (by decide) (fun c_13 => ?_) (fun c_13 => ?_)
      · have hw := x_t hw c_13
        refine lv_iload_n hx hb dX1_faultOf_60 rfl (lv_at hl 3 rfl) ?_
        refine lv_if_ne (tgt := 67) hx hb dX1_faultOf_61 (by decide) (fun c_14 => ?_) (fun c_14 => ?_)
        · have hw := x_f hw c_14
          refine lv_iload hx hb dX1_faultOf_67 (lv_at hl 0 rfl) ?_
          refine lv_bipush (v := 38) hx hb dX1_faultOf_69 (by decide) ?_
          refine x_jn0 (G := ∀ (ls : Array Slot) (H : Heap) (locs : List Loc), x_Rp D d (x_A base) (x_mc d mo Aa M) S H → va_S (x_A base) s.heap H locs → lv_has ls 6 [(0, .ref mo), (1, .int x1), (2, .int x2_1), (3, .int x3_2), (4, .int x4_3)] → W p l e (x_rm 1 0 0 25) s m ([.ref mo, .int x1] : List Value).toArray below meth c H locs 0 0 (MQ below (xm_Qi D d base mo Aa S (fun r M' => M' = M ∧ Q r)) ([.ref mo, .int x1] : List Value).toArray s 0 0 (x_A base)) (F0 m 81 ls [])) hw (fun hw => ?_) (fun hJ_15 hw => ?_)
          · intro ls H locs hR hS hl
            refine lv_iinc (v := (x2_1 + 1)) (lv' := [(2, .int (x2_1 + 1)), (0, .ref mo), (1, .int x1), (3, .int x3_2), (4, .int x4_3)]) hx hb dX1_faultOf_81 hl (k := 2) rfl rfl (by decide) rfl (fun ls hl => ?_)
            refine lv_goto (tgt := 140) hx hb dX1_faultOf_84 (by decide) ?_
            exact hJ_12 (x2_1 + 1) x3_2 hw ls _ _ hR hS (lv_sub hl [1, 2, 0, 3, 4] rfl)
          · refine lv_icmp_eq (tgt := 81) hx hb dX1_faultOf_71 (by decide) (fun c_16 => ?_) (fun c_16 => ?_)
            · have hw := x_t hw c_16
              exact hJ_15  hw ls _ _ hR hS (lv_sub hl [1, 2, 3, 4, 5] rfl)
            · have hw := x_f hw c_16
              refine lv_iload hx hb dX1_faultOf_74 (lv_at hl 0 rfl) ?_
              refine lv_bipush (v := 124) hx hb dX1_faultOf_76 (by decide) ?_
              refine lv_icmp_ne (tgt := 87) hx hb dX1_faultOf_78 (by decide) (fun c_17 => ?_) (fun c_17 => ?_)
              · have hw := x_f hw c_17
                refine lv_iload hx hb dX1_faultOf_87 (lv_at hl 0 rfl) ?_
                refine xm_ci (va_runS (As := [.int x5_9]) (rest := []) ⟨hx, hb, hml, hown, hts⟩ (mt_X1_hasDigits l hw) (va_cwS 1 hts (lw_S q1235 q1236 q65 q1237) rfl rfl rfl hd_X1_hasDigits.2 ⟨Nat.le_of_ble_eq_true rfl, Nat.le_of_ble_eq_true rfl⟩) ⟨x_Pc_blind, x_Pc_pre hR hz hS hK⟩ rfl rfl hl.1 rfl (lv_room (Nat.le_of_ble_eq_true rfl)) dX1_faultOf_89 ⟨Nat.le_refl _, Nat.le_refl _⟩) hS (fun r_18 M_19 H locs hp hR hS => ?_)
                have hw := hp.2
                rw [hp.1] at hR
                refine lv_if_eq (tgt := 103) hx hb dX1_faultOf_92 (by decide) (fun c_20 => ?_) (fun c_20 => ?_)
                · have hw := x_t hw c_20
                  refine lv_iload hx hb dX1_faultOf_103 (lv_at hl 0 rfl) ?_
                  refine lv_bipush (v := 112) hx hb dX1_faultOf_105 (by decide) ?_
                  refine x_jn0 (G := ∀ (ls : Array Slot) (H : Heap) (locs : List Loc), x_Rp D d (x_A base) (x_mc d mo Aa M) S H → va_S (x_A base) s.heap H locs → lv_has ls 6 [(0, .ref mo), (1, .int x1), (2, .int x2_1), (3, .int x3_2), (4, .int x4_3)] → W p l e (x_rm 1 0 0 25) s m ([.ref mo, .int x1] : List Value).toArray below meth c H locs 0 0 (MQ below (xm_Qi D d base mo Aa S (fun r M' => M' = M ∧ Q r)) ([.ref mo, .int x1] : List Value).toArray s 0 0 (x_A base)) (F0 m 124 ls [])) hw (fun hw => ?_) (fun hJ_21 hw => ?_)
                  · intro ls H locs hR hS hl
                    refine lv_iinc (v := (x2_1 + (-1))) (lv' := [(2, .int (x2_1 + (-1))), (0, .ref mo), (1, .int x1), (3, .int x3_2), (4, .int x4_3)]) hx hb dX1_faultOf_124 hl (k := 2) rfl rfl (by decide) rfl (fun ls hl => ?_)
                    refine lv_goto (tgt := 140) hx hb dX1_faultOf_127 (by decide) ?_
                    exact hJ_12 (x2_1 + (-1)) x3_2 hw ls _ _ hR hS (lv_sub hl [1, 2, 0, 3, 4] rfl)
                  · refine lv_icmp_eq (tgt := 124) hx hb dX1_faultOf_107 (by decide) (fun c_22 => ?_) (fun c_22 => ?_)
                    · have hw := x_t hw c_22
                      exact hJ_21  hw ls _ _ hR hS (lv_sub hl [1, 2, 3, 4, 5] rfl)
                    · have hw := x_f hw c_22
                      refine lv_iload hx hb dX1_faultOf_110 (lv_at hl 0 rfl) ?_
                      refine lv_bipush (v := 115) hx hb dX1_faultOf_112 (by decide) ?_
                      refine lv_icmp_eq (tgt := 124) hx hb dX1_faultOf_114 (by decide) (fun c_23 => ?_) (fun c_23 => ?_)
                      · have hw := x_t hw c_23
                        exact hJ_21  hw ls _ _ hR hS (lv_sub hl [1, 2, 3, 4, 5] rfl)
                      · have hw := x_f hw c_23
                        refine lv_iload hx hb dX1_faultOf_117 (lv_at hl 0 rfl) ?_
                        refine lv_bipush (v := 104) hx hb dX1_faultOf_119 (by decide) ?_
                        refine lv_icmp_ne (tgt := 130) hx hb dX1_faultOf_121 (by decide) (fun c_24 => ?_) (fun c_24 => ?_)
                        · have hw := x_f hw c_24
                          refine lv_iload hx hb dX1_faultOf_130 (lv_at hl 0 rfl) ?_
                          refine lv_bipush (v := 33) hx hb dX1_faultOf_132 (by decide) ?_
                          refine lv_icmp_eq (tgt := 140) hx hb dX1_faultOf_134 (by decide) (fun c_25 => ?_) (fun c_25 => ?_)
                          · have hw := x_t hw c_25
                            exact hJ_12 x2_1 x3_2 hw ls _ _ hR hS (lv_sub hl [1, 2, 3, 4, 5] rfl)
                          · have hw := x_f hw c_25
                            refine lv_iload hx hb dX1_faultOf_137 (lv_at hl 5 rfl) ?_
                            exact xm_ri hx hb hr hlocks hR hS dX1_faultOf_139 ⟨rfl, hw⟩
                        · have hw := x_t hw c_24
                          exact hJ_21  hw ls _ _ hR hS (lv_sub hl [1, 2, 3, 4, 5] rfl)
                · have hw := x_f hw c_20
                  refine lv_iinc (v := (x2_1 + (-1))) (lv' := [(2, .int (x2_1 + (-1))), (5, .int x5_9), (0, .ref mo), (1, .int x1), (3, .int x3_2), (4, .int x4_3)]) hx hb dX1_faultOf_95 hl (k := 3) rfl rfl (by decide) rfl (fun ls hl => ?_)
                  refine lv_iconst (v := 2) hx hb dX1_faultOf_98 (by decide) ?_
                  refine lv_istore_n (lv' := [(3, .int 2), (2, .int (x2_1 + (-1))), (5, .int x5_9), (0, .ref mo), (1, .int x1), (4, .int x4_3)]) hx hb dX1_faultOf_99 rfl hl (by decide) rfl (fun ls hl => ?_)
                  refine lv_goto (tgt := 140) hx hb dX1_faultOf_100 (by decide) ?_
                  exact hJ_12 (x2_1 + (-1)) 2 hw ls _ _ hR hS (lv_sub hl [3, 4, 1, 0, 5] rfl)
              · have hw := x_t hw c_17
                exact hJ_15  hw ls _ _ hR hS (lv_sub hl [1, 2, 3, 4, 5] rfl)
        · have hw := x_t hw c_14
          refine lv_iload hx hb dX1_faultOf_64 (lv_at hl 5 rfl) ?_
          exact xm_ri hx hb hr hlocks hR hS dX1_faultOf_66 ⟨rfl, hw⟩
      · have hw := x_f hw c_13
        refine lv_iload hx hb dX1_faultOf_36 (lv_at hl 0 rfl) ?_
        refine lv_i2l (v := (Int32.toInt64 x5_9)) hx hb dX1_faultOf_38 rfl ?_
        refine lv_ldc2 (v := 48) hx hb hown (hts _ q1233) dX1_faultOf_39 ?_
        refine lv_ldc2 (v := 57) hx hb hown (hts _ q1234) dX1_faultOf_42 ?_
        refine xm_ci (va_runS (As := [.long (Int32.toInt64 x5_9), .long 48, .long 57]) (rest := []) ⟨hx, hb, hml, hown, hts⟩ (mt_X1_in l hw) (va_cwS 3 hts (lw_S q1089 q1090 q65 q1091) rfl rfl rfl hd_X1_in.2 ⟨Nat.le_of_ble_eq_true rfl, Nat.le_of_ble_eq_true rfl⟩) ⟨x_Pc_blind, x_Pc_pre hR hz hS hK⟩ rfl rfl hl.1 rfl (lv_room (Nat.le_of_ble_eq_true rfl)) dX1_faultOf_45 ⟨Nat.le_refl _, Nat.le_refl _⟩) hS (fun r_26 M_27 H locs hp hR hS => ?_)
        have hw := hp.2
        rw [hp.1] at hR
        refine lv_if_ne (tgt := 54) hx hb dX1_faultOf_48 (by decide) (fun c_28 => ?_) (fun c_28 => ?_)
        · have hw := x_f hw c_28
          refine lv_iinc (v := (x3_2 + (-1))) (lv' := [(3, .int (x3_2 + (-1))), (5, .int x5_9), (0, .ref mo), (1, .int x1), (2, .int x2_1), (4, .int x4_3)]) hx hb dX1_faultOf_54 hl (k := 4) rfl rfl (by decide) rfl (fun ls hl => ?_)
          refine lv_goto (tgt := 140) hx hb dX1_faultOf_57 (by decide) ?_
          exact hJ_12 x2_1 (x3_2 + (-1)) hw ls _ _ hR hS (lv_sub hl [2, 3, 4, 0, 5] rfl)
        · have hw := x_t hw c_28
          refine lv_iload hx hb dX1_faultOf_51 (lv_at hl 5 rfl) ?_
          exact xm_ri hx hb hr hlocks hR hS dX1_faultOf_53 ⟨rfl, hw⟩
def w_X1_fault (M : xM) (x1 : Int32) (Q : Int32 → xM → Prop) : Prop := nm (m1 M 0 0) (fun M_1 : xM => w_X1_in M_1 (Int32.toInt64 x1) 0 (Int32.toInt64 ((M1 M_1 17) - 1)) (fun (r_2 : Int32) => wif (r_2 = 0) (Q (-1) M_1) (w_X1_faultOf M_1 x1 (fun (r_5 : Int32) => Q r_5 M_1))))
theorem hd_X1_fault : yX1_fault.cls = "PressedMenModel" ∧ yX1_fault.cls ≠ "java/lang/invoke/MethodHandle" ∧ yX1_fault.cls ≠ "java/lang/invoke/VarHandle" ∧ (parseMethodDescriptor yX1_fault.desc).map (fun d => d.parameters.length) = some 1 := by decide +kernel
set_option maxHeartbeats 4000000 in
theorem mt_X1_fault (l : Launch) {D : va_G} {d : Nat → ClassId} {base : Nat} {mo : Nat} {Aa : Nat → Nat} {M : xM} {S : xH} {x1 : Int32} {Q : Int32 → xM → Prop} (hw : w_X1_fault M x1 Q) : Met l yX1_fault (ws_ yX1_fault cX1_fault 2 (some FieldType.int)) (x_rm 2 0 0 50) (x_Pc D d base (x_mc d mo Aa M) S [.ref mo, .int x1]) (xm_Qi D d base mo Aa S (fun r M' => Q r M')) 0 0 (x_A base) := by
  refine x_met (by decide) (Nat.le_of_ble_eq_true rfl) ?_
  intro p e s m below meth c hx hb hml hr hlocks hown hts hz hR hK hin ls hl
  have hown : s.vm.findClass "PressedMenModel" = some m.cls := hown
  have hl : lv_has ls 2 [(0, .ref mo), (1, .int x1)] := hl
  have hS : va_S (x_A base) s.heap s.heap [] := va_S.rf
  unfold w_X1_fault at hw
  refine lv_aload_n hx hb dX1_fault_0 rfl (lv_at hl 0 rfl) ?_
  refine lv_iconst (v := 0) hx hb dX1_fault_1 (by decide) ?_
  refine xm_putI (M := M) (k := 0) hx hb hts in_X1 hown hK hR hS (by decide) (hts _ q966) rfl rfl rfl rfl dX1_fault_2 (fun H locs hR hS => ?_)
  obtain ⟨M_1, eM_1⟩ : ∃ z, z = (m1 M 0 0) := ⟨_, rfl⟩
  rw [← eM_1] at hR
  have hw := hw M_1 eM_1
  refine lv_iload_n hx hb dX1_fault_5 rfl (lv_at hl 1 rfl) ?_
  refine lv_i2l (v := (Int32.toInt64 x1)) hx hb dX1_fault_6 rfl ?_
  refine lv_lconst (v := 0) hx hb dX1_fault_7 (by decide) ?_
  refine lv_aload_n hx hb dX1_fault_8 rfl (lv_at hl 0 rfl) ?_
  refine xm_getI (k := 17) hx hb hts in_X1 hown hK hR (by decide) (hts _ q983) rfl dX1_fault_9 ?_
  refine lv_iconst (v := 1) hx hb dX1_fault_12 (by decide) ?_
  refine lv_isub hx hb dX1_fault_13 ?_
  refine lv_i2l (v := (Int32.toInt64 ((M1 M_1 17) - 1))) hx hb dX1_fault_14 rfl ?_
  refine xm_ci (va_runS (As := [.long (Int32.toInt64 x1), .long 0, .long (Int32.toInt64 ((M1 M_1 17) - 1))]) (rest := []) ⟨hx, hb, hml, hown, hts⟩ (mt_X1_in l hw) (va_cwS 3 hts (lw_S q1089 q1090 q65 q1091) rfl rfl rfl hd_X1_in.2 ⟨Nat.le_of_ble_eq_true rfl, Nat.le_of_ble_eq_true rfl⟩) ⟨x_Pc_blind, x_Pc_pre hR hz hS hK⟩ rfl rfl hl.1 rfl (lv_room (Nat.le_of_ble_eq_true rfl)) dX1_fault_15 ⟨Nat.le_refl _, Nat.le_refl _⟩) hS (fun r_2 M_3 H locs hp hR hS => ?_)
  have hw := hp.2
  rw [hp.1] at hR
  refine lv_if_eq (tgt := 29) hx hb dX1_fault_18 (by decide) (fun c_4 => ?_) (fun c_4 => ?_)
  · have hw := x_t hw c_4
    refine lv_iconst (v := (-1)) hx hb dX1_fault_29 (by decide) ?_
    exact xm_ri hx hb hr hlocks hR hS dX1_fault_30 hw
  · have hw := x_f hw c_4
    refine lv_aload_n hx hb dX1_fault_21 rfl (lv_at hl 0 rfl) ?_
    refine lv_iload_n hx hb dX1_fault_22 rfl (lv_at hl 1 rfl) ?_
    refine xm_ci (va_runV (As := [.int x1]) (rest := []) ⟨hx, hb, hml, hown, hts⟩ (mt_X1_faultOf l hw) (cwV 1 hts (lw_V q1229 q1231 qs46 q65 q1232) rfl rfl rfl hd_X1_faultOf ⟨Nat.le_of_ble_eq_true rfl, Nat.le_of_ble_eq_true rfl⟩) ⟨x_Pc_blind, xm_recv hR hK, x_Pc_pre hR hz hS hK⟩ rfl rfl hl.1 rfl (lv_room (Nat.le_of_ble_eq_true rfl)) dX1_fault_23 ⟨Nat.le_refl _, Nat.le_refl _⟩) hS (fun r_5 M_6 H locs hp hR hS => ?_)
    have hw := hp.2
    rw [hp.1] at hR
    refine lv_goto (tgt := 30) hx hb dX1_fault_26 (by decide) ?_
    exact xm_ri hx hb hr hlocks hR hS dX1_fault_30 hw
def w_X1_forceOf (M : xM) (x1 : Int32) (Q : Int32 → Prop) : Prop := lf2 (fun L_3 (x2_1 : Int32) (x3_2 : Int32) => wif ((M1 M 17) ≤ x3_2) (Q x2_1) (vp_in x3_2 8 ∧ jn (fun (v0_5 : Int32) => jn (fun (v0_7 : Int32) => L_3 v0_7 (x3_2 + 1)) (fun J_8 => jn0 (J_8 x2_1) (fun J_9 => wif (v0_5 = 0) (J_9) (jn0 (J_8 x3_2) (fun J_11 => wif (x2_1 = (-9)) (J_11) (vp_in x3_2 8 ∧ vp_in x2_1 8 ∧ wif ((M2 M 18 (Int32.toNatClampNeg x3_2)) < (M2 M 18 (Int32.toNatClampNeg x2_1))) (J_9) (J_11))))))) (fun J_6 => jn0 (J_6 0) (fun J_14 => wif (x1 < (M2 M 18 (Int32.toNatClampNeg x3_2))) (J_14) (w_X1_faultOf M x3_2 (fun (r_16 : Int32) => wif (r_16 = (-9)) (J_6 1) (J_14))))))) (-9) 0
theorem hd_X1_forceOf : yX1_forceOf.cls = "PressedMenModel" ∧ yX1_forceOf.cls ≠ "java/lang/invoke/MethodHandle" ∧ yX1_forceOf.cls ≠ "java/lang/invoke/VarHandle" ∧ (parseMethodDescriptor yX1_forceOf.desc).map (fun d => d.parameters.length) = some 1 := by decide +kernel
set_option maxHeartbeats 4000000 in
theorem mt_X1_forceOf (l : Launch) {D : va_G} {d : Nat → ClassId} {base : Nat} {mo : Nat} {Aa : Nat → Nat} {M : xM} {S : xH} {x1 : Int32} {Q : Int32 → Prop} (hw : w_X1_forceOf M x1 Q) : Met l yX1_forceOf (ws_ yX1_forceOf cX1_forceOf 5 (some FieldType.int)) (x_rm 2 0 0 50) (x_Pc D d base (x_mc d mo Aa M) S [.ref mo, .int x1]) (xm_Qi D d base mo Aa S (fun r M' => M' = M ∧ Q r)) 0 0 (x_A base) := by
  refine x_met (by decide) (Nat.le_of_ble_eq_true rfl) ?_
  intro p e s m below meth c hx hb hml hr hlocks hown hts hz hR hK hin ls hl
  have hown : s.vm.findClass "PressedMenModel" = some m.cls := hown
  have hl : lv_has ls 5 [(0, .ref mo), (1, .int x1)] := hl
  have hS : va_S (x_A base) s.heap s.heap [] := va_S.rf
  unfold w_X1_forceOf at hw
  refine lv_bipush (v := (-9)) hx hb dX1_forceOf_0 (by decide) ?_
  refine lv_istore_n (lv' := [(2, .int (-9)), (0, .ref mo), (1, .int x1)]) hx hb dX1_forceOf_2 rfl hl (by decide) rfl (fun ls hl => ?_)
  refine lv_iconst (v := 0) hx hb dX1_forceOf_3 (by decide) ?_
  refine lv_istore_n (lv' := [(3, .int 0), (2, .int (-9)), (0, .ref mo), (1, .int x1)]) hx hb dX1_forceOf_4 rfl hl (by decide) rfl (fun ls hl => ?_)
  refine x_lf2 (G := fun (x2_1 : Int32) (x3_2 : Int32) => ∀ (ls : Array Slot) (H : Heap) (locs : List Loc), x_Rp D d (x_A base) (x_mc d mo Aa M) S H → va_S (x_A base) s.heap H locs → lv_has ls 5 [(0, .ref mo), (1, .int x1), (2, .int x2_1), (3, .int x3_2)] → W p l e (x_rm 2 0 0 50) s m ([.ref mo, .int x1] : List Value).toArray below meth c H locs 0 0 (MQ below (xm_Qi D d base mo Aa S (fun r M' => M' = M ∧ Q r)) ([.ref mo, .int x1] : List Value).toArray s 0 0 (x_A base)) (F0 m 5 ls [])) hw (fun x2_1 x3_2 hw => ?_) ls _ _ hR hS (lv_sub hl [2, 3, 1, 0] rfl)
  intro ls H locs hR hS hl
  refine lv_iload_n hx hb dX1_forceOf_5 rfl (lv_at hl 3 rfl) ?_
  refine lv_aload_n hx hb dX1_forceOf_6 rfl (lv_at hl 0 rfl) ?_
  refine xm_getI (k := 17) hx hb hts in_X1 hown hK hR (by decide) (hts _ q983) rfl dX1_forceOf_7 ?_
  refine lv_icmp_ge (tgt := 78) hx hb dX1_forceOf_10 (by decide) (fun c_4 => ?_) (fun c_4 => ?_)
  · have hw := x_t hw c_4
    refine lv_iload_n hx hb dX1_forceOf_78 rfl (lv_at hl 2 rfl) ?_
    exact xm_ri hx hb hr hlocks hR hS dX1_forceOf_79 ⟨rfl, hw⟩
  · have hw := x_f hw c_4
    refine lv_aload_n hx hb dX1_forceOf_13 rfl (lv_at hl 0 rfl) ?_
    refine xm_getA (k := 18) hx hb hts in_X1 hown hK hR (by decide) (hts _ q984) rfl dX1_forceOf_14 ?_
    refine lv_iload_n hx hb dX1_forceOf_17 rfl (lv_at hl 3 rfl) ?_
    refine xm_ild (M := M) (k := 18) (j := 11) hx hb hK hR dX1_forceOf_18 rfl hw.1 ?_
    have hw := hw.2
    refine lv_iload_n hx hb dX1_forceOf_19 rfl (lv_at hl 1 rfl) ?_
    refine x_jn (G := fun (v0_5 : Int32) => ∀ (ls : Array Slot) (H : Heap) (locs : List Loc), x_Rp D d (x_A base) (x_mc d mo Aa M) S H → va_S (x_A base) s.heap H locs → lv_has ls 5 [(0, .ref mo), (1, .int x1), (2, .int x2_1), (3, .int x3_2)] → W p l e (x_rm 2 0 0 50) s m ([.ref mo, .int x1] : List Value).toArray below meth c H locs 0 0 (MQ below (xm_Qi D d base mo Aa S (fun r M' => M' = M ∧ Q r)) ([.ref mo, .int x1] : List Value).toArray s 0 0 (x_A base)) (F0 m 38 ls [.int v0_5])) hw (fun v0_5 hw => ?_) (fun hJ_6 hw => ?_)
    · intro ls H locs hR hS hl
      refine lv_istore (lv' := [(4, .int v0_5), (0, .ref mo), (1, .int x1), (2, .int x2_1), (3, .int x3_2)]) hx hb dX1_forceOf_38 hl (by decide) rfl (fun ls hl => ?_)
      refine lv_iload hx hb dX1_forceOf_40 (lv_at hl 0 rfl) ?_
      refine x_jn (G := fun (v0_7 : Int32) => ∀ (ls : Array Slot) (H : Heap) (locs : List Loc), x_Rp D d (x_A base) (x_mc d mo Aa M) S H → va_S (x_A base) s.heap H locs → lv_has ls 5 [(0, .ref mo), (1, .int x1), (3, .int x3_2)] → W p l e (x_rm 2 0 0 50) s m ([.ref mo, .int x1] : List Value).toArray below meth c H locs 0 0 (MQ below (xm_Qi D d base mo Aa S (fun r M' => M' = M ∧ Q r)) ([.ref mo, .int x1] : List Value).toArray s 0 0 (x_A base)) (F0 m 71 ls [.int v0_7])) hw (fun v0_7 hw => ?_) (fun hJ_8 hw => ?_)
      · intro ls H locs hR hS hl
        refine lv_istore_n (lv' := [(2, .int v0_7), (0, .ref mo), (1, .int x1), (3, .int x3_2)]) hx hb dX1_forceOf_71 rfl hl (by decide) rfl (fun ls hl => ?_)
        refine lv_iinc (v := (x3_2 + 1)) (lv' := [(3, .int (x3_2 + 1)), (2, .int v0_7), (0, .ref mo), (1, .int x1)]) hx hb dX1_forceOf_72 hl (k := 3) rfl rfl (by decide) rfl (fun ls hl => ?_)
        refine lv_goto (tgt := 5) hx hb dX1_forceOf_75 (by decide) ?_
        exact hw ls _ _ hR hS (lv_sub hl [2, 3, 1, 0] rfl)
      · refine x_jn0 (G := ∀ (ls : Array Slot) (H : Heap) (locs : List Loc), x_Rp D d (x_A base) (x_mc d mo Aa M) S H → va_S (x_A base) s.heap H locs → lv_has ls 5 [(0, .ref mo), (1, .int x1), (2, .int x2_1), (3, .int x3_2)] → W p l e (x_rm 2 0 0 50) s m ([.ref mo, .int x1] : List Value).toArray below meth c H locs 0 0 (MQ below (xm_Qi D d base mo Aa S (fun r M' => M' = M ∧ Q r)) ([.ref mo, .int x1] : List Value).toArray s 0 0 (x_A base)) (F0 m 70 ls [])) hw (fun hw => ?_) (fun hJ_9 hw => ?_)
        · intro ls H locs hR hS hl
          refine lv_iload_n hx hb dX1_forceOf_70 rfl (lv_at hl 2 rfl) ?_
          exact hJ_8 x2_1 hw ls _ _ hR hS (lv_sub hl [0, 1, 3] rfl)
        · refine lv_if_eq (tgt := 70) hx hb dX1_forceOf_42 (by decide) (fun c_10 => ?_) (fun c_10 => ?_)
          · have hw := x_t hw c_10
            exact hJ_9  hw ls _ _ hR hS (lv_sub hl [1, 2, 3, 4] rfl)
          · have hw := x_f hw c_10
            refine lv_iload_n hx hb dX1_forceOf_45 rfl (lv_at hl 3 rfl) ?_
            refine lv_bipush (v := (-9)) hx hb dX1_forceOf_46 (by decide) ?_
            refine x_jn0 (G := ∀ (ls : Array Slot) (H : Heap) (locs : List Loc), x_Rp D d (x_A base) (x_mc d mo Aa M) S H → va_S (x_A base) s.heap H locs → lv_has ls 5 [(0, .ref mo), (1, .int x1), (3, .int x3_2)] → W p l e (x_rm 2 0 0 50) s m ([.ref mo, .int x1] : List Value).toArray below meth c H locs 0 0 (MQ below (xm_Qi D d base mo Aa S (fun r M' => M' = M ∧ Q r)) ([.ref mo, .int x1] : List Value).toArray s 0 0 (x_A base)) (F0 m 66 ls [])) hw (fun hw => ?_) (fun hJ_11 hw => ?_)
            · intro ls H locs hR hS hl
              refine lv_iload_n hx hb dX1_forceOf_66 rfl (lv_at hl 2 rfl) ?_
              refine lv_goto (tgt := 71) hx hb dX1_forceOf_67 (by decide) ?_
              exact hJ_8 x3_2 hw ls _ _ hR hS (lv_sub hl [0, 1, 2] rfl)
            · refine lv_icmp_eq (tgt := 66) hx hb dX1_forceOf_48 (by decide) (fun c_12 => ?_) (fun c_12 => ?_)
              · have hw := x_t hw c_12
                exact hJ_11  hw ls _ _ hR hS (lv_sub hl [1, 2, 4] rfl)
              · have hw := x_f hw c_12
                refine lv_aload_n hx hb dX1_forceOf_51 rfl (lv_at hl 1 rfl) ?_
                refine xm_getA (k := 18) hx hb hts in_X1 hown hK hR (by decide) (hts _ q984) rfl dX1_forceOf_52 ?_
                refine lv_iload_n hx hb dX1_forceOf_55 rfl (lv_at hl 4 rfl) ?_
                refine xm_ild (M := M) (k := 18) (j := 11) hx hb hK hR dX1_forceOf_56 rfl hw.1 ?_
                have hw := hw.2
                refine lv_aload_n hx hb dX1_forceOf_57 rfl (lv_at hl 1 rfl) ?_
                refine xm_getA (k := 18) hx hb hts in_X1 hown hK hR (by decide) (hts _ q984) rfl dX1_forceOf_58 ?_
                refine lv_iload_n hx hb dX1_forceOf_61 rfl (lv_at hl 3 rfl) ?_
                refine xm_ild (M := M) (k := 18) (j := 11) hx hb hK hR dX1_forceOf_62 rfl hw.1 ?_
                have hw := hw.2
                refine lv_icmp_lt (tgt := 70) hx hb dX1_forceOf_63 (by decide) (fun c_13 => ?_) (fun c_13 => ?_)
                · have hw := x_t hw c_13
                  exact hJ_9  hw ls _ _ hR hS (lv_sub hl [1, 2, 3, 4] rfl)
                · have hw := x_f hw c_13
                  exact hJ_11  hw ls _ _ hR hS (lv_sub hl [1, 2, 4] rfl)
    · refine x_jn0 (G := ∀ (ls : Array Slot) (H : Heap) (locs : List Loc), x_Rp D d (x_A base) (x_mc d mo Aa M) S H → va_S (x_A base) s.heap H locs → lv_has ls 5 [(0, .ref mo), (1, .int x1), (2, .int x2_1), (3, .int x3_2)] → W p l e (x_rm 2 0 0 50) s m ([.ref mo, .int x1] : List Value).toArray below meth c H locs 0 0 (MQ below (xm_Qi D d base mo Aa S (fun r M' => M' = M ∧ Q r)) ([.ref mo, .int x1] : List Value).toArray s 0 0 (x_A base)) (F0 m 37 ls [])) hw (fun hw => ?_) (fun hJ_14 hw => ?_)
      · intro ls H locs hR hS hl
        refine lv_iconst (v := 0) hx hb dX1_forceOf_37 (by decide) ?_
        exact hJ_6 0 hw ls _ _ hR hS (lv_sub hl [0, 1, 2, 3] rfl)
      · refine lv_icmp_gt (tgt := 37) hx hb dX1_forceOf_20 (by decide) (fun c_15 => ?_) (fun c_15 => ?_)
        · have hw := x_t hw c_15
          exact hJ_14  hw ls _ _ hR hS (lv_sub hl [0, 1, 2, 3] rfl)
        · have hw := x_f hw c_15
          refine lv_aload_n hx hb dX1_forceOf_23 rfl (lv_at hl 0 rfl) ?_
          refine lv_iload_n hx hb dX1_forceOf_24 rfl (lv_at hl 3 rfl) ?_
          refine xm_ci (va_runV (As := [.int x3_2]) (rest := []) ⟨hx, hb, hml, hown, hts⟩ (mt_X1_faultOf l hw) (cwV 1 hts (lw_V q1229 q1231 qs46 q65 q1232) rfl rfl rfl hd_X1_faultOf ⟨Nat.le_of_ble_eq_true rfl, Nat.le_of_ble_eq_true rfl⟩) ⟨x_Pc_blind, xm_recv hR hK, x_Pc_pre hR hz hS hK⟩ rfl rfl hl.1 rfl (lv_room (Nat.le_of_ble_eq_true rfl)) dX1_forceOf_25 ⟨Nat.le_refl _, Nat.le_refl _⟩) hS (fun r_16 M_17 H locs hp hR hS => ?_)
          have hw := hp.2
          rw [hp.1] at hR
          refine lv_bipush (v := (-9)) hx hb dX1_forceOf_28 (by decide) ?_
          refine lv_icmp_ne (tgt := 37) hx hb dX1_forceOf_30 (by decide) (fun c_18 => ?_) (fun c_18 => ?_)
          · have hw := x_f hw c_18
            exact hJ_14  hw ls _ _ hR hS (lv_sub hl [0, 1, 2, 3] rfl)
          · have hw := x_t hw c_18
            refine lv_iconst (v := 1) hx hb dX1_forceOf_33 (by decide) ?_
            refine lv_goto (tgt := 38) hx hb dX1_forceOf_34 (by decide) ?_
            exact hJ_6 1 hw ls _ _ hR hS (lv_sub hl [0, 1, 2, 3] rfl)
def w_X1_force (M : xM) (x1 : Int32) (Q : Int32 → xM → Prop) : Prop := nm (m1 M 0 0) (fun M_1 : xM => w_X1_noTide M_1 x1 (fun (r_2 : Int32) => wif (r_2 = 0) (w_X1_forceOf M_1 x1 (fun (r_5 : Int32) => Q r_5 M_1)) (Q (-2) M_1)))
theorem hd_X1_force : yX1_force.cls = "PressedMenModel" ∧ yX1_force.cls ≠ "java/lang/invoke/MethodHandle" ∧ yX1_force.cls ≠ "java/lang/invoke/VarHandle" ∧ (parseMethodDescriptor yX1_force.desc).map (fun d => d.parameters.length) = some 1 := by decide +kernel
set_option maxHeartbeats 4000000 in
theorem mt_X1_force (l : Launch) {D : va_G} {d : Nat → ClassId} {base : Nat} {mo : Nat} {Aa : Nat → Nat} {M : xM} {S : xH} {x1 : Int32} {Q : Int32 → xM → Prop} (hw : w_X1_force M x1 Q) : Met l yX1_force (ws_ yX1_force cX1_force 2 (some FieldType.int)) (x_rm 3 0 0 74) (x_Pc D d base (x_mc d mo Aa M) S [.ref mo, .int x1]) (xm_Qi D d base mo Aa S (fun r M' => Q r M')) 0 0 (x_A base) := by
  refine x_met (by decide) (Nat.le_of_ble_eq_true rfl) ?_
  intro p e s m below meth c hx hb hml hr hlocks hown hts hz hR hK hin ls hl
  have hown : s.vm.findClass "PressedMenModel" = some m.cls := hown
  have hl : lv_has ls 2 [(0, .ref mo), (1, .int x1)] := hl
  have hS : va_S (x_A base) s.heap s.heap [] := va_S.rf
  unfold w_X1_force at hw
  refine lv_aload_n hx hb dX1_force_0 rfl (lv_at hl 0 rfl) ?_
  refine lv_iconst (v := 0) hx hb dX1_force_1 (by decide) ?_
  refine xm_putI (M := M) (k := 0) hx hb hts in_X1 hown hK hR hS (by decide) (hts _ q966) rfl rfl rfl rfl dX1_force_2 (fun H locs hR hS => ?_)
  obtain ⟨M_1, eM_1⟩ : ∃ z, z = (m1 M 0 0) := ⟨_, rfl⟩
  rw [← eM_1] at hR
  have hw := hw M_1 eM_1
  refine lv_iload_n hx hb dX1_force_5 rfl (lv_at hl 1 rfl) ?_
  refine xm_ci (va_runS (As := [.int x1]) (rest := []) ⟨hx, hb, hml, hown, hts⟩ (mt_X1_noTide l hw) (va_cwS 1 hts (lw_S q1199 q1200 q65 q1201) rfl rfl rfl hd_X1_noTide.2 ⟨Nat.le_of_ble_eq_true rfl, Nat.le_of_ble_eq_true rfl⟩) ⟨x_Pc_blind, x_Pc_pre hR hz hS hK⟩ rfl rfl hl.1 rfl (lv_room (Nat.le_of_ble_eq_true rfl)) dX1_force_6 ⟨Nat.le_refl _, Nat.le_refl _⟩) hS (fun r_2 M_3 H locs hp hR hS => ?_)
  have hw := hp.2
  rw [hp.1] at hR
  refine lv_if_eq (tgt := 17) hx hb dX1_force_9 (by decide) (fun c_4 => ?_) (fun c_4 => ?_)
  · have hw := x_t hw c_4
    refine lv_aload_n hx hb dX1_force_17 rfl (lv_at hl 0 rfl) ?_
    refine lv_iload_n hx hb dX1_force_18 rfl (lv_at hl 1 rfl) ?_
    refine xm_ci (va_runV (As := [.int x1]) (rest := []) ⟨hx, hb, hml, hown, hts⟩ (mt_X1_forceOf l hw) (cwV 1 hts (lw_V q1242 q1244 qs47 q65 q1245) rfl rfl rfl hd_X1_forceOf ⟨Nat.le_of_ble_eq_true rfl, Nat.le_of_ble_eq_true rfl⟩) ⟨x_Pc_blind, xm_recv hR hK, x_Pc_pre hR hz hS hK⟩ rfl rfl hl.1 rfl (lv_room (Nat.le_of_ble_eq_true rfl)) dX1_force_19 ⟨Nat.le_refl _, Nat.le_refl _⟩) hS (fun r_5 M_6 H locs hp hR hS => ?_)
    have hw := hp.2
    rw [hp.1] at hR
    exact xm_ri hx hb hr hlocks hR hS dX1_force_22 hw
  · have hw := x_f hw c_4
    refine lv_bipush (v := (-2)) hx hb dX1_force_12 (by decide) ?_
    refine lv_goto (tgt := 22) hx hb dX1_force_14 (by decide) ?_
    exact xm_ri hx hb hr hlocks hR hS dX1_force_22 hw
def w_X1_isAboard (M : xM) (x0 : Int32) (Q : Int32 → Prop) : Prop := w_X1_in M (Int32.toInt64 x0) 10 19 (fun (r_1 : Int32) => x_B r_1 ∧ Q r_1)
theorem hd_X1_isAboard : yX1_isAboard.cls = "PressedMenModel" ∧ yX1_isAboard.cls ≠ "java/lang/invoke/MethodHandle" ∧ yX1_isAboard.cls ≠ "java/lang/invoke/VarHandle" ∧ (parseMethodDescriptor yX1_isAboard.desc).map (fun d => d.parameters.length) = some 1 := by decide +kernel
set_option maxHeartbeats 4000000 in
theorem mt_X1_isAboard (l : Launch) {D : va_G} {d : Nat → ClassId} {base : Nat} {mo : Nat} {Aa : Nat → Nat} {M : xM} {S : xH} {x0 : Int32} {Q : Int32 → Prop} (hw : w_X1_isAboard M x0 Q) : Met l yX1_isAboard (ws_ yX1_isAboard cX1_isAboard 1 (some FieldType.boolean)) (x_rm 1 0 0 25) (x_Pc D d base (x_mc d mo Aa M) S [.int x0]) (xm_Qi D d base mo Aa S (fun r M' => M' = M ∧ Q r)) 0 0 (x_A base) := by
  refine x_met (by decide) (Nat.le_of_ble_eq_true rfl) ?_
  intro p e s m below meth c hx hb hml hr hlocks hown hts hz hR hK hin ls hl
  have hown : s.vm.findClass "PressedMenModel" = some m.cls := hown
  have hl : lv_has ls 1 [(0, .int x0)] := hl
  have hS : va_S (x_A base) s.heap s.heap [] := va_S.rf
  unfold w_X1_isAboard at hw
  refine lv_iload_n hx hb dX1_isAboard_0 rfl (lv_at hl 0 rfl) ?_
  refine lv_i2l (v := (Int32.toInt64 x0)) hx hb dX1_isAboard_1 rfl ?_
  refine lv_ldc2 (v := 10) hx hb hown (hts _ q1112) dX1_isAboard_2 ?_
  refine lv_ldc2 (v := 19) hx hb hown (hts _ q1265) dX1_isAboard_5 ?_
  refine xm_ci (va_runS (As := [.long (Int32.toInt64 x0), .long 10, .long 19]) (rest := []) ⟨hx, hb, hml, hown, hts⟩ (mt_X1_in l hw) (va_cwS 3 hts (lw_S q1089 q1090 q65 q1091) rfl rfl rfl hd_X1_in.2 ⟨Nat.le_of_ble_eq_true rfl, Nat.le_of_ble_eq_true rfl⟩) ⟨x_Pc_blind, x_Pc_pre hR hz hS hK⟩ rfl rfl hl.1 rfl (lv_room (Nat.le_of_ble_eq_true rfl)) dX1_isAboard_8 ⟨Nat.le_refl _, Nat.le_refl _⟩) hS (fun r_1 M_2 H locs hp hR hS => ?_)
  have hw := hp.2
  rw [hp.1] at hR
  exact xm_rz hx hb hr hlocks hR hS dX1_isAboard_11 hw.1 ⟨rfl, hw.2⟩
def w_X1_test (M : xM) (x1 : Int32) (x2 : Int32) (x3 : Int32) (x4 : Int32) (Q : Int32 → Prop) : Prop := wif (x1 = 65) (vp_in (8 * x3) 320 ∧ wif (x2 ≤ (M2 M 6 (Int32.toNatClampNeg (8 * x3)))) (Q 0) (Q 1)) (wif (x1 = 89) (vp_in ((8 * x3) + 5) 320 ∧ wif (x2 ≤ (M2 M 6 (Int32.toNatClampNeg ((8 * x3) + 5)))) (Q 0) (Q 1)) (wif (x1 = 97) (vp_in (8 * x3) 320 ∧ wif ((M2 M 6 (Int32.toNatClampNeg (8 * x3))) < x2) (Q 0) (Q 1)) (wif (x1 = 112) (x_B x4 ∧ Q x4) (wif (x1 = 115) (w_X1_placeOf M x3 (fun (r_5 : Int32) => w_X1_isAboard M r_5 (fun (r_7 : Int32) => x_B r_7 ∧ Q r_7))) (wif (x1 = 116) (vp_in ((8 * x3) + 4) 320 ∧ wif ((M2 M 6 (Int32.toNatClampNeg ((8 * x3) + 4))) = x2) (Q 1) (Q 0)) (wif (x1 = 121) (vp_in ((8 * x3) + 5) 320 ∧ wif ((M2 M 6 (Int32.toNatClampNeg ((8 * x3) + 5))) < x2) (Q 0) (Q 1)) ((w_X1_placeOf M x3 (fun (r_11 : Int32) => vp_in ((8 * x3) + 6) 320 ∧ wif (r_11 = (M2 M 6 (Int32.toNatClampNeg ((8 * x3) + 6)))) (Q 1) (Q 0))))))))))
theorem hd_X1_test : yX1_test.cls = "PressedMenModel" ∧ yX1_test.cls ≠ "java/lang/invoke/MethodHandle" ∧ yX1_test.cls ≠ "java/lang/invoke/VarHandle" ∧ (parseMethodDescriptor yX1_test.desc).map (fun d => d.parameters.length) = some 4 := by decide +kernel
set_option maxHeartbeats 4000000 in
theorem mt_X1_test (l : Launch) {D : va_G} {d : Nat → ClassId} {base : Nat} {mo : Nat} {Aa : Nat → Nat} {M : xM} {S : xH} {x1 : Int32} {x2 : Int32} {x3 : Int32} {x4 : Int32} {Q : Int32 → Prop} (hw : w_X1_test M x1 x2 x3 x4 Q) : Met l yX1_test (ws_ yX1_test cX1_test 5 (some FieldType.boolean)) (x_rm 2 0 0 45) (x_Pc D d base (x_mc d mo Aa M) S [.ref mo, .int x1, .int x2, .int x3, .int x4]) (xm_Qi D d base mo Aa S (fun r M' => M' = M ∧ Q r)) 0 0 (x_A base) := by
  refine x_met (by decide) (Nat.le_of_ble_eq_true rfl) ?_
  intro p e s m below meth c hx hb hml hr hlocks hown hts hz hR hK hin ls hl
  have hown : s.vm.findClass "PressedMenModel" = some m.cls := hown
  have hl : lv_has ls 5 [(0, .ref mo), (1, .int x1), (2, .int x2), (3, .int x3), (4, .int x4)] := hl
  have hS : va_S (x_A base) s.heap s.heap [] := va_S.rf
  unfold w_X1_test at hw
  refine lv_iload_n hx hb dX1_test_0 rfl (lv_at hl 1 rfl) ?_
  rcases Classical.em (x1 = 65) with c_10 | c_10
  · have hw := x_t hw c_10
    refine lv_lookup (off := 86) (tgt := 87) hx hb dX1_test_1 (by decide) (by rw [c_10]; decide) (by decide) ?_
    refine lv_aload_n hx hb dX1_test_87 rfl (lv_at hl 0 rfl) ?_
    refine xm_getA (k := 6) hx hb hts in_X1 hown hK hR (by decide) (hts _ q972) rfl dX1_test_88 ?_
    refine lv_bipush (v := 8) hx hb dX1_test_91 (by decide) ?_
    refine lv_iload_n hx hb dX1_test_93 rfl (lv_at hl 3 rfl) ?_
    refine lv_imul hx hb dX1_test_94 ?_
    refine xm_ild (M := M) (k := 6) (j := 2) hx hb hK hR dX1_test_95 rfl hw.1 ?_
    have hw := hw.2
    refine lv_iload_n hx hb dX1_test_96 rfl (lv_at hl 2 rfl) ?_
    refine lv_icmp_ge (tgt := 104) hx hb dX1_test_97 (by decide) (fun c_2 => ?_) (fun c_2 => ?_)
    · have hw := x_t hw c_2
      refine lv_iconst (v := 0) hx hb dX1_test_104 (by decide) ?_
      exact xm_rz hx hb hr hlocks hR hS dX1_test_105 (Or.inl rfl) ⟨rfl, hw⟩
    · have hw := x_f hw c_2
      refine lv_iconst (v := 1) hx hb dX1_test_100 (by decide) ?_
      refine lv_goto (tgt := 105) hx hb dX1_test_101 (by decide) ?_
      exact xm_rz hx hb hr hlocks hR hS dX1_test_105 (Or.inr rfl) ⟨rfl, hw⟩
  · have hw := x_f hw c_10
    rcases Classical.em (x1 = 89) with c_11 | c_11
    · have hw := x_t hw c_11
      refine lv_lookup (off := 126) (tgt := 127) hx hb dX1_test_1 (by decide) (by rw [c_11]; decide) (by decide) ?_
      refine lv_aload_n hx hb dX1_test_127 rfl (lv_at hl 0 rfl) ?_
      refine xm_getA (k := 6) hx hb hts in_X1 hown hK hR (by decide) (hts _ q972) rfl dX1_test_128 ?_
      refine lv_bipush (v := 8) hx hb dX1_test_131 (by decide) ?_
      refine lv_iload_n hx hb dX1_test_133 rfl (lv_at hl 3 rfl) ?_
      refine lv_imul hx hb dX1_test_134 ?_
      refine lv_iconst (v := 5) hx hb dX1_test_135 (by decide) ?_
      refine lv_iadd hx hb dX1_test_136 ?_
      refine xm_ild (M := M) (k := 6) (j := 2) hx hb hK hR dX1_test_137 rfl hw.1 ?_
      have hw := hw.2
      refine lv_iload_n hx hb dX1_test_138 rfl (lv_at hl 2 rfl) ?_
      refine lv_icmp_ge (tgt := 146) hx hb dX1_test_139 (by decide) (fun c_3 => ?_) (fun c_3 => ?_)
      · have hw := x_t hw c_3
        refine lv_iconst (v := 0) hx hb dX1_test_146 (by decide) ?_
        exact xm_rz hx hb hr hlocks hR hS dX1_test_147 (Or.inl rfl) ⟨rfl, hw⟩
      · have hw := x_f hw c_3
        refine lv_iconst (v := 1) hx hb dX1_test_142 (by decide) ?_
        refine lv_goto (tgt := 147) hx hb dX1_test_143 (by decide) ?_
        exact xm_rz hx hb hr hlocks hR hS dX1_test_147 (Or.inr rfl) ⟨rfl, hw⟩
    · have hw := x_f hw c_11
      rcases Classical.em (x1 = 97) with c_12 | c_12
      · have hw := x_t hw c_12
        refine lv_lookup (off := 67) (tgt := 68) hx hb dX1_test_1 (by decide) (by rw [c_12]; decide) (by decide) ?_
        refine lv_aload_n hx hb dX1_test_68 rfl (lv_at hl 0 rfl) ?_
        refine xm_getA (k := 6) hx hb hts in_X1 hown hK hR (by decide) (hts _ q972) rfl dX1_test_69 ?_
        refine lv_bipush (v := 8) hx hb dX1_test_72 (by decide) ?_
        refine lv_iload_n hx hb dX1_test_74 rfl (lv_at hl 3 rfl) ?_
        refine lv_imul hx hb dX1_test_75 ?_
        refine xm_ild (M := M) (k := 6) (j := 2) hx hb hK hR dX1_test_76 rfl hw.1 ?_
        have hw := hw.2
        refine lv_iload_n hx hb dX1_test_77 rfl (lv_at hl 2 rfl) ?_
        refine lv_icmp_lt (tgt := 85) hx hb dX1_test_78 (by decide) (fun c_4 => ?_) (fun c_4 => ?_)
        · have hw := x_t hw c_4
          refine lv_iconst (v := 0) hx hb dX1_test_85 (by decide) ?_
          exact xm_rz hx hb hr hlocks hR hS dX1_test_86 (Or.inl rfl) ⟨rfl, hw⟩
        · have hw := x_f hw c_4
          refine lv_iconst (v := 1) hx hb dX1_test_81 (by decide) ?_
          refine lv_goto (tgt := 86) hx hb dX1_test_82 (by decide) ?_
          exact xm_rz hx hb hr hlocks hR hS dX1_test_86 (Or.inr rfl) ⟨rfl, hw⟩
      · have hw := x_f hw c_12
        rcases Classical.em (x1 = 112) with c_13 | c_13
        · have hw := x_t hw c_13
          refine lv_lookup (off := 168) (tgt := 169) hx hb dX1_test_1 (by decide) (by rw [c_13]; decide) (by decide) ?_
          refine lv_iload hx hb dX1_test_169 (lv_at hl 4 rfl) ?_
          exact xm_rz hx hb hr hlocks hR hS dX1_test_171 hw.1 ⟨rfl, hw.2⟩
        · have hw := x_f hw c_13
          rcases Classical.em (x1 = 115) with c_14 | c_14
          · have hw := x_t hw c_14
            refine lv_lookup (off := 171) (tgt := 172) hx hb dX1_test_1 (by decide) (by rw [c_14]; decide) (by decide) ?_
            refine lv_aload_n hx hb dX1_test_172 rfl (lv_at hl 0 rfl) ?_
            refine lv_iload_n hx hb dX1_test_173 rfl (lv_at hl 3 rfl) ?_
            refine xm_ci (va_runV (As := [.int x3]) (rest := []) ⟨hx, hb, hml, hown, hts⟩ (mt_X1_placeOf l hw) (cwV 1 hts (lw_V q1146 q1148 qs40 q65 q1149) rfl rfl rfl hd_X1_placeOf ⟨Nat.le_of_ble_eq_true rfl, Nat.le_of_ble_eq_true rfl⟩) ⟨x_Pc_blind, xm_recv hR hK, x_Pc_pre hR hz hS hK⟩ rfl rfl hl.1 rfl (lv_room (Nat.le_of_ble_eq_true rfl)) dX1_test_174 ⟨Nat.le_refl _, Nat.le_refl _⟩) hS (fun r_5 M_6 H locs hp hR hS => ?_)
            have hw := hp.2
            rw [hp.1] at hR
            refine xm_ci (va_runS (As := [.int r_5]) (rest := []) ⟨hx, hb, hml, hown, hts⟩ (mt_X1_isAboard l hw) (va_cwS 1 hts (lw_S q1262 q1263 q65 q1264) rfl rfl rfl hd_X1_isAboard.2 ⟨Nat.le_of_ble_eq_true rfl, Nat.le_of_ble_eq_true rfl⟩) ⟨x_Pc_blind, x_Pc_pre hR hz hS hK⟩ rfl rfl hl.1 rfl (lv_room (Nat.le_of_ble_eq_true rfl)) dX1_test_177 ⟨Nat.le_refl _, Nat.le_refl _⟩) hS (fun r_7 M_8 H locs hp hR hS => ?_)
            have hw := hp.2
            rw [hp.1] at hR
            exact xm_rz hx hb hr hlocks hR hS dX1_test_180 hw.1 ⟨rfl, hw.2⟩
          · have hw := x_f hw c_14
            rcases Classical.em (x1 = 116) with c_15 | c_15
            · have hw := x_t hw c_15
              refine lv_lookup (off := 147) (tgt := 148) hx hb dX1_test_1 (by decide) (by rw [c_15]; decide) (by decide) ?_
              refine lv_aload_n hx hb dX1_test_148 rfl (lv_at hl 0 rfl) ?_
              refine xm_getA (k := 6) hx hb hts in_X1 hown hK hR (by decide) (hts _ q972) rfl dX1_test_149 ?_
              refine lv_bipush (v := 8) hx hb dX1_test_152 (by decide) ?_
              refine lv_iload_n hx hb dX1_test_154 rfl (lv_at hl 3 rfl) ?_
              refine lv_imul hx hb dX1_test_155 ?_
              refine lv_iconst (v := 4) hx hb dX1_test_156 (by decide) ?_
              refine lv_iadd hx hb dX1_test_157 ?_
              refine xm_ild (M := M) (k := 6) (j := 2) hx hb hK hR dX1_test_158 rfl hw.1 ?_
              have hw := hw.2
              refine lv_iload_n hx hb dX1_test_159 rfl (lv_at hl 2 rfl) ?_
              refine lv_icmp_ne (tgt := 167) hx hb dX1_test_160 (by decide) (fun c_9 => ?_) (fun c_9 => ?_)
              · have hw := x_f hw c_9
                refine lv_iconst (v := 0) hx hb dX1_test_167 (by decide) ?_
                exact xm_rz hx hb hr hlocks hR hS dX1_test_168 (Or.inl rfl) ⟨rfl, hw⟩
              · have hw := x_t hw c_9
                refine lv_iconst (v := 1) hx hb dX1_test_163 (by decide) ?_
                refine lv_goto (tgt := 168) hx hb dX1_test_164 (by decide) ?_
                exact xm_rz hx hb hr hlocks hR hS dX1_test_168 (Or.inr rfl) ⟨rfl, hw⟩
            · have hw := x_f hw c_15
              rcases Classical.em (x1 = 121) with c_16 | c_16
              · have hw := x_t hw c_16
                refine lv_lookup (off := 105) (tgt := 106) hx hb dX1_test_1 (by decide) (by rw [c_16]; decide) (by decide) ?_
                refine lv_aload_n hx hb dX1_test_106 rfl (lv_at hl 0 rfl) ?_
                refine xm_getA (k := 6) hx hb hts in_X1 hown hK hR (by decide) (hts _ q972) rfl dX1_test_107 ?_
                refine lv_bipush (v := 8) hx hb dX1_test_110 (by decide) ?_
                refine lv_iload_n hx hb dX1_test_112 rfl (lv_at hl 3 rfl) ?_
                refine lv_imul hx hb dX1_test_113 ?_
                refine lv_iconst (v := 5) hx hb dX1_test_114 (by decide) ?_
                refine lv_iadd hx hb dX1_test_115 ?_
                refine xm_ild (M := M) (k := 6) (j := 2) hx hb hK hR dX1_test_116 rfl hw.1 ?_
                have hw := hw.2
                refine lv_iload_n hx hb dX1_test_117 rfl (lv_at hl 2 rfl) ?_
                refine lv_icmp_lt (tgt := 125) hx hb dX1_test_118 (by decide) (fun c_10 => ?_) (fun c_10 => ?_)
                · have hw := x_t hw c_10
                  refine lv_iconst (v := 0) hx hb dX1_test_125 (by decide) ?_
                  exact xm_rz hx hb hr hlocks hR hS dX1_test_126 (Or.inl rfl) ⟨rfl, hw⟩
                · have hw := x_f hw c_10
                  refine lv_iconst (v := 1) hx hb dX1_test_121 (by decide) ?_
                  refine lv_goto (tgt := 126) hx hb dX1_test_122 (by decide) ?_
                  exact xm_rz hx hb hr hlocks hR hS dX1_test_126 (Or.inr rfl) ⟨rfl, hw⟩
              · have hw := x_f hw c_16
                refine lv_lookup (off := 180) (tgt := 181) hx hb dX1_test_1 (by decide) (by rw [lv_osw c_10 (by decide)]; rw [lv_osw c_11 (by decide)]; rw [lv_osw c_12 (by decide)]; rw [lv_osw c_13 (by decide)]; rw [lv_osw c_14 (by decide)]; rw [lv_osw c_15 (by decide)]; rw [lv_osw c_16 (by decide)]; rfl) (by decide) ?_
                refine lv_aload_n hx hb dX1_test_181 rfl (lv_at hl 0 rfl) ?_
                refine lv_iload_n hx hb dX1_test_182 rfl (lv_at hl 3 rfl) ?_
                refine xm_ci (va_runV (As := [.int x3]) (rest := []) ⟨hx, hb, hml, hown, hts⟩ (mt_X1_placeOf l hw) (cwV 1 hts (lw_V q1146 q1148 qs40 q65 q1149) rfl rfl rfl hd_X1_placeOf ⟨Nat.le_of_ble_eq_true rfl, Nat.le_of_ble_eq_true rfl⟩) ⟨x_Pc_blind, xm_recv hR hK, x_Pc_pre hR hz hS hK⟩ rfl rfl hl.1 rfl (lv_room (Nat.le_of_ble_eq_true rfl)) dX1_test_183 ⟨Nat.le_refl _, Nat.le_refl _⟩) hS (fun r_11 M_12 H locs hp hR hS => ?_)
                have hw := hp.2
                rw [hp.1] at hR
                refine lv_aload_n hx hb dX1_test_186 rfl (lv_at hl 0 rfl) ?_
                refine xm_getA (k := 6) hx hb hts in_X1 hown hK hR (by decide) (hts _ q972) rfl dX1_test_187 ?_
                refine lv_bipush (v := 8) hx hb dX1_test_190 (by decide) ?_
                refine lv_iload_n hx hb dX1_test_192 rfl (lv_at hl 3 rfl) ?_
                refine lv_imul hx hb dX1_test_193 ?_
                refine lv_bipush (v := 6) hx hb dX1_test_194 (by decide) ?_
                refine lv_iadd hx hb dX1_test_196 ?_
                refine xm_ild (M := M) (k := 6) (j := 2) hx hb hK hR dX1_test_197 rfl hw.1 ?_
                have hw := hw.2
                refine lv_icmp_ne (tgt := 205) hx hb dX1_test_198 (by decide) (fun c_13 => ?_) (fun c_13 => ?_)
                · have hw := x_f hw c_13
                  refine lv_iconst (v := 0) hx hb dX1_test_205 (by decide) ?_
                  exact xm_rz hx hb hr hlocks hR hS dX1_test_206 (Or.inl rfl) ⟨rfl, hw⟩
                · have hw := x_t hw c_13
                  refine lv_iconst (v := 1) hx hb dX1_test_201 (by decide) ?_
                  refine lv_goto (tgt := 206) hx hb dX1_test_202 (by decide) ?_
                  exact xm_rz hx hb hr hlocks hR hS dX1_test_206 (Or.inr rfl) ⟨rfl, hw⟩
