set_option maxRecDepth 100000
def w_X1_look (M : xM) (x1 : Int32) (x2 : Int32) (Q : Int32 → xM → Prop) : Prop := w_X1_measure M (fun (M_1 : xM) => lf2 (fun L_4 (x3_2 : Int32) (M_3 : xM) => wif (8 ≤ x3_2) (lf2 (fun L_8 (x3_6 : Int32) (M_7 : xM) => wif ((M1 M_7 5) ≤ x3_6) (lf2 (fun L_12 (x3_10 : Int32) (x4_11 : Int32) => wif ((x1 * x2) ≤ x4_11) (lf3 (fun L_17 (x4_14 : Int32) (x5_15 : Int32) (M_16 : xM) => wif (x3_10 ≤ x5_15) (Q x4_14 M_16) (w_X1_meet M_16 x5_15 x1 x2 (fun (r_19 : Int32) (M_20 : xM) => jn2 (fun (x4_21 : Int32) (M_22 : xM) => L_17 x4_21 (x5_15 + 1) M_22) (fun J_23 => wif (r_19 ≤ x4_14) (J_23 x4_14 M_20) (nm (m1 M_20 30 x5_15) (fun M_25 : xM => J_23 r_19 M_25)))))) (-9) 0 M_7) (nm (x3_10 * (M1 M_7 1)) (fun x3_26 : Int32 => L_12 x3_26 (x4_11 + 1)))) 1 0) (w_X1_placeOf M_7 x3_6 (fun (r_27 : Int32) => w_X1_isStreet M_7 r_27 (fun (r_29 : Int32) => jn (fun (M_31 : xM) => L_8 (x3_6 + 1) M_31) (fun J_32 => wif (r_29 = 0) (J_32 M_7) (w_X1_truly M_7 x3_6 (fun (r_34 : Int32) (M_35 : xM) => wif (r_34 = 0) (J_32 M_35) (w_X1_placeOf M_35 x3_6 (fun (r_37 : Int32) => vp_in r_37 8 ∧ vp_in r_37 8 ∧ nm (m2 M_35 27 (Int32.toNatClampNeg r_37) ((M2 M_35 27 (Int32.toNatClampNeg r_37)) + 1)) (fun M_39 : xM => J_32 M_39)))))))))) 0 M_3) (vp_in x3_2 8 ∧ nm (m2 M_3 27 (Int32.toNatClampNeg x3_2) 0) (fun M_40 : xM => L_4 (x3_2 + 1) M_40))) 0 M_1)
theorem hd_X1_look : yX1_look.cls = "PressedMenModel" ∧ yX1_look.cls ≠ "java/lang/invoke/MethodHandle" ∧ yX1_look.cls ≠ "java/lang/invoke/VarHandle" ∧ (parseMethodDescriptor yX1_look.desc).map (fun d => d.parameters.length) = some 2 := by decide +kernel
set_option maxHeartbeats 4000000 in
theorem mt_X1_look (l : Launch) {D : va_G} {d : Nat → ClassId} {base : Nat} {mo : Nat} {Aa : Nat → Nat} {M : xM} {S : xH} {x1 : Int32} {x2 : Int32} {Q : Int32 → xM → Prop} (hw : w_X1_look M x1 x2 Q) : Met l yX1_look (ws_ yX1_look cX1_look 7 (some FieldType.int)) (x_rm 5 0 0 124) (x_Pc D d base (x_mc d mo Aa M) S [.ref mo, .int x1, .int x2]) (xm_Qi D d base mo Aa S (fun r M' => Q r M')) 0 0 (x_A base) := by
  refine x_met (by decide) (Nat.le_of_ble_eq_true rfl) ?_
  intro p e s m below meth c hx hb hml hr hlocks hown hts hz hR hK hin ls hl
  have hown : s.vm.findClass "PressedMenModel" = some m.cls := hown
  have hl : lv_has ls 7 [(0, .ref mo), (1, .int x1), (2, .int x2)] := hl
  have hS : va_S (x_A base) s.heap s.heap [] := va_S.rf
  unfold w_X1_look at hw
  refine lv_aload_n hx hb dX1_look_0 rfl (lv_at hl 0 rfl) ?_
  refine xm_cv (va_runV (As := []) (rest := []) ⟨hx, hb, hml, hown, hts⟩ (mt_X1_measure l hw) (cwV 0 hts (lw_V q1104 q1106 qs37 q65 q1107) rfl rfl rfl hd_X1_measure ⟨Nat.le_of_ble_eq_true rfl, Nat.le_of_ble_eq_true rfl⟩) ⟨x_Pc_blind, xm_recv hR hK, x_Pc_pre hR hz hS hK⟩ rfl rfl hl.1 rfl (lv_room (Nat.le_of_ble_eq_true rfl)) dX1_look_1 ⟨Nat.le_refl _, Nat.le_refl _⟩) hS (fun M_1 H locs hp hR hS => ?_)
  have hw := hp
  refine lv_iconst (v := 0) hx hb dX1_look_4 (by decide) ?_
  refine lv_istore_n (lv' := [(3, .int 0), (0, .ref mo), (1, .int x1), (2, .int x2)]) hx hb dX1_look_5 rfl hl (by decide) rfl (fun ls hl => ?_)
  refine x_lf2 (G := fun (x3_2 : Int32) (M_3 : xM) => ∀ (ls : Array Slot) (H : Heap) (locs : List Loc), x_Rp D d (x_A base) (x_mc d mo Aa M_3) S H → va_S (x_A base) s.heap H locs → lv_has ls 7 [(0, .ref mo), (1, .int x1), (2, .int x2), (3, .int x3_2)] → W p l e (x_rm 5 0 0 124) s m ([.ref mo, .int x1, .int x2] : List Value).toArray below meth c H locs 0 0 (MQ below (xm_Qi D d base mo Aa S (fun r M' => Q r M')) ([.ref mo, .int x1, .int x2] : List Value).toArray s 0 0 (x_A base)) (F0 m 6 ls [])) hw (fun x3_2 M_3 hw => ?_) ls _ _ hR hS (lv_sub hl [1, 2, 3, 0] rfl)
  intro ls H locs hR hS hl
  refine lv_iload_n hx hb dX1_look_6 rfl (lv_at hl 3 rfl) ?_
  refine lv_bipush (v := 8) hx hb dX1_look_7 (by decide) ?_
  refine lv_icmp_ge (tgt := 25) hx hb dX1_look_9 (by decide) (fun c_5 => ?_) (fun c_5 => ?_)
  · have hw := x_t hw c_5
    refine lv_iconst (v := 0) hx hb dX1_look_25 (by decide) ?_
    refine lv_istore_n (lv' := [(3, .int 0), (0, .ref mo), (1, .int x1), (2, .int x2)]) hx hb dX1_look_26 rfl hl (by decide) rfl (fun ls hl => ?_)
    refine x_lf2 (G := fun (x3_6 : Int32) (M_7 : xM) => ∀ (ls : Array Slot) (H : Heap) (locs : List Loc), x_Rp D d (x_A base) (x_mc d mo Aa M_7) S H → va_S (x_A base) s.heap H locs → lv_has ls 7 [(0, .ref mo), (1, .int x1), (2, .int x2), (3, .int x3_6)] → W p l e (x_rm 5 0 0 124) s m ([.ref mo, .int x1, .int x2] : List Value).toArray below meth c H locs 0 0 (MQ below (xm_Qi D d base mo Aa S (fun r M' => Q r M')) ([.ref mo, .int x1, .int x2] : List Value).toArray s 0 0 (x_A base)) (F0 m 27 ls [])) hw (fun x3_6 M_7 hw => ?_) ls _ _ hR hS (lv_sub hl [1, 2, 3, 0] rfl)
    intro ls H locs hR hS hl
    refine lv_iload_n hx hb dX1_look_27 rfl (lv_at hl 3 rfl) ?_
    refine lv_aload_n hx hb dX1_look_28 rfl (lv_at hl 0 rfl) ?_
    refine xm_getI (k := 5) hx hb hts in_X1 hown hK hR (by decide) (hts _ q971) rfl dX1_look_29 ?_
    refine lv_icmp_ge (tgt := 74) hx hb dX1_look_32 (by decide) (fun c_9 => ?_) (fun c_9 => ?_)
    · have hw := x_t hw c_9
      refine lv_iconst (v := 1) hx hb dX1_look_74 (by decide) ?_
      refine lv_istore_n (lv' := [(3, .int 1), (0, .ref mo), (1, .int x1), (2, .int x2)]) hx hb dX1_look_75 rfl hl (by decide) rfl (fun ls hl => ?_)
      refine lv_iconst (v := 0) hx hb dX1_look_76 (by decide) ?_
      refine lv_istore (lv' := [(4, .int 0), (3, .int 1), (0, .ref mo), (1, .int x1), (2, .int x2)]) hx hb dX1_look_77 hl (by decide) rfl (fun ls hl => ?_)
      refine x_lf2 (G := fun (x3_10 : Int32) (x4_11 : Int32) => ∀ (ls : Array Slot) (H : Heap) (locs : List Loc), x_Rp D d (x_A base) (x_mc d mo Aa M_7) S H → va_S (x_A base) s.heap H locs → lv_has ls 7 [(0, .ref mo), (1, .int x1), (2, .int x2), (3, .int x3_10), (4, .int x4_11)] → W p l e (x_rm 5 0 0 124) s m ([.ref mo, .int x1, .int x2] : List Value).toArray below meth c H locs 0 0 (MQ below (xm_Qi D d base mo Aa S (fun r M' => Q r M')) ([.ref mo, .int x1, .int x2] : List Value).toArray s 0 0 (x_A base)) (F0 m 79 ls [])) hw (fun x3_10 x4_11 hw => ?_) ls _ _ hR hS (lv_sub hl [2, 3, 4, 1, 0] rfl)
      intro ls H locs hR hS hl
      refine lv_iload hx hb dX1_look_79 (lv_at hl 4 rfl) ?_
      refine lv_iload_n hx hb dX1_look_81 rfl (lv_at hl 1 rfl) ?_
      refine lv_iload_n hx hb dX1_look_82 rfl (lv_at hl 2 rfl) ?_
      refine lv_imul hx hb dX1_look_83 ?_
      refine lv_icmp_ge (tgt := 100) hx hb dX1_look_84 (by decide) (fun c_13 => ?_) (fun c_13 => ?_)
      · have hw := x_t hw c_13
        refine lv_bipush (v := (-9)) hx hb dX1_look_100 (by decide) ?_
        refine lv_istore (lv' := [(4, .int (-9)), (0, .ref mo), (1, .int x1), (2, .int x2), (3, .int x3_10)]) hx hb dX1_look_102 hl (by decide) rfl (fun ls hl => ?_)
        refine lv_iconst (v := 0) hx hb dX1_look_104 (by decide) ?_
        refine lv_istore (lv' := [(5, .int 0), (4, .int (-9)), (0, .ref mo), (1, .int x1), (2, .int x2), (3, .int x3_10)]) hx hb dX1_look_105 hl (by decide) rfl (fun ls hl => ?_)
        refine x_lf3 (G := fun (x4_14 : Int32) (x5_15 : Int32) (M_16 : xM) => ∀ (ls : Array Slot) (H : Heap) (locs : List Loc), x_Rp D d (x_A base) (x_mc d mo Aa M_16) S H → va_S (x_A base) s.heap H locs → lv_has ls 7 [(0, .ref mo), (1, .int x1), (2, .int x2), (3, .int x3_10), (4, .int x4_14), (5, .int x5_15)] → W p l e (x_rm 5 0 0 124) s m ([.ref mo, .int x1, .int x2] : List Value).toArray below meth c H locs 0 0 (MQ below (xm_Qi D d base mo Aa S (fun r M' => Q r M')) ([.ref mo, .int x1, .int x2] : List Value).toArray s 0 0 (x_A base)) (F0 m 107 ls [])) hw (fun x4_14 x5_15 M_16 hw => ?_) ls _ _ hR hS (lv_sub hl [2, 3, 4, 5, 1, 0] rfl)
        intro ls H locs hR hS hl
        refine lv_iload hx hb dX1_look_107 (lv_at hl 5 rfl) ?_
        refine lv_iload_n hx hb dX1_look_109 rfl (lv_at hl 3 rfl) ?_
        refine lv_icmp_ge (tgt := 146) hx hb dX1_look_110 (by decide) (fun c_18 => ?_) (fun c_18 => ?_)
        · have hw := x_t hw c_18
          refine lv_iload hx hb dX1_look_146 (lv_at hl 4 rfl) ?_
          exact xm_ri hx hb hr hlocks hR hS dX1_look_148 hw
        · have hw := x_f hw c_18
          refine lv_aload_n hx hb dX1_look_113 rfl (lv_at hl 0 rfl) ?_
          refine lv_iload hx hb dX1_look_114 (lv_at hl 5 rfl) ?_
          refine lv_iload_n hx hb dX1_look_116 rfl (lv_at hl 1 rfl) ?_
          refine lv_iload_n hx hb dX1_look_117 rfl (lv_at hl 2 rfl) ?_
          refine xm_ci (va_runV (As := [.int x5_15, .int x1, .int x2]) (rest := []) ⟨hx, hb, hml, hown, hts⟩ (mt_X1_meet l hw) (cwV 3 hts (lw_V q1327 q1329 qs55 q65 q1330) rfl rfl rfl hd_X1_meet ⟨Nat.le_of_ble_eq_true rfl, Nat.le_of_ble_eq_true rfl⟩) ⟨x_Pc_blind, xm_recv hR hK, x_Pc_pre hR hz hS hK⟩ rfl rfl hl.1 rfl (lv_room (Nat.le_of_ble_eq_true rfl)) dX1_look_118 ⟨Nat.le_refl _, Nat.le_refl _⟩) hS (fun r_19 M_20 H locs hp hR hS => ?_)
          have hw := hp
          refine lv_istore (lv' := [(6, .int r_19), (0, .ref mo), (1, .int x1), (2, .int x2), (3, .int x3_10), (4, .int x4_14), (5, .int x5_15)]) hx hb dX1_look_121 hl (by decide) rfl (fun ls hl => ?_)
          refine lv_iload hx hb dX1_look_123 (lv_at hl 0 rfl) ?_
          refine lv_iload hx hb dX1_look_125 (lv_at hl 5 rfl) ?_
          refine x_jn2 (G := fun (x4_21 : Int32) (M_22 : xM) => ∀ (ls : Array Slot) (H : Heap) (locs : List Loc), x_Rp D d (x_A base) (x_mc d mo Aa M_22) S H → va_S (x_A base) s.heap H locs → lv_has ls 7 [(0, .ref mo), (1, .int x1), (2, .int x2), (3, .int x3_10), (4, .int x4_21), (5, .int x5_15)] → W p l e (x_rm 5 0 0 124) s m ([.ref mo, .int x1, .int x2] : List Value).toArray below meth c H locs 0 0 (MQ below (xm_Qi D d base mo Aa S (fun r M' => Q r M')) ([.ref mo, .int x1, .int x2] : List Value).toArray s 0 0 (x_A base)) (F0 m 140 ls [])) hw (fun x4_21 M_22 hw => ?_) (fun hJ_23 hw => ?_)
          · intro ls H locs hR hS hl
            refine lv_iinc (v := (x5_15 + 1)) (lv' := [(5, .int (x5_15 + 1)), (0, .ref mo), (1, .int x1), (2, .int x2), (3, .int x3_10), (4, .int x4_21)]) hx hb dX1_look_140 hl (k := 5) rfl rfl (by decide) rfl (fun ls hl => ?_)
            refine lv_goto (tgt := 107) hx hb dX1_look_143 (by decide) ?_
            exact hw ls _ _ hR hS (lv_sub hl [1, 2, 3, 4, 5, 0] rfl)
          · refine lv_icmp_le (tgt := 140) hx hb dX1_look_127 (by decide) (fun c_24 => ?_) (fun c_24 => ?_)
            · have hw := x_t hw c_24
              exact hJ_23 x4_14 M_20 hw ls _ _ hR hS (lv_sub hl [1, 2, 3, 4, 5, 6] rfl)
            · have hw := x_f hw c_24
              refine lv_iload hx hb dX1_look_130 (lv_at hl 0 rfl) ?_
              refine lv_istore (lv' := [(4, .int r_19), (6, .int r_19), (0, .ref mo), (1, .int x1), (2, .int x2), (3, .int x3_10), (5, .int x5_15)]) hx hb dX1_look_132 hl (by decide) rfl (fun ls hl => ?_)
              refine lv_aload_n hx hb dX1_look_134 rfl (lv_at hl 2 rfl) ?_
              refine lv_iload hx hb dX1_look_135 (lv_at hl 6 rfl) ?_
              refine xm_putI (M := M_20) (k := 30) hx hb hts in_X1 hown hK hR hS (by decide) (hts _ q996) rfl rfl rfl rfl dX1_look_137 (fun H locs hR hS => ?_)
              obtain ⟨M_25, eM_25⟩ : ∃ z, z = (m1 M_20 30 x5_15) := ⟨_, rfl⟩
              rw [← eM_25] at hR
              have hw := hw M_25 eM_25
              exact hJ_23 r_19 M_25 hw ls _ _ hR hS (lv_sub hl [2, 3, 4, 5, 0, 6] rfl)
      · have hw := x_f hw c_13
        refine lv_iload_n hx hb dX1_look_87 rfl (lv_at hl 3 rfl) ?_
        refine lv_aload_n hx hb dX1_look_88 rfl (lv_at hl 0 rfl) ?_
        refine xm_getI (k := 1) hx hb hts in_X1 hown hK hR (by decide) (hts _ q967) rfl dX1_look_89 ?_
        refine lv_imul hx hb dX1_look_92 ?_
        refine lv_topi (fun x3_26 ex3_26 => ?_)
        have hw := hw x3_26 ex3_26
        refine lv_istore_n (lv' := [(3, .int x3_26), (0, .ref mo), (1, .int x1), (2, .int x2), (4, .int x4_11)]) hx hb dX1_look_93 rfl hl (by decide) rfl (fun ls hl => ?_)
        refine lv_iinc (v := (x4_11 + 1)) (lv' := [(4, .int (x4_11 + 1)), (3, .int x3_26), (0, .ref mo), (1, .int x1), (2, .int x2)]) hx hb dX1_look_94 hl (k := 4) rfl rfl (by decide) rfl (fun ls hl => ?_)
        refine lv_goto (tgt := 79) hx hb dX1_look_97 (by decide) ?_
        exact hw ls _ _ hR hS (lv_sub hl [2, 3, 4, 1, 0] rfl)
    · have hw := x_f hw c_9
      refine lv_aload_n hx hb dX1_look_35 rfl (lv_at hl 0 rfl) ?_
      refine lv_iload_n hx hb dX1_look_36 rfl (lv_at hl 3 rfl) ?_
      refine xm_ci (va_runV (As := [.int x3_6]) (rest := []) ⟨hx, hb, hml, hown, hts⟩ (mt_X1_placeOf l hw) (cwV 1 hts (lw_V q1146 q1148 qs40 q65 q1149) rfl rfl rfl hd_X1_placeOf ⟨Nat.le_of_ble_eq_true rfl, Nat.le_of_ble_eq_true rfl⟩) ⟨x_Pc_blind, xm_recv hR hK, x_Pc_pre hR hz hS hK⟩ rfl rfl hl.1 rfl (lv_room (Nat.le_of_ble_eq_true rfl)) dX1_look_37 ⟨Nat.le_refl _, Nat.le_refl _⟩) hS (fun r_27 M_28 H locs hp hR hS => ?_)
      have hw := hp.2
      rw [hp.1] at hR
      refine xm_ci (va_runS (As := [.int r_27]) (rest := []) ⟨hx, hb, hml, hown, hts⟩ (mt_X1_isStreet l hw) (va_cwS 1 hts (lw_S q1162 q1163 q65 q1164) rfl rfl rfl hd_X1_isStreet.2 ⟨Nat.le_of_ble_eq_true rfl, Nat.le_of_ble_eq_true rfl⟩) ⟨x_Pc_blind, x_Pc_pre hR hz hS hK⟩ rfl rfl hl.1 rfl (lv_room (Nat.le_of_ble_eq_true rfl)) dX1_look_40 ⟨Nat.le_refl _, Nat.le_refl _⟩) hS (fun r_29 M_30 H locs hp hR hS => ?_)
      have hw := hp.2
      rw [hp.1] at hR
      refine x_jn (G := fun (M_31 : xM) => ∀ (ls : Array Slot) (H : Heap) (locs : List Loc), x_Rp D d (x_A base) (x_mc d mo Aa M_31) S H → va_S (x_A base) s.heap H locs → lv_has ls 7 [(0, .ref mo), (1, .int x1), (2, .int x2), (3, .int x3_6)] → W p l e (x_rm 5 0 0 124) s m ([.ref mo, .int x1, .int x2] : List Value).toArray below meth c H locs 0 0 (MQ below (xm_Qi D d base mo Aa S (fun r M' => Q r M')) ([.ref mo, .int x1, .int x2] : List Value).toArray s 0 0 (x_A base)) (F0 m 68 ls [])) hw (fun M_31 hw => ?_) (fun hJ_32 hw => ?_)
      · intro ls H locs hR hS hl
        refine lv_iinc (v := (x3_6 + 1)) (lv' := [(3, .int (x3_6 + 1)), (0, .ref mo), (1, .int x1), (2, .int x2)]) hx hb dX1_look_68 hl (k := 3) rfl rfl (by decide) rfl (fun ls hl => ?_)
        refine lv_goto (tgt := 27) hx hb dX1_look_71 (by decide) ?_
        exact hw ls _ _ hR hS (lv_sub hl [1, 2, 3, 0] rfl)
      · refine lv_if_eq (tgt := 68) hx hb dX1_look_43 (by decide) (fun c_33 => ?_) (fun c_33 => ?_)
        · have hw := x_t hw c_33
          exact hJ_32 M_7 hw ls _ _ hR hS (lv_sub hl [0, 1, 2, 3] rfl)
        · have hw := x_f hw c_33
          refine lv_aload_n hx hb dX1_look_46 rfl (lv_at hl 0 rfl) ?_
          refine lv_iload_n hx hb dX1_look_47 rfl (lv_at hl 3 rfl) ?_
          refine xm_ci (va_runV (As := [.int x3_6]) (rest := []) ⟨hx, hb, hml, hown, hts⟩ (mt_X1_truly l hw) (cwV 1 hts (lw_V q1270 q1272 qs51 q65 q1273) rfl rfl rfl hd_X1_truly ⟨Nat.le_of_ble_eq_true rfl, Nat.le_of_ble_eq_true rfl⟩) ⟨x_Pc_blind, xm_recv hR hK, x_Pc_pre hR hz hS hK⟩ rfl rfl hl.1 rfl (lv_room (Nat.le_of_ble_eq_true rfl)) dX1_look_48 ⟨Nat.le_refl _, Nat.le_refl _⟩) hS (fun r_34 M_35 H locs hp hR hS => ?_)
          have hw := hp
          refine lv_if_eq (tgt := 68) hx hb dX1_look_51 (by decide) (fun c_36 => ?_) (fun c_36 => ?_)
          · have hw := x_t hw c_36
            exact hJ_32 M_35 hw ls _ _ hR hS (lv_sub hl [0, 1, 2, 3] rfl)
          · have hw := x_f hw c_36
            refine lv_aload_n hx hb dX1_look_54 rfl (lv_at hl 0 rfl) ?_
            refine xm_getA (k := 27) hx hb hts in_X1 hown hK hR (by decide) (hts _ q993) rfl dX1_look_55 ?_
            refine lv_aload_n hx hb dX1_look_58 rfl (lv_at hl 0 rfl) ?_
            refine lv_iload_n hx hb dX1_look_59 rfl (lv_at hl 3 rfl) ?_
            refine xm_ci (va_runV (As := [.int x3_6]) (rest := [.ref (Aa 27)]) ⟨hx, hb, hml, hown, hts⟩ (mt_X1_placeOf l hw) (cwV 1 hts (lw_V q1146 q1148 qs40 q65 q1149) rfl rfl rfl hd_X1_placeOf ⟨Nat.le_of_ble_eq_true rfl, Nat.le_of_ble_eq_true rfl⟩) ⟨x_Pc_blind, xm_recv hR hK, x_Pc_pre hR hz hS hK⟩ rfl rfl hl.1 rfl (lv_room (Nat.le_of_ble_eq_true rfl)) dX1_look_60 ⟨Nat.le_refl _, Nat.le_refl _⟩) hS (fun r_37 M_38 H locs hp hR hS => ?_)
            have hw := hp.2
            rw [hp.1] at hR
            refine lv_dup2_11 hx hb dX1_look_63 rfl rfl ?_
            refine xm_ild (M := M_35) (k := 27) (j := 16) hx hb hK hR dX1_look_64 rfl hw.1 ?_
            have hw := hw.2
            refine lv_iconst (v := 1) hx hb dX1_look_65 (by decide) ?_
            refine lv_iadd hx hb dX1_look_66 ?_
            refine xm_ist (M := M_35) (k := 27) (j := 16) hx hb hK hR hS dX1_look_67 rfl hw.1 (fun H locs hR hS => ?_)
            have hw := hw.2
            obtain ⟨M_39, eM_39⟩ : ∃ z, z = (m2 M_35 27 (Int32.toNatClampNeg r_37) ((M2 M_35 27 (Int32.toNatClampNeg r_37)) + 1)) := ⟨_, rfl⟩
            rw [← eM_39] at hR
            have hw := hw M_39 eM_39
            exact hJ_32 M_39 hw ls _ _ hR hS (lv_sub hl [0, 1, 2, 3] rfl)
  · have hw := x_f hw c_5
    refine lv_aload_n hx hb dX1_look_12 rfl (lv_at hl 0 rfl) ?_
    refine xm_getA (k := 27) hx hb hts in_X1 hown hK hR (by decide) (hts _ q993) rfl dX1_look_13 ?_
    refine lv_iload_n hx hb dX1_look_16 rfl (lv_at hl 3 rfl) ?_
    refine lv_iconst (v := 0) hx hb dX1_look_17 (by decide) ?_
    refine xm_ist (M := M_3) (k := 27) (j := 16) hx hb hK hR hS dX1_look_18 rfl hw.1 (fun H locs hR hS => ?_)
    have hw := hw.2
    obtain ⟨M_40, eM_40⟩ : ∃ z, z = (m2 M_3 27 (Int32.toNatClampNeg x3_2) 0) := ⟨_, rfl⟩
    rw [← eM_40] at hR
    have hw := hw M_40 eM_40
    refine lv_iinc (v := (x3_2 + 1)) (lv' := [(3, .int (x3_2 + 1)), (0, .ref mo), (1, .int x1), (2, .int x2)]) hx hb dX1_look_19 hl (k := 3) rfl rfl (by decide) rfl (fun ls hl => ?_)
    refine lv_goto (tgt := 6) hx hb dX1_look_22 (by decide) ?_
    exact hw ls _ _ hR hS (lv_sub hl [1, 2, 3, 0] rfl)
def w_X1_met (M : xM) (x1 : Int32) (x2 : Int32) (Q : Int32 → xM → Prop) : Prop := nm (m1 M 0 0) (fun M_1 : xM => w_X1_badGangs M_1 x1 x2 (fun (r_2 : Int32) => wif (r_2 = 0) (w_X1_look M_1 x1 x2 (fun (r_5 : Int32) (M_6 : xM) => Q r_5 M_6)) (Q (-2) M_1)))
theorem hd_X1_met : yX1_met.cls = "PressedMenModel" ∧ yX1_met.cls ≠ "java/lang/invoke/MethodHandle" ∧ yX1_met.cls ≠ "java/lang/invoke/VarHandle" ∧ (parseMethodDescriptor yX1_met.desc).map (fun d => d.parameters.length) = some 2 := by decide +kernel
set_option maxHeartbeats 4000000 in
theorem mt_X1_met (l : Launch) {D : va_G} {d : Nat → ClassId} {base : Nat} {mo : Nat} {Aa : Nat → Nat} {M : xM} {S : xH} {x1 : Int32} {x2 : Int32} {Q : Int32 → xM → Prop} (hw : w_X1_met M x1 x2 Q) : Met l yX1_met (ws_ yX1_met cX1_met 3 (some FieldType.int)) (x_rm 6 0 0 150) (x_Pc D d base (x_mc d mo Aa M) S [.ref mo, .int x1, .int x2]) (xm_Qi D d base mo Aa S (fun r M' => Q r M')) 0 0 (x_A base) := by
  refine x_met (by decide) (Nat.le_of_ble_eq_true rfl) ?_
  intro p e s m below meth c hx hb hml hr hlocks hown hts hz hR hK hin ls hl
  have hown : s.vm.findClass "PressedMenModel" = some m.cls := hown
  have hl : lv_has ls 3 [(0, .ref mo), (1, .int x1), (2, .int x2)] := hl
  have hS : va_S (x_A base) s.heap s.heap [] := va_S.rf
  unfold w_X1_met at hw
  refine lv_aload_n hx hb dX1_met_0 rfl (lv_at hl 0 rfl) ?_
  refine lv_iconst (v := 0) hx hb dX1_met_1 (by decide) ?_
  refine xm_putI (M := M) (k := 0) hx hb hts in_X1 hown hK hR hS (by decide) (hts _ q966) rfl rfl rfl rfl dX1_met_2 (fun H locs hR hS => ?_)
  obtain ⟨M_1, eM_1⟩ : ∃ z, z = (m1 M 0 0) := ⟨_, rfl⟩
  rw [← eM_1] at hR
  have hw := hw M_1 eM_1
  refine lv_iload_n hx hb dX1_met_5 rfl (lv_at hl 1 rfl) ?_
  refine lv_iload_n hx hb dX1_met_6 rfl (lv_at hl 2 rfl) ?_
  refine xm_ci (va_runS (As := [.int x1, .int x2]) (rest := []) ⟨hx, hb, hml, hown, hts⟩ (mt_X1_badGangs l hw) (va_cwS 2 hts (lw_S q1319 q1320 q65 q1321) rfl rfl rfl hd_X1_badGangs.2 ⟨Nat.le_of_ble_eq_true rfl, Nat.le_of_ble_eq_true rfl⟩) ⟨x_Pc_blind, x_Pc_pre hR hz hS hK⟩ rfl rfl hl.1 rfl (lv_room (Nat.le_of_ble_eq_true rfl)) dX1_met_7 ⟨Nat.le_refl _, Nat.le_refl _⟩) hS (fun r_2 M_3 H locs hp hR hS => ?_)
  have hw := hp.2
  rw [hp.1] at hR
  refine lv_if_eq (tgt := 18) hx hb dX1_met_10 (by decide) (fun c_4 => ?_) (fun c_4 => ?_)
  · have hw := x_t hw c_4
    refine lv_aload_n hx hb dX1_met_18 rfl (lv_at hl 0 rfl) ?_
    refine lv_iload_n hx hb dX1_met_19 rfl (lv_at hl 1 rfl) ?_
    refine lv_iload_n hx hb dX1_met_20 rfl (lv_at hl 2 rfl) ?_
    refine xm_ci (va_runV (As := [.int x1, .int x2]) (rest := []) ⟨hx, hb, hml, hown, hts⟩ (mt_X1_look l hw) (cwV 2 hts (lw_V q1323 q1325 qs54 q65 q1326) rfl rfl rfl hd_X1_look ⟨Nat.le_of_ble_eq_true rfl, Nat.le_of_ble_eq_true rfl⟩) ⟨x_Pc_blind, xm_recv hR hK, x_Pc_pre hR hz hS hK⟩ rfl rfl hl.1 rfl (lv_room (Nat.le_of_ble_eq_true rfl)) dX1_met_21 ⟨Nat.le_refl _, Nat.le_refl _⟩) hS (fun r_5 M_6 H locs hp hR hS => ?_)
    have hw := hp
    exact xm_ri hx hb hr hlocks hR hS dX1_met_24 hw
  · have hw := x_f hw c_4
    refine lv_bipush (v := (-2)) hx hb dX1_met_13 (by decide) ?_
    refine lv_goto (tgt := 24) hx hb dX1_met_15 (by decide) ?_
    exact xm_ri hx hb hr hlocks hR hS dX1_met_24 hw
def w_X1_laid (M : xM) (x1 : Int32) (x2 : Int32) (x3 : Int32) (x4 : Int32) (Q : Int32 → xM → Prop) : Prop := nm (m1 M 0 0) (fun M_1 : xM => w_X1_badGangs M_1 x1 x2 (fun (r_2 : Int32) => wif (r_2 = 0) (w_X1_in M_1 (Int32.toInt64 x3) 0 (Int32.toInt64 (x1 - 1)) (fun (r_5 : Int32) => wif (r_5 = 0) (Q (-2) M_1) (w_X1_in M_1 (Int32.toInt64 x4) 0 (Int32.toInt64 (x2 - 1)) (fun (r_8 : Int32) => wif (r_8 = 0) (Q (-2) M_1) (w_X1_look M_1 x1 x2 (fun (r_11 : Int32) (M_12 : xM) => w_X1_meet M_12 (M1 M_12 30) x1 x2 (fun (r_13 : Int32) (M_14 : xM) => vp_in ((x3 * x2) + x4) 6 ∧ Q (M2 M_14 28 (Int32.toNatClampNeg ((x3 * x2) + x4))) M_14))))))) (Q (-2) M_1)))
theorem hd_X1_laid : yX1_laid.cls = "PressedMenModel" ∧ yX1_laid.cls ≠ "java/lang/invoke/MethodHandle" ∧ yX1_laid.cls ≠ "java/lang/invoke/VarHandle" ∧ (parseMethodDescriptor yX1_laid.desc).map (fun d => d.parameters.length) = some 4 := by decide +kernel
set_option maxHeartbeats 4000000 in
theorem mt_X1_laid (l : Launch) {D : va_G} {d : Nat → ClassId} {base : Nat} {mo : Nat} {Aa : Nat → Nat} {M : xM} {S : xH} {x1 : Int32} {x2 : Int32} {x3 : Int32} {x4 : Int32} {Q : Int32 → xM → Prop} (hw : w_X1_laid M x1 x2 x3 x4 Q) : Met l yX1_laid (ws_ yX1_laid cX1_laid 5 (some FieldType.int)) (x_rm 6 0 0 150) (x_Pc D d base (x_mc d mo Aa M) S [.ref mo, .int x1, .int x2, .int x3, .int x4]) (xm_Qi D d base mo Aa S (fun r M' => Q r M')) 0 0 (x_A base) := by
  refine x_met (by decide) (Nat.le_of_ble_eq_true rfl) ?_
  intro p e s m below meth c hx hb hml hr hlocks hown hts hz hR hK hin ls hl
  have hown : s.vm.findClass "PressedMenModel" = some m.cls := hown
  have hl : lv_has ls 5 [(0, .ref mo), (1, .int x1), (2, .int x2), (3, .int x3), (4, .int x4)] := hl
  have hS : va_S (x_A base) s.heap s.heap [] := va_S.rf
  unfold w_X1_laid at hw
  refine lv_aload_n hx hb dX1_laid_0 rfl (lv_at hl 0 rfl) ?_
  refine lv_iconst (v := 0) hx hb dX1_laid_1 (by decide) ?_
  refine xm_putI (M := M) (k := 0) hx hb hts in_X1 hown hK hR hS (by decide) (hts _ q966) rfl rfl rfl rfl dX1_laid_2 (fun H locs hR hS => ?_)
  obtain ⟨M_1, eM_1⟩ : ∃ z, z = (m1 M 0 0) := ⟨_, rfl⟩
  rw [← eM_1] at hR
  have hw := hw M_1 eM_1
  refine lv_iload_n hx hb dX1_laid_5 rfl (lv_at hl 1 rfl) ?_
  refine lv_iload_n hx hb dX1_laid_6 rfl (lv_at hl 2 rfl) ?_
  refine xm_ci (va_runS (As := [.int x1, .int x2]) (rest := []) ⟨hx, hb, hml, hown, hts⟩ (mt_X1_badGangs l hw) (va_cwS 2 hts (lw_S q1319 q1320 q65 q1321) rfl rfl rfl hd_X1_badGangs.2 ⟨Nat.le_of_ble_eq_true rfl, Nat.le_of_ble_eq_true rfl⟩) ⟨x_Pc_blind, x_Pc_pre hR hz hS hK⟩ rfl rfl hl.1 rfl (lv_room (Nat.le_of_ble_eq_true rfl)) dX1_laid_7 ⟨Nat.le_refl _, Nat.le_refl _⟩) hS (fun r_2 M_3 H locs hp hR hS => ?_)
  have hw := hp.2
  rw [hp.1] at hR
  refine lv_if_ne (tgt := 40) hx hb dX1_laid_10 (by decide) (fun c_4 => ?_) (fun c_4 => ?_)
  · have hw := x_f hw c_4
    refine lv_bipush (v := (-2)) hx hb dX1_laid_40 (by decide) ?_
    exact xm_ri hx hb hr hlocks hR hS dX1_laid_42 hw
  · have hw := x_t hw c_4
    refine lv_iload_n hx hb dX1_laid_13 rfl (lv_at hl 3 rfl) ?_
    refine lv_i2l (v := (Int32.toInt64 x3)) hx hb dX1_laid_14 rfl ?_
    refine lv_lconst (v := 0) hx hb dX1_laid_15 (by decide) ?_
    refine lv_iload_n hx hb dX1_laid_16 rfl (lv_at hl 1 rfl) ?_
    refine lv_iconst (v := 1) hx hb dX1_laid_17 (by decide) ?_
    refine lv_isub hx hb dX1_laid_18 ?_
    refine lv_i2l (v := (Int32.toInt64 (x1 - 1))) hx hb dX1_laid_19 rfl ?_
    refine xm_ci (va_runS (As := [.long (Int32.toInt64 x3), .long 0, .long (Int32.toInt64 (x1 - 1))]) (rest := []) ⟨hx, hb, hml, hown, hts⟩ (mt_X1_in l hw) (va_cwS 3 hts (lw_S q1089 q1090 q65 q1091) rfl rfl rfl hd_X1_in.2 ⟨Nat.le_of_ble_eq_true rfl, Nat.le_of_ble_eq_true rfl⟩) ⟨x_Pc_blind, x_Pc_pre hR hz hS hK⟩ rfl rfl hl.1 rfl (lv_room (Nat.le_of_ble_eq_true rfl)) dX1_laid_20 ⟨Nat.le_refl _, Nat.le_refl _⟩) hS (fun r_5 M_6 H locs hp hR hS => ?_)
    have hw := hp.2
    rw [hp.1] at hR
    refine lv_if_eq (tgt := 40) hx hb dX1_laid_23 (by decide) (fun c_7 => ?_) (fun c_7 => ?_)
    · have hw := x_t hw c_7
      refine lv_bipush (v := (-2)) hx hb dX1_laid_40 (by decide) ?_
      exact xm_ri hx hb hr hlocks hR hS dX1_laid_42 hw
    · have hw := x_f hw c_7
      refine lv_iload hx hb dX1_laid_26 (lv_at hl 4 rfl) ?_
      refine lv_i2l (v := (Int32.toInt64 x4)) hx hb dX1_laid_28 rfl ?_
      refine lv_lconst (v := 0) hx hb dX1_laid_29 (by decide) ?_
      refine lv_iload_n hx hb dX1_laid_30 rfl (lv_at hl 2 rfl) ?_
      refine lv_iconst (v := 1) hx hb dX1_laid_31 (by decide) ?_
      refine lv_isub hx hb dX1_laid_32 ?_
      refine lv_i2l (v := (Int32.toInt64 (x2 - 1))) hx hb dX1_laid_33 rfl ?_
      refine xm_ci (va_runS (As := [.long (Int32.toInt64 x4), .long 0, .long (Int32.toInt64 (x2 - 1))]) (rest := []) ⟨hx, hb, hml, hown, hts⟩ (mt_X1_in l hw) (va_cwS 3 hts (lw_S q1089 q1090 q65 q1091) rfl rfl rfl hd_X1_in.2 ⟨Nat.le_of_ble_eq_true rfl, Nat.le_of_ble_eq_true rfl⟩) ⟨x_Pc_blind, x_Pc_pre hR hz hS hK⟩ rfl rfl hl.1 rfl (lv_room (Nat.le_of_ble_eq_true rfl)) dX1_laid_34 ⟨Nat.le_refl _, Nat.le_refl _⟩) hS (fun r_8 M_9 H locs hp hR hS => ?_)
      have hw := hp.2
      rw [hp.1] at hR
      refine lv_if_ne (tgt := 43) hx hb dX1_laid_37 (by decide) (fun c_10 => ?_) (fun c_10 => ?_)
      · have hw := x_f hw c_10
        refine lv_aload_n hx hb dX1_laid_43 rfl (lv_at hl 0 rfl) ?_
        refine lv_iload_n hx hb dX1_laid_44 rfl (lv_at hl 1 rfl) ?_
        refine lv_iload_n hx hb dX1_laid_45 rfl (lv_at hl 2 rfl) ?_
        refine xm_ci (va_runV (As := [.int x1, .int x2]) (rest := []) ⟨hx, hb, hml, hown, hts⟩ (mt_X1_look l hw) (cwV 2 hts (lw_V q1323 q1325 qs54 q65 q1326) rfl rfl rfl hd_X1_look ⟨Nat.le_of_ble_eq_true rfl, Nat.le_of_ble_eq_true rfl⟩) ⟨x_Pc_blind, xm_recv hR hK, x_Pc_pre hR hz hS hK⟩ rfl rfl hl.1 rfl (lv_room (Nat.le_of_ble_eq_true rfl)) dX1_laid_46 ⟨Nat.le_refl _, Nat.le_refl _⟩) hS (fun r_11 M_12 H locs hp hR hS => ?_)
        have hw := hp
        refine lv_pop hx hb dX1_laid_49 rfl ?_
        refine lv_aload_n hx hb dX1_laid_50 rfl (lv_at hl 0 rfl) ?_
        refine lv_aload_n hx hb dX1_laid_51 rfl (lv_at hl 0 rfl) ?_
        refine xm_getI (k := 30) hx hb hts in_X1 hown hK hR (by decide) (hts _ q996) rfl dX1_laid_52 ?_
        refine lv_iload_n hx hb dX1_laid_55 rfl (lv_at hl 1 rfl) ?_
        refine lv_iload_n hx hb dX1_laid_56 rfl (lv_at hl 2 rfl) ?_
        refine xm_ci (va_runV (As := [.int (M1 M_12 30), .int x1, .int x2]) (rest := []) ⟨hx, hb, hml, hown, hts⟩ (mt_X1_meet l hw) (cwV 3 hts (lw_V q1327 q1329 qs55 q65 q1330) rfl rfl rfl hd_X1_meet ⟨Nat.le_of_ble_eq_true rfl, Nat.le_of_ble_eq_true rfl⟩) ⟨x_Pc_blind, xm_recv hR hK, x_Pc_pre hR hz hS hK⟩ rfl rfl hl.1 rfl (lv_room (Nat.le_of_ble_eq_true rfl)) dX1_laid_57 ⟨Nat.le_refl _, Nat.le_refl _⟩) hS (fun r_13 M_14 H locs hp hR hS => ?_)
        have hw := hp
        refine lv_pop hx hb dX1_laid_60 rfl ?_
        refine lv_aload_n hx hb dX1_laid_61 rfl (lv_at hl 0 rfl) ?_
        refine xm_getA (k := 28) hx hb hts in_X1 hown hK hR (by decide) (hts _ q994) rfl dX1_laid_62 ?_
        refine lv_iload_n hx hb dX1_laid_65 rfl (lv_at hl 3 rfl) ?_
        refine lv_iload_n hx hb dX1_laid_66 rfl (lv_at hl 2 rfl) ?_
        refine lv_imul hx hb dX1_laid_67 ?_
        refine lv_iload hx hb dX1_laid_68 (lv_at hl 4 rfl) ?_
        refine lv_iadd hx hb dX1_laid_70 ?_
        refine xm_ild (M := M_14) (k := 28) (j := 17) hx hb hK hR dX1_laid_71 rfl hw.1 ?_
        have hw := hw.2
        exact xm_ri hx hb hr hlocks hR hS dX1_laid_72 hw
      · have hw := x_t hw c_10
        refine lv_bipush (v := (-2)) hx hb dX1_laid_40 (by decide) ?_
        exact xm_ri hx hb hr hlocks hR hS dX1_laid_42 hw
def w_X1_ship (M : xM) (x1 : Int32) (x2 : Int32) (x3 : Int32) (x4 : Int32) (Q : Int32 → xM → Prop) : Prop := nm (m1 M 0 0) (fun M_1 : xM => w_X1_in M_1 (Int32.toInt64 x1) 0 1 (fun (r_2 : Int32) => wif (r_2 = 0) (Q (-2) M_1) (w_X1_in M_1 (Int32.toInt64 x2) 1 20 (fun (r_5 : Int32) => wif (r_5 = 0) (Q (-2) M_1) (w_X1_in M_1 (Int32.toInt64 x3) 0 (Int32.toInt64 x2) (fun (r_8 : Int32) => wif (r_8 = 0) (Q (-2) M_1) (w_X1_in M_1 (Int32.toInt64 x4) 0 20 (fun (r_11 : Int32) => wif (r_11 = 0) (Q (-2) M_1) (wif ((M1 M_1 9) = 10) (Q (-4) M_1) (vp_in (M1 M_1 9) 10 ∧ nm (m2 M_1 10 (Int32.toNatClampNeg (M1 M_1 9)) x1) (fun M_15 : xM => vp_in (M1 M_15 9) 10 ∧ nm (m2 M_15 11 (Int32.toNatClampNeg (M1 M_15 9)) x2) (fun M_16 : xM => vp_in (M1 M_16 9) 10 ∧ nm (m2 M_16 12 (Int32.toNatClampNeg (M1 M_16 9)) x3) (fun M_17 : xM => vp_in (M1 M_17 9) 10 ∧ nm (m2 M_17 13 (Int32.toNatClampNeg (M1 M_17 9)) x4) (fun M_18 : xM => nm (m1 M_18 9 ((M1 M_18 9) + 1)) (fun M_19 : xM => Q ((M1 M_19 9) - 1) M_19)))))))))))))))
theorem hd_X1_ship : yX1_ship.cls = "PressedMenModel" ∧ yX1_ship.cls ≠ "java/lang/invoke/MethodHandle" ∧ yX1_ship.cls ≠ "java/lang/invoke/VarHandle" ∧ (parseMethodDescriptor yX1_ship.desc).map (fun d => d.parameters.length) = some 4 := by decide +kernel
set_option maxHeartbeats 4000000 in
theorem mt_X1_ship (l : Launch) {D : va_G} {d : Nat → ClassId} {base : Nat} {mo : Nat} {Aa : Nat → Nat} {M : xM} {S : xH} {x1 : Int32} {x2 : Int32} {x3 : Int32} {x4 : Int32} {Q : Int32 → xM → Prop} (hw : w_X1_ship M x1 x2 x3 x4 Q) : Met l yX1_ship (ws_ yX1_ship cX1_ship 5 (some FieldType.int)) (x_rm 1 0 0 25) (x_Pc D d base (x_mc d mo Aa M) S [.ref mo, .int x1, .int x2, .int x3, .int x4]) (xm_Qi D d base mo Aa S (fun r M' => Q r M')) 0 0 (x_A base) := by
  refine x_met (by decide) (Nat.le_of_ble_eq_true rfl) ?_
  intro p e s m below meth c hx hb hml hr hlocks hown hts hz hR hK hin ls hl
  have hown : s.vm.findClass "PressedMenModel" = some m.cls := hown
  have hl : lv_has ls 5 [(0, .ref mo), (1, .int x1), (2, .int x2), (3, .int x3), (4, .int x4)] := hl
  have hS : va_S (x_A base) s.heap s.heap [] := va_S.rf
  unfold w_X1_ship at hw
  refine lv_aload_n hx hb dX1_ship_0 rfl (lv_at hl 0 rfl) ?_
  refine lv_iconst (v := 0) hx hb dX1_ship_1 (by decide) ?_
  refine xm_putI (M := M) (k := 0) hx hb hts in_X1 hown hK hR hS (by decide) (hts _ q966) rfl rfl rfl rfl dX1_ship_2 (fun H locs hR hS => ?_)
  obtain ⟨M_1, eM_1⟩ : ∃ z, z = (m1 M 0 0) := ⟨_, rfl⟩
  rw [← eM_1] at hR
  have hw := hw M_1 eM_1
  refine lv_iload_n hx hb dX1_ship_5 rfl (lv_at hl 1 rfl) ?_
  refine lv_i2l (v := (Int32.toInt64 x1)) hx hb dX1_ship_6 rfl ?_
  refine lv_lconst (v := 0) hx hb dX1_ship_7 (by decide) ?_
  refine lv_lconst (v := 1) hx hb dX1_ship_8 (by decide) ?_
  refine xm_ci (va_runS (As := [.long (Int32.toInt64 x1), .long 0, .long 1]) (rest := []) ⟨hx, hb, hml, hown, hts⟩ (mt_X1_in l hw) (va_cwS 3 hts (lw_S q1089 q1090 q65 q1091) rfl rfl rfl hd_X1_in.2 ⟨Nat.le_of_ble_eq_true rfl, Nat.le_of_ble_eq_true rfl⟩) ⟨x_Pc_blind, x_Pc_pre hR hz hS hK⟩ rfl rfl hl.1 rfl (lv_room (Nat.le_of_ble_eq_true rfl)) dX1_ship_9 ⟨Nat.le_refl _, Nat.le_refl _⟩) hS (fun r_2 M_3 H locs hp hR hS => ?_)
  have hw := hp.2
  rw [hp.1] at hR
  refine lv_if_eq (tgt := 51) hx hb dX1_ship_12 (by decide) (fun c_4 => ?_) (fun c_4 => ?_)
  · have hw := x_t hw c_4
    refine lv_bipush (v := (-2)) hx hb dX1_ship_51 (by decide) ?_
    exact xm_ri hx hb hr hlocks hR hS dX1_ship_53 hw
  · have hw := x_f hw c_4
    refine lv_iload_n hx hb dX1_ship_15 rfl (lv_at hl 2 rfl) ?_
    refine lv_i2l (v := (Int32.toInt64 x2)) hx hb dX1_ship_16 rfl ?_
    refine lv_lconst (v := 1) hx hb dX1_ship_17 (by decide) ?_
    refine lv_ldc2 (v := 20) hx hb hown (hts _ q1140) dX1_ship_18 ?_
    refine xm_ci (va_runS (As := [.long (Int32.toInt64 x2), .long 1, .long 20]) (rest := []) ⟨hx, hb, hml, hown, hts⟩ (mt_X1_in l hw) (va_cwS 3 hts (lw_S q1089 q1090 q65 q1091) rfl rfl rfl hd_X1_in.2 ⟨Nat.le_of_ble_eq_true rfl, Nat.le_of_ble_eq_true rfl⟩) ⟨x_Pc_blind, x_Pc_pre hR hz hS hK⟩ rfl rfl hl.1 rfl (lv_room (Nat.le_of_ble_eq_true rfl)) dX1_ship_21 ⟨Nat.le_refl _, Nat.le_refl _⟩) hS (fun r_5 M_6 H locs hp hR hS => ?_)
    have hw := hp.2
    rw [hp.1] at hR
    refine lv_if_eq (tgt := 51) hx hb dX1_ship_24 (by decide) (fun c_7 => ?_) (fun c_7 => ?_)
    · have hw := x_t hw c_7
      refine lv_bipush (v := (-2)) hx hb dX1_ship_51 (by decide) ?_
      exact xm_ri hx hb hr hlocks hR hS dX1_ship_53 hw
    · have hw := x_f hw c_7
      refine lv_iload_n hx hb dX1_ship_27 rfl (lv_at hl 3 rfl) ?_
      refine lv_i2l (v := (Int32.toInt64 x3)) hx hb dX1_ship_28 rfl ?_
      refine lv_lconst (v := 0) hx hb dX1_ship_29 (by decide) ?_
      refine lv_iload_n hx hb dX1_ship_30 rfl (lv_at hl 2 rfl) ?_
      refine lv_i2l (v := (Int32.toInt64 x2)) hx hb dX1_ship_31 rfl ?_
      refine xm_ci (va_runS (As := [.long (Int32.toInt64 x3), .long 0, .long (Int32.toInt64 x2)]) (rest := []) ⟨hx, hb, hml, hown, hts⟩ (mt_X1_in l hw) (va_cwS 3 hts (lw_S q1089 q1090 q65 q1091) rfl rfl rfl hd_X1_in.2 ⟨Nat.le_of_ble_eq_true rfl, Nat.le_of_ble_eq_true rfl⟩) ⟨x_Pc_blind, x_Pc_pre hR hz hS hK⟩ rfl rfl hl.1 rfl (lv_room (Nat.le_of_ble_eq_true rfl)) dX1_ship_32 ⟨Nat.le_refl _, Nat.le_refl _⟩) hS (fun r_8 M_9 H locs hp hR hS => ?_)
      have hw := hp.2
      rw [hp.1] at hR
      refine lv_if_eq (tgt := 51) hx hb dX1_ship_35 (by decide) (fun c_10 => ?_) (fun c_10 => ?_)
      · have hw := x_t hw c_10
        refine lv_bipush (v := (-2)) hx hb dX1_ship_51 (by decide) ?_
        exact xm_ri hx hb hr hlocks hR hS dX1_ship_53 hw
      · have hw := x_f hw c_10
        refine lv_iload hx hb dX1_ship_38 (lv_at hl 4 rfl) ?_
        refine lv_i2l (v := (Int32.toInt64 x4)) hx hb dX1_ship_40 rfl ?_
        refine lv_lconst (v := 0) hx hb dX1_ship_41 (by decide) ?_
        refine lv_ldc2 (v := 20) hx hb hown (hts _ q1140) dX1_ship_42 ?_
        refine xm_ci (va_runS (As := [.long (Int32.toInt64 x4), .long 0, .long 20]) (rest := []) ⟨hx, hb, hml, hown, hts⟩ (mt_X1_in l hw) (va_cwS 3 hts (lw_S q1089 q1090 q65 q1091) rfl rfl rfl hd_X1_in.2 ⟨Nat.le_of_ble_eq_true rfl, Nat.le_of_ble_eq_true rfl⟩) ⟨x_Pc_blind, x_Pc_pre hR hz hS hK⟩ rfl rfl hl.1 rfl (lv_room (Nat.le_of_ble_eq_true rfl)) dX1_ship_45 ⟨Nat.le_refl _, Nat.le_refl _⟩) hS (fun r_11 M_12 H locs hp hR hS => ?_)
        have hw := hp.2
        rw [hp.1] at hR
        refine lv_if_ne (tgt := 54) hx hb dX1_ship_48 (by decide) (fun c_13 => ?_) (fun c_13 => ?_)
        · have hw := x_f hw c_13
          refine lv_aload_n hx hb dX1_ship_54 rfl (lv_at hl 0 rfl) ?_
          refine xm_getI (k := 9) hx hb hts in_X1 hown hK hR (by decide) (hts _ q975) rfl dX1_ship_55 ?_
          refine lv_bipush (v := 10) hx hb dX1_ship_58 (by decide) ?_
          refine lv_icmp_ne (tgt := 66) hx hb dX1_ship_60 (by decide) (fun c_14 => ?_) (fun c_14 => ?_)
          · have hw := x_f hw c_14
            refine lv_aload_n hx hb dX1_ship_66 rfl (lv_at hl 0 rfl) ?_
            refine xm_getA (k := 10) hx hb hts in_X1 hown hK hR (by decide) (hts _ q976) rfl dX1_ship_67 ?_
            refine lv_aload_n hx hb dX1_ship_70 rfl (lv_at hl 0 rfl) ?_
            refine xm_getI (k := 9) hx hb hts in_X1 hown hK hR (by decide) (hts _ q975) rfl dX1_ship_71 ?_
            refine lv_iload_n hx hb dX1_ship_74 rfl (lv_at hl 1 rfl) ?_
            refine xm_ist (M := M_1) (k := 10) (j := 5) hx hb hK hR hS dX1_ship_75 rfl hw.1 (fun H locs hR hS => ?_)
            have hw := hw.2
            obtain ⟨M_15, eM_15⟩ : ∃ z, z = (m2 M_1 10 (Int32.toNatClampNeg (M1 M_1 9)) x1) := ⟨_, rfl⟩
            rw [← eM_15] at hR
            have hw := hw M_15 eM_15
            refine lv_aload_n hx hb dX1_ship_76 rfl (lv_at hl 0 rfl) ?_
            refine xm_getA (k := 11) hx hb hts in_X1 hown hK hR (by decide) (hts _ q977) rfl dX1_ship_77 ?_
            refine lv_aload_n hx hb dX1_ship_80 rfl (lv_at hl 0 rfl) ?_
            refine xm_getI (k := 9) hx hb hts in_X1 hown hK hR (by decide) (hts _ q975) rfl dX1_ship_81 ?_
            refine lv_iload_n hx hb dX1_ship_84 rfl (lv_at hl 2 rfl) ?_
            refine xm_ist (M := M_15) (k := 11) (j := 6) hx hb hK hR hS dX1_ship_85 rfl hw.1 (fun H locs hR hS => ?_)
            have hw := hw.2
            obtain ⟨M_16, eM_16⟩ : ∃ z, z = (m2 M_15 11 (Int32.toNatClampNeg (M1 M_15 9)) x2) := ⟨_, rfl⟩
            rw [← eM_16] at hR
            have hw := hw M_16 eM_16
            refine lv_aload_n hx hb dX1_ship_86 rfl (lv_at hl 0 rfl) ?_
            refine xm_getA (k := 12) hx hb hts in_X1 hown hK hR (by decide) (hts _ q978) rfl dX1_ship_87 ?_
            refine lv_aload_n hx hb dX1_ship_90 rfl (lv_at hl 0 rfl) ?_
            refine xm_getI (k := 9) hx hb hts in_X1 hown hK hR (by decide) (hts _ q975) rfl dX1_ship_91 ?_
            refine lv_iload_n hx hb dX1_ship_94 rfl (lv_at hl 3 rfl) ?_
            refine xm_ist (M := M_16) (k := 12) (j := 7) hx hb hK hR hS dX1_ship_95 rfl hw.1 (fun H locs hR hS => ?_)
            have hw := hw.2
            obtain ⟨M_17, eM_17⟩ : ∃ z, z = (m2 M_16 12 (Int32.toNatClampNeg (M1 M_16 9)) x3) := ⟨_, rfl⟩
            rw [← eM_17] at hR
            have hw := hw M_17 eM_17
            refine lv_aload_n hx hb dX1_ship_96 rfl (lv_at hl 0 rfl) ?_
            refine xm_getA (k := 13) hx hb hts in_X1 hown hK hR (by decide) (hts _ q979) rfl dX1_ship_97 ?_
            refine lv_aload_n hx hb dX1_ship_100 rfl (lv_at hl 0 rfl) ?_
            refine xm_getI (k := 9) hx hb hts in_X1 hown hK hR (by decide) (hts _ q975) rfl dX1_ship_101 ?_
            refine lv_iload hx hb dX1_ship_104 (lv_at hl 4 rfl) ?_
            refine xm_ist (M := M_17) (k := 13) (j := 8) hx hb hK hR hS dX1_ship_106 rfl hw.1 (fun H locs hR hS => ?_)
            have hw := hw.2
            obtain ⟨M_18, eM_18⟩ : ∃ z, z = (m2 M_17 13 (Int32.toNatClampNeg (M1 M_17 9)) x4) := ⟨_, rfl⟩
            rw [← eM_18] at hR
            have hw := hw M_18 eM_18
            refine lv_aload_n hx hb dX1_ship_107 rfl (lv_at hl 0 rfl) ?_
            refine lv_dup hx hb dX1_ship_108 rfl ?_
            refine xm_getI (k := 9) hx hb hts in_X1 hown hK hR (by decide) (hts _ q975) rfl dX1_ship_109 ?_
            refine lv_iconst (v := 1) hx hb dX1_ship_112 (by decide) ?_
            refine lv_iadd hx hb dX1_ship_113 ?_
            refine xm_putI (M := M_18) (k := 9) hx hb hts in_X1 hown hK hR hS (by decide) (hts _ q975) rfl rfl rfl rfl dX1_ship_114 (fun H locs hR hS => ?_)
            obtain ⟨M_19, eM_19⟩ : ∃ z, z = (m1 M_18 9 ((M1 M_18 9) + 1)) := ⟨_, rfl⟩
            rw [← eM_19] at hR
            have hw := hw M_19 eM_19
            refine lv_aload_n hx hb dX1_ship_117 rfl (lv_at hl 0 rfl) ?_
            refine xm_getI (k := 9) hx hb hts in_X1 hown hK hR (by decide) (hts _ q975) rfl dX1_ship_118 ?_
            refine lv_iconst (v := 1) hx hb dX1_ship_121 (by decide) ?_
            refine lv_isub hx hb dX1_ship_122 ?_
            exact xm_ri hx hb hr hlocks hR hS dX1_ship_123 hw
          · have hw := x_t hw c_14
            refine lv_bipush (v := (-4)) hx hb dX1_ship_63 (by decide) ?_
            exact xm_ri hx hb hr hlocks hR hS dX1_ship_65 hw
        · have hw := x_t hw c_13
          refine lv_bipush (v := (-2)) hx hb dX1_ship_51 (by decide) ?_
          exact xm_ri hx hb hr hlocks hR hS dX1_ship_53 hw
def w_X1_noShip (M : xM) (x1 : Int32) (Q : Int32 → Prop) : Prop := w_X1_in M (Int32.toInt64 x1) 0 (Int32.toInt64 ((M1 M 9) - 1)) (fun (r_1 : Int32) => wif (r_1 = 0) (Q 1) (Q 0))
theorem hd_X1_noShip : yX1_noShip.cls = "PressedMenModel" ∧ yX1_noShip.cls ≠ "java/lang/invoke/MethodHandle" ∧ yX1_noShip.cls ≠ "java/lang/invoke/VarHandle" ∧ (parseMethodDescriptor yX1_noShip.desc).map (fun d => d.parameters.length) = some 1 := by decide +kernel
set_option maxHeartbeats 4000000 in
theorem mt_X1_noShip (l : Launch) {D : va_G} {d : Nat → ClassId} {base : Nat} {mo : Nat} {Aa : Nat → Nat} {M : xM} {S : xH} {x1 : Int32} {Q : Int32 → Prop} (hw : w_X1_noShip M x1 Q) : Met l yX1_noShip (ws_ yX1_noShip cX1_noShip 2 (some FieldType.boolean)) (x_rm 1 0 0 25) (x_Pc D d base (x_mc d mo Aa M) S [.ref mo, .int x1]) (xm_Qi D d base mo Aa S (fun r M' => M' = M ∧ Q r)) 0 0 (x_A base) := by
  refine x_met (by decide) (Nat.le_of_ble_eq_true rfl) ?_
  intro p e s m below meth c hx hb hml hr hlocks hown hts hz hR hK hin ls hl
  have hown : s.vm.findClass "PressedMenModel" = some m.cls := hown
  have hl : lv_has ls 2 [(0, .ref mo), (1, .int x1)] := hl
  have hS : va_S (x_A base) s.heap s.heap [] := va_S.rf
  unfold w_X1_noShip at hw
  refine lv_iload_n hx hb dX1_noShip_0 rfl (lv_at hl 1 rfl) ?_
  refine lv_i2l (v := (Int32.toInt64 x1)) hx hb dX1_noShip_1 rfl ?_
  refine lv_lconst (v := 0) hx hb dX1_noShip_2 (by decide) ?_
  refine lv_aload_n hx hb dX1_noShip_3 rfl (lv_at hl 0 rfl) ?_
  refine xm_getI (k := 9) hx hb hts in_X1 hown hK hR (by decide) (hts _ q975) rfl dX1_noShip_4 ?_
  refine lv_iconst (v := 1) hx hb dX1_noShip_7 (by decide) ?_
  refine lv_isub hx hb dX1_noShip_8 ?_
  refine lv_i2l (v := (Int32.toInt64 ((M1 M 9) - 1))) hx hb dX1_noShip_9 rfl ?_
  refine xm_ci (va_runS (As := [.long (Int32.toInt64 x1), .long 0, .long (Int32.toInt64 ((M1 M 9) - 1))]) (rest := []) ⟨hx, hb, hml, hown, hts⟩ (mt_X1_in l hw) (va_cwS 3 hts (lw_S q1089 q1090 q65 q1091) rfl rfl rfl hd_X1_in.2 ⟨Nat.le_of_ble_eq_true rfl, Nat.le_of_ble_eq_true rfl⟩) ⟨x_Pc_blind, x_Pc_pre hR hz hS hK⟩ rfl rfl hl.1 rfl (lv_room (Nat.le_of_ble_eq_true rfl)) dX1_noShip_10 ⟨Nat.le_refl _, Nat.le_refl _⟩) hS (fun r_1 M_2 H locs hp hR hS => ?_)
  have hw := hp.2
  rw [hp.1] at hR
  refine lv_if_ne (tgt := 20) hx hb dX1_noShip_13 (by decide) (fun c_3 => ?_) (fun c_3 => ?_)
  · have hw := x_f hw c_3
    refine lv_iconst (v := 0) hx hb dX1_noShip_20 (by decide) ?_
    exact xm_rz hx hb hr hlocks hR hS dX1_noShip_21 (Or.inl rfl) ⟨rfl, hw⟩
  · have hw := x_t hw c_3
    refine lv_iconst (v := 1) hx hb dX1_noShip_16 (by decide) ?_
    refine lv_goto (tgt := 21) hx hb dX1_noShip_17 (by decide) ?_
    exact xm_rz hx hb hr hlocks hR hS dX1_noShip_21 (Or.inr rfl) ⟨rfl, hw⟩
def w_X1_skilled (M : xM) (x1 : Int32) (Q : Int32 → Prop) : Prop := lf2 (fun L_3 (x2_1 : Int32) (x3_2 : Int32) => wif ((M1 M 5) ≤ x3_2) (Q x2_1) (w_X1_placeOf M x3_2 (fun (r_5 : Int32) => jn (fun (v1_7 : Int32) => nm (x2_1 + v1_7) (fun x2_9 : Int32 => L_3 x2_9 (x3_2 + 1))) (fun J_8 => jn0 (J_8 0) (fun J_10 => wif (r_5 = x1) (vp_in ((8 * x3_2) + 5) 320 ∧ wif ((M2 M 6 (Int32.toNatClampNeg ((8 * x3_2) + 5))) ≤ 2) (J_10) (J_8 1)) (J_10)))))) 0 0
theorem hd_X1_skilled : yX1_skilled.cls = "PressedMenModel" ∧ yX1_skilled.cls ≠ "java/lang/invoke/MethodHandle" ∧ yX1_skilled.cls ≠ "java/lang/invoke/VarHandle" ∧ (parseMethodDescriptor yX1_skilled.desc).map (fun d => d.parameters.length) = some 1 := by decide +kernel
set_option maxHeartbeats 4000000 in
theorem mt_X1_skilled (l : Launch) {D : va_G} {d : Nat → ClassId} {base : Nat} {mo : Nat} {Aa : Nat → Nat} {M : xM} {S : xH} {x1 : Int32} {Q : Int32 → Prop} (hw : w_X1_skilled M x1 Q) : Met l yX1_skilled (ws_ yX1_skilled cX1_skilled 4 (some FieldType.int)) (x_rm 1 0 0 21) (x_Pc D d base (x_mc d mo Aa M) S [.ref mo, .int x1]) (xm_Qi D d base mo Aa S (fun r M' => M' = M ∧ Q r)) 0 0 (x_A base) := by
  refine x_met (by decide) (Nat.le_of_ble_eq_true rfl) ?_
  intro p e s m below meth c hx hb hml hr hlocks hown hts hz hR hK hin ls hl
  have hown : s.vm.findClass "PressedMenModel" = some m.cls := hown
  have hl : lv_has ls 4 [(0, .ref mo), (1, .int x1)] := hl
  have hS : va_S (x_A base) s.heap s.heap [] := va_S.rf
  unfold w_X1_skilled at hw
  refine lv_iconst (v := 0) hx hb dX1_skilled_0 (by decide) ?_
  refine lv_istore_n (lv' := [(2, .int 0), (0, .ref mo), (1, .int x1)]) hx hb dX1_skilled_1 rfl hl (by decide) rfl (fun ls hl => ?_)
  refine lv_iconst (v := 0) hx hb dX1_skilled_2 (by decide) ?_
  refine lv_istore_n (lv' := [(3, .int 0), (2, .int 0), (0, .ref mo), (1, .int x1)]) hx hb dX1_skilled_3 rfl hl (by decide) rfl (fun ls hl => ?_)
  refine x_lf2 (G := fun (x2_1 : Int32) (x3_2 : Int32) => ∀ (ls : Array Slot) (H : Heap) (locs : List Loc), x_Rp D d (x_A base) (x_mc d mo Aa M) S H → va_S (x_A base) s.heap H locs → lv_has ls 4 [(0, .ref mo), (1, .int x1), (2, .int x2_1), (3, .int x3_2)] → W p l e (x_rm 1 0 0 21) s m ([.ref mo, .int x1] : List Value).toArray below meth c H locs 0 0 (MQ below (xm_Qi D d base mo Aa S (fun r M' => M' = M ∧ Q r)) ([.ref mo, .int x1] : List Value).toArray s 0 0 (x_A base)) (F0 m 4 ls [])) hw (fun x2_1 x3_2 hw => ?_) ls _ _ hR hS (lv_sub hl [2, 3, 1, 0] rfl)
  intro ls H locs hR hS hl
  refine lv_iload_n hx hb dX1_skilled_4 rfl (lv_at hl 3 rfl) ?_
  refine lv_aload_n hx hb dX1_skilled_5 rfl (lv_at hl 0 rfl) ?_
  refine xm_getI (k := 5) hx hb hts in_X1 hown hK hR (by decide) (hts _ q971) rfl dX1_skilled_6 ?_
  refine lv_icmp_ge (tgt := 50) hx hb dX1_skilled_9 (by decide) (fun c_4 => ?_) (fun c_4 => ?_)
  · have hw := x_t hw c_4
    refine lv_iload_n hx hb dX1_skilled_50 rfl (lv_at hl 2 rfl) ?_
    exact xm_ri hx hb hr hlocks hR hS dX1_skilled_51 ⟨rfl, hw⟩
  · have hw := x_f hw c_4
    refine lv_iload_n hx hb dX1_skilled_12 rfl (lv_at hl 2 rfl) ?_
    refine lv_aload_n hx hb dX1_skilled_13 rfl (lv_at hl 0 rfl) ?_
    refine lv_iload_n hx hb dX1_skilled_14 rfl (lv_at hl 3 rfl) ?_
    refine xm_ci (va_runV (As := [.int x3_2]) (rest := [.int x2_1]) ⟨hx, hb, hml, hown, hts⟩ (mt_X1_placeOf l hw) (cwV 1 hts (lw_V q1146 q1148 qs40 q65 q1149) rfl rfl rfl hd_X1_placeOf ⟨Nat.le_of_ble_eq_true rfl, Nat.le_of_ble_eq_true rfl⟩) ⟨x_Pc_blind, xm_recv hR hK, x_Pc_pre hR hz hS hK⟩ rfl rfl hl.1 rfl (lv_room (Nat.le_of_ble_eq_true rfl)) dX1_skilled_15 ⟨Nat.le_refl _, Nat.le_refl _⟩) hS (fun r_5 M_6 H locs hp hR hS => ?_)
    have hw := hp.2
    rw [hp.1] at hR
    refine lv_iload_n hx hb dX1_skilled_18 rfl (lv_at hl 1 rfl) ?_
    refine x_jn (G := fun (v1_7 : Int32) => ∀ (ls : Array Slot) (H : Heap) (locs : List Loc), x_Rp D d (x_A base) (x_mc d mo Aa M) S H → va_S (x_A base) s.heap H locs → lv_has ls 4 [(0, .ref mo), (1, .int x1), (3, .int x3_2)] → W p l e (x_rm 1 0 0 21) s m ([.ref mo, .int x1] : List Value).toArray below meth c H locs 0 0 (MQ below (xm_Qi D d base mo Aa S (fun r M' => M' = M ∧ Q r)) ([.ref mo, .int x1] : List Value).toArray s 0 0 (x_A base)) (F0 m 42 ls [.int v1_7, .int x2_1])) hw (fun v1_7 hw => ?_) (fun hJ_8 hw => ?_)
    · intro ls H locs hR hS hl
      refine lv_iadd hx hb dX1_skilled_42 ?_
      refine lv_topi (fun x2_9 ex2_9 => ?_)
      have hw := hw x2_9 ex2_9
      refine lv_istore_n (lv' := [(2, .int x2_9), (0, .ref mo), (1, .int x1), (3, .int x3_2)]) hx hb dX1_skilled_43 rfl hl (by decide) rfl (fun ls hl => ?_)
      refine lv_iinc (v := (x3_2 + 1)) (lv' := [(3, .int (x3_2 + 1)), (2, .int x2_9), (0, .ref mo), (1, .int x1)]) hx hb dX1_skilled_44 hl (k := 3) rfl rfl (by decide) rfl (fun ls hl => ?_)
      refine lv_goto (tgt := 4) hx hb dX1_skilled_47 (by decide) ?_
      exact hw ls _ _ hR hS (lv_sub hl [2, 3, 1, 0] rfl)
    · refine x_jn0 (G := ∀ (ls : Array Slot) (H : Heap) (locs : List Loc), x_Rp D d (x_A base) (x_mc d mo Aa M) S H → va_S (x_A base) s.heap H locs → lv_has ls 4 [(0, .ref mo), (1, .int x1), (3, .int x3_2)] → W p l e (x_rm 1 0 0 21) s m ([.ref mo, .int x1] : List Value).toArray below meth c H locs 0 0 (MQ below (xm_Qi D d base mo Aa S (fun r M' => M' = M ∧ Q r)) ([.ref mo, .int x1] : List Value).toArray s 0 0 (x_A base)) (F0 m 41 ls [.int x2_1])) hw (fun hw => ?_) (fun hJ_10 hw => ?_)
      · intro ls H locs hR hS hl
        refine lv_iconst (v := 0) hx hb dX1_skilled_41 (by decide) ?_
        exact hJ_8 0 hw ls _ _ hR hS (lv_sub hl [0, 1, 2] rfl)
      · refine lv_icmp_ne (tgt := 41) hx hb dX1_skilled_19 (by decide) (fun c_11 => ?_) (fun c_11 => ?_)
        · have hw := x_f hw c_11
          exact hJ_10  hw ls _ _ hR hS (lv_sub hl [0, 1, 3] rfl)
        · have hw := x_t hw c_11
          refine lv_aload_n hx hb dX1_skilled_22 rfl (lv_at hl 0 rfl) ?_
          refine xm_getA (k := 6) hx hb hts in_X1 hown hK hR (by decide) (hts _ q972) rfl dX1_skilled_23 ?_
          refine lv_bipush (v := 8) hx hb dX1_skilled_26 (by decide) ?_
          refine lv_iload_n hx hb dX1_skilled_28 rfl (lv_at hl 3 rfl) ?_
          refine lv_imul hx hb dX1_skilled_29 ?_
          refine lv_iconst (v := 5) hx hb dX1_skilled_30 (by decide) ?_
          refine lv_iadd hx hb dX1_skilled_31 ?_
          refine xm_ild (M := M) (k := 6) (j := 2) hx hb hK hR dX1_skilled_32 rfl hw.1 ?_
          have hw := hw.2
          refine lv_iconst (v := 2) hx hb dX1_skilled_33 (by decide) ?_
          refine lv_icmp_le (tgt := 41) hx hb dX1_skilled_34 (by decide) (fun c_12 => ?_) (fun c_12 => ?_)
          · have hw := x_t hw c_12
            exact hJ_10  hw ls _ _ hR hS (lv_sub hl [0, 1, 3] rfl)
          · have hw := x_f hw c_12
            refine lv_iconst (v := 1) hx hb dX1_skilled_37 (by decide) ?_
            refine lv_goto (tgt := 42) hx hb dX1_skilled_38 (by decide) ?_
            exact hJ_8 1 hw ls _ _ hR hS (lv_sub hl [0, 1, 3] rfl)
def w_X1_of (M : xM) (x1 : Int32) (x2 : Int32) (Q : Int32 → xM → Prop) : Prop := nm (m1 M 0 0) (fun M_1 : xM => w_X1_noShip M_1 x1 (fun (r_2 : Int32) => wif (r_2 = 0) (wif (x2 = 0) (vp_in x1 10 ∧ Q (M2 M_1 10 (Int32.toNatClampNeg x1)) M_1) (wif (x2 = 1) (vp_in x1 10 ∧ Q (M2 M_1 11 (Int32.toNatClampNeg x1)) M_1) (wif (x2 = 2) (vp_in x1 10 ∧ Q (M2 M_1 12 (Int32.toNatClampNeg x1)) M_1) (wif (x2 = 3) (vp_in x1 10 ∧ Q (M2 M_1 13 (Int32.toNatClampNeg x1)) M_1) (wif (x2 = 4) (vp_in x1 10 ∧ wif ((M2 M_1 14 (Int32.toNatClampNeg x1)) = 0) (Q 1 M_1) (Q 0 M_1)) (wif (x2 = 5) (w_X1_many M_1 (10 + x1) (fun (r_7 : Int32) => Q r_7 M_1)) (wif (x2 = 6) (w_X1_skilled M_1 (10 + x1) (fun (r_9 : Int32) => Q r_9 M_1)) ((Q (-2) M_1))))))))) (Q (-1) M_1)))
theorem hd_X1_of : yX1_of.cls = "PressedMenModel" ∧ yX1_of.cls ≠ "java/lang/invoke/MethodHandle" ∧ yX1_of.cls ≠ "java/lang/invoke/VarHandle" ∧ (parseMethodDescriptor yX1_of.desc).map (fun d => d.parameters.length) = some 2 := by decide +kernel
set_option maxHeartbeats 4000000 in
theorem mt_X1_of (l : Launch) {D : va_G} {d : Nat → ClassId} {base : Nat} {mo : Nat} {Aa : Nat → Nat} {M : xM} {S : xH} {x1 : Int32} {x2 : Int32} {Q : Int32 → xM → Prop} (hw : w_X1_of M x1 x2 Q) : Met l yX1_of (ws_ yX1_of cX1_of 3 (some FieldType.int)) (x_rm 2 0 0 46) (x_Pc D d base (x_mc d mo Aa M) S [.ref mo, .int x1, .int x2]) (xm_Qi D d base mo Aa S (fun r M' => Q r M')) 0 0 (x_A base) := by
  refine x_met (by decide) (Nat.le_of_ble_eq_true rfl) ?_
  intro p e s m below meth c hx hb hml hr hlocks hown hts hz hR hK hin ls hl
  have hown : s.vm.findClass "PressedMenModel" = some m.cls := hown
  have hl : lv_has ls 3 [(0, .ref mo), (1, .int x1), (2, .int x2)] := hl
  have hS : va_S (x_A base) s.heap s.heap [] := va_S.rf
  unfold w_X1_of at hw
  refine lv_aload_n hx hb dX1_of_0 rfl (lv_at hl 0 rfl) ?_
  refine lv_iconst (v := 0) hx hb dX1_of_1 (by decide) ?_
  refine xm_putI (M := M) (k := 0) hx hb hts in_X1 hown hK hR hS (by decide) (hts _ q966) rfl rfl rfl rfl dX1_of_2 (fun H locs hR hS => ?_)
  obtain ⟨M_1, eM_1⟩ : ∃ z, z = (m1 M 0 0) := ⟨_, rfl⟩
  rw [← eM_1] at hR
  have hw := hw M_1 eM_1
  refine lv_aload_n hx hb dX1_of_5 rfl (lv_at hl 0 rfl) ?_
  refine lv_iload_n hx hb dX1_of_6 rfl (lv_at hl 1 rfl) ?_
  refine xm_ci (va_runV (As := [.int x1]) (rest := []) ⟨hx, hb, hml, hown, hts⟩ (mt_X1_noShip l hw) (cwV 1 hts (lw_V q1343 q1345 qs56 q65 q1346) rfl rfl rfl hd_X1_noShip ⟨Nat.le_of_ble_eq_true rfl, Nat.le_of_ble_eq_true rfl⟩) ⟨x_Pc_blind, xm_recv hR hK, x_Pc_pre hR hz hS hK⟩ rfl rfl hl.1 rfl (lv_room (Nat.le_of_ble_eq_true rfl)) dX1_of_7 ⟨Nat.le_refl _, Nat.le_refl _⟩) hS (fun r_2 M_3 H locs hp hR hS => ?_)
  have hw := hp.2
  rw [hp.1] at hR
  refine lv_if_eq (tgt := 15) hx hb dX1_of_10 (by decide) (fun c_4 => ?_) (fun c_4 => ?_)
  · have hw := x_t hw c_4
    refine lv_iload_n hx hb dX1_of_15 rfl (lv_at hl 2 rfl) ?_
    rcases Classical.em (x2 = 0) with c_50 | c_50
    · have hw := x_t hw c_50
      refine lv_tableIn (off := 44) (tgt := 60) hx hb dX1_of_16 (by rw [c_50]; decide) (by rw [c_50]; decide) (by rw [c_50]; rfl) (by decide) ?_
      refine lv_aload_n hx hb dX1_of_60 rfl (lv_at hl 0 rfl) ?_
      refine xm_getA (k := 10) hx hb hts in_X1 hown hK hR (by decide) (hts _ q976) rfl dX1_of_61 ?_
      refine lv_iload_n hx hb dX1_of_64 rfl (lv_at hl 1 rfl) ?_
      refine xm_ild (M := M_1) (k := 10) (j := 5) hx hb hK hR dX1_of_65 rfl hw.1 ?_
      have hw := hw.2
      exact xm_ri hx hb hr hlocks hR hS dX1_of_66 hw
    · have hw := x_f hw c_50
      rcases Classical.em (x2 = 1) with c_51 | c_51
      · have hw := x_t hw c_51
        refine lv_tableIn (off := 51) (tgt := 67) hx hb dX1_of_16 (by rw [c_51]; decide) (by rw [c_51]; decide) (by rw [c_51]; rfl) (by decide) ?_
        refine lv_aload_n hx hb dX1_of_67 rfl (lv_at hl 0 rfl) ?_
        refine xm_getA (k := 11) hx hb hts in_X1 hown hK hR (by decide) (hts _ q977) rfl dX1_of_68 ?_
        refine lv_iload_n hx hb dX1_of_71 rfl (lv_at hl 1 rfl) ?_
        refine xm_ild (M := M_1) (k := 11) (j := 6) hx hb hK hR dX1_of_72 rfl hw.1 ?_
        have hw := hw.2
        exact xm_ri hx hb hr hlocks hR hS dX1_of_73 hw
      · have hw := x_f hw c_51
        rcases Classical.em (x2 = 2) with c_52 | c_52
        · have hw := x_t hw c_52
          refine lv_tableIn (off := 58) (tgt := 74) hx hb dX1_of_16 (by rw [c_52]; decide) (by rw [c_52]; decide) (by rw [c_52]; rfl) (by decide) ?_
          refine lv_aload_n hx hb dX1_of_74 rfl (lv_at hl 0 rfl) ?_
          refine xm_getA (k := 12) hx hb hts in_X1 hown hK hR (by decide) (hts _ q978) rfl dX1_of_75 ?_
          refine lv_iload_n hx hb dX1_of_78 rfl (lv_at hl 1 rfl) ?_
          refine xm_ild (M := M_1) (k := 12) (j := 7) hx hb hK hR dX1_of_79 rfl hw.1 ?_
          have hw := hw.2
          exact xm_ri hx hb hr hlocks hR hS dX1_of_80 hw
        · have hw := x_f hw c_52
          rcases Classical.em (x2 = 3) with c_53 | c_53
          · have hw := x_t hw c_53
            refine lv_tableIn (off := 65) (tgt := 81) hx hb dX1_of_16 (by rw [c_53]; decide) (by rw [c_53]; decide) (by rw [c_53]; rfl) (by decide) ?_
            refine lv_aload_n hx hb dX1_of_81 rfl (lv_at hl 0 rfl) ?_
            refine xm_getA (k := 13) hx hb hts in_X1 hown hK hR (by decide) (hts _ q979) rfl dX1_of_82 ?_
            refine lv_iload_n hx hb dX1_of_85 rfl (lv_at hl 1 rfl) ?_
            refine xm_ild (M := M_1) (k := 13) (j := 8) hx hb hK hR dX1_of_86 rfl hw.1 ?_
            have hw := hw.2
            exact xm_ri hx hb hr hlocks hR hS dX1_of_87 hw
          · have hw := x_f hw c_53
            rcases Classical.em (x2 = 4) with c_54 | c_54
            · have hw := x_t hw c_54
              refine lv_tableIn (off := 72) (tgt := 88) hx hb dX1_of_16 (by rw [c_54]; decide) (by rw [c_54]; decide) (by rw [c_54]; rfl) (by decide) ?_
              refine lv_aload_n hx hb dX1_of_88 rfl (lv_at hl 0 rfl) ?_
              refine xm_getA (k := 14) hx hb hts in_X1 hown hK hR (by decide) (hts _ q980) rfl dX1_of_89 ?_
              refine lv_iload_n hx hb dX1_of_92 rfl (lv_at hl 1 rfl) ?_
              refine xm_zld (M := M_1) (k := 14) (j := 9) hx hb hK hR dX1_of_93 rfl hw.1 ?_
              have hw := hw.2
              refine lv_if_eq (tgt := 101) hx hb dX1_of_94 (by decide) (fun c_6 => ?_) (fun c_6 => ?_)
              · have hw := x_t hw c_6
                refine lv_iconst (v := 1) hx hb dX1_of_101 (by decide) ?_
                exact xm_ri hx hb hr hlocks hR hS dX1_of_102 hw
              · have hw := x_f hw c_6
                refine lv_iconst (v := 0) hx hb dX1_of_97 (by decide) ?_
                refine lv_goto (tgt := 102) hx hb dX1_of_98 (by decide) ?_
                exact xm_ri hx hb hr hlocks hR hS dX1_of_102 hw
            · have hw := x_f hw c_54
              rcases Classical.em (x2 = 5) with c_55 | c_55
              · have hw := x_t hw c_55
                refine lv_tableIn (off := 87) (tgt := 103) hx hb dX1_of_16 (by rw [c_55]; decide) (by rw [c_55]; decide) (by rw [c_55]; rfl) (by decide) ?_
                refine lv_aload_n hx hb dX1_of_103 rfl (lv_at hl 0 rfl) ?_
                refine lv_bipush (v := 10) hx hb dX1_of_104 (by decide) ?_
                refine lv_iload_n hx hb dX1_of_106 rfl (lv_at hl 1 rfl) ?_
                refine lv_iadd hx hb dX1_of_107 ?_
                refine xm_ci (va_runV (As := [.int (10 + x1)]) (rest := []) ⟨hx, hb, hml, hown, hts⟩ (mt_X1_many l hw) (cwV 1 hts (lw_V q1142 q1144 qs39 q65 q1145) rfl rfl rfl hd_X1_many ⟨Nat.le_of_ble_eq_true rfl, Nat.le_of_ble_eq_true rfl⟩) ⟨x_Pc_blind, xm_recv hR hK, x_Pc_pre hR hz hS hK⟩ rfl rfl hl.1 rfl (lv_room (Nat.le_of_ble_eq_true rfl)) dX1_of_108 ⟨Nat.le_refl _, Nat.le_refl _⟩) hS (fun r_7 M_8 H locs hp hR hS => ?_)
                have hw := hp.2
                rw [hp.1] at hR
                exact xm_ri hx hb hr hlocks hR hS dX1_of_111 hw
              · have hw := x_f hw c_55
                rcases Classical.em (x2 = 6) with c_56 | c_56
                · have hw := x_t hw c_56
                  refine lv_tableIn (off := 96) (tgt := 112) hx hb dX1_of_16 (by rw [c_56]; decide) (by rw [c_56]; decide) (by rw [c_56]; rfl) (by decide) ?_
                  refine lv_aload_n hx hb dX1_of_112 rfl (lv_at hl 0 rfl) ?_
                  refine lv_bipush (v := 10) hx hb dX1_of_113 (by decide) ?_
                  refine lv_iload_n hx hb dX1_of_115 rfl (lv_at hl 1 rfl) ?_
                  refine lv_iadd hx hb dX1_of_116 ?_
                  refine xm_ci (va_runV (As := [.int (10 + x1)]) (rest := []) ⟨hx, hb, hml, hown, hts⟩ (mt_X1_skilled l hw) (cwV 1 hts (lw_V q1347 q1349 qs57 q65 q1350) rfl rfl rfl hd_X1_skilled ⟨Nat.le_of_ble_eq_true rfl, Nat.le_of_ble_eq_true rfl⟩) ⟨x_Pc_blind, xm_recv hR hK, x_Pc_pre hR hz hS hK⟩ rfl rfl hl.1 rfl (lv_room (Nat.le_of_ble_eq_true rfl)) dX1_of_117 ⟨Nat.le_refl _, Nat.le_refl _⟩) hS (fun r_9 M_10 H locs hp hR hS => ?_)
                  have hw := hp.2
                  rw [hp.1] at hR
                  exact xm_ri hx hb hr hlocks hR hS dX1_of_120 hw
                · have hw := x_f hw c_56
                  refine lv_tableOut (tgt := 121) hx hb dX1_of_16 (x_swo 6 (fun j hj => by rcases (show j = 0 ∨ j = 1 ∨ j = 2 ∨ j = 3 ∨ j = 4 ∨ j = 5 ∨ j = 6 by omega) with rfl | rfl | rfl | rfl | rfl | rfl | rfl <;> assumption)) (by decide) ?_
                  refine lv_bipush (v := (-2)) hx hb dX1_of_121 (by decide) ?_
                  exact xm_ri hx hb hr hlocks hR hS dX1_of_123 hw
  · have hw := x_f hw c_4
    refine lv_iconst (v := (-1)) hx hb dX1_of_13 (by decide) ?_
    exact xm_ri hx hb hr hlocks hR hS dX1_of_14 hw
def w_X1_badWeather (M : xM) (x0 : Int32) (Q : Int32 → Prop) : Prop := w_X1_in M (Int32.toInt64 x0) 0 3 (fun (r_1 : Int32) => wif (r_1 = 0) (Q 1) (Q 0))
theorem hd_X1_badWeather : yX1_badWeather.cls = "PressedMenModel" ∧ yX1_badWeather.cls ≠ "java/lang/invoke/MethodHandle" ∧ yX1_badWeather.cls ≠ "java/lang/invoke/VarHandle" ∧ (parseMethodDescriptor yX1_badWeather.desc).map (fun d => d.parameters.length) = some 1 := by decide +kernel
set_option maxHeartbeats 4000000 in
theorem mt_X1_badWeather (l : Launch) {D : va_G} {d : Nat → ClassId} {base : Nat} {mo : Nat} {Aa : Nat → Nat} {M : xM} {S : xH} {x0 : Int32} {Q : Int32 → Prop} (hw : w_X1_badWeather M x0 Q) : Met l yX1_badWeather (ws_ yX1_badWeather cX1_badWeather 1 (some FieldType.boolean)) (x_rm 1 0 0 25) (x_Pc D d base (x_mc d mo Aa M) S [.int x0]) (xm_Qi D d base mo Aa S (fun r M' => M' = M ∧ Q r)) 0 0 (x_A base) := by
  refine x_met (by decide) (Nat.le_of_ble_eq_true rfl) ?_
  intro p e s m below meth c hx hb hml hr hlocks hown hts hz hR hK hin ls hl
  have hown : s.vm.findClass "PressedMenModel" = some m.cls := hown
  have hl : lv_has ls 1 [(0, .int x0)] := hl
  have hS : va_S (x_A base) s.heap s.heap [] := va_S.rf
  unfold w_X1_badWeather at hw
  refine lv_iload_n hx hb dX1_badWeather_0 rfl (lv_at hl 0 rfl) ?_
  refine lv_i2l (v := (Int32.toInt64 x0)) hx hb dX1_badWeather_1 rfl ?_
  refine lv_lconst (v := 0) hx hb dX1_badWeather_2 (by decide) ?_
  refine lv_ldc2 (v := 3) hx hb hown (hts _ q1114) dX1_badWeather_3 ?_
  refine xm_ci (va_runS (As := [.long (Int32.toInt64 x0), .long 0, .long 3]) (rest := []) ⟨hx, hb, hml, hown, hts⟩ (mt_X1_in l hw) (va_cwS 3 hts (lw_S q1089 q1090 q65 q1091) rfl rfl rfl hd_X1_in.2 ⟨Nat.le_of_ble_eq_true rfl, Nat.le_of_ble_eq_true rfl⟩) ⟨x_Pc_blind, x_Pc_pre hR hz hS hK⟩ rfl rfl hl.1 rfl (lv_room (Nat.le_of_ble_eq_true rfl)) dX1_badWeather_6 ⟨Nat.le_refl _, Nat.le_refl _⟩) hS (fun r_1 M_2 H locs hp hR hS => ?_)
  have hw := hp.2
  rw [hp.1] at hR
  refine lv_if_ne (tgt := 16) hx hb dX1_badWeather_9 (by decide) (fun c_3 => ?_) (fun c_3 => ?_)
  · have hw := x_f hw c_3
    refine lv_iconst (v := 0) hx hb dX1_badWeather_16 (by decide) ?_
    exact xm_rz hx hb hr hlocks hR hS dX1_badWeather_17 (Or.inl rfl) ⟨rfl, hw⟩
  · have hw := x_t hw c_3
    refine lv_iconst (v := 1) hx hb dX1_badWeather_12 (by decide) ?_
    refine lv_goto (tgt := 17) hx hb dX1_badWeather_13 (by decide) ?_
    exact xm_rz hx hb hr hlocks hR hS dX1_badWeather_17 (Or.inr rfl) ⟨rfl, hw⟩
def w_X1_spared (M : xM) (x1 : Int32) (x2 : Int32) (Q : Int32 → Prop) : Prop := w_X1_many M (10 + x1) (fun (r_1 : Int32) => vp_in x1 10 ∧ nm ((r_1 - (M2 M 13 (Int32.toNatClampNeg x1))) - x2) (fun x3_3 : Int32 => wif (x3_3 ≤ 0) (Q 0) (Q x3_3)))
theorem hd_X1_spared : yX1_spared.cls = "PressedMenModel" ∧ yX1_spared.cls ≠ "java/lang/invoke/MethodHandle" ∧ yX1_spared.cls ≠ "java/lang/invoke/VarHandle" ∧ (parseMethodDescriptor yX1_spared.desc).map (fun d => d.parameters.length) = some 2 := by decide +kernel
set_option maxHeartbeats 4000000 in
theorem mt_X1_spared (l : Launch) {D : va_G} {d : Nat → ClassId} {base : Nat} {mo : Nat} {Aa : Nat → Nat} {M : xM} {S : xH} {x1 : Int32} {x2 : Int32} {Q : Int32 → Prop} (hw : w_X1_spared M x1 x2 Q) : Met l yX1_spared (ws_ yX1_spared cX1_spared 4 (some FieldType.int)) (x_rm 2 0 0 44) (x_Pc D d base (x_mc d mo Aa M) S [.ref mo, .int x1, .int x2]) (xm_Qi D d base mo Aa S (fun r M' => M' = M ∧ Q r)) 0 0 (x_A base) := by
  refine x_met (by decide) (Nat.le_of_ble_eq_true rfl) ?_
  intro p e s m below meth c hx hb hml hr hlocks hown hts hz hR hK hin ls hl
  have hown : s.vm.findClass "PressedMenModel" = some m.cls := hown
  have hl : lv_has ls 4 [(0, .ref mo), (1, .int x1), (2, .int x2)] := hl
  have hS : va_S (x_A base) s.heap s.heap [] := va_S.rf
  unfold w_X1_spared at hw
  refine lv_aload_n hx hb dX1_spared_0 rfl (lv_at hl 0 rfl) ?_
  refine lv_bipush (v := 10) hx hb dX1_spared_1 (by decide) ?_
  refine lv_iload_n hx hb dX1_spared_3 rfl (lv_at hl 1 rfl) ?_
  refine lv_iadd hx hb dX1_spared_4 ?_
  refine xm_ci (va_runV (As := [.int (10 + x1)]) (rest := []) ⟨hx, hb, hml, hown, hts⟩ (mt_X1_many l hw) (cwV 1 hts (lw_V q1142 q1144 qs39 q65 q1145) rfl rfl rfl hd_X1_many ⟨Nat.le_of_ble_eq_true rfl, Nat.le_of_ble_eq_true rfl⟩) ⟨x_Pc_blind, xm_recv hR hK, x_Pc_pre hR hz hS hK⟩ rfl rfl hl.1 rfl (lv_room (Nat.le_of_ble_eq_true rfl)) dX1_spared_5 ⟨Nat.le_refl _, Nat.le_refl _⟩) hS (fun r_1 M_2 H locs hp hR hS => ?_)
  have hw := hp.2
  rw [hp.1] at hR
  refine lv_aload_n hx hb dX1_spared_8 rfl (lv_at hl 0 rfl) ?_
  refine xm_getA (k := 13) hx hb hts in_X1 hown hK hR (by decide) (hts _ q979) rfl dX1_spared_9 ?_
  refine lv_iload_n hx hb dX1_spared_12 rfl (lv_at hl 1 rfl) ?_
  refine xm_ild (M := M) (k := 13) (j := 8) hx hb hK hR dX1_spared_13 rfl hw.1 ?_
  have hw := hw.2
  refine lv_isub hx hb dX1_spared_14 ?_
  refine lv_iload_n hx hb dX1_spared_15 rfl (lv_at hl 2 rfl) ?_
  refine lv_isub hx hb dX1_spared_16 ?_
  refine lv_topi (fun x3_3 ex3_3 => ?_)
  have hw := hw x3_3 ex3_3
  refine lv_istore_n (lv' := [(3, .int x3_3), (0, .ref mo), (1, .int x1), (2, .int x2)]) hx hb dX1_spared_17 rfl hl (by decide) rfl (fun ls hl => ?_)
  refine lv_iload_n hx hb dX1_spared_18 rfl (lv_at hl 0 rfl) ?_
  refine lv_if_le (tgt := 26) hx hb dX1_spared_19 (by decide) (fun c_4 => ?_) (fun c_4 => ?_)
  · have hw := x_t hw c_4
    refine lv_iconst (v := 0) hx hb dX1_spared_26 (by decide) ?_
    exact xm_ri hx hb hr hlocks hR hS dX1_spared_27 ⟨rfl, hw⟩
  · have hw := x_f hw c_4
    refine lv_iload_n hx hb dX1_spared_22 rfl (lv_at hl 0 rfl) ?_
    refine lv_goto (tgt := 27) hx hb dX1_spared_23 (by decide) ?_
    exact xm_ri hx hb hr hlocks hR hS dX1_spared_27 ⟨rfl, hw⟩
def w_X1_spare (M : xM) (x1 : Int32) (x2 : Int32) (Q : Int32 → xM → Prop) : Prop := nm (m1 M 0 0) (fun M_1 : xM => w_X1_noShip M_1 x1 (fun (r_2 : Int32) => wif (r_2 = 0) (w_X1_badWeather M_1 x2 (fun (r_5 : Int32) => wif (r_5 = 0) (vp_in x1 10 ∧ wif ((M2 M_1 10 (Int32.toNatClampNeg x1)) = 0) (Q (-3) M_1) (w_X1_spared M_1 x1 x2 (fun (r_9 : Int32) => Q r_9 M_1))) (Q (-2) M_1))) (Q (-1) M_1)))
theorem hd_X1_spare : yX1_spare.cls = "PressedMenModel" ∧ yX1_spare.cls ≠ "java/lang/invoke/MethodHandle" ∧ yX1_spare.cls ≠ "java/lang/invoke/VarHandle" ∧ (parseMethodDescriptor yX1_spare.desc).map (fun d => d.parameters.length) = some 2 := by decide +kernel
set_option maxHeartbeats 4000000 in
theorem mt_X1_spare (l : Launch) {D : va_G} {d : Nat → ClassId} {base : Nat} {mo : Nat} {Aa : Nat → Nat} {M : xM} {S : xH} {x1 : Int32} {x2 : Int32} {Q : Int32 → xM → Prop} (hw : w_X1_spare M x1 x2 Q) : Met l yX1_spare (ws_ yX1_spare cX1_spare 3 (some FieldType.int)) (x_rm 3 0 0 67) (x_Pc D d base (x_mc d mo Aa M) S [.ref mo, .int x1, .int x2]) (xm_Qi D d base mo Aa S (fun r M' => Q r M')) 0 0 (x_A base) := by
  refine x_met (by decide) (Nat.le_of_ble_eq_true rfl) ?_
  intro p e s m below meth c hx hb hml hr hlocks hown hts hz hR hK hin ls hl
  have hown : s.vm.findClass "PressedMenModel" = some m.cls := hown
  have hl : lv_has ls 3 [(0, .ref mo), (1, .int x1), (2, .int x2)] := hl
  have hS : va_S (x_A base) s.heap s.heap [] := va_S.rf
  unfold w_X1_spare at hw
  refine lv_aload_n hx hb dX1_spare_0 rfl (lv_at hl 0 rfl) ?_
  refine lv_iconst (v := 0) hx hb dX1_spare_1 (by decide) ?_
  refine xm_putI (M := M) (k := 0) hx hb hts in_X1 hown hK hR hS (by decide) (hts _ q966) rfl rfl rfl rfl dX1_spare_2 (fun H locs hR hS => ?_)
  obtain ⟨M_1, eM_1⟩ : ∃ z, z = (m1 M 0 0) := ⟨_, rfl⟩
  rw [← eM_1] at hR
  have hw := hw M_1 eM_1
  refine lv_aload_n hx hb dX1_spare_5 rfl (lv_at hl 0 rfl) ?_
  refine lv_iload_n hx hb dX1_spare_6 rfl (lv_at hl 1 rfl) ?_
  refine xm_ci (va_runV (As := [.int x1]) (rest := []) ⟨hx, hb, hml, hown, hts⟩ (mt_X1_noShip l hw) (cwV 1 hts (lw_V q1343 q1345 qs56 q65 q1346) rfl rfl rfl hd_X1_noShip ⟨Nat.le_of_ble_eq_true rfl, Nat.le_of_ble_eq_true rfl⟩) ⟨x_Pc_blind, xm_recv hR hK, x_Pc_pre hR hz hS hK⟩ rfl rfl hl.1 rfl (lv_room (Nat.le_of_ble_eq_true rfl)) dX1_spare_7 ⟨Nat.le_refl _, Nat.le_refl _⟩) hS (fun r_2 M_3 H locs hp hR hS => ?_)
  have hw := hp.2
  rw [hp.1] at hR
  refine lv_if_eq (tgt := 15) hx hb dX1_spare_10 (by decide) (fun c_4 => ?_) (fun c_4 => ?_)
  · have hw := x_t hw c_4
    refine lv_iload_n hx hb dX1_spare_15 rfl (lv_at hl 2 rfl) ?_
    refine xm_ci (va_runS (As := [.int x2]) (rest := []) ⟨hx, hb, hml, hown, hts⟩ (mt_X1_badWeather l hw) (va_cwS 1 hts (lw_S q1355 q1356 q65 q1357) rfl rfl rfl hd_X1_badWeather.2 ⟨Nat.le_of_ble_eq_true rfl, Nat.le_of_ble_eq_true rfl⟩) ⟨x_Pc_blind, x_Pc_pre hR hz hS hK⟩ rfl rfl hl.1 rfl (lv_room (Nat.le_of_ble_eq_true rfl)) dX1_spare_16 ⟨Nat.le_refl _, Nat.le_refl _⟩) hS (fun r_5 M_6 H locs hp hR hS => ?_)
    have hw := hp.2
    rw [hp.1] at hR
    refine lv_if_eq (tgt := 25) hx hb dX1_spare_19 (by decide) (fun c_7 => ?_) (fun c_7 => ?_)
    · have hw := x_t hw c_7
      refine lv_aload_n hx hb dX1_spare_25 rfl (lv_at hl 0 rfl) ?_
      refine xm_getA (k := 10) hx hb hts in_X1 hown hK hR (by decide) (hts _ q976) rfl dX1_spare_26 ?_
      refine lv_iload_n hx hb dX1_spare_29 rfl (lv_at hl 1 rfl) ?_
      refine xm_ild (M := M_1) (k := 10) (j := 5) hx hb hK hR dX1_spare_30 rfl hw.1 ?_
      have hw := hw.2
      refine lv_if_ne (tgt := 39) hx hb dX1_spare_31 (by decide) (fun c_8 => ?_) (fun c_8 => ?_)
      · have hw := x_f hw c_8
        refine lv_aload_n hx hb dX1_spare_39 rfl (lv_at hl 0 rfl) ?_
        refine lv_iload_n hx hb dX1_spare_40 rfl (lv_at hl 1 rfl) ?_
        refine lv_iload_n hx hb dX1_spare_41 rfl (lv_at hl 2 rfl) ?_
        refine xm_ci (va_runV (As := [.int x1, .int x2]) (rest := []) ⟨hx, hb, hml, hown, hts⟩ (mt_X1_spared l hw) (cwV 2 hts (lw_V q1358 q1360 qs58 q65 q1361) rfl rfl rfl hd_X1_spared ⟨Nat.le_of_ble_eq_true rfl, Nat.le_of_ble_eq_true rfl⟩) ⟨x_Pc_blind, xm_recv hR hK, x_Pc_pre hR hz hS hK⟩ rfl rfl hl.1 rfl (lv_room (Nat.le_of_ble_eq_true rfl)) dX1_spare_42 ⟨Nat.le_refl _, Nat.le_refl _⟩) hS (fun r_9 M_10 H locs hp hR hS => ?_)
        have hw := hp.2
        rw [hp.1] at hR
        exact xm_ri hx hb hr hlocks hR hS dX1_spare_45 hw
      · have hw := x_t hw c_8
        refine lv_bipush (v := (-3)) hx hb dX1_spare_34 (by decide) ?_
        refine lv_goto (tgt := 45) hx hb dX1_spare_36 (by decide) ?_
        exact xm_ri hx hb hr hlocks hR hS dX1_spare_45 hw
    · have hw := x_f hw c_7
      refine lv_bipush (v := (-2)) hx hb dX1_spare_22 (by decide) ?_
      exact xm_ri hx hb hr hlocks hR hS dX1_spare_24 hw
  · have hw := x_f hw c_4
    refine lv_iconst (v := (-1)) hx hb dX1_spare_13 (by decide) ?_
    exact xm_ri hx hb hr hlocks hR hS dX1_spare_14 hw
def w_X1_board (M : xM) (x1 : Int32) (x2 : Int32) (Q : Int32 → xM → Prop) : Prop := nm (m1 M 0 0) (fun M_1 : xM => w_X1_noMan M_1 x1 (fun (r_2 : Int32) => wif (r_2 = 0) (w_X1_noShip M_1 x2 (fun (r_5 : Int32) => wif (r_5 = 0) (w_X1_placeOf M_1 x1 (fun (r_8 : Int32) => w_X1_isStreet M_1 r_8 (fun (r_10 : Int32) => wif (r_10 = 0) (Q (-3) M_1) (vp_in x2 10 ∧ wif ((M2 M_1 14 (Int32.toNatClampNeg x2)) = 0) (w_X1_many M_1 (10 + x2) (fun (r_14 : Int32) => vp_in x2 10 ∧ wif (r_14 < (2 * (M2 M_1 11 (Int32.toNatClampNeg x2)))) (w_X1_go M_1 x1 (10 + x2) (fun (M_17 : xM) => w_X1_many M_17 (10 + x2) (fun (r_18 : Int32) => Q r_18 M_17))) (Q (-4) M_1))) (Q (-3) M_1))))) (Q (-1) M_1))) (Q (-1) M_1)))
theorem hd_X1_board : yX1_board.cls = "PressedMenModel" ∧ yX1_board.cls ≠ "java/lang/invoke/MethodHandle" ∧ yX1_board.cls ≠ "java/lang/invoke/VarHandle" ∧ (parseMethodDescriptor yX1_board.desc).map (fun d => d.parameters.length) = some 2 := by decide +kernel
set_option maxHeartbeats 4000000 in
theorem mt_X1_board (l : Launch) {D : va_G} {d : Nat → ClassId} {base : Nat} {mo : Nat} {Aa : Nat → Nat} {M : xM} {S : xH} {x1 : Int32} {x2 : Int32} {Q : Int32 → xM → Prop} (hw : w_X1_board M x1 x2 Q) : Met l yX1_board (ws_ yX1_board cX1_board 3 (some FieldType.int)) (x_rm 2 0 0 46) (x_Pc D d base (x_mc d mo Aa M) S [.ref mo, .int x1, .int x2]) (xm_Qi D d base mo Aa S (fun r M' => Q r M')) 0 0 (x_A base) := by
  refine x_met (by decide) (Nat.le_of_ble_eq_true rfl) ?_
  intro p e s m below meth c hx hb hml hr hlocks hown hts hz hR hK hin ls hl
  have hown : s.vm.findClass "PressedMenModel" = some m.cls := hown
  have hl : lv_has ls 3 [(0, .ref mo), (1, .int x1), (2, .int x2)] := hl
  have hS : va_S (x_A base) s.heap s.heap [] := va_S.rf
  unfold w_X1_board at hw
  refine lv_aload_n hx hb dX1_board_0 rfl (lv_at hl 0 rfl) ?_
  refine lv_iconst (v := 0) hx hb dX1_board_1 (by decide) ?_
  refine xm_putI (M := M) (k := 0) hx hb hts in_X1 hown hK hR hS (by decide) (hts _ q966) rfl rfl rfl rfl dX1_board_2 (fun H locs hR hS => ?_)
  obtain ⟨M_1, eM_1⟩ : ∃ z, z = (m1 M 0 0) := ⟨_, rfl⟩
  rw [← eM_1] at hR
  have hw := hw M_1 eM_1
  refine lv_aload_n hx hb dX1_board_5 rfl (lv_at hl 0 rfl) ?_
  refine lv_iload_n hx hb dX1_board_6 rfl (lv_at hl 1 rfl) ?_
  refine xm_ci (va_runV (As := [.int x1]) (rest := []) ⟨hx, hb, hml, hown, hts⟩ (mt_X1_noMan l hw) (cwV 1 hts (lw_V q1123 q1125 qs38 q65 q1126) rfl rfl rfl hd_X1_noMan ⟨Nat.le_of_ble_eq_true rfl, Nat.le_of_ble_eq_true rfl⟩) ⟨x_Pc_blind, xm_recv hR hK, x_Pc_pre hR hz hS hK⟩ rfl rfl hl.1 rfl (lv_room (Nat.le_of_ble_eq_true rfl)) dX1_board_7 ⟨Nat.le_refl _, Nat.le_refl _⟩) hS (fun r_2 M_3 H locs hp hR hS => ?_)
  have hw := hp.2
  rw [hp.1] at hR
  refine lv_if_ne (tgt := 21) hx hb dX1_board_10 (by decide) (fun c_4 => ?_) (fun c_4 => ?_)
  · have hw := x_f hw c_4
    refine lv_iconst (v := (-1)) hx hb dX1_board_21 (by decide) ?_
    exact xm_ri hx hb hr hlocks hR hS dX1_board_22 hw
  · have hw := x_t hw c_4
    refine lv_aload_n hx hb dX1_board_13 rfl (lv_at hl 0 rfl) ?_
    refine lv_iload_n hx hb dX1_board_14 rfl (lv_at hl 2 rfl) ?_
    refine xm_ci (va_runV (As := [.int x2]) (rest := []) ⟨hx, hb, hml, hown, hts⟩ (mt_X1_noShip l hw) (cwV 1 hts (lw_V q1343 q1345 qs56 q65 q1346) rfl rfl rfl hd_X1_noShip ⟨Nat.le_of_ble_eq_true rfl, Nat.le_of_ble_eq_true rfl⟩) ⟨x_Pc_blind, xm_recv hR hK, x_Pc_pre hR hz hS hK⟩ rfl rfl hl.1 rfl (lv_room (Nat.le_of_ble_eq_true rfl)) dX1_board_15 ⟨Nat.le_refl _, Nat.le_refl _⟩) hS (fun r_5 M_6 H locs hp hR hS => ?_)
    have hw := hp.2
    rw [hp.1] at hR
    refine lv_if_eq (tgt := 23) hx hb dX1_board_18 (by decide) (fun c_7 => ?_) (fun c_7 => ?_)
    · have hw := x_t hw c_7
      refine lv_aload_n hx hb dX1_board_23 rfl (lv_at hl 0 rfl) ?_
      refine lv_iload_n hx hb dX1_board_24 rfl (lv_at hl 1 rfl) ?_
      refine xm_ci (va_runV (As := [.int x1]) (rest := []) ⟨hx, hb, hml, hown, hts⟩ (mt_X1_placeOf l hw) (cwV 1 hts (lw_V q1146 q1148 qs40 q65 q1149) rfl rfl rfl hd_X1_placeOf ⟨Nat.le_of_ble_eq_true rfl, Nat.le_of_ble_eq_true rfl⟩) ⟨x_Pc_blind, xm_recv hR hK, x_Pc_pre hR hz hS hK⟩ rfl rfl hl.1 rfl (lv_room (Nat.le_of_ble_eq_true rfl)) dX1_board_25 ⟨Nat.le_refl _, Nat.le_refl _⟩) hS (fun r_8 M_9 H locs hp hR hS => ?_)
      have hw := hp.2
      rw [hp.1] at hR
      refine xm_ci (va_runS (As := [.int r_8]) (rest := []) ⟨hx, hb, hml, hown, hts⟩ (mt_X1_isStreet l hw) (va_cwS 1 hts (lw_S q1162 q1163 q65 q1164) rfl rfl rfl hd_X1_isStreet.2 ⟨Nat.le_of_ble_eq_true rfl, Nat.le_of_ble_eq_true rfl⟩) ⟨x_Pc_blind, x_Pc_pre hR hz hS hK⟩ rfl rfl hl.1 rfl (lv_room (Nat.le_of_ble_eq_true rfl)) dX1_board_28 ⟨Nat.le_refl _, Nat.le_refl _⟩) hS (fun r_10 M_11 H locs hp hR hS => ?_)
      have hw := hp.2
      rw [hp.1] at hR
      refine lv_if_eq (tgt := 43) hx hb dX1_board_31 (by decide) (fun c_12 => ?_) (fun c_12 => ?_)
      · have hw := x_t hw c_12
        refine lv_bipush (v := (-3)) hx hb dX1_board_43 (by decide) ?_
        exact xm_ri hx hb hr hlocks hR hS dX1_board_45 hw
      · have hw := x_f hw c_12
        refine lv_aload_n hx hb dX1_board_34 rfl (lv_at hl 0 rfl) ?_
        refine xm_getA (k := 14) hx hb hts in_X1 hown hK hR (by decide) (hts _ q980) rfl dX1_board_35 ?_
        refine lv_iload_n hx hb dX1_board_38 rfl (lv_at hl 2 rfl) ?_
        refine xm_zld (M := M_1) (k := 14) (j := 9) hx hb hK hR dX1_board_39 rfl hw.1 ?_
        have hw := hw.2
        refine lv_if_eq (tgt := 46) hx hb dX1_board_40 (by decide) (fun c_13 => ?_) (fun c_13 => ?_)
        · have hw := x_t hw c_13
          refine lv_aload_n hx hb dX1_board_46 rfl (lv_at hl 0 rfl) ?_
          refine lv_bipush (v := 10) hx hb dX1_board_47 (by decide) ?_
          refine lv_iload_n hx hb dX1_board_49 rfl (lv_at hl 2 rfl) ?_
          refine lv_iadd hx hb dX1_board_50 ?_
          refine xm_ci (va_runV (As := [.int (10 + x2)]) (rest := []) ⟨hx, hb, hml, hown, hts⟩ (mt_X1_many l hw) (cwV 1 hts (lw_V q1142 q1144 qs39 q65 q1145) rfl rfl rfl hd_X1_many ⟨Nat.le_of_ble_eq_true rfl, Nat.le_of_ble_eq_true rfl⟩) ⟨x_Pc_blind, xm_recv hR hK, x_Pc_pre hR hz hS hK⟩ rfl rfl hl.1 rfl (lv_room (Nat.le_of_ble_eq_true rfl)) dX1_board_51 ⟨Nat.le_refl _, Nat.le_refl _⟩) hS (fun r_14 M_15 H locs hp hR hS => ?_)
          have hw := hp.2
          rw [hp.1] at hR
          refine lv_iconst (v := 2) hx hb dX1_board_54 (by decide) ?_
          refine lv_aload_n hx hb dX1_board_55 rfl (lv_at hl 0 rfl) ?_
          refine xm_getA (k := 11) hx hb hts in_X1 hown hK hR (by decide) (hts _ q977) rfl dX1_board_56 ?_
          refine lv_iload_n hx hb dX1_board_59 rfl (lv_at hl 2 rfl) ?_
          refine xm_ild (M := M_1) (k := 11) (j := 6) hx hb hK hR dX1_board_60 rfl hw.1 ?_
          have hw := hw.2
          refine lv_imul hx hb dX1_board_61 ?_
          refine lv_icmp_lt (tgt := 68) hx hb dX1_board_62 (by decide) (fun c_16 => ?_) (fun c_16 => ?_)
          · have hw := x_t hw c_16
            refine lv_aload_n hx hb dX1_board_68 rfl (lv_at hl 0 rfl) ?_
            refine lv_iload_n hx hb dX1_board_69 rfl (lv_at hl 1 rfl) ?_
            refine lv_bipush (v := 10) hx hb dX1_board_70 (by decide) ?_
            refine lv_iload_n hx hb dX1_board_72 rfl (lv_at hl 2 rfl) ?_
            refine lv_iadd hx hb dX1_board_73 ?_
            refine xm_cv (va_runV (As := [.int x1, .int (10 + x2)]) (rest := []) ⟨hx, hb, hml, hown, hts⟩ (mt_X1_go l hw) (cwV 2 hts (lw_V q1169 q1171 qs43 q65 q1172) rfl rfl rfl hd_X1_go ⟨Nat.le_of_ble_eq_true rfl, Nat.le_of_ble_eq_true rfl⟩) ⟨x_Pc_blind, xm_recv hR hK, x_Pc_pre hR hz hS hK⟩ rfl rfl hl.1 rfl (lv_room (Nat.le_of_ble_eq_true rfl)) dX1_board_74 ⟨Nat.le_refl _, Nat.le_refl _⟩) hS (fun M_17 H locs hp hR hS => ?_)
            have hw := hp
            refine lv_aload_n hx hb dX1_board_77 rfl (lv_at hl 0 rfl) ?_
            refine lv_bipush (v := 10) hx hb dX1_board_78 (by decide) ?_
            refine lv_iload_n hx hb dX1_board_80 rfl (lv_at hl 2 rfl) ?_
            refine lv_iadd hx hb dX1_board_81 ?_
            refine xm_ci (va_runV (As := [.int (10 + x2)]) (rest := []) ⟨hx, hb, hml, hown, hts⟩ (mt_X1_many l hw) (cwV 1 hts (lw_V q1142 q1144 qs39 q65 q1145) rfl rfl rfl hd_X1_many ⟨Nat.le_of_ble_eq_true rfl, Nat.le_of_ble_eq_true rfl⟩) ⟨x_Pc_blind, xm_recv hR hK, x_Pc_pre hR hz hS hK⟩ rfl rfl hl.1 rfl (lv_room (Nat.le_of_ble_eq_true rfl)) dX1_board_82 ⟨Nat.le_refl _, Nat.le_refl _⟩) hS (fun r_18 M_19 H locs hp hR hS => ?_)
            have hw := hp.2
            rw [hp.1] at hR
            exact xm_ri hx hb hr hlocks hR hS dX1_board_85 hw
          · have hw := x_f hw c_16
            refine lv_bipush (v := (-4)) hx hb dX1_board_65 (by decide) ?_
            exact xm_ri hx hb hr hlocks hR hS dX1_board_67 hw
        · have hw := x_f hw c_13
          refine lv_bipush (v := (-3)) hx hb dX1_board_43 (by decide) ?_
          exact xm_ri hx hb hr hlocks hR hS dX1_board_45 hw
    · have hw := x_f hw c_7
      refine lv_iconst (v := (-1)) hx hb dX1_board_21 (by decide) ?_
      exact xm_ri hx hb hr hlocks hR hS dX1_board_22 hw
def w_X1_turn (M : xM) (x1 : Int32) (x2 : Int32) (Q : Int32 → xM → Prop) : Prop := nm (m1 M 0 0) (fun M_1 : xM => w_X1_noMan M_1 x1 (fun (r_2 : Int32) => wif (r_2 = 0) (w_X1_noShip M_1 x2 (fun (r_5 : Int32) => wif (r_5 = 0) (w_X1_placeOf M_1 x1 (fun (r_8 : Int32) => jn0 (wif (r_8 = (10 + x2)) (Q (-3) M_1) (vp_in x2 10 ∧ wif ((M2 M_1 14 (Int32.toNatClampNeg x2)) = 0) (w_X1_many M_1 (10 + x2) (fun (r_13 : Int32) => vp_in x2 10 ∧ wif (r_13 < (2 * (M2 M_1 11 (Int32.toNatClampNeg x2)))) (w_X1_go M_1 x1 (10 + x2) (fun (M_16 : xM) => Q r_8 M_16)) (Q (-4) M_1))) (Q (-3) M_1))) (fun J_10 => wif (r_8 = 20) (J_10) (w_X1_isHere M_1 r_8 (fun (r_18 : Int32) => wif (r_18 = 0) (Q (-3) M_1) (J_10)))))) (Q (-1) M_1))) (Q (-1) M_1)))
theorem hd_X1_turn : yX1_turn.cls = "PressedMenModel" ∧ yX1_turn.cls ≠ "java/lang/invoke/MethodHandle" ∧ yX1_turn.cls ≠ "java/lang/invoke/VarHandle" ∧ (parseMethodDescriptor yX1_turn.desc).map (fun d => d.parameters.length) = some 2 := by decide +kernel
set_option maxHeartbeats 4000000 in
theorem mt_X1_turn (l : Launch) {D : va_G} {d : Nat → ClassId} {base : Nat} {mo : Nat} {Aa : Nat → Nat} {M : xM} {S : xH} {x1 : Int32} {x2 : Int32} {Q : Int32 → xM → Prop} (hw : w_X1_turn M x1 x2 Q) : Met l yX1_turn (ws_ yX1_turn cX1_turn 4 (some FieldType.int)) (x_rm 3 0 0 66) (x_Pc D d base (x_mc d mo Aa M) S [.ref mo, .int x1, .int x2]) (xm_Qi D d base mo Aa S (fun r M' => Q r M')) 0 0 (x_A base) := by
  refine x_met (by decide) (Nat.le_of_ble_eq_true rfl) ?_
  intro p e s m below meth c hx hb hml hr hlocks hown hts hz hR hK hin ls hl
  have hown : s.vm.findClass "PressedMenModel" = some m.cls := hown
  have hl : lv_has ls 4 [(0, .ref mo), (1, .int x1), (2, .int x2)] := hl
  have hS : va_S (x_A base) s.heap s.heap [] := va_S.rf
  unfold w_X1_turn at hw
  refine lv_aload_n hx hb dX1_turn_0 rfl (lv_at hl 0 rfl) ?_
  refine lv_iconst (v := 0) hx hb dX1_turn_1 (by decide) ?_
  refine xm_putI (M := M) (k := 0) hx hb hts in_X1 hown hK hR hS (by decide) (hts _ q966) rfl rfl rfl rfl dX1_turn_2 (fun H locs hR hS => ?_)
  obtain ⟨M_1, eM_1⟩ : ∃ z, z = (m1 M 0 0) := ⟨_, rfl⟩
  rw [← eM_1] at hR
  have hw := hw M_1 eM_1
  refine lv_aload_n hx hb dX1_turn_5 rfl (lv_at hl 0 rfl) ?_
  refine lv_iload_n hx hb dX1_turn_6 rfl (lv_at hl 1 rfl) ?_
  refine xm_ci (va_runV (As := [.int x1]) (rest := []) ⟨hx, hb, hml, hown, hts⟩ (mt_X1_noMan l hw) (cwV 1 hts (lw_V q1123 q1125 qs38 q65 q1126) rfl rfl rfl hd_X1_noMan ⟨Nat.le_of_ble_eq_true rfl, Nat.le_of_ble_eq_true rfl⟩) ⟨x_Pc_blind, xm_recv hR hK, x_Pc_pre hR hz hS hK⟩ rfl rfl hl.1 rfl (lv_room (Nat.le_of_ble_eq_true rfl)) dX1_turn_7 ⟨Nat.le_refl _, Nat.le_refl _⟩) hS (fun r_2 M_3 H locs hp hR hS => ?_)
  have hw := hp.2
  rw [hp.1] at hR
  refine lv_if_ne (tgt := 21) hx hb dX1_turn_10 (by decide) (fun c_4 => ?_) (fun c_4 => ?_)
  · have hw := x_f hw c_4
    refine lv_iconst (v := (-1)) hx hb dX1_turn_21 (by decide) ?_
    exact xm_ri hx hb hr hlocks hR hS dX1_turn_22 hw
  · have hw := x_t hw c_4
    refine lv_aload_n hx hb dX1_turn_13 rfl (lv_at hl 0 rfl) ?_
    refine lv_iload_n hx hb dX1_turn_14 rfl (lv_at hl 2 rfl) ?_
    refine xm_ci (va_runV (As := [.int x2]) (rest := []) ⟨hx, hb, hml, hown, hts⟩ (mt_X1_noShip l hw) (cwV 1 hts (lw_V q1343 q1345 qs56 q65 q1346) rfl rfl rfl hd_X1_noShip ⟨Nat.le_of_ble_eq_true rfl, Nat.le_of_ble_eq_true rfl⟩) ⟨x_Pc_blind, xm_recv hR hK, x_Pc_pre hR hz hS hK⟩ rfl rfl hl.1 rfl (lv_room (Nat.le_of_ble_eq_true rfl)) dX1_turn_15 ⟨Nat.le_refl _, Nat.le_refl _⟩) hS (fun r_5 M_6 H locs hp hR hS => ?_)
    have hw := hp.2
    rw [hp.1] at hR
    refine lv_if_eq (tgt := 23) hx hb dX1_turn_18 (by decide) (fun c_7 => ?_) (fun c_7 => ?_)
    · have hw := x_t hw c_7
      refine lv_aload_n hx hb dX1_turn_23 rfl (lv_at hl 0 rfl) ?_
      refine lv_iload_n hx hb dX1_turn_24 rfl (lv_at hl 1 rfl) ?_
      refine xm_ci (va_runV (As := [.int x1]) (rest := []) ⟨hx, hb, hml, hown, hts⟩ (mt_X1_placeOf l hw) (cwV 1 hts (lw_V q1146 q1148 qs40 q65 q1149) rfl rfl rfl hd_X1_placeOf ⟨Nat.le_of_ble_eq_true rfl, Nat.le_of_ble_eq_true rfl⟩) ⟨x_Pc_blind, xm_recv hR hK, x_Pc_pre hR hz hS hK⟩ rfl rfl hl.1 rfl (lv_room (Nat.le_of_ble_eq_true rfl)) dX1_turn_25 ⟨Nat.le_refl _, Nat.le_refl _⟩) hS (fun r_8 M_9 H locs hp hR hS => ?_)
      have hw := hp.2
      rw [hp.1] at hR
      refine lv_istore_n (lv' := [(3, .int r_8), (0, .ref mo), (1, .int x1), (2, .int x2)]) hx hb dX1_turn_28 rfl hl (by decide) rfl (fun ls hl => ?_)
      refine lv_iload_n hx hb dX1_turn_29 rfl (lv_at hl 0 rfl) ?_
      refine lv_bipush (v := 20) hx hb dX1_turn_30 (by decide) ?_
      refine x_jn0 (G := ∀ (ls : Array Slot) (H : Heap) (locs : List Loc), x_Rp D d (x_A base) (x_mc d mo Aa M_1) S H → va_S (x_A base) s.heap H locs → lv_has ls 4 [(0, .ref mo), (1, .int x1), (2, .int x2), (3, .int r_8)] → W p l e (x_rm 3 0 0 66) s m ([.ref mo, .int x1, .int x2] : List Value).toArray below meth c H locs 0 0 (MQ below (xm_Qi D d base mo Aa S (fun r M' => Q r M')) ([.ref mo, .int x1, .int x2] : List Value).toArray s 0 0 (x_A base)) (F0 m 43 ls [])) hw (fun hw => ?_) (fun hJ_10 hw => ?_)
      · intro ls H locs hR hS hl
        refine lv_iload_n hx hb dX1_turn_43 rfl (lv_at hl 3 rfl) ?_
        refine lv_bipush (v := 10) hx hb dX1_turn_44 (by decide) ?_
        refine lv_iload_n hx hb dX1_turn_46 rfl (lv_at hl 2 rfl) ?_
        refine lv_iadd hx hb dX1_turn_47 ?_
        refine lv_icmp_eq (tgt := 60) hx hb dX1_turn_48 (by decide) (fun c_11 => ?_) (fun c_11 => ?_)
        · have hw := x_t hw c_11
          refine lv_bipush (v := (-3)) hx hb dX1_turn_60 (by decide) ?_
          exact xm_ri hx hb hr hlocks hR hS dX1_turn_62 hw
        · have hw := x_f hw c_11
          refine lv_aload_n hx hb dX1_turn_51 rfl (lv_at hl 0 rfl) ?_
          refine xm_getA (k := 14) hx hb hts in_X1 hown hK hR (by decide) (hts _ q980) rfl dX1_turn_52 ?_
          refine lv_iload_n hx hb dX1_turn_55 rfl (lv_at hl 2 rfl) ?_
          refine xm_zld (M := M_1) (k := 14) (j := 9) hx hb hK hR dX1_turn_56 rfl hw.1 ?_
          have hw := hw.2
          refine lv_if_eq (tgt := 63) hx hb dX1_turn_57 (by decide) (fun c_12 => ?_) (fun c_12 => ?_)
          · have hw := x_t hw c_12
            refine lv_aload_n hx hb dX1_turn_63 rfl (lv_at hl 0 rfl) ?_
            refine lv_bipush (v := 10) hx hb dX1_turn_64 (by decide) ?_
            refine lv_iload_n hx hb dX1_turn_66 rfl (lv_at hl 2 rfl) ?_
            refine lv_iadd hx hb dX1_turn_67 ?_
            refine xm_ci (va_runV (As := [.int (10 + x2)]) (rest := []) ⟨hx, hb, hml, hown, hts⟩ (mt_X1_many l hw) (cwV 1 hts (lw_V q1142 q1144 qs39 q65 q1145) rfl rfl rfl hd_X1_many ⟨Nat.le_of_ble_eq_true rfl, Nat.le_of_ble_eq_true rfl⟩) ⟨x_Pc_blind, xm_recv hR hK, x_Pc_pre hR hz hS hK⟩ rfl rfl hl.1 rfl (lv_room (Nat.le_of_ble_eq_true rfl)) dX1_turn_68 ⟨Nat.le_refl _, Nat.le_refl _⟩) hS (fun r_13 M_14 H locs hp hR hS => ?_)
            have hw := hp.2
            rw [hp.1] at hR
            refine lv_iconst (v := 2) hx hb dX1_turn_71 (by decide) ?_
            refine lv_aload_n hx hb dX1_turn_72 rfl (lv_at hl 0 rfl) ?_
            refine xm_getA (k := 11) hx hb hts in_X1 hown hK hR (by decide) (hts _ q977) rfl dX1_turn_73 ?_
            refine lv_iload_n hx hb dX1_turn_76 rfl (lv_at hl 2 rfl) ?_
            refine xm_ild (M := M_1) (k := 11) (j := 6) hx hb hK hR dX1_turn_77 rfl hw.1 ?_
            have hw := hw.2
            refine lv_imul hx hb dX1_turn_78 ?_
            refine lv_icmp_lt (tgt := 85) hx hb dX1_turn_79 (by decide) (fun c_15 => ?_) (fun c_15 => ?_)
            · have hw := x_t hw c_15
              refine lv_aload_n hx hb dX1_turn_85 rfl (lv_at hl 0 rfl) ?_
              refine lv_iload_n hx hb dX1_turn_86 rfl (lv_at hl 1 rfl) ?_
              refine lv_bipush (v := 10) hx hb dX1_turn_87 (by decide) ?_
              refine lv_iload_n hx hb dX1_turn_89 rfl (lv_at hl 2 rfl) ?_
              refine lv_iadd hx hb dX1_turn_90 ?_
              refine xm_cv (va_runV (As := [.int x1, .int (10 + x2)]) (rest := []) ⟨hx, hb, hml, hown, hts⟩ (mt_X1_go l hw) (cwV 2 hts (lw_V q1169 q1171 qs43 q65 q1172) rfl rfl rfl hd_X1_go ⟨Nat.le_of_ble_eq_true rfl, Nat.le_of_ble_eq_true rfl⟩) ⟨x_Pc_blind, xm_recv hR hK, x_Pc_pre hR hz hS hK⟩ rfl rfl hl.1 rfl (lv_room (Nat.le_of_ble_eq_true rfl)) dX1_turn_91 ⟨Nat.le_refl _, Nat.le_refl _⟩) hS (fun M_16 H locs hp hR hS => ?_)
              have hw := hp
              refine lv_iload_n hx hb dX1_turn_94 rfl (lv_at hl 3 rfl) ?_
              exact xm_ri hx hb hr hlocks hR hS dX1_turn_95 hw
            · have hw := x_f hw c_15
              refine lv_bipush (v := (-4)) hx hb dX1_turn_82 (by decide) ?_
              exact xm_ri hx hb hr hlocks hR hS dX1_turn_84 hw
          · have hw := x_f hw c_12
            refine lv_bipush (v := (-3)) hx hb dX1_turn_60 (by decide) ?_
            exact xm_ri hx hb hr hlocks hR hS dX1_turn_62 hw
      · refine lv_icmp_eq (tgt := 43) hx hb dX1_turn_32 (by decide) (fun c_17 => ?_) (fun c_17 => ?_)
        · have hw := x_t hw c_17
          exact hJ_10  hw ls _ _ hR hS (lv_sub hl [1, 2, 3, 0] rfl)
        · have hw := x_f hw c_17
          refine lv_aload_n hx hb dX1_turn_35 rfl (lv_at hl 1 rfl) ?_
          refine lv_iload_n hx hb dX1_turn_36 rfl (lv_at hl 0 rfl) ?_
          refine xm_ci (va_runV (As := [.int r_8]) (rest := []) ⟨hx, hb, hml, hown, hts⟩ (mt_X1_isHere l hw) (cwV 1 hts (lw_V q1278 q1280 qs52 q65 q1281) rfl rfl rfl hd_X1_isHere ⟨Nat.le_of_ble_eq_true rfl, Nat.le_of_ble_eq_true rfl⟩) ⟨x_Pc_blind, xm_recv hR hK, x_Pc_pre hR hz hS hK⟩ rfl rfl hl.1 rfl (lv_room (Nat.le_of_ble_eq_true rfl)) dX1_turn_37 ⟨Nat.le_refl _, Nat.le_refl _⟩) hS (fun r_18 M_19 H locs hp hR hS => ?_)
          have hw := hp.2
          rw [hp.1] at hR
          refine lv_if_eq (tgt := 60) hx hb dX1_turn_40 (by decide) (fun c_20 => ?_) (fun c_20 => ?_)
          · have hw := x_t hw c_20
            refine lv_bipush (v := (-3)) hx hb dX1_turn_60 (by decide) ?_
            exact xm_ri hx hb hr hlocks hR hS dX1_turn_62 hw
          · have hw := x_f hw c_20
            exact hJ_10  hw ls _ _ hR hS (lv_sub hl [1, 2, 3, 0] rfl)
    · have hw := x_f hw c_7
      refine lv_iconst (v := (-1)) hx hb dX1_turn_21 (by decide) ?_
      exact xm_ri hx hb hr hlocks hR hS dX1_turn_22 hw
def w_X1_notAshore (M : xM) (x1 : Int32) (x2 : Int32) (Q : Int32 → xM → Prop) : Prop := nm (m1 M 0 0) (fun M_1 : xM => w_X1_noMan M_1 x1 (fun (r_2 : Int32) => wif (r_2 = 0) (w_X1_in M_1 (Int32.toInt64 x2) 0 (Int32.toInt64 (M1 M_1 4)) (fun (r_5 : Int32) => wif (r_5 = 0) (Q (-2) M_1) (lf1 (fun L_9 (x3_8 : Int32) => jn0 (Q (x2 - x3_8) M_1) (fun J_10 => wif (x3_8 < 0) (J_10) (vp_in ((40 * x3_8) + x1) 36000 ∧ w_X1_isStreet M_1 (M2 M_1 8 (Int32.toNatClampNeg ((40 * x3_8) + x1))) (fun (r_12 : Int32) => wif (r_12 = 0) (vp_in ((40 * x3_8) + x1) 36000 ∧ wif ((M2 M_1 8 (Int32.toNatClampNeg ((40 * x3_8) + x1))) = 22) (J_10) (L_9 (x3_8 + (-1)))) (J_10))))) x2))) (Q (-1) M_1)))
theorem hd_X1_notAshore : yX1_notAshore.cls = "PressedMenModel" ∧ yX1_notAshore.cls ≠ "java/lang/invoke/MethodHandle" ∧ yX1_notAshore.cls ≠ "java/lang/invoke/VarHandle" ∧ (parseMethodDescriptor yX1_notAshore.desc).map (fun d => d.parameters.length) = some 2 := by decide +kernel
set_option maxHeartbeats 4000000 in
theorem mt_X1_notAshore (l : Launch) {D : va_G} {d : Nat → ClassId} {base : Nat} {mo : Nat} {Aa : Nat → Nat} {M : xM} {S : xH} {x1 : Int32} {x2 : Int32} {Q : Int32 → xM → Prop} (hw : w_X1_notAshore M x1 x2 Q) : Met l yX1_notAshore (ws_ yX1_notAshore cX1_notAshore 4 (some FieldType.int)) (x_rm 2 0 0 46) (x_Pc D d base (x_mc d mo Aa M) S [.ref mo, .int x1, .int x2]) (xm_Qi D d base mo Aa S (fun r M' => Q r M')) 0 0 (x_A base) := by
  refine x_met (by decide) (Nat.le_of_ble_eq_true rfl) ?_
  intro p e s m below meth c hx hb hml hr hlocks hown hts hz hR hK hin ls hl
  have hown : s.vm.findClass "PressedMenModel" = some m.cls := hown
  have hl : lv_has ls 4 [(0, .ref mo), (1, .int x1), (2, .int x2)] := hl
  have hS : va_S (x_A base) s.heap s.heap [] := va_S.rf
  unfold w_X1_notAshore at hw
  refine lv_aload_n hx hb dX1_notAshore_0 rfl (lv_at hl 0 rfl) ?_
  refine lv_iconst (v := 0) hx hb dX1_notAshore_1 (by decide) ?_
  refine xm_putI (M := M) (k := 0) hx hb hts in_X1 hown hK hR hS (by decide) (hts _ q966) rfl rfl rfl rfl dX1_notAshore_2 (fun H locs hR hS => ?_)
  obtain ⟨M_1, eM_1⟩ : ∃ z, z = (m1 M 0 0) := ⟨_, rfl⟩
  rw [← eM_1] at hR
  have hw := hw M_1 eM_1
  refine lv_aload_n hx hb dX1_notAshore_5 rfl (lv_at hl 0 rfl) ?_
  refine lv_iload_n hx hb dX1_notAshore_6 rfl (lv_at hl 1 rfl) ?_
  refine xm_ci (va_runV (As := [.int x1]) (rest := []) ⟨hx, hb, hml, hown, hts⟩ (mt_X1_noMan l hw) (cwV 1 hts (lw_V q1123 q1125 qs38 q65 q1126) rfl rfl rfl hd_X1_noMan ⟨Nat.le_of_ble_eq_true rfl, Nat.le_of_ble_eq_true rfl⟩) ⟨x_Pc_blind, xm_recv hR hK, x_Pc_pre hR hz hS hK⟩ rfl rfl hl.1 rfl (lv_room (Nat.le_of_ble_eq_true rfl)) dX1_notAshore_7 ⟨Nat.le_refl _, Nat.le_refl _⟩) hS (fun r_2 M_3 H locs hp hR hS => ?_)
  have hw := hp.2
  rw [hp.1] at hR
  refine lv_if_eq (tgt := 15) hx hb dX1_notAshore_10 (by decide) (fun c_4 => ?_) (fun c_4 => ?_)
  · have hw := x_t hw c_4
    refine lv_iload_n hx hb dX1_notAshore_15 rfl (lv_at hl 2 rfl) ?_
    refine lv_i2l (v := (Int32.toInt64 x2)) hx hb dX1_notAshore_16 rfl ?_
    refine lv_lconst (v := 0) hx hb dX1_notAshore_17 (by decide) ?_
    refine lv_aload_n hx hb dX1_notAshore_18 rfl (lv_at hl 0 rfl) ?_
    refine xm_getI (k := 4) hx hb hts in_X1 hown hK hR (by decide) (hts _ q970) rfl dX1_notAshore_19 ?_
    refine lv_i2l (v := (Int32.toInt64 (M1 M_1 4))) hx hb dX1_notAshore_22 rfl ?_
    refine xm_ci (va_runS (As := [.long (Int32.toInt64 x2), .long 0, .long (Int32.toInt64 (M1 M_1 4))]) (rest := []) ⟨hx, hb, hml, hown, hts⟩ (mt_X1_in l hw) (va_cwS 3 hts (lw_S q1089 q1090 q65 q1091) rfl rfl rfl hd_X1_in.2 ⟨Nat.le_of_ble_eq_true rfl, Nat.le_of_ble_eq_true rfl⟩) ⟨x_Pc_blind, x_Pc_pre hR hz hS hK⟩ rfl rfl hl.1 rfl (lv_room (Nat.le_of_ble_eq_true rfl)) dX1_notAshore_23 ⟨Nat.le_refl _, Nat.le_refl _⟩) hS (fun r_5 M_6 H locs hp hR hS => ?_)
    have hw := hp.2
    rw [hp.1] at hR
    refine lv_if_ne (tgt := 32) hx hb dX1_notAshore_26 (by decide) (fun c_7 => ?_) (fun c_7 => ?_)
    · have hw := x_f hw c_7
      refine lv_iload_n hx hb dX1_notAshore_32 rfl (lv_at hl 2 rfl) ?_
      refine lv_istore_n (lv' := [(3, .int x2), (0, .ref mo), (1, .int x1), (2, .int x2)]) hx hb dX1_notAshore_33 rfl hl (by decide) rfl (fun ls hl => ?_)
      refine x_lf1 (G := fun (x3_8 : Int32) => ∀ (ls : Array Slot) (H : Heap) (locs : List Loc), x_Rp D d (x_A base) (x_mc d mo Aa M_1) S H → va_S (x_A base) s.heap H locs → lv_has ls 4 [(0, .ref mo), (1, .int x1), (2, .int x2), (3, .int x3_8)] → W p l e (x_rm 2 0 0 46) s m ([.ref mo, .int x1, .int x2] : List Value).toArray below meth c H locs 0 0 (MQ below (xm_Qi D d base mo Aa S (fun r M' => Q r M')) ([.ref mo, .int x1, .int x2] : List Value).toArray s 0 0 (x_A base)) (F0 m 34 ls [])) hw (fun x3_8 hw => ?_) ls _ _ hR hS (lv_sub hl [1, 2, 3, 0] rfl)
      intro ls H locs hR hS hl
      refine lv_iload_n hx hb dX1_notAshore_34 rfl (lv_at hl 3 rfl) ?_
      refine x_jn0 (G := ∀ (ls : Array Slot) (H : Heap) (locs : List Loc), x_Rp D d (x_A base) (x_mc d mo Aa M_1) S H → va_S (x_A base) s.heap H locs → lv_has ls 4 [(2, .int x2), (3, .int x3_8)] → W p l e (x_rm 2 0 0 46) s m ([.ref mo, .int x1, .int x2] : List Value).toArray below meth c H locs 0 0 (MQ below (xm_Qi D d base mo Aa S (fun r M' => Q r M')) ([.ref mo, .int x1, .int x2] : List Value).toArray s 0 0 (x_A base)) (F0 m 77 ls [])) hw (fun hw => ?_) (fun hJ_10 hw => ?_)
      · intro ls H locs hR hS hl
        refine lv_iload_n hx hb dX1_notAshore_77 rfl (lv_at hl 0 rfl) ?_
        refine lv_iload_n hx hb dX1_notAshore_78 rfl (lv_at hl 1 rfl) ?_
        refine lv_isub hx hb dX1_notAshore_79 ?_
        exact xm_ri hx hb hr hlocks hR hS dX1_notAshore_80 hw
      · refine lv_if_lt (tgt := 77) hx hb dX1_notAshore_35 (by decide) (fun c_11 => ?_) (fun c_11 => ?_)
        · have hw := x_t hw c_11
          exact hJ_10  hw ls _ _ hR hS (lv_sub hl [2, 3] rfl)
        · have hw := x_f hw c_11
          refine lv_aload_n hx hb dX1_notAshore_38 rfl (lv_at hl 0 rfl) ?_
          refine xm_getA (k := 8) hx hb hts in_X1 hown hK hR (by decide) (hts _ q974) rfl dX1_notAshore_39 ?_
          refine lv_bipush (v := 40) hx hb dX1_notAshore_42 (by decide) ?_
          refine lv_iload_n hx hb dX1_notAshore_44 rfl (lv_at hl 3 rfl) ?_
          refine lv_imul hx hb dX1_notAshore_45 ?_
          refine lv_iload_n hx hb dX1_notAshore_46 rfl (lv_at hl 1 rfl) ?_
          refine lv_iadd hx hb dX1_notAshore_47 ?_
          refine xm_ild (M := M_1) (k := 8) (j := 4) hx hb hK hR dX1_notAshore_48 rfl hw.1 ?_
          have hw := hw.2
          refine xm_ci (va_runS (As := [.int (M2 M_1 8 (Int32.toNatClampNeg ((40 * x3_8) + x1)))]) (rest := []) ⟨hx, hb, hml, hown, hts⟩ (mt_X1_isStreet l hw) (va_cwS 1 hts (lw_S q1162 q1163 q65 q1164) rfl rfl rfl hd_X1_isStreet.2 ⟨Nat.le_of_ble_eq_true rfl, Nat.le_of_ble_eq_true rfl⟩) ⟨x_Pc_blind, x_Pc_pre hR hz hS hK⟩ rfl rfl hl.1 rfl (lv_room (Nat.le_of_ble_eq_true rfl)) dX1_notAshore_49 ⟨Nat.le_refl _, Nat.le_refl _⟩) hS (fun r_12 M_13 H locs hp hR hS => ?_)
          have hw := hp.2
          rw [hp.1] at hR
          refine lv_if_ne (tgt := 77) hx hb dX1_notAshore_52 (by decide) (fun c_14 => ?_) (fun c_14 => ?_)
          · have hw := x_f hw c_14
            exact hJ_10  hw ls _ _ hR hS (lv_sub hl [2, 3] rfl)
          · have hw := x_t hw c_14
            refine lv_aload_n hx hb dX1_notAshore_55 rfl (lv_at hl 0 rfl) ?_
            refine xm_getA (k := 8) hx hb hts in_X1 hown hK hR (by decide) (hts _ q974) rfl dX1_notAshore_56 ?_
            refine lv_bipush (v := 40) hx hb dX1_notAshore_59 (by decide) ?_
            refine lv_iload_n hx hb dX1_notAshore_61 rfl (lv_at hl 3 rfl) ?_
            refine lv_imul hx hb dX1_notAshore_62 ?_
            refine lv_iload_n hx hb dX1_notAshore_63 rfl (lv_at hl 1 rfl) ?_
            refine lv_iadd hx hb dX1_notAshore_64 ?_
            refine xm_ild (M := M_1) (k := 8) (j := 4) hx hb hK hR dX1_notAshore_65 rfl hw.1 ?_
            have hw := hw.2
            refine lv_bipush (v := 22) hx hb dX1_notAshore_66 (by decide) ?_
            refine lv_icmp_eq (tgt := 77) hx hb dX1_notAshore_68 (by decide) (fun c_15 => ?_) (fun c_15 => ?_)
            · have hw := x_t hw c_15
              exact hJ_10  hw ls _ _ hR hS (lv_sub hl [2, 3] rfl)
            · have hw := x_f hw c_15
              refine lv_iinc (v := (x3_8 + (-1))) (lv' := [(3, .int (x3_8 + (-1))), (0, .ref mo), (1, .int x1), (2, .int x2)]) hx hb dX1_notAshore_71 hl (k := 3) rfl rfl (by decide) rfl (fun ls hl => ?_)
              refine lv_goto (tgt := 34) hx hb dX1_notAshore_74 (by decide) ?_
              exact hw ls _ _ hR hS (lv_sub hl [1, 2, 3, 0] rfl)
    · have hw := x_t hw c_7
      refine lv_bipush (v := (-2)) hx hb dX1_notAshore_29 (by decide) ?_
      exact xm_ri hx hb hr hlocks hR hS dX1_notAshore_31 hw
  · have hw := x_f hw c_4
    refine lv_iconst (v := (-1)) hx hb dX1_notAshore_13 (by decide) ?_
    exact xm_ri hx hb hr hlocks hR hS dX1_notAshore_14 hw
def w_X1_mayGo (M : xM) (x1 : Int32) (Q : Int32 → Prop) : Prop := vp_in x1 10 ∧ wif ((M2 M 10 (Int32.toNatClampNeg x1)) = 0) (vp_in x1 10 ∧ wif ((M2 M 14 (Int32.toNatClampNeg x1)) = 0) (Q 1) (Q 0)) (Q 0)
theorem hd_X1_mayGo : yX1_mayGo.cls = "PressedMenModel" ∧ yX1_mayGo.cls ≠ "java/lang/invoke/MethodHandle" ∧ yX1_mayGo.cls ≠ "java/lang/invoke/VarHandle" ∧ (parseMethodDescriptor yX1_mayGo.desc).map (fun d => d.parameters.length) = some 1 := by decide +kernel
set_option maxHeartbeats 4000000 in
theorem mt_X1_mayGo (l : Launch) {D : va_G} {d : Nat → ClassId} {base : Nat} {mo : Nat} {Aa : Nat → Nat} {M : xM} {S : xH} {x1 : Int32} {Q : Int32 → Prop} (hw : w_X1_mayGo M x1 Q) : Met l yX1_mayGo (ws_ yX1_mayGo cX1_mayGo 2 (some FieldType.boolean)) (x_rm 0 0 0 0) (x_Pc D d base (x_mc d mo Aa M) S [.ref mo, .int x1]) (xm_Qi D d base mo Aa S (fun r M' => M' = M ∧ Q r)) 0 0 (x_A base) := by
  refine x_met (by decide) (Nat.le_of_ble_eq_true rfl) ?_
  intro p e s m below meth c hx hb hml hr hlocks hown hts hz hR hK hin ls hl
  have hown : s.vm.findClass "PressedMenModel" = some m.cls := hown
  have hl : lv_has ls 2 [(0, .ref mo), (1, .int x1)] := hl
  have hS : va_S (x_A base) s.heap s.heap [] := va_S.rf
  unfold w_X1_mayGo at hw
  refine lv_aload_n hx hb dX1_mayGo_0 rfl (lv_at hl 0 rfl) ?_
  refine xm_getA (k := 10) hx hb hts in_X1 hown hK hR (by decide) (hts _ q976) rfl dX1_mayGo_1 ?_
  refine lv_iload_n hx hb dX1_mayGo_4 rfl (lv_at hl 1 rfl) ?_
  refine xm_ild (M := M) (k := 10) (j := 5) hx hb hK hR dX1_mayGo_5 rfl hw.1 ?_
  have hw := hw.2
  refine lv_if_ne (tgt := 22) hx hb dX1_mayGo_6 (by decide) (fun c_1 => ?_) (fun c_1 => ?_)
  · have hw := x_f hw c_1
    refine lv_iconst (v := 0) hx hb dX1_mayGo_22 (by decide) ?_
    exact xm_rz hx hb hr hlocks hR hS dX1_mayGo_23 (Or.inl rfl) ⟨rfl, hw⟩
  · have hw := x_t hw c_1
    refine lv_aload_n hx hb dX1_mayGo_9 rfl (lv_at hl 0 rfl) ?_
    refine xm_getA (k := 14) hx hb hts in_X1 hown hK hR (by decide) (hts _ q980) rfl dX1_mayGo_10 ?_
    refine lv_iload_n hx hb dX1_mayGo_13 rfl (lv_at hl 1 rfl) ?_
    refine xm_zld (M := M) (k := 14) (j := 9) hx hb hK hR dX1_mayGo_14 rfl hw.1 ?_
    have hw := hw.2
    refine lv_if_ne (tgt := 22) hx hb dX1_mayGo_15 (by decide) (fun c_2 => ?_) (fun c_2 => ?_)
    · have hw := x_f hw c_2
      refine lv_iconst (v := 0) hx hb dX1_mayGo_22 (by decide) ?_
      exact xm_rz hx hb hr hlocks hR hS dX1_mayGo_23 (Or.inl rfl) ⟨rfl, hw⟩
    · have hw := x_t hw c_2
      refine lv_iconst (v := 1) hx hb dX1_mayGo_18 (by decide) ?_
      refine lv_goto (tgt := 23) hx hb dX1_mayGo_19 (by decide) ?_
      exact xm_rz hx hb hr hlocks hR hS dX1_mayGo_23 (Or.inr rfl) ⟨rfl, hw⟩
def w_X1_fewest (M : xM) (x1 : Int32) (x2 : Int32) (Q : Int32 → Prop) : Prop := w_X1_many M 20 (fun (r_1 : Int32) => nm (-r_1) (fun x3_3 : Int32 => w_X1_skilled M 20 (fun (r_4 : Int32) => nm (-r_4) (fun x4_6 : Int32 => lf5 (fun L_12 (x3_7 : Int32) (x4_8 : Int32) (x5_9 : Int32) (x6_10 : Int32) (x7_11 : Int32) => wif ((M1 M 9) ≤ x7_11) (jn (fun (v0_14 : Int32) => jn (fun (v0_16 : Int32) => wif (x5_9 < v0_16) (Q (-9)) (wif (x6_10 < x4_8) (Q (-9)) (Q v0_16))) (fun J_17 => wif (v0_14 ≤ 0) (J_17 0) (J_17 v0_14))) (fun J_15 => wif (x3_7 ≤ x4_8) (J_15 x4_8) (J_15 x3_7))) (w_X1_mayGo M x7_11 (fun (r_22 : Int32) => jn4 (fun (x3_24 : Int32) (x4_25 : Int32) (x5_26 : Int32) (x6_27 : Int32) => L_12 x3_24 x4_25 x5_26 x6_27 (x7_11 + 1)) (fun J_28 => wif (r_22 = 0) (vp_in x7_11 10 ∧ wif ((M2 M 10 (Int32.toNatClampNeg x7_11)) = 1) (vp_in x7_11 10 ∧ wif ((M2 M 14 (Int32.toNatClampNeg x7_11)) = 0) (w_X1_spared M x7_11 x2 (fun (r_32 : Int32) => w_X1_skilled M (10 + x7_11) (fun (r_34 : Int32) => nm (x5_9 + r_32) (fun x5_36 : Int32 => jn (fun (v1_37 : Int32) => nm (x6_10 + v1_37) (fun x6_39 : Int32 => J_28 x3_7 x4_8 x5_36 x6_39)) (fun J_38 => wif (r_34 ≤ r_32) (J_38 r_34) (J_38 r_32)))))) (J_28 x3_7 x4_8 x5_9 x6_10)) (J_28 x3_7 x4_8 x5_9 x6_10)) (w_X1_many M (10 + x7_11) (fun (r_41 : Int32) => nm (x3_7 - r_41) (fun x3_43 : Int32 => w_X1_skilled M (10 + x7_11) (fun (r_44 : Int32) => nm (x4_8 - r_44) (fun x4_46 : Int32 => jn (fun (v1_47 : Int32) => nm (x3_43 + v1_47) (fun x3_49 : Int32 => jn (fun (v1_50 : Int32) => nm (x4_46 + v1_50) (fun x4_52 : Int32 => J_28 x3_49 x4_52 x5_9 x6_10)) (fun J_51 => wif (((x1 >>> (x7_11 &&& 31)) &&& 1) = 1) (vp_in x7_11 10 ∧ J_51 (M2 M 12 (Int32.toNatClampNeg x7_11))) (J_51 0)))) (fun J_48 => wif (((x1 >>> (x7_11 &&& 31)) &&& 1) = 1) (vp_in x7_11 10 ∧ J_48 (M2 M 11 (Int32.toNatClampNeg x7_11))) (J_48 0))))))))))) x3_3 x4_6 0 0 0))))
theorem hd_X1_fewest : yX1_fewest.cls = "PressedMenModel" ∧ yX1_fewest.cls ≠ "java/lang/invoke/MethodHandle" ∧ yX1_fewest.cls ≠ "java/lang/invoke/VarHandle" ∧ (parseMethodDescriptor yX1_fewest.desc).map (fun d => d.parameters.length) = some 2 := by decide +kernel
set_option maxHeartbeats 4000000 in
theorem mt_X1_fewest (l : Launch) {D : va_G} {d : Nat → ClassId} {base : Nat} {mo : Nat} {Aa : Nat → Nat} {M : xM} {S : xH} {x1 : Int32} {x2 : Int32} {Q : Int32 → Prop} (hw : w_X1_fewest M x1 x2 Q) : Met l yX1_fewest (ws_ yX1_fewest cX1_fewest 10 (some FieldType.int)) (x_rm 3 0 0 67) (x_Pc D d base (x_mc d mo Aa M) S [.ref mo, .int x1, .int x2]) (xm_Qi D d base mo Aa S (fun r M' => M' = M ∧ Q r)) 0 0 (x_A base) := by
  refine x_met (by decide) (Nat.le_of_ble_eq_true rfl) ?_
  intro p e s m below meth c hx hb hml hr hlocks hown hts hz hR hK hin ls hl
  have hown : s.vm.findClass "PressedMenModel" = some m.cls := hown
  have hl : lv_has ls 10 [(0, .ref mo), (1, .int x1), (2, .int x2)] := hl
  have hS : va_S (x_A base) s.heap s.heap [] := va_S.rf
  unfold w_X1_fewest at hw
  refine lv_aload_n hx hb dX1_fewest_0 rfl (lv_at hl 0 rfl) ?_
  refine lv_bipush (v := 20) hx hb dX1_fewest_1 (by decide) ?_
  refine xm_ci (va_runV (As := [.int 20]) (rest := []) ⟨hx, hb, hml, hown, hts⟩ (mt_X1_many l hw) (cwV 1 hts (lw_V q1142 q1144 qs39 q65 q1145) rfl rfl rfl hd_X1_many ⟨Nat.le_of_ble_eq_true rfl, Nat.le_of_ble_eq_true rfl⟩) ⟨x_Pc_blind, xm_recv hR hK, x_Pc_pre hR hz hS hK⟩ rfl rfl hl.1 rfl (lv_room (Nat.le_of_ble_eq_true rfl)) dX1_fewest_3 ⟨Nat.le_refl _, Nat.le_refl _⟩) hS (fun r_1 M_2 H locs hp hR hS => ?_)
  have hw := hp.2
  rw [hp.1] at hR
  refine lv_ineg hx hb dX1_fewest_6 ?_
  refine lv_topi (fun x3_3 ex3_3 => ?_)
  have hw := hw x3_3 ex3_3
  refine lv_istore_n (lv' := [(3, .int x3_3), (0, .ref mo), (1, .int x1), (2, .int x2)]) hx hb dX1_fewest_7 rfl hl (by decide) rfl (fun ls hl => ?_)
  refine lv_aload_n hx hb dX1_fewest_8 rfl (lv_at hl 1 rfl) ?_
  refine lv_bipush (v := 20) hx hb dX1_fewest_9 (by decide) ?_
  refine xm_ci (va_runV (As := [.int 20]) (rest := []) ⟨hx, hb, hml, hown, hts⟩ (mt_X1_skilled l hw) (cwV 1 hts (lw_V q1347 q1349 qs57 q65 q1350) rfl rfl rfl hd_X1_skilled ⟨Nat.le_of_ble_eq_true rfl, Nat.le_of_ble_eq_true rfl⟩) ⟨x_Pc_blind, xm_recv hR hK, x_Pc_pre hR hz hS hK⟩ rfl rfl hl.1 rfl (lv_room (Nat.le_of_ble_eq_true rfl)) dX1_fewest_11 ⟨Nat.le_refl _, Nat.le_refl _⟩) hS (fun r_4 M_5 H locs hp hR hS => ?_)
  have hw := hp.2
  rw [hp.1] at hR
  refine lv_ineg hx hb dX1_fewest_14 ?_
  refine lv_topi (fun x4_6 ex4_6 => ?_)
  have hw := hw x4_6 ex4_6
  refine lv_istore (lv' := [(4, .int x4_6), (3, .int x3_3), (0, .ref mo), (1, .int x1), (2, .int x2)]) hx hb dX1_fewest_15 hl (by decide) rfl (fun ls hl => ?_)
  refine lv_iconst (v := 0) hx hb dX1_fewest_17 (by decide) ?_
  refine lv_istore (lv' := [(5, .int 0), (4, .int x4_6), (3, .int x3_3), (0, .ref mo), (1, .int x1), (2, .int x2)]) hx hb dX1_fewest_18 hl (by decide) rfl (fun ls hl => ?_)
  refine lv_iconst (v := 0) hx hb dX1_fewest_20 (by decide) ?_
  refine lv_istore (lv' := [(6, .int 0), (5, .int 0), (4, .int x4_6), (3, .int x3_3), (0, .ref mo), (1, .int x1), (2, .int x2)]) hx hb dX1_fewest_21 hl (by decide) rfl (fun ls hl => ?_)
  refine lv_iconst (v := 0) hx hb dX1_fewest_23 (by decide) ?_
  refine lv_istore (lv' := [(7, .int 0), (6, .int 0), (5, .int 0), (4, .int x4_6), (3, .int x3_3), (0, .ref mo), (1, .int x1), (2, .int x2)]) hx hb dX1_fewest_24 hl (by decide) rfl (fun ls hl => ?_)
  refine x_lf5 (G := fun (x3_7 : Int32) (x4_8 : Int32) (x5_9 : Int32) (x6_10 : Int32) (x7_11 : Int32) => ∀ (ls : Array Slot) (H : Heap) (locs : List Loc), x_Rp D d (x_A base) (x_mc d mo Aa M) S H → va_S (x_A base) s.heap H locs → lv_has ls 10 [(0, .ref mo), (1, .int x1), (2, .int x2), (3, .int x3_7), (4, .int x4_8), (5, .int x5_9), (6, .int x6_10), (7, .int x7_11)] → W p l e (x_rm 3 0 0 67) s m ([.ref mo, .int x1, .int x2] : List Value).toArray below meth c H locs 0 0 (MQ below (xm_Qi D d base mo Aa S (fun r M' => M' = M ∧ Q r)) ([.ref mo, .int x1, .int x2] : List Value).toArray s 0 0 (x_A base)) (F0 m 26 ls [])) hw (fun x3_7 x4_8 x5_9 x6_10 x7_11 hw => ?_) ls _ _ hR hS (lv_sub hl [5, 6, 7, 4, 3, 2, 1, 0] rfl)
  intro ls H locs hR hS hl
  refine lv_iload hx hb dX1_fewest_26 (lv_at hl 7 rfl) ?_
  refine lv_aload_n hx hb dX1_fewest_28 rfl (lv_at hl 0 rfl) ?_
  refine xm_getI (k := 9) hx hb hts in_X1 hown hK hR (by decide) (hts _ q975) rfl dX1_fewest_29 ?_
  refine lv_icmp_ge (tgt := 196) hx hb dX1_fewest_32 (by decide) (fun c_13 => ?_) (fun c_13 => ?_)
  · have hw := x_t hw c_13
    refine lv_iload_n hx hb dX1_fewest_196 rfl (lv_at hl 3 rfl) ?_
    refine lv_iload hx hb dX1_fewest_197 (lv_at hl 4 rfl) ?_
    refine x_jn (G := fun (v0_14 : Int32) => ∀ (ls : Array Slot) (H : Heap) (locs : List Loc), x_Rp D d (x_A base) (x_mc d mo Aa M) S H → va_S (x_A base) s.heap H locs → lv_has ls 10 [(4, .int x4_8), (5, .int x5_9), (6, .int x6_10)] → W p l e (x_rm 3 0 0 67) s m ([.ref mo, .int x1, .int x2] : List Value).toArray below meth c H locs 0 0 (MQ below (xm_Qi D d base mo Aa S (fun r M' => M' = M ∧ Q r)) ([.ref mo, .int x1, .int x2] : List Value).toArray s 0 0 (x_A base)) (F0 m 208 ls [.int v0_14])) hw (fun v0_14 hw => ?_) (fun hJ_15 hw => ?_)
    · intro ls H locs hR hS hl
      refine lv_istore (lv' := [(7, .int v0_14), (4, .int x4_8), (5, .int x5_9), (6, .int x6_10)]) hx hb dX1_fewest_208 hl (by decide) rfl (fun ls hl => ?_)
      refine lv_iload hx hb dX1_fewest_210 (lv_at hl 0 rfl) ?_
      refine x_jn (G := fun (v0_16 : Int32) => ∀ (ls : Array Slot) (H : Heap) (locs : List Loc), x_Rp D d (x_A base) (x_mc d mo Aa M) S H → va_S (x_A base) s.heap H locs → lv_has ls 10 [(4, .int x4_8), (5, .int x5_9), (6, .int x6_10)] → W p l e (x_rm 3 0 0 67) s m ([.ref mo, .int x1, .int x2] : List Value).toArray below meth c H locs 0 0 (MQ below (xm_Qi D d base mo Aa S (fun r M' => M' = M ∧ Q r)) ([.ref mo, .int x1, .int x2] : List Value).toArray s 0 0 (x_A base)) (F0 m 221 ls [.int v0_16])) hw (fun v0_16 hw => ?_) (fun hJ_17 hw => ?_)
      · intro ls H locs hR hS hl
        refine lv_istore (lv' := [(7, .int v0_16), (4, .int x4_8), (5, .int x5_9), (6, .int x6_10)]) hx hb dX1_fewest_221 hl (by decide) rfl (fun ls hl => ?_)
        refine lv_iload hx hb dX1_fewest_223 (lv_at hl 0 rfl) ?_
        refine lv_iload hx hb dX1_fewest_225 (lv_at hl 2 rfl) ?_
        refine lv_icmp_gt (tgt := 242) hx hb dX1_fewest_227 (by decide) (fun c_18 => ?_) (fun c_18 => ?_)
        · have hw := x_t hw c_18
          refine lv_bipush (v := (-9)) hx hb dX1_fewest_242 (by decide) ?_
          exact xm_ri hx hb hr hlocks hR hS dX1_fewest_244 ⟨rfl, hw⟩
        · have hw := x_f hw c_18
          refine lv_iload hx hb dX1_fewest_230 (lv_at hl 1 rfl) ?_
          refine lv_iload hx hb dX1_fewest_232 (lv_at hl 3 rfl) ?_
          refine lv_icmp_gt (tgt := 242) hx hb dX1_fewest_234 (by decide) (fun c_19 => ?_) (fun c_19 => ?_)
          · have hw := x_t hw c_19
            refine lv_bipush (v := (-9)) hx hb dX1_fewest_242 (by decide) ?_
            exact xm_ri hx hb hr hlocks hR hS dX1_fewest_244 ⟨rfl, hw⟩
          · have hw := x_f hw c_19
            refine lv_iload hx hb dX1_fewest_237 (lv_at hl 0 rfl) ?_
            refine lv_goto (tgt := 244) hx hb dX1_fewest_239 (by decide) ?_
            exact xm_ri hx hb hr hlocks hR hS dX1_fewest_244 ⟨rfl, hw⟩
      · refine lv_if_le (tgt := 220) hx hb dX1_fewest_212 (by decide) (fun c_20 => ?_) (fun c_20 => ?_)
        · have hw := x_t hw c_20
          refine lv_iconst (v := 0) hx hb dX1_fewest_220 (by decide) ?_
          exact hJ_17 0 hw ls _ _ hR hS (lv_sub hl [1, 2, 3] rfl)
        · have hw := x_f hw c_20
          refine lv_iload hx hb dX1_fewest_215 (lv_at hl 0 rfl) ?_
          refine lv_goto (tgt := 221) hx hb dX1_fewest_217 (by decide) ?_
          exact hJ_17 v0_14 hw ls _ _ hR hS (lv_sub hl [1, 2, 3] rfl)
    · refine lv_icmp_le (tgt := 206) hx hb dX1_fewest_199 (by decide) (fun c_21 => ?_) (fun c_21 => ?_)
      · have hw := x_t hw c_21
        refine lv_iload hx hb dX1_fewest_206 (lv_at hl 4 rfl) ?_
        exact hJ_15 x4_8 hw ls _ _ hR hS (lv_sub hl [4, 5, 6] rfl)
      · have hw := x_f hw c_21
        refine lv_iload_n hx hb dX1_fewest_202 rfl (lv_at hl 3 rfl) ?_
        refine lv_goto (tgt := 208) hx hb dX1_fewest_203 (by decide) ?_
        exact hJ_15 x3_7 hw ls _ _ hR hS (lv_sub hl [4, 5, 6] rfl)
  · have hw := x_f hw c_13
    refine lv_aload_n hx hb dX1_fewest_35 rfl (lv_at hl 0 rfl) ?_
    refine lv_iload hx hb dX1_fewest_36 (lv_at hl 7 rfl) ?_
    refine xm_ci (va_runV (As := [.int x7_11]) (rest := []) ⟨hx, hb, hml, hown, hts⟩ (mt_X1_mayGo l hw) (cwV 1 hts (lw_V q1378 q1380 qs59 q65 q1381) rfl rfl rfl hd_X1_mayGo ⟨Nat.le_of_ble_eq_true rfl, Nat.le_of_ble_eq_true rfl⟩) ⟨x_Pc_blind, xm_recv hR hK, x_Pc_pre hR hz hS hK⟩ rfl rfl hl.1 rfl (lv_room (Nat.le_of_ble_eq_true rfl)) dX1_fewest_38 ⟨Nat.le_refl _, Nat.le_refl _⟩) hS (fun r_22 M_23 H locs hp hR hS => ?_)
    have hw := hp.2
    rw [hp.1] at hR
    refine x_jn4 (G := fun (x3_24 : Int32) (x4_25 : Int32) (x5_26 : Int32) (x6_27 : Int32) => ∀ (ls : Array Slot) (H : Heap) (locs : List Loc), x_Rp D d (x_A base) (x_mc d mo Aa M) S H → va_S (x_A base) s.heap H locs → lv_has ls 10 [(0, .ref mo), (1, .int x1), (2, .int x2), (3, .int x3_24), (4, .int x4_25), (5, .int x5_26), (6, .int x6_27), (7, .int x7_11)] → W p l e (x_rm 3 0 0 67) s m ([.ref mo, .int x1, .int x2] : List Value).toArray below meth c H locs 0 0 (MQ below (xm_Qi D d base mo Aa S (fun r M' => M' = M ∧ Q r)) ([.ref mo, .int x1, .int x2] : List Value).toArray s 0 0 (x_A base)) (F0 m 190 ls [])) hw (fun x3_24 x4_25 x5_26 x6_27 hw => ?_) (fun hJ_28 hw => ?_)
    · intro ls H locs hR hS hl
      refine lv_iinc (v := (x7_11 + 1)) (lv' := [(7, .int (x7_11 + 1)), (0, .ref mo), (1, .int x1), (2, .int x2), (3, .int x3_24), (4, .int x4_25), (5, .int x5_26), (6, .int x6_27)]) hx hb dX1_fewest_190 hl (k := 7) rfl rfl (by decide) rfl (fun ls hl => ?_)
      refine lv_goto (tgt := 26) hx hb dX1_fewest_193 (by decide) ?_
      exact hw ls _ _ hR hS (lv_sub hl [1, 2, 3, 4, 5, 6, 7, 0] rfl)
    · refine lv_if_eq (tgt := 123) hx hb dX1_fewest_41 (by decide) (fun c_29 => ?_) (fun c_29 => ?_)
      · have hw := x_t hw c_29
        refine lv_aload_n hx hb dX1_fewest_123 rfl (lv_at hl 0 rfl) ?_
        refine xm_getA (k := 10) hx hb hts in_X1 hown hK hR (by decide) (hts _ q976) rfl dX1_fewest_124 ?_
        refine lv_iload hx hb dX1_fewest_127 (lv_at hl 7 rfl) ?_
        refine xm_ild (M := M) (k := 10) (j := 5) hx hb hK hR dX1_fewest_129 rfl hw.1 ?_
        have hw := hw.2
        refine lv_iconst (v := 1) hx hb dX1_fewest_130 (by decide) ?_
        refine lv_icmp_ne (tgt := 190) hx hb dX1_fewest_131 (by decide) (fun c_30 => ?_) (fun c_30 => ?_)
        · have hw := x_f hw c_30
          exact hJ_28 x3_7 x4_8 x5_9 x6_10 hw ls _ _ hR hS (lv_sub hl [0, 1, 2, 3, 4, 5, 6, 7] rfl)
        · have hw := x_t hw c_30
          refine lv_aload_n hx hb dX1_fewest_134 rfl (lv_at hl 0 rfl) ?_
          refine xm_getA (k := 14) hx hb hts in_X1 hown hK hR (by decide) (hts _ q980) rfl dX1_fewest_135 ?_
          refine lv_iload hx hb dX1_fewest_138 (lv_at hl 7 rfl) ?_
          refine xm_zld (M := M) (k := 14) (j := 9) hx hb hK hR dX1_fewest_140 rfl hw.1 ?_
          have hw := hw.2
          refine lv_if_ne (tgt := 190) hx hb dX1_fewest_141 (by decide) (fun c_31 => ?_) (fun c_31 => ?_)
          · have hw := x_f hw c_31
            exact hJ_28 x3_7 x4_8 x5_9 x6_10 hw ls _ _ hR hS (lv_sub hl [0, 1, 2, 3, 4, 5, 6, 7] rfl)
          · have hw := x_t hw c_31
            refine lv_aload_n hx hb dX1_fewest_144 rfl (lv_at hl 0 rfl) ?_
            refine lv_iload hx hb dX1_fewest_145 (lv_at hl 7 rfl) ?_
            refine lv_iload_n hx hb dX1_fewest_147 rfl (lv_at hl 2 rfl) ?_
            refine xm_ci (va_runV (As := [.int x7_11, .int x2]) (rest := []) ⟨hx, hb, hml, hown, hts⟩ (mt_X1_spared l hw) (cwV 2 hts (lw_V q1358 q1360 qs58 q65 q1361) rfl rfl rfl hd_X1_spared ⟨Nat.le_of_ble_eq_true rfl, Nat.le_of_ble_eq_true rfl⟩) ⟨x_Pc_blind, xm_recv hR hK, x_Pc_pre hR hz hS hK⟩ rfl rfl hl.1 rfl (lv_room (Nat.le_of_ble_eq_true rfl)) dX1_fewest_148 ⟨Nat.le_refl _, Nat.le_refl _⟩) hS (fun r_32 M_33 H locs hp hR hS => ?_)
            have hw := hp.2
            rw [hp.1] at hR
            refine lv_istore (lv' := [(8, .int r_32), (0, .ref mo), (1, .int x1), (2, .int x2), (3, .int x3_7), (4, .int x4_8), (5, .int x5_9), (6, .int x6_10), (7, .int x7_11)]) hx hb dX1_fewest_151 hl (by decide) rfl (fun ls hl => ?_)
            refine lv_aload_n hx hb dX1_fewest_153 rfl (lv_at hl 1 rfl) ?_
            refine lv_bipush (v := 10) hx hb dX1_fewest_154 (by decide) ?_
            refine lv_iload hx hb dX1_fewest_156 (lv_at hl 8 rfl) ?_
            refine lv_iadd hx hb dX1_fewest_158 ?_
            refine xm_ci (va_runV (As := [.int (10 + x7_11)]) (rest := []) ⟨hx, hb, hml, hown, hts⟩ (mt_X1_skilled l hw) (cwV 1 hts (lw_V q1347 q1349 qs57 q65 q1350) rfl rfl rfl hd_X1_skilled ⟨Nat.le_of_ble_eq_true rfl, Nat.le_of_ble_eq_true rfl⟩) ⟨x_Pc_blind, xm_recv hR hK, x_Pc_pre hR hz hS hK⟩ rfl rfl hl.1 rfl (lv_room (Nat.le_of_ble_eq_true rfl)) dX1_fewest_159 ⟨Nat.le_refl _, Nat.le_refl _⟩) hS (fun r_34 M_35 H locs hp hR hS => ?_)
            have hw := hp.2
            rw [hp.1] at hR
            refine lv_istore (lv' := [(9, .int r_34), (8, .int r_32), (0, .ref mo), (1, .int x1), (2, .int x2), (3, .int x3_7), (4, .int x4_8), (5, .int x5_9), (6, .int x6_10), (7, .int x7_11)]) hx hb dX1_fewest_162 hl (by decide) rfl (fun ls hl => ?_)
            refine lv_iload hx hb dX1_fewest_164 (lv_at hl 7 rfl) ?_
            refine lv_iload hx hb dX1_fewest_166 (lv_at hl 1 rfl) ?_
            refine lv_iadd hx hb dX1_fewest_168 ?_
            refine lv_topi (fun x5_36 ex5_36 => ?_)
            have hw := hw x5_36 ex5_36
            refine lv_istore (lv' := [(5, .int x5_36), (9, .int r_34), (8, .int r_32), (0, .ref mo), (1, .int x1), (2, .int x2), (3, .int x3_7), (4, .int x4_8), (6, .int x6_10), (7, .int x7_11)]) hx hb dX1_fewest_169 hl (by decide) rfl (fun ls hl => ?_)
            refine lv_iload hx hb dX1_fewest_171 (lv_at hl 8 rfl) ?_
            refine lv_iload hx hb dX1_fewest_173 (lv_at hl 2 rfl) ?_
            refine lv_iload hx hb dX1_fewest_175 (lv_at hl 1 rfl) ?_
            refine x_jn (G := fun (v1_37 : Int32) => ∀ (ls : Array Slot) (H : Heap) (locs : List Loc), x_Rp D d (x_A base) (x_mc d mo Aa M) S H → va_S (x_A base) s.heap H locs → lv_has ls 10 [(0, .ref mo), (1, .int x1), (2, .int x2), (3, .int x3_7), (4, .int x4_8), (5, .int x5_36), (7, .int x7_11)] → W p l e (x_rm 3 0 0 67) s m ([.ref mo, .int x1, .int x2] : List Value).toArray below meth c H locs 0 0 (MQ below (xm_Qi D d base mo Aa S (fun r M' => M' = M ∧ Q r)) ([.ref mo, .int x1, .int x2] : List Value).toArray s 0 0 (x_A base)) (F0 m 187 ls [.int v1_37, .int x6_10])) hw (fun v1_37 hw => ?_) (fun hJ_38 hw => ?_)
            · intro ls H locs hR hS hl
              refine lv_iadd hx hb dX1_fewest_187 ?_
              refine lv_topi (fun x6_39 ex6_39 => ?_)
              have hw := hw x6_39 ex6_39
              refine lv_istore (lv' := [(6, .int x6_39), (0, .ref mo), (1, .int x1), (2, .int x2), (3, .int x3_7), (4, .int x4_8), (5, .int x5_36), (7, .int x7_11)]) hx hb dX1_fewest_188 hl (by decide) rfl (fun ls hl => ?_)
              exact hJ_28 x3_7 x4_8 x5_36 x6_39 hw ls _ _ hR hS (lv_sub hl [1, 2, 3, 4, 5, 6, 0, 7] rfl)
            · refine lv_icmp_ge (tgt := 185) hx hb dX1_fewest_177 (by decide) (fun c_40 => ?_) (fun c_40 => ?_)
              · have hw := x_t hw c_40
                refine lv_iload hx hb dX1_fewest_185 (lv_at hl 1 rfl) ?_
                exact hJ_38 r_34 hw ls _ _ hR hS (lv_sub hl [3, 4, 5, 6, 7, 0, 9] rfl)
              · have hw := x_f hw c_40
                refine lv_iload hx hb dX1_fewest_180 (lv_at hl 2 rfl) ?_
                refine lv_goto (tgt := 187) hx hb dX1_fewest_182 (by decide) ?_
                exact hJ_38 r_32 hw ls _ _ hR hS (lv_sub hl [3, 4, 5, 6, 7, 0, 9] rfl)
      · have hw := x_f hw c_29
        refine lv_iload_n hx hb dX1_fewest_44 rfl (lv_at hl 3 rfl) ?_
        refine lv_aload_n hx hb dX1_fewest_45 rfl (lv_at hl 0 rfl) ?_
        refine lv_bipush (v := 10) hx hb dX1_fewest_46 (by decide) ?_
        refine lv_iload hx hb dX1_fewest_48 (lv_at hl 7 rfl) ?_
        refine lv_iadd hx hb dX1_fewest_50 ?_
        refine xm_ci (va_runV (As := [.int (10 + x7_11)]) (rest := [.int x3_7]) ⟨hx, hb, hml, hown, hts⟩ (mt_X1_many l hw) (cwV 1 hts (lw_V q1142 q1144 qs39 q65 q1145) rfl rfl rfl hd_X1_many ⟨Nat.le_of_ble_eq_true rfl, Nat.le_of_ble_eq_true rfl⟩) ⟨x_Pc_blind, xm_recv hR hK, x_Pc_pre hR hz hS hK⟩ rfl rfl hl.1 rfl (lv_room (Nat.le_of_ble_eq_true rfl)) dX1_fewest_51 ⟨Nat.le_refl _, Nat.le_refl _⟩) hS (fun r_41 M_42 H locs hp hR hS => ?_)
        have hw := hp.2
        rw [hp.1] at hR
        refine lv_isub hx hb dX1_fewest_54 ?_
        refine lv_topi (fun x3_43 ex3_43 => ?_)
        have hw := hw x3_43 ex3_43
        refine lv_istore_n (lv' := [(3, .int x3_43), (0, .ref mo), (1, .int x1), (2, .int x2), (4, .int x4_8), (5, .int x5_9), (6, .int x6_10), (7, .int x7_11)]) hx hb dX1_fewest_55 rfl hl (by decide) rfl (fun ls hl => ?_)
        refine lv_iload hx hb dX1_fewest_56 (lv_at hl 4 rfl) ?_
        refine lv_aload_n hx hb dX1_fewest_58 rfl (lv_at hl 1 rfl) ?_
        refine lv_bipush (v := 10) hx hb dX1_fewest_59 (by decide) ?_
        refine lv_iload hx hb dX1_fewest_61 (lv_at hl 7 rfl) ?_
        refine lv_iadd hx hb dX1_fewest_63 ?_
        refine xm_ci (va_runV (As := [.int (10 + x7_11)]) (rest := [.int x4_8]) ⟨hx, hb, hml, hown, hts⟩ (mt_X1_skilled l hw) (cwV 1 hts (lw_V q1347 q1349 qs57 q65 q1350) rfl rfl rfl hd_X1_skilled ⟨Nat.le_of_ble_eq_true rfl, Nat.le_of_ble_eq_true rfl⟩) ⟨x_Pc_blind, xm_recv hR hK, x_Pc_pre hR hz hS hK⟩ rfl rfl hl.1 rfl (lv_room (Nat.le_of_ble_eq_true rfl)) dX1_fewest_64 ⟨Nat.le_refl _, Nat.le_refl _⟩) hS (fun r_44 M_45 H locs hp hR hS => ?_)
        have hw := hp.2
        rw [hp.1] at hR
        refine lv_isub hx hb dX1_fewest_67 ?_
        refine lv_topi (fun x4_46 ex4_46 => ?_)
        have hw := hw x4_46 ex4_46
        refine lv_istore (lv' := [(4, .int x4_46), (3, .int x3_43), (0, .ref mo), (1, .int x1), (2, .int x2), (5, .int x5_9), (6, .int x6_10), (7, .int x7_11)]) hx hb dX1_fewest_68 hl (by decide) rfl (fun ls hl => ?_)
        refine lv_iload_n hx hb dX1_fewest_70 rfl (lv_at hl 1 rfl) ?_
        refine lv_iload_n hx hb dX1_fewest_71 rfl (lv_at hl 3 rfl) ?_
        refine lv_iload hx hb dX1_fewest_72 (lv_at hl 7 rfl) ?_
        refine lv_ishr hx hb dX1_fewest_74 ?_
        refine lv_iconst (v := 1) hx hb dX1_fewest_75 (by decide) ?_
        refine lv_iand hx hb dX1_fewest_76 ?_
        refine lv_iconst (v := 1) hx hb dX1_fewest_77 (by decide) ?_
        refine x_jn (G := fun (v1_47 : Int32) => ∀ (ls : Array Slot) (H : Heap) (locs : List Loc), x_Rp D d (x_A base) (x_mc d mo Aa M) S H → va_S (x_A base) s.heap H locs → lv_has ls 10 [(0, .ref mo), (1, .int x1), (2, .int x2), (4, .int x4_46), (5, .int x5_9), (6, .int x6_10), (7, .int x7_11)] → W p l e (x_rm 3 0 0 67) s m ([.ref mo, .int x1, .int x2] : List Value).toArray below meth c H locs 0 0 (MQ below (xm_Qi D d base mo Aa S (fun r M' => M' = M ∧ Q r)) ([.ref mo, .int x1, .int x2] : List Value).toArray s 0 0 (x_A base)) (F0 m 92 ls [.int v1_47, .int x3_43])) hw (fun v1_47 hw => ?_) (fun hJ_48 hw => ?_)
        · intro ls H locs hR hS hl
          refine lv_iadd hx hb dX1_fewest_92 ?_
          refine lv_topi (fun x3_49 ex3_49 => ?_)
          have hw := hw x3_49 ex3_49
          refine lv_istore_n (lv' := [(3, .int x3_49), (0, .ref mo), (1, .int x1), (2, .int x2), (4, .int x4_46), (5, .int x5_9), (6, .int x6_10), (7, .int x7_11)]) hx hb dX1_fewest_93 rfl hl (by decide) rfl (fun ls hl => ?_)
          refine lv_iload hx hb dX1_fewest_94 (lv_at hl 4 rfl) ?_
          refine lv_iload_n hx hb dX1_fewest_96 rfl (lv_at hl 2 rfl) ?_
          refine lv_iload hx hb dX1_fewest_97 (lv_at hl 7 rfl) ?_
          refine lv_ishr hx hb dX1_fewest_99 ?_
          refine lv_iconst (v := 1) hx hb dX1_fewest_100 (by decide) ?_
          refine lv_iand hx hb dX1_fewest_101 ?_
          refine lv_iconst (v := 1) hx hb dX1_fewest_102 (by decide) ?_
          refine x_jn (G := fun (v1_50 : Int32) => ∀ (ls : Array Slot) (H : Heap) (locs : List Loc), x_Rp D d (x_A base) (x_mc d mo Aa M) S H → va_S (x_A base) s.heap H locs → lv_has ls 10 [(0, .ref mo), (1, .int x1), (2, .int x2), (3, .int x3_49), (5, .int x5_9), (6, .int x6_10), (7, .int x7_11)] → W p l e (x_rm 3 0 0 67) s m ([.ref mo, .int x1, .int x2] : List Value).toArray below meth c H locs 0 0 (MQ below (xm_Qi D d base mo Aa S (fun r M' => M' = M ∧ Q r)) ([.ref mo, .int x1, .int x2] : List Value).toArray s 0 0 (x_A base)) (F0 m 117 ls [.int v1_50, .int x4_46])) hw (fun v1_50 hw => ?_) (fun hJ_51 hw => ?_)
          · intro ls H locs hR hS hl
            refine lv_iadd hx hb dX1_fewest_117 ?_
            refine lv_topi (fun x4_52 ex4_52 => ?_)
            have hw := hw x4_52 ex4_52
            refine lv_istore (lv' := [(4, .int x4_52), (0, .ref mo), (1, .int x1), (2, .int x2), (3, .int x3_49), (5, .int x5_9), (6, .int x6_10), (7, .int x7_11)]) hx hb dX1_fewest_118 hl (by decide) rfl (fun ls hl => ?_)
            refine lv_goto (tgt := 190) hx hb dX1_fewest_120 (by decide) ?_
            exact hJ_28 x3_49 x4_52 x5_9 x6_10 hw ls _ _ hR hS (lv_sub hl [1, 2, 3, 4, 0, 5, 6, 7] rfl)
          · refine lv_icmp_ne (tgt := 116) hx hb dX1_fewest_103 (by decide) (fun c_53 => ?_) (fun c_53 => ?_)
            · have hw := x_f hw c_53
              refine lv_iconst (v := 0) hx hb dX1_fewest_116 (by decide) ?_
              exact hJ_51 0 hw ls _ _ hR hS (lv_sub hl [1, 2, 3, 0, 5, 6, 7] rfl)
            · have hw := x_t hw c_53
              refine lv_aload_n hx hb dX1_fewest_106 rfl (lv_at hl 1 rfl) ?_
              refine xm_getA (k := 12) hx hb hts in_X1 hown hK hR (by decide) (hts _ q978) rfl dX1_fewest_107 ?_
              refine lv_iload hx hb dX1_fewest_110 (lv_at hl 7 rfl) ?_
              refine xm_ild (M := M) (k := 12) (j := 7) hx hb hK hR dX1_fewest_112 rfl hw.1 ?_
              have hw := hw.2
              refine lv_goto (tgt := 117) hx hb dX1_fewest_113 (by decide) ?_
              exact hJ_51 (M2 M 12 (Int32.toNatClampNeg x7_11)) hw ls _ _ hR hS (lv_sub hl [1, 2, 3, 0, 5, 6, 7] rfl)
        · refine lv_icmp_ne (tgt := 91) hx hb dX1_fewest_78 (by decide) (fun c_54 => ?_) (fun c_54 => ?_)
          · have hw := x_f hw c_54
            refine lv_iconst (v := 0) hx hb dX1_fewest_91 (by decide) ?_
            exact hJ_48 0 hw ls _ _ hR hS (lv_sub hl [2, 3, 4, 0, 5, 6, 7] rfl)
          · have hw := x_t hw c_54
            refine lv_aload_n hx hb dX1_fewest_81 rfl (lv_at hl 2 rfl) ?_
            refine xm_getA (k := 11) hx hb hts in_X1 hown hK hR (by decide) (hts _ q977) rfl dX1_fewest_82 ?_
            refine lv_iload hx hb dX1_fewest_85 (lv_at hl 7 rfl) ?_
            refine xm_ild (M := M) (k := 11) (j := 6) hx hb hK hR dX1_fewest_87 rfl hw.1 ?_
            have hw := hw.2
            refine lv_goto (tgt := 92) hx hb dX1_fewest_88 (by decide) ?_
            exact hJ_48 (M2 M 11 (Int32.toNatClampNeg x7_11)) hw ls _ _ hR hS (lv_sub hl [2, 3, 4, 0, 5, 6, 7] rfl)
def w_X1_taken (M : xM) (x1 : Int32) (x2 : Int32) (Q : Int32 → xM → Prop) : Prop := nm (m1 M 0 0) (fun M_1 : xM => w_X1_badWeather M_1 x2 (fun (r_2 : Int32) => wif (r_2 = 0) (w_X1_in M_1 (Int32.toInt64 x1) 0 (Int32.toInt64 ((1 <<< ((M1 M_1 9) &&& 31)) - 1)) (fun (r_5 : Int32) => wif (r_5 = 0) (Q (-2) M_1) (lf1 (fun L_9 (x3_8 : Int32) => wif ((M1 M_1 9) ≤ x3_8) (w_X1_fewest M_1 x1 x2 (fun (r_11 : Int32) => Q r_11 M_1)) (jn0 (L_9 (x3_8 + 1)) (fun J_13 => wif (((x1 >>> (x3_8 &&& 31)) &&& 1) = 1) (w_X1_mayGo M_1 x3_8 (fun (r_15 : Int32) => wif (r_15 = 0) (Q (-2) M_1) (J_13))) (J_13)))) 0))) (Q (-2) M_1)))
theorem hd_X1_taken : yX1_taken.cls = "PressedMenModel" ∧ yX1_taken.cls ≠ "java/lang/invoke/MethodHandle" ∧ yX1_taken.cls ≠ "java/lang/invoke/VarHandle" ∧ (parseMethodDescriptor yX1_taken.desc).map (fun d => d.parameters.length) = some 2 := by decide +kernel
set_option maxHeartbeats 4000000 in
theorem mt_X1_taken (l : Launch) {D : va_G} {d : Nat → ClassId} {base : Nat} {mo : Nat} {Aa : Nat → Nat} {M : xM} {S : xH} {x1 : Int32} {x2 : Int32} {Q : Int32 → xM → Prop} (hw : w_X1_taken M x1 x2 Q) : Met l yX1_taken (ws_ yX1_taken cX1_taken 4 (some FieldType.int)) (x_rm 4 0 0 96) (x_Pc D d base (x_mc d mo Aa M) S [.ref mo, .int x1, .int x2]) (xm_Qi D d base mo Aa S (fun r M' => Q r M')) 0 0 (x_A base) := by
  refine x_met (by decide) (Nat.le_of_ble_eq_true rfl) ?_
  intro p e s m below meth c hx hb hml hr hlocks hown hts hz hR hK hin ls hl
  have hown : s.vm.findClass "PressedMenModel" = some m.cls := hown
  have hl : lv_has ls 4 [(0, .ref mo), (1, .int x1), (2, .int x2)] := hl
  have hS : va_S (x_A base) s.heap s.heap [] := va_S.rf
  unfold w_X1_taken at hw
  refine lv_aload_n hx hb dX1_taken_0 rfl (lv_at hl 0 rfl) ?_
  refine lv_iconst (v := 0) hx hb dX1_taken_1 (by decide) ?_
  refine xm_putI (M := M) (k := 0) hx hb hts in_X1 hown hK hR hS (by decide) (hts _ q966) rfl rfl rfl rfl dX1_taken_2 (fun H locs hR hS => ?_)
  obtain ⟨M_1, eM_1⟩ : ∃ z, z = (m1 M 0 0) := ⟨_, rfl⟩
  rw [← eM_1] at hR
  have hw := hw M_1 eM_1
  refine lv_iload_n hx hb dX1_taken_5 rfl (lv_at hl 2 rfl) ?_
  refine xm_ci (va_runS (As := [.int x2]) (rest := []) ⟨hx, hb, hml, hown, hts⟩ (mt_X1_badWeather l hw) (va_cwS 1 hts (lw_S q1355 q1356 q65 q1357) rfl rfl rfl hd_X1_badWeather.2 ⟨Nat.le_of_ble_eq_true rfl, Nat.le_of_ble_eq_true rfl⟩) ⟨x_Pc_blind, x_Pc_pre hR hz hS hK⟩ rfl rfl hl.1 rfl (lv_room (Nat.le_of_ble_eq_true rfl)) dX1_taken_6 ⟨Nat.le_refl _, Nat.le_refl _⟩) hS (fun r_2 M_3 H locs hp hR hS => ?_)
  have hw := hp.2
  rw [hp.1] at hR
  refine lv_if_ne (tgt := 30) hx hb dX1_taken_9 (by decide) (fun c_4 => ?_) (fun c_4 => ?_)
  · have hw := x_f hw c_4
    refine lv_bipush (v := (-2)) hx hb dX1_taken_30 (by decide) ?_
    exact xm_ri hx hb hr hlocks hR hS dX1_taken_32 hw
  · have hw := x_t hw c_4
    refine lv_iload_n hx hb dX1_taken_12 rfl (lv_at hl 1 rfl) ?_
    refine lv_i2l (v := (Int32.toInt64 x1)) hx hb dX1_taken_13 rfl ?_
    refine lv_lconst (v := 0) hx hb dX1_taken_14 (by decide) ?_
    refine lv_iconst (v := 1) hx hb dX1_taken_15 (by decide) ?_
    refine lv_aload_n hx hb dX1_taken_16 rfl (lv_at hl 0 rfl) ?_
    refine xm_getI (k := 9) hx hb hts in_X1 hown hK hR (by decide) (hts _ q975) rfl dX1_taken_17 ?_
    refine lv_ishl hx hb dX1_taken_20 ?_
    refine lv_iconst (v := 1) hx hb dX1_taken_21 (by decide) ?_
    refine lv_isub hx hb dX1_taken_22 ?_
    refine lv_i2l (v := (Int32.toInt64 ((1 <<< ((M1 M_1 9) &&& 31)) - 1))) hx hb dX1_taken_23 rfl ?_
    refine xm_ci (va_runS (As := [.long (Int32.toInt64 x1), .long 0, .long (Int32.toInt64 ((1 <<< ((M1 M_1 9) &&& 31)) - 1))]) (rest := []) ⟨hx, hb, hml, hown, hts⟩ (mt_X1_in l hw) (va_cwS 3 hts (lw_S q1089 q1090 q65 q1091) rfl rfl rfl hd_X1_in.2 ⟨Nat.le_of_ble_eq_true rfl, Nat.le_of_ble_eq_true rfl⟩) ⟨x_Pc_blind, x_Pc_pre hR hz hS hK⟩ rfl rfl hl.1 rfl (lv_room (Nat.le_of_ble_eq_true rfl)) dX1_taken_24 ⟨Nat.le_refl _, Nat.le_refl _⟩) hS (fun r_5 M_6 H locs hp hR hS => ?_)
    have hw := hp.2
    rw [hp.1] at hR
    refine lv_if_ne (tgt := 33) hx hb dX1_taken_27 (by decide) (fun c_7 => ?_) (fun c_7 => ?_)
    · have hw := x_f hw c_7
      refine lv_iconst (v := 0) hx hb dX1_taken_33 (by decide) ?_
      refine lv_istore_n (lv' := [(3, .int 0), (0, .ref mo), (1, .int x1), (2, .int x2)]) hx hb dX1_taken_34 rfl hl (by decide) rfl (fun ls hl => ?_)
      refine x_lf1 (G := fun (x3_8 : Int32) => ∀ (ls : Array Slot) (H : Heap) (locs : List Loc), x_Rp D d (x_A base) (x_mc d mo Aa M_1) S H → va_S (x_A base) s.heap H locs → lv_has ls 4 [(0, .ref mo), (1, .int x1), (2, .int x2), (3, .int x3_8)] → W p l e (x_rm 4 0 0 96) s m ([.ref mo, .int x1, .int x2] : List Value).toArray below meth c H locs 0 0 (MQ below (xm_Qi D d base mo Aa S (fun r M' => Q r M')) ([.ref mo, .int x1, .int x2] : List Value).toArray s 0 0 (x_A base)) (F0 m 35 ls [])) hw (fun x3_8 hw => ?_) ls _ _ hR hS (lv_sub hl [1, 2, 3, 0] rfl)
      intro ls H locs hR hS hl
      refine lv_iload_n hx hb dX1_taken_35 rfl (lv_at hl 3 rfl) ?_
      refine lv_aload_n hx hb dX1_taken_36 rfl (lv_at hl 0 rfl) ?_
      refine xm_getI (k := 9) hx hb hts in_X1 hown hK hR (by decide) (hts _ q975) rfl dX1_taken_37 ?_
      refine lv_icmp_ge (tgt := 69) hx hb dX1_taken_40 (by decide) (fun c_10 => ?_) (fun c_10 => ?_)
      · have hw := x_t hw c_10
        refine lv_aload_n hx hb dX1_taken_69 rfl (lv_at hl 0 rfl) ?_
        refine lv_iload_n hx hb dX1_taken_70 rfl (lv_at hl 1 rfl) ?_
        refine lv_iload_n hx hb dX1_taken_71 rfl (lv_at hl 2 rfl) ?_
        refine xm_ci (va_runV (As := [.int x1, .int x2]) (rest := []) ⟨hx, hb, hml, hown, hts⟩ (mt_X1_fewest l hw) (cwV 2 hts (lw_V q1382 q1384 qs60 q65 q1385) rfl rfl rfl hd_X1_fewest ⟨Nat.le_of_ble_eq_true rfl, Nat.le_of_ble_eq_true rfl⟩) ⟨x_Pc_blind, xm_recv hR hK, x_Pc_pre hR hz hS hK⟩ rfl rfl hl.1 rfl (lv_room (Nat.le_of_ble_eq_true rfl)) dX1_taken_72 ⟨Nat.le_refl _, Nat.le_refl _⟩) hS (fun r_11 M_12 H locs hp hR hS => ?_)
        have hw := hp.2
        rw [hp.1] at hR
        exact xm_ri hx hb hr hlocks hR hS dX1_taken_75 hw
      · have hw := x_f hw c_10
        refine lv_iload_n hx hb dX1_taken_43 rfl (lv_at hl 1 rfl) ?_
        refine lv_iload_n hx hb dX1_taken_44 rfl (lv_at hl 3 rfl) ?_
        refine lv_ishr hx hb dX1_taken_45 ?_
        refine lv_iconst (v := 1) hx hb dX1_taken_46 (by decide) ?_
        refine lv_iand hx hb dX1_taken_47 ?_
        refine lv_iconst (v := 1) hx hb dX1_taken_48 (by decide) ?_
        refine x_jn0 (G := ∀ (ls : Array Slot) (H : Heap) (locs : List Loc), x_Rp D d (x_A base) (x_mc d mo Aa M_1) S H → va_S (x_A base) s.heap H locs → lv_has ls 4 [(0, .ref mo), (1, .int x1), (2, .int x2), (3, .int x3_8)] → W p l e (x_rm 4 0 0 96) s m ([.ref mo, .int x1, .int x2] : List Value).toArray below meth c H locs 0 0 (MQ below (xm_Qi D d base mo Aa S (fun r M' => Q r M')) ([.ref mo, .int x1, .int x2] : List Value).toArray s 0 0 (x_A base)) (F0 m 63 ls [])) hw (fun hw => ?_) (fun hJ_13 hw => ?_)
        · intro ls H locs hR hS hl
          refine lv_iinc (v := (x3_8 + 1)) (lv' := [(3, .int (x3_8 + 1)), (0, .ref mo), (1, .int x1), (2, .int x2)]) hx hb dX1_taken_63 hl (k := 3) rfl rfl (by decide) rfl (fun ls hl => ?_)
          refine lv_goto (tgt := 35) hx hb dX1_taken_66 (by decide) ?_
          exact hw ls _ _ hR hS (lv_sub hl [1, 2, 3, 0] rfl)
        · refine lv_icmp_ne (tgt := 63) hx hb dX1_taken_49 (by decide) (fun c_14 => ?_) (fun c_14 => ?_)
          · have hw := x_f hw c_14
            exact hJ_13  hw ls _ _ hR hS (lv_sub hl [0, 1, 2, 3] rfl)
          · have hw := x_t hw c_14
            refine lv_aload_n hx hb dX1_taken_52 rfl (lv_at hl 0 rfl) ?_
            refine lv_iload_n hx hb dX1_taken_53 rfl (lv_at hl 3 rfl) ?_
            refine xm_ci (va_runV (As := [.int x3_8]) (rest := []) ⟨hx, hb, hml, hown, hts⟩ (mt_X1_mayGo l hw) (cwV 1 hts (lw_V q1378 q1380 qs59 q65 q1381) rfl rfl rfl hd_X1_mayGo ⟨Nat.le_of_ble_eq_true rfl, Nat.le_of_ble_eq_true rfl⟩) ⟨x_Pc_blind, xm_recv hR hK, x_Pc_pre hR hz hS hK⟩ rfl rfl hl.1 rfl (lv_room (Nat.le_of_ble_eq_true rfl)) dX1_taken_54 ⟨Nat.le_refl _, Nat.le_refl _⟩) hS (fun r_15 M_16 H locs hp hR hS => ?_)
            have hw := hp.2
            rw [hp.1] at hR
            refine lv_if_ne (tgt := 63) hx hb dX1_taken_57 (by decide) (fun c_17 => ?_) (fun c_17 => ?_)
            · have hw := x_f hw c_17
              exact hJ_13  hw ls _ _ hR hS (lv_sub hl [0, 1, 2, 3] rfl)
            · have hw := x_t hw c_17
              refine lv_bipush (v := (-2)) hx hb dX1_taken_60 (by decide) ?_
              exact xm_ri hx hb hr hlocks hR hS dX1_taken_62 hw
    · have hw := x_t hw c_7
      refine lv_bipush (v := (-2)) hx hb dX1_taken_30 (by decide) ?_
      exact xm_ri hx hb hr hlocks hR hS dX1_taken_32 hw
def w_X1_fleet (M : xM) (x1 : Int32) (Q : Int32 → xM → Prop) : Prop := nm (m1 M 0 0) (fun M_1 : xM => w_X1_badWeather M_1 x1 (fun (r_2 : Int32) => wif (r_2 = 0) (lf2 (fun L_7 (x2_5 : Int32) (x3_6 : Int32) => wif ((M1 M_1 9) ≤ x3_6) (lf4 (fun L_13 (x3_9 : Int32) (x4_10 : Int32) (x5_11 : Int32) (x6_12 : Int32) => wif ((1 <<< ((M1 M_1 9) &&& 31)) ≤ x6_12) (Q x3_9 M_1) (lf2 (fun L_17 (x7_15 : Int32) (x8_16 : Int32) => wif ((M1 M_1 9) ≤ x8_16) (jn (fun (v0_19 : Int32) => jn3 (fun (x3_21 : Int32) (x4_22 : Int32) (x5_23 : Int32) => L_13 x3_21 x4_22 x5_23 (x6_12 + 1)) (fun J_24 => wif (v0_19 = (-9)) (J_24 x3_9 x4_10 x5_11) (jn0 (J_24 x6_12 x7_15 v0_19) (fun J_26 => wif (x4_10 < x7_15) (J_26) (wif (x5_11 ≤ v0_19) (J_24 x3_9 x4_10 x5_11) (J_26)))))) (fun J_20 => jn0 (J_20 (-9)) (fun J_29 => wif ((x6_12 &&& (x2_5 ^^^ (-1))) = 0) (wif (x7_15 < x4_10) (J_29) (w_X1_fewest M_1 x6_12 x1 (fun (r_32 : Int32) => J_20 r_32))) (J_29)))) (nm (x7_15 + ((x6_12 >>> (x8_16 &&& 31)) &&& 1)) (fun x7_34 : Int32 => L_17 x7_34 (x8_16 + 1)))) 0 0)) 0 0 0 1) (w_X1_mayGo M_1 x3_6 (fun (r_35 : Int32) => jn (fun (v1_37 : Int32) => nm (x2_5 ||| v1_37) (fun x2_39 : Int32 => L_7 x2_39 (x3_6 + 1))) (fun J_38 => wif (r_35 = 0) (J_38 0) (J_38 (1 <<< (x3_6 &&& 31))))))) 0 0) (Q (-2) M_1)))
theorem hd_X1_fleet : yX1_fleet.cls = "PressedMenModel" ∧ yX1_fleet.cls ≠ "java/lang/invoke/MethodHandle" ∧ yX1_fleet.cls ≠ "java/lang/invoke/VarHandle" ∧ (parseMethodDescriptor yX1_fleet.desc).map (fun d => d.parameters.length) = some 1 := by decide +kernel
set_option maxHeartbeats 4000000 in
theorem mt_X1_fleet (l : Launch) {D : va_G} {d : Nat → ClassId} {base : Nat} {mo : Nat} {Aa : Nat → Nat} {M : xM} {S : xH} {x1 : Int32} {Q : Int32 → xM → Prop} (hw : w_X1_fleet M x1 Q) : Met l yX1_fleet (ws_ yX1_fleet cX1_fleet 9 (some FieldType.int)) (x_rm 4 0 0 96) (x_Pc D d base (x_mc d mo Aa M) S [.ref mo, .int x1]) (xm_Qi D d base mo Aa S (fun r M' => Q r M')) 0 0 (x_A base) := by
  refine x_met (by decide) (Nat.le_of_ble_eq_true rfl) ?_
  intro p e s m below meth c hx hb hml hr hlocks hown hts hz hR hK hin ls hl
  have hown : s.vm.findClass "PressedMenModel" = some m.cls := hown
  have hl : lv_has ls 9 [(0, .ref mo), (1, .int x1)] := hl
  have hS : va_S (x_A base) s.heap s.heap [] := va_S.rf
  unfold w_X1_fleet at hw
  refine lv_aload_n hx hb dX1_fleet_0 rfl (lv_at hl 0 rfl) ?_
  refine lv_iconst (v := 0) hx hb dX1_fleet_1 (by decide) ?_
  refine xm_putI (M := M) (k := 0) hx hb hts in_X1 hown hK hR hS (by decide) (hts _ q966) rfl rfl rfl rfl dX1_fleet_2 (fun H locs hR hS => ?_)
  obtain ⟨M_1, eM_1⟩ : ∃ z, z = (m1 M 0 0) := ⟨_, rfl⟩
  rw [← eM_1] at hR
  have hw := hw M_1 eM_1
  refine lv_iload_n hx hb dX1_fleet_5 rfl (lv_at hl 1 rfl) ?_
  refine xm_ci (va_runS (As := [.int x1]) (rest := []) ⟨hx, hb, hml, hown, hts⟩ (mt_X1_badWeather l hw) (va_cwS 1 hts (lw_S q1355 q1356 q65 q1357) rfl rfl rfl hd_X1_badWeather.2 ⟨Nat.le_of_ble_eq_true rfl, Nat.le_of_ble_eq_true rfl⟩) ⟨x_Pc_blind, x_Pc_pre hR hz hS hK⟩ rfl rfl hl.1 rfl (lv_room (Nat.le_of_ble_eq_true rfl)) dX1_fleet_6 ⟨Nat.le_refl _, Nat.le_refl _⟩) hS (fun r_2 M_3 H locs hp hR hS => ?_)
  have hw := hp.2
  rw [hp.1] at hR
  refine lv_if_eq (tgt := 15) hx hb dX1_fleet_9 (by decide) (fun c_4 => ?_) (fun c_4 => ?_)
  · have hw := x_t hw c_4
    refine lv_iconst (v := 0) hx hb dX1_fleet_15 (by decide) ?_
    refine lv_istore_n (lv' := [(2, .int 0), (0, .ref mo), (1, .int x1)]) hx hb dX1_fleet_16 rfl hl (by decide) rfl (fun ls hl => ?_)
    refine lv_iconst (v := 0) hx hb dX1_fleet_17 (by decide) ?_
    refine lv_istore_n (lv' := [(3, .int 0), (2, .int 0), (0, .ref mo), (1, .int x1)]) hx hb dX1_fleet_18 rfl hl (by decide) rfl (fun ls hl => ?_)
    refine x_lf2 (G := fun (x2_5 : Int32) (x3_6 : Int32) => ∀ (ls : Array Slot) (H : Heap) (locs : List Loc), x_Rp D d (x_A base) (x_mc d mo Aa M_1) S H → va_S (x_A base) s.heap H locs → lv_has ls 9 [(0, .ref mo), (1, .int x1), (2, .int x2_5), (3, .int x3_6)] → W p l e (x_rm 4 0 0 96) s m ([.ref mo, .int x1] : List Value).toArray below meth c H locs 0 0 (MQ below (xm_Qi D d base mo Aa S (fun r M' => Q r M')) ([.ref mo, .int x1] : List Value).toArray s 0 0 (x_A base)) (F0 m 19 ls [])) hw (fun x2_5 x3_6 hw => ?_) ls _ _ hR hS (lv_sub hl [2, 3, 1, 0] rfl)
    intro ls H locs hR hS hl
    refine lv_iload_n hx hb dX1_fleet_19 rfl (lv_at hl 3 rfl) ?_
    refine lv_aload_n hx hb dX1_fleet_20 rfl (lv_at hl 0 rfl) ?_
    refine xm_getI (k := 9) hx hb hts in_X1 hown hK hR (by decide) (hts _ q975) rfl dX1_fleet_21 ?_
    refine lv_icmp_ge (tgt := 51) hx hb dX1_fleet_24 (by decide) (fun c_8 => ?_) (fun c_8 => ?_)
    · have hw := x_t hw c_8
      refine lv_iconst (v := 0) hx hb dX1_fleet_51 (by decide) ?_
      refine lv_istore_n (lv' := [(3, .int 0), (0, .ref mo), (1, .int x1), (2, .int x2_5)]) hx hb dX1_fleet_52 rfl hl (by decide) rfl (fun ls hl => ?_)
      refine lv_iconst (v := 0) hx hb dX1_fleet_53 (by decide) ?_
      refine lv_istore (lv' := [(4, .int 0), (3, .int 0), (0, .ref mo), (1, .int x1), (2, .int x2_5)]) hx hb dX1_fleet_54 hl (by decide) rfl (fun ls hl => ?_)
      refine lv_iconst (v := 0) hx hb dX1_fleet_56 (by decide) ?_
      refine lv_istore (lv' := [(5, .int 0), (4, .int 0), (3, .int 0), (0, .ref mo), (1, .int x1), (2, .int x2_5)]) hx hb dX1_fleet_57 hl (by decide) rfl (fun ls hl => ?_)
      refine lv_iconst (v := 1) hx hb dX1_fleet_59 (by decide) ?_
      refine lv_istore (lv' := [(6, .int 1), (5, .int 0), (4, .int 0), (3, .int 0), (0, .ref mo), (1, .int x1), (2, .int x2_5)]) hx hb dX1_fleet_60 hl (by decide) rfl (fun ls hl => ?_)
      refine x_lf4 (G := fun (x3_9 : Int32) (x4_10 : Int32) (x5_11 : Int32) (x6_12 : Int32) => ∀ (ls : Array Slot) (H : Heap) (locs : List Loc), x_Rp D d (x_A base) (x_mc d mo Aa M_1) S H → va_S (x_A base) s.heap H locs → lv_has ls 9 [(0, .ref mo), (1, .int x1), (2, .int x2_5), (3, .int x3_9), (4, .int x4_10), (5, .int x5_11), (6, .int x6_12)] → W p l e (x_rm 4 0 0 96) s m ([.ref mo, .int x1] : List Value).toArray below meth c H locs 0 0 (MQ below (xm_Qi D d base mo Aa S (fun r M' => Q r M')) ([.ref mo, .int x1] : List Value).toArray s 0 0 (x_A base)) (F0 m 62 ls [])) hw (fun x3_9 x4_10 x5_11 x6_12 hw => ?_) ls _ _ hR hS (lv_sub hl [4, 5, 6, 3, 2, 1, 0] rfl)
      intro ls H locs hR hS hl
      refine lv_iload hx hb dX1_fleet_62 (lv_at hl 6 rfl) ?_
      refine lv_iconst (v := 1) hx hb dX1_fleet_64 (by decide) ?_
      refine lv_aload_n hx hb dX1_fleet_65 rfl (lv_at hl 0 rfl) ?_
      refine xm_getI (k := 9) hx hb hts in_X1 hown hK hR (by decide) (hts _ q975) rfl dX1_fleet_66 ?_
      refine lv_ishl hx hb dX1_fleet_69 ?_
      refine lv_icmp_ge (tgt := 174) hx hb dX1_fleet_70 (by decide) (fun c_14 => ?_) (fun c_14 => ?_)
      · have hw := x_t hw c_14
        refine lv_iload_n hx hb dX1_fleet_174 rfl (lv_at hl 3 rfl) ?_
        exact xm_ri hx hb hr hlocks hR hS dX1_fleet_175 hw
      · have hw := x_f hw c_14
        refine lv_iconst (v := 0) hx hb dX1_fleet_73 (by decide) ?_
        refine lv_istore (lv' := [(7, .int 0), (0, .ref mo), (1, .int x1), (2, .int x2_5), (3, .int x3_9), (4, .int x4_10), (5, .int x5_11), (6, .int x6_12)]) hx hb dX1_fleet_74 hl (by decide) rfl (fun ls hl => ?_)
        refine lv_iconst (v := 0) hx hb dX1_fleet_76 (by decide) ?_
        refine lv_istore (lv' := [(8, .int 0), (7, .int 0), (0, .ref mo), (1, .int x1), (2, .int x2_5), (3, .int x3_9), (4, .int x4_10), (5, .int x5_11), (6, .int x6_12)]) hx hb dX1_fleet_77 hl (by decide) rfl (fun ls hl => ?_)
        refine x_lf2 (G := fun (x7_15 : Int32) (x8_16 : Int32) => ∀ (ls : Array Slot) (H : Heap) (locs : List Loc), x_Rp D d (x_A base) (x_mc d mo Aa M_1) S H → va_S (x_A base) s.heap H locs → lv_has ls 9 [(0, .ref mo), (1, .int x1), (2, .int x2_5), (3, .int x3_9), (4, .int x4_10), (5, .int x5_11), (6, .int x6_12), (7, .int x7_15), (8, .int x8_16)] → W p l e (x_rm 4 0 0 96) s m ([.ref mo, .int x1] : List Value).toArray below meth c H locs 0 0 (MQ below (xm_Qi D d base mo Aa S (fun r M' => Q r M')) ([.ref mo, .int x1] : List Value).toArray s 0 0 (x_A base)) (F0 m 79 ls [])) hw (fun x7_15 x8_16 hw => ?_) ls _ _ hR hS (lv_sub hl [2, 3, 4, 5, 6, 7, 8, 1, 0] rfl)
        intro ls H locs hR hS hl
        refine lv_iload hx hb dX1_fleet_79 (lv_at hl 8 rfl) ?_
        refine lv_aload_n hx hb dX1_fleet_81 rfl (lv_at hl 0 rfl) ?_
        refine xm_getI (k := 9) hx hb hts in_X1 hown hK hR (by decide) (hts _ q975) rfl dX1_fleet_82 ?_
        refine lv_icmp_ge (tgt := 106) hx hb dX1_fleet_85 (by decide) (fun c_18 => ?_) (fun c_18 => ?_)
        · have hw := x_t hw c_18
          refine lv_iload hx hb dX1_fleet_106 (lv_at hl 6 rfl) ?_
          refine lv_iload_n hx hb dX1_fleet_108 rfl (lv_at hl 2 rfl) ?_
          refine lv_iconst (v := (-1)) hx hb dX1_fleet_109 (by decide) ?_
          refine lv_ixor hx hb dX1_fleet_110 ?_
          refine lv_iand hx hb dX1_fleet_111 ?_
          refine x_jn (G := fun (v0_19 : Int32) => ∀ (ls : Array Slot) (H : Heap) (locs : List Loc), x_Rp D d (x_A base) (x_mc d mo Aa M_1) S H → va_S (x_A base) s.heap H locs → lv_has ls 9 [(0, .ref mo), (1, .int x1), (2, .int x2_5), (3, .int x3_9), (4, .int x4_10), (5, .int x5_11), (6, .int x6_12), (7, .int x7_15)] → W p l e (x_rm 4 0 0 96) s m ([.ref mo, .int x1] : List Value).toArray below meth c H locs 0 0 (MQ below (xm_Qi D d base mo Aa S (fun r M' => Q r M')) ([.ref mo, .int x1] : List Value).toArray s 0 0 (x_A base)) (F0 m 134 ls [.int v0_19])) hw (fun v0_19 hw => ?_) (fun hJ_20 hw => ?_)
          · intro ls H locs hR hS hl
            refine lv_istore (lv' := [(8, .int v0_19), (0, .ref mo), (1, .int x1), (2, .int x2_5), (3, .int x3_9), (4, .int x4_10), (5, .int x5_11), (6, .int x6_12), (7, .int x7_15)]) hx hb dX1_fleet_134 hl (by decide) rfl (fun ls hl => ?_)
            refine lv_iload hx hb dX1_fleet_136 (lv_at hl 0 rfl) ?_
            refine lv_bipush (v := (-9)) hx hb dX1_fleet_138 (by decide) ?_
            refine x_jn3 (G := fun (x3_21 : Int32) (x4_22 : Int32) (x5_23 : Int32) => ∀ (ls : Array Slot) (H : Heap) (locs : List Loc), x_Rp D d (x_A base) (x_mc d mo Aa M_1) S H → va_S (x_A base) s.heap H locs → lv_has ls 9 [(0, .ref mo), (1, .int x1), (2, .int x2_5), (3, .int x3_21), (4, .int x4_22), (5, .int x5_23), (6, .int x6_12)] → W p l e (x_rm 4 0 0 96) s m ([.ref mo, .int x1] : List Value).toArray below meth c H locs 0 0 (MQ below (xm_Qi D d base mo Aa S (fun r M' => Q r M')) ([.ref mo, .int x1] : List Value).toArray s 0 0 (x_A base)) (F0 m 168 ls [])) hw (fun x3_21 x4_22 x5_23 hw => ?_) (fun hJ_24 hw => ?_)
            · intro ls H locs hR hS hl
              refine lv_iinc (v := (x6_12 + 1)) (lv' := [(6, .int (x6_12 + 1)), (0, .ref mo), (1, .int x1), (2, .int x2_5), (3, .int x3_21), (4, .int x4_22), (5, .int x5_23)]) hx hb dX1_fleet_168 hl (k := 6) rfl rfl (by decide) rfl (fun ls hl => ?_)
              refine lv_goto (tgt := 62) hx hb dX1_fleet_171 (by decide) ?_
              exact hw ls _ _ hR hS (lv_sub hl [1, 2, 3, 4, 5, 6, 0] rfl)
            · refine lv_icmp_eq (tgt := 168) hx hb dX1_fleet_140 (by decide) (fun c_25 => ?_) (fun c_25 => ?_)
              · have hw := x_t hw c_25
                exact hJ_24 x3_9 x4_10 x5_11 hw ls _ _ hR hS (lv_sub hl [1, 2, 3, 4, 5, 6, 7] rfl)
              · have hw := x_f hw c_25
                refine lv_iload hx hb dX1_fleet_143 (lv_at hl 8 rfl) ?_
                refine lv_iload hx hb dX1_fleet_145 (lv_at hl 5 rfl) ?_
                refine x_jn0 (G := ∀ (ls : Array Slot) (H : Heap) (locs : List Loc), x_Rp D d (x_A base) (x_mc d mo Aa M_1) S H → va_S (x_A base) s.heap H locs → lv_has ls 9 [(0, .ref mo), (1, .int x1), (2, .int x2_5), (6, .int x6_12), (7, .int x7_15), (8, .int v0_19)] → W p l e (x_rm 4 0 0 96) s m ([.ref mo, .int x1] : List Value).toArray below meth c H locs 0 0 (MQ below (xm_Qi D d base mo Aa S (fun r M' => Q r M')) ([.ref mo, .int x1] : List Value).toArray s 0 0 (x_A base)) (F0 m 157 ls [])) hw (fun hw => ?_) (fun hJ_26 hw => ?_)
                · intro ls H locs hR hS hl
                  refine lv_iload hx hb dX1_fleet_157 (lv_at hl 3 rfl) ?_
                  refine lv_istore_n (lv' := [(3, .int x6_12), (0, .ref mo), (1, .int x1), (2, .int x2_5), (6, .int x6_12), (7, .int x7_15), (8, .int v0_19)]) hx hb dX1_fleet_159 rfl hl (by decide) rfl (fun ls hl => ?_)
                  refine lv_iload hx hb dX1_fleet_160 (lv_at hl 5 rfl) ?_
                  refine lv_istore (lv' := [(4, .int x7_15), (3, .int x6_12), (0, .ref mo), (1, .int x1), (2, .int x2_5), (6, .int x6_12), (7, .int x7_15), (8, .int v0_19)]) hx hb dX1_fleet_162 hl (by decide) rfl (fun ls hl => ?_)
                  refine lv_iload hx hb dX1_fleet_164 (lv_at hl 7 rfl) ?_
                  refine lv_istore (lv' := [(5, .int v0_19), (4, .int x7_15), (3, .int x6_12), (0, .ref mo), (1, .int x1), (2, .int x2_5), (6, .int x6_12), (7, .int x7_15), (8, .int v0_19)]) hx hb dX1_fleet_166 hl (by decide) rfl (fun ls hl => ?_)
                  exact hJ_24 x6_12 x7_15 v0_19 hw ls _ _ hR hS (lv_sub hl [3, 4, 5, 2, 1, 0, 6] rfl)
                · refine lv_icmp_gt (tgt := 157) hx hb dX1_fleet_147 (by decide) (fun c_27 => ?_) (fun c_27 => ?_)
                  · have hw := x_t hw c_27
                    exact hJ_26  hw ls _ _ hR hS (lv_sub hl [1, 2, 3, 7, 8, 0] rfl)
                  · have hw := x_f hw c_27
                    refine lv_iload hx hb dX1_fleet_150 (lv_at hl 0 rfl) ?_
                    refine lv_iload hx hb dX1_fleet_152 (lv_at hl 6 rfl) ?_
                    refine lv_icmp_ge (tgt := 168) hx hb dX1_fleet_154 (by decide) (fun c_28 => ?_) (fun c_28 => ?_)
                    · have hw := x_t hw c_28
                      exact hJ_24 x3_9 x4_10 x5_11 hw ls _ _ hR hS (lv_sub hl [1, 2, 3, 4, 5, 6, 7] rfl)
                    · have hw := x_f hw c_28
                      exact hJ_26  hw ls _ _ hR hS (lv_sub hl [1, 2, 3, 7, 8, 0] rfl)
          · refine x_jn0 (G := ∀ (ls : Array Slot) (H : Heap) (locs : List Loc), x_Rp D d (x_A base) (x_mc d mo Aa M_1) S H → va_S (x_A base) s.heap H locs → lv_has ls 9 [(0, .ref mo), (1, .int x1), (2, .int x2_5), (3, .int x3_9), (4, .int x4_10), (5, .int x5_11), (6, .int x6_12), (7, .int x7_15)] → W p l e (x_rm 4 0 0 96) s m ([.ref mo, .int x1] : List Value).toArray below meth c H locs 0 0 (MQ below (xm_Qi D d base mo Aa S (fun r M' => Q r M')) ([.ref mo, .int x1] : List Value).toArray s 0 0 (x_A base)) (F0 m 132 ls [])) hw (fun hw => ?_) (fun hJ_29 hw => ?_)
            · intro ls H locs hR hS hl
              refine lv_bipush (v := (-9)) hx hb dX1_fleet_132 (by decide) ?_
              exact hJ_20 (-9) hw ls _ _ hR hS (lv_sub hl [0, 1, 2, 3, 4, 5, 6, 7] rfl)
            · refine lv_if_ne (tgt := 132) hx hb dX1_fleet_112 (by decide) (fun c_30 => ?_) (fun c_30 => ?_)
              · have hw := x_f hw c_30
                exact hJ_29  hw ls _ _ hR hS (lv_sub hl [0, 1, 2, 3, 4, 5, 6, 7] rfl)
              · have hw := x_t hw c_30
                refine lv_iload hx hb dX1_fleet_115 (lv_at hl 7 rfl) ?_
                refine lv_iload hx hb dX1_fleet_117 (lv_at hl 4 rfl) ?_
                refine lv_icmp_lt (tgt := 132) hx hb dX1_fleet_119 (by decide) (fun c_31 => ?_) (fun c_31 => ?_)
                · have hw := x_t hw c_31
                  exact hJ_29  hw ls _ _ hR hS (lv_sub hl [0, 1, 2, 3, 4, 5, 6, 7] rfl)
                · have hw := x_f hw c_31
                  refine lv_aload_n hx hb dX1_fleet_122 rfl (lv_at hl 0 rfl) ?_
                  refine lv_iload hx hb dX1_fleet_123 (lv_at hl 6 rfl) ?_
                  refine lv_iload_n hx hb dX1_fleet_125 rfl (lv_at hl 1 rfl) ?_
                  refine xm_ci (va_runV (As := [.int x6_12, .int x1]) (rest := []) ⟨hx, hb, hml, hown, hts⟩ (mt_X1_fewest l hw) (cwV 2 hts (lw_V q1382 q1384 qs60 q65 q1385) rfl rfl rfl hd_X1_fewest ⟨Nat.le_of_ble_eq_true rfl, Nat.le_of_ble_eq_true rfl⟩) ⟨x_Pc_blind, xm_recv hR hK, x_Pc_pre hR hz hS hK⟩ rfl rfl hl.1 rfl (lv_room (Nat.le_of_ble_eq_true rfl)) dX1_fleet_126 ⟨Nat.le_refl _, Nat.le_refl _⟩) hS (fun r_32 M_33 H locs hp hR hS => ?_)
                  have hw := hp.2
                  rw [hp.1] at hR
                  refine lv_goto (tgt := 134) hx hb dX1_fleet_129 (by decide) ?_
                  exact hJ_20 r_32 hw ls _ _ hR hS (lv_sub hl [0, 1, 2, 3, 4, 5, 6, 7] rfl)
        · have hw := x_f hw c_18
          refine lv_iload hx hb dX1_fleet_88 (lv_at hl 7 rfl) ?_
          refine lv_iload hx hb dX1_fleet_90 (lv_at hl 6 rfl) ?_
          refine lv_iload hx hb dX1_fleet_92 (lv_at hl 8 rfl) ?_
          refine lv_ishr hx hb dX1_fleet_94 ?_
          refine lv_iconst (v := 1) hx hb dX1_fleet_95 (by decide) ?_
          refine lv_iand hx hb dX1_fleet_96 ?_
          refine lv_iadd hx hb dX1_fleet_97 ?_
          refine lv_topi (fun x7_34 ex7_34 => ?_)
          have hw := hw x7_34 ex7_34
          refine lv_istore (lv' := [(7, .int x7_34), (0, .ref mo), (1, .int x1), (2, .int x2_5), (3, .int x3_9), (4, .int x4_10), (5, .int x5_11), (6, .int x6_12), (8, .int x8_16)]) hx hb dX1_fleet_98 hl (by decide) rfl (fun ls hl => ?_)
          refine lv_iinc (v := (x8_16 + 1)) (lv' := [(8, .int (x8_16 + 1)), (7, .int x7_34), (0, .ref mo), (1, .int x1), (2, .int x2_5), (3, .int x3_9), (4, .int x4_10), (5, .int x5_11), (6, .int x6_12)]) hx hb dX1_fleet_100 hl (k := 8) rfl rfl (by decide) rfl (fun ls hl => ?_)
          refine lv_goto (tgt := 79) hx hb dX1_fleet_103 (by decide) ?_
          exact hw ls _ _ hR hS (lv_sub hl [2, 3, 4, 5, 6, 7, 8, 1, 0] rfl)
    · have hw := x_f hw c_8
      refine lv_iload_n hx hb dX1_fleet_27 rfl (lv_at hl 2 rfl) ?_
      refine lv_aload_n hx hb dX1_fleet_28 rfl (lv_at hl 0 rfl) ?_
      refine lv_iload_n hx hb dX1_fleet_29 rfl (lv_at hl 3 rfl) ?_
      refine xm_ci (va_runV (As := [.int x3_6]) (rest := [.int x2_5]) ⟨hx, hb, hml, hown, hts⟩ (mt_X1_mayGo l hw) (cwV 1 hts (lw_V q1378 q1380 qs59 q65 q1381) rfl rfl rfl hd_X1_mayGo ⟨Nat.le_of_ble_eq_true rfl, Nat.le_of_ble_eq_true rfl⟩) ⟨x_Pc_blind, xm_recv hR hK, x_Pc_pre hR hz hS hK⟩ rfl rfl hl.1 rfl (lv_room (Nat.le_of_ble_eq_true rfl)) dX1_fleet_30 ⟨Nat.le_refl _, Nat.le_refl _⟩) hS (fun r_35 M_36 H locs hp hR hS => ?_)
      have hw := hp.2
      rw [hp.1] at hR
      refine x_jn (G := fun (v1_37 : Int32) => ∀ (ls : Array Slot) (H : Heap) (locs : List Loc), x_Rp D d (x_A base) (x_mc d mo Aa M_1) S H → va_S (x_A base) s.heap H locs → lv_has ls 9 [(0, .ref mo), (1, .int x1), (3, .int x3_6)] → W p l e (x_rm 4 0 0 96) s m ([.ref mo, .int x1] : List Value).toArray below meth c H locs 0 0 (MQ below (xm_Qi D d base mo Aa S (fun r M' => Q r M')) ([.ref mo, .int x1] : List Value).toArray s 0 0 (x_A base)) (F0 m 43 ls [.int v1_37, .int x2_5])) hw (fun v1_37 hw => ?_) (fun hJ_38 hw => ?_)
      · intro ls H locs hR hS hl
        refine lv_ior hx hb dX1_fleet_43 ?_
        refine lv_topi (fun x2_39 ex2_39 => ?_)
        have hw := hw x2_39 ex2_39
        refine lv_istore_n (lv' := [(2, .int x2_39), (0, .ref mo), (1, .int x1), (3, .int x3_6)]) hx hb dX1_fleet_44 rfl hl (by decide) rfl (fun ls hl => ?_)
        refine lv_iinc (v := (x3_6 + 1)) (lv' := [(3, .int (x3_6 + 1)), (2, .int x2_39), (0, .ref mo), (1, .int x1)]) hx hb dX1_fleet_45 hl (k := 3) rfl rfl (by decide) rfl (fun ls hl => ?_)
        refine lv_goto (tgt := 19) hx hb dX1_fleet_48 (by decide) ?_
        exact hw ls _ _ hR hS (lv_sub hl [2, 3, 1, 0] rfl)
      · refine lv_if_eq (tgt := 42) hx hb dX1_fleet_33 (by decide) (fun c_40 => ?_) (fun c_40 => ?_)
        · have hw := x_t hw c_40
          refine lv_iconst (v := 0) hx hb dX1_fleet_42 (by decide) ?_
          exact hJ_38 0 hw ls _ _ hR hS (lv_sub hl [0, 1, 3] rfl)
        · have hw := x_f hw c_40
          refine lv_iconst (v := 1) hx hb dX1_fleet_36 (by decide) ?_
          refine lv_iload_n hx hb dX1_fleet_37 rfl (lv_at hl 3 rfl) ?_
          refine lv_ishl hx hb dX1_fleet_38 ?_
          refine lv_goto (tgt := 43) hx hb dX1_fleet_39 (by decide) ?_
          exact hJ_38 (1 <<< (x3_6 &&& 31)) hw ls _ _ hR hS (lv_sub hl [0, 1, 3] rfl)
  · have hw := x_f hw c_4
    refine lv_bipush (v := (-2)) hx hb dX1_fleet_12 (by decide) ?_
    exact xm_ri hx hb hr hlocks hR hS dX1_fleet_14 hw
def w_X1_sail (M : xM) (x1 : Int32) (Q : Int32 → xM → Prop) : Prop := nm (m1 M 0 0) (fun M_1 : xM => w_X1_noShip M_1 x1 (fun (r_2 : Int32) => wif (r_2 = 0) (vp_in x1 10 ∧ wif ((M2 M_1 14 (Int32.toNatClampNeg x1)) = 0) (w_X1_many M_1 (10 + x1) (fun (r_6 : Int32) => vp_in x1 10 ∧ wif (r_6 < (M2 M_1 11 (Int32.toNatClampNeg x1))) (Q (-3) M_1) (w_X1_skilled M_1 (10 + x1) (fun (r_9 : Int32) => vp_in x1 10 ∧ wif ((M2 M_1 12 (Int32.toNatClampNeg x1)) ≤ r_9) (vp_in x1 10 ∧ nm (m2 M_1 14 (Int32.toNatClampNeg x1) 1) (fun M_12 : xM => w_X1_many M_12 (10 + x1) (fun (r_13 : Int32) => Q r_13 M_12))) (Q (-3) M_1))))) (Q (-3) M_1)) (Q (-1) M_1)))
theorem hd_X1_sail : yX1_sail.cls = "PressedMenModel" ∧ yX1_sail.cls ≠ "java/lang/invoke/MethodHandle" ∧ yX1_sail.cls ≠ "java/lang/invoke/VarHandle" ∧ (parseMethodDescriptor yX1_sail.desc).map (fun d => d.parameters.length) = some 1 := by decide +kernel
set_option maxHeartbeats 4000000 in
theorem mt_X1_sail (l : Launch) {D : va_G} {d : Nat → ClassId} {base : Nat} {mo : Nat} {Aa : Nat → Nat} {M : xM} {S : xH} {x1 : Int32} {Q : Int32 → xM → Prop} (hw : w_X1_sail M x1 Q) : Met l yX1_sail (ws_ yX1_sail cX1_sail 2 (some FieldType.int)) (x_rm 2 0 0 46) (x_Pc D d base (x_mc d mo Aa M) S [.ref mo, .int x1]) (xm_Qi D d base mo Aa S (fun r M' => Q r M')) 0 0 (x_A base) := by
  refine x_met (by decide) (Nat.le_of_ble_eq_true rfl) ?_
  intro p e s m below meth c hx hb hml hr hlocks hown hts hz hR hK hin ls hl
  have hown : s.vm.findClass "PressedMenModel" = some m.cls := hown
  have hl : lv_has ls 2 [(0, .ref mo), (1, .int x1)] := hl
  have hS : va_S (x_A base) s.heap s.heap [] := va_S.rf
  unfold w_X1_sail at hw
  refine lv_aload_n hx hb dX1_sail_0 rfl (lv_at hl 0 rfl) ?_
  refine lv_iconst (v := 0) hx hb dX1_sail_1 (by decide) ?_
  refine xm_putI (M := M) (k := 0) hx hb hts in_X1 hown hK hR hS (by decide) (hts _ q966) rfl rfl rfl rfl dX1_sail_2 (fun H locs hR hS => ?_)
  obtain ⟨M_1, eM_1⟩ : ∃ z, z = (m1 M 0 0) := ⟨_, rfl⟩
  rw [← eM_1] at hR
  have hw := hw M_1 eM_1
  refine lv_aload_n hx hb dX1_sail_5 rfl (lv_at hl 0 rfl) ?_
  refine lv_iload_n hx hb dX1_sail_6 rfl (lv_at hl 1 rfl) ?_
  refine xm_ci (va_runV (As := [.int x1]) (rest := []) ⟨hx, hb, hml, hown, hts⟩ (mt_X1_noShip l hw) (cwV 1 hts (lw_V q1343 q1345 qs56 q65 q1346) rfl rfl rfl hd_X1_noShip ⟨Nat.le_of_ble_eq_true rfl, Nat.le_of_ble_eq_true rfl⟩) ⟨x_Pc_blind, xm_recv hR hK, x_Pc_pre hR hz hS hK⟩ rfl rfl hl.1 rfl (lv_room (Nat.le_of_ble_eq_true rfl)) dX1_sail_7 ⟨Nat.le_refl _, Nat.le_refl _⟩) hS (fun r_2 M_3 H locs hp hR hS => ?_)
  have hw := hp.2
  rw [hp.1] at hR
  refine lv_if_eq (tgt := 15) hx hb dX1_sail_10 (by decide) (fun c_4 => ?_) (fun c_4 => ?_)
  · have hw := x_t hw c_4
    refine lv_aload_n hx hb dX1_sail_15 rfl (lv_at hl 0 rfl) ?_
    refine xm_getA (k := 14) hx hb hts in_X1 hown hK hR (by decide) (hts _ q980) rfl dX1_sail_16 ?_
    refine lv_iload_n hx hb dX1_sail_19 rfl (lv_at hl 1 rfl) ?_
    refine xm_zld (M := M_1) (k := 14) (j := 9) hx hb hK hR dX1_sail_20 rfl hw.1 ?_
    have hw := hw.2
    refine lv_if_ne (tgt := 58) hx hb dX1_sail_21 (by decide) (fun c_5 => ?_) (fun c_5 => ?_)
    · have hw := x_f hw c_5
      refine lv_bipush (v := (-3)) hx hb dX1_sail_58 (by decide) ?_
      exact xm_ri hx hb hr hlocks hR hS dX1_sail_60 hw
    · have hw := x_t hw c_5
      refine lv_aload_n hx hb dX1_sail_24 rfl (lv_at hl 0 rfl) ?_
      refine lv_bipush (v := 10) hx hb dX1_sail_25 (by decide) ?_
      refine lv_iload_n hx hb dX1_sail_27 rfl (lv_at hl 1 rfl) ?_
      refine lv_iadd hx hb dX1_sail_28 ?_
      refine xm_ci (va_runV (As := [.int (10 + x1)]) (rest := []) ⟨hx, hb, hml, hown, hts⟩ (mt_X1_many l hw) (cwV 1 hts (lw_V q1142 q1144 qs39 q65 q1145) rfl rfl rfl hd_X1_many ⟨Nat.le_of_ble_eq_true rfl, Nat.le_of_ble_eq_true rfl⟩) ⟨x_Pc_blind, xm_recv hR hK, x_Pc_pre hR hz hS hK⟩ rfl rfl hl.1 rfl (lv_room (Nat.le_of_ble_eq_true rfl)) dX1_sail_29 ⟨Nat.le_refl _, Nat.le_refl _⟩) hS (fun r_6 M_7 H locs hp hR hS => ?_)
      have hw := hp.2
      rw [hp.1] at hR
      refine lv_aload_n hx hb dX1_sail_32 rfl (lv_at hl 0 rfl) ?_
      refine xm_getA (k := 11) hx hb hts in_X1 hown hK hR (by decide) (hts _ q977) rfl dX1_sail_33 ?_
      refine lv_iload_n hx hb dX1_sail_36 rfl (lv_at hl 1 rfl) ?_
      refine xm_ild (M := M_1) (k := 11) (j := 6) hx hb hK hR dX1_sail_37 rfl hw.1 ?_
      have hw := hw.2
      refine lv_icmp_lt (tgt := 58) hx hb dX1_sail_38 (by decide) (fun c_8 => ?_) (fun c_8 => ?_)
      · have hw := x_t hw c_8
        refine lv_bipush (v := (-3)) hx hb dX1_sail_58 (by decide) ?_
        exact xm_ri hx hb hr hlocks hR hS dX1_sail_60 hw
      · have hw := x_f hw c_8
        refine lv_aload_n hx hb dX1_sail_41 rfl (lv_at hl 0 rfl) ?_
        refine lv_bipush (v := 10) hx hb dX1_sail_42 (by decide) ?_
        refine lv_iload_n hx hb dX1_sail_44 rfl (lv_at hl 1 rfl) ?_
        refine lv_iadd hx hb dX1_sail_45 ?_
        refine xm_ci (va_runV (As := [.int (10 + x1)]) (rest := []) ⟨hx, hb, hml, hown, hts⟩ (mt_X1_skilled l hw) (cwV 1 hts (lw_V q1347 q1349 qs57 q65 q1350) rfl rfl rfl hd_X1_skilled ⟨Nat.le_of_ble_eq_true rfl, Nat.le_of_ble_eq_true rfl⟩) ⟨x_Pc_blind, xm_recv hR hK, x_Pc_pre hR hz hS hK⟩ rfl rfl hl.1 rfl (lv_room (Nat.le_of_ble_eq_true rfl)) dX1_sail_46 ⟨Nat.le_refl _, Nat.le_refl _⟩) hS (fun r_9 M_10 H locs hp hR hS => ?_)
        have hw := hp.2
        rw [hp.1] at hR
        refine lv_aload_n hx hb dX1_sail_49 rfl (lv_at hl 0 rfl) ?_
        refine xm_getA (k := 12) hx hb hts in_X1 hown hK hR (by decide) (hts _ q978) rfl dX1_sail_50 ?_
        refine lv_iload_n hx hb dX1_sail_53 rfl (lv_at hl 1 rfl) ?_
        refine xm_ild (M := M_1) (k := 12) (j := 7) hx hb hK hR dX1_sail_54 rfl hw.1 ?_
        have hw := hw.2
        refine lv_icmp_ge (tgt := 61) hx hb dX1_sail_55 (by decide) (fun c_11 => ?_) (fun c_11 => ?_)
        · have hw := x_t hw c_11
          refine lv_aload_n hx hb dX1_sail_61 rfl (lv_at hl 0 rfl) ?_
          refine xm_getA (k := 14) hx hb hts in_X1 hown hK hR (by decide) (hts _ q980) rfl dX1_sail_62 ?_
          refine lv_iload_n hx hb dX1_sail_65 rfl (lv_at hl 1 rfl) ?_
          refine lv_iconst (v := 1) hx hb dX1_sail_66 (by decide) ?_
          refine xm_zst (M := M_1) (k := 14) (j := 9) hx hb hK hR hS dX1_sail_67 rfl hw.1 (Or.inr rfl) (fun H locs hR hS => ?_)
          have hw := hw.2
          obtain ⟨M_12, eM_12⟩ : ∃ z, z = (m2 M_1 14 (Int32.toNatClampNeg x1) 1) := ⟨_, rfl⟩
          rw [← eM_12] at hR
          have hw := hw M_12 eM_12
          refine lv_aload_n hx hb dX1_sail_68 rfl (lv_at hl 0 rfl) ?_
          refine lv_bipush (v := 10) hx hb dX1_sail_69 (by decide) ?_
          refine lv_iload_n hx hb dX1_sail_71 rfl (lv_at hl 1 rfl) ?_
          refine lv_iadd hx hb dX1_sail_72 ?_
          refine xm_ci (va_runV (As := [.int (10 + x1)]) (rest := []) ⟨hx, hb, hml, hown, hts⟩ (mt_X1_many l hw) (cwV 1 hts (lw_V q1142 q1144 qs39 q65 q1145) rfl rfl rfl hd_X1_many ⟨Nat.le_of_ble_eq_true rfl, Nat.le_of_ble_eq_true rfl⟩) ⟨x_Pc_blind, xm_recv hR hK, x_Pc_pre hR hz hS hK⟩ rfl rfl hl.1 rfl (lv_room (Nat.le_of_ble_eq_true rfl)) dX1_sail_73 ⟨Nat.le_refl _, Nat.le_refl _⟩) hS (fun r_13 M_14 H locs hp hR hS => ?_)
          have hw := hp.2
          rw [hp.1] at hR
          exact xm_ri hx hb hr hlocks hR hS dX1_sail_76 hw
        · have hw := x_f hw c_11
          refine lv_bipush (v := (-3)) hx hb dX1_sail_58 (by decide) ?_
          exact xm_ri hx hb hr hlocks hR hS dX1_sail_60 hw
  · have hw := x_f hw c_4
    refine lv_iconst (v := (-1)) hx hb dX1_sail_13 (by decide) ?_
    exact xm_ri hx hb hr hlocks hR hS dX1_sail_14 hw
def w_X1_comeHome (M : xM) (x1 : Int32) (Q : Int32 → xM → Prop) : Prop := nm (m1 M 0 0) (fun M_1 : xM => w_X1_noShip M_1 x1 (fun (r_2 : Int32) => wif (r_2 = 0) (vp_in x1 10 ∧ wif ((M2 M_1 14 (Int32.toNatClampNeg x1)) = 0) (Q (-3) M_1) (vp_in x1 10 ∧ nm (m2 M_1 14 (Int32.toNatClampNeg x1) 0) (fun M_6 : xM => w_X1_many M_6 (10 + x1) (fun (r_7 : Int32) => Q r_7 M_6)))) (Q (-1) M_1)))
theorem hd_X1_comeHome : yX1_comeHome.cls = "PressedMenModel" ∧ yX1_comeHome.cls ≠ "java/lang/invoke/MethodHandle" ∧ yX1_comeHome.cls ≠ "java/lang/invoke/VarHandle" ∧ (parseMethodDescriptor yX1_comeHome.desc).map (fun d => d.parameters.length) = some 1 := by decide +kernel
set_option maxHeartbeats 4000000 in
theorem mt_X1_comeHome (l : Launch) {D : va_G} {d : Nat → ClassId} {base : Nat} {mo : Nat} {Aa : Nat → Nat} {M : xM} {S : xH} {x1 : Int32} {Q : Int32 → xM → Prop} (hw : w_X1_comeHome M x1 Q) : Met l yX1_comeHome (ws_ yX1_comeHome cX1_comeHome 2 (some FieldType.int)) (x_rm 2 0 0 46) (x_Pc D d base (x_mc d mo Aa M) S [.ref mo, .int x1]) (xm_Qi D d base mo Aa S (fun r M' => Q r M')) 0 0 (x_A base) := by
  refine x_met (by decide) (Nat.le_of_ble_eq_true rfl) ?_
  intro p e s m below meth c hx hb hml hr hlocks hown hts hz hR hK hin ls hl
  have hown : s.vm.findClass "PressedMenModel" = some m.cls := hown
  have hl : lv_has ls 2 [(0, .ref mo), (1, .int x1)] := hl
  have hS : va_S (x_A base) s.heap s.heap [] := va_S.rf
  unfold w_X1_comeHome at hw
  refine lv_aload_n hx hb dX1_comeHome_0 rfl (lv_at hl 0 rfl) ?_
  refine lv_iconst (v := 0) hx hb dX1_comeHome_1 (by decide) ?_
  refine xm_putI (M := M) (k := 0) hx hb hts in_X1 hown hK hR hS (by decide) (hts _ q966) rfl rfl rfl rfl dX1_comeHome_2 (fun H locs hR hS => ?_)
  obtain ⟨M_1, eM_1⟩ : ∃ z, z = (m1 M 0 0) := ⟨_, rfl⟩
  rw [← eM_1] at hR
  have hw := hw M_1 eM_1
  refine lv_aload_n hx hb dX1_comeHome_5 rfl (lv_at hl 0 rfl) ?_
  refine lv_iload_n hx hb dX1_comeHome_6 rfl (lv_at hl 1 rfl) ?_
  refine xm_ci (va_runV (As := [.int x1]) (rest := []) ⟨hx, hb, hml, hown, hts⟩ (mt_X1_noShip l hw) (cwV 1 hts (lw_V q1343 q1345 qs56 q65 q1346) rfl rfl rfl hd_X1_noShip ⟨Nat.le_of_ble_eq_true rfl, Nat.le_of_ble_eq_true rfl⟩) ⟨x_Pc_blind, xm_recv hR hK, x_Pc_pre hR hz hS hK⟩ rfl rfl hl.1 rfl (lv_room (Nat.le_of_ble_eq_true rfl)) dX1_comeHome_7 ⟨Nat.le_refl _, Nat.le_refl _⟩) hS (fun r_2 M_3 H locs hp hR hS => ?_)
  have hw := hp.2
  rw [hp.1] at hR
  refine lv_if_eq (tgt := 15) hx hb dX1_comeHome_10 (by decide) (fun c_4 => ?_) (fun c_4 => ?_)
  · have hw := x_t hw c_4
    refine lv_aload_n hx hb dX1_comeHome_15 rfl (lv_at hl 0 rfl) ?_
    refine xm_getA (k := 14) hx hb hts in_X1 hown hK hR (by decide) (hts _ q980) rfl dX1_comeHome_16 ?_
    refine lv_iload_n hx hb dX1_comeHome_19 rfl (lv_at hl 1 rfl) ?_
    refine xm_zld (M := M_1) (k := 14) (j := 9) hx hb hK hR dX1_comeHome_20 rfl hw.1 ?_
    have hw := hw.2
    refine lv_if_ne (tgt := 27) hx hb dX1_comeHome_21 (by decide) (fun c_5 => ?_) (fun c_5 => ?_)
    · have hw := x_f hw c_5
      refine lv_aload_n hx hb dX1_comeHome_27 rfl (lv_at hl 0 rfl) ?_
      refine xm_getA (k := 14) hx hb hts in_X1 hown hK hR (by decide) (hts _ q980) rfl dX1_comeHome_28 ?_
      refine lv_iload_n hx hb dX1_comeHome_31 rfl (lv_at hl 1 rfl) ?_
      refine lv_iconst (v := 0) hx hb dX1_comeHome_32 (by decide) ?_
      refine xm_zst (M := M_1) (k := 14) (j := 9) hx hb hK hR hS dX1_comeHome_33 rfl hw.1 (Or.inl rfl) (fun H locs hR hS => ?_)
      have hw := hw.2
      obtain ⟨M_6, eM_6⟩ : ∃ z, z = (m2 M_1 14 (Int32.toNatClampNeg x1) 0) := ⟨_, rfl⟩
      rw [← eM_6] at hR
      have hw := hw M_6 eM_6
      refine lv_aload_n hx hb dX1_comeHome_34 rfl (lv_at hl 0 rfl) ?_
      refine lv_bipush (v := 10) hx hb dX1_comeHome_35 (by decide) ?_
      refine lv_iload_n hx hb dX1_comeHome_37 rfl (lv_at hl 1 rfl) ?_
      refine lv_iadd hx hb dX1_comeHome_38 ?_
      refine xm_ci (va_runV (As := [.int (10 + x1)]) (rest := []) ⟨hx, hb, hml, hown, hts⟩ (mt_X1_many l hw) (cwV 1 hts (lw_V q1142 q1144 qs39 q65 q1145) rfl rfl rfl hd_X1_many ⟨Nat.le_of_ble_eq_true rfl, Nat.le_of_ble_eq_true rfl⟩) ⟨x_Pc_blind, xm_recv hR hK, x_Pc_pre hR hz hS hK⟩ rfl rfl hl.1 rfl (lv_room (Nat.le_of_ble_eq_true rfl)) dX1_comeHome_39 ⟨Nat.le_refl _, Nat.le_refl _⟩) hS (fun r_7 M_8 H locs hp hR hS => ?_)
      have hw := hp.2
      rw [hp.1] at hR
      exact xm_ri hx hb hr hlocks hR hS dX1_comeHome_42 hw
    · have hw := x_t hw c_5
      refine lv_bipush (v := (-3)) hx hb dX1_comeHome_24 (by decide) ?_
      exact xm_ri hx hb hr hlocks hR hS dX1_comeHome_26 hw
  · have hw := x_f hw c_4
    refine lv_iconst (v := (-1)) hx hb dX1_comeHome_13 (by decide) ?_
    exact xm_ri hx hb hr hlocks hR hS dX1_comeHome_14 hw
