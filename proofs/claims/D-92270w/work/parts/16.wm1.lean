set_option maxRecDepth 100000
def w_X1_in (M : xM) (x0 : Int64) (x2 : Int64) (x4 : Int64) (Q : Int32 → Prop) : Prop := wif ((lg_cmp x0 x2) < 0) (Q 0) (wif (0 < (lg_cmp x0 x4)) (Q 0) (Q 1))
theorem hd_X1_in : yX1_in.cls = "PressedMenModel" ∧ yX1_in.cls ≠ "java/lang/invoke/MethodHandle" ∧ yX1_in.cls ≠ "java/lang/invoke/VarHandle" ∧ (parseMethodDescriptor yX1_in.desc).map (fun d => d.parameters.length) = some 3 := by decide +kernel
set_option maxHeartbeats 4000000 in
theorem mt_X1_in (l : Launch) {D : va_G} {d : Nat → ClassId} {base : Nat} {mo : Nat} {Aa : Nat → Nat} {M : xM} {S : xH} {x0 : Int64} {x2 : Int64} {x4 : Int64} {Q : Int32 → Prop} (hw : w_X1_in M x0 x2 x4 Q) : Met l yX1_in (ws_ yX1_in cX1_in 6 (some FieldType.boolean)) (x_rm 0 0 0 0) (x_Pc D d base (x_mc d mo Aa M) S [.long x0, .long x2, .long x4]) (xm_Qi D d base mo Aa S (fun r M' => M' = M ∧ Q r)) 0 0 (x_A base) := by
  refine x_met (by decide) (Nat.le_of_ble_eq_true rfl) ?_
  intro p e s m below meth c hx hb hml hr hlocks hown hts hz hR hK hin ls hl
  have hown : s.vm.findClass "PressedMenModel" = some m.cls := hown
  have hl : lv_has ls 6 [(0, .long x0), (2, .long x2), (4, .long x4)] := hl
  have hS : va_S (x_A base) s.heap s.heap [] := va_S.rf
  unfold w_X1_in at hw
  refine lv_lload_n hx hb dX1_in_0 rfl (lv_at hl 0 rfl) ?_
  refine lv_lload_n hx hb dX1_in_1 rfl (lv_at hl 1 rfl) ?_
  refine W.lcmp hx hb dX1_in_2 ?_
  refine lv_if_lt (tgt := 17) hx hb dX1_in_3 (by decide) (fun c_1 => ?_) (fun c_1 => ?_)
  · have hw := x_t hw c_1
    refine lv_iconst (v := 0) hx hb dX1_in_17 (by decide) ?_
    exact xm_rz hx hb hr hlocks hR hS dX1_in_18 (Or.inl rfl) ⟨rfl, hw⟩
  · have hw := x_f hw c_1
    refine lv_lload_n hx hb dX1_in_6 rfl (lv_at hl 0 rfl) ?_
    refine lv_lload hx hb dX1_in_7 (lv_at hl 2 rfl) ?_
    refine W.lcmp hx hb dX1_in_9 ?_
    refine lv_if_gt (tgt := 17) hx hb dX1_in_10 (by decide) (fun c_2 => ?_) (fun c_2 => ?_)
    · have hw := x_t hw c_2
      refine lv_iconst (v := 0) hx hb dX1_in_17 (by decide) ?_
      exact xm_rz hx hb hr hlocks hR hS dX1_in_18 (Or.inl rfl) ⟨rfl, hw⟩
    · have hw := x_f hw c_2
      refine lv_iconst (v := 1) hx hb dX1_in_13 (by decide) ?_
      refine lv_goto (tgt := 18) hx hb dX1_in_14 (by decide) ?_
      exact xm_rz hx hb hr hlocks hR hS dX1_in_18 (Or.inr rfl) ⟨rfl, hw⟩
def w_X1_streets (M : xM) (x1 : Int32) (Q : Int32 → xM → Prop) : Prop := nm (m1 M 0 0) (fun M_1 : xM => w_X1_in M_1 (Int32.toInt64 x1) 1 8 (fun (r_2 : Int32) => wif (r_2 = 0) (Q (-2) M_1) (wif ((M1 M_1 5) ≤ 0) (nm (M1 M_1 1) (fun x2_6 : Int32 => nm (m1 M_1 1 x1) (fun M_7 : xM => lf2 (fun L_10 (x3_8 : Int32) (M_9 : xM) => wif (8 ≤ x3_8) (Q x2_6 M_9) (lf2 (fun L_14 (x4_12 : Int32) (M_13 : xM) => wif (8 ≤ x4_12) (L_10 (x3_8 + 1) M_13) (vp_in ((8 * x3_8) + x4_12) 64 ∧ jn (fun (v2_16 : Int32) => vp_in ((8 * x3_8) + x4_12) 64 ∧ x_B v2_16 ∧ nm (m2 M_13 2 (Int32.toNatClampNeg ((8 * x3_8) + x4_12)) v2_16) (fun M_18 : xM => L_14 (x4_12 + 1) M_18)) (fun J_17 => jn0 (J_17 0) (fun J_19 => wif ((M2 M_13 2 (Int32.toNatClampNeg ((8 * x3_8) + x4_12))) = 0) (J_19) (wif (x1 ≤ x3_8) (J_19) (wif (x1 ≤ x4_12) (J_19) (J_17 1))))))) 0 M_9)) 0 M_7))) (Q (-3) M_1))))
theorem hd_X1_streets : yX1_streets.cls = "PressedMenModel" ∧ yX1_streets.cls ≠ "java/lang/invoke/MethodHandle" ∧ yX1_streets.cls ≠ "java/lang/invoke/VarHandle" ∧ (parseMethodDescriptor yX1_streets.desc).map (fun d => d.parameters.length) = some 1 := by decide +kernel
set_option maxHeartbeats 4000000 in
theorem mt_X1_streets (l : Launch) {D : va_G} {d : Nat → ClassId} {base : Nat} {mo : Nat} {Aa : Nat → Nat} {M : xM} {S : xH} {x1 : Int32} {Q : Int32 → xM → Prop} (hw : w_X1_streets M x1 Q) : Met l yX1_streets (ws_ yX1_streets cX1_streets 5 (some FieldType.int)) (x_rm 1 0 0 25) (x_Pc D d base (x_mc d mo Aa M) S [.ref mo, .int x1]) (xm_Qi D d base mo Aa S (fun r M' => Q r M')) 0 0 (x_A base) := by
  refine x_met (by decide) (Nat.le_of_ble_eq_true rfl) ?_
  intro p e s m below meth c hx hb hml hr hlocks hown hts hz hR hK hin ls hl
  have hown : s.vm.findClass "PressedMenModel" = some m.cls := hown
  have hl : lv_has ls 5 [(0, .ref mo), (1, .int x1)] := hl
  have hS : va_S (x_A base) s.heap s.heap [] := va_S.rf
  unfold w_X1_streets at hw
  refine lv_aload_n hx hb dX1_streets_0 rfl (lv_at hl 0 rfl) ?_
  refine lv_iconst (v := 0) hx hb dX1_streets_1 (by decide) ?_
  refine xm_putI (M := M) (k := 0) hx hb hts in_X1 hown hK hR hS (by decide) (hts _ q966) rfl rfl rfl rfl dX1_streets_2 (fun H locs hR hS => ?_)
  obtain ⟨M_1, eM_1⟩ : ∃ z, z = (m1 M 0 0) := ⟨_, rfl⟩
  rw [← eM_1] at hR
  have hw := hw M_1 eM_1
  refine lv_iload_n hx hb dX1_streets_5 rfl (lv_at hl 1 rfl) ?_
  refine lv_i2l (v := (Int32.toInt64 x1)) hx hb dX1_streets_6 rfl ?_
  refine lv_lconst (v := 1) hx hb dX1_streets_7 (by decide) ?_
  refine lv_ldc2 (v := 8) hx hb hown (hts _ q1088) dX1_streets_8 ?_
  refine xm_ci (va_runS (As := [.long (Int32.toInt64 x1), .long 1, .long 8]) (rest := []) ⟨hx, hb, hml, hown, hts⟩ (mt_X1_in l hw) (va_cwS 3 hts (lw_S q1089 q1090 q65 q1091) rfl rfl rfl hd_X1_in.2 ⟨Nat.le_of_ble_eq_true rfl, Nat.le_of_ble_eq_true rfl⟩) ⟨x_Pc_blind, x_Pc_pre hR hz hS hK⟩ rfl rfl hl.1 rfl (lv_room (Nat.le_of_ble_eq_true rfl)) dX1_streets_11 ⟨Nat.le_refl _, Nat.le_refl _⟩) hS (fun r_2 M_3 H locs hp hR hS => ?_)
  have hw := hp.2
  rw [hp.1] at hR
  refine lv_if_ne (tgt := 20) hx hb dX1_streets_14 (by decide) (fun c_4 => ?_) (fun c_4 => ?_)
  · have hw := x_f hw c_4
    refine lv_aload_n hx hb dX1_streets_20 rfl (lv_at hl 0 rfl) ?_
    refine xm_getI (k := 5) hx hb hts in_X1 hown hK hR (by decide) (hts _ q971) rfl dX1_streets_21 ?_
    refine lv_if_le (tgt := 30) hx hb dX1_streets_24 (by decide) (fun c_5 => ?_) (fun c_5 => ?_)
    · have hw := x_t hw c_5
      refine lv_aload_n hx hb dX1_streets_30 rfl (lv_at hl 0 rfl) ?_
      refine xm_getI (k := 1) hx hb hts in_X1 hown hK hR (by decide) (hts _ q967) rfl dX1_streets_31 ?_
      refine lv_topi (fun x2_6 ex2_6 => ?_)
      have hw := hw x2_6 ex2_6
      refine lv_istore_n (lv' := [(2, .int x2_6), (0, .ref mo), (1, .int x1)]) hx hb dX1_streets_34 rfl hl (by decide) rfl (fun ls hl => ?_)
      refine lv_aload_n hx hb dX1_streets_35 rfl (lv_at hl 1 rfl) ?_
      refine lv_iload_n hx hb dX1_streets_36 rfl (lv_at hl 2 rfl) ?_
      refine xm_putI (M := M_1) (k := 1) hx hb hts in_X1 hown hK hR hS (by decide) (hts _ q967) rfl rfl rfl rfl dX1_streets_37 (fun H locs hR hS => ?_)
      obtain ⟨M_7, eM_7⟩ : ∃ z, z = (m1 M_1 1 x1) := ⟨_, rfl⟩
      rw [← eM_7] at hR
      have hw := hw M_7 eM_7
      refine lv_iconst (v := 0) hx hb dX1_streets_40 (by decide) ?_
      refine lv_istore_n (lv' := [(3, .int 0), (2, .int x2_6), (0, .ref mo), (1, .int x1)]) hx hb dX1_streets_41 rfl hl (by decide) rfl (fun ls hl => ?_)
      refine x_lf2 (G := fun (x3_8 : Int32) (M_9 : xM) => ∀ (ls : Array Slot) (H : Heap) (locs : List Loc), x_Rp D d (x_A base) (x_mc d mo Aa M_9) S H → va_S (x_A base) s.heap H locs → lv_has ls 5 [(0, .ref mo), (1, .int x1), (2, .int x2_6), (3, .int x3_8)] → W p l e (x_rm 1 0 0 25) s m ([.ref mo, .int x1] : List Value).toArray below meth c H locs 0 0 (MQ below (xm_Qi D d base mo Aa S (fun r M' => Q r M')) ([.ref mo, .int x1] : List Value).toArray s 0 0 (x_A base)) (F0 m 42 ls [])) hw (fun x3_8 M_9 hw => ?_) ls _ _ hR hS (lv_sub hl [2, 3, 1, 0] rfl)
      intro ls H locs hR hS hl
      refine lv_iload_n hx hb dX1_streets_42 rfl (lv_at hl 3 rfl) ?_
      refine lv_bipush (v := 8) hx hb dX1_streets_43 (by decide) ?_
      refine lv_icmp_ge (tgt := 113) hx hb dX1_streets_45 (by decide) (fun c_11 => ?_) (fun c_11 => ?_)
      · have hw := x_t hw c_11
        refine lv_iload_n hx hb dX1_streets_113 rfl (lv_at hl 2 rfl) ?_
        exact xm_ri hx hb hr hlocks hR hS dX1_streets_114 hw
      · have hw := x_f hw c_11
        refine lv_iconst (v := 0) hx hb dX1_streets_48 (by decide) ?_
        refine lv_istore (lv' := [(4, .int 0), (0, .ref mo), (1, .int x1), (2, .int x2_6), (3, .int x3_8)]) hx hb dX1_streets_49 hl (by decide) rfl (fun ls hl => ?_)
        refine x_lf2 (G := fun (x4_12 : Int32) (M_13 : xM) => ∀ (ls : Array Slot) (H : Heap) (locs : List Loc), x_Rp D d (x_A base) (x_mc d mo Aa M_13) S H → va_S (x_A base) s.heap H locs → lv_has ls 5 [(0, .ref mo), (1, .int x1), (2, .int x2_6), (3, .int x3_8), (4, .int x4_12)] → W p l e (x_rm 1 0 0 25) s m ([.ref mo, .int x1] : List Value).toArray below meth c H locs 0 0 (MQ below (xm_Qi D d base mo Aa S (fun r M' => Q r M')) ([.ref mo, .int x1] : List Value).toArray s 0 0 (x_A base)) (F0 m 51 ls [])) hw (fun x4_12 M_13 hw => ?_) ls _ _ hR hS (lv_sub hl [1, 2, 3, 4, 0] rfl)
        intro ls H locs hR hS hl
        refine lv_iload hx hb dX1_streets_51 (lv_at hl 4 rfl) ?_
        refine lv_bipush (v := 8) hx hb dX1_streets_53 (by decide) ?_
        refine lv_icmp_ge (tgt := 107) hx hb dX1_streets_55 (by decide) (fun c_15 => ?_) (fun c_15 => ?_)
        · have hw := x_t hw c_15
          refine lv_iinc (v := (x3_8 + 1)) (lv' := [(3, .int (x3_8 + 1)), (0, .ref mo), (1, .int x1), (2, .int x2_6), (4, .int x4_12)]) hx hb dX1_streets_107 hl (k := 3) rfl rfl (by decide) rfl (fun ls hl => ?_)
          refine lv_goto (tgt := 42) hx hb dX1_streets_110 (by decide) ?_
          exact hw ls _ _ hR hS (lv_sub hl [1, 2, 3, 0] rfl)
        · have hw := x_f hw c_15
          refine lv_aload_n hx hb dX1_streets_58 rfl (lv_at hl 0 rfl) ?_
          refine xm_getA (k := 2) hx hb hts in_X1 hown hK hR (by decide) (hts _ q968) rfl dX1_streets_59 ?_
          refine lv_bipush (v := 8) hx hb dX1_streets_62 (by decide) ?_
          refine lv_iload_n hx hb dX1_streets_64 rfl (lv_at hl 3 rfl) ?_
          refine lv_imul hx hb dX1_streets_65 ?_
          refine lv_iload hx hb dX1_streets_66 (lv_at hl 4 rfl) ?_
          refine lv_iadd hx hb dX1_streets_68 ?_
          refine lv_aload_n hx hb dX1_streets_69 rfl (lv_at hl 0 rfl) ?_
          refine xm_getA (k := 2) hx hb hts in_X1 hown hK hR (by decide) (hts _ q968) rfl dX1_streets_70 ?_
          refine lv_bipush (v := 8) hx hb dX1_streets_73 (by decide) ?_
          refine lv_iload_n hx hb dX1_streets_75 rfl (lv_at hl 3 rfl) ?_
          refine lv_imul hx hb dX1_streets_76 ?_
          refine lv_iload hx hb dX1_streets_77 (lv_at hl 4 rfl) ?_
          refine lv_iadd hx hb dX1_streets_79 ?_
          refine xm_zld (M := M_13) (k := 2) (j := 0) hx hb hK hR dX1_streets_80 rfl hw.1 ?_
          have hw := hw.2
          refine x_jn (G := fun (v2_16 : Int32) => ∀ (ls : Array Slot) (H : Heap) (locs : List Loc), x_Rp D d (x_A base) (x_mc d mo Aa M_13) S H → va_S (x_A base) s.heap H locs → lv_has ls 5 [(0, .ref mo), (1, .int x1), (2, .int x2_6), (3, .int x3_8), (4, .int x4_12)] → W p l e (x_rm 1 0 0 25) s m ([.ref mo, .int x1] : List Value).toArray below meth c H locs 0 0 (MQ below (xm_Qi D d base mo Aa S (fun r M' => Q r M')) ([.ref mo, .int x1] : List Value).toArray s 0 0 (x_A base)) (F0 m 100 ls [.int v2_16, .int ((8 * x3_8) + x4_12), .ref (Aa 2)])) hw (fun v2_16 hw => ?_) (fun hJ_17 hw => ?_)
          · intro ls H locs hR hS hl
            refine xm_zst (M := M_13) (k := 2) (j := 0) hx hb hK hR hS dX1_streets_100 rfl hw.1 hw.2.1 (fun H locs hR hS => ?_)
            have hw := hw.2.2
            obtain ⟨M_18, eM_18⟩ : ∃ z, z = (m2 M_13 2 (Int32.toNatClampNeg ((8 * x3_8) + x4_12)) v2_16) := ⟨_, rfl⟩
            rw [← eM_18] at hR
            have hw := hw M_18 eM_18
            refine lv_iinc (v := (x4_12 + 1)) (lv' := [(4, .int (x4_12 + 1)), (0, .ref mo), (1, .int x1), (2, .int x2_6), (3, .int x3_8)]) hx hb dX1_streets_101 hl (k := 4) rfl rfl (by decide) rfl (fun ls hl => ?_)
            refine lv_goto (tgt := 51) hx hb dX1_streets_104 (by decide) ?_
            exact hw ls _ _ hR hS (lv_sub hl [1, 2, 3, 4, 0] rfl)
          · refine x_jn0 (G := ∀ (ls : Array Slot) (H : Heap) (locs : List Loc), x_Rp D d (x_A base) (x_mc d mo Aa M_13) S H → va_S (x_A base) s.heap H locs → lv_has ls 5 [(0, .ref mo), (1, .int x1), (2, .int x2_6), (3, .int x3_8), (4, .int x4_12)] → W p l e (x_rm 1 0 0 25) s m ([.ref mo, .int x1] : List Value).toArray below meth c H locs 0 0 (MQ below (xm_Qi D d base mo Aa S (fun r M' => Q r M')) ([.ref mo, .int x1] : List Value).toArray s 0 0 (x_A base)) (F0 m 99 ls [.int ((8 * x3_8) + x4_12), .ref (Aa 2)])) hw (fun hw => ?_) (fun hJ_19 hw => ?_)
            · intro ls H locs hR hS hl
              refine lv_iconst (v := 0) hx hb dX1_streets_99 (by decide) ?_
              exact hJ_17 0 hw ls _ _ hR hS (lv_sub hl [0, 1, 2, 3, 4] rfl)
            · refine lv_if_eq (tgt := 99) hx hb dX1_streets_81 (by decide) (fun c_20 => ?_) (fun c_20 => ?_)
              · have hw := x_t hw c_20
                exact hJ_19  hw ls _ _ hR hS (lv_sub hl [0, 1, 2, 3, 4] rfl)
              · have hw := x_f hw c_20
                refine lv_iload_n hx hb dX1_streets_84 rfl (lv_at hl 3 rfl) ?_
                refine lv_iload_n hx hb dX1_streets_85 rfl (lv_at hl 1 rfl) ?_
                refine lv_icmp_ge (tgt := 99) hx hb dX1_streets_86 (by decide) (fun c_21 => ?_) (fun c_21 => ?_)
                · have hw := x_t hw c_21
                  exact hJ_19  hw ls _ _ hR hS (lv_sub hl [0, 1, 2, 3, 4] rfl)
                · have hw := x_f hw c_21
                  refine lv_iload hx hb dX1_streets_89 (lv_at hl 4 rfl) ?_
                  refine lv_iload_n hx hb dX1_streets_91 rfl (lv_at hl 1 rfl) ?_
                  refine lv_icmp_ge (tgt := 99) hx hb dX1_streets_92 (by decide) (fun c_22 => ?_) (fun c_22 => ?_)
                  · have hw := x_t hw c_22
                    exact hJ_19  hw ls _ _ hR hS (lv_sub hl [0, 1, 2, 3, 4] rfl)
                  · have hw := x_f hw c_22
                    refine lv_iconst (v := 1) hx hb dX1_streets_95 (by decide) ?_
                    refine lv_goto (tgt := 100) hx hb dX1_streets_96 (by decide) ?_
                    exact hJ_17 1 hw ls _ _ hR hS (lv_sub hl [0, 1, 2, 3, 4] rfl)
    · have hw := x_f hw c_5
      refine lv_bipush (v := (-3)) hx hb dX1_streets_27 (by decide) ?_
      exact xm_ri hx hb hr hlocks hR hS dX1_streets_29 hw
  · have hw := x_t hw c_4
    refine lv_bipush (v := (-2)) hx hb dX1_streets_17 (by decide) ?_
    exact xm_ri hx hb hr hlocks hR hS dX1_streets_19 hw
def w_X1_noStreet (M : xM) (x1 : Int32) (Q : Int32 → Prop) : Prop := w_X1_in M (Int32.toInt64 x1) 0 (Int32.toInt64 ((M1 M 1) - 1)) (fun (r_1 : Int32) => wif (r_1 = 0) (Q 1) (Q 0))
theorem hd_X1_noStreet : yX1_noStreet.cls = "PressedMenModel" ∧ yX1_noStreet.cls ≠ "java/lang/invoke/MethodHandle" ∧ yX1_noStreet.cls ≠ "java/lang/invoke/VarHandle" ∧ (parseMethodDescriptor yX1_noStreet.desc).map (fun d => d.parameters.length) = some 1 := by decide +kernel
set_option maxHeartbeats 4000000 in
theorem mt_X1_noStreet (l : Launch) {D : va_G} {d : Nat → ClassId} {base : Nat} {mo : Nat} {Aa : Nat → Nat} {M : xM} {S : xH} {x1 : Int32} {Q : Int32 → Prop} (hw : w_X1_noStreet M x1 Q) : Met l yX1_noStreet (ws_ yX1_noStreet cX1_noStreet 2 (some FieldType.boolean)) (x_rm 1 0 0 25) (x_Pc D d base (x_mc d mo Aa M) S [.ref mo, .int x1]) (xm_Qi D d base mo Aa S (fun r M' => M' = M ∧ Q r)) 0 0 (x_A base) := by
  refine x_met (by decide) (Nat.le_of_ble_eq_true rfl) ?_
  intro p e s m below meth c hx hb hml hr hlocks hown hts hz hR hK hin ls hl
  have hown : s.vm.findClass "PressedMenModel" = some m.cls := hown
  have hl : lv_has ls 2 [(0, .ref mo), (1, .int x1)] := hl
  have hS : va_S (x_A base) s.heap s.heap [] := va_S.rf
  unfold w_X1_noStreet at hw
  refine lv_iload_n hx hb dX1_noStreet_0 rfl (lv_at hl 1 rfl) ?_
  refine lv_i2l (v := (Int32.toInt64 x1)) hx hb dX1_noStreet_1 rfl ?_
  refine lv_lconst (v := 0) hx hb dX1_noStreet_2 (by decide) ?_
  refine lv_aload_n hx hb dX1_noStreet_3 rfl (lv_at hl 0 rfl) ?_
  refine xm_getI (k := 1) hx hb hts in_X1 hown hK hR (by decide) (hts _ q967) rfl dX1_noStreet_4 ?_
  refine lv_iconst (v := 1) hx hb dX1_noStreet_7 (by decide) ?_
  refine lv_isub hx hb dX1_noStreet_8 ?_
  refine lv_i2l (v := (Int32.toInt64 ((M1 M 1) - 1))) hx hb dX1_noStreet_9 rfl ?_
  refine xm_ci (va_runS (As := [.long (Int32.toInt64 x1), .long 0, .long (Int32.toInt64 ((M1 M 1) - 1))]) (rest := []) ⟨hx, hb, hml, hown, hts⟩ (mt_X1_in l hw) (va_cwS 3 hts (lw_S q1089 q1090 q65 q1091) rfl rfl rfl hd_X1_in.2 ⟨Nat.le_of_ble_eq_true rfl, Nat.le_of_ble_eq_true rfl⟩) ⟨x_Pc_blind, x_Pc_pre hR hz hS hK⟩ rfl rfl hl.1 rfl (lv_room (Nat.le_of_ble_eq_true rfl)) dX1_noStreet_10 ⟨Nat.le_refl _, Nat.le_refl _⟩) hS (fun r_1 M_2 H locs hp hR hS => ?_)
  have hw := hp.2
  rw [hp.1] at hR
  refine lv_if_ne (tgt := 20) hx hb dX1_noStreet_13 (by decide) (fun c_3 => ?_) (fun c_3 => ?_)
  · have hw := x_f hw c_3
    refine lv_iconst (v := 0) hx hb dX1_noStreet_20 (by decide) ?_
    exact xm_rz hx hb hr hlocks hR hS dX1_noStreet_21 (Or.inl rfl) ⟨rfl, hw⟩
  · have hw := x_t hw c_3
    refine lv_iconst (v := 1) hx hb dX1_noStreet_16 (by decide) ?_
    refine lv_goto (tgt := 21) hx hb dX1_noStreet_17 (by decide) ?_
    exact xm_rz hx hb hr hlocks hR hS dX1_noStreet_21 (Or.inr rfl) ⟨rfl, hw⟩
def w_X1_way (M : xM) (x1 : Int32) (x2 : Int32) (x3 : Int32) (Q : Int32 → xM → Prop) : Prop := nm (m1 M 0 0) (fun M_1 : xM => w_X1_noStreet M_1 x1 (fun (r_2 : Int32) => wif (r_2 = 0) (w_X1_noStreet M_1 x2 (fun (r_5 : Int32) => wif (r_5 = 0) (wif (x1 = x2) (Q (-2) M_1) (vp_in ((8 * x1) + x2) 64 ∧ jn (fun (v0_9 : Int32) => vp_in ((8 * x1) + x2) 64 ∧ x_B x3 ∧ nm (m2 M_1 2 (Int32.toNatClampNeg ((8 * x1) + x2)) x3) (fun M_11 : xM => vp_in ((8 * x2) + x1) 64 ∧ x_B x3 ∧ nm (m2 M_11 2 (Int32.toNatClampNeg ((8 * x2) + x1)) x3) (fun M_12 : xM => Q v0_9 M_12))) (fun J_10 => wif ((M2 M_1 2 (Int32.toNatClampNeg ((8 * x1) + x2))) = 0) (J_10 0) (J_10 1)))) (Q (-1) M_1))) (Q (-1) M_1)))
theorem hd_X1_way : yX1_way.cls = "PressedMenModel" ∧ yX1_way.cls ≠ "java/lang/invoke/MethodHandle" ∧ yX1_way.cls ≠ "java/lang/invoke/VarHandle" ∧ (parseMethodDescriptor yX1_way.desc).map (fun d => d.parameters.length) = some 3 := by decide +kernel
set_option maxHeartbeats 4000000 in
theorem mt_X1_way (l : Launch) {D : va_G} {d : Nat → ClassId} {base : Nat} {mo : Nat} {Aa : Nat → Nat} {M : xM} {S : xH} {x1 : Int32} {x2 : Int32} {x3 : Int32} {Q : Int32 → xM → Prop} (hw : w_X1_way M x1 x2 x3 Q) : Met l yX1_way (ws_ yX1_way cX1_way 5 (some FieldType.int)) (x_rm 2 0 0 46) (x_Pc D d base (x_mc d mo Aa M) S [.ref mo, .int x1, .int x2, .int x3]) (xm_Qi D d base mo Aa S (fun r M' => Q r M')) 0 0 (x_A base) := by
  refine x_met (by decide) (Nat.le_of_ble_eq_true rfl) ?_
  intro p e s m below meth c hx hb hml hr hlocks hown hts hz hR hK hin ls hl
  have hown : s.vm.findClass "PressedMenModel" = some m.cls := hown
  have hl : lv_has ls 5 [(0, .ref mo), (1, .int x1), (2, .int x2), (3, .int x3)] := hl
  have hS : va_S (x_A base) s.heap s.heap [] := va_S.rf
  unfold w_X1_way at hw
  refine lv_aload_n hx hb dX1_way_0 rfl (lv_at hl 0 rfl) ?_
  refine lv_iconst (v := 0) hx hb dX1_way_1 (by decide) ?_
  refine xm_putI (M := M) (k := 0) hx hb hts in_X1 hown hK hR hS (by decide) (hts _ q966) rfl rfl rfl rfl dX1_way_2 (fun H locs hR hS => ?_)
  obtain ⟨M_1, eM_1⟩ : ∃ z, z = (m1 M 0 0) := ⟨_, rfl⟩
  rw [← eM_1] at hR
  have hw := hw M_1 eM_1
  refine lv_aload_n hx hb dX1_way_5 rfl (lv_at hl 0 rfl) ?_
  refine lv_iload_n hx hb dX1_way_6 rfl (lv_at hl 1 rfl) ?_
  refine xm_ci (va_runV (As := [.int x1]) (rest := []) ⟨hx, hb, hml, hown, hts⟩ (mt_X1_noStreet l hw) (cwV 1 hts (lw_V q1096 q1098 qs36 q65 q1099) rfl rfl rfl hd_X1_noStreet ⟨Nat.le_of_ble_eq_true rfl, Nat.le_of_ble_eq_true rfl⟩) ⟨x_Pc_blind, xm_recv hR hK, x_Pc_pre hR hz hS hK⟩ rfl rfl hl.1 rfl (lv_room (Nat.le_of_ble_eq_true rfl)) dX1_way_7 ⟨Nat.le_refl _, Nat.le_refl _⟩) hS (fun r_2 M_3 H locs hp hR hS => ?_)
  have hw := hp.2
  rw [hp.1] at hR
  refine lv_if_ne (tgt := 21) hx hb dX1_way_10 (by decide) (fun c_4 => ?_) (fun c_4 => ?_)
  · have hw := x_f hw c_4
    refine lv_iconst (v := (-1)) hx hb dX1_way_21 (by decide) ?_
    exact xm_ri hx hb hr hlocks hR hS dX1_way_22 hw
  · have hw := x_t hw c_4
    refine lv_aload_n hx hb dX1_way_13 rfl (lv_at hl 0 rfl) ?_
    refine lv_iload_n hx hb dX1_way_14 rfl (lv_at hl 2 rfl) ?_
    refine xm_ci (va_runV (As := [.int x2]) (rest := []) ⟨hx, hb, hml, hown, hts⟩ (mt_X1_noStreet l hw) (cwV 1 hts (lw_V q1096 q1098 qs36 q65 q1099) rfl rfl rfl hd_X1_noStreet ⟨Nat.le_of_ble_eq_true rfl, Nat.le_of_ble_eq_true rfl⟩) ⟨x_Pc_blind, xm_recv hR hK, x_Pc_pre hR hz hS hK⟩ rfl rfl hl.1 rfl (lv_room (Nat.le_of_ble_eq_true rfl)) dX1_way_15 ⟨Nat.le_refl _, Nat.le_refl _⟩) hS (fun r_5 M_6 H locs hp hR hS => ?_)
    have hw := hp.2
    rw [hp.1] at hR
    refine lv_if_eq (tgt := 23) hx hb dX1_way_18 (by decide) (fun c_7 => ?_) (fun c_7 => ?_)
    · have hw := x_t hw c_7
      refine lv_iload_n hx hb dX1_way_23 rfl (lv_at hl 1 rfl) ?_
      refine lv_iload_n hx hb dX1_way_24 rfl (lv_at hl 2 rfl) ?_
      refine lv_icmp_ne (tgt := 31) hx hb dX1_way_25 (by decide) (fun c_8 => ?_) (fun c_8 => ?_)
      · have hw := x_f hw c_8
        refine lv_aload_n hx hb dX1_way_31 rfl (lv_at hl 0 rfl) ?_
        refine xm_getA (k := 2) hx hb hts in_X1 hown hK hR (by decide) (hts _ q968) rfl dX1_way_32 ?_
        refine lv_bipush (v := 8) hx hb dX1_way_35 (by decide) ?_
        refine lv_iload_n hx hb dX1_way_37 rfl (lv_at hl 1 rfl) ?_
        refine lv_imul hx hb dX1_way_38 ?_
        refine lv_iload_n hx hb dX1_way_39 rfl (lv_at hl 2 rfl) ?_
        refine lv_iadd hx hb dX1_way_40 ?_
        refine xm_zld (M := M_1) (k := 2) (j := 0) hx hb hK hR dX1_way_41 rfl hw.1 ?_
        have hw := hw.2
        refine x_jn (G := fun (v0_9 : Int32) => ∀ (ls : Array Slot) (H : Heap) (locs : List Loc), x_Rp D d (x_A base) (x_mc d mo Aa M_1) S H → va_S (x_A base) s.heap H locs → lv_has ls 5 [(0, .ref mo), (1, .int x1), (2, .int x2), (3, .int x3)] → W p l e (x_rm 2 0 0 46) s m ([.ref mo, .int x1, .int x2, .int x3] : List Value).toArray below meth c H locs 0 0 (MQ below (xm_Qi D d base mo Aa S (fun r M' => Q r M')) ([.ref mo, .int x1, .int x2, .int x3] : List Value).toArray s 0 0 (x_A base)) (F0 m 50 ls [.int v0_9])) hw (fun v0_9 hw => ?_) (fun hJ_10 hw => ?_)
        · intro ls H locs hR hS hl
          refine lv_istore (lv' := [(4, .int v0_9), (0, .ref mo), (1, .int x1), (2, .int x2), (3, .int x3)]) hx hb dX1_way_50 hl (by decide) rfl (fun ls hl => ?_)
          refine lv_aload_n hx hb dX1_way_52 rfl (lv_at hl 1 rfl) ?_
          refine xm_getA (k := 2) hx hb hts in_X1 hown hK hR (by decide) (hts _ q968) rfl dX1_way_53 ?_
          refine lv_bipush (v := 8) hx hb dX1_way_56 (by decide) ?_
          refine lv_iload_n hx hb dX1_way_58 rfl (lv_at hl 2 rfl) ?_
          refine lv_imul hx hb dX1_way_59 ?_
          refine lv_iload_n hx hb dX1_way_60 rfl (lv_at hl 3 rfl) ?_
          refine lv_iadd hx hb dX1_way_61 ?_
          refine lv_iload_n hx hb dX1_way_62 rfl (lv_at hl 4 rfl) ?_
          refine xm_zst (M := M_1) (k := 2) (j := 0) hx hb hK hR hS dX1_way_63 rfl hw.1 hw.2.1 (fun H locs hR hS => ?_)
          have hw := hw.2.2
          obtain ⟨M_11, eM_11⟩ : ∃ z, z = (m2 M_1 2 (Int32.toNatClampNeg ((8 * x1) + x2)) x3) := ⟨_, rfl⟩
          rw [← eM_11] at hR
          have hw := hw M_11 eM_11
          refine lv_aload_n hx hb dX1_way_64 rfl (lv_at hl 1 rfl) ?_
          refine xm_getA (k := 2) hx hb hts in_X1 hown hK hR (by decide) (hts _ q968) rfl dX1_way_65 ?_
          refine lv_bipush (v := 8) hx hb dX1_way_68 (by decide) ?_
          refine lv_iload_n hx hb dX1_way_70 rfl (lv_at hl 3 rfl) ?_
          refine lv_imul hx hb dX1_way_71 ?_
          refine lv_iload_n hx hb dX1_way_72 rfl (lv_at hl 2 rfl) ?_
          refine lv_iadd hx hb dX1_way_73 ?_
          refine lv_iload_n hx hb dX1_way_74 rfl (lv_at hl 4 rfl) ?_
          refine xm_zst (M := M_11) (k := 2) (j := 0) hx hb hK hR hS dX1_way_75 rfl hw.1 hw.2.1 (fun H locs hR hS => ?_)
          have hw := hw.2.2
          obtain ⟨M_12, eM_12⟩ : ∃ z, z = (m2 M_11 2 (Int32.toNatClampNeg ((8 * x2) + x1)) x3) := ⟨_, rfl⟩
          rw [← eM_12] at hR
          have hw := hw M_12 eM_12
          refine lv_iload hx hb dX1_way_76 (lv_at hl 0 rfl) ?_
          exact xm_ri hx hb hr hlocks hR hS dX1_way_78 hw
        · refine lv_if_eq (tgt := 49) hx hb dX1_way_42 (by decide) (fun c_13 => ?_) (fun c_13 => ?_)
          · have hw := x_t hw c_13
            refine lv_iconst (v := 0) hx hb dX1_way_49 (by decide) ?_
            exact hJ_10 0 hw ls _ _ hR hS (lv_sub hl [0, 1, 2, 3] rfl)
          · have hw := x_f hw c_13
            refine lv_iconst (v := 1) hx hb dX1_way_45 (by decide) ?_
            refine lv_goto (tgt := 50) hx hb dX1_way_46 (by decide) ?_
            exact hJ_10 1 hw ls _ _ hR hS (lv_sub hl [0, 1, 2, 3] rfl)
      · have hw := x_t hw c_8
        refine lv_bipush (v := (-2)) hx hb dX1_way_28 (by decide) ?_
        exact xm_ri hx hb hr hlocks hR hS dX1_way_30 hw
    · have hw := x_f hw c_7
      refine lv_iconst (v := (-1)) hx hb dX1_way_21 (by decide) ?_
      exact xm_ri hx hb hr hlocks hR hS dX1_way_22 hw
def w_X1_measure (M : xM) (Q : xM → Prop) : Prop := lf2 (fun L_3 (x1_1 : Int32) (M_2 : xM) => wif (64 ≤ x1_1) (lf2 (fun L_7 (x1_5 : Int32) (M_6 : xM) => wif (8 ≤ x1_5) (Q M_6) (lf2 (fun L_11 (x2_9 : Int32) (M_10 : xM) => wif (8 ≤ x2_9) (L_7 (x1_5 + 1) M_10) (lf2 (fun L_15 (x3_13 : Int32) (M_14 : xM) => wif (8 ≤ x3_13) (L_11 (x2_9 + 1) M_14) (vp_in ((8 * x2_9) + x1_5) 64 ∧ vp_in ((8 * x1_5) + x3_13) 64 ∧ nm ((M2 M_14 3 (Int32.toNatClampNeg ((8 * x2_9) + x1_5))) + (M2 M_14 3 (Int32.toNatClampNeg ((8 * x1_5) + x3_13)))) (fun x4_17 : Int32 => vp_in ((8 * x2_9) + x3_13) 64 ∧ jn (fun (v2_18 : Int32) => vp_in ((8 * x2_9) + x3_13) 64 ∧ nm (m2 M_14 3 (Int32.toNatClampNeg ((8 * x2_9) + x3_13)) v2_18) (fun M_20 : xM => L_15 (x3_13 + 1) M_20)) (fun J_19 => wif ((M2 M_14 3 (Int32.toNatClampNeg ((8 * x2_9) + x3_13))) ≤ x4_17) (vp_in ((8 * x2_9) + x3_13) 64 ∧ J_19 (M2 M_14 3 (Int32.toNatClampNeg ((8 * x2_9) + x3_13)))) (J_19 x4_17))))) 0 M_10)) 0 M_6)) 0 M_2) (jn (fun (v2_22 : Int32) => vp_in x1_1 64 ∧ nm (m2 M_2 3 (Int32.toNatClampNeg x1_1) v2_22) (fun M_24 : xM => L_3 (x1_1 + 1) M_24)) (fun J_23 => wif ((x1_1 / 8) = (x1_1 - x1_1 / 8 * 8)) (J_23 0) (vp_in x1_1 64 ∧ wif ((M2 M_2 2 (Int32.toNatClampNeg x1_1)) = 0) (J_23 100) (J_23 1))))) 0 M
theorem hd_X1_measure : yX1_measure.cls = "PressedMenModel" ∧ yX1_measure.cls ≠ "java/lang/invoke/MethodHandle" ∧ yX1_measure.cls ≠ "java/lang/invoke/VarHandle" ∧ (parseMethodDescriptor yX1_measure.desc).map (fun d => d.parameters.length) = some 0 := by decide +kernel
set_option maxHeartbeats 4000000 in
theorem mt_X1_measure (l : Launch) {D : va_G} {d : Nat → ClassId} {base : Nat} {mo : Nat} {Aa : Nat → Nat} {M : xM} {S : xH} {Q : xM → Prop} (hw : w_X1_measure M Q) : Met l yX1_measure (ws_ yX1_measure cX1_measure 5 none) (x_rm 0 0 0 0) (x_Pc D d base (x_mc d mo Aa M) S [.ref mo]) (xm_Qv D d base mo Aa S (fun M' => Q M')) 0 0 (x_A base) := by
  refine x_met (by decide) (Nat.le_of_ble_eq_true rfl) ?_
  intro p e s m below meth c hx hb hml hr hlocks hown hts hz hR hK hin ls hl
  have hown : s.vm.findClass "PressedMenModel" = some m.cls := hown
  have hl : lv_has ls 5 [(0, .ref mo)] := hl
  have hS : va_S (x_A base) s.heap s.heap [] := va_S.rf
  unfold w_X1_measure at hw
  refine lv_iconst (v := 0) hx hb dX1_measure_0 (by decide) ?_
  refine lv_istore_n (lv' := [(1, .int 0), (0, .ref mo)]) hx hb dX1_measure_1 rfl hl (by decide) rfl (fun ls hl => ?_)
  refine x_lf2 (G := fun (x1_1 : Int32) (M_2 : xM) => ∀ (ls : Array Slot) (H : Heap) (locs : List Loc), x_Rp D d (x_A base) (x_mc d mo Aa M_2) S H → va_S (x_A base) s.heap H locs → lv_has ls 5 [(0, .ref mo), (1, .int x1_1)] → W p l e (x_rm 0 0 0 0) s m ([.ref mo] : List Value).toArray below meth c H locs 0 0 (MQ below (xm_Qv D d base mo Aa S (fun M' => Q M')) ([.ref mo] : List Value).toArray s 0 0 (x_A base)) (F0 m 2 ls [])) hw (fun x1_1 M_2 hw => ?_) ls _ _ hR hS (lv_sub hl [1, 0] rfl)
  intro ls H locs hR hS hl
  refine lv_iload_n hx hb dX1_measure_2 rfl (lv_at hl 1 rfl) ?_
  refine lv_bipush (v := 64) hx hb dX1_measure_3 (by decide) ?_
  refine lv_icmp_ge (tgt := 50) hx hb dX1_measure_5 (by decide) (fun c_4 => ?_) (fun c_4 => ?_)
  · have hw := x_t hw c_4
    refine lv_iconst (v := 0) hx hb dX1_measure_50 (by decide) ?_
    refine lv_istore_n (lv' := [(1, .int 0), (0, .ref mo)]) hx hb dX1_measure_51 rfl hl (by decide) rfl (fun ls hl => ?_)
    refine x_lf2 (G := fun (x1_5 : Int32) (M_6 : xM) => ∀ (ls : Array Slot) (H : Heap) (locs : List Loc), x_Rp D d (x_A base) (x_mc d mo Aa M_6) S H → va_S (x_A base) s.heap H locs → lv_has ls 5 [(0, .ref mo), (1, .int x1_5)] → W p l e (x_rm 0 0 0 0) s m ([.ref mo] : List Value).toArray below meth c H locs 0 0 (MQ below (xm_Qv D d base mo Aa S (fun M' => Q M')) ([.ref mo] : List Value).toArray s 0 0 (x_A base)) (F0 m 52 ls [])) hw (fun x1_5 M_6 hw => ?_) ls _ _ hR hS (lv_sub hl [1, 0] rfl)
    intro ls H locs hR hS hl
    refine lv_iload_n hx hb dX1_measure_52 rfl (lv_at hl 1 rfl) ?_
    refine lv_bipush (v := 8) hx hb dX1_measure_53 (by decide) ?_
    refine lv_icmp_ge (tgt := 160) hx hb dX1_measure_55 (by decide) (fun c_8 => ?_) (fun c_8 => ?_)
    · have hw := x_t hw c_8
      exact xm_rv hx hb hr hlocks hR hS dX1_measure_160 hw
    · have hw := x_f hw c_8
      refine lv_iconst (v := 0) hx hb dX1_measure_58 (by decide) ?_
      refine lv_istore_n (lv' := [(2, .int 0), (0, .ref mo), (1, .int x1_5)]) hx hb dX1_measure_59 rfl hl (by decide) rfl (fun ls hl => ?_)
      refine x_lf2 (G := fun (x2_9 : Int32) (M_10 : xM) => ∀ (ls : Array Slot) (H : Heap) (locs : List Loc), x_Rp D d (x_A base) (x_mc d mo Aa M_10) S H → va_S (x_A base) s.heap H locs → lv_has ls 5 [(0, .ref mo), (1, .int x1_5), (2, .int x2_9)] → W p l e (x_rm 0 0 0 0) s m ([.ref mo] : List Value).toArray below meth c H locs 0 0 (MQ below (xm_Qv D d base mo Aa S (fun M' => Q M')) ([.ref mo] : List Value).toArray s 0 0 (x_A base)) (F0 m 60 ls [])) hw (fun x2_9 M_10 hw => ?_) ls _ _ hR hS (lv_sub hl [1, 2, 0] rfl)
      intro ls H locs hR hS hl
      refine lv_iload_n hx hb dX1_measure_60 rfl (lv_at hl 2 rfl) ?_
      refine lv_bipush (v := 8) hx hb dX1_measure_61 (by decide) ?_
      refine lv_icmp_ge (tgt := 154) hx hb dX1_measure_63 (by decide) (fun c_12 => ?_) (fun c_12 => ?_)
      · have hw := x_t hw c_12
        refine lv_iinc (v := (x1_5 + 1)) (lv' := [(1, .int (x1_5 + 1)), (0, .ref mo), (2, .int x2_9)]) hx hb dX1_measure_154 hl (k := 1) rfl rfl (by decide) rfl (fun ls hl => ?_)
        refine lv_goto (tgt := 52) hx hb dX1_measure_157 (by decide) ?_
        exact hw ls _ _ hR hS (lv_sub hl [1, 0] rfl)
      · have hw := x_f hw c_12
        refine lv_iconst (v := 0) hx hb dX1_measure_66 (by decide) ?_
        refine lv_istore_n (lv' := [(3, .int 0), (0, .ref mo), (1, .int x1_5), (2, .int x2_9)]) hx hb dX1_measure_67 rfl hl (by decide) rfl (fun ls hl => ?_)
        refine x_lf2 (G := fun (x3_13 : Int32) (M_14 : xM) => ∀ (ls : Array Slot) (H : Heap) (locs : List Loc), x_Rp D d (x_A base) (x_mc d mo Aa M_14) S H → va_S (x_A base) s.heap H locs → lv_has ls 5 [(0, .ref mo), (1, .int x1_5), (2, .int x2_9), (3, .int x3_13)] → W p l e (x_rm 0 0 0 0) s m ([.ref mo] : List Value).toArray below meth c H locs 0 0 (MQ below (xm_Qv D d base mo Aa S (fun M' => Q M')) ([.ref mo] : List Value).toArray s 0 0 (x_A base)) (F0 m 68 ls [])) hw (fun x3_13 M_14 hw => ?_) ls _ _ hR hS (lv_sub hl [1, 2, 3, 0] rfl)
        intro ls H locs hR hS hl
        refine lv_iload_n hx hb dX1_measure_68 rfl (lv_at hl 3 rfl) ?_
        refine lv_bipush (v := 8) hx hb dX1_measure_69 (by decide) ?_
        refine lv_icmp_ge (tgt := 148) hx hb dX1_measure_71 (by decide) (fun c_16 => ?_) (fun c_16 => ?_)
        · have hw := x_t hw c_16
          refine lv_iinc (v := (x2_9 + 1)) (lv' := [(2, .int (x2_9 + 1)), (0, .ref mo), (1, .int x1_5), (3, .int x3_13)]) hx hb dX1_measure_148 hl (k := 2) rfl rfl (by decide) rfl (fun ls hl => ?_)
          refine lv_goto (tgt := 60) hx hb dX1_measure_151 (by decide) ?_
          exact hw ls _ _ hR hS (lv_sub hl [1, 2, 0] rfl)
        · have hw := x_f hw c_16
          refine lv_aload_n hx hb dX1_measure_74 rfl (lv_at hl 0 rfl) ?_
          refine xm_getA (k := 3) hx hb hts in_X1 hown hK hR (by decide) (hts _ q969) rfl dX1_measure_75 ?_
          refine lv_bipush (v := 8) hx hb dX1_measure_78 (by decide) ?_
          refine lv_iload_n hx hb dX1_measure_80 rfl (lv_at hl 2 rfl) ?_
          refine lv_imul hx hb dX1_measure_81 ?_
          refine lv_iload_n hx hb dX1_measure_82 rfl (lv_at hl 1 rfl) ?_
          refine lv_iadd hx hb dX1_measure_83 ?_
          refine xm_ild (M := M_14) (k := 3) (j := 1) hx hb hK hR dX1_measure_84 rfl hw.1 ?_
          have hw := hw.2
          refine lv_aload_n hx hb dX1_measure_85 rfl (lv_at hl 0 rfl) ?_
          refine xm_getA (k := 3) hx hb hts in_X1 hown hK hR (by decide) (hts _ q969) rfl dX1_measure_86 ?_
          refine lv_bipush (v := 8) hx hb dX1_measure_89 (by decide) ?_
          refine lv_iload_n hx hb dX1_measure_91 rfl (lv_at hl 1 rfl) ?_
          refine lv_imul hx hb dX1_measure_92 ?_
          refine lv_iload_n hx hb dX1_measure_93 rfl (lv_at hl 3 rfl) ?_
          refine lv_iadd hx hb dX1_measure_94 ?_
          refine xm_ild (M := M_14) (k := 3) (j := 1) hx hb hK hR dX1_measure_95 rfl hw.1 ?_
          have hw := hw.2
          refine lv_iadd hx hb dX1_measure_96 ?_
          refine lv_topi (fun x4_17 ex4_17 => ?_)
          have hw := hw x4_17 ex4_17
          refine lv_istore (lv' := [(4, .int x4_17), (0, .ref mo), (1, .int x1_5), (2, .int x2_9), (3, .int x3_13)]) hx hb dX1_measure_97 hl (by decide) rfl (fun ls hl => ?_)
          refine lv_aload_n hx hb dX1_measure_99 rfl (lv_at hl 1 rfl) ?_
          refine xm_getA (k := 3) hx hb hts in_X1 hown hK hR (by decide) (hts _ q969) rfl dX1_measure_100 ?_
          refine lv_bipush (v := 8) hx hb dX1_measure_103 (by decide) ?_
          refine lv_iload_n hx hb dX1_measure_105 rfl (lv_at hl 3 rfl) ?_
          refine lv_imul hx hb dX1_measure_106 ?_
          refine lv_iload_n hx hb dX1_measure_107 rfl (lv_at hl 4 rfl) ?_
          refine lv_iadd hx hb dX1_measure_108 ?_
          refine lv_iload hx hb dX1_measure_109 (lv_at hl 0 rfl) ?_
          refine lv_aload_n hx hb dX1_measure_111 rfl (lv_at hl 1 rfl) ?_
          refine xm_getA (k := 3) hx hb hts in_X1 hown hK hR (by decide) (hts _ q969) rfl dX1_measure_112 ?_
          refine lv_bipush (v := 8) hx hb dX1_measure_115 (by decide) ?_
          refine lv_iload_n hx hb dX1_measure_117 rfl (lv_at hl 3 rfl) ?_
          refine lv_imul hx hb dX1_measure_118 ?_
          refine lv_iload_n hx hb dX1_measure_119 rfl (lv_at hl 4 rfl) ?_
          refine lv_iadd hx hb dX1_measure_120 ?_
          refine xm_ild (M := M_14) (k := 3) (j := 1) hx hb hK hR dX1_measure_121 rfl hw.1 ?_
          have hw := hw.2
          refine x_jn (G := fun (v2_18 : Int32) => ∀ (ls : Array Slot) (H : Heap) (locs : List Loc), x_Rp D d (x_A base) (x_mc d mo Aa M_14) S H → va_S (x_A base) s.heap H locs → lv_has ls 5 [(0, .ref mo), (1, .int x1_5), (2, .int x2_9), (3, .int x3_13)] → W p l e (x_rm 0 0 0 0) s m ([.ref mo] : List Value).toArray below meth c H locs 0 0 (MQ below (xm_Qv D d base mo Aa S (fun M' => Q M')) ([.ref mo] : List Value).toArray s 0 0 (x_A base)) (F0 m 141 ls [.int v2_18, .int ((8 * x2_9) + x3_13), .ref (Aa 3)])) hw (fun v2_18 hw => ?_) (fun hJ_19 hw => ?_)
          · intro ls H locs hR hS hl
            refine xm_ist (M := M_14) (k := 3) (j := 1) hx hb hK hR hS dX1_measure_141 rfl hw.1 (fun H locs hR hS => ?_)
            have hw := hw.2
            obtain ⟨M_20, eM_20⟩ : ∃ z, z = (m2 M_14 3 (Int32.toNatClampNeg ((8 * x2_9) + x3_13)) v2_18) := ⟨_, rfl⟩
            rw [← eM_20] at hR
            have hw := hw M_20 eM_20
            refine lv_iinc (v := (x3_13 + 1)) (lv' := [(3, .int (x3_13 + 1)), (0, .ref mo), (1, .int x1_5), (2, .int x2_9)]) hx hb dX1_measure_142 hl (k := 3) rfl rfl (by decide) rfl (fun ls hl => ?_)
            refine lv_goto (tgt := 68) hx hb dX1_measure_145 (by decide) ?_
            exact hw ls _ _ hR hS (lv_sub hl [1, 2, 3, 0] rfl)
          · refine lv_icmp_ge (tgt := 130) hx hb dX1_measure_122 (by decide) (fun c_21 => ?_) (fun c_21 => ?_)
            · have hw := x_t hw c_21
              refine lv_aload_n hx hb dX1_measure_130 rfl (lv_at hl 1 rfl) ?_
              refine xm_getA (k := 3) hx hb hts in_X1 hown hK hR (by decide) (hts _ q969) rfl dX1_measure_131 ?_
              refine lv_bipush (v := 8) hx hb dX1_measure_134 (by decide) ?_
              refine lv_iload_n hx hb dX1_measure_136 rfl (lv_at hl 3 rfl) ?_
              refine lv_imul hx hb dX1_measure_137 ?_
              refine lv_iload_n hx hb dX1_measure_138 rfl (lv_at hl 4 rfl) ?_
              refine lv_iadd hx hb dX1_measure_139 ?_
              refine xm_ild (M := M_14) (k := 3) (j := 1) hx hb hK hR dX1_measure_140 rfl hw.1 ?_
              have hw := hw.2
              exact hJ_19 (M2 M_14 3 (Int32.toNatClampNeg ((8 * x2_9) + x3_13))) hw ls _ _ hR hS (lv_sub hl [1, 2, 3, 4] rfl)
            · have hw := x_f hw c_21
              refine lv_iload hx hb dX1_measure_125 (lv_at hl 0 rfl) ?_
              refine lv_goto (tgt := 141) hx hb dX1_measure_127 (by decide) ?_
              exact hJ_19 x4_17 hw ls _ _ hR hS (lv_sub hl [1, 2, 3, 4] rfl)
  · have hw := x_f hw c_4
    refine lv_aload_n hx hb dX1_measure_8 rfl (lv_at hl 0 rfl) ?_
    refine xm_getA (k := 3) hx hb hts in_X1 hown hK hR (by decide) (hts _ q969) rfl dX1_measure_9 ?_
    refine lv_iload_n hx hb dX1_measure_12 rfl (lv_at hl 1 rfl) ?_
    refine lv_iload_n hx hb dX1_measure_13 rfl (lv_at hl 1 rfl) ?_
    refine lv_bipush (v := 8) hx hb dX1_measure_14 (by decide) ?_
    refine lv_idiv hx hb dX1_measure_16 (by decide) ?_
    refine lv_iload_n hx hb dX1_measure_17 rfl (lv_at hl 1 rfl) ?_
    refine lv_bipush (v := 8) hx hb dX1_measure_18 (by decide) ?_
    refine lv_irem hx hb dX1_measure_20 (by decide) ?_
    refine x_jn (G := fun (v2_22 : Int32) => ∀ (ls : Array Slot) (H : Heap) (locs : List Loc), x_Rp D d (x_A base) (x_mc d mo Aa M_2) S H → va_S (x_A base) s.heap H locs → lv_has ls 5 [(0, .ref mo), (1, .int x1_1)] → W p l e (x_rm 0 0 0 0) s m ([.ref mo] : List Value).toArray below meth c H locs 0 0 (MQ below (xm_Qv D d base mo Aa S (fun M' => Q M')) ([.ref mo] : List Value).toArray s 0 0 (x_A base)) (F0 m 43 ls [.int v2_22, .int x1_1, .ref (Aa 3)])) hw (fun v2_22 hw => ?_) (fun hJ_23 hw => ?_)
    · intro ls H locs hR hS hl
      refine xm_ist (M := M_2) (k := 3) (j := 1) hx hb hK hR hS dX1_measure_43 rfl hw.1 (fun H locs hR hS => ?_)
      have hw := hw.2
      obtain ⟨M_24, eM_24⟩ : ∃ z, z = (m2 M_2 3 (Int32.toNatClampNeg x1_1) v2_22) := ⟨_, rfl⟩
      rw [← eM_24] at hR
      have hw := hw M_24 eM_24
      refine lv_iinc (v := (x1_1 + 1)) (lv' := [(1, .int (x1_1 + 1)), (0, .ref mo)]) hx hb dX1_measure_44 hl (k := 1) rfl rfl (by decide) rfl (fun ls hl => ?_)
      refine lv_goto (tgt := 2) hx hb dX1_measure_47 (by decide) ?_
      exact hw ls _ _ hR hS (lv_sub hl [1, 0] rfl)
    · refine lv_icmp_ne (tgt := 28) hx hb dX1_measure_21 (by decide) (fun c_25 => ?_) (fun c_25 => ?_)
      · have hw := x_f hw c_25
        refine lv_aload_n hx hb dX1_measure_28 rfl (lv_at hl 0 rfl) ?_
        refine xm_getA (k := 2) hx hb hts in_X1 hown hK hR (by decide) (hts _ q968) rfl dX1_measure_29 ?_
        refine lv_iload_n hx hb dX1_measure_32 rfl (lv_at hl 1 rfl) ?_
        refine xm_zld (M := M_2) (k := 2) (j := 0) hx hb hK hR dX1_measure_33 rfl hw.1 ?_
        have hw := hw.2
        refine lv_if_eq (tgt := 41) hx hb dX1_measure_34 (by decide) (fun c_26 => ?_) (fun c_26 => ?_)
        · have hw := x_t hw c_26
          refine lv_bipush (v := 100) hx hb dX1_measure_41 (by decide) ?_
          exact hJ_23 100 hw ls _ _ hR hS (lv_sub hl [0, 1] rfl)
        · have hw := x_f hw c_26
          refine lv_iconst (v := 1) hx hb dX1_measure_37 (by decide) ?_
          refine lv_goto (tgt := 43) hx hb dX1_measure_38 (by decide) ?_
          exact hJ_23 1 hw ls _ _ hR hS (lv_sub hl [0, 1] rfl)
      · have hw := x_t hw c_25
        refine lv_iconst (v := 0) hx hb dX1_measure_24 (by decide) ?_
        refine lv_goto (tgt := 43) hx hb dX1_measure_25 (by decide) ?_
        exact hJ_23 0 hw ls _ _ hR hS (lv_sub hl [0, 1] rfl)
def w_X1_far (M : xM) (x1 : Int32) (x2 : Int32) (Q : Int32 → xM → Prop) : Prop := nm (m1 M 0 0) (fun M_1 : xM => w_X1_noStreet M_1 x1 (fun (r_2 : Int32) => wif (r_2 = 0) (w_X1_noStreet M_1 x2 (fun (r_5 : Int32) => wif (r_5 = 0) (w_X1_measure M_1 (fun (M_8 : xM) => vp_in ((8 * x1) + x2) 64 ∧ wif (100 ≤ (M2 M_8 3 (Int32.toNatClampNeg ((8 * x1) + x2)))) (Q (-9) M_8) (vp_in ((8 * x1) + x2) 64 ∧ Q (M2 M_8 3 (Int32.toNatClampNeg ((8 * x1) + x2))) M_8))) (Q (-1) M_1))) (Q (-1) M_1)))
theorem hd_X1_far : yX1_far.cls = "PressedMenModel" ∧ yX1_far.cls ≠ "java/lang/invoke/MethodHandle" ∧ yX1_far.cls ≠ "java/lang/invoke/VarHandle" ∧ (parseMethodDescriptor yX1_far.desc).map (fun d => d.parameters.length) = some 2 := by decide +kernel
set_option maxHeartbeats 4000000 in
theorem mt_X1_far (l : Launch) {D : va_G} {d : Nat → ClassId} {base : Nat} {mo : Nat} {Aa : Nat → Nat} {M : xM} {S : xH} {x1 : Int32} {x2 : Int32} {Q : Int32 → xM → Prop} (hw : w_X1_far M x1 x2 Q) : Met l yX1_far (ws_ yX1_far cX1_far 3 (some FieldType.int)) (x_rm 2 0 0 46) (x_Pc D d base (x_mc d mo Aa M) S [.ref mo, .int x1, .int x2]) (xm_Qi D d base mo Aa S (fun r M' => Q r M')) 0 0 (x_A base) := by
  refine x_met (by decide) (Nat.le_of_ble_eq_true rfl) ?_
  intro p e s m below meth c hx hb hml hr hlocks hown hts hz hR hK hin ls hl
  have hown : s.vm.findClass "PressedMenModel" = some m.cls := hown
  have hl : lv_has ls 3 [(0, .ref mo), (1, .int x1), (2, .int x2)] := hl
  have hS : va_S (x_A base) s.heap s.heap [] := va_S.rf
  unfold w_X1_far at hw
  refine lv_aload_n hx hb dX1_far_0 rfl (lv_at hl 0 rfl) ?_
  refine lv_iconst (v := 0) hx hb dX1_far_1 (by decide) ?_
  refine xm_putI (M := M) (k := 0) hx hb hts in_X1 hown hK hR hS (by decide) (hts _ q966) rfl rfl rfl rfl dX1_far_2 (fun H locs hR hS => ?_)
  obtain ⟨M_1, eM_1⟩ : ∃ z, z = (m1 M 0 0) := ⟨_, rfl⟩
  rw [← eM_1] at hR
  have hw := hw M_1 eM_1
  refine lv_aload_n hx hb dX1_far_5 rfl (lv_at hl 0 rfl) ?_
  refine lv_iload_n hx hb dX1_far_6 rfl (lv_at hl 1 rfl) ?_
  refine xm_ci (va_runV (As := [.int x1]) (rest := []) ⟨hx, hb, hml, hown, hts⟩ (mt_X1_noStreet l hw) (cwV 1 hts (lw_V q1096 q1098 qs36 q65 q1099) rfl rfl rfl hd_X1_noStreet ⟨Nat.le_of_ble_eq_true rfl, Nat.le_of_ble_eq_true rfl⟩) ⟨x_Pc_blind, xm_recv hR hK, x_Pc_pre hR hz hS hK⟩ rfl rfl hl.1 rfl (lv_room (Nat.le_of_ble_eq_true rfl)) dX1_far_7 ⟨Nat.le_refl _, Nat.le_refl _⟩) hS (fun r_2 M_3 H locs hp hR hS => ?_)
  have hw := hp.2
  rw [hp.1] at hR
  refine lv_if_ne (tgt := 21) hx hb dX1_far_10 (by decide) (fun c_4 => ?_) (fun c_4 => ?_)
  · have hw := x_f hw c_4
    refine lv_iconst (v := (-1)) hx hb dX1_far_21 (by decide) ?_
    exact xm_ri hx hb hr hlocks hR hS dX1_far_22 hw
  · have hw := x_t hw c_4
    refine lv_aload_n hx hb dX1_far_13 rfl (lv_at hl 0 rfl) ?_
    refine lv_iload_n hx hb dX1_far_14 rfl (lv_at hl 2 rfl) ?_
    refine xm_ci (va_runV (As := [.int x2]) (rest := []) ⟨hx, hb, hml, hown, hts⟩ (mt_X1_noStreet l hw) (cwV 1 hts (lw_V q1096 q1098 qs36 q65 q1099) rfl rfl rfl hd_X1_noStreet ⟨Nat.le_of_ble_eq_true rfl, Nat.le_of_ble_eq_true rfl⟩) ⟨x_Pc_blind, xm_recv hR hK, x_Pc_pre hR hz hS hK⟩ rfl rfl hl.1 rfl (lv_room (Nat.le_of_ble_eq_true rfl)) dX1_far_15 ⟨Nat.le_refl _, Nat.le_refl _⟩) hS (fun r_5 M_6 H locs hp hR hS => ?_)
    have hw := hp.2
    rw [hp.1] at hR
    refine lv_if_eq (tgt := 23) hx hb dX1_far_18 (by decide) (fun c_7 => ?_) (fun c_7 => ?_)
    · have hw := x_t hw c_7
      refine lv_aload_n hx hb dX1_far_23 rfl (lv_at hl 0 rfl) ?_
      refine xm_cv (va_runV (As := []) (rest := []) ⟨hx, hb, hml, hown, hts⟩ (mt_X1_measure l hw) (cwV 0 hts (lw_V q1104 q1106 qs37 q65 q1107) rfl rfl rfl hd_X1_measure ⟨Nat.le_of_ble_eq_true rfl, Nat.le_of_ble_eq_true rfl⟩) ⟨x_Pc_blind, xm_recv hR hK, x_Pc_pre hR hz hS hK⟩ rfl rfl hl.1 rfl (lv_room (Nat.le_of_ble_eq_true rfl)) dX1_far_24 ⟨Nat.le_refl _, Nat.le_refl _⟩) hS (fun M_8 H locs hp hR hS => ?_)
      have hw := hp
      refine lv_aload_n hx hb dX1_far_27 rfl (lv_at hl 0 rfl) ?_
      refine xm_getA (k := 3) hx hb hts in_X1 hown hK hR (by decide) (hts _ q969) rfl dX1_far_28 ?_
      refine lv_bipush (v := 8) hx hb dX1_far_31 (by decide) ?_
      refine lv_iload_n hx hb dX1_far_33 rfl (lv_at hl 1 rfl) ?_
      refine lv_imul hx hb dX1_far_34 ?_
      refine lv_iload_n hx hb dX1_far_35 rfl (lv_at hl 2 rfl) ?_
      refine lv_iadd hx hb dX1_far_36 ?_
      refine xm_ild (M := M_8) (k := 3) (j := 1) hx hb hK hR dX1_far_37 rfl hw.1 ?_
      have hw := hw.2
      refine lv_bipush (v := 100) hx hb dX1_far_38 (by decide) ?_
      refine lv_icmp_ge (tgt := 57) hx hb dX1_far_40 (by decide) (fun c_9 => ?_) (fun c_9 => ?_)
      · have hw := x_t hw c_9
        refine lv_bipush (v := (-9)) hx hb dX1_far_57 (by decide) ?_
        exact xm_ri hx hb hr hlocks hR hS dX1_far_59 hw
      · have hw := x_f hw c_9
        refine lv_aload_n hx hb dX1_far_43 rfl (lv_at hl 0 rfl) ?_
        refine xm_getA (k := 3) hx hb hts in_X1 hown hK hR (by decide) (hts _ q969) rfl dX1_far_44 ?_
        refine lv_bipush (v := 8) hx hb dX1_far_47 (by decide) ?_
        refine lv_iload_n hx hb dX1_far_49 rfl (lv_at hl 1 rfl) ?_
        refine lv_imul hx hb dX1_far_50 ?_
        refine lv_iload_n hx hb dX1_far_51 rfl (lv_at hl 2 rfl) ?_
        refine lv_iadd hx hb dX1_far_52 ?_
        refine xm_ild (M := M_8) (k := 3) (j := 1) hx hb hK hR dX1_far_53 rfl hw.1 ?_
        have hw := hw.2
        refine lv_goto (tgt := 59) hx hb dX1_far_54 (by decide) ?_
        exact xm_ri hx hb hr hlocks hR hS dX1_far_59 hw
    · have hw := x_f hw c_7
      refine lv_iconst (v := (-1)) hx hb dX1_far_21 (by decide) ?_
      exact xm_ri hx hb hr hlocks hR hS dX1_far_22 hw
def w_X1_man (M : xM) (x1 : Int32) (x2 : Int32) (x3 : Int32) (x4 : Int32) (x5 : Int32) (x6 : Int32) (x7 : Int32) (Q : Int32 → xM → Prop) : Prop := nm (m1 M 0 0) (fun M_1 : xM => w_X1_noStreet M_1 x7 (fun (r_2 : Int32) => wif (r_2 = 0) (w_X1_in M_1 (Int32.toInt64 x1) 10 60 (fun (r_5 : Int32) => wif (r_5 = 0) (Q (-2) M_1) (w_X1_in M_1 (Int32.toInt64 x2) 0 3 (fun (r_8 : Int32) => wif (r_8 = 0) (Q (-2) M_1) (w_X1_in M_1 (Int32.toInt64 x3) 0 3 (fun (r_11 : Int32) => wif (r_11 = 0) (Q (-2) M_1) (w_X1_in M_1 (Int32.toInt64 x4) 50 80 (fun (r_14 : Int32) => wif (r_14 = 0) (Q (-2) M_1) (w_X1_in M_1 (Int32.toInt64 x5) 0 5 (fun (r_17 : Int32) => wif (r_17 = 0) (Q (-2) M_1) (w_X1_in M_1 (Int32.toInt64 x6) 0 40 (fun (r_20 : Int32) => wif (r_20 = 0) (Q (-2) M_1) (wif ((M1 M_1 5) = 40) (Q (-4) M_1) (nm (8 * (M1 M_1 5)) (fun x8_24 : Int32 => vp_in x8_24 320 ∧ nm (m2 M_1 6 (Int32.toNatClampNeg x8_24) x1) (fun M_25 : xM => vp_in (x8_24 + 1) 320 ∧ nm (m2 M_25 6 (Int32.toNatClampNeg (x8_24 + 1)) x2) (fun M_26 : xM => vp_in (x8_24 + 2) 320 ∧ nm (m2 M_26 6 (Int32.toNatClampNeg (x8_24 + 2)) x3) (fun M_27 : xM => vp_in (x8_24 + 3) 320 ∧ nm (m2 M_27 6 (Int32.toNatClampNeg (x8_24 + 3)) x4) (fun M_28 : xM => vp_in (x8_24 + 4) 320 ∧ nm (m2 M_28 6 (Int32.toNatClampNeg (x8_24 + 4)) x5) (fun M_29 : xM => vp_in (x8_24 + 5) 320 ∧ nm (m2 M_29 6 (Int32.toNatClampNeg (x8_24 + 5)) x6) (fun M_30 : xM => vp_in (x8_24 + 6) 320 ∧ nm (m2 M_30 6 (Int32.toNatClampNeg (x8_24 + 6)) x7) (fun M_31 : xM => vp_in (x8_24 + 7) 320 ∧ nm (m2 M_31 6 (Int32.toNatClampNeg (x8_24 + 7)) 0) (fun M_32 : xM => lf2 (fun L_35 (x9_33 : Int32) (M_34 : xM) => wif ((M1 M_34 4) < x9_33) (nm (m1 M_34 5 ((M1 M_34 5) + 1)) (fun M_37 : xM => Q ((M1 M_37 5) - 1) M_37)) (vp_in ((40 * x9_33) + (M1 M_34 5)) 36000 ∧ nm (m2 M_34 8 (Int32.toNatClampNeg ((40 * x9_33) + (M1 M_34 5))) x7) (fun M_38 : xM => L_35 (x9_33 + 1) M_38))) 0 M_32))))))))))))))))))))))) (Q (-1) M_1)))
theorem hd_X1_man : yX1_man.cls = "PressedMenModel" ∧ yX1_man.cls ≠ "java/lang/invoke/MethodHandle" ∧ yX1_man.cls ≠ "java/lang/invoke/VarHandle" ∧ (parseMethodDescriptor yX1_man.desc).map (fun d => d.parameters.length) = some 7 := by decide +kernel
set_option maxHeartbeats 4000000 in
theorem mt_X1_man (l : Launch) {D : va_G} {d : Nat → ClassId} {base : Nat} {mo : Nat} {Aa : Nat → Nat} {M : xM} {S : xH} {x1 : Int32} {x2 : Int32} {x3 : Int32} {x4 : Int32} {x5 : Int32} {x6 : Int32} {x7 : Int32} {Q : Int32 → xM → Prop} (hw : w_X1_man M x1 x2 x3 x4 x5 x6 x7 Q) : Met l yX1_man (ws_ yX1_man cX1_man 10 (some FieldType.int)) (x_rm 2 0 0 46) (x_Pc D d base (x_mc d mo Aa M) S [.ref mo, .int x1, .int x2, .int x3, .int x4, .int x5, .int x6, .int x7]) (xm_Qi D d base mo Aa S (fun r M' => Q r M')) 0 0 (x_A base) := by
  refine x_met (by decide) (Nat.le_of_ble_eq_true rfl) ?_
  intro p e s m below meth c hx hb hml hr hlocks hown hts hz hR hK hin ls hl
  have hown : s.vm.findClass "PressedMenModel" = some m.cls := hown
  have hl : lv_has ls 10 [(0, .ref mo), (1, .int x1), (2, .int x2), (3, .int x3), (4, .int x4), (5, .int x5), (6, .int x6), (7, .int x7)] := hl
  have hS : va_S (x_A base) s.heap s.heap [] := va_S.rf
  unfold w_X1_man at hw
  refine lv_aload_n hx hb dX1_man_0 rfl (lv_at hl 0 rfl) ?_
  refine lv_iconst (v := 0) hx hb dX1_man_1 (by decide) ?_
  refine xm_putI (M := M) (k := 0) hx hb hts in_X1 hown hK hR hS (by decide) (hts _ q966) rfl rfl rfl rfl dX1_man_2 (fun H locs hR hS => ?_)
  obtain ⟨M_1, eM_1⟩ : ∃ z, z = (m1 M 0 0) := ⟨_, rfl⟩
  rw [← eM_1] at hR
  have hw := hw M_1 eM_1
  refine lv_aload_n hx hb dX1_man_5 rfl (lv_at hl 0 rfl) ?_
  refine lv_iload hx hb dX1_man_6 (lv_at hl 7 rfl) ?_
  refine xm_ci (va_runV (As := [.int x7]) (rest := []) ⟨hx, hb, hml, hown, hts⟩ (mt_X1_noStreet l hw) (cwV 1 hts (lw_V q1096 q1098 qs36 q65 q1099) rfl rfl rfl hd_X1_noStreet ⟨Nat.le_of_ble_eq_true rfl, Nat.le_of_ble_eq_true rfl⟩) ⟨x_Pc_blind, xm_recv hR hK, x_Pc_pre hR hz hS hK⟩ rfl rfl hl.1 rfl (lv_room (Nat.le_of_ble_eq_true rfl)) dX1_man_8 ⟨Nat.le_refl _, Nat.le_refl _⟩) hS (fun r_2 M_3 H locs hp hR hS => ?_)
  have hw := hp.2
  rw [hp.1] at hR
  refine lv_if_eq (tgt := 16) hx hb dX1_man_11 (by decide) (fun c_4 => ?_) (fun c_4 => ?_)
  · have hw := x_t hw c_4
    refine lv_iload_n hx hb dX1_man_16 rfl (lv_at hl 1 rfl) ?_
    refine lv_i2l (v := (Int32.toInt64 x1)) hx hb dX1_man_17 rfl ?_
    refine lv_ldc2 (v := 10) hx hb hown (hts _ q1112) dX1_man_18 ?_
    refine lv_ldc2 (v := 60) hx hb hown (hts _ q1113) dX1_man_21 ?_
    refine xm_ci (va_runS (As := [.long (Int32.toInt64 x1), .long 10, .long 60]) (rest := []) ⟨hx, hb, hml, hown, hts⟩ (mt_X1_in l hw) (va_cwS 3 hts (lw_S q1089 q1090 q65 q1091) rfl rfl rfl hd_X1_in.2 ⟨Nat.le_of_ble_eq_true rfl, Nat.le_of_ble_eq_true rfl⟩) ⟨x_Pc_blind, x_Pc_pre hR hz hS hK⟩ rfl rfl hl.1 rfl (lv_room (Nat.le_of_ble_eq_true rfl)) dX1_man_24 ⟨Nat.le_refl _, Nat.le_refl _⟩) hS (fun r_5 M_6 H locs hp hR hS => ?_)
    have hw := hp.2
    rw [hp.1] at hR
    refine lv_if_eq (tgt := 95) hx hb dX1_man_27 (by decide) (fun c_7 => ?_) (fun c_7 => ?_)
    · have hw := x_t hw c_7
      refine lv_bipush (v := (-2)) hx hb dX1_man_95 (by decide) ?_
      exact xm_ri hx hb hr hlocks hR hS dX1_man_97 hw
    · have hw := x_f hw c_7
      refine lv_iload_n hx hb dX1_man_30 rfl (lv_at hl 2 rfl) ?_
      refine lv_i2l (v := (Int32.toInt64 x2)) hx hb dX1_man_31 rfl ?_
      refine lv_lconst (v := 0) hx hb dX1_man_32 (by decide) ?_
      refine lv_ldc2 (v := 3) hx hb hown (hts _ q1114) dX1_man_33 ?_
      refine xm_ci (va_runS (As := [.long (Int32.toInt64 x2), .long 0, .long 3]) (rest := []) ⟨hx, hb, hml, hown, hts⟩ (mt_X1_in l hw) (va_cwS 3 hts (lw_S q1089 q1090 q65 q1091) rfl rfl rfl hd_X1_in.2 ⟨Nat.le_of_ble_eq_true rfl, Nat.le_of_ble_eq_true rfl⟩) ⟨x_Pc_blind, x_Pc_pre hR hz hS hK⟩ rfl rfl hl.1 rfl (lv_room (Nat.le_of_ble_eq_true rfl)) dX1_man_36 ⟨Nat.le_refl _, Nat.le_refl _⟩) hS (fun r_8 M_9 H locs hp hR hS => ?_)
      have hw := hp.2
      rw [hp.1] at hR
      refine lv_if_eq (tgt := 95) hx hb dX1_man_39 (by decide) (fun c_10 => ?_) (fun c_10 => ?_)
      · have hw := x_t hw c_10
        refine lv_bipush (v := (-2)) hx hb dX1_man_95 (by decide) ?_
        exact xm_ri hx hb hr hlocks hR hS dX1_man_97 hw
      · have hw := x_f hw c_10
        refine lv_iload_n hx hb dX1_man_42 rfl (lv_at hl 3 rfl) ?_
        refine lv_i2l (v := (Int32.toInt64 x3)) hx hb dX1_man_43 rfl ?_
        refine lv_lconst (v := 0) hx hb dX1_man_44 (by decide) ?_
        refine lv_ldc2 (v := 3) hx hb hown (hts _ q1114) dX1_man_45 ?_
        refine xm_ci (va_runS (As := [.long (Int32.toInt64 x3), .long 0, .long 3]) (rest := []) ⟨hx, hb, hml, hown, hts⟩ (mt_X1_in l hw) (va_cwS 3 hts (lw_S q1089 q1090 q65 q1091) rfl rfl rfl hd_X1_in.2 ⟨Nat.le_of_ble_eq_true rfl, Nat.le_of_ble_eq_true rfl⟩) ⟨x_Pc_blind, x_Pc_pre hR hz hS hK⟩ rfl rfl hl.1 rfl (lv_room (Nat.le_of_ble_eq_true rfl)) dX1_man_48 ⟨Nat.le_refl _, Nat.le_refl _⟩) hS (fun r_11 M_12 H locs hp hR hS => ?_)
        have hw := hp.2
        rw [hp.1] at hR
        refine lv_if_eq (tgt := 95) hx hb dX1_man_51 (by decide) (fun c_13 => ?_) (fun c_13 => ?_)
        · have hw := x_t hw c_13
          refine lv_bipush (v := (-2)) hx hb dX1_man_95 (by decide) ?_
          exact xm_ri hx hb hr hlocks hR hS dX1_man_97 hw
        · have hw := x_f hw c_13
          refine lv_iload hx hb dX1_man_54 (lv_at hl 4 rfl) ?_
          refine lv_i2l (v := (Int32.toInt64 x4)) hx hb dX1_man_56 rfl ?_
          refine lv_ldc2 (v := 50) hx hb hown (hts _ q1115) dX1_man_57 ?_
          refine lv_ldc2 (v := 80) hx hb hown (hts _ q1116) dX1_man_60 ?_
          refine xm_ci (va_runS (As := [.long (Int32.toInt64 x4), .long 50, .long 80]) (rest := []) ⟨hx, hb, hml, hown, hts⟩ (mt_X1_in l hw) (va_cwS 3 hts (lw_S q1089 q1090 q65 q1091) rfl rfl rfl hd_X1_in.2 ⟨Nat.le_of_ble_eq_true rfl, Nat.le_of_ble_eq_true rfl⟩) ⟨x_Pc_blind, x_Pc_pre hR hz hS hK⟩ rfl rfl hl.1 rfl (lv_room (Nat.le_of_ble_eq_true rfl)) dX1_man_63 ⟨Nat.le_refl _, Nat.le_refl _⟩) hS (fun r_14 M_15 H locs hp hR hS => ?_)
          have hw := hp.2
          rw [hp.1] at hR
          refine lv_if_eq (tgt := 95) hx hb dX1_man_66 (by decide) (fun c_16 => ?_) (fun c_16 => ?_)
          · have hw := x_t hw c_16
            refine lv_bipush (v := (-2)) hx hb dX1_man_95 (by decide) ?_
            exact xm_ri hx hb hr hlocks hR hS dX1_man_97 hw
          · have hw := x_f hw c_16
            refine lv_iload hx hb dX1_man_69 (lv_at hl 5 rfl) ?_
            refine lv_i2l (v := (Int32.toInt64 x5)) hx hb dX1_man_71 rfl ?_
            refine lv_lconst (v := 0) hx hb dX1_man_72 (by decide) ?_
            refine lv_ldc2 (v := 5) hx hb hown (hts _ q1117) dX1_man_73 ?_
            refine xm_ci (va_runS (As := [.long (Int32.toInt64 x5), .long 0, .long 5]) (rest := []) ⟨hx, hb, hml, hown, hts⟩ (mt_X1_in l hw) (va_cwS 3 hts (lw_S q1089 q1090 q65 q1091) rfl rfl rfl hd_X1_in.2 ⟨Nat.le_of_ble_eq_true rfl, Nat.le_of_ble_eq_true rfl⟩) ⟨x_Pc_blind, x_Pc_pre hR hz hS hK⟩ rfl rfl hl.1 rfl (lv_room (Nat.le_of_ble_eq_true rfl)) dX1_man_76 ⟨Nat.le_refl _, Nat.le_refl _⟩) hS (fun r_17 M_18 H locs hp hR hS => ?_)
            have hw := hp.2
            rw [hp.1] at hR
            refine lv_if_eq (tgt := 95) hx hb dX1_man_79 (by decide) (fun c_19 => ?_) (fun c_19 => ?_)
            · have hw := x_t hw c_19
              refine lv_bipush (v := (-2)) hx hb dX1_man_95 (by decide) ?_
              exact xm_ri hx hb hr hlocks hR hS dX1_man_97 hw
            · have hw := x_f hw c_19
              refine lv_iload hx hb dX1_man_82 (lv_at hl 6 rfl) ?_
              refine lv_i2l (v := (Int32.toInt64 x6)) hx hb dX1_man_84 rfl ?_
              refine lv_lconst (v := 0) hx hb dX1_man_85 (by decide) ?_
              refine lv_ldc2 (v := 40) hx hb hown (hts _ q1118) dX1_man_86 ?_
              refine xm_ci (va_runS (As := [.long (Int32.toInt64 x6), .long 0, .long 40]) (rest := []) ⟨hx, hb, hml, hown, hts⟩ (mt_X1_in l hw) (va_cwS 3 hts (lw_S q1089 q1090 q65 q1091) rfl rfl rfl hd_X1_in.2 ⟨Nat.le_of_ble_eq_true rfl, Nat.le_of_ble_eq_true rfl⟩) ⟨x_Pc_blind, x_Pc_pre hR hz hS hK⟩ rfl rfl hl.1 rfl (lv_room (Nat.le_of_ble_eq_true rfl)) dX1_man_89 ⟨Nat.le_refl _, Nat.le_refl _⟩) hS (fun r_20 M_21 H locs hp hR hS => ?_)
              have hw := hp.2
              rw [hp.1] at hR
              refine lv_if_ne (tgt := 98) hx hb dX1_man_92 (by decide) (fun c_22 => ?_) (fun c_22 => ?_)
              · have hw := x_f hw c_22
                refine lv_aload_n hx hb dX1_man_98 rfl (lv_at hl 0 rfl) ?_
                refine xm_getI (k := 5) hx hb hts in_X1 hown hK hR (by decide) (hts _ q971) rfl dX1_man_99 ?_
                refine lv_bipush (v := 40) hx hb dX1_man_102 (by decide) ?_
                refine lv_icmp_ne (tgt := 110) hx hb dX1_man_104 (by decide) (fun c_23 => ?_) (fun c_23 => ?_)
                · have hw := x_f hw c_23
                  refine lv_bipush (v := 8) hx hb dX1_man_110 (by decide) ?_
                  refine lv_aload_n hx hb dX1_man_112 rfl (lv_at hl 0 rfl) ?_
                  refine xm_getI (k := 5) hx hb hts in_X1 hown hK hR (by decide) (hts _ q971) rfl dX1_man_113 ?_
                  refine lv_imul hx hb dX1_man_116 ?_
                  refine lv_topi (fun x8_24 ex8_24 => ?_)
                  have hw := hw x8_24 ex8_24
                  refine lv_istore (lv' := [(8, .int x8_24), (0, .ref mo), (1, .int x1), (2, .int x2), (3, .int x3), (4, .int x4), (5, .int x5), (6, .int x6), (7, .int x7)]) hx hb dX1_man_117 hl (by decide) rfl (fun ls hl => ?_)
                  refine lv_aload_n hx hb dX1_man_119 rfl (lv_at hl 1 rfl) ?_
                  refine xm_getA (k := 6) hx hb hts in_X1 hown hK hR (by decide) (hts _ q972) rfl dX1_man_120 ?_
                  refine lv_iload hx hb dX1_man_123 (lv_at hl 0 rfl) ?_
                  refine lv_iload_n hx hb dX1_man_125 rfl (lv_at hl 2 rfl) ?_
                  refine xm_ist (M := M_1) (k := 6) (j := 2) hx hb hK hR hS dX1_man_126 rfl hw.1 (fun H locs hR hS => ?_)
                  have hw := hw.2
                  obtain ⟨M_25, eM_25⟩ : ∃ z, z = (m2 M_1 6 (Int32.toNatClampNeg x8_24) x1) := ⟨_, rfl⟩
                  rw [← eM_25] at hR
                  have hw := hw M_25 eM_25
                  refine lv_aload_n hx hb dX1_man_127 rfl (lv_at hl 1 rfl) ?_
                  refine xm_getA (k := 6) hx hb hts in_X1 hown hK hR (by decide) (hts _ q972) rfl dX1_man_128 ?_
                  refine lv_iload hx hb dX1_man_131 (lv_at hl 0 rfl) ?_
                  refine lv_iconst (v := 1) hx hb dX1_man_133 (by decide) ?_
                  refine lv_iadd hx hb dX1_man_134 ?_
                  refine lv_iload_n hx hb dX1_man_135 rfl (lv_at hl 3 rfl) ?_
                  refine xm_ist (M := M_25) (k := 6) (j := 2) hx hb hK hR hS dX1_man_136 rfl hw.1 (fun H locs hR hS => ?_)
                  have hw := hw.2
                  obtain ⟨M_26, eM_26⟩ : ∃ z, z = (m2 M_25 6 (Int32.toNatClampNeg (x8_24 + 1)) x2) := ⟨_, rfl⟩
                  rw [← eM_26] at hR
                  have hw := hw M_26 eM_26
                  refine lv_aload_n hx hb dX1_man_137 rfl (lv_at hl 1 rfl) ?_
                  refine xm_getA (k := 6) hx hb hts in_X1 hown hK hR (by decide) (hts _ q972) rfl dX1_man_138 ?_
                  refine lv_iload hx hb dX1_man_141 (lv_at hl 0 rfl) ?_
                  refine lv_iconst (v := 2) hx hb dX1_man_143 (by decide) ?_
                  refine lv_iadd hx hb dX1_man_144 ?_
                  refine lv_iload_n hx hb dX1_man_145 rfl (lv_at hl 4 rfl) ?_
                  refine xm_ist (M := M_26) (k := 6) (j := 2) hx hb hK hR hS dX1_man_146 rfl hw.1 (fun H locs hR hS => ?_)
                  have hw := hw.2
                  obtain ⟨M_27, eM_27⟩ : ∃ z, z = (m2 M_26 6 (Int32.toNatClampNeg (x8_24 + 2)) x3) := ⟨_, rfl⟩
                  rw [← eM_27] at hR
                  have hw := hw M_27 eM_27
                  refine lv_aload_n hx hb dX1_man_147 rfl (lv_at hl 1 rfl) ?_
                  refine xm_getA (k := 6) hx hb hts in_X1 hown hK hR (by decide) (hts _ q972) rfl dX1_man_148 ?_
                  refine lv_iload hx hb dX1_man_151 (lv_at hl 0 rfl) ?_
                  refine lv_iconst (v := 3) hx hb dX1_man_153 (by decide) ?_
                  refine lv_iadd hx hb dX1_man_154 ?_
                  refine lv_iload hx hb dX1_man_155 (lv_at hl 5 rfl) ?_
                  refine xm_ist (M := M_27) (k := 6) (j := 2) hx hb hK hR hS dX1_man_157 rfl hw.1 (fun H locs hR hS => ?_)
                  have hw := hw.2
                  obtain ⟨M_28, eM_28⟩ : ∃ z, z = (m2 M_27 6 (Int32.toNatClampNeg (x8_24 + 3)) x4) := ⟨_, rfl⟩
                  rw [← eM_28] at hR
                  have hw := hw M_28 eM_28
                  refine lv_aload_n hx hb dX1_man_158 rfl (lv_at hl 1 rfl) ?_
                  refine xm_getA (k := 6) hx hb hts in_X1 hown hK hR (by decide) (hts _ q972) rfl dX1_man_159 ?_
                  refine lv_iload hx hb dX1_man_162 (lv_at hl 0 rfl) ?_
                  refine lv_iconst (v := 4) hx hb dX1_man_164 (by decide) ?_
                  refine lv_iadd hx hb dX1_man_165 ?_
                  refine lv_iload hx hb dX1_man_166 (lv_at hl 6 rfl) ?_
                  refine xm_ist (M := M_28) (k := 6) (j := 2) hx hb hK hR hS dX1_man_168 rfl hw.1 (fun H locs hR hS => ?_)
                  have hw := hw.2
                  obtain ⟨M_29, eM_29⟩ : ∃ z, z = (m2 M_28 6 (Int32.toNatClampNeg (x8_24 + 4)) x5) := ⟨_, rfl⟩
                  rw [← eM_29] at hR
                  have hw := hw M_29 eM_29
                  refine lv_aload_n hx hb dX1_man_169 rfl (lv_at hl 1 rfl) ?_
                  refine xm_getA (k := 6) hx hb hts in_X1 hown hK hR (by decide) (hts _ q972) rfl dX1_man_170 ?_
                  refine lv_iload hx hb dX1_man_173 (lv_at hl 0 rfl) ?_
                  refine lv_iconst (v := 5) hx hb dX1_man_175 (by decide) ?_
                  refine lv_iadd hx hb dX1_man_176 ?_
                  refine lv_iload hx hb dX1_man_177 (lv_at hl 7 rfl) ?_
                  refine xm_ist (M := M_29) (k := 6) (j := 2) hx hb hK hR hS dX1_man_179 rfl hw.1 (fun H locs hR hS => ?_)
                  have hw := hw.2
                  obtain ⟨M_30, eM_30⟩ : ∃ z, z = (m2 M_29 6 (Int32.toNatClampNeg (x8_24 + 5)) x6) := ⟨_, rfl⟩
                  rw [← eM_30] at hR
                  have hw := hw M_30 eM_30
                  refine lv_aload_n hx hb dX1_man_180 rfl (lv_at hl 1 rfl) ?_
                  refine xm_getA (k := 6) hx hb hts in_X1 hown hK hR (by decide) (hts _ q972) rfl dX1_man_181 ?_
                  refine lv_iload hx hb dX1_man_184 (lv_at hl 0 rfl) ?_
                  refine lv_bipush (v := 6) hx hb dX1_man_186 (by decide) ?_
                  refine lv_iadd hx hb dX1_man_188 ?_
                  refine lv_iload hx hb dX1_man_189 (lv_at hl 8 rfl) ?_
                  refine xm_ist (M := M_30) (k := 6) (j := 2) hx hb hK hR hS dX1_man_191 rfl hw.1 (fun H locs hR hS => ?_)
                  have hw := hw.2
                  obtain ⟨M_31, eM_31⟩ : ∃ z, z = (m2 M_30 6 (Int32.toNatClampNeg (x8_24 + 6)) x7) := ⟨_, rfl⟩
                  rw [← eM_31] at hR
                  have hw := hw M_31 eM_31
                  refine lv_aload_n hx hb dX1_man_192 rfl (lv_at hl 1 rfl) ?_
                  refine xm_getA (k := 6) hx hb hts in_X1 hown hK hR (by decide) (hts _ q972) rfl dX1_man_193 ?_
                  refine lv_iload hx hb dX1_man_196 (lv_at hl 0 rfl) ?_
                  refine lv_bipush (v := 7) hx hb dX1_man_198 (by decide) ?_
                  refine lv_iadd hx hb dX1_man_200 ?_
                  refine lv_iconst (v := 0) hx hb dX1_man_201 (by decide) ?_
                  refine xm_ist (M := M_31) (k := 6) (j := 2) hx hb hK hR hS dX1_man_202 rfl hw.1 (fun H locs hR hS => ?_)
                  have hw := hw.2
                  obtain ⟨M_32, eM_32⟩ : ∃ z, z = (m2 M_31 6 (Int32.toNatClampNeg (x8_24 + 7)) 0) := ⟨_, rfl⟩
                  rw [← eM_32] at hR
                  have hw := hw M_32 eM_32
                  refine lv_iconst (v := 0) hx hb dX1_man_203 (by decide) ?_
                  refine lv_istore (lv' := [(9, .int 0), (8, .int x8_24), (0, .ref mo), (1, .int x1), (2, .int x2), (3, .int x3), (4, .int x4), (5, .int x5), (6, .int x6), (7, .int x7)]) hx hb dX1_man_204 hl (by decide) rfl (fun ls hl => ?_)
                  refine x_lf2 (G := fun (x9_33 : Int32) (M_34 : xM) => ∀ (ls : Array Slot) (H : Heap) (locs : List Loc), x_Rp D d (x_A base) (x_mc d mo Aa M_34) S H → va_S (x_A base) s.heap H locs → lv_has ls 10 [(0, .ref mo), (7, .int x7), (9, .int x9_33)] → W p l e (x_rm 2 0 0 46) s m ([.ref mo, .int x1, .int x2, .int x3, .int x4, .int x5, .int x6, .int x7] : List Value).toArray below meth c H locs 0 0 (MQ below (xm_Qi D d base mo Aa S (fun r M' => Q r M')) ([.ref mo, .int x1, .int x2, .int x3, .int x4, .int x5, .int x6, .int x7] : List Value).toArray s 0 0 (x_A base)) (F0 m 206 ls [])) hw (fun x9_33 M_34 hw => ?_) ls _ _ hR hS (lv_sub hl [2, 9, 0] rfl)
                  intro ls H locs hR hS hl
                  refine lv_iload hx hb dX1_man_206 (lv_at hl 2 rfl) ?_
                  refine lv_aload_n hx hb dX1_man_208 rfl (lv_at hl 0 rfl) ?_
                  refine xm_getI (k := 4) hx hb hts in_X1 hown hK hR (by decide) (hts _ q970) rfl dX1_man_209 ?_
                  refine lv_icmp_gt (tgt := 238) hx hb dX1_man_212 (by decide) (fun c_36 => ?_) (fun c_36 => ?_)
                  · have hw := x_t hw c_36
                    refine lv_aload_n hx hb dX1_man_238 rfl (lv_at hl 0 rfl) ?_
                    refine lv_dup hx hb dX1_man_239 rfl ?_
                    refine xm_getI (k := 5) hx hb hts in_X1 hown hK hR (by decide) (hts _ q971) rfl dX1_man_240 ?_
                    refine lv_iconst (v := 1) hx hb dX1_man_243 (by decide) ?_
                    refine lv_iadd hx hb dX1_man_244 ?_
                    refine xm_putI (M := M_34) (k := 5) hx hb hts in_X1 hown hK hR hS (by decide) (hts _ q971) rfl rfl rfl rfl dX1_man_245 (fun H locs hR hS => ?_)
                    obtain ⟨M_37, eM_37⟩ : ∃ z, z = (m1 M_34 5 ((M1 M_34 5) + 1)) := ⟨_, rfl⟩
                    rw [← eM_37] at hR
                    have hw := hw M_37 eM_37
                    refine lv_aload_n hx hb dX1_man_248 rfl (lv_at hl 0 rfl) ?_
                    refine xm_getI (k := 5) hx hb hts in_X1 hown hK hR (by decide) (hts _ q971) rfl dX1_man_249 ?_
                    refine lv_iconst (v := 1) hx hb dX1_man_252 (by decide) ?_
                    refine lv_isub hx hb dX1_man_253 ?_
                    exact xm_ri hx hb hr hlocks hR hS dX1_man_254 hw
                  · have hw := x_f hw c_36
                    refine lv_aload_n hx hb dX1_man_215 rfl (lv_at hl 0 rfl) ?_
                    refine xm_getA (k := 8) hx hb hts in_X1 hown hK hR (by decide) (hts _ q974) rfl dX1_man_216 ?_
                    refine lv_bipush (v := 40) hx hb dX1_man_219 (by decide) ?_
                    refine lv_iload hx hb dX1_man_221 (lv_at hl 2 rfl) ?_
                    refine lv_imul hx hb dX1_man_223 ?_
                    refine lv_aload_n hx hb dX1_man_224 rfl (lv_at hl 0 rfl) ?_
                    refine xm_getI (k := 5) hx hb hts in_X1 hown hK hR (by decide) (hts _ q971) rfl dX1_man_225 ?_
                    refine lv_iadd hx hb dX1_man_228 ?_
                    refine lv_iload hx hb dX1_man_229 (lv_at hl 1 rfl) ?_
                    refine xm_ist (M := M_34) (k := 8) (j := 4) hx hb hK hR hS dX1_man_231 rfl hw.1 (fun H locs hR hS => ?_)
                    have hw := hw.2
                    obtain ⟨M_38, eM_38⟩ : ∃ z, z = (m2 M_34 8 (Int32.toNatClampNeg ((40 * x9_33) + (M1 M_34 5))) x7) := ⟨_, rfl⟩
                    rw [← eM_38] at hR
                    have hw := hw M_38 eM_38
                    refine lv_iinc (v := (x9_33 + 1)) (lv' := [(9, .int (x9_33 + 1)), (0, .ref mo), (7, .int x7)]) hx hb dX1_man_232 hl (k := 2) rfl rfl (by decide) rfl (fun ls hl => ?_)
                    refine lv_goto (tgt := 206) hx hb dX1_man_235 (by decide) ?_
                    exact hw ls _ _ hR hS (lv_sub hl [1, 2, 0] rfl)
                · have hw := x_t hw c_23
                  refine lv_bipush (v := (-4)) hx hb dX1_man_107 (by decide) ?_
                  exact xm_ri hx hb hr hlocks hR hS dX1_man_109 hw
              · have hw := x_t hw c_22
                refine lv_bipush (v := (-2)) hx hb dX1_man_95 (by decide) ?_
                exact xm_ri hx hb hr hlocks hR hS dX1_man_97 hw
  · have hw := x_f hw c_4
    refine lv_iconst (v := (-1)) hx hb dX1_man_14 (by decide) ?_
    exact xm_ri hx hb hr hlocks hR hS dX1_man_15 hw
def w_X1_noMan (M : xM) (x1 : Int32) (Q : Int32 → Prop) : Prop := w_X1_in M (Int32.toInt64 x1) 0 (Int32.toInt64 ((M1 M 5) - 1)) (fun (r_1 : Int32) => wif (r_1 = 0) (Q 1) (Q 0))
theorem hd_X1_noMan : yX1_noMan.cls = "PressedMenModel" ∧ yX1_noMan.cls ≠ "java/lang/invoke/MethodHandle" ∧ yX1_noMan.cls ≠ "java/lang/invoke/VarHandle" ∧ (parseMethodDescriptor yX1_noMan.desc).map (fun d => d.parameters.length) = some 1 := by decide +kernel
set_option maxHeartbeats 4000000 in
theorem mt_X1_noMan (l : Launch) {D : va_G} {d : Nat → ClassId} {base : Nat} {mo : Nat} {Aa : Nat → Nat} {M : xM} {S : xH} {x1 : Int32} {Q : Int32 → Prop} (hw : w_X1_noMan M x1 Q) : Met l yX1_noMan (ws_ yX1_noMan cX1_noMan 2 (some FieldType.boolean)) (x_rm 1 0 0 25) (x_Pc D d base (x_mc d mo Aa M) S [.ref mo, .int x1]) (xm_Qi D d base mo Aa S (fun r M' => M' = M ∧ Q r)) 0 0 (x_A base) := by
  refine x_met (by decide) (Nat.le_of_ble_eq_true rfl) ?_
  intro p e s m below meth c hx hb hml hr hlocks hown hts hz hR hK hin ls hl
  have hown : s.vm.findClass "PressedMenModel" = some m.cls := hown
  have hl : lv_has ls 2 [(0, .ref mo), (1, .int x1)] := hl
  have hS : va_S (x_A base) s.heap s.heap [] := va_S.rf
  unfold w_X1_noMan at hw
  refine lv_iload_n hx hb dX1_noMan_0 rfl (lv_at hl 1 rfl) ?_
  refine lv_i2l (v := (Int32.toInt64 x1)) hx hb dX1_noMan_1 rfl ?_
  refine lv_lconst (v := 0) hx hb dX1_noMan_2 (by decide) ?_
  refine lv_aload_n hx hb dX1_noMan_3 rfl (lv_at hl 0 rfl) ?_
  refine xm_getI (k := 5) hx hb hts in_X1 hown hK hR (by decide) (hts _ q971) rfl dX1_noMan_4 ?_
  refine lv_iconst (v := 1) hx hb dX1_noMan_7 (by decide) ?_
  refine lv_isub hx hb dX1_noMan_8 ?_
  refine lv_i2l (v := (Int32.toInt64 ((M1 M 5) - 1))) hx hb dX1_noMan_9 rfl ?_
  refine xm_ci (va_runS (As := [.long (Int32.toInt64 x1), .long 0, .long (Int32.toInt64 ((M1 M 5) - 1))]) (rest := []) ⟨hx, hb, hml, hown, hts⟩ (mt_X1_in l hw) (va_cwS 3 hts (lw_S q1089 q1090 q65 q1091) rfl rfl rfl hd_X1_in.2 ⟨Nat.le_of_ble_eq_true rfl, Nat.le_of_ble_eq_true rfl⟩) ⟨x_Pc_blind, x_Pc_pre hR hz hS hK⟩ rfl rfl hl.1 rfl (lv_room (Nat.le_of_ble_eq_true rfl)) dX1_noMan_10 ⟨Nat.le_refl _, Nat.le_refl _⟩) hS (fun r_1 M_2 H locs hp hR hS => ?_)
  have hw := hp.2
  rw [hp.1] at hR
  refine lv_if_ne (tgt := 20) hx hb dX1_noMan_13 (by decide) (fun c_3 => ?_) (fun c_3 => ?_)
  · have hw := x_f hw c_3
    refine lv_iconst (v := 0) hx hb dX1_noMan_20 (by decide) ?_
    exact xm_rz hx hb hr hlocks hR hS dX1_noMan_21 (Or.inl rfl) ⟨rfl, hw⟩
  · have hw := x_t hw c_3
    refine lv_iconst (v := 1) hx hb dX1_noMan_16 (by decide) ?_
    refine lv_goto (tgt := 21) hx hb dX1_noMan_17 (by decide) ?_
    exact xm_rz hx hb hr hlocks hR hS dX1_noMan_21 (Or.inr rfl) ⟨rfl, hw⟩
def w_X1_about (M : xM) (x1 : Int32) (x2 : Int32) (Q : Int32 → xM → Prop) : Prop := nm (m1 M 0 0) (fun M_1 : xM => w_X1_noMan M_1 x1 (fun (r_2 : Int32) => wif (r_2 = 0) (w_X1_in M_1 (Int32.toInt64 x2) 0 7 (fun (r_5 : Int32) => wif (r_5 = 0) (Q (-2) M_1) (vp_in ((8 * x1) + x2) 320 ∧ Q (M2 M_1 6 (Int32.toNatClampNeg ((8 * x1) + x2))) M_1))) (Q (-1) M_1)))
theorem hd_X1_about : yX1_about.cls = "PressedMenModel" ∧ yX1_about.cls ≠ "java/lang/invoke/MethodHandle" ∧ yX1_about.cls ≠ "java/lang/invoke/VarHandle" ∧ (parseMethodDescriptor yX1_about.desc).map (fun d => d.parameters.length) = some 2 := by decide +kernel
set_option maxHeartbeats 4000000 in
theorem mt_X1_about (l : Launch) {D : va_G} {d : Nat → ClassId} {base : Nat} {mo : Nat} {Aa : Nat → Nat} {M : xM} {S : xH} {x1 : Int32} {x2 : Int32} {Q : Int32 → xM → Prop} (hw : w_X1_about M x1 x2 Q) : Met l yX1_about (ws_ yX1_about cX1_about 3 (some FieldType.int)) (x_rm 2 0 0 46) (x_Pc D d base (x_mc d mo Aa M) S [.ref mo, .int x1, .int x2]) (xm_Qi D d base mo Aa S (fun r M' => Q r M')) 0 0 (x_A base) := by
  refine x_met (by decide) (Nat.le_of_ble_eq_true rfl) ?_
  intro p e s m below meth c hx hb hml hr hlocks hown hts hz hR hK hin ls hl
  have hown : s.vm.findClass "PressedMenModel" = some m.cls := hown
  have hl : lv_has ls 3 [(0, .ref mo), (1, .int x1), (2, .int x2)] := hl
  have hS : va_S (x_A base) s.heap s.heap [] := va_S.rf
  unfold w_X1_about at hw
  refine lv_aload_n hx hb dX1_about_0 rfl (lv_at hl 0 rfl) ?_
  refine lv_iconst (v := 0) hx hb dX1_about_1 (by decide) ?_
  refine xm_putI (M := M) (k := 0) hx hb hts in_X1 hown hK hR hS (by decide) (hts _ q966) rfl rfl rfl rfl dX1_about_2 (fun H locs hR hS => ?_)
  obtain ⟨M_1, eM_1⟩ : ∃ z, z = (m1 M 0 0) := ⟨_, rfl⟩
  rw [← eM_1] at hR
  have hw := hw M_1 eM_1
  refine lv_aload_n hx hb dX1_about_5 rfl (lv_at hl 0 rfl) ?_
  refine lv_iload_n hx hb dX1_about_6 rfl (lv_at hl 1 rfl) ?_
  refine xm_ci (va_runV (As := [.int x1]) (rest := []) ⟨hx, hb, hml, hown, hts⟩ (mt_X1_noMan l hw) (cwV 1 hts (lw_V q1123 q1125 qs38 q65 q1126) rfl rfl rfl hd_X1_noMan ⟨Nat.le_of_ble_eq_true rfl, Nat.le_of_ble_eq_true rfl⟩) ⟨x_Pc_blind, xm_recv hR hK, x_Pc_pre hR hz hS hK⟩ rfl rfl hl.1 rfl (lv_room (Nat.le_of_ble_eq_true rfl)) dX1_about_7 ⟨Nat.le_refl _, Nat.le_refl _⟩) hS (fun r_2 M_3 H locs hp hR hS => ?_)
  have hw := hp.2
  rw [hp.1] at hR
  refine lv_if_eq (tgt := 15) hx hb dX1_about_10 (by decide) (fun c_4 => ?_) (fun c_4 => ?_)
  · have hw := x_t hw c_4
    refine lv_iload_n hx hb dX1_about_15 rfl (lv_at hl 2 rfl) ?_
    refine lv_i2l (v := (Int32.toInt64 x2)) hx hb dX1_about_16 rfl ?_
    refine lv_lconst (v := 0) hx hb dX1_about_17 (by decide) ?_
    refine lv_ldc2 (v := 7) hx hb hown (hts _ q1127) dX1_about_18 ?_
    refine xm_ci (va_runS (As := [.long (Int32.toInt64 x2), .long 0, .long 7]) (rest := []) ⟨hx, hb, hml, hown, hts⟩ (mt_X1_in l hw) (va_cwS 3 hts (lw_S q1089 q1090 q65 q1091) rfl rfl rfl hd_X1_in.2 ⟨Nat.le_of_ble_eq_true rfl, Nat.le_of_ble_eq_true rfl⟩) ⟨x_Pc_blind, x_Pc_pre hR hz hS hK⟩ rfl rfl hl.1 rfl (lv_room (Nat.le_of_ble_eq_true rfl)) dX1_about_21 ⟨Nat.le_refl _, Nat.le_refl _⟩) hS (fun r_5 M_6 H locs hp hR hS => ?_)
    have hw := hp.2
    rw [hp.1] at hR
    refine lv_if_eq (tgt := 41) hx hb dX1_about_24 (by decide) (fun c_7 => ?_) (fun c_7 => ?_)
    · have hw := x_t hw c_7
      refine lv_bipush (v := (-2)) hx hb dX1_about_41 (by decide) ?_
      exact xm_ri hx hb hr hlocks hR hS dX1_about_43 hw
    · have hw := x_f hw c_7
      refine lv_aload_n hx hb dX1_about_27 rfl (lv_at hl 0 rfl) ?_
      refine xm_getA (k := 6) hx hb hts in_X1 hown hK hR (by decide) (hts _ q972) rfl dX1_about_28 ?_
      refine lv_bipush (v := 8) hx hb dX1_about_31 (by decide) ?_
      refine lv_iload_n hx hb dX1_about_33 rfl (lv_at hl 1 rfl) ?_
      refine lv_imul hx hb dX1_about_34 ?_
      refine lv_iload_n hx hb dX1_about_35 rfl (lv_at hl 2 rfl) ?_
      refine lv_iadd hx hb dX1_about_36 ?_
      refine xm_ild (M := M_1) (k := 6) (j := 2) hx hb hK hR dX1_about_37 rfl hw.1 ?_
      have hw := hw.2
      refine lv_goto (tgt := 43) hx hb dX1_about_38 (by decide) ?_
      exact xm_ri hx hb hr hlocks hR hS dX1_about_43 hw
  · have hw := x_f hw c_4
    refine lv_iconst (v := (-1)) hx hb dX1_about_13 (by decide) ?_
    exact xm_ri hx hb hr hlocks hR hS dX1_about_14 hw
def w_X1_shy (M : xM) (x1 : Int32) (x2 : Int32) (Q : Int32 → xM → Prop) : Prop := nm (m1 M 0 0) (fun M_1 : xM => w_X1_noMan M_1 x1 (fun (r_2 : Int32) => wif (r_2 = 0) (vp_in ((8 * x1) + 7) 320 ∧ nm (M2 M_1 6 (Int32.toNatClampNeg ((8 * x1) + 7))) (fun x3_5 : Int32 => jn (fun (v2_6 : Int32) => vp_in ((8 * x1) + 7) 320 ∧ nm (m2 M_1 6 (Int32.toNatClampNeg ((8 * x1) + 7)) v2_6) (fun M_8 : xM => Q x3_5 M_8)) (fun J_7 => wif (x2 = 0) (J_7 0) (J_7 1)))) (Q (-1) M_1)))
theorem hd_X1_shy : yX1_shy.cls = "PressedMenModel" ∧ yX1_shy.cls ≠ "java/lang/invoke/MethodHandle" ∧ yX1_shy.cls ≠ "java/lang/invoke/VarHandle" ∧ (parseMethodDescriptor yX1_shy.desc).map (fun d => d.parameters.length) = some 2 := by decide +kernel
set_option maxHeartbeats 4000000 in
theorem mt_X1_shy (l : Launch) {D : va_G} {d : Nat → ClassId} {base : Nat} {mo : Nat} {Aa : Nat → Nat} {M : xM} {S : xH} {x1 : Int32} {x2 : Int32} {Q : Int32 → xM → Prop} (hw : w_X1_shy M x1 x2 Q) : Met l yX1_shy (ws_ yX1_shy cX1_shy 4 (some FieldType.int)) (x_rm 2 0 0 46) (x_Pc D d base (x_mc d mo Aa M) S [.ref mo, .int x1, .int x2]) (xm_Qi D d base mo Aa S (fun r M' => Q r M')) 0 0 (x_A base) := by
  refine x_met (by decide) (Nat.le_of_ble_eq_true rfl) ?_
  intro p e s m below meth c hx hb hml hr hlocks hown hts hz hR hK hin ls hl
  have hown : s.vm.findClass "PressedMenModel" = some m.cls := hown
  have hl : lv_has ls 4 [(0, .ref mo), (1, .int x1), (2, .int x2)] := hl
  have hS : va_S (x_A base) s.heap s.heap [] := va_S.rf
  unfold w_X1_shy at hw
  refine lv_aload_n hx hb dX1_shy_0 rfl (lv_at hl 0 rfl) ?_
  refine lv_iconst (v := 0) hx hb dX1_shy_1 (by decide) ?_
  refine xm_putI (M := M) (k := 0) hx hb hts in_X1 hown hK hR hS (by decide) (hts _ q966) rfl rfl rfl rfl dX1_shy_2 (fun H locs hR hS => ?_)
  obtain ⟨M_1, eM_1⟩ : ∃ z, z = (m1 M 0 0) := ⟨_, rfl⟩
  rw [← eM_1] at hR
  have hw := hw M_1 eM_1
  refine lv_aload_n hx hb dX1_shy_5 rfl (lv_at hl 0 rfl) ?_
  refine lv_iload_n hx hb dX1_shy_6 rfl (lv_at hl 1 rfl) ?_
  refine xm_ci (va_runV (As := [.int x1]) (rest := []) ⟨hx, hb, hml, hown, hts⟩ (mt_X1_noMan l hw) (cwV 1 hts (lw_V q1123 q1125 qs38 q65 q1126) rfl rfl rfl hd_X1_noMan ⟨Nat.le_of_ble_eq_true rfl, Nat.le_of_ble_eq_true rfl⟩) ⟨x_Pc_blind, xm_recv hR hK, x_Pc_pre hR hz hS hK⟩ rfl rfl hl.1 rfl (lv_room (Nat.le_of_ble_eq_true rfl)) dX1_shy_7 ⟨Nat.le_refl _, Nat.le_refl _⟩) hS (fun r_2 M_3 H locs hp hR hS => ?_)
  have hw := hp.2
  rw [hp.1] at hR
  refine lv_if_eq (tgt := 15) hx hb dX1_shy_10 (by decide) (fun c_4 => ?_) (fun c_4 => ?_)
  · have hw := x_t hw c_4
    refine lv_aload_n hx hb dX1_shy_15 rfl (lv_at hl 0 rfl) ?_
    refine xm_getA (k := 6) hx hb hts in_X1 hown hK hR (by decide) (hts _ q972) rfl dX1_shy_16 ?_
    refine lv_bipush (v := 8) hx hb dX1_shy_19 (by decide) ?_
    refine lv_iload_n hx hb dX1_shy_21 rfl (lv_at hl 1 rfl) ?_
    refine lv_imul hx hb dX1_shy_22 ?_
    refine lv_bipush (v := 7) hx hb dX1_shy_23 (by decide) ?_
    refine lv_iadd hx hb dX1_shy_25 ?_
    refine xm_ild (M := M_1) (k := 6) (j := 2) hx hb hK hR dX1_shy_26 rfl hw.1 ?_
    have hw := hw.2
    refine lv_topi (fun x3_5 ex3_5 => ?_)
    have hw := hw x3_5 ex3_5
    refine lv_istore_n (lv' := [(3, .int x3_5), (0, .ref mo), (1, .int x1), (2, .int x2)]) hx hb dX1_shy_27 rfl hl (by decide) rfl (fun ls hl => ?_)
    refine lv_aload_n hx hb dX1_shy_28 rfl (lv_at hl 1 rfl) ?_
    refine xm_getA (k := 6) hx hb hts in_X1 hown hK hR (by decide) (hts _ q972) rfl dX1_shy_29 ?_
    refine lv_bipush (v := 8) hx hb dX1_shy_32 (by decide) ?_
    refine lv_iload_n hx hb dX1_shy_34 rfl (lv_at hl 2 rfl) ?_
    refine lv_imul hx hb dX1_shy_35 ?_
    refine lv_bipush (v := 7) hx hb dX1_shy_36 (by decide) ?_
    refine lv_iadd hx hb dX1_shy_38 ?_
    refine lv_iload_n hx hb dX1_shy_39 rfl (lv_at hl 3 rfl) ?_
    refine x_jn (G := fun (v2_6 : Int32) => ∀ (ls : Array Slot) (H : Heap) (locs : List Loc), x_Rp D d (x_A base) (x_mc d mo Aa M_1) S H → va_S (x_A base) s.heap H locs → lv_has ls 4 [(3, .int x3_5)] → W p l e (x_rm 2 0 0 46) s m ([.ref mo, .int x1, .int x2] : List Value).toArray below meth c H locs 0 0 (MQ below (xm_Qi D d base mo Aa S (fun r M' => Q r M')) ([.ref mo, .int x1, .int x2] : List Value).toArray s 0 0 (x_A base)) (F0 m 48 ls [.int v2_6, .int ((8 * x1) + 7), .ref (Aa 6)])) hw (fun v2_6 hw => ?_) (fun hJ_7 hw => ?_)
    · intro ls H locs hR hS hl
      refine xm_ist (M := M_1) (k := 6) (j := 2) hx hb hK hR hS dX1_shy_48 rfl hw.1 (fun H locs hR hS => ?_)
      have hw := hw.2
      obtain ⟨M_8, eM_8⟩ : ∃ z, z = (m2 M_1 6 (Int32.toNatClampNeg ((8 * x1) + 7)) v2_6) := ⟨_, rfl⟩
      rw [← eM_8] at hR
      have hw := hw M_8 eM_8
      refine lv_iload_n hx hb dX1_shy_49 rfl (lv_at hl 0 rfl) ?_
      exact xm_ri hx hb hr hlocks hR hS dX1_shy_50 hw
    · refine lv_if_eq (tgt := 47) hx hb dX1_shy_40 (by decide) (fun c_9 => ?_) (fun c_9 => ?_)
      · have hw := x_t hw c_9
        refine lv_iconst (v := 0) hx hb dX1_shy_47 (by decide) ?_
        exact hJ_7 0 hw ls _ _ hR hS (lv_sub hl [0] rfl)
      · have hw := x_f hw c_9
        refine lv_iconst (v := 1) hx hb dX1_shy_43 (by decide) ?_
        refine lv_goto (tgt := 48) hx hb dX1_shy_44 (by decide) ?_
        exact hJ_7 1 hw ls _ _ hR hS (lv_sub hl [0] rfl)
  · have hw := x_f hw c_4
    refine lv_iconst (v := (-1)) hx hb dX1_shy_13 (by decide) ?_
    exact xm_ri hx hb hr hlocks hR hS dX1_shy_14 hw
def w_X1_where (M : xM) (x1 : Int32) (x2 : Int32) (Q : Int32 → xM → Prop) : Prop := nm (m1 M 0 0) (fun M_1 : xM => w_X1_noMan M_1 x1 (fun (r_2 : Int32) => wif (r_2 = 0) (w_X1_in M_1 (Int32.toInt64 x2) 0 (Int32.toInt64 (M1 M_1 4)) (fun (r_5 : Int32) => wif (r_5 = 0) (Q (-2) M_1) (vp_in ((40 * x2) + x1) 36000 ∧ Q (M2 M_1 8 (Int32.toNatClampNeg ((40 * x2) + x1))) M_1))) (Q (-1) M_1)))
theorem hd_X1_where : yX1_where.cls = "PressedMenModel" ∧ yX1_where.cls ≠ "java/lang/invoke/MethodHandle" ∧ yX1_where.cls ≠ "java/lang/invoke/VarHandle" ∧ (parseMethodDescriptor yX1_where.desc).map (fun d => d.parameters.length) = some 2 := by decide +kernel
set_option maxHeartbeats 4000000 in
theorem mt_X1_where (l : Launch) {D : va_G} {d : Nat → ClassId} {base : Nat} {mo : Nat} {Aa : Nat → Nat} {M : xM} {S : xH} {x1 : Int32} {x2 : Int32} {Q : Int32 → xM → Prop} (hw : w_X1_where M x1 x2 Q) : Met l yX1_where (ws_ yX1_where cX1_where 3 (some FieldType.int)) (x_rm 2 0 0 46) (x_Pc D d base (x_mc d mo Aa M) S [.ref mo, .int x1, .int x2]) (xm_Qi D d base mo Aa S (fun r M' => Q r M')) 0 0 (x_A base) := by
  refine x_met (by decide) (Nat.le_of_ble_eq_true rfl) ?_
  intro p e s m below meth c hx hb hml hr hlocks hown hts hz hR hK hin ls hl
  have hown : s.vm.findClass "PressedMenModel" = some m.cls := hown
  have hl : lv_has ls 3 [(0, .ref mo), (1, .int x1), (2, .int x2)] := hl
  have hS : va_S (x_A base) s.heap s.heap [] := va_S.rf
  unfold w_X1_where at hw
  refine lv_aload_n hx hb dX1_where_0 rfl (lv_at hl 0 rfl) ?_
  refine lv_iconst (v := 0) hx hb dX1_where_1 (by decide) ?_
  refine xm_putI (M := M) (k := 0) hx hb hts in_X1 hown hK hR hS (by decide) (hts _ q966) rfl rfl rfl rfl dX1_where_2 (fun H locs hR hS => ?_)
  obtain ⟨M_1, eM_1⟩ : ∃ z, z = (m1 M 0 0) := ⟨_, rfl⟩
  rw [← eM_1] at hR
  have hw := hw M_1 eM_1
  refine lv_aload_n hx hb dX1_where_5 rfl (lv_at hl 0 rfl) ?_
  refine lv_iload_n hx hb dX1_where_6 rfl (lv_at hl 1 rfl) ?_
  refine xm_ci (va_runV (As := [.int x1]) (rest := []) ⟨hx, hb, hml, hown, hts⟩ (mt_X1_noMan l hw) (cwV 1 hts (lw_V q1123 q1125 qs38 q65 q1126) rfl rfl rfl hd_X1_noMan ⟨Nat.le_of_ble_eq_true rfl, Nat.le_of_ble_eq_true rfl⟩) ⟨x_Pc_blind, xm_recv hR hK, x_Pc_pre hR hz hS hK⟩ rfl rfl hl.1 rfl (lv_room (Nat.le_of_ble_eq_true rfl)) dX1_where_7 ⟨Nat.le_refl _, Nat.le_refl _⟩) hS (fun r_2 M_3 H locs hp hR hS => ?_)
  have hw := hp.2
  rw [hp.1] at hR
  refine lv_if_eq (tgt := 15) hx hb dX1_where_10 (by decide) (fun c_4 => ?_) (fun c_4 => ?_)
  · have hw := x_t hw c_4
    refine lv_iload_n hx hb dX1_where_15 rfl (lv_at hl 2 rfl) ?_
    refine lv_i2l (v := (Int32.toInt64 x2)) hx hb dX1_where_16 rfl ?_
    refine lv_lconst (v := 0) hx hb dX1_where_17 (by decide) ?_
    refine lv_aload_n hx hb dX1_where_18 rfl (lv_at hl 0 rfl) ?_
    refine xm_getI (k := 4) hx hb hts in_X1 hown hK hR (by decide) (hts _ q970) rfl dX1_where_19 ?_
    refine lv_i2l (v := (Int32.toInt64 (M1 M_1 4))) hx hb dX1_where_22 rfl ?_
    refine xm_ci (va_runS (As := [.long (Int32.toInt64 x2), .long 0, .long (Int32.toInt64 (M1 M_1 4))]) (rest := []) ⟨hx, hb, hml, hown, hts⟩ (mt_X1_in l hw) (va_cwS 3 hts (lw_S q1089 q1090 q65 q1091) rfl rfl rfl hd_X1_in.2 ⟨Nat.le_of_ble_eq_true rfl, Nat.le_of_ble_eq_true rfl⟩) ⟨x_Pc_blind, x_Pc_pre hR hz hS hK⟩ rfl rfl hl.1 rfl (lv_room (Nat.le_of_ble_eq_true rfl)) dX1_where_23 ⟨Nat.le_refl _, Nat.le_refl _⟩) hS (fun r_5 M_6 H locs hp hR hS => ?_)
    have hw := hp.2
    rw [hp.1] at hR
    refine lv_if_eq (tgt := 43) hx hb dX1_where_26 (by decide) (fun c_7 => ?_) (fun c_7 => ?_)
    · have hw := x_t hw c_7
      refine lv_bipush (v := (-2)) hx hb dX1_where_43 (by decide) ?_
      exact xm_ri hx hb hr hlocks hR hS dX1_where_45 hw
    · have hw := x_f hw c_7
      refine lv_aload_n hx hb dX1_where_29 rfl (lv_at hl 0 rfl) ?_
      refine xm_getA (k := 8) hx hb hts in_X1 hown hK hR (by decide) (hts _ q974) rfl dX1_where_30 ?_
      refine lv_bipush (v := 40) hx hb dX1_where_33 (by decide) ?_
      refine lv_iload_n hx hb dX1_where_35 rfl (lv_at hl 2 rfl) ?_
      refine lv_imul hx hb dX1_where_36 ?_
      refine lv_iload_n hx hb dX1_where_37 rfl (lv_at hl 1 rfl) ?_
      refine lv_iadd hx hb dX1_where_38 ?_
      refine xm_ild (M := M_1) (k := 8) (j := 4) hx hb hK hR dX1_where_39 rfl hw.1 ?_
      have hw := hw.2
      refine lv_goto (tgt := 45) hx hb dX1_where_40 (by decide) ?_
      exact xm_ri hx hb hr hlocks hR hS dX1_where_45 hw
  · have hw := x_f hw c_4
    refine lv_iconst (v := (-1)) hx hb dX1_where_13 (by decide) ?_
    exact xm_ri hx hb hr hlocks hR hS dX1_where_14 hw
def w_X1_placeOf (M : xM) (x1 : Int32) (Q : Int32 → Prop) : Prop := vp_in ((40 * (M1 M 4)) + x1) 36000 ∧ Q (M2 M 8 (Int32.toNatClampNeg ((40 * (M1 M 4)) + x1)))
theorem hd_X1_placeOf : yX1_placeOf.cls = "PressedMenModel" ∧ yX1_placeOf.cls ≠ "java/lang/invoke/MethodHandle" ∧ yX1_placeOf.cls ≠ "java/lang/invoke/VarHandle" ∧ (parseMethodDescriptor yX1_placeOf.desc).map (fun d => d.parameters.length) = some 1 := by decide +kernel
set_option maxHeartbeats 4000000 in
theorem mt_X1_placeOf (l : Launch) {D : va_G} {d : Nat → ClassId} {base : Nat} {mo : Nat} {Aa : Nat → Nat} {M : xM} {S : xH} {x1 : Int32} {Q : Int32 → Prop} (hw : w_X1_placeOf M x1 Q) : Met l yX1_placeOf (ws_ yX1_placeOf cX1_placeOf 2 (some FieldType.int)) (x_rm 0 0 0 0) (x_Pc D d base (x_mc d mo Aa M) S [.ref mo, .int x1]) (xm_Qi D d base mo Aa S (fun r M' => M' = M ∧ Q r)) 0 0 (x_A base) := by
  refine x_met (by decide) (Nat.le_of_ble_eq_true rfl) ?_
  intro p e s m below meth c hx hb hml hr hlocks hown hts hz hR hK hin ls hl
  have hown : s.vm.findClass "PressedMenModel" = some m.cls := hown
  have hl : lv_has ls 2 [(0, .ref mo), (1, .int x1)] := hl
  have hS : va_S (x_A base) s.heap s.heap [] := va_S.rf
  unfold w_X1_placeOf at hw
  refine lv_aload_n hx hb dX1_placeOf_0 rfl (lv_at hl 0 rfl) ?_
  refine xm_getA (k := 8) hx hb hts in_X1 hown hK hR (by decide) (hts _ q974) rfl dX1_placeOf_1 ?_
  refine lv_bipush (v := 40) hx hb dX1_placeOf_4 (by decide) ?_
  refine lv_aload_n hx hb dX1_placeOf_6 rfl (lv_at hl 0 rfl) ?_
  refine xm_getI (k := 4) hx hb hts in_X1 hown hK hR (by decide) (hts _ q970) rfl dX1_placeOf_7 ?_
  refine lv_imul hx hb dX1_placeOf_10 ?_
  refine lv_iload_n hx hb dX1_placeOf_11 rfl (lv_at hl 1 rfl) ?_
  refine lv_iadd hx hb dX1_placeOf_12 ?_
  refine xm_ild (M := M) (k := 8) (j := 4) hx hb hK hR dX1_placeOf_13 rfl hw.1 ?_
  have hw := hw.2
  exact xm_ri hx hb hr hlocks hR hS dX1_placeOf_14 ⟨rfl, hw⟩
def w_X1_many (M : xM) (x1 : Int32) (Q : Int32 → Prop) : Prop := lf2 (fun L_3 (x2_1 : Int32) (x3_2 : Int32) => wif ((M1 M 5) ≤ x3_2) (Q x2_1) (w_X1_placeOf M x3_2 (fun (r_5 : Int32) => jn (fun (v1_7 : Int32) => nm (x2_1 + v1_7) (fun x2_9 : Int32 => L_3 x2_9 (x3_2 + 1))) (fun J_8 => wif (r_5 = x1) (J_8 1) (J_8 0))))) 0 0
theorem hd_X1_many : yX1_many.cls = "PressedMenModel" ∧ yX1_many.cls ≠ "java/lang/invoke/MethodHandle" ∧ yX1_many.cls ≠ "java/lang/invoke/VarHandle" ∧ (parseMethodDescriptor yX1_many.desc).map (fun d => d.parameters.length) = some 1 := by decide +kernel
set_option maxHeartbeats 4000000 in
theorem mt_X1_many (l : Launch) {D : va_G} {d : Nat → ClassId} {base : Nat} {mo : Nat} {Aa : Nat → Nat} {M : xM} {S : xH} {x1 : Int32} {Q : Int32 → Prop} (hw : w_X1_many M x1 Q) : Met l yX1_many (ws_ yX1_many cX1_many 4 (some FieldType.int)) (x_rm 1 0 0 21) (x_Pc D d base (x_mc d mo Aa M) S [.ref mo, .int x1]) (xm_Qi D d base mo Aa S (fun r M' => M' = M ∧ Q r)) 0 0 (x_A base) := by
  refine x_met (by decide) (Nat.le_of_ble_eq_true rfl) ?_
  intro p e s m below meth c hx hb hml hr hlocks hown hts hz hR hK hin ls hl
  have hown : s.vm.findClass "PressedMenModel" = some m.cls := hown
  have hl : lv_has ls 4 [(0, .ref mo), (1, .int x1)] := hl
  have hS : va_S (x_A base) s.heap s.heap [] := va_S.rf
  unfold w_X1_many at hw
  refine lv_iconst (v := 0) hx hb dX1_many_0 (by decide) ?_
  refine lv_istore_n (lv' := [(2, .int 0), (0, .ref mo), (1, .int x1)]) hx hb dX1_many_1 rfl hl (by decide) rfl (fun ls hl => ?_)
  refine lv_iconst (v := 0) hx hb dX1_many_2 (by decide) ?_
  refine lv_istore_n (lv' := [(3, .int 0), (2, .int 0), (0, .ref mo), (1, .int x1)]) hx hb dX1_many_3 rfl hl (by decide) rfl (fun ls hl => ?_)
  refine x_lf2 (G := fun (x2_1 : Int32) (x3_2 : Int32) => ∀ (ls : Array Slot) (H : Heap) (locs : List Loc), x_Rp D d (x_A base) (x_mc d mo Aa M) S H → va_S (x_A base) s.heap H locs → lv_has ls 4 [(0, .ref mo), (1, .int x1), (2, .int x2_1), (3, .int x3_2)] → W p l e (x_rm 1 0 0 21) s m ([.ref mo, .int x1] : List Value).toArray below meth c H locs 0 0 (MQ below (xm_Qi D d base mo Aa S (fun r M' => M' = M ∧ Q r)) ([.ref mo, .int x1] : List Value).toArray s 0 0 (x_A base)) (F0 m 4 ls [])) hw (fun x2_1 x3_2 hw => ?_) ls _ _ hR hS (lv_sub hl [2, 3, 1, 0] rfl)
  intro ls H locs hR hS hl
  refine lv_iload_n hx hb dX1_many_4 rfl (lv_at hl 3 rfl) ?_
  refine lv_aload_n hx hb dX1_many_5 rfl (lv_at hl 0 rfl) ?_
  refine xm_getI (k := 5) hx hb hts in_X1 hown hK hR (by decide) (hts _ q971) rfl dX1_many_6 ?_
  refine lv_icmp_ge (tgt := 35) hx hb dX1_many_9 (by decide) (fun c_4 => ?_) (fun c_4 => ?_)
  · have hw := x_t hw c_4
    refine lv_iload_n hx hb dX1_many_35 rfl (lv_at hl 2 rfl) ?_
    exact xm_ri hx hb hr hlocks hR hS dX1_many_36 ⟨rfl, hw⟩
  · have hw := x_f hw c_4
    refine lv_iload_n hx hb dX1_many_12 rfl (lv_at hl 2 rfl) ?_
    refine lv_aload_n hx hb dX1_many_13 rfl (lv_at hl 0 rfl) ?_
    refine lv_iload_n hx hb dX1_many_14 rfl (lv_at hl 3 rfl) ?_
    refine xm_ci (va_runV (As := [.int x3_2]) (rest := [.int x2_1]) ⟨hx, hb, hml, hown, hts⟩ (mt_X1_placeOf l hw) (cwV 1 hts (lw_V q1146 q1148 qs40 q65 q1149) rfl rfl rfl hd_X1_placeOf ⟨Nat.le_of_ble_eq_true rfl, Nat.le_of_ble_eq_true rfl⟩) ⟨x_Pc_blind, xm_recv hR hK, x_Pc_pre hR hz hS hK⟩ rfl rfl hl.1 rfl (lv_room (Nat.le_of_ble_eq_true rfl)) dX1_many_15 ⟨Nat.le_refl _, Nat.le_refl _⟩) hS (fun r_5 M_6 H locs hp hR hS => ?_)
    have hw := hp.2
    rw [hp.1] at hR
    refine lv_iload_n hx hb dX1_many_18 rfl (lv_at hl 1 rfl) ?_
    refine x_jn (G := fun (v1_7 : Int32) => ∀ (ls : Array Slot) (H : Heap) (locs : List Loc), x_Rp D d (x_A base) (x_mc d mo Aa M) S H → va_S (x_A base) s.heap H locs → lv_has ls 4 [(0, .ref mo), (1, .int x1), (3, .int x3_2)] → W p l e (x_rm 1 0 0 21) s m ([.ref mo, .int x1] : List Value).toArray below meth c H locs 0 0 (MQ below (xm_Qi D d base mo Aa S (fun r M' => M' = M ∧ Q r)) ([.ref mo, .int x1] : List Value).toArray s 0 0 (x_A base)) (F0 m 27 ls [.int v1_7, .int x2_1])) hw (fun v1_7 hw => ?_) (fun hJ_8 hw => ?_)
    · intro ls H locs hR hS hl
      refine lv_iadd hx hb dX1_many_27 ?_
      refine lv_topi (fun x2_9 ex2_9 => ?_)
      have hw := hw x2_9 ex2_9
      refine lv_istore_n (lv' := [(2, .int x2_9), (0, .ref mo), (1, .int x1), (3, .int x3_2)]) hx hb dX1_many_28 rfl hl (by decide) rfl (fun ls hl => ?_)
      refine lv_iinc (v := (x3_2 + 1)) (lv' := [(3, .int (x3_2 + 1)), (2, .int x2_9), (0, .ref mo), (1, .int x1)]) hx hb dX1_many_29 hl (k := 3) rfl rfl (by decide) rfl (fun ls hl => ?_)
      refine lv_goto (tgt := 4) hx hb dX1_many_32 (by decide) ?_
      exact hw ls _ _ hR hS (lv_sub hl [2, 3, 1, 0] rfl)
    · refine lv_icmp_ne (tgt := 26) hx hb dX1_many_19 (by decide) (fun c_10 => ?_) (fun c_10 => ?_)
      · have hw := x_f hw c_10
        refine lv_iconst (v := 0) hx hb dX1_many_26 (by decide) ?_
        exact hJ_8 0 hw ls _ _ hR hS (lv_sub hl [0, 1, 3] rfl)
      · have hw := x_t hw c_10
        refine lv_iconst (v := 1) hx hb dX1_many_22 (by decide) ?_
        refine lv_goto (tgt := 27) hx hb dX1_many_23 (by decide) ?_
        exact hJ_8 1 hw ls _ _ hR hS (lv_sub hl [0, 1, 3] rfl)
def w_X1_at (M : xM) (x1 : Int32) (Q : Int32 → xM → Prop) : Prop := nm (m1 M 0 0) (fun M_1 : xM => w_X1_in M_1 (Int32.toInt64 x1) 0 (Int32.toInt64 ((M1 M_1 1) - 1)) (fun (r_2 : Int32) => jn0 (w_X1_many M_1 x1 (fun (r_5 : Int32) => Q r_5 M_1)) (fun J_4 => wif (r_2 = 0) (w_X1_in M_1 (Int32.toInt64 x1) 10 (Int32.toInt64 (9 + (M1 M_1 9))) (fun (r_8 : Int32) => wif (r_8 = 0) (w_X1_in M_1 (Int32.toInt64 x1) 20 23 (fun (r_11 : Int32) => wif (r_11 = 0) (Q (-2) M_1) (J_4))) (J_4))) (J_4))))
theorem hd_X1_at : yX1_at.cls = "PressedMenModel" ∧ yX1_at.cls ≠ "java/lang/invoke/MethodHandle" ∧ yX1_at.cls ≠ "java/lang/invoke/VarHandle" ∧ (parseMethodDescriptor yX1_at.desc).map (fun d => d.parameters.length) = some 1 := by decide +kernel
set_option maxHeartbeats 4000000 in
theorem mt_X1_at (l : Launch) {D : va_G} {d : Nat → ClassId} {base : Nat} {mo : Nat} {Aa : Nat → Nat} {M : xM} {S : xH} {x1 : Int32} {Q : Int32 → xM → Prop} (hw : w_X1_at M x1 Q) : Met l yX1_at (ws_ yX1_at cX1_at 2 (some FieldType.int)) (x_rm 2 0 0 44) (x_Pc D d base (x_mc d mo Aa M) S [.ref mo, .int x1]) (xm_Qi D d base mo Aa S (fun r M' => Q r M')) 0 0 (x_A base) := by
  refine x_met (by decide) (Nat.le_of_ble_eq_true rfl) ?_
  intro p e s m below meth c hx hb hml hr hlocks hown hts hz hR hK hin ls hl
  have hown : s.vm.findClass "PressedMenModel" = some m.cls := hown
  have hl : lv_has ls 2 [(0, .ref mo), (1, .int x1)] := hl
  have hS : va_S (x_A base) s.heap s.heap [] := va_S.rf
  unfold w_X1_at at hw
  refine lv_aload_n hx hb dX1_at_0 rfl (lv_at hl 0 rfl) ?_
  refine lv_iconst (v := 0) hx hb dX1_at_1 (by decide) ?_
  refine xm_putI (M := M) (k := 0) hx hb hts in_X1 hown hK hR hS (by decide) (hts _ q966) rfl rfl rfl rfl dX1_at_2 (fun H locs hR hS => ?_)
  obtain ⟨M_1, eM_1⟩ : ∃ z, z = (m1 M 0 0) := ⟨_, rfl⟩
  rw [← eM_1] at hR
  have hw := hw M_1 eM_1
  refine lv_iload_n hx hb dX1_at_5 rfl (lv_at hl 1 rfl) ?_
  refine lv_i2l (v := (Int32.toInt64 x1)) hx hb dX1_at_6 rfl ?_
  refine lv_lconst (v := 0) hx hb dX1_at_7 (by decide) ?_
  refine lv_aload_n hx hb dX1_at_8 rfl (lv_at hl 0 rfl) ?_
  refine xm_getI (k := 1) hx hb hts in_X1 hown hK hR (by decide) (hts _ q967) rfl dX1_at_9 ?_
  refine lv_iconst (v := 1) hx hb dX1_at_12 (by decide) ?_
  refine lv_isub hx hb dX1_at_13 ?_
  refine lv_i2l (v := (Int32.toInt64 ((M1 M_1 1) - 1))) hx hb dX1_at_14 rfl ?_
  refine xm_ci (va_runS (As := [.long (Int32.toInt64 x1), .long 0, .long (Int32.toInt64 ((M1 M_1 1) - 1))]) (rest := []) ⟨hx, hb, hml, hown, hts⟩ (mt_X1_in l hw) (va_cwS 3 hts (lw_S q1089 q1090 q65 q1091) rfl rfl rfl hd_X1_in.2 ⟨Nat.le_of_ble_eq_true rfl, Nat.le_of_ble_eq_true rfl⟩) ⟨x_Pc_blind, x_Pc_pre hR hz hS hK⟩ rfl rfl hl.1 rfl (lv_room (Nat.le_of_ble_eq_true rfl)) dX1_at_15 ⟨Nat.le_refl _, Nat.le_refl _⟩) hS (fun r_2 M_3 H locs hp hR hS => ?_)
  have hw := hp.2
  rw [hp.1] at hR
  refine x_jn0 (G := ∀ (ls : Array Slot) (H : Heap) (locs : List Loc), x_Rp D d (x_A base) (x_mc d mo Aa M_1) S H → va_S (x_A base) s.heap H locs → lv_has ls 2 [(0, .ref mo), (1, .int x1)] → W p l e (x_rm 2 0 0 44) s m ([.ref mo, .int x1] : List Value).toArray below meth c H locs 0 0 (MQ below (xm_Qi D d base mo Aa S (fun r M' => Q r M')) ([.ref mo, .int x1] : List Value).toArray s 0 0 (x_A base)) (F0 m 54 ls [])) hw (fun hw => ?_) (fun hJ_4 hw => ?_)
  · intro ls H locs hR hS hl
    refine lv_aload_n hx hb dX1_at_54 rfl (lv_at hl 0 rfl) ?_
    refine lv_iload_n hx hb dX1_at_55 rfl (lv_at hl 1 rfl) ?_
    refine xm_ci (va_runV (As := [.int x1]) (rest := []) ⟨hx, hb, hml, hown, hts⟩ (mt_X1_many l hw) (cwV 1 hts (lw_V q1142 q1144 qs39 q65 q1145) rfl rfl rfl hd_X1_many ⟨Nat.le_of_ble_eq_true rfl, Nat.le_of_ble_eq_true rfl⟩) ⟨x_Pc_blind, xm_recv hR hK, x_Pc_pre hR hz hS hK⟩ rfl rfl hl.1 rfl (lv_room (Nat.le_of_ble_eq_true rfl)) dX1_at_56 ⟨Nat.le_refl _, Nat.le_refl _⟩) hS (fun r_5 M_6 H locs hp hR hS => ?_)
    have hw := hp.2
    rw [hp.1] at hR
    refine lv_goto (tgt := 64) hx hb dX1_at_59 (by decide) ?_
    exact xm_ri hx hb hr hlocks hR hS dX1_at_64 hw
  · refine lv_if_ne (tgt := 54) hx hb dX1_at_18 (by decide) (fun c_7 => ?_) (fun c_7 => ?_)
    · have hw := x_f hw c_7
      exact hJ_4  hw ls _ _ hR hS (lv_sub hl [0, 1] rfl)
    · have hw := x_t hw c_7
      refine lv_iload_n hx hb dX1_at_21 rfl (lv_at hl 1 rfl) ?_
      refine lv_i2l (v := (Int32.toInt64 x1)) hx hb dX1_at_22 rfl ?_
      refine lv_ldc2 (v := 10) hx hb hown (hts _ q1112) dX1_at_23 ?_
      refine lv_bipush (v := 9) hx hb dX1_at_26 (by decide) ?_
      refine lv_aload_n hx hb dX1_at_28 rfl (lv_at hl 0 rfl) ?_
      refine xm_getI (k := 9) hx hb hts in_X1 hown hK hR (by decide) (hts _ q975) rfl dX1_at_29 ?_
      refine lv_iadd hx hb dX1_at_32 ?_
      refine lv_i2l (v := (Int32.toInt64 (9 + (M1 M_1 9)))) hx hb dX1_at_33 rfl ?_
      refine xm_ci (va_runS (As := [.long (Int32.toInt64 x1), .long 10, .long (Int32.toInt64 (9 + (M1 M_1 9)))]) (rest := []) ⟨hx, hb, hml, hown, hts⟩ (mt_X1_in l hw) (va_cwS 3 hts (lw_S q1089 q1090 q65 q1091) rfl rfl rfl hd_X1_in.2 ⟨Nat.le_of_ble_eq_true rfl, Nat.le_of_ble_eq_true rfl⟩) ⟨x_Pc_blind, x_Pc_pre hR hz hS hK⟩ rfl rfl hl.1 rfl (lv_room (Nat.le_of_ble_eq_true rfl)) dX1_at_34 ⟨Nat.le_refl _, Nat.le_refl _⟩) hS (fun r_8 M_9 H locs hp hR hS => ?_)
      have hw := hp.2
      rw [hp.1] at hR
      refine lv_if_ne (tgt := 54) hx hb dX1_at_37 (by decide) (fun c_10 => ?_) (fun c_10 => ?_)
      · have hw := x_f hw c_10
        exact hJ_4  hw ls _ _ hR hS (lv_sub hl [0, 1] rfl)
      · have hw := x_t hw c_10
        refine lv_iload_n hx hb dX1_at_40 rfl (lv_at hl 1 rfl) ?_
        refine lv_i2l (v := (Int32.toInt64 x1)) hx hb dX1_at_41 rfl ?_
        refine lv_ldc2 (v := 20) hx hb hown (hts _ q1140) dX1_at_42 ?_
        refine lv_ldc2 (v := 23) hx hb hown (hts _ q1141) dX1_at_45 ?_
        refine xm_ci (va_runS (As := [.long (Int32.toInt64 x1), .long 20, .long 23]) (rest := []) ⟨hx, hb, hml, hown, hts⟩ (mt_X1_in l hw) (va_cwS 3 hts (lw_S q1089 q1090 q65 q1091) rfl rfl rfl hd_X1_in.2 ⟨Nat.le_of_ble_eq_true rfl, Nat.le_of_ble_eq_true rfl⟩) ⟨x_Pc_blind, x_Pc_pre hR hz hS hK⟩ rfl rfl hl.1 rfl (lv_room (Nat.le_of_ble_eq_true rfl)) dX1_at_48 ⟨Nat.le_refl _, Nat.le_refl _⟩) hS (fun r_11 M_12 H locs hp hR hS => ?_)
        have hw := hp.2
        rw [hp.1] at hR
        refine lv_if_eq (tgt := 62) hx hb dX1_at_51 (by decide) (fun c_13 => ?_) (fun c_13 => ?_)
        · have hw := x_t hw c_13
          refine lv_bipush (v := (-2)) hx hb dX1_at_62 (by decide) ?_
          exact xm_ri hx hb hr hlocks hR hS dX1_at_64 hw
        · have hw := x_f hw c_13
          exact hJ_4  hw ls _ _ hR hS (lv_sub hl [0, 1] rfl)
def w_X1_tide (M : xM) (Q : Int32 → xM → Prop) : Prop := nm (m1 M 0 0) (fun M_1 : xM => Q (M1 M_1 4) M_1)
theorem hd_X1_tide : yX1_tide.cls = "PressedMenModel" ∧ yX1_tide.cls ≠ "java/lang/invoke/MethodHandle" ∧ yX1_tide.cls ≠ "java/lang/invoke/VarHandle" ∧ (parseMethodDescriptor yX1_tide.desc).map (fun d => d.parameters.length) = some 0 := by decide +kernel
set_option maxHeartbeats 4000000 in
theorem mt_X1_tide (l : Launch) {D : va_G} {d : Nat → ClassId} {base : Nat} {mo : Nat} {Aa : Nat → Nat} {M : xM} {S : xH} {Q : Int32 → xM → Prop} (hw : w_X1_tide M Q) : Met l yX1_tide (ws_ yX1_tide cX1_tide 1 (some FieldType.int)) (x_rm 0 0 0 0) (x_Pc D d base (x_mc d mo Aa M) S [.ref mo]) (xm_Qi D d base mo Aa S (fun r M' => Q r M')) 0 0 (x_A base) := by
  refine x_met (by decide) (Nat.le_of_ble_eq_true rfl) ?_
  intro p e s m below meth c hx hb hml hr hlocks hown hts hz hR hK hin ls hl
  have hown : s.vm.findClass "PressedMenModel" = some m.cls := hown
  have hl : lv_has ls 1 [(0, .ref mo)] := hl
  have hS : va_S (x_A base) s.heap s.heap [] := va_S.rf
  unfold w_X1_tide at hw
  refine lv_aload_n hx hb dX1_tide_0 rfl (lv_at hl 0 rfl) ?_
  refine lv_iconst (v := 0) hx hb dX1_tide_1 (by decide) ?_
  refine xm_putI (M := M) (k := 0) hx hb hts in_X1 hown hK hR hS (by decide) (hts _ q966) rfl rfl rfl rfl dX1_tide_2 (fun H locs hR hS => ?_)
  obtain ⟨M_1, eM_1⟩ : ∃ z, z = (m1 M 0 0) := ⟨_, rfl⟩
  rw [← eM_1] at hR
  have hw := hw M_1 eM_1
  refine lv_aload_n hx hb dX1_tide_5 rfl (lv_at hl 0 rfl) ?_
  refine xm_getI (k := 4) hx hb hts in_X1 hown hK hR (by decide) (hts _ q970) rfl dX1_tide_6 ?_
  exact xm_ri hx hb hr hlocks hR hS dX1_tide_9 hw
def w_X1_isStreet (M : xM) (x0 : Int32) (Q : Int32 → Prop) : Prop := w_X1_in M (Int32.toInt64 x0) 0 7 (fun (r_1 : Int32) => x_B r_1 ∧ Q r_1)
theorem hd_X1_isStreet : yX1_isStreet.cls = "PressedMenModel" ∧ yX1_isStreet.cls ≠ "java/lang/invoke/MethodHandle" ∧ yX1_isStreet.cls ≠ "java/lang/invoke/VarHandle" ∧ (parseMethodDescriptor yX1_isStreet.desc).map (fun d => d.parameters.length) = some 1 := by decide +kernel
set_option maxHeartbeats 4000000 in
theorem mt_X1_isStreet (l : Launch) {D : va_G} {d : Nat → ClassId} {base : Nat} {mo : Nat} {Aa : Nat → Nat} {M : xM} {S : xH} {x0 : Int32} {Q : Int32 → Prop} (hw : w_X1_isStreet M x0 Q) : Met l yX1_isStreet (ws_ yX1_isStreet cX1_isStreet 1 (some FieldType.boolean)) (x_rm 1 0 0 25) (x_Pc D d base (x_mc d mo Aa M) S [.int x0]) (xm_Qi D d base mo Aa S (fun r M' => M' = M ∧ Q r)) 0 0 (x_A base) := by
  refine x_met (by decide) (Nat.le_of_ble_eq_true rfl) ?_
  intro p e s m below meth c hx hb hml hr hlocks hown hts hz hR hK hin ls hl
  have hown : s.vm.findClass "PressedMenModel" = some m.cls := hown
  have hl : lv_has ls 1 [(0, .int x0)] := hl
  have hS : va_S (x_A base) s.heap s.heap [] := va_S.rf
  unfold w_X1_isStreet at hw
  refine lv_iload_n hx hb dX1_isStreet_0 rfl (lv_at hl 0 rfl) ?_
  refine lv_i2l (v := (Int32.toInt64 x0)) hx hb dX1_isStreet_1 rfl ?_
  refine lv_lconst (v := 0) hx hb dX1_isStreet_2 (by decide) ?_
  refine lv_ldc2 (v := 7) hx hb hown (hts _ q1127) dX1_isStreet_3 ?_
  refine xm_ci (va_runS (As := [.long (Int32.toInt64 x0), .long 0, .long 7]) (rest := []) ⟨hx, hb, hml, hown, hts⟩ (mt_X1_in l hw) (va_cwS 3 hts (lw_S q1089 q1090 q65 q1091) rfl rfl rfl hd_X1_in.2 ⟨Nat.le_of_ble_eq_true rfl, Nat.le_of_ble_eq_true rfl⟩) ⟨x_Pc_blind, x_Pc_pre hR hz hS hK⟩ rfl rfl hl.1 rfl (lv_room (Nat.le_of_ble_eq_true rfl)) dX1_isStreet_6 ⟨Nat.le_refl _, Nat.le_refl _⟩) hS (fun r_1 M_2 H locs hp hR hS => ?_)
  have hw := hp.2
  rw [hp.1] at hR
  exact xm_rz hx hb hr hlocks hR hS dX1_isStreet_9 hw.1 ⟨rfl, hw.2⟩
def w_X1_heardAt (M : xM) (x1 : Int32) (Q : Int32 → Prop) : Prop := nm (M1 M 24) (fun x3_1 : Int32 => lf2 (fun L_4 (x2_2 : Int32) (x3_3 : Int32) => wif ((M1 M 22) ≤ x3_3) (Q x2_2) (vp_in ((6 * x3_3) + 3) 360 ∧ nm (M2 M 23 (Int32.toNatClampNeg ((6 * x3_3) + 3))) (fun x4_6 : Int32 => w_X1_isStreet M x4_6 (fun (r_7 : Int32) => jn (fun (x2_9 : Int32) => L_4 x2_9 (x3_3 + 1)) (fun J_10 => wif (r_7 = 0) (J_10 x2_2) (vp_in ((8 * x4_6) + x1) 64 ∧ wif (100 ≤ (M2 M 3 (Int32.toNatClampNeg ((8 * x4_6) + x1)))) (J_10 x2_2) (vp_in (6 * x3_3) 360 ∧ vp_in ((8 * x4_6) + x1) 64 ∧ nm ((M2 M 23 (Int32.toNatClampNeg (6 * x3_3))) + (M2 M 3 (Int32.toNatClampNeg ((8 * x4_6) + x1)))) (fun x5_13 : Int32 => jn (fun (v0_14 : Int32) => J_10 v0_14) (fun J_15 => jn0 (J_15 x5_13) (fun J_16 => wif (x2_2 = (-9)) (J_16) (wif (x2_2 ≤ x5_13) (J_15 x2_2) (J_16)))))))))))) (-9) x3_1)
theorem hd_X1_heardAt : yX1_heardAt.cls = "PressedMenModel" ∧ yX1_heardAt.cls ≠ "java/lang/invoke/MethodHandle" ∧ yX1_heardAt.cls ≠ "java/lang/invoke/VarHandle" ∧ (parseMethodDescriptor yX1_heardAt.desc).map (fun d => d.parameters.length) = some 1 := by decide +kernel
set_option maxHeartbeats 4000000 in
theorem mt_X1_heardAt (l : Launch) {D : va_G} {d : Nat → ClassId} {base : Nat} {mo : Nat} {Aa : Nat → Nat} {M : xM} {S : xH} {x1 : Int32} {Q : Int32 → Prop} (hw : w_X1_heardAt M x1 Q) : Met l yX1_heardAt (ws_ yX1_heardAt cX1_heardAt 6 (some FieldType.int)) (x_rm 2 0 0 45) (x_Pc D d base (x_mc d mo Aa M) S [.ref mo, .int x1]) (xm_Qi D d base mo Aa S (fun r M' => M' = M ∧ Q r)) 0 0 (x_A base) := by
  refine x_met (by decide) (Nat.le_of_ble_eq_true rfl) ?_
  intro p e s m below meth c hx hb hml hr hlocks hown hts hz hR hK hin ls hl
  have hown : s.vm.findClass "PressedMenModel" = some m.cls := hown
  have hl : lv_has ls 6 [(0, .ref mo), (1, .int x1)] := hl
  have hS : va_S (x_A base) s.heap s.heap [] := va_S.rf
  unfold w_X1_heardAt at hw
  refine lv_bipush (v := (-9)) hx hb dX1_heardAt_0 (by decide) ?_
  refine lv_istore_n (lv' := [(2, .int (-9)), (0, .ref mo), (1, .int x1)]) hx hb dX1_heardAt_2 rfl hl (by decide) rfl (fun ls hl => ?_)
  refine lv_aload_n hx hb dX1_heardAt_3 rfl (lv_at hl 1 rfl) ?_
  refine xm_getI (k := 24) hx hb hts in_X1 hown hK hR (by decide) (hts _ q990) rfl dX1_heardAt_4 ?_
  refine lv_topi (fun x3_1 ex3_1 => ?_)
  have hw := hw x3_1 ex3_1
  refine lv_istore_n (lv' := [(3, .int x3_1), (2, .int (-9)), (0, .ref mo), (1, .int x1)]) hx hb dX1_heardAt_7 rfl hl (by decide) rfl (fun ls hl => ?_)
  refine x_lf2 (G := fun (x2_2 : Int32) (x3_3 : Int32) => ∀ (ls : Array Slot) (H : Heap) (locs : List Loc), x_Rp D d (x_A base) (x_mc d mo Aa M) S H → va_S (x_A base) s.heap H locs → lv_has ls 6 [(0, .ref mo), (1, .int x1), (2, .int x2_2), (3, .int x3_3)] → W p l e (x_rm 2 0 0 45) s m ([.ref mo, .int x1] : List Value).toArray below meth c H locs 0 0 (MQ below (xm_Qi D d base mo Aa S (fun r M' => M' = M ∧ Q r)) ([.ref mo, .int x1] : List Value).toArray s 0 0 (x_A base)) (F0 m 8 ls [])) hw (fun x2_2 x3_3 hw => ?_) ls _ _ hR hS (lv_sub hl [2, 3, 1, 0] rfl)
  intro ls H locs hR hS hl
  refine lv_iload_n hx hb dX1_heardAt_8 rfl (lv_at hl 3 rfl) ?_
  refine lv_aload_n hx hb dX1_heardAt_9 rfl (lv_at hl 0 rfl) ?_
  refine xm_getI (k := 22) hx hb hts in_X1 hown hK hR (by decide) (hts _ q988) rfl dX1_heardAt_10 ?_
  refine lv_icmp_ge (tgt := 103) hx hb dX1_heardAt_13 (by decide) (fun c_5 => ?_) (fun c_5 => ?_)
  · have hw := x_t hw c_5
    refine lv_iload_n hx hb dX1_heardAt_103 rfl (lv_at hl 2 rfl) ?_
    exact xm_ri hx hb hr hlocks hR hS dX1_heardAt_104 ⟨rfl, hw⟩
  · have hw := x_f hw c_5
    refine lv_aload_n hx hb dX1_heardAt_16 rfl (lv_at hl 0 rfl) ?_
    refine xm_getA (k := 23) hx hb hts in_X1 hown hK hR (by decide) (hts _ q989) rfl dX1_heardAt_17 ?_
    refine lv_bipush (v := 6) hx hb dX1_heardAt_20 (by decide) ?_
    refine lv_iload_n hx hb dX1_heardAt_22 rfl (lv_at hl 3 rfl) ?_
    refine lv_imul hx hb dX1_heardAt_23 ?_
    refine lv_iconst (v := 3) hx hb dX1_heardAt_24 (by decide) ?_
    refine lv_iadd hx hb dX1_heardAt_25 ?_
    refine xm_ild (M := M) (k := 23) (j := 15) hx hb hK hR dX1_heardAt_26 rfl hw.1 ?_
    have hw := hw.2
    refine lv_topi (fun x4_6 ex4_6 => ?_)
    have hw := hw x4_6 ex4_6
    refine lv_istore (lv' := [(4, .int x4_6), (0, .ref mo), (1, .int x1), (2, .int x2_2), (3, .int x3_3)]) hx hb dX1_heardAt_27 hl (by decide) rfl (fun ls hl => ?_)
    refine lv_iload hx hb dX1_heardAt_29 (lv_at hl 0 rfl) ?_
    refine xm_ci (va_runS (As := [.int x4_6]) (rest := []) ⟨hx, hb, hml, hown, hts⟩ (mt_X1_isStreet l hw) (va_cwS 1 hts (lw_S q1162 q1163 q65 q1164) rfl rfl rfl hd_X1_isStreet.2 ⟨Nat.le_of_ble_eq_true rfl, Nat.le_of_ble_eq_true rfl⟩) ⟨x_Pc_blind, x_Pc_pre hR hz hS hK⟩ rfl rfl hl.1 rfl (lv_room (Nat.le_of_ble_eq_true rfl)) dX1_heardAt_31 ⟨Nat.le_refl _, Nat.le_refl _⟩) hS (fun r_7 M_8 H locs hp hR hS => ?_)
    have hw := hp.2
    rw [hp.1] at hR
    refine x_jn (G := fun (x2_9 : Int32) => ∀ (ls : Array Slot) (H : Heap) (locs : List Loc), x_Rp D d (x_A base) (x_mc d mo Aa M) S H → va_S (x_A base) s.heap H locs → lv_has ls 6 [(0, .ref mo), (1, .int x1), (2, .int x2_9), (3, .int x3_3)] → W p l e (x_rm 2 0 0 45) s m ([.ref mo, .int x1] : List Value).toArray below meth c H locs 0 0 (MQ below (xm_Qi D d base mo Aa S (fun r M' => M' = M ∧ Q r)) ([.ref mo, .int x1] : List Value).toArray s 0 0 (x_A base)) (F0 m 97 ls [])) hw (fun x2_9 hw => ?_) (fun hJ_10 hw => ?_)
    · intro ls H locs hR hS hl
      refine lv_iinc (v := (x3_3 + 1)) (lv' := [(3, .int (x3_3 + 1)), (0, .ref mo), (1, .int x1), (2, .int x2_9)]) hx hb dX1_heardAt_97 hl (k := 3) rfl rfl (by decide) rfl (fun ls hl => ?_)
      refine lv_goto (tgt := 8) hx hb dX1_heardAt_100 (by decide) ?_
      exact hw ls _ _ hR hS (lv_sub hl [1, 2, 3, 0] rfl)
    · refine lv_if_eq (tgt := 97) hx hb dX1_heardAt_34 (by decide) (fun c_11 => ?_) (fun c_11 => ?_)
      · have hw := x_t hw c_11
        exact hJ_10 x2_2 hw ls _ _ hR hS (lv_sub hl [1, 2, 3, 4] rfl)
      · have hw := x_f hw c_11
        refine lv_aload_n hx hb dX1_heardAt_37 rfl (lv_at hl 1 rfl) ?_
        refine xm_getA (k := 3) hx hb hts in_X1 hown hK hR (by decide) (hts _ q969) rfl dX1_heardAt_38 ?_
        refine lv_bipush (v := 8) hx hb dX1_heardAt_41 (by decide) ?_
        refine lv_iload hx hb dX1_heardAt_43 (lv_at hl 0 rfl) ?_
        refine lv_imul hx hb dX1_heardAt_45 ?_
        refine lv_iload_n hx hb dX1_heardAt_46 rfl (lv_at hl 2 rfl) ?_
        refine lv_iadd hx hb dX1_heardAt_47 ?_
        refine xm_ild (M := M) (k := 3) (j := 1) hx hb hK hR dX1_heardAt_48 rfl hw.1 ?_
        have hw := hw.2
        refine lv_bipush (v := 100) hx hb dX1_heardAt_49 (by decide) ?_
        refine lv_icmp_ge (tgt := 97) hx hb dX1_heardAt_51 (by decide) (fun c_12 => ?_) (fun c_12 => ?_)
        · have hw := x_t hw c_12
          exact hJ_10 x2_2 hw ls _ _ hR hS (lv_sub hl [1, 2, 3, 4] rfl)
        · have hw := x_f hw c_12
          refine lv_aload_n hx hb dX1_heardAt_54 rfl (lv_at hl 1 rfl) ?_
          refine xm_getA (k := 23) hx hb hts in_X1 hown hK hR (by decide) (hts _ q989) rfl dX1_heardAt_55 ?_
          refine lv_bipush (v := 6) hx hb dX1_heardAt_58 (by decide) ?_
          refine lv_iload_n hx hb dX1_heardAt_60 rfl (lv_at hl 4 rfl) ?_
          refine lv_imul hx hb dX1_heardAt_61 ?_
          refine xm_ild (M := M) (k := 23) (j := 15) hx hb hK hR dX1_heardAt_62 rfl hw.1 ?_
          have hw := hw.2
          refine lv_aload_n hx hb dX1_heardAt_63 rfl (lv_at hl 1 rfl) ?_
          refine xm_getA (k := 3) hx hb hts in_X1 hown hK hR (by decide) (hts _ q969) rfl dX1_heardAt_64 ?_
          refine lv_bipush (v := 8) hx hb dX1_heardAt_67 (by decide) ?_
          refine lv_iload hx hb dX1_heardAt_69 (lv_at hl 0 rfl) ?_
          refine lv_imul hx hb dX1_heardAt_71 ?_
          refine lv_iload_n hx hb dX1_heardAt_72 rfl (lv_at hl 2 rfl) ?_
          refine lv_iadd hx hb dX1_heardAt_73 ?_
          refine xm_ild (M := M) (k := 3) (j := 1) hx hb hK hR dX1_heardAt_74 rfl hw.1 ?_
          have hw := hw.2
          refine lv_iadd hx hb dX1_heardAt_75 ?_
          refine lv_topi (fun x5_13 ex5_13 => ?_)
          have hw := hw x5_13 ex5_13
          refine lv_istore (lv' := [(5, .int x5_13), (4, .int x4_6), (0, .ref mo), (1, .int x1), (2, .int x2_2), (3, .int x3_3)]) hx hb dX1_heardAt_76 hl (by decide) rfl (fun ls hl => ?_)
          refine lv_iload_n hx hb dX1_heardAt_78 rfl (lv_at hl 4 rfl) ?_
          refine lv_bipush (v := (-9)) hx hb dX1_heardAt_79 (by decide) ?_
          refine x_jn (G := fun (v0_14 : Int32) => ∀ (ls : Array Slot) (H : Heap) (locs : List Loc), x_Rp D d (x_A base) (x_mc d mo Aa M) S H → va_S (x_A base) s.heap H locs → lv_has ls 6 [(0, .ref mo), (1, .int x1), (3, .int x3_3)] → W p l e (x_rm 2 0 0 45) s m ([.ref mo, .int x1] : List Value).toArray below meth c H locs 0 0 (MQ below (xm_Qi D d base mo Aa S (fun r M' => M' = M ∧ Q r)) ([.ref mo, .int x1] : List Value).toArray s 0 0 (x_A base)) (F0 m 96 ls [.int v0_14])) hw (fun v0_14 hw => ?_) (fun hJ_15 hw => ?_)
          · intro ls H locs hR hS hl
            refine lv_istore_n (lv' := [(2, .int v0_14), (0, .ref mo), (1, .int x1), (3, .int x3_3)]) hx hb dX1_heardAt_96 rfl hl (by decide) rfl (fun ls hl => ?_)
            exact hJ_10 v0_14 hw ls _ _ hR hS (lv_sub hl [1, 2, 0, 3] rfl)
          · refine x_jn0 (G := ∀ (ls : Array Slot) (H : Heap) (locs : List Loc), x_Rp D d (x_A base) (x_mc d mo Aa M) S H → va_S (x_A base) s.heap H locs → lv_has ls 6 [(0, .ref mo), (1, .int x1), (3, .int x3_3), (5, .int x5_13)] → W p l e (x_rm 2 0 0 45) s m ([.ref mo, .int x1] : List Value).toArray below meth c H locs 0 0 (MQ below (xm_Qi D d base mo Aa S (fun r M' => M' = M ∧ Q r)) ([.ref mo, .int x1] : List Value).toArray s 0 0 (x_A base)) (F0 m 90 ls [])) hw (fun hw => ?_) (fun hJ_16 hw => ?_)
            · intro ls H locs hR hS hl
              refine lv_iload hx hb dX1_heardAt_90 (lv_at hl 3 rfl) ?_
              refine lv_goto (tgt := 96) hx hb dX1_heardAt_92 (by decide) ?_
              exact hJ_15 x5_13 hw ls _ _ hR hS (lv_sub hl [0, 1, 2] rfl)
            · refine lv_icmp_eq (tgt := 90) hx hb dX1_heardAt_81 (by decide) (fun c_17 => ?_) (fun c_17 => ?_)
              · have hw := x_t hw c_17
                exact hJ_16  hw ls _ _ hR hS (lv_sub hl [2, 3, 5, 0] rfl)
              · have hw := x_f hw c_17
                refine lv_iload hx hb dX1_heardAt_84 (lv_at hl 0 rfl) ?_
                refine lv_iload_n hx hb dX1_heardAt_86 rfl (lv_at hl 4 rfl) ?_
                refine lv_icmp_ge (tgt := 95) hx hb dX1_heardAt_87 (by decide) (fun c_18 => ?_) (fun c_18 => ?_)
                · have hw := x_t hw c_18
                  refine lv_iload_n hx hb dX1_heardAt_95 rfl (lv_at hl 4 rfl) ?_
                  exact hJ_15 x2_2 hw ls _ _ hR hS (lv_sub hl [2, 3, 5] rfl)
                · have hw := x_f hw c_18
                  exact hJ_16  hw ls _ _ hR hS (lv_sub hl [2, 3, 5, 0] rfl)
def w_X1_go (M : xM) (x1 : Int32) (x2 : Int32) (Q : xM → Prop) : Prop := vp_in ((40 * (M1 M 4)) + x1) 36000 ∧ nm (m2 M 8 (Int32.toNatClampNeg ((40 * (M1 M 4)) + x1)) x2) (fun M_1 : xM => Q M_1)
theorem hd_X1_go : yX1_go.cls = "PressedMenModel" ∧ yX1_go.cls ≠ "java/lang/invoke/MethodHandle" ∧ yX1_go.cls ≠ "java/lang/invoke/VarHandle" ∧ (parseMethodDescriptor yX1_go.desc).map (fun d => d.parameters.length) = some 2 := by decide +kernel
set_option maxHeartbeats 4000000 in
theorem mt_X1_go (l : Launch) {D : va_G} {d : Nat → ClassId} {base : Nat} {mo : Nat} {Aa : Nat → Nat} {M : xM} {S : xH} {x1 : Int32} {x2 : Int32} {Q : xM → Prop} (hw : w_X1_go M x1 x2 Q) : Met l yX1_go (ws_ yX1_go cX1_go 3 none) (x_rm 0 0 0 0) (x_Pc D d base (x_mc d mo Aa M) S [.ref mo, .int x1, .int x2]) (xm_Qv D d base mo Aa S (fun M' => Q M')) 0 0 (x_A base) := by
  refine x_met (by decide) (Nat.le_of_ble_eq_true rfl) ?_
  intro p e s m below meth c hx hb hml hr hlocks hown hts hz hR hK hin ls hl
  have hown : s.vm.findClass "PressedMenModel" = some m.cls := hown
  have hl : lv_has ls 3 [(0, .ref mo), (1, .int x1), (2, .int x2)] := hl
  have hS : va_S (x_A base) s.heap s.heap [] := va_S.rf
  unfold w_X1_go at hw
  refine lv_aload_n hx hb dX1_go_0 rfl (lv_at hl 0 rfl) ?_
  refine xm_getA (k := 8) hx hb hts in_X1 hown hK hR (by decide) (hts _ q974) rfl dX1_go_1 ?_
  refine lv_bipush (v := 40) hx hb dX1_go_4 (by decide) ?_
  refine lv_aload_n hx hb dX1_go_6 rfl (lv_at hl 0 rfl) ?_
  refine xm_getI (k := 4) hx hb hts in_X1 hown hK hR (by decide) (hts _ q970) rfl dX1_go_7 ?_
  refine lv_imul hx hb dX1_go_10 ?_
  refine lv_iload_n hx hb dX1_go_11 rfl (lv_at hl 1 rfl) ?_
  refine lv_iadd hx hb dX1_go_12 ?_
  refine lv_iload_n hx hb dX1_go_13 rfl (lv_at hl 2 rfl) ?_
  refine xm_ist (M := M) (k := 8) (j := 4) hx hb hK hR hS dX1_go_14 rfl hw.1 (fun H locs hR hS => ?_)
  have hw := hw.2
  obtain ⟨M_1, eM_1⟩ : ∃ z, z = (m2 M 8 (Int32.toNatClampNeg ((40 * (M1 M 4)) + x1)) x2) := ⟨_, rfl⟩
  rw [← eM_1] at hR
  have hw := hw M_1 eM_1
  exact xm_rv hx hb hr hlocks hR hS dX1_go_15 hw
def w_X1_goOn (M : xM) (Q : xM → Prop) : Prop := nm (m1 M 4 ((M1 M 4) + 1)) (fun M_1 : xM => lf2 (fun L_4 (x1_2 : Int32) (M_3 : xM) => wif ((M1 M_3 5) ≤ x1_2) (lf2 (fun L_8 (x1_6 : Int32) (M_7 : xM) => wif ((M1 M_7 5) ≤ x1_6) (w_X1_many M_7 20 (fun (r_10 : Int32) => nm (r_10 - (M1 M_7 25)) (fun x1_12 : Int32 => jn (fun (v0_13 : Int32) => lf3 (fun L_18 (x2_15 : Int32) (x3_16 : Int32) (M_17 : xM) => jn0 (lf2 (fun L_22 (x3_20 : Int32) (M_21 : xM) => wif ((M1 M_21 5) ≤ x3_20) (Q M_21) (w_X1_placeOf M_21 x3_20 (fun (r_24 : Int32) => jn (fun (M_26 : xM) => L_22 (x3_20 + 1) M_26) (fun J_27 => wif (r_24 = 21) (vp_in x3_20 40 ∧ wif ((M2 M_21 7 (Int32.toNatClampNeg x3_20)) = ((M1 M_21 4) - 10)) (vp_in ((8 * x3_20) + 6) 320 ∧ w_X1_go M_21 x3_20 (M2 M_21 6 (Int32.toNatClampNeg ((8 * x3_20) + 6))) (fun (M_30 : xM) => J_27 M_30)) (J_27 M_21)) (J_27 M_21))))) 0 M_17) (fun J_19 => wif ((M1 M_17 5) ≤ x3_16) (J_19) (wif (x2_15 ≤ 0) (J_19) (w_X1_placeOf M_17 x3_16 (fun (r_33 : Int32) => jn2 (fun (x2_35 : Int32) (M_36 : xM) => L_18 x2_35 (x3_16 + 1) M_36) (fun J_37 => wif (r_33 = 20) (w_X1_go M_17 x3_16 21 (fun (M_39 : xM) => vp_in x3_16 40 ∧ nm (m2 M_39 7 (Int32.toNatClampNeg x3_16) (M1 M_39 4)) (fun M_40 : xM => J_37 (x2_15 + (-1)) M_40))) (J_37 x2_15 M_17))))))) v0_13 0 M_7) (fun J_14 => wif (x1_12 ≤ 0) (J_14 0) (J_14 ((x1_12 * (M1 M_7 26)) / 100)))))) (w_X1_placeOf M_7 x1_6 (fun (r_42 : Int32) => w_X1_isStreet M_7 r_42 (fun (r_44 : Int32) => jn (fun (v0_46 : Int32) => vp_in ((8 * x1_6) + 7) 320 ∧ jn (fun (M_48 : xM) => L_8 (x1_6 + 1) M_48) (fun J_49 => wif ((M2 M_7 6 (Int32.toNatClampNeg ((8 * x1_6) + 7))) = 1) (wif (v0_46 = (-9)) (J_49 M_7) (wif ((M1 M_7 4) < v0_46) (J_49 M_7) (w_X1_go M_7 x1_6 22 (fun (M_53 : xM) => J_49 M_53)))) (J_49 M_7))) (fun J_47 => wif (r_44 = 0) (J_47 (-9)) (w_X1_heardAt M_7 r_42 (fun (r_55 : Int32) => J_47 r_55))))))) 0 M_3) (vp_in ((40 * ((M1 M_3 4) - 1)) + x1_2) 36000 ∧ vp_in ((40 * (M1 M_3 4)) + x1_2) 36000 ∧ nm (m2 M_3 8 (Int32.toNatClampNeg ((40 * (M1 M_3 4)) + x1_2)) (M2 M_3 8 (Int32.toNatClampNeg ((40 * ((M1 M_3 4) - 1)) + x1_2)))) (fun M_57 : xM => L_4 (x1_2 + 1) M_57))) 0 M_1)
theorem hd_X1_goOn : yX1_goOn.cls = "PressedMenModel" ∧ yX1_goOn.cls ≠ "java/lang/invoke/MethodHandle" ∧ yX1_goOn.cls ≠ "java/lang/invoke/VarHandle" ∧ (parseMethodDescriptor yX1_goOn.desc).map (fun d => d.parameters.length) = some 0 := by decide +kernel
set_option maxHeartbeats 4000000 in
theorem mt_X1_goOn (l : Launch) {D : va_G} {d : Nat → ClassId} {base : Nat} {mo : Nat} {Aa : Nat → Nat} {M : xM} {S : xH} {Q : xM → Prop} (hw : w_X1_goOn M Q) : Met l yX1_goOn (ws_ yX1_goOn cX1_goOn 4 none) (x_rm 3 0 0 70) (x_Pc D d base (x_mc d mo Aa M) S [.ref mo]) (xm_Qv D d base mo Aa S (fun M' => Q M')) 0 0 (x_A base) := by
  refine x_met (by decide) (Nat.le_of_ble_eq_true rfl) ?_
  intro p e s m below meth c hx hb hml hr hlocks hown hts hz hR hK hin ls hl
  have hown : s.vm.findClass "PressedMenModel" = some m.cls := hown
  have hl : lv_has ls 4 [(0, .ref mo)] := hl
  have hS : va_S (x_A base) s.heap s.heap [] := va_S.rf
  unfold w_X1_goOn at hw
  refine lv_aload_n hx hb dX1_goOn_0 rfl (lv_at hl 0 rfl) ?_
  refine lv_dup hx hb dX1_goOn_1 rfl ?_
  refine xm_getI (k := 4) hx hb hts in_X1 hown hK hR (by decide) (hts _ q970) rfl dX1_goOn_2 ?_
  refine lv_iconst (v := 1) hx hb dX1_goOn_5 (by decide) ?_
  refine lv_iadd hx hb dX1_goOn_6 ?_
  refine xm_putI (M := M) (k := 4) hx hb hts in_X1 hown hK hR hS (by decide) (hts _ q970) rfl rfl rfl rfl dX1_goOn_7 (fun H locs hR hS => ?_)
  obtain ⟨M_1, eM_1⟩ : ∃ z, z = (m1 M 4 ((M1 M 4) + 1)) := ⟨_, rfl⟩
  rw [← eM_1] at hR
  have hw := hw M_1 eM_1
  refine lv_iconst (v := 0) hx hb dX1_goOn_10 (by decide) ?_
  refine lv_istore_n (lv' := [(1, .int 0), (0, .ref mo)]) hx hb dX1_goOn_11 rfl hl (by decide) rfl (fun ls hl => ?_)
  refine x_lf2 (G := fun (x1_2 : Int32) (M_3 : xM) => ∀ (ls : Array Slot) (H : Heap) (locs : List Loc), x_Rp D d (x_A base) (x_mc d mo Aa M_3) S H → va_S (x_A base) s.heap H locs → lv_has ls 4 [(0, .ref mo), (1, .int x1_2)] → W p l e (x_rm 3 0 0 70) s m ([.ref mo] : List Value).toArray below meth c H locs 0 0 (MQ below (xm_Qv D d base mo Aa S (fun M' => Q M')) ([.ref mo] : List Value).toArray s 0 0 (x_A base)) (F0 m 12 ls [])) hw (fun x1_2 M_3 hw => ?_) ls _ _ hR hS (lv_sub hl [1, 0] rfl)
  intro ls H locs hR hS hl
  refine lv_iload_n hx hb dX1_goOn_12 rfl (lv_at hl 1 rfl) ?_
  refine lv_aload_n hx hb dX1_goOn_13 rfl (lv_at hl 0 rfl) ?_
  refine xm_getI (k := 5) hx hb hts in_X1 hown hK hR (by decide) (hts _ q971) rfl dX1_goOn_14 ?_
  refine lv_icmp_ge (tgt := 56) hx hb dX1_goOn_17 (by decide) (fun c_5 => ?_) (fun c_5 => ?_)
  · have hw := x_t hw c_5
    refine lv_iconst (v := 0) hx hb dX1_goOn_56 (by decide) ?_
    refine lv_istore_n (lv' := [(1, .int 0), (0, .ref mo)]) hx hb dX1_goOn_57 rfl hl (by decide) rfl (fun ls hl => ?_)
    refine x_lf2 (G := fun (x1_6 : Int32) (M_7 : xM) => ∀ (ls : Array Slot) (H : Heap) (locs : List Loc), x_Rp D d (x_A base) (x_mc d mo Aa M_7) S H → va_S (x_A base) s.heap H locs → lv_has ls 4 [(0, .ref mo), (1, .int x1_6)] → W p l e (x_rm 3 0 0 70) s m ([.ref mo] : List Value).toArray below meth c H locs 0 0 (MQ below (xm_Qv D d base mo Aa S (fun M' => Q M')) ([.ref mo] : List Value).toArray s 0 0 (x_A base)) (F0 m 58 ls [])) hw (fun x1_6 M_7 hw => ?_) ls _ _ hR hS (lv_sub hl [1, 0] rfl)
    intro ls H locs hR hS hl
    refine lv_iload_n hx hb dX1_goOn_58 rfl (lv_at hl 1 rfl) ?_
    refine lv_aload_n hx hb dX1_goOn_59 rfl (lv_at hl 0 rfl) ?_
    refine xm_getI (k := 5) hx hb hts in_X1 hown hK hR (by decide) (hts _ q971) rfl dX1_goOn_60 ?_
    refine lv_icmp_ge (tgt := 133) hx hb dX1_goOn_63 (by decide) (fun c_9 => ?_) (fun c_9 => ?_)
    · have hw := x_t hw c_9
      refine lv_aload_n hx hb dX1_goOn_133 rfl (lv_at hl 0 rfl) ?_
      refine lv_bipush (v := 20) hx hb dX1_goOn_134 (by decide) ?_
      refine xm_ci (va_runV (As := [.int 20]) (rest := []) ⟨hx, hb, hml, hown, hts⟩ (mt_X1_many l hw) (cwV 1 hts (lw_V q1142 q1144 qs39 q65 q1145) rfl rfl rfl hd_X1_many ⟨Nat.le_of_ble_eq_true rfl, Nat.le_of_ble_eq_true rfl⟩) ⟨x_Pc_blind, xm_recv hR hK, x_Pc_pre hR hz hS hK⟩ rfl rfl hl.1 rfl (lv_room (Nat.le_of_ble_eq_true rfl)) dX1_goOn_136 ⟨Nat.le_refl _, Nat.le_refl _⟩) hS (fun r_10 M_11 H locs hp hR hS => ?_)
      have hw := hp.2
      rw [hp.1] at hR
      refine lv_aload_n hx hb dX1_goOn_139 rfl (lv_at hl 0 rfl) ?_
      refine xm_getI (k := 25) hx hb hts in_X1 hown hK hR (by decide) (hts _ q991) rfl dX1_goOn_140 ?_
      refine lv_isub hx hb dX1_goOn_143 ?_
      refine lv_topi (fun x1_12 ex1_12 => ?_)
      have hw := hw x1_12 ex1_12
      refine lv_istore_n (lv' := [(1, .int x1_12), (0, .ref mo)]) hx hb dX1_goOn_144 rfl hl (by decide) rfl (fun ls hl => ?_)
      refine lv_iload_n hx hb dX1_goOn_145 rfl (lv_at hl 0 rfl) ?_
      refine x_jn (G := fun (v0_13 : Int32) => ∀ (ls : Array Slot) (H : Heap) (locs : List Loc), x_Rp D d (x_A base) (x_mc d mo Aa M_7) S H → va_S (x_A base) s.heap H locs → lv_has ls 4 [(0, .ref mo)] → W p l e (x_rm 3 0 0 70) s m ([.ref mo] : List Value).toArray below meth c H locs 0 0 (MQ below (xm_Qv D d base mo Aa S (fun M' => Q M')) ([.ref mo] : List Value).toArray s 0 0 (x_A base)) (F0 m 162 ls [.int v0_13])) hw (fun v0_13 hw => ?_) (fun hJ_14 hw => ?_)
      · intro ls H locs hR hS hl
        refine lv_istore_n (lv' := [(2, .int v0_13), (0, .ref mo)]) hx hb dX1_goOn_162 rfl hl (by decide) rfl (fun ls hl => ?_)
        refine lv_iconst (v := 0) hx hb dX1_goOn_163 (by decide) ?_
        refine lv_istore_n (lv' := [(3, .int 0), (2, .int v0_13), (0, .ref mo)]) hx hb dX1_goOn_164 rfl hl (by decide) rfl (fun ls hl => ?_)
        refine x_lf3 (G := fun (x2_15 : Int32) (x3_16 : Int32) (M_17 : xM) => ∀ (ls : Array Slot) (H : Heap) (locs : List Loc), x_Rp D d (x_A base) (x_mc d mo Aa M_17) S H → va_S (x_A base) s.heap H locs → lv_has ls 4 [(0, .ref mo), (2, .int x2_15), (3, .int x3_16)] → W p l e (x_rm 3 0 0 70) s m ([.ref mo] : List Value).toArray below meth c H locs 0 0 (MQ below (xm_Qv D d base mo Aa S (fun M' => Q M')) ([.ref mo] : List Value).toArray s 0 0 (x_A base)) (F0 m 165 ls [])) hw (fun x2_15 x3_16 M_17 hw => ?_) ls _ _ hR hS (lv_sub hl [2, 1, 0] rfl)
        intro ls H locs hR hS hl
        refine lv_iload_n hx hb dX1_goOn_165 rfl (lv_at hl 2 rfl) ?_
        refine lv_aload_n hx hb dX1_goOn_166 rfl (lv_at hl 0 rfl) ?_
        refine xm_getI (k := 5) hx hb hts in_X1 hown hK hR (by decide) (hts _ q971) rfl dX1_goOn_167 ?_
        refine x_jn0 (G := ∀ (ls : Array Slot) (H : Heap) (locs : List Loc), x_Rp D d (x_A base) (x_mc d mo Aa M_17) S H → va_S (x_A base) s.heap H locs → lv_has ls 4 [(0, .ref mo)] → W p l e (x_rm 3 0 0 70) s m ([.ref mo] : List Value).toArray below meth c H locs 0 0 (MQ below (xm_Qv D d base mo Aa S (fun M' => Q M')) ([.ref mo] : List Value).toArray s 0 0 (x_A base)) (F0 m 213 ls [])) hw (fun hw => ?_) (fun hJ_19 hw => ?_)
        · intro ls H locs hR hS hl
          refine lv_iconst (v := 0) hx hb dX1_goOn_213 (by decide) ?_
          refine lv_istore_n (lv' := [(3, .int 0), (0, .ref mo)]) hx hb dX1_goOn_214 rfl hl (by decide) rfl (fun ls hl => ?_)
          refine x_lf2 (G := fun (x3_20 : Int32) (M_21 : xM) => ∀ (ls : Array Slot) (H : Heap) (locs : List Loc), x_Rp D d (x_A base) (x_mc d mo Aa M_21) S H → va_S (x_A base) s.heap H locs → lv_has ls 4 [(0, .ref mo), (3, .int x3_20)] → W p l e (x_rm 3 0 0 70) s m ([.ref mo] : List Value).toArray below meth c H locs 0 0 (MQ below (xm_Qv D d base mo Aa S (fun M' => Q M')) ([.ref mo] : List Value).toArray s 0 0 (x_A base)) (F0 m 215 ls [])) hw (fun x3_20 M_21 hw => ?_) ls _ _ hR hS (lv_sub hl [1, 0] rfl)
          intro ls H locs hR hS hl
          refine lv_iload_n hx hb dX1_goOn_215 rfl (lv_at hl 1 rfl) ?_
          refine lv_aload_n hx hb dX1_goOn_216 rfl (lv_at hl 0 rfl) ?_
          refine xm_getI (k := 5) hx hb hts in_X1 hown hK hR (by decide) (hts _ q971) rfl dX1_goOn_217 ?_
          refine lv_icmp_ge (tgt := 272) hx hb dX1_goOn_220 (by decide) (fun c_23 => ?_) (fun c_23 => ?_)
          · have hw := x_t hw c_23
            exact xm_rv hx hb hr hlocks hR hS dX1_goOn_272 hw
          · have hw := x_f hw c_23
            refine lv_aload_n hx hb dX1_goOn_223 rfl (lv_at hl 0 rfl) ?_
            refine lv_iload_n hx hb dX1_goOn_224 rfl (lv_at hl 1 rfl) ?_
            refine xm_ci (va_runV (As := [.int x3_20]) (rest := []) ⟨hx, hb, hml, hown, hts⟩ (mt_X1_placeOf l hw) (cwV 1 hts (lw_V q1146 q1148 qs40 q65 q1149) rfl rfl rfl hd_X1_placeOf ⟨Nat.le_of_ble_eq_true rfl, Nat.le_of_ble_eq_true rfl⟩) ⟨x_Pc_blind, xm_recv hR hK, x_Pc_pre hR hz hS hK⟩ rfl rfl hl.1 rfl (lv_room (Nat.le_of_ble_eq_true rfl)) dX1_goOn_225 ⟨Nat.le_refl _, Nat.le_refl _⟩) hS (fun r_24 M_25 H locs hp hR hS => ?_)
            have hw := hp.2
            rw [hp.1] at hR
            refine lv_bipush (v := 21) hx hb dX1_goOn_228 (by decide) ?_
            refine x_jn (G := fun (M_26 : xM) => ∀ (ls : Array Slot) (H : Heap) (locs : List Loc), x_Rp D d (x_A base) (x_mc d mo Aa M_26) S H → va_S (x_A base) s.heap H locs → lv_has ls 4 [(0, .ref mo), (3, .int x3_20)] → W p l e (x_rm 3 0 0 70) s m ([.ref mo] : List Value).toArray below meth c H locs 0 0 (MQ below (xm_Qv D d base mo Aa S (fun M' => Q M')) ([.ref mo] : List Value).toArray s 0 0 (x_A base)) (F0 m 266 ls [])) hw (fun M_26 hw => ?_) (fun hJ_27 hw => ?_)
            · intro ls H locs hR hS hl
              refine lv_iinc (v := (x3_20 + 1)) (lv' := [(3, .int (x3_20 + 1)), (0, .ref mo)]) hx hb dX1_goOn_266 hl (k := 1) rfl rfl (by decide) rfl (fun ls hl => ?_)
              refine lv_goto (tgt := 215) hx hb dX1_goOn_269 (by decide) ?_
              exact hw ls _ _ hR hS (lv_sub hl [1, 0] rfl)
            · refine lv_icmp_ne (tgt := 266) hx hb dX1_goOn_230 (by decide) (fun c_28 => ?_) (fun c_28 => ?_)
              · have hw := x_f hw c_28
                exact hJ_27 M_21 hw ls _ _ hR hS (lv_sub hl [0, 1] rfl)
              · have hw := x_t hw c_28
                refine lv_aload_n hx hb dX1_goOn_233 rfl (lv_at hl 0 rfl) ?_
                refine xm_getA (k := 7) hx hb hts in_X1 hown hK hR (by decide) (hts _ q973) rfl dX1_goOn_234 ?_
                refine lv_iload_n hx hb dX1_goOn_237 rfl (lv_at hl 1 rfl) ?_
                refine xm_ild (M := M_21) (k := 7) (j := 3) hx hb hK hR dX1_goOn_238 rfl hw.1 ?_
                have hw := hw.2
                refine lv_aload_n hx hb dX1_goOn_239 rfl (lv_at hl 0 rfl) ?_
                refine xm_getI (k := 4) hx hb hts in_X1 hown hK hR (by decide) (hts _ q970) rfl dX1_goOn_240 ?_
                refine lv_bipush (v := 10) hx hb dX1_goOn_243 (by decide) ?_
                refine lv_isub hx hb dX1_goOn_245 ?_
                refine lv_icmp_ne (tgt := 266) hx hb dX1_goOn_246 (by decide) (fun c_29 => ?_) (fun c_29 => ?_)
                · have hw := x_f hw c_29
                  exact hJ_27 M_21 hw ls _ _ hR hS (lv_sub hl [0, 1] rfl)
                · have hw := x_t hw c_29
                  refine lv_aload_n hx hb dX1_goOn_249 rfl (lv_at hl 0 rfl) ?_
                  refine lv_iload_n hx hb dX1_goOn_250 rfl (lv_at hl 1 rfl) ?_
                  refine lv_aload_n hx hb dX1_goOn_251 rfl (lv_at hl 0 rfl) ?_
                  refine xm_getA (k := 6) hx hb hts in_X1 hown hK hR (by decide) (hts _ q972) rfl dX1_goOn_252 ?_
                  refine lv_bipush (v := 8) hx hb dX1_goOn_255 (by decide) ?_
                  refine lv_iload_n hx hb dX1_goOn_257 rfl (lv_at hl 1 rfl) ?_
                  refine lv_imul hx hb dX1_goOn_258 ?_
                  refine lv_bipush (v := 6) hx hb dX1_goOn_259 (by decide) ?_
                  refine lv_iadd hx hb dX1_goOn_261 ?_
                  refine xm_ild (M := M_21) (k := 6) (j := 2) hx hb hK hR dX1_goOn_262 rfl hw.1 ?_
                  have hw := hw.2
                  refine xm_cv (va_runV (As := [.int x3_20, .int (M2 M_21 6 (Int32.toNatClampNeg ((8 * x3_20) + 6)))]) (rest := []) ⟨hx, hb, hml, hown, hts⟩ (mt_X1_go l hw) (cwV 2 hts (lw_V q1169 q1171 qs43 q65 q1172) rfl rfl rfl hd_X1_go ⟨Nat.le_of_ble_eq_true rfl, Nat.le_of_ble_eq_true rfl⟩) ⟨x_Pc_blind, xm_recv hR hK, x_Pc_pre hR hz hS hK⟩ rfl rfl hl.1 rfl (lv_room (Nat.le_of_ble_eq_true rfl)) dX1_goOn_263 ⟨Nat.le_refl _, Nat.le_refl _⟩) hS (fun M_30 H locs hp hR hS => ?_)
                  have hw := hp
                  exact hJ_27 M_30 hw ls _ _ hR hS (lv_sub hl [0, 1] rfl)
        · refine lv_icmp_ge (tgt := 213) hx hb dX1_goOn_170 (by decide) (fun c_31 => ?_) (fun c_31 => ?_)
          · have hw := x_t hw c_31
            exact hJ_19  hw ls _ _ hR hS (lv_sub hl [0] rfl)
          · have hw := x_f hw c_31
            refine lv_iload_n hx hb dX1_goOn_173 rfl (lv_at hl 1 rfl) ?_
            refine lv_if_le (tgt := 213) hx hb dX1_goOn_174 (by decide) (fun c_32 => ?_) (fun c_32 => ?_)
            · have hw := x_t hw c_32
              exact hJ_19  hw ls _ _ hR hS (lv_sub hl [0] rfl)
            · have hw := x_f hw c_32
              refine lv_aload_n hx hb dX1_goOn_177 rfl (lv_at hl 0 rfl) ?_
              refine lv_iload_n hx hb dX1_goOn_178 rfl (lv_at hl 2 rfl) ?_
              refine xm_ci (va_runV (As := [.int x3_16]) (rest := []) ⟨hx, hb, hml, hown, hts⟩ (mt_X1_placeOf l hw) (cwV 1 hts (lw_V q1146 q1148 qs40 q65 q1149) rfl rfl rfl hd_X1_placeOf ⟨Nat.le_of_ble_eq_true rfl, Nat.le_of_ble_eq_true rfl⟩) ⟨x_Pc_blind, xm_recv hR hK, x_Pc_pre hR hz hS hK⟩ rfl rfl hl.1 rfl (lv_room (Nat.le_of_ble_eq_true rfl)) dX1_goOn_179 ⟨Nat.le_refl _, Nat.le_refl _⟩) hS (fun r_33 M_34 H locs hp hR hS => ?_)
              have hw := hp.2
              rw [hp.1] at hR
              refine lv_bipush (v := 20) hx hb dX1_goOn_182 (by decide) ?_
              refine x_jn2 (G := fun (x2_35 : Int32) (M_36 : xM) => ∀ (ls : Array Slot) (H : Heap) (locs : List Loc), x_Rp D d (x_A base) (x_mc d mo Aa M_36) S H → va_S (x_A base) s.heap H locs → lv_has ls 4 [(0, .ref mo), (2, .int x2_35), (3, .int x3_16)] → W p l e (x_rm 3 0 0 70) s m ([.ref mo] : List Value).toArray below meth c H locs 0 0 (MQ below (xm_Qv D d base mo Aa S (fun M' => Q M')) ([.ref mo] : List Value).toArray s 0 0 (x_A base)) (F0 m 207 ls [])) hw (fun x2_35 M_36 hw => ?_) (fun hJ_37 hw => ?_)
              · intro ls H locs hR hS hl
                refine lv_iinc (v := (x3_16 + 1)) (lv' := [(3, .int (x3_16 + 1)), (0, .ref mo), (2, .int x2_35)]) hx hb dX1_goOn_207 hl (k := 2) rfl rfl (by decide) rfl (fun ls hl => ?_)
                refine lv_goto (tgt := 165) hx hb dX1_goOn_210 (by decide) ?_
                exact hw ls _ _ hR hS (lv_sub hl [1, 2, 0] rfl)
              · refine lv_icmp_ne (tgt := 207) hx hb dX1_goOn_184 (by decide) (fun c_38 => ?_) (fun c_38 => ?_)
                · have hw := x_f hw c_38
                  exact hJ_37 x2_15 M_17 hw ls _ _ hR hS (lv_sub hl [0, 1, 2] rfl)
                · have hw := x_t hw c_38
                  refine lv_aload_n hx hb dX1_goOn_187 rfl (lv_at hl 0 rfl) ?_
                  refine lv_iload_n hx hb dX1_goOn_188 rfl (lv_at hl 2 rfl) ?_
                  refine lv_bipush (v := 21) hx hb dX1_goOn_189 (by decide) ?_
                  refine xm_cv (va_runV (As := [.int x3_16, .int 21]) (rest := []) ⟨hx, hb, hml, hown, hts⟩ (mt_X1_go l hw) (cwV 2 hts (lw_V q1169 q1171 qs43 q65 q1172) rfl rfl rfl hd_X1_go ⟨Nat.le_of_ble_eq_true rfl, Nat.le_of_ble_eq_true rfl⟩) ⟨x_Pc_blind, xm_recv hR hK, x_Pc_pre hR hz hS hK⟩ rfl rfl hl.1 rfl (lv_room (Nat.le_of_ble_eq_true rfl)) dX1_goOn_191 ⟨Nat.le_refl _, Nat.le_refl _⟩) hS (fun M_39 H locs hp hR hS => ?_)
                  have hw := hp
                  refine lv_aload_n hx hb dX1_goOn_194 rfl (lv_at hl 0 rfl) ?_
                  refine xm_getA (k := 7) hx hb hts in_X1 hown hK hR (by decide) (hts _ q973) rfl dX1_goOn_195 ?_
                  refine lv_iload_n hx hb dX1_goOn_198 rfl (lv_at hl 2 rfl) ?_
                  refine lv_aload_n hx hb dX1_goOn_199 rfl (lv_at hl 0 rfl) ?_
                  refine xm_getI (k := 4) hx hb hts in_X1 hown hK hR (by decide) (hts _ q970) rfl dX1_goOn_200 ?_
                  refine xm_ist (M := M_39) (k := 7) (j := 3) hx hb hK hR hS dX1_goOn_203 rfl hw.1 (fun H locs hR hS => ?_)
                  have hw := hw.2
                  obtain ⟨M_40, eM_40⟩ : ∃ z, z = (m2 M_39 7 (Int32.toNatClampNeg x3_16) (M1 M_39 4)) := ⟨_, rfl⟩
                  rw [← eM_40] at hR
                  have hw := hw M_40 eM_40
                  refine lv_iinc (v := (x2_15 + (-1))) (lv' := [(2, .int (x2_15 + (-1))), (0, .ref mo), (3, .int x3_16)]) hx hb dX1_goOn_204 hl (k := 1) rfl rfl (by decide) rfl (fun ls hl => ?_)
                  exact hJ_37 (x2_15 + (-1)) M_40 hw ls _ _ hR hS (lv_sub hl [1, 0, 2] rfl)
      · refine lv_if_le (tgt := 161) hx hb dX1_goOn_146 (by decide) (fun c_41 => ?_) (fun c_41 => ?_)
        · have hw := x_t hw c_41
          refine lv_iconst (v := 0) hx hb dX1_goOn_161 (by decide) ?_
          exact hJ_14 0 hw ls _ _ hR hS (lv_sub hl [1] rfl)
        · have hw := x_f hw c_41
          refine lv_iload_n hx hb dX1_goOn_149 rfl (lv_at hl 0 rfl) ?_
          refine lv_aload_n hx hb dX1_goOn_150 rfl (lv_at hl 1 rfl) ?_
          refine xm_getI (k := 26) hx hb hts in_X1 hown hK hR (by decide) (hts _ q992) rfl dX1_goOn_151 ?_
          refine lv_imul hx hb dX1_goOn_154 ?_
          refine lv_bipush (v := 100) hx hb dX1_goOn_155 (by decide) ?_
          refine lv_idiv hx hb dX1_goOn_157 (by decide) ?_
          refine lv_goto (tgt := 162) hx hb dX1_goOn_158 (by decide) ?_
          exact hJ_14 ((x1_12 * (M1 M_7 26)) / 100) hw ls _ _ hR hS (lv_sub hl [1] rfl)
    · have hw := x_f hw c_9
      refine lv_aload_n hx hb dX1_goOn_66 rfl (lv_at hl 0 rfl) ?_
      refine lv_iload_n hx hb dX1_goOn_67 rfl (lv_at hl 1 rfl) ?_
      refine xm_ci (va_runV (As := [.int x1_6]) (rest := []) ⟨hx, hb, hml, hown, hts⟩ (mt_X1_placeOf l hw) (cwV 1 hts (lw_V q1146 q1148 qs40 q65 q1149) rfl rfl rfl hd_X1_placeOf ⟨Nat.le_of_ble_eq_true rfl, Nat.le_of_ble_eq_true rfl⟩) ⟨x_Pc_blind, xm_recv hR hK, x_Pc_pre hR hz hS hK⟩ rfl rfl hl.1 rfl (lv_room (Nat.le_of_ble_eq_true rfl)) dX1_goOn_68 ⟨Nat.le_refl _, Nat.le_refl _⟩) hS (fun r_42 M_43 H locs hp hR hS => ?_)
      have hw := hp.2
      rw [hp.1] at hR
      refine lv_istore_n (lv' := [(2, .int r_42), (0, .ref mo), (1, .int x1_6)]) hx hb dX1_goOn_71 rfl hl (by decide) rfl (fun ls hl => ?_)
      refine lv_iload_n hx hb dX1_goOn_72 rfl (lv_at hl 0 rfl) ?_
      refine xm_ci (va_runS (As := [.int r_42]) (rest := []) ⟨hx, hb, hml, hown, hts⟩ (mt_X1_isStreet l hw) (va_cwS 1 hts (lw_S q1162 q1163 q65 q1164) rfl rfl rfl hd_X1_isStreet.2 ⟨Nat.le_of_ble_eq_true rfl, Nat.le_of_ble_eq_true rfl⟩) ⟨x_Pc_blind, x_Pc_pre hR hz hS hK⟩ rfl rfl hl.1 rfl (lv_room (Nat.le_of_ble_eq_true rfl)) dX1_goOn_73 ⟨Nat.le_refl _, Nat.le_refl _⟩) hS (fun r_44 M_45 H locs hp hR hS => ?_)
      have hw := hp.2
      rw [hp.1] at hR
      refine x_jn (G := fun (v0_46 : Int32) => ∀ (ls : Array Slot) (H : Heap) (locs : List Loc), x_Rp D d (x_A base) (x_mc d mo Aa M_7) S H → va_S (x_A base) s.heap H locs → lv_has ls 4 [(0, .ref mo), (1, .int x1_6)] → W p l e (x_rm 3 0 0 70) s m ([.ref mo] : List Value).toArray below meth c H locs 0 0 (MQ below (xm_Qv D d base mo Aa S (fun M' => Q M')) ([.ref mo] : List Value).toArray s 0 0 (x_A base)) (F0 m 89 ls [.int v0_46])) hw (fun v0_46 hw => ?_) (fun hJ_47 hw => ?_)
      · intro ls H locs hR hS hl
        refine lv_istore_n (lv' := [(3, .int v0_46), (0, .ref mo), (1, .int x1_6)]) hx hb dX1_goOn_89 rfl hl (by decide) rfl (fun ls hl => ?_)
        refine lv_aload_n hx hb dX1_goOn_90 rfl (lv_at hl 1 rfl) ?_
        refine xm_getA (k := 6) hx hb hts in_X1 hown hK hR (by decide) (hts _ q972) rfl dX1_goOn_91 ?_
        refine lv_bipush (v := 8) hx hb dX1_goOn_94 (by decide) ?_
        refine lv_iload_n hx hb dX1_goOn_96 rfl (lv_at hl 2 rfl) ?_
        refine lv_imul hx hb dX1_goOn_97 ?_
        refine lv_bipush (v := 7) hx hb dX1_goOn_98 (by decide) ?_
        refine lv_iadd hx hb dX1_goOn_100 ?_
        refine xm_ild (M := M_7) (k := 6) (j := 2) hx hb hK hR dX1_goOn_101 rfl hw.1 ?_
        have hw := hw.2
        refine lv_iconst (v := 1) hx hb dX1_goOn_102 (by decide) ?_
        refine x_jn (G := fun (M_48 : xM) => ∀ (ls : Array Slot) (H : Heap) (locs : List Loc), x_Rp D d (x_A base) (x_mc d mo Aa M_48) S H → va_S (x_A base) s.heap H locs → lv_has ls 4 [(0, .ref mo), (1, .int x1_6)] → W p l e (x_rm 3 0 0 70) s m ([.ref mo] : List Value).toArray below meth c H locs 0 0 (MQ below (xm_Qv D d base mo Aa S (fun M' => Q M')) ([.ref mo] : List Value).toArray s 0 0 (x_A base)) (F0 m 127 ls [])) hw (fun M_48 hw => ?_) (fun hJ_49 hw => ?_)
        · intro ls H locs hR hS hl
          refine lv_iinc (v := (x1_6 + 1)) (lv' := [(1, .int (x1_6 + 1)), (0, .ref mo)]) hx hb dX1_goOn_127 hl (k := 1) rfl rfl (by decide) rfl (fun ls hl => ?_)
          refine lv_goto (tgt := 58) hx hb dX1_goOn_130 (by decide) ?_
          exact hw ls _ _ hR hS (lv_sub hl [1, 0] rfl)
        · refine lv_icmp_ne (tgt := 127) hx hb dX1_goOn_103 (by decide) (fun c_50 => ?_) (fun c_50 => ?_)
          · have hw := x_f hw c_50
            exact hJ_49 M_7 hw ls _ _ hR hS (lv_sub hl [1, 2] rfl)
          · have hw := x_t hw c_50
            refine lv_iload_n hx hb dX1_goOn_106 rfl (lv_at hl 0 rfl) ?_
            refine lv_bipush (v := (-9)) hx hb dX1_goOn_107 (by decide) ?_
            refine lv_icmp_eq (tgt := 127) hx hb dX1_goOn_109 (by decide) (fun c_51 => ?_) (fun c_51 => ?_)
            · have hw := x_t hw c_51
              exact hJ_49 M_7 hw ls _ _ hR hS (lv_sub hl [1, 2] rfl)
            · have hw := x_f hw c_51
              refine lv_iload_n hx hb dX1_goOn_112 rfl (lv_at hl 0 rfl) ?_
              refine lv_aload_n hx hb dX1_goOn_113 rfl (lv_at hl 1 rfl) ?_
              refine xm_getI (k := 4) hx hb hts in_X1 hown hK hR (by decide) (hts _ q970) rfl dX1_goOn_114 ?_
              refine lv_icmp_gt (tgt := 127) hx hb dX1_goOn_117 (by decide) (fun c_52 => ?_) (fun c_52 => ?_)
              · have hw := x_t hw c_52
                exact hJ_49 M_7 hw ls _ _ hR hS (lv_sub hl [1, 2] rfl)
              · have hw := x_f hw c_52
                refine lv_aload_n hx hb dX1_goOn_120 rfl (lv_at hl 1 rfl) ?_
                refine lv_iload_n hx hb dX1_goOn_121 rfl (lv_at hl 2 rfl) ?_
                refine lv_bipush (v := 22) hx hb dX1_goOn_122 (by decide) ?_
                refine xm_cv (va_runV (As := [.int x1_6, .int 22]) (rest := []) ⟨hx, hb, hml, hown, hts⟩ (mt_X1_go l hw) (cwV 2 hts (lw_V q1169 q1171 qs43 q65 q1172) rfl rfl rfl hd_X1_go ⟨Nat.le_of_ble_eq_true rfl, Nat.le_of_ble_eq_true rfl⟩) ⟨x_Pc_blind, xm_recv hR hK, x_Pc_pre hR hz hS hK⟩ rfl rfl hl.1 rfl (lv_room (Nat.le_of_ble_eq_true rfl)) dX1_goOn_124 ⟨Nat.le_refl _, Nat.le_refl _⟩) hS (fun M_53 H locs hp hR hS => ?_)
                have hw := hp
                exact hJ_49 M_53 hw ls _ _ hR hS (lv_sub hl [1, 2] rfl)
      · refine lv_if_eq (tgt := 87) hx hb dX1_goOn_76 (by decide) (fun c_54 => ?_) (fun c_54 => ?_)
        · have hw := x_t hw c_54
          refine lv_bipush (v := (-9)) hx hb dX1_goOn_87 (by decide) ?_
          exact hJ_47 (-9) hw ls _ _ hR hS (lv_sub hl [1, 2] rfl)
        · have hw := x_f hw c_54
          refine lv_aload_n hx hb dX1_goOn_79 rfl (lv_at hl 1 rfl) ?_
          refine lv_iload_n hx hb dX1_goOn_80 rfl (lv_at hl 0 rfl) ?_
          refine xm_ci (va_runV (As := [.int r_42]) (rest := []) ⟨hx, hb, hml, hown, hts⟩ (mt_X1_heardAt l hw) (cwV 1 hts (lw_V q1165 q1167 qs42 q65 q1168) rfl rfl rfl hd_X1_heardAt ⟨Nat.le_of_ble_eq_true rfl, Nat.le_of_ble_eq_true rfl⟩) ⟨x_Pc_blind, xm_recv hR hK, x_Pc_pre hR hz hS hK⟩ rfl rfl hl.1 rfl (lv_room (Nat.le_of_ble_eq_true rfl)) dX1_goOn_81 ⟨Nat.le_refl _, Nat.le_refl _⟩) hS (fun r_55 M_56 H locs hp hR hS => ?_)
          have hw := hp.2
          rw [hp.1] at hR
          refine lv_goto (tgt := 89) hx hb dX1_goOn_84 (by decide) ?_
          exact hJ_47 r_55 hw ls _ _ hR hS (lv_sub hl [1, 2] rfl)
  · have hw := x_f hw c_5
    refine lv_aload_n hx hb dX1_goOn_20 rfl (lv_at hl 0 rfl) ?_
    refine xm_getA (k := 8) hx hb hts in_X1 hown hK hR (by decide) (hts _ q974) rfl dX1_goOn_21 ?_
    refine lv_bipush (v := 40) hx hb dX1_goOn_24 (by decide) ?_
    refine lv_aload_n hx hb dX1_goOn_26 rfl (lv_at hl 0 rfl) ?_
    refine xm_getI (k := 4) hx hb hts in_X1 hown hK hR (by decide) (hts _ q970) rfl dX1_goOn_27 ?_
    refine lv_imul hx hb dX1_goOn_30 ?_
    refine lv_iload_n hx hb dX1_goOn_31 rfl (lv_at hl 1 rfl) ?_
    refine lv_iadd hx hb dX1_goOn_32 ?_
    refine lv_aload_n hx hb dX1_goOn_33 rfl (lv_at hl 0 rfl) ?_
    refine xm_getA (k := 8) hx hb hts in_X1 hown hK hR (by decide) (hts _ q974) rfl dX1_goOn_34 ?_
    refine lv_bipush (v := 40) hx hb dX1_goOn_37 (by decide) ?_
    refine lv_aload_n hx hb dX1_goOn_39 rfl (lv_at hl 0 rfl) ?_
    refine xm_getI (k := 4) hx hb hts in_X1 hown hK hR (by decide) (hts _ q970) rfl dX1_goOn_40 ?_
    refine lv_iconst (v := 1) hx hb dX1_goOn_43 (by decide) ?_
    refine lv_isub hx hb dX1_goOn_44 ?_
    refine lv_imul hx hb dX1_goOn_45 ?_
    refine lv_iload_n hx hb dX1_goOn_46 rfl (lv_at hl 1 rfl) ?_
    refine lv_iadd hx hb dX1_goOn_47 ?_
    refine xm_ild (M := M_3) (k := 8) (j := 4) hx hb hK hR dX1_goOn_48 rfl hw.1 ?_
    have hw := hw.2
    refine xm_ist (M := M_3) (k := 8) (j := 4) hx hb hK hR hS dX1_goOn_49 rfl hw.1 (fun H locs hR hS => ?_)
    have hw := hw.2
    obtain ⟨M_57, eM_57⟩ : ∃ z, z = (m2 M_3 8 (Int32.toNatClampNeg ((40 * (M1 M_3 4)) + x1_2)) (M2 M_3 8 (Int32.toNatClampNeg ((40 * ((M1 M_3 4) - 1)) + x1_2)))) := ⟨_, rfl⟩
    rw [← eM_57] at hR
    have hw := hw M_57 eM_57
    refine lv_iinc (v := (x1_2 + 1)) (lv' := [(1, .int (x1_2 + 1)), (0, .ref mo)]) hx hb dX1_goOn_50 hl (k := 1) rfl rfl (by decide) rfl (fun ls hl => ?_)
    refine lv_goto (tgt := 12) hx hb dX1_goOn_53 (by decide) ?_
    exact hw ls _ _ hR hS (lv_sub hl [1, 0] rfl)
def w_X1_pass (M : xM) (x1 : Int32) (Q : Int32 → xM → Prop) : Prop := nm (m1 M 0 0) (fun M_1 : xM => w_X1_in M_1 (Int32.toInt64 x1) 1 60 (fun (r_2 : Int32) => wif (r_2 = 0) (Q (-2) M_1) (wif (((M1 M_1 4) + x1) ≤ 899) (w_X1_measure M_1 (fun (M_6 : xM) => lf2 (fun L_9 (x2_7 : Int32) (M_8 : xM) => wif (x1 ≤ x2_7) (Q (M1 M_8 4) M_8) (w_X1_goOn M_8 (fun (M_11 : xM) => L_9 (x2_7 + 1) M_11))) 0 M_6)) (Q (-4) M_1))))
theorem hd_X1_pass : yX1_pass.cls = "PressedMenModel" ∧ yX1_pass.cls ≠ "java/lang/invoke/MethodHandle" ∧ yX1_pass.cls ≠ "java/lang/invoke/VarHandle" ∧ (parseMethodDescriptor yX1_pass.desc).map (fun d => d.parameters.length) = some 1 := by decide +kernel
set_option maxHeartbeats 4000000 in
theorem mt_X1_pass (l : Launch) {D : va_G} {d : Nat → ClassId} {base : Nat} {mo : Nat} {Aa : Nat → Nat} {M : xM} {S : xH} {x1 : Int32} {Q : Int32 → xM → Prop} (hw : w_X1_pass M x1 Q) : Met l yX1_pass (ws_ yX1_pass cX1_pass 3 (some FieldType.int)) (x_rm 4 0 0 93) (x_Pc D d base (x_mc d mo Aa M) S [.ref mo, .int x1]) (xm_Qi D d base mo Aa S (fun r M' => Q r M')) 0 0 (x_A base) := by
  refine x_met (by decide) (Nat.le_of_ble_eq_true rfl) ?_
  intro p e s m below meth c hx hb hml hr hlocks hown hts hz hR hK hin ls hl
  have hown : s.vm.findClass "PressedMenModel" = some m.cls := hown
  have hl : lv_has ls 3 [(0, .ref mo), (1, .int x1)] := hl
  have hS : va_S (x_A base) s.heap s.heap [] := va_S.rf
  unfold w_X1_pass at hw
  refine lv_aload_n hx hb dX1_pass_0 rfl (lv_at hl 0 rfl) ?_
  refine lv_iconst (v := 0) hx hb dX1_pass_1 (by decide) ?_
  refine xm_putI (M := M) (k := 0) hx hb hts in_X1 hown hK hR hS (by decide) (hts _ q966) rfl rfl rfl rfl dX1_pass_2 (fun H locs hR hS => ?_)
  obtain ⟨M_1, eM_1⟩ : ∃ z, z = (m1 M 0 0) := ⟨_, rfl⟩
  rw [← eM_1] at hR
  have hw := hw M_1 eM_1
  refine lv_iload_n hx hb dX1_pass_5 rfl (lv_at hl 1 rfl) ?_
  refine lv_i2l (v := (Int32.toInt64 x1)) hx hb dX1_pass_6 rfl ?_
  refine lv_lconst (v := 1) hx hb dX1_pass_7 (by decide) ?_
  refine lv_ldc2 (v := 60) hx hb hown (hts _ q1113) dX1_pass_8 ?_
  refine xm_ci (va_runS (As := [.long (Int32.toInt64 x1), .long 1, .long 60]) (rest := []) ⟨hx, hb, hml, hown, hts⟩ (mt_X1_in l hw) (va_cwS 3 hts (lw_S q1089 q1090 q65 q1091) rfl rfl rfl hd_X1_in.2 ⟨Nat.le_of_ble_eq_true rfl, Nat.le_of_ble_eq_true rfl⟩) ⟨x_Pc_blind, x_Pc_pre hR hz hS hK⟩ rfl rfl hl.1 rfl (lv_room (Nat.le_of_ble_eq_true rfl)) dX1_pass_11 ⟨Nat.le_refl _, Nat.le_refl _⟩) hS (fun r_2 M_3 H locs hp hR hS => ?_)
  have hw := hp.2
  rw [hp.1] at hR
  refine lv_if_ne (tgt := 20) hx hb dX1_pass_14 (by decide) (fun c_4 => ?_) (fun c_4 => ?_)
  · have hw := x_f hw c_4
    refine lv_aload_n hx hb dX1_pass_20 rfl (lv_at hl 0 rfl) ?_
    refine xm_getI (k := 4) hx hb hts in_X1 hown hK hR (by decide) (hts _ q970) rfl dX1_pass_21 ?_
    refine lv_iload_n hx hb dX1_pass_24 rfl (lv_at hl 1 rfl) ?_
    refine lv_iadd hx hb dX1_pass_25 ?_
    refine lv_sipush (v := 899) hx hb dX1_pass_26 (by decide) ?_
    refine lv_icmp_le (tgt := 35) hx hb dX1_pass_29 (by decide) (fun c_5 => ?_) (fun c_5 => ?_)
    · have hw := x_t hw c_5
      refine lv_aload_n hx hb dX1_pass_35 rfl (lv_at hl 0 rfl) ?_
      refine xm_cv (va_runV (As := []) (rest := []) ⟨hx, hb, hml, hown, hts⟩ (mt_X1_measure l hw) (cwV 0 hts (lw_V q1104 q1106 qs37 q65 q1107) rfl rfl rfl hd_X1_measure ⟨Nat.le_of_ble_eq_true rfl, Nat.le_of_ble_eq_true rfl⟩) ⟨x_Pc_blind, xm_recv hR hK, x_Pc_pre hR hz hS hK⟩ rfl rfl hl.1 rfl (lv_room (Nat.le_of_ble_eq_true rfl)) dX1_pass_36 ⟨Nat.le_refl _, Nat.le_refl _⟩) hS (fun M_6 H locs hp hR hS => ?_)
      have hw := hp
      refine lv_iconst (v := 0) hx hb dX1_pass_39 (by decide) ?_
      refine lv_istore_n (lv' := [(2, .int 0), (0, .ref mo), (1, .int x1)]) hx hb dX1_pass_40 rfl hl (by decide) rfl (fun ls hl => ?_)
      refine x_lf2 (G := fun (x2_7 : Int32) (M_8 : xM) => ∀ (ls : Array Slot) (H : Heap) (locs : List Loc), x_Rp D d (x_A base) (x_mc d mo Aa M_8) S H → va_S (x_A base) s.heap H locs → lv_has ls 3 [(0, .ref mo), (1, .int x1), (2, .int x2_7)] → W p l e (x_rm 4 0 0 93) s m ([.ref mo, .int x1] : List Value).toArray below meth c H locs 0 0 (MQ below (xm_Qi D d base mo Aa S (fun r M' => Q r M')) ([.ref mo, .int x1] : List Value).toArray s 0 0 (x_A base)) (F0 m 41 ls [])) hw (fun x2_7 M_8 hw => ?_) ls _ _ hR hS (lv_sub hl [1, 2, 0] rfl)
      intro ls H locs hR hS hl
      refine lv_iload_n hx hb dX1_pass_41 rfl (lv_at hl 2 rfl) ?_
      refine lv_iload_n hx hb dX1_pass_42 rfl (lv_at hl 1 rfl) ?_
      refine lv_icmp_ge (tgt := 56) hx hb dX1_pass_43 (by decide) (fun c_10 => ?_) (fun c_10 => ?_)
      · have hw := x_t hw c_10
        refine lv_aload_n hx hb dX1_pass_56 rfl (lv_at hl 0 rfl) ?_
        refine xm_getI (k := 4) hx hb hts in_X1 hown hK hR (by decide) (hts _ q970) rfl dX1_pass_57 ?_
        exact xm_ri hx hb hr hlocks hR hS dX1_pass_60 hw
      · have hw := x_f hw c_10
        refine lv_aload_n hx hb dX1_pass_46 rfl (lv_at hl 0 rfl) ?_
        refine xm_cv (va_runV (As := []) (rest := []) ⟨hx, hb, hml, hown, hts⟩ (mt_X1_goOn l hw) (cwV 0 hts (lw_V q1158 q1160 qs41 q65 q1161) rfl rfl rfl hd_X1_goOn ⟨Nat.le_of_ble_eq_true rfl, Nat.le_of_ble_eq_true rfl⟩) ⟨x_Pc_blind, xm_recv hR hK, x_Pc_pre hR hz hS hK⟩ rfl rfl hl.1 rfl (lv_room (Nat.le_of_ble_eq_true rfl)) dX1_pass_47 ⟨Nat.le_refl _, Nat.le_refl _⟩) hS (fun M_11 H locs hp hR hS => ?_)
        have hw := hp
        refine lv_iinc (v := (x2_7 + 1)) (lv' := [(2, .int (x2_7 + 1)), (0, .ref mo), (1, .int x1)]) hx hb dX1_pass_50 hl (k := 2) rfl rfl (by decide) rfl (fun ls hl => ?_)
        refine lv_goto (tgt := 41) hx hb dX1_pass_53 (by decide) ?_
        exact hw ls _ _ hR hS (lv_sub hl [1, 2, 0] rfl)
    · have hw := x_f hw c_5
      refine lv_bipush (v := (-4)) hx hb dX1_pass_32 (by decide) ?_
      exact xm_ri hx hb hr hlocks hR hS dX1_pass_34 hw
  · have hw := x_t hw c_4
    refine lv_bipush (v := (-2)) hx hb dX1_pass_17 (by decide) ?_
    exact xm_ri hx hb hr hlocks hR hS dX1_pass_19 hw
def w_X1_walk (M : xM) (x1 : Int32) (x2 : Int32) (Q : Int32 → xM → Prop) : Prop := nm (m1 M 0 0) (fun M_1 : xM => w_X1_noMan M_1 x1 (fun (r_2 : Int32) => wif (r_2 = 0) (w_X1_noStreet M_1 x2 (fun (r_5 : Int32) => wif (r_5 = 0) (w_X1_placeOf M_1 x1 (fun (r_8 : Int32) => w_X1_isStreet M_1 r_8 (fun (r_10 : Int32) => jn0 (w_X1_go M_1 x1 x2 (fun (M_13 : xM) => Q r_8 M_13)) (fun J_12 => wif (r_10 = 0) (wif (r_8 = 22) (J_12) (Q (-3) M_1)) (J_12))))) (Q (-1) M_1))) (Q (-1) M_1)))
theorem hd_X1_walk : yX1_walk.cls = "PressedMenModel" ∧ yX1_walk.cls ≠ "java/lang/invoke/MethodHandle" ∧ yX1_walk.cls ≠ "java/lang/invoke/VarHandle" ∧ (parseMethodDescriptor yX1_walk.desc).map (fun d => d.parameters.length) = some 2 := by decide +kernel
set_option maxHeartbeats 4000000 in
theorem mt_X1_walk (l : Launch) {D : va_G} {d : Nat → ClassId} {base : Nat} {mo : Nat} {Aa : Nat → Nat} {M : xM} {S : xH} {x1 : Int32} {x2 : Int32} {Q : Int32 → xM → Prop} (hw : w_X1_walk M x1 x2 Q) : Met l yX1_walk (ws_ yX1_walk cX1_walk 4 (some FieldType.int)) (x_rm 2 0 0 46) (x_Pc D d base (x_mc d mo Aa M) S [.ref mo, .int x1, .int x2]) (xm_Qi D d base mo Aa S (fun r M' => Q r M')) 0 0 (x_A base) := by
  refine x_met (by decide) (Nat.le_of_ble_eq_true rfl) ?_
  intro p e s m below meth c hx hb hml hr hlocks hown hts hz hR hK hin ls hl
  have hown : s.vm.findClass "PressedMenModel" = some m.cls := hown
  have hl : lv_has ls 4 [(0, .ref mo), (1, .int x1), (2, .int x2)] := hl
  have hS : va_S (x_A base) s.heap s.heap [] := va_S.rf
  unfold w_X1_walk at hw
  refine lv_aload_n hx hb dX1_walk_0 rfl (lv_at hl 0 rfl) ?_
  refine lv_iconst (v := 0) hx hb dX1_walk_1 (by decide) ?_
  refine xm_putI (M := M) (k := 0) hx hb hts in_X1 hown hK hR hS (by decide) (hts _ q966) rfl rfl rfl rfl dX1_walk_2 (fun H locs hR hS => ?_)
  obtain ⟨M_1, eM_1⟩ : ∃ z, z = (m1 M 0 0) := ⟨_, rfl⟩
  rw [← eM_1] at hR
  have hw := hw M_1 eM_1
  refine lv_aload_n hx hb dX1_walk_5 rfl (lv_at hl 0 rfl) ?_
  refine lv_iload_n hx hb dX1_walk_6 rfl (lv_at hl 1 rfl) ?_
  refine xm_ci (va_runV (As := [.int x1]) (rest := []) ⟨hx, hb, hml, hown, hts⟩ (mt_X1_noMan l hw) (cwV 1 hts (lw_V q1123 q1125 qs38 q65 q1126) rfl rfl rfl hd_X1_noMan ⟨Nat.le_of_ble_eq_true rfl, Nat.le_of_ble_eq_true rfl⟩) ⟨x_Pc_blind, xm_recv hR hK, x_Pc_pre hR hz hS hK⟩ rfl rfl hl.1 rfl (lv_room (Nat.le_of_ble_eq_true rfl)) dX1_walk_7 ⟨Nat.le_refl _, Nat.le_refl _⟩) hS (fun r_2 M_3 H locs hp hR hS => ?_)
  have hw := hp.2
  rw [hp.1] at hR
  refine lv_if_ne (tgt := 21) hx hb dX1_walk_10 (by decide) (fun c_4 => ?_) (fun c_4 => ?_)
  · have hw := x_f hw c_4
    refine lv_iconst (v := (-1)) hx hb dX1_walk_21 (by decide) ?_
    exact xm_ri hx hb hr hlocks hR hS dX1_walk_22 hw
  · have hw := x_t hw c_4
    refine lv_aload_n hx hb dX1_walk_13 rfl (lv_at hl 0 rfl) ?_
    refine lv_iload_n hx hb dX1_walk_14 rfl (lv_at hl 2 rfl) ?_
    refine xm_ci (va_runV (As := [.int x2]) (rest := []) ⟨hx, hb, hml, hown, hts⟩ (mt_X1_noStreet l hw) (cwV 1 hts (lw_V q1096 q1098 qs36 q65 q1099) rfl rfl rfl hd_X1_noStreet ⟨Nat.le_of_ble_eq_true rfl, Nat.le_of_ble_eq_true rfl⟩) ⟨x_Pc_blind, xm_recv hR hK, x_Pc_pre hR hz hS hK⟩ rfl rfl hl.1 rfl (lv_room (Nat.le_of_ble_eq_true rfl)) dX1_walk_15 ⟨Nat.le_refl _, Nat.le_refl _⟩) hS (fun r_5 M_6 H locs hp hR hS => ?_)
    have hw := hp.2
    rw [hp.1] at hR
    refine lv_if_eq (tgt := 23) hx hb dX1_walk_18 (by decide) (fun c_7 => ?_) (fun c_7 => ?_)
    · have hw := x_t hw c_7
      refine lv_aload_n hx hb dX1_walk_23 rfl (lv_at hl 0 rfl) ?_
      refine lv_iload_n hx hb dX1_walk_24 rfl (lv_at hl 1 rfl) ?_
      refine xm_ci (va_runV (As := [.int x1]) (rest := []) ⟨hx, hb, hml, hown, hts⟩ (mt_X1_placeOf l hw) (cwV 1 hts (lw_V q1146 q1148 qs40 q65 q1149) rfl rfl rfl hd_X1_placeOf ⟨Nat.le_of_ble_eq_true rfl, Nat.le_of_ble_eq_true rfl⟩) ⟨x_Pc_blind, xm_recv hR hK, x_Pc_pre hR hz hS hK⟩ rfl rfl hl.1 rfl (lv_room (Nat.le_of_ble_eq_true rfl)) dX1_walk_25 ⟨Nat.le_refl _, Nat.le_refl _⟩) hS (fun r_8 M_9 H locs hp hR hS => ?_)
      have hw := hp.2
      rw [hp.1] at hR
      refine lv_istore_n (lv' := [(3, .int r_8), (0, .ref mo), (1, .int x1), (2, .int x2)]) hx hb dX1_walk_28 rfl hl (by decide) rfl (fun ls hl => ?_)
      refine lv_iload_n hx hb dX1_walk_29 rfl (lv_at hl 0 rfl) ?_
      refine xm_ci (va_runS (As := [.int r_8]) (rest := []) ⟨hx, hb, hml, hown, hts⟩ (mt_X1_isStreet l hw) (va_cwS 1 hts (lw_S q1162 q1163 q65 q1164) rfl rfl rfl hd_X1_isStreet.2 ⟨Nat.le_of_ble_eq_true rfl, Nat.le_of_ble_eq_true rfl⟩) ⟨x_Pc_blind, x_Pc_pre hR hz hS hK⟩ rfl rfl hl.1 rfl (lv_room (Nat.le_of_ble_eq_true rfl)) dX1_walk_30 ⟨Nat.le_refl _, Nat.le_refl _⟩) hS (fun r_10 M_11 H locs hp hR hS => ?_)
      have hw := hp.2
      rw [hp.1] at hR
      refine x_jn0 (G := ∀ (ls : Array Slot) (H : Heap) (locs : List Loc), x_Rp D d (x_A base) (x_mc d mo Aa M_1) S H → va_S (x_A base) s.heap H locs → lv_has ls 4 [(0, .ref mo), (1, .int x1), (2, .int x2), (3, .int r_8)] → W p l e (x_rm 2 0 0 46) s m ([.ref mo, .int x1, .int x2] : List Value).toArray below meth c H locs 0 0 (MQ below (xm_Qi D d base mo Aa S (fun r M' => Q r M')) ([.ref mo, .int x1, .int x2] : List Value).toArray s 0 0 (x_A base)) (F0 m 45 ls [])) hw (fun hw => ?_) (fun hJ_12 hw => ?_)
      · intro ls H locs hR hS hl
        refine lv_aload_n hx hb dX1_walk_45 rfl (lv_at hl 0 rfl) ?_
        refine lv_iload_n hx hb dX1_walk_46 rfl (lv_at hl 1 rfl) ?_
        refine lv_iload_n hx hb dX1_walk_47 rfl (lv_at hl 2 rfl) ?_
        refine xm_cv (va_runV (As := [.int x1, .int x2]) (rest := []) ⟨hx, hb, hml, hown, hts⟩ (mt_X1_go l hw) (cwV 2 hts (lw_V q1169 q1171 qs43 q65 q1172) rfl rfl rfl hd_X1_go ⟨Nat.le_of_ble_eq_true rfl, Nat.le_of_ble_eq_true rfl⟩) ⟨x_Pc_blind, xm_recv hR hK, x_Pc_pre hR hz hS hK⟩ rfl rfl hl.1 rfl (lv_room (Nat.le_of_ble_eq_true rfl)) dX1_walk_48 ⟨Nat.le_refl _, Nat.le_refl _⟩) hS (fun M_13 H locs hp hR hS => ?_)
        have hw := hp
        refine lv_iload_n hx hb dX1_walk_51 rfl (lv_at hl 3 rfl) ?_
        exact xm_ri hx hb hr hlocks hR hS dX1_walk_52 hw
      · refine lv_if_ne (tgt := 45) hx hb dX1_walk_33 (by decide) (fun c_14 => ?_) (fun c_14 => ?_)
        · have hw := x_f hw c_14
          exact hJ_12  hw ls _ _ hR hS (lv_sub hl [1, 2, 3, 0] rfl)
        · have hw := x_t hw c_14
          refine lv_iload_n hx hb dX1_walk_36 rfl (lv_at hl 0 rfl) ?_
          refine lv_bipush (v := 22) hx hb dX1_walk_37 (by decide) ?_
          refine lv_icmp_eq (tgt := 45) hx hb dX1_walk_39 (by decide) (fun c_15 => ?_) (fun c_15 => ?_)
          · have hw := x_t hw c_15
            exact hJ_12  hw ls _ _ hR hS (lv_sub hl [1, 2, 3, 0] rfl)
          · have hw := x_f hw c_15
            refine lv_bipush (v := (-3)) hx hb dX1_walk_42 (by decide) ?_
            exact xm_ri hx hb hr hlocks hR hS dX1_walk_44 hw
    · have hw := x_f hw c_7
      refine lv_iconst (v := (-1)) hx hb dX1_walk_21 (by decide) ?_
      exact xm_ri hx hb hr hlocks hR hS dX1_walk_22 hw
