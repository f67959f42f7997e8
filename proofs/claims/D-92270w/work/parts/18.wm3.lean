set_option maxRecDepth 100000
def w_X1_mayBe (M : xM) (x1 : Int32) (x2 : Int32) (Q : Int32 → xM → Prop) : Prop := w_X1_forceOf M (M1 M 4) (fun (r_1 : Int32) => wif (r_1 = (-9)) (Q 0 M) (vp_in r_1 8 ∧ nm ((M2 M 19 (Int32.toNatClampNeg r_1)) - 1) (fun x6_4 : Int32 => lf4 (fun L_9 (x4_5 : Int32) (x5_6 : Int32) (x6_7 : Int32) (M_8 : xM) => wif (x6_7 < 0) (vp_in 0 64 ∧ x_B (M2 M_8 21 (Int32.toNatClampNeg 0)) ∧ Q (M2 M_8 21 (Int32.toNatClampNeg 0)) M_8) (vp_in ((60 * r_1) + x6_7) 480 ∧ nm (M2 M_8 20 (Int32.toNatClampNeg ((60 * r_1) + x6_7))) (fun x7_11 : Int32 => w_X1_in M_8 (Int32.toInt64 x7_11) 48 57 (fun (r_12 : Int32) => jn3 (fun (x4_14 : Int32) (x5_15 : Int32) (M_16 : xM) => L_9 x4_14 x5_15 (x6_7 + (-1)) M_16) (fun J_17 => wif (r_12 = 0) (wif (x7_11 = 33) (vp_in (x4_5 - 1) 64 ∧ jn (fun (v2_37 : Int32) => vp_in (x4_5 - 1) 64 ∧ x_B v2_37 ∧ nm (m2 M_8 21 (Int32.toNatClampNeg (x4_5 - 1)) v2_37) (fun M_39 : xM => J_17 x4_5 x5_6 M_39)) (fun J_38 => wif ((M2 M_8 21 (Int32.toNatClampNeg (x4_5 - 1))) = 0) (J_38 1) (J_38 0))) (wif (x7_11 = 38) (vp_in (x4_5 + (-1)) 64 ∧ jn (fun (v2_31 : Int32) => vp_in ((x4_5 + (-1)) - 1) 64 ∧ x_B v2_31 ∧ nm (m2 M_8 21 (Int32.toNatClampNeg ((x4_5 + (-1)) - 1)) v2_31) (fun M_33 : xM => J_17 (x4_5 + (-1)) x5_6 M_33)) (fun J_32 => jn0 (J_32 0) (fun J_34 => wif ((M2 M_8 21 (Int32.toNatClampNeg (x4_5 + (-1)))) = 0) (J_34) (vp_in ((x4_5 + (-1)) - 1) 64 ∧ wif ((M2 M_8 21 (Int32.toNatClampNeg ((x4_5 + (-1)) - 1))) = 0) (J_34) (J_32 1))))) (wif (x7_11 = 124) (vp_in (x4_5 + (-1)) 64 ∧ jn (fun (v2_25 : Int32) => vp_in ((x4_5 + (-1)) - 1) 64 ∧ x_B v2_25 ∧ nm (m2 M_8 21 (Int32.toNatClampNeg ((x4_5 + (-1)) - 1)) v2_25) (fun M_27 : xM => J_17 (x4_5 + (-1)) x5_6 M_27)) (fun J_26 => jn0 (J_26 1) (fun J_28 => wif ((M2 M_8 21 (Int32.toNatClampNeg (x4_5 + (-1)))) = 0) (vp_in ((x4_5 + (-1)) - 1) 64 ∧ wif ((M2 M_8 21 (Int32.toNatClampNeg ((x4_5 + (-1)) - 1))) = 0) (J_26 0) (J_28)) (J_28)))) (w_X1_test M_8 x7_11 x5_6 x1 x2 (fun (r_22 : Int32) => vp_in x4_5 64 ∧ x_B r_22 ∧ nm (m2 M_8 21 (Int32.toNatClampNeg x4_5) r_22) (fun M_24 : xM => J_17 (x4_5 + 1) x5_6 M_24)))))) (jn (fun (v0_41 : Int32) => J_17 x4_5 v0_41 M_8) (fun J_42 => jn0 (J_42 (x5_6 + (10 * (x7_11 - 48)))) (fun J_43 => wif (x6_7 ≤ 0) (J_43) (vp_in (((60 * r_1) + x6_7) - 1) 480 ∧ w_X1_in M_8 (Int32.toInt64 (M2 M_8 20 (Int32.toNatClampNeg (((60 * r_1) + x6_7) - 1)))) 48 57 (fun (r_45 : Int32) => wif (r_45 = 0) (J_43) (J_42 (x7_11 - 48)))))))))))) 0 0 x6_4 M)))
theorem hd_X1_mayBe : yX1_mayBe.cls = "PressedMenModel" ∧ yX1_mayBe.cls ≠ "java/lang/invoke/MethodHandle" ∧ yX1_mayBe.cls ≠ "java/lang/invoke/VarHandle" ∧ (parseMethodDescriptor yX1_mayBe.desc).map (fun d => d.parameters.length) = some 2 := by decide +kernel
set_option maxHeartbeats 4000000 in
theorem mt_X1_mayBe (l : Launch) {D : va_G} {d : Nat → ClassId} {base : Nat} {mo : Nat} {Aa : Nat → Nat} {M : xM} {S : xH} {x1 : Int32} {x2 : Int32} {Q : Int32 → xM → Prop} (hw : w_X1_mayBe M x1 x2 Q) : Met l yX1_mayBe (ws_ yX1_mayBe cX1_mayBe 8 (some FieldType.boolean)) (x_rm 3 0 0 74) (x_Pc D d base (x_mc d mo Aa M) S [.ref mo, .int x1, .int x2]) (xm_Qi D d base mo Aa S (fun r M' => Q r M')) 0 0 (x_A base) := by
  refine x_met (by decide) (Nat.le_of_ble_eq_true rfl) ?_
  intro p e s m below meth c hx hb hml hr hlocks hown hts hz hR hK hin ls hl
  have hown : s.vm.findClass "PressedMenModel" = some m.cls := hown
  have hl : lv_has ls 8 [(0, .ref mo), (1, .int x1), (2, .int x2)] := hl
  have hS : va_S (x_A base) s.heap s.heap [] := va_S.rf
  unfold w_X1_mayBe at hw
  refine lv_aload_n hx hb dX1_mayBe_0 rfl (lv_at hl 0 rfl) ?_
  refine lv_aload_n hx hb dX1_mayBe_1 rfl (lv_at hl 0 rfl) ?_
  refine xm_getI (k := 4) hx hb hts in_X1 hown hK hR (by decide) (hts _ q970) rfl dX1_mayBe_2 ?_
  refine xm_ci (va_runV (As := [.int (M1 M 4)]) (rest := []) ⟨hx, hb, hml, hown, hts⟩ (mt_X1_forceOf l hw) (cwV 1 hts (lw_V q1242 q1244 qs47 q65 q1245) rfl rfl rfl hd_X1_forceOf ⟨Nat.le_of_ble_eq_true rfl, Nat.le_of_ble_eq_true rfl⟩) ⟨x_Pc_blind, xm_recv hR hK, x_Pc_pre hR hz hS hK⟩ rfl rfl hl.1 rfl (lv_room (Nat.le_of_ble_eq_true rfl)) dX1_mayBe_5 ⟨Nat.le_refl _, Nat.le_refl _⟩) hS (fun r_1 M_2 H locs hp hR hS => ?_)
  have hw := hp.2
  rw [hp.1] at hR
  refine lv_istore_n (lv' := [(3, .int r_1), (0, .ref mo), (1, .int x1), (2, .int x2)]) hx hb dX1_mayBe_8 rfl hl (by decide) rfl (fun ls hl => ?_)
  refine lv_iload_n hx hb dX1_mayBe_9 rfl (lv_at hl 0 rfl) ?_
  refine lv_bipush (v := (-9)) hx hb dX1_mayBe_10 (by decide) ?_
  refine lv_icmp_ne (tgt := 17) hx hb dX1_mayBe_12 (by decide) (fun c_3 => ?_) (fun c_3 => ?_)
  · have hw := x_f hw c_3
    refine lv_iconst (v := 0) hx hb dX1_mayBe_17 (by decide) ?_
    refine lv_istore (lv' := [(4, .int 0), (3, .int r_1), (0, .ref mo), (1, .int x1), (2, .int x2)]) hx hb dX1_mayBe_18 hl (by decide) rfl (fun ls hl => ?_)
    refine lv_iconst (v := 0) hx hb dX1_mayBe_20 (by decide) ?_
    refine lv_istore (lv' := [(5, .int 0), (4, .int 0), (3, .int r_1), (0, .ref mo), (1, .int x1), (2, .int x2)]) hx hb dX1_mayBe_21 hl (by decide) rfl (fun ls hl => ?_)
    refine lv_aload_n hx hb dX1_mayBe_23 rfl (lv_at hl 3 rfl) ?_
    refine xm_getA (k := 19) hx hb hts in_X1 hown hK hR (by decide) (hts _ q985) rfl dX1_mayBe_24 ?_
    refine lv_iload_n hx hb dX1_mayBe_27 rfl (lv_at hl 2 rfl) ?_
    refine xm_ild (M := M) (k := 19) (j := 12) hx hb hK hR dX1_mayBe_28 rfl hw.1 ?_
    have hw := hw.2
    refine lv_iconst (v := 1) hx hb dX1_mayBe_29 (by decide) ?_
    refine lv_isub hx hb dX1_mayBe_30 ?_
    refine lv_topi (fun x6_4 ex6_4 => ?_)
    have hw := hw x6_4 ex6_4
    refine lv_istore (lv' := [(6, .int x6_4), (5, .int 0), (4, .int 0), (3, .int r_1), (0, .ref mo), (1, .int x1), (2, .int x2)]) hx hb dX1_mayBe_31 hl (by decide) rfl (fun ls hl => ?_)
    refine x_lf4 (G := fun (x4_5 : Int32) (x5_6 : Int32) (x6_7 : Int32) (M_8 : xM) => ∀ (ls : Array Slot) (H : Heap) (locs : List Loc), x_Rp D d (x_A base) (x_mc d mo Aa M_8) S H → va_S (x_A base) s.heap H locs → lv_has ls 8 [(0, .ref mo), (1, .int x1), (2, .int x2), (3, .int r_1), (4, .int x4_5), (5, .int x5_6), (6, .int x6_7)] → W p l e (x_rm 3 0 0 74) s m ([.ref mo, .int x1, .int x2] : List Value).toArray below meth c H locs 0 0 (MQ below (xm_Qi D d base mo Aa S (fun r M' => Q r M')) ([.ref mo, .int x1, .int x2] : List Value).toArray s 0 0 (x_A base)) (F0 m 33 ls [])) hw (fun x4_5 x5_6 x6_7 M_8 hw => ?_) ls _ _ hR hS (lv_sub hl [4, 5, 6, 3, 2, 1, 0] rfl)
    intro ls H locs hR hS hl
    refine lv_iload hx hb dX1_mayBe_33 (lv_at hl 6 rfl) ?_
    refine lv_if_lt (tgt := 283) hx hb dX1_mayBe_35 (by decide) (fun c_10 => ?_) (fun c_10 => ?_)
    · have hw := x_t hw c_10
      refine lv_aload_n hx hb dX1_mayBe_283 rfl (lv_at hl 0 rfl) ?_
      refine xm_getA (k := 21) hx hb hts in_X1 hown hK hR (by decide) (hts _ q987) rfl dX1_mayBe_284 ?_
      refine lv_iconst (v := 0) hx hb dX1_mayBe_287 (by decide) ?_
      refine xm_zld (M := M_8) (k := 21) (j := 14) hx hb hK hR dX1_mayBe_288 rfl hw.1 ?_
      have hw := hw.2
      exact xm_rz hx hb hr hlocks hR hS dX1_mayBe_289 hw.1 hw.2
    · have hw := x_f hw c_10
      refine lv_aload_n hx hb dX1_mayBe_38 rfl (lv_at hl 0 rfl) ?_
      refine xm_getA (k := 20) hx hb hts in_X1 hown hK hR (by decide) (hts _ q986) rfl dX1_mayBe_39 ?_
      refine lv_bipush (v := 60) hx hb dX1_mayBe_42 (by decide) ?_
      refine lv_iload_n hx hb dX1_mayBe_44 rfl (lv_at hl 3 rfl) ?_
      refine lv_imul hx hb dX1_mayBe_45 ?_
      refine lv_iload hx hb dX1_mayBe_46 (lv_at hl 6 rfl) ?_
      refine lv_iadd hx hb dX1_mayBe_48 ?_
      refine xm_ild (M := M_8) (k := 20) (j := 13) hx hb hK hR dX1_mayBe_49 rfl hw.1 ?_
      have hw := hw.2
      refine lv_topi (fun x7_11 ex7_11 => ?_)
      have hw := hw x7_11 ex7_11
      refine lv_istore (lv' := [(7, .int x7_11), (0, .ref mo), (1, .int x1), (2, .int x2), (3, .int r_1), (4, .int x4_5), (5, .int x5_6), (6, .int x6_7)]) hx hb dX1_mayBe_50 hl (by decide) rfl (fun ls hl => ?_)
      refine lv_iload hx hb dX1_mayBe_52 (lv_at hl 0 rfl) ?_
      refine lv_i2l (v := (Int32.toInt64 x7_11)) hx hb dX1_mayBe_54 rfl ?_
      refine lv_ldc2 (v := 48) hx hb hown (hts _ q1233) dX1_mayBe_55 ?_
      refine lv_ldc2 (v := 57) hx hb hown (hts _ q1234) dX1_mayBe_58 ?_
      refine xm_ci (va_runS (As := [.long (Int32.toInt64 x7_11), .long 48, .long 57]) (rest := []) ⟨hx, hb, hml, hown, hts⟩ (mt_X1_in l hw) (va_cwS 3 hts (lw_S q1089 q1090 q65 q1091) rfl rfl rfl hd_X1_in.2 ⟨Nat.le_of_ble_eq_true rfl, Nat.le_of_ble_eq_true rfl⟩) ⟨x_Pc_blind, x_Pc_pre hR hz hS hK⟩ rfl rfl hl.1 rfl (lv_room (Nat.le_of_ble_eq_true rfl)) dX1_mayBe_61 ⟨Nat.le_refl _, Nat.le_refl _⟩) hS (fun r_12 M_13 H locs hp hR hS => ?_)
      have hw := hp.2
      rw [hp.1] at hR
      refine x_jn3 (G := fun (x4_14 : Int32) (x5_15 : Int32) (M_16 : xM) => ∀ (ls : Array Slot) (H : Heap) (locs : List Loc), x_Rp D d (x_A base) (x_mc d mo Aa M_16) S H → va_S (x_A base) s.heap H locs → lv_has ls 8 [(0, .ref mo), (1, .int x1), (2, .int x2), (3, .int r_1), (4, .int x4_14), (5, .int x5_15), (6, .int x6_7)] → W p l e (x_rm 3 0 0 74) s m ([.ref mo, .int x1, .int x2] : List Value).toArray below meth c H locs 0 0 (MQ below (xm_Qi D d base mo Aa S (fun r M' => Q r M')) ([.ref mo, .int x1, .int x2] : List Value).toArray s 0 0 (x_A base)) (F0 m 277 ls [])) hw (fun x4_14 x5_15 M_16 hw => ?_) (fun hJ_17 hw => ?_)
      · intro ls H locs hR hS hl
        refine lv_iinc (v := (x6_7 + (-1))) (lv' := [(6, .int (x6_7 + (-1))), (0, .ref mo), (1, .int x1), (2, .int x2), (3, .int r_1), (4, .int x4_14), (5, .int x5_15)]) hx hb dX1_mayBe_277 hl (k := 6) rfl rfl (by decide) rfl (fun ls hl => ?_)
        refine lv_goto (tgt := 33) hx hb dX1_mayBe_280 (by decide) ?_
        exact hw ls _ _ hR hS (lv_sub hl [1, 2, 3, 4, 5, 6, 0] rfl)
      · refine lv_if_eq (tgt := 123) hx hb dX1_mayBe_64 (by decide) (fun c_18 => ?_) (fun c_18 => ?_)
        · have hw := x_t hw c_18
          refine lv_iload hx hb dX1_mayBe_123 (lv_at hl 0 rfl) ?_
          refine lv_bipush (v := 33) hx hb dX1_mayBe_125 (by decide) ?_
          refine lv_icmp_ne (tgt := 159) hx hb dX1_mayBe_127 (by decide) (fun c_19 => ?_) (fun c_19 => ?_)
          · have hw := x_f hw c_19
            refine lv_iload hx hb dX1_mayBe_159 (lv_at hl 0 rfl) ?_
            refine lv_bipush (v := 38) hx hb dX1_mayBe_161 (by decide) ?_
            refine lv_icmp_ne (tgt := 208) hx hb dX1_mayBe_163 (by decide) (fun c_20 => ?_) (fun c_20 => ?_)
            · have hw := x_f hw c_20
              refine lv_iload hx hb dX1_mayBe_208 (lv_at hl 0 rfl) ?_
              refine lv_bipush (v := 124) hx hb dX1_mayBe_210 (by decide) ?_
              refine lv_icmp_ne (tgt := 257) hx hb dX1_mayBe_212 (by decide) (fun c_21 => ?_) (fun c_21 => ?_)
              · have hw := x_f hw c_21
                refine lv_aload_n hx hb dX1_mayBe_257 rfl (lv_at hl 1 rfl) ?_
                refine xm_getA (k := 21) hx hb hts in_X1 hown hK hR (by decide) (hts _ q987) rfl dX1_mayBe_258 ?_
                refine lv_iload hx hb dX1_mayBe_261 (lv_at hl 5 rfl) ?_
                refine lv_aload_n hx hb dX1_mayBe_263 rfl (lv_at hl 1 rfl) ?_
                refine lv_iload hx hb dX1_mayBe_264 (lv_at hl 0 rfl) ?_
                refine lv_iload hx hb dX1_mayBe_266 (lv_at hl 6 rfl) ?_
                refine lv_iload_n hx hb dX1_mayBe_268 rfl (lv_at hl 2 rfl) ?_
                refine lv_iload_n hx hb dX1_mayBe_269 rfl (lv_at hl 3 rfl) ?_
                refine xm_ci (va_runV (As := [.int x7_11, .int x5_6, .int x1, .int x2]) (rest := [.int x4_5, .ref (Aa 21)]) ⟨hx, hb, hml, hown, hts⟩ (mt_X1_test l hw) (cwV 4 hts (lw_V q1258 q1260 qs50 q65 q1261) rfl rfl rfl hd_X1_test ⟨Nat.le_of_ble_eq_true rfl, Nat.le_of_ble_eq_true rfl⟩) ⟨x_Pc_blind, xm_recv hR hK, x_Pc_pre hR hz hS hK⟩ rfl rfl hl.1 rfl (lv_room (Nat.le_of_ble_eq_true rfl)) dX1_mayBe_270 ⟨Nat.le_refl _, Nat.le_refl _⟩) hS (fun r_22 M_23 H locs hp hR hS => ?_)
                have hw := hp.2
                rw [hp.1] at hR
                refine xm_zst (M := M_8) (k := 21) (j := 14) hx hb hK hR hS dX1_mayBe_273 rfl hw.1 hw.2.1 (fun H locs hR hS => ?_)
                have hw := hw.2.2
                obtain ⟨M_24, eM_24⟩ : ∃ z, z = (m2 M_8 21 (Int32.toNatClampNeg x4_5) r_22) := ⟨_, rfl⟩
                rw [← eM_24] at hR
                have hw := hw M_24 eM_24
                refine lv_iinc (v := (x4_5 + 1)) (lv' := [(4, .int (x4_5 + 1)), (7, .int x7_11), (0, .ref mo), (1, .int x1), (2, .int x2), (3, .int r_1), (5, .int x5_6), (6, .int x6_7)]) hx hb dX1_mayBe_274 hl (k := 5) rfl rfl (by decide) rfl (fun ls hl => ?_)
                exact hJ_17 (x4_5 + 1) x5_6 M_24 hw ls _ _ hR hS (lv_sub hl [2, 3, 4, 5, 0, 6, 7] rfl)
              · have hw := x_t hw c_21
                refine lv_iinc (v := (x4_5 + (-1))) (lv' := [(4, .int (x4_5 + (-1))), (7, .int x7_11), (0, .ref mo), (1, .int x1), (2, .int x2), (3, .int r_1), (5, .int x5_6), (6, .int x6_7)]) hx hb dX1_mayBe_215 hl (k := 5) rfl rfl (by decide) rfl (fun ls hl => ?_)
                refine lv_aload_n hx hb dX1_mayBe_218 rfl (lv_at hl 2 rfl) ?_
                refine xm_getA (k := 21) hx hb hts in_X1 hown hK hR (by decide) (hts _ q987) rfl dX1_mayBe_219 ?_
                refine lv_iload hx hb dX1_mayBe_222 (lv_at hl 0 rfl) ?_
                refine lv_iconst (v := 1) hx hb dX1_mayBe_224 (by decide) ?_
                refine lv_isub hx hb dX1_mayBe_225 ?_
                refine lv_aload_n hx hb dX1_mayBe_226 rfl (lv_at hl 2 rfl) ?_
                refine xm_getA (k := 21) hx hb hts in_X1 hown hK hR (by decide) (hts _ q987) rfl dX1_mayBe_227 ?_
                refine lv_iload hx hb dX1_mayBe_230 (lv_at hl 0 rfl) ?_
                refine xm_zld (M := M_8) (k := 21) (j := 14) hx hb hK hR dX1_mayBe_232 rfl hw.1 ?_
                have hw := hw.2
                refine x_jn (G := fun (v2_25 : Int32) => ∀ (ls : Array Slot) (H : Heap) (locs : List Loc), x_Rp D d (x_A base) (x_mc d mo Aa M_8) S H → va_S (x_A base) s.heap H locs → lv_has ls 8 [(0, .ref mo), (1, .int x1), (2, .int x2), (3, .int r_1), (4, .int (x4_5 + (-1))), (5, .int x5_6), (6, .int x6_7)] → W p l e (x_rm 3 0 0 74) s m ([.ref mo, .int x1, .int x2] : List Value).toArray below meth c H locs 0 0 (MQ below (xm_Qi D d base mo Aa S (fun r M' => Q r M')) ([.ref mo, .int x1, .int x2] : List Value).toArray s 0 0 (x_A base)) (F0 m 253 ls [.int v2_25, .int ((x4_5 + (-1)) - 1), .ref (Aa 21)])) hw (fun v2_25 hw => ?_) (fun hJ_26 hw => ?_)
                · intro ls H locs hR hS hl
                  refine xm_zst (M := M_8) (k := 21) (j := 14) hx hb hK hR hS dX1_mayBe_253 rfl hw.1 hw.2.1 (fun H locs hR hS => ?_)
                  have hw := hw.2.2
                  obtain ⟨M_27, eM_27⟩ : ∃ z, z = (m2 M_8 21 (Int32.toNatClampNeg ((x4_5 + (-1)) - 1)) v2_25) := ⟨_, rfl⟩
                  rw [← eM_27] at hR
                  have hw := hw M_27 eM_27
                  refine lv_goto (tgt := 277) hx hb dX1_mayBe_254 (by decide) ?_
                  exact hJ_17 (x4_5 + (-1)) x5_6 M_27 hw ls _ _ hR hS (lv_sub hl [0, 1, 2, 3, 4, 5, 6] rfl)
                · refine x_jn0 (G := ∀ (ls : Array Slot) (H : Heap) (locs : List Loc), x_Rp D d (x_A base) (x_mc d mo Aa M_8) S H → va_S (x_A base) s.heap H locs → lv_has ls 8 [(0, .ref mo), (1, .int x1), (2, .int x2), (3, .int r_1), (4, .int (x4_5 + (-1))), (5, .int x5_6), (6, .int x6_7)] → W p l e (x_rm 3 0 0 74) s m ([.ref mo, .int x1, .int x2] : List Value).toArray below meth c H locs 0 0 (MQ below (xm_Qi D d base mo Aa S (fun r M' => Q r M')) ([.ref mo, .int x1, .int x2] : List Value).toArray s 0 0 (x_A base)) (F0 m 248 ls [.int ((x4_5 + (-1)) - 1), .ref (Aa 21)])) hw (fun hw => ?_) (fun hJ_28 hw => ?_)
                  · intro ls H locs hR hS hl
                    refine lv_iconst (v := 1) hx hb dX1_mayBe_248 (by decide) ?_
                    refine lv_goto (tgt := 253) hx hb dX1_mayBe_249 (by decide) ?_
                    exact hJ_26 1 hw ls _ _ hR hS (lv_sub hl [0, 1, 2, 3, 4, 5, 6] rfl)
                  · refine lv_if_ne (tgt := 248) hx hb dX1_mayBe_233 (by decide) (fun c_29 => ?_) (fun c_29 => ?_)
                    · have hw := x_f hw c_29
                      exact hJ_28  hw ls _ _ hR hS (lv_sub hl [2, 3, 4, 5, 0, 6, 7] rfl)
                    · have hw := x_t hw c_29
                      refine lv_aload_n hx hb dX1_mayBe_236 rfl (lv_at hl 2 rfl) ?_
                      refine xm_getA (k := 21) hx hb hts in_X1 hown hK hR (by decide) (hts _ q987) rfl dX1_mayBe_237 ?_
                      refine lv_iload hx hb dX1_mayBe_240 (lv_at hl 0 rfl) ?_
                      refine lv_iconst (v := 1) hx hb dX1_mayBe_242 (by decide) ?_
                      refine lv_isub hx hb dX1_mayBe_243 ?_
                      refine xm_zld (M := M_8) (k := 21) (j := 14) hx hb hK hR dX1_mayBe_244 rfl hw.1 ?_
                      have hw := hw.2
                      refine lv_if_eq (tgt := 252) hx hb dX1_mayBe_245 (by decide) (fun c_30 => ?_) (fun c_30 => ?_)
                      · have hw := x_t hw c_30
                        refine lv_iconst (v := 0) hx hb dX1_mayBe_252 (by decide) ?_
                        exact hJ_26 0 hw ls _ _ hR hS (lv_sub hl [2, 3, 4, 5, 0, 6, 7] rfl)
                      · have hw := x_f hw c_30
                        exact hJ_28  hw ls _ _ hR hS (lv_sub hl [2, 3, 4, 5, 0, 6, 7] rfl)
            · have hw := x_t hw c_20
              refine lv_iinc (v := (x4_5 + (-1))) (lv' := [(4, .int (x4_5 + (-1))), (7, .int x7_11), (0, .ref mo), (1, .int x1), (2, .int x2), (3, .int r_1), (5, .int x5_6), (6, .int x6_7)]) hx hb dX1_mayBe_166 hl (k := 5) rfl rfl (by decide) rfl (fun ls hl => ?_)
              refine lv_aload_n hx hb dX1_mayBe_169 rfl (lv_at hl 2 rfl) ?_
              refine xm_getA (k := 21) hx hb hts in_X1 hown hK hR (by decide) (hts _ q987) rfl dX1_mayBe_170 ?_
              refine lv_iload hx hb dX1_mayBe_173 (lv_at hl 0 rfl) ?_
              refine lv_iconst (v := 1) hx hb dX1_mayBe_175 (by decide) ?_
              refine lv_isub hx hb dX1_mayBe_176 ?_
              refine lv_aload_n hx hb dX1_mayBe_177 rfl (lv_at hl 2 rfl) ?_
              refine xm_getA (k := 21) hx hb hts in_X1 hown hK hR (by decide) (hts _ q987) rfl dX1_mayBe_178 ?_
              refine lv_iload hx hb dX1_mayBe_181 (lv_at hl 0 rfl) ?_
              refine xm_zld (M := M_8) (k := 21) (j := 14) hx hb hK hR dX1_mayBe_183 rfl hw.1 ?_
              have hw := hw.2
              refine x_jn (G := fun (v2_31 : Int32) => ∀ (ls : Array Slot) (H : Heap) (locs : List Loc), x_Rp D d (x_A base) (x_mc d mo Aa M_8) S H → va_S (x_A base) s.heap H locs → lv_has ls 8 [(0, .ref mo), (1, .int x1), (2, .int x2), (3, .int r_1), (4, .int (x4_5 + (-1))), (5, .int x5_6), (6, .int x6_7)] → W p l e (x_rm 3 0 0 74) s m ([.ref mo, .int x1, .int x2] : List Value).toArray below meth c H locs 0 0 (MQ below (xm_Qi D d base mo Aa S (fun r M' => Q r M')) ([.ref mo, .int x1, .int x2] : List Value).toArray s 0 0 (x_A base)) (F0 m 204 ls [.int v2_31, .int ((x4_5 + (-1)) - 1), .ref (Aa 21)])) hw (fun v2_31 hw => ?_) (fun hJ_32 hw => ?_)
              · intro ls H locs hR hS hl
                refine xm_zst (M := M_8) (k := 21) (j := 14) hx hb hK hR hS dX1_mayBe_204 rfl hw.1 hw.2.1 (fun H locs hR hS => ?_)
                have hw := hw.2.2
                obtain ⟨M_33, eM_33⟩ : ∃ z, z = (m2 M_8 21 (Int32.toNatClampNeg ((x4_5 + (-1)) - 1)) v2_31) := ⟨_, rfl⟩
                rw [← eM_33] at hR
                have hw := hw M_33 eM_33
                refine lv_goto (tgt := 277) hx hb dX1_mayBe_205 (by decide) ?_
                exact hJ_17 (x4_5 + (-1)) x5_6 M_33 hw ls _ _ hR hS (lv_sub hl [0, 1, 2, 3, 4, 5, 6] rfl)
              · refine x_jn0 (G := ∀ (ls : Array Slot) (H : Heap) (locs : List Loc), x_Rp D d (x_A base) (x_mc d mo Aa M_8) S H → va_S (x_A base) s.heap H locs → lv_has ls 8 [(0, .ref mo), (1, .int x1), (2, .int x2), (3, .int r_1), (4, .int (x4_5 + (-1))), (5, .int x5_6), (6, .int x6_7)] → W p l e (x_rm 3 0 0 74) s m ([.ref mo, .int x1, .int x2] : List Value).toArray below meth c H locs 0 0 (MQ below (xm_Qi D d base mo Aa S (fun r M' => Q r M')) ([.ref mo, .int x1, .int x2] : List Value).toArray s 0 0 (x_A base)) (F0 m 203 ls [.int ((x4_5 + (-1)) - 1), .ref (Aa 21)])) hw (fun hw => ?_) (fun hJ_34 hw => ?_)
                · intro ls H locs hR hS hl
                  refine lv_iconst (v := 0) hx hb dX1_mayBe_203 (by decide) ?_
                  exact hJ_32 0 hw ls _ _ hR hS (lv_sub hl [0, 1, 2, 3, 4, 5, 6] rfl)
                · refine lv_if_eq (tgt := 203) hx hb dX1_mayBe_184 (by decide) (fun c_35 => ?_) (fun c_35 => ?_)
                  · have hw := x_t hw c_35
                    exact hJ_34  hw ls _ _ hR hS (lv_sub hl [2, 3, 4, 5, 0, 6, 7] rfl)
                  · have hw := x_f hw c_35
                    refine lv_aload_n hx hb dX1_mayBe_187 rfl (lv_at hl 2 rfl) ?_
                    refine xm_getA (k := 21) hx hb hts in_X1 hown hK hR (by decide) (hts _ q987) rfl dX1_mayBe_188 ?_
                    refine lv_iload hx hb dX1_mayBe_191 (lv_at hl 0 rfl) ?_
                    refine lv_iconst (v := 1) hx hb dX1_mayBe_193 (by decide) ?_
                    refine lv_isub hx hb dX1_mayBe_194 ?_
                    refine xm_zld (M := M_8) (k := 21) (j := 14) hx hb hK hR dX1_mayBe_195 rfl hw.1 ?_
                    have hw := hw.2
                    refine lv_if_eq (tgt := 203) hx hb dX1_mayBe_196 (by decide) (fun c_36 => ?_) (fun c_36 => ?_)
                    · have hw := x_t hw c_36
                      exact hJ_34  hw ls _ _ hR hS (lv_sub hl [2, 3, 4, 5, 0, 6, 7] rfl)
                    · have hw := x_f hw c_36
                      refine lv_iconst (v := 1) hx hb dX1_mayBe_199 (by decide) ?_
                      refine lv_goto (tgt := 204) hx hb dX1_mayBe_200 (by decide) ?_
                      exact hJ_32 1 hw ls _ _ hR hS (lv_sub hl [2, 3, 4, 5, 0, 6, 7] rfl)
          · have hw := x_t hw c_19
            refine lv_aload_n hx hb dX1_mayBe_130 rfl (lv_at hl 1 rfl) ?_
            refine xm_getA (k := 21) hx hb hts in_X1 hown hK hR (by decide) (hts _ q987) rfl dX1_mayBe_131 ?_
            refine lv_iload hx hb dX1_mayBe_134 (lv_at hl 5 rfl) ?_
            refine lv_iconst (v := 1) hx hb dX1_mayBe_136 (by decide) ?_
            refine lv_isub hx hb dX1_mayBe_137 ?_
            refine lv_aload_n hx hb dX1_mayBe_138 rfl (lv_at hl 1 rfl) ?_
            refine xm_getA (k := 21) hx hb hts in_X1 hown hK hR (by decide) (hts _ q987) rfl dX1_mayBe_139 ?_
            refine lv_iload hx hb dX1_mayBe_142 (lv_at hl 5 rfl) ?_
            refine lv_iconst (v := 1) hx hb dX1_mayBe_144 (by decide) ?_
            refine lv_isub hx hb dX1_mayBe_145 ?_
            refine xm_zld (M := M_8) (k := 21) (j := 14) hx hb hK hR dX1_mayBe_146 rfl hw.1 ?_
            have hw := hw.2
            refine x_jn (G := fun (v2_37 : Int32) => ∀ (ls : Array Slot) (H : Heap) (locs : List Loc), x_Rp D d (x_A base) (x_mc d mo Aa M_8) S H → va_S (x_A base) s.heap H locs → lv_has ls 8 [(0, .ref mo), (1, .int x1), (2, .int x2), (3, .int r_1), (4, .int x4_5), (5, .int x5_6), (6, .int x6_7)] → W p l e (x_rm 3 0 0 74) s m ([.ref mo, .int x1, .int x2] : List Value).toArray below meth c H locs 0 0 (MQ below (xm_Qi D d base mo Aa S (fun r M' => Q r M')) ([.ref mo, .int x1, .int x2] : List Value).toArray s 0 0 (x_A base)) (F0 m 155 ls [.int v2_37, .int (x4_5 - 1), .ref (Aa 21)])) hw (fun v2_37 hw => ?_) (fun hJ_38 hw => ?_)
            · intro ls H locs hR hS hl
              refine xm_zst (M := M_8) (k := 21) (j := 14) hx hb hK hR hS dX1_mayBe_155 rfl hw.1 hw.2.1 (fun H locs hR hS => ?_)
              have hw := hw.2.2
              obtain ⟨M_39, eM_39⟩ : ∃ z, z = (m2 M_8 21 (Int32.toNatClampNeg (x4_5 - 1)) v2_37) := ⟨_, rfl⟩
              rw [← eM_39] at hR
              have hw := hw M_39 eM_39
              refine lv_goto (tgt := 277) hx hb dX1_mayBe_156 (by decide) ?_
              exact hJ_17 x4_5 x5_6 M_39 hw ls _ _ hR hS (lv_sub hl [0, 1, 2, 3, 4, 5, 6] rfl)
            · refine lv_if_ne (tgt := 154) hx hb dX1_mayBe_147 (by decide) (fun c_40 => ?_) (fun c_40 => ?_)
              · have hw := x_f hw c_40
                refine lv_iconst (v := 0) hx hb dX1_mayBe_154 (by decide) ?_
                exact hJ_38 0 hw ls _ _ hR hS (lv_sub hl [1, 2, 3, 4, 5, 6, 7] rfl)
              · have hw := x_t hw c_40
                refine lv_iconst (v := 1) hx hb dX1_mayBe_150 (by decide) ?_
                refine lv_goto (tgt := 155) hx hb dX1_mayBe_151 (by decide) ?_
                exact hJ_38 1 hw ls _ _ hR hS (lv_sub hl [1, 2, 3, 4, 5, 6, 7] rfl)
        · have hw := x_f hw c_18
          refine lv_iload hx hb dX1_mayBe_67 (lv_at hl 7 rfl) ?_
          refine x_jn (G := fun (v0_41 : Int32) => ∀ (ls : Array Slot) (H : Heap) (locs : List Loc), x_Rp D d (x_A base) (x_mc d mo Aa M_8) S H → va_S (x_A base) s.heap H locs → lv_has ls 8 [(0, .ref mo), (1, .int x1), (2, .int x2), (3, .int r_1), (4, .int x4_5), (6, .int x6_7)] → W p l e (x_rm 3 0 0 74) s m ([.ref mo, .int x1, .int x2] : List Value).toArray below meth c H locs 0 0 (MQ below (xm_Qi D d base mo Aa S (fun r M' => Q r M')) ([.ref mo, .int x1, .int x2] : List Value).toArray s 0 0 (x_A base)) (F0 m 118 ls [.int v0_41])) hw (fun v0_41 hw => ?_) (fun hJ_42 hw => ?_)
          · intro ls H locs hR hS hl
            refine lv_istore (lv' := [(5, .int v0_41), (0, .ref mo), (1, .int x1), (2, .int x2), (3, .int r_1), (4, .int x4_5), (6, .int x6_7)]) hx hb dX1_mayBe_118 hl (by decide) rfl (fun ls hl => ?_)
            refine lv_goto (tgt := 277) hx hb dX1_mayBe_120 (by decide) ?_
            exact hJ_17 x4_5 v0_41 M_8 hw ls _ _ hR hS (lv_sub hl [1, 2, 3, 4, 5, 0, 6] rfl)
          · refine x_jn0 (G := ∀ (ls : Array Slot) (H : Heap) (locs : List Loc), x_Rp D d (x_A base) (x_mc d mo Aa M_8) S H → va_S (x_A base) s.heap H locs → lv_has ls 8 [(0, .ref mo), (1, .int x1), (2, .int x2), (3, .int r_1), (4, .int x4_5), (5, .int x5_6), (6, .int x6_7), (7, .int x7_11)] → W p l e (x_rm 3 0 0 74) s m ([.ref mo, .int x1, .int x2] : List Value).toArray below meth c H locs 0 0 (MQ below (xm_Qi D d base mo Aa S (fun r M' => Q r M')) ([.ref mo, .int x1, .int x2] : List Value).toArray s 0 0 (x_A base)) (F0 m 107 ls [])) hw (fun hw => ?_) (fun hJ_43 hw => ?_)
            · intro ls H locs hR hS hl
              refine lv_iload hx hb dX1_mayBe_107 (lv_at hl 5 rfl) ?_
              refine lv_bipush (v := 10) hx hb dX1_mayBe_109 (by decide) ?_
              refine lv_iload hx hb dX1_mayBe_111 (lv_at hl 7 rfl) ?_
              refine lv_bipush (v := 48) hx hb dX1_mayBe_113 (by decide) ?_
              refine lv_isub hx hb dX1_mayBe_115 ?_
              refine lv_imul hx hb dX1_mayBe_116 ?_
              refine lv_iadd hx hb dX1_mayBe_117 ?_
              exact hJ_42 (x5_6 + (10 * (x7_11 - 48))) hw ls _ _ hR hS (lv_sub hl [0, 1, 2, 3, 4, 6] rfl)
            · refine lv_if_le (tgt := 107) hx hb dX1_mayBe_69 (by decide) (fun c_44 => ?_) (fun c_44 => ?_)
              · have hw := x_t hw c_44
                exact hJ_43  hw ls _ _ hR hS (lv_sub hl [1, 2, 3, 4, 5, 6, 7, 0] rfl)
              · have hw := x_f hw c_44
                refine lv_aload_n hx hb dX1_mayBe_72 rfl (lv_at hl 1 rfl) ?_
                refine xm_getA (k := 20) hx hb hts in_X1 hown hK hR (by decide) (hts _ q986) rfl dX1_mayBe_73 ?_
                refine lv_bipush (v := 60) hx hb dX1_mayBe_76 (by decide) ?_
                refine lv_iload_n hx hb dX1_mayBe_78 rfl (lv_at hl 4 rfl) ?_
                refine lv_imul hx hb dX1_mayBe_79 ?_
                refine lv_iload hx hb dX1_mayBe_80 (lv_at hl 7 rfl) ?_
                refine lv_iadd hx hb dX1_mayBe_82 ?_
                refine lv_iconst (v := 1) hx hb dX1_mayBe_83 (by decide) ?_
                refine lv_isub hx hb dX1_mayBe_84 ?_
                refine xm_ild (M := M_8) (k := 20) (j := 13) hx hb hK hR dX1_mayBe_85 rfl hw.1 ?_
                have hw := hw.2
                refine lv_i2l (v := (Int32.toInt64 (M2 M_8 20 (Int32.toNatClampNeg (((60 * r_1) + x6_7) - 1))))) hx hb dX1_mayBe_86 rfl ?_
                refine lv_ldc2 (v := 48) hx hb hown (hts _ q1233) dX1_mayBe_87 ?_
                refine lv_ldc2 (v := 57) hx hb hown (hts _ q1234) dX1_mayBe_90 ?_
                refine xm_ci (va_runS (As := [.long (Int32.toInt64 (M2 M_8 20 (Int32.toNatClampNeg (((60 * r_1) + x6_7) - 1)))), .long 48, .long 57]) (rest := []) ⟨hx, hb, hml, hown, hts⟩ (mt_X1_in l hw) (va_cwS 3 hts (lw_S q1089 q1090 q65 q1091) rfl rfl rfl hd_X1_in.2 ⟨Nat.le_of_ble_eq_true rfl, Nat.le_of_ble_eq_true rfl⟩) ⟨x_Pc_blind, x_Pc_pre hR hz hS hK⟩ rfl rfl hl.1 rfl (lv_room (Nat.le_of_ble_eq_true rfl)) dX1_mayBe_93 ⟨Nat.le_refl _, Nat.le_refl _⟩) hS (fun r_45 M_46 H locs hp hR hS => ?_)
                have hw := hp.2
                rw [hp.1] at hR
                refine lv_if_eq (tgt := 107) hx hb dX1_mayBe_96 (by decide) (fun c_47 => ?_) (fun c_47 => ?_)
                · have hw := x_t hw c_47
                  exact hJ_43  hw ls _ _ hR hS (lv_sub hl [1, 2, 3, 4, 5, 6, 7, 0] rfl)
                · have hw := x_f hw c_47
                  refine lv_iload hx hb dX1_mayBe_99 (lv_at hl 0 rfl) ?_
                  refine lv_bipush (v := 48) hx hb dX1_mayBe_101 (by decide) ?_
                  refine lv_isub hx hb dX1_mayBe_103 ?_
                  refine lv_goto (tgt := 118) hx hb dX1_mayBe_104 (by decide) ?_
                  exact hJ_42 (x7_11 - 48) hw ls _ _ hR hS (lv_sub hl [1, 2, 3, 4, 5, 7] rfl)
  · have hw := x_t hw c_3
    refine lv_iconst (v := 0) hx hb dX1_mayBe_15 (by decide) ?_
    exact xm_rz hx hb hr hlocks hR hS dX1_mayBe_16 (Or.inl rfl) hw
def w_X1_asShown (M : xM) (x1 : Int32) (x2 : Int32) (Q : Int32 → xM → Prop) : Prop := jn (fun (v2_1 : Int32) => w_X1_mayBe M x1 v2_1 (fun (r_3 : Int32) (M_4 : xM) => x_B r_3 ∧ Q r_3 M_4)) (fun J_2 => jn0 (J_2 0) (fun J_5 => wif (x2 = (-9)) (J_5) (w_X1_covers M x2 x1 (M1 M 4) (fun (r_7 : Int32) => wif (r_7 ≤ 0) (J_5) (J_2 1)))))
theorem hd_X1_asShown : yX1_asShown.cls = "PressedMenModel" ∧ yX1_asShown.cls ≠ "java/lang/invoke/MethodHandle" ∧ yX1_asShown.cls ≠ "java/lang/invoke/VarHandle" ∧ (parseMethodDescriptor yX1_asShown.desc).map (fun d => d.parameters.length) = some 2 := by decide +kernel
set_option maxHeartbeats 4000000 in
theorem mt_X1_asShown (l : Launch) {D : va_G} {d : Nat → ClassId} {base : Nat} {mo : Nat} {Aa : Nat → Nat} {M : xM} {S : xH} {x1 : Int32} {x2 : Int32} {Q : Int32 → xM → Prop} (hw : w_X1_asShown M x1 x2 Q) : Met l yX1_asShown (ws_ yX1_asShown cX1_asShown 3 (some FieldType.boolean)) (x_rm 4 0 0 101) (x_Pc D d base (x_mc d mo Aa M) S [.ref mo, .int x1, .int x2]) (xm_Qi D d base mo Aa S (fun r M' => Q r M')) 0 0 (x_A base) := by
  refine x_met (by decide) (Nat.le_of_ble_eq_true rfl) ?_
  intro p e s m below meth c hx hb hml hr hlocks hown hts hz hR hK hin ls hl
  have hown : s.vm.findClass "PressedMenModel" = some m.cls := hown
  have hl : lv_has ls 3 [(0, .ref mo), (1, .int x1), (2, .int x2)] := hl
  have hS : va_S (x_A base) s.heap s.heap [] := va_S.rf
  unfold w_X1_asShown at hw
  refine lv_aload_n hx hb dX1_asShown_0 rfl (lv_at hl 0 rfl) ?_
  refine lv_iload_n hx hb dX1_asShown_1 rfl (lv_at hl 1 rfl) ?_
  refine lv_iload_n hx hb dX1_asShown_2 rfl (lv_at hl 2 rfl) ?_
  refine lv_bipush (v := (-9)) hx hb dX1_asShown_3 (by decide) ?_
  refine x_jn (G := fun (v2_1 : Int32) => ∀ (ls : Array Slot) (H : Heap) (locs : List Loc), x_Rp D d (x_A base) (x_mc d mo Aa M) S H → va_S (x_A base) s.heap H locs → lv_has ls 3 [] → W p l e (x_rm 4 0 0 101) s m ([.ref mo, .int x1, .int x2] : List Value).toArray below meth c H locs 0 0 (MQ below (xm_Qi D d base mo Aa S (fun r M' => Q r M')) ([.ref mo, .int x1, .int x2] : List Value).toArray s 0 0 (x_A base)) (F0 m 26 ls [.int v2_1, .int x1, .ref mo])) hw (fun v2_1 hw => ?_) (fun hJ_2 hw => ?_)
  · intro ls H locs hR hS hl
    refine xm_ci (va_runV (As := [.int x1, .int v2_1]) (rest := []) ⟨hx, hb, hml, hown, hts⟩ (mt_X1_mayBe l hw) (cwV 2 hts (lw_V q1254 q1256 qs49 q65 q1257) rfl rfl rfl hd_X1_mayBe ⟨Nat.le_of_ble_eq_true rfl, Nat.le_of_ble_eq_true rfl⟩) ⟨x_Pc_blind, xm_recv hR hK, x_Pc_pre hR hz hS hK⟩ rfl rfl hl.1 rfl (lv_room (Nat.le_of_ble_eq_true rfl)) dX1_asShown_26 ⟨Nat.le_refl _, Nat.le_refl _⟩) hS (fun r_3 M_4 H locs hp hR hS => ?_)
    have hw := hp
    exact xm_rz hx hb hr hlocks hR hS dX1_asShown_29 hw.1 hw.2
  · refine x_jn0 (G := ∀ (ls : Array Slot) (H : Heap) (locs : List Loc), x_Rp D d (x_A base) (x_mc d mo Aa M) S H → va_S (x_A base) s.heap H locs → lv_has ls 3 [] → W p l e (x_rm 4 0 0 101) s m ([.ref mo, .int x1, .int x2] : List Value).toArray below meth c H locs 0 0 (MQ below (xm_Qi D d base mo Aa S (fun r M' => Q r M')) ([.ref mo, .int x1, .int x2] : List Value).toArray s 0 0 (x_A base)) (F0 m 25 ls [.int x1, .ref mo])) hw (fun hw => ?_) (fun hJ_5 hw => ?_)
    · intro ls H locs hR hS hl
      refine lv_iconst (v := 0) hx hb dX1_asShown_25 (by decide) ?_
      exact hJ_2 0 hw ls _ _ hR hS (lv_sub hl [] rfl)
    · refine lv_icmp_eq (tgt := 25) hx hb dX1_asShown_5 (by decide) (fun c_6 => ?_) (fun c_6 => ?_)
      · have hw := x_t hw c_6
        exact hJ_5  hw ls _ _ hR hS (lv_sub hl [] rfl)
      · have hw := x_f hw c_6
        refine lv_aload_n hx hb dX1_asShown_8 rfl (lv_at hl 0 rfl) ?_
        refine lv_iload_n hx hb dX1_asShown_9 rfl (lv_at hl 2 rfl) ?_
        refine lv_iload_n hx hb dX1_asShown_10 rfl (lv_at hl 1 rfl) ?_
        refine lv_aload_n hx hb dX1_asShown_11 rfl (lv_at hl 0 rfl) ?_
        refine xm_getI (k := 4) hx hb hts in_X1 hown hK hR (by decide) (hts _ q970) rfl dX1_asShown_12 ?_
        refine xm_ci (va_runV (As := [.int x2, .int x1, .int (M1 M 4)]) (rest := [.int x1, .ref mo]) ⟨hx, hb, hml, hown, hts⟩ (mt_X1_covers l hw) (cwV 3 hts (lw_V q1203 q1205 qs45 q65 q1206) rfl rfl rfl hd_X1_covers ⟨Nat.le_of_ble_eq_true rfl, Nat.le_of_ble_eq_true rfl⟩) ⟨x_Pc_blind, xm_recv hR hK, x_Pc_pre hR hz hS hK⟩ rfl rfl hl.1 rfl (lv_room (Nat.le_of_ble_eq_true rfl)) dX1_asShown_15 ⟨Nat.le_refl _, Nat.le_refl _⟩) hS (fun r_7 M_8 H locs hp hR hS => ?_)
        have hw := hp.2
        rw [hp.1] at hR
        refine lv_if_le (tgt := 25) hx hb dX1_asShown_18 (by decide) (fun c_9 => ?_) (fun c_9 => ?_)
        · have hw := x_t hw c_9
          exact hJ_5  hw ls _ _ hR hS (lv_sub hl [] rfl)
        · have hw := x_f hw c_9
          refine lv_iconst (v := 1) hx hb dX1_asShown_21 (by decide) ?_
          refine lv_goto (tgt := 26) hx hb dX1_asShown_22 (by decide) ?_
          exact hJ_2 1 hw ls _ _ hR hS (lv_sub hl [] rfl)
def w_X1_may (M : xM) (x1 : Int32) (x2 : Int32) (Q : Int32 → xM → Prop) : Prop := nm (m1 M 0 0) (fun M_1 : xM => w_X1_noMan M_1 x1 (fun (r_2 : Int32) => wif (r_2 = 0) (jn0 (w_X1_asShown M_1 x1 x2 (fun (r_6 : Int32) (M_7 : xM) => wif (r_6 = 0) (Q 0 M_7) (Q 1 M_7))) (fun J_5 => wif (x2 = (-9)) (J_5) (w_X1_noPaper M_1 x2 (fun (r_10 : Int32) => wif (r_10 = 0) (J_5) (Q (-1) M_1))))) (Q (-1) M_1)))
theorem hd_X1_may : yX1_may.cls = "PressedMenModel" ∧ yX1_may.cls ≠ "java/lang/invoke/MethodHandle" ∧ yX1_may.cls ≠ "java/lang/invoke/VarHandle" ∧ (parseMethodDescriptor yX1_may.desc).map (fun d => d.parameters.length) = some 2 := by decide +kernel
set_option maxHeartbeats 4000000 in
theorem mt_X1_may (l : Launch) {D : va_G} {d : Nat → ClassId} {base : Nat} {mo : Nat} {Aa : Nat → Nat} {M : xM} {S : xH} {x1 : Int32} {x2 : Int32} {Q : Int32 → xM → Prop} (hw : w_X1_may M x1 x2 Q) : Met l yX1_may (ws_ yX1_may cX1_may 3 (some FieldType.int)) (x_rm 5 0 0 123) (x_Pc D d base (x_mc d mo Aa M) S [.ref mo, .int x1, .int x2]) (xm_Qi D d base mo Aa S (fun r M' => Q r M')) 0 0 (x_A base) := by
  refine x_met (by decide) (Nat.le_of_ble_eq_true rfl) ?_
  intro p e s m below meth c hx hb hml hr hlocks hown hts hz hR hK hin ls hl
  have hown : s.vm.findClass "PressedMenModel" = some m.cls := hown
  have hl : lv_has ls 3 [(0, .ref mo), (1, .int x1), (2, .int x2)] := hl
  have hS : va_S (x_A base) s.heap s.heap [] := va_S.rf
  unfold w_X1_may at hw
  refine lv_aload_n hx hb dX1_may_0 rfl (lv_at hl 0 rfl) ?_
  refine lv_iconst (v := 0) hx hb dX1_may_1 (by decide) ?_
  refine xm_putI (M := M) (k := 0) hx hb hts in_X1 hown hK hR hS (by decide) (hts _ q966) rfl rfl rfl rfl dX1_may_2 (fun H locs hR hS => ?_)
  obtain ⟨M_1, eM_1⟩ : ∃ z, z = (m1 M 0 0) := ⟨_, rfl⟩
  rw [← eM_1] at hR
  have hw := hw M_1 eM_1
  refine lv_aload_n hx hb dX1_may_5 rfl (lv_at hl 0 rfl) ?_
  refine lv_iload_n hx hb dX1_may_6 rfl (lv_at hl 1 rfl) ?_
  refine xm_ci (va_runV (As := [.int x1]) (rest := []) ⟨hx, hb, hml, hown, hts⟩ (mt_X1_noMan l hw) (cwV 1 hts (lw_V q1123 q1125 qs38 q65 q1126) rfl rfl rfl hd_X1_noMan ⟨Nat.le_of_ble_eq_true rfl, Nat.le_of_ble_eq_true rfl⟩) ⟨x_Pc_blind, xm_recv hR hK, x_Pc_pre hR hz hS hK⟩ rfl rfl hl.1 rfl (lv_room (Nat.le_of_ble_eq_true rfl)) dX1_may_7 ⟨Nat.le_refl _, Nat.le_refl _⟩) hS (fun r_2 M_3 H locs hp hR hS => ?_)
  have hw := hp.2
  rw [hp.1] at hR
  refine lv_if_ne (tgt := 27) hx hb dX1_may_10 (by decide) (fun c_4 => ?_) (fun c_4 => ?_)
  · have hw := x_f hw c_4
    refine lv_iconst (v := (-1)) hx hb dX1_may_27 (by decide) ?_
    exact xm_ri hx hb hr hlocks hR hS dX1_may_28 hw
  · have hw := x_t hw c_4
    refine lv_iload_n hx hb dX1_may_13 rfl (lv_at hl 2 rfl) ?_
    refine lv_bipush (v := (-9)) hx hb dX1_may_14 (by decide) ?_
    refine x_jn0 (G := ∀ (ls : Array Slot) (H : Heap) (locs : List Loc), x_Rp D d (x_A base) (x_mc d mo Aa M_1) S H → va_S (x_A base) s.heap H locs → lv_has ls 3 [(0, .ref mo), (1, .int x1), (2, .int x2)] → W p l e (x_rm 5 0 0 123) s m ([.ref mo, .int x1, .int x2] : List Value).toArray below meth c H locs 0 0 (MQ below (xm_Qi D d base mo Aa S (fun r M' => Q r M')) ([.ref mo, .int x1, .int x2] : List Value).toArray s 0 0 (x_A base)) (F0 m 29 ls [])) hw (fun hw => ?_) (fun hJ_5 hw => ?_)
    · intro ls H locs hR hS hl
      refine lv_aload_n hx hb dX1_may_29 rfl (lv_at hl 0 rfl) ?_
      refine lv_iload_n hx hb dX1_may_30 rfl (lv_at hl 1 rfl) ?_
      refine lv_iload_n hx hb dX1_may_31 rfl (lv_at hl 2 rfl) ?_
      refine xm_ci (va_runV (As := [.int x1, .int x2]) (rest := []) ⟨hx, hb, hml, hown, hts⟩ (mt_X1_asShown l hw) (cwV 2 hts (lw_V q1250 q1252 qs48 q65 q1253) rfl rfl rfl hd_X1_asShown ⟨Nat.le_of_ble_eq_true rfl, Nat.le_of_ble_eq_true rfl⟩) ⟨x_Pc_blind, xm_recv hR hK, x_Pc_pre hR hz hS hK⟩ rfl rfl hl.1 rfl (lv_room (Nat.le_of_ble_eq_true rfl)) dX1_may_32 ⟨Nat.le_refl _, Nat.le_refl _⟩) hS (fun r_6 M_7 H locs hp hR hS => ?_)
      have hw := hp
      refine lv_if_eq (tgt := 42) hx hb dX1_may_35 (by decide) (fun c_8 => ?_) (fun c_8 => ?_)
      · have hw := x_t hw c_8
        refine lv_iconst (v := 0) hx hb dX1_may_42 (by decide) ?_
        exact xm_ri hx hb hr hlocks hR hS dX1_may_43 hw
      · have hw := x_f hw c_8
        refine lv_iconst (v := 1) hx hb dX1_may_38 (by decide) ?_
        refine lv_goto (tgt := 43) hx hb dX1_may_39 (by decide) ?_
        exact xm_ri hx hb hr hlocks hR hS dX1_may_43 hw
    · refine lv_icmp_eq (tgt := 29) hx hb dX1_may_16 (by decide) (fun c_9 => ?_) (fun c_9 => ?_)
      · have hw := x_t hw c_9
        exact hJ_5  hw ls _ _ hR hS (lv_sub hl [0, 1, 2] rfl)
      · have hw := x_f hw c_9
        refine lv_aload_n hx hb dX1_may_19 rfl (lv_at hl 0 rfl) ?_
        refine lv_iload_n hx hb dX1_may_20 rfl (lv_at hl 2 rfl) ?_
        refine xm_ci (va_runV (As := [.int x2]) (rest := []) ⟨hx, hb, hml, hown, hts⟩ (mt_X1_noPaper l hw) (cwV 1 hts (lw_V q1195 q1197 qs44 q65 q1198) rfl rfl rfl hd_X1_noPaper ⟨Nat.le_of_ble_eq_true rfl, Nat.le_of_ble_eq_true rfl⟩) ⟨x_Pc_blind, xm_recv hR hK, x_Pc_pre hR hz hS hK⟩ rfl rfl hl.1 rfl (lv_room (Nat.le_of_ble_eq_true rfl)) dX1_may_21 ⟨Nat.le_refl _, Nat.le_refl _⟩) hS (fun r_10 M_11 H locs hp hR hS => ?_)
        have hw := hp.2
        rw [hp.1] at hR
        refine lv_if_eq (tgt := 29) hx hb dX1_may_24 (by decide) (fun c_12 => ?_) (fun c_12 => ?_)
        · have hw := x_t hw c_12
          exact hJ_5  hw ls _ _ hR hS (lv_sub hl [0, 1, 2] rfl)
        · have hw := x_f hw c_12
          refine lv_iconst (v := (-1)) hx hb dX1_may_27 (by decide) ?_
          exact xm_ri hx hb hr hlocks hR hS dX1_may_28 hw
def w_X1_truly (M : xM) (x1 : Int32) (Q : Int32 → xM → Prop) : Prop := lf2 (fun L_3 (x2_1 : Int32) (x3_2 : Int32) => wif ((M1 M 15) ≤ x3_2) (w_X1_mayBe M x1 x2_1 (fun (r_5 : Int32) (M_6 : xM) => x_B r_5 ∧ Q r_5 M_6)) (jn (fun (v0_7 : Int32) => L_3 v0_7 (x3_2 + 1)) (fun J_8 => jn0 (J_8 1) (fun J_9 => wif (x2_1 = 0) (vp_in (9 * x3_2) 540 ∧ jn0 (J_8 0) (fun J_11 => wif ((M2 M 16 (Int32.toNatClampNeg (9 * x3_2))) = x1) (w_X1_covers M x3_2 x1 (M1 M 4) (fun (r_13 : Int32) => wif (r_13 ≤ 0) (J_11) (J_9))) (J_11))) (J_9))))) 0 0
theorem hd_X1_truly : yX1_truly.cls = "PressedMenModel" ∧ yX1_truly.cls ≠ "java/lang/invoke/MethodHandle" ∧ yX1_truly.cls ≠ "java/lang/invoke/VarHandle" ∧ (parseMethodDescriptor yX1_truly.desc).map (fun d => d.parameters.length) = some 1 := by decide +kernel
set_option maxHeartbeats 4000000 in
theorem mt_X1_truly (l : Launch) {D : va_G} {d : Nat → ClassId} {base : Nat} {mo : Nat} {Aa : Nat → Nat} {M : xM} {S : xH} {x1 : Int32} {Q : Int32 → xM → Prop} (hw : w_X1_truly M x1 Q) : Met l yX1_truly (ws_ yX1_truly cX1_truly 4 (some FieldType.boolean)) (x_rm 4 0 0 101) (x_Pc D d base (x_mc d mo Aa M) S [.ref mo, .int x1]) (xm_Qi D d base mo Aa S (fun r M' => Q r M')) 0 0 (x_A base) := by
  refine x_met (by decide) (Nat.le_of_ble_eq_true rfl) ?_
  intro p e s m below meth c hx hb hml hr hlocks hown hts hz hR hK hin ls hl
  have hown : s.vm.findClass "PressedMenModel" = some m.cls := hown
  have hl : lv_has ls 4 [(0, .ref mo), (1, .int x1)] := hl
  have hS : va_S (x_A base) s.heap s.heap [] := va_S.rf
  unfold w_X1_truly at hw
  refine lv_iconst (v := 0) hx hb dX1_truly_0 (by decide) ?_
  refine lv_istore_n (lv' := [(2, .int 0), (0, .ref mo), (1, .int x1)]) hx hb dX1_truly_1 rfl hl (by decide) rfl (fun ls hl => ?_)
  refine lv_iconst (v := 0) hx hb dX1_truly_2 (by decide) ?_
  refine lv_istore_n (lv' := [(3, .int 0), (2, .int 0), (0, .ref mo), (1, .int x1)]) hx hb dX1_truly_3 rfl hl (by decide) rfl (fun ls hl => ?_)
  refine x_lf2 (G := fun (x2_1 : Int32) (x3_2 : Int32) => ∀ (ls : Array Slot) (H : Heap) (locs : List Loc), x_Rp D d (x_A base) (x_mc d mo Aa M) S H → va_S (x_A base) s.heap H locs → lv_has ls 4 [(0, .ref mo), (1, .int x1), (2, .int x2_1), (3, .int x3_2)] → W p l e (x_rm 4 0 0 101) s m ([.ref mo, .int x1] : List Value).toArray below meth c H locs 0 0 (MQ below (xm_Qi D d base mo Aa S (fun r M' => Q r M')) ([.ref mo, .int x1] : List Value).toArray s 0 0 (x_A base)) (F0 m 4 ls [])) hw (fun x2_1 x3_2 hw => ?_) ls _ _ hR hS (lv_sub hl [2, 3, 1, 0] rfl)
  intro ls H locs hR hS hl
  refine lv_iload_n hx hb dX1_truly_4 rfl (lv_at hl 3 rfl) ?_
  refine lv_aload_n hx hb dX1_truly_5 rfl (lv_at hl 0 rfl) ?_
  refine xm_getI (k := 15) hx hb hts in_X1 hown hK hR (by decide) (hts _ q981) rfl dX1_truly_6 ?_
  refine lv_icmp_ge (tgt := 54) hx hb dX1_truly_9 (by decide) (fun c_4 => ?_) (fun c_4 => ?_)
  · have hw := x_t hw c_4
    refine lv_aload_n hx hb dX1_truly_54 rfl (lv_at hl 0 rfl) ?_
    refine lv_iload_n hx hb dX1_truly_55 rfl (lv_at hl 1 rfl) ?_
    refine lv_iload_n hx hb dX1_truly_56 rfl (lv_at hl 2 rfl) ?_
    refine xm_ci (va_runV (As := [.int x1, .int x2_1]) (rest := []) ⟨hx, hb, hml, hown, hts⟩ (mt_X1_mayBe l hw) (cwV 2 hts (lw_V q1254 q1256 qs49 q65 q1257) rfl rfl rfl hd_X1_mayBe ⟨Nat.le_of_ble_eq_true rfl, Nat.le_of_ble_eq_true rfl⟩) ⟨x_Pc_blind, xm_recv hR hK, x_Pc_pre hR hz hS hK⟩ rfl rfl hl.1 rfl (lv_room (Nat.le_of_ble_eq_true rfl)) dX1_truly_57 ⟨Nat.le_refl _, Nat.le_refl _⟩) hS (fun r_5 M_6 H locs hp hR hS => ?_)
    have hw := hp
    exact xm_rz hx hb hr hlocks hR hS dX1_truly_60 hw.1 hw.2
  · have hw := x_f hw c_4
    refine lv_iload_n hx hb dX1_truly_12 rfl (lv_at hl 2 rfl) ?_
    refine x_jn (G := fun (v0_7 : Int32) => ∀ (ls : Array Slot) (H : Heap) (locs : List Loc), x_Rp D d (x_A base) (x_mc d mo Aa M) S H → va_S (x_A base) s.heap H locs → lv_has ls 4 [(0, .ref mo), (1, .int x1), (3, .int x3_2)] → W p l e (x_rm 4 0 0 101) s m ([.ref mo, .int x1] : List Value).toArray below meth c H locs 0 0 (MQ below (xm_Qi D d base mo Aa S (fun r M' => Q r M')) ([.ref mo, .int x1] : List Value).toArray s 0 0 (x_A base)) (F0 m 47 ls [.int v0_7])) hw (fun v0_7 hw => ?_) (fun hJ_8 hw => ?_)
    · intro ls H locs hR hS hl
      refine lv_istore_n (lv' := [(2, .int v0_7), (0, .ref mo), (1, .int x1), (3, .int x3_2)]) hx hb dX1_truly_47 rfl hl (by decide) rfl (fun ls hl => ?_)
      refine lv_iinc (v := (x3_2 + 1)) (lv' := [(3, .int (x3_2 + 1)), (2, .int v0_7), (0, .ref mo), (1, .int x1)]) hx hb dX1_truly_48 hl (k := 3) rfl rfl (by decide) rfl (fun ls hl => ?_)
      refine lv_goto (tgt := 4) hx hb dX1_truly_51 (by decide) ?_
      exact hw ls _ _ hR hS (lv_sub hl [2, 3, 1, 0] rfl)
    · refine x_jn0 (G := ∀ (ls : Array Slot) (H : Heap) (locs : List Loc), x_Rp D d (x_A base) (x_mc d mo Aa M) S H → va_S (x_A base) s.heap H locs → lv_has ls 4 [(0, .ref mo), (1, .int x1), (3, .int x3_2)] → W p l e (x_rm 4 0 0 101) s m ([.ref mo, .int x1] : List Value).toArray below meth c H locs 0 0 (MQ below (xm_Qi D d base mo Aa S (fun r M' => Q r M')) ([.ref mo, .int x1] : List Value).toArray s 0 0 (x_A base)) (F0 m 42 ls [])) hw (fun hw => ?_) (fun hJ_9 hw => ?_)
      · intro ls H locs hR hS hl
        refine lv_iconst (v := 1) hx hb dX1_truly_42 (by decide) ?_
        refine lv_goto (tgt := 47) hx hb dX1_truly_43 (by decide) ?_
        exact hJ_8 1 hw ls _ _ hR hS (lv_sub hl [0, 1, 2] rfl)
      · refine lv_if_ne (tgt := 42) hx hb dX1_truly_13 (by decide) (fun c_10 => ?_) (fun c_10 => ?_)
        · have hw := x_f hw c_10
          exact hJ_9  hw ls _ _ hR hS (lv_sub hl [0, 1, 3] rfl)
        · have hw := x_t hw c_10
          refine lv_aload_n hx hb dX1_truly_16 rfl (lv_at hl 0 rfl) ?_
          refine xm_getA (k := 16) hx hb hts in_X1 hown hK hR (by decide) (hts _ q982) rfl dX1_truly_17 ?_
          refine lv_bipush (v := 9) hx hb dX1_truly_20 (by decide) ?_
          refine lv_iload_n hx hb dX1_truly_22 rfl (lv_at hl 3 rfl) ?_
          refine lv_imul hx hb dX1_truly_23 ?_
          refine xm_ild (M := M) (k := 16) (j := 10) hx hb hK hR dX1_truly_24 rfl hw.1 ?_
          have hw := hw.2
          refine lv_iload_n hx hb dX1_truly_25 rfl (lv_at hl 1 rfl) ?_
          refine x_jn0 (G := ∀ (ls : Array Slot) (H : Heap) (locs : List Loc), x_Rp D d (x_A base) (x_mc d mo Aa M) S H → va_S (x_A base) s.heap H locs → lv_has ls 4 [(0, .ref mo), (1, .int x1), (3, .int x3_2)] → W p l e (x_rm 4 0 0 101) s m ([.ref mo, .int x1] : List Value).toArray below meth c H locs 0 0 (MQ below (xm_Qi D d base mo Aa S (fun r M' => Q r M')) ([.ref mo, .int x1] : List Value).toArray s 0 0 (x_A base)) (F0 m 46 ls [])) hw (fun hw => ?_) (fun hJ_11 hw => ?_)
          · intro ls H locs hR hS hl
            refine lv_iconst (v := 0) hx hb dX1_truly_46 (by decide) ?_
            exact hJ_8 0 hw ls _ _ hR hS (lv_sub hl [0, 1, 2] rfl)
          · refine lv_icmp_ne (tgt := 46) hx hb dX1_truly_26 (by decide) (fun c_12 => ?_) (fun c_12 => ?_)
            · have hw := x_f hw c_12
              exact hJ_11  hw ls _ _ hR hS (lv_sub hl [0, 1, 3] rfl)
            · have hw := x_t hw c_12
              refine lv_aload_n hx hb dX1_truly_29 rfl (lv_at hl 0 rfl) ?_
              refine lv_iload_n hx hb dX1_truly_30 rfl (lv_at hl 3 rfl) ?_
              refine lv_iload_n hx hb dX1_truly_31 rfl (lv_at hl 1 rfl) ?_
              refine lv_aload_n hx hb dX1_truly_32 rfl (lv_at hl 0 rfl) ?_
              refine xm_getI (k := 4) hx hb hts in_X1 hown hK hR (by decide) (hts _ q970) rfl dX1_truly_33 ?_
              refine xm_ci (va_runV (As := [.int x3_2, .int x1, .int (M1 M 4)]) (rest := []) ⟨hx, hb, hml, hown, hts⟩ (mt_X1_covers l hw) (cwV 3 hts (lw_V q1203 q1205 qs45 q65 q1206) rfl rfl rfl hd_X1_covers ⟨Nat.le_of_ble_eq_true rfl, Nat.le_of_ble_eq_true rfl⟩) ⟨x_Pc_blind, xm_recv hR hK, x_Pc_pre hR hz hS hK⟩ rfl rfl hl.1 rfl (lv_room (Nat.le_of_ble_eq_true rfl)) dX1_truly_36 ⟨Nat.le_refl _, Nat.le_refl _⟩) hS (fun r_13 M_14 H locs hp hR hS => ?_)
              have hw := hp.2
              rw [hp.1] at hR
              refine lv_if_le (tgt := 46) hx hb dX1_truly_39 (by decide) (fun c_15 => ?_) (fun c_15 => ?_)
              · have hw := x_t hw c_15
                exact hJ_11  hw ls _ _ hR hS (lv_sub hl [0, 1, 3] rfl)
              · have hw := x_f hw c_15
                exact hJ_9  hw ls _ _ hR hS (lv_sub hl [0, 1, 3] rfl)
def w_X1_mayTruly (M : xM) (x1 : Int32) (Q : Int32 → xM → Prop) : Prop := nm (m1 M 0 0) (fun M_1 : xM => w_X1_noMan M_1 x1 (fun (r_2 : Int32) => wif (r_2 = 0) (w_X1_truly M_1 x1 (fun (r_5 : Int32) (M_6 : xM) => wif (r_5 = 0) (Q 0 M_6) (Q 1 M_6))) (Q (-1) M_1)))
theorem hd_X1_mayTruly : yX1_mayTruly.cls = "PressedMenModel" ∧ yX1_mayTruly.cls ≠ "java/lang/invoke/MethodHandle" ∧ yX1_mayTruly.cls ≠ "java/lang/invoke/VarHandle" ∧ (parseMethodDescriptor yX1_mayTruly.desc).map (fun d => d.parameters.length) = some 1 := by decide +kernel
set_option maxHeartbeats 4000000 in
theorem mt_X1_mayTruly (l : Launch) {D : va_G} {d : Nat → ClassId} {base : Nat} {mo : Nat} {Aa : Nat → Nat} {M : xM} {S : xH} {x1 : Int32} {Q : Int32 → xM → Prop} (hw : w_X1_mayTruly M x1 Q) : Met l yX1_mayTruly (ws_ yX1_mayTruly cX1_mayTruly 2 (some FieldType.int)) (x_rm 5 0 0 124) (x_Pc D d base (x_mc d mo Aa M) S [.ref mo, .int x1]) (xm_Qi D d base mo Aa S (fun r M' => Q r M')) 0 0 (x_A base) := by
  refine x_met (by decide) (Nat.le_of_ble_eq_true rfl) ?_
  intro p e s m below meth c hx hb hml hr hlocks hown hts hz hR hK hin ls hl
  have hown : s.vm.findClass "PressedMenModel" = some m.cls := hown
  have hl : lv_has ls 2 [(0, .ref mo), (1, .int x1)] := hl
  have hS : va_S (x_A base) s.heap s.heap [] := va_S.rf
  unfold w_X1_mayTruly at hw
  refine lv_aload_n hx hb dX1_mayTruly_0 rfl (lv_at hl 0 rfl) ?_
  refine lv_iconst (v := 0) hx hb dX1_mayTruly_1 (by decide) ?_
  refine xm_putI (M := M) (k := 0) hx hb hts in_X1 hown hK hR hS (by decide) (hts _ q966) rfl rfl rfl rfl dX1_mayTruly_2 (fun H locs hR hS => ?_)
  obtain ⟨M_1, eM_1⟩ : ∃ z, z = (m1 M 0 0) := ⟨_, rfl⟩
  rw [← eM_1] at hR
  have hw := hw M_1 eM_1
  refine lv_aload_n hx hb dX1_mayTruly_5 rfl (lv_at hl 0 rfl) ?_
  refine lv_iload_n hx hb dX1_mayTruly_6 rfl (lv_at hl 1 rfl) ?_
  refine xm_ci (va_runV (As := [.int x1]) (rest := []) ⟨hx, hb, hml, hown, hts⟩ (mt_X1_noMan l hw) (cwV 1 hts (lw_V q1123 q1125 qs38 q65 q1126) rfl rfl rfl hd_X1_noMan ⟨Nat.le_of_ble_eq_true rfl, Nat.le_of_ble_eq_true rfl⟩) ⟨x_Pc_blind, xm_recv hR hK, x_Pc_pre hR hz hS hK⟩ rfl rfl hl.1 rfl (lv_room (Nat.le_of_ble_eq_true rfl)) dX1_mayTruly_7 ⟨Nat.le_refl _, Nat.le_refl _⟩) hS (fun r_2 M_3 H locs hp hR hS => ?_)
  have hw := hp.2
  rw [hp.1] at hR
  refine lv_if_eq (tgt := 17) hx hb dX1_mayTruly_10 (by decide) (fun c_4 => ?_) (fun c_4 => ?_)
  · have hw := x_t hw c_4
    refine lv_aload_n hx hb dX1_mayTruly_17 rfl (lv_at hl 0 rfl) ?_
    refine lv_iload_n hx hb dX1_mayTruly_18 rfl (lv_at hl 1 rfl) ?_
    refine xm_ci (va_runV (As := [.int x1]) (rest := []) ⟨hx, hb, hml, hown, hts⟩ (mt_X1_truly l hw) (cwV 1 hts (lw_V q1270 q1272 qs51 q65 q1273) rfl rfl rfl hd_X1_truly ⟨Nat.le_of_ble_eq_true rfl, Nat.le_of_ble_eq_true rfl⟩) ⟨x_Pc_blind, xm_recv hR hK, x_Pc_pre hR hz hS hK⟩ rfl rfl hl.1 rfl (lv_room (Nat.le_of_ble_eq_true rfl)) dX1_mayTruly_19 ⟨Nat.le_refl _, Nat.le_refl _⟩) hS (fun r_5 M_6 H locs hp hR hS => ?_)
    have hw := hp
    refine lv_if_eq (tgt := 29) hx hb dX1_mayTruly_22 (by decide) (fun c_7 => ?_) (fun c_7 => ?_)
    · have hw := x_t hw c_7
      refine lv_iconst (v := 0) hx hb dX1_mayTruly_29 (by decide) ?_
      exact xm_ri hx hb hr hlocks hR hS dX1_mayTruly_30 hw
    · have hw := x_f hw c_7
      refine lv_iconst (v := 1) hx hb dX1_mayTruly_25 (by decide) ?_
      refine lv_goto (tgt := 30) hx hb dX1_mayTruly_26 (by decide) ?_
      exact xm_ri hx hb hr hlocks hR hS dX1_mayTruly_30 hw
  · have hw := x_f hw c_4
    refine lv_iconst (v := (-1)) hx hb dX1_mayTruly_13 (by decide) ?_
    refine lv_goto (tgt := 30) hx hb dX1_mayTruly_14 (by decide) ?_
    exact xm_ri hx hb hr hlocks hR hS dX1_mayTruly_30 hw
def w_X1_isHere (M : xM) (x1 : Int32) (Q : Int32 → Prop) : Prop := w_X1_isAboard M x1 (fun (r_1 : Int32) => wif (r_1 = 0) (Q 0) (vp_in (x1 - 10) 10 ∧ wif ((M2 M 14 (Int32.toNatClampNeg (x1 - 10))) = 0) (Q 1) (Q 0)))
theorem hd_X1_isHere : yX1_isHere.cls = "PressedMenModel" ∧ yX1_isHere.cls ≠ "java/lang/invoke/MethodHandle" ∧ yX1_isHere.cls ≠ "java/lang/invoke/VarHandle" ∧ (parseMethodDescriptor yX1_isHere.desc).map (fun d => d.parameters.length) = some 1 := by decide +kernel
set_option maxHeartbeats 4000000 in
theorem mt_X1_isHere (l : Launch) {D : va_G} {d : Nat → ClassId} {base : Nat} {mo : Nat} {Aa : Nat → Nat} {M : xM} {S : xH} {x1 : Int32} {Q : Int32 → Prop} (hw : w_X1_isHere M x1 Q) : Met l yX1_isHere (ws_ yX1_isHere cX1_isHere 2 (some FieldType.boolean)) (x_rm 2 0 0 45) (x_Pc D d base (x_mc d mo Aa M) S [.ref mo, .int x1]) (xm_Qi D d base mo Aa S (fun r M' => M' = M ∧ Q r)) 0 0 (x_A base) := by
  refine x_met (by decide) (Nat.le_of_ble_eq_true rfl) ?_
  intro p e s m below meth c hx hb hml hr hlocks hown hts hz hR hK hin ls hl
  have hown : s.vm.findClass "PressedMenModel" = some m.cls := hown
  have hl : lv_has ls 2 [(0, .ref mo), (1, .int x1)] := hl
  have hS : va_S (x_A base) s.heap s.heap [] := va_S.rf
  unfold w_X1_isHere at hw
  refine lv_iload_n hx hb dX1_isHere_0 rfl (lv_at hl 1 rfl) ?_
  refine xm_ci (va_runS (As := [.int x1]) (rest := []) ⟨hx, hb, hml, hown, hts⟩ (mt_X1_isAboard l hw) (va_cwS 1 hts (lw_S q1262 q1263 q65 q1264) rfl rfl rfl hd_X1_isAboard.2 ⟨Nat.le_of_ble_eq_true rfl, Nat.le_of_ble_eq_true rfl⟩) ⟨x_Pc_blind, x_Pc_pre hR hz hS hK⟩ rfl rfl hl.1 rfl (lv_room (Nat.le_of_ble_eq_true rfl)) dX1_isHere_1 ⟨Nat.le_refl _, Nat.le_refl _⟩) hS (fun r_1 M_2 H locs hp hR hS => ?_)
  have hw := hp.2
  rw [hp.1] at hR
  refine lv_if_eq (tgt := 23) hx hb dX1_isHere_4 (by decide) (fun c_3 => ?_) (fun c_3 => ?_)
  · have hw := x_t hw c_3
    refine lv_iconst (v := 0) hx hb dX1_isHere_23 (by decide) ?_
    exact xm_rz hx hb hr hlocks hR hS dX1_isHere_24 (Or.inl rfl) ⟨rfl, hw⟩
  · have hw := x_f hw c_3
    refine lv_aload_n hx hb dX1_isHere_7 rfl (lv_at hl 0 rfl) ?_
    refine xm_getA (k := 14) hx hb hts in_X1 hown hK hR (by decide) (hts _ q980) rfl dX1_isHere_8 ?_
    refine lv_iload_n hx hb dX1_isHere_11 rfl (lv_at hl 1 rfl) ?_
    refine lv_bipush (v := 10) hx hb dX1_isHere_12 (by decide) ?_
    refine lv_isub hx hb dX1_isHere_14 ?_
    refine xm_zld (M := M) (k := 14) (j := 9) hx hb hK hR dX1_isHere_15 rfl hw.1 ?_
    have hw := hw.2
    refine lv_if_ne (tgt := 23) hx hb dX1_isHere_16 (by decide) (fun c_4 => ?_) (fun c_4 => ?_)
    · have hw := x_f hw c_4
      refine lv_iconst (v := 0) hx hb dX1_isHere_23 (by decide) ?_
      exact xm_rz hx hb hr hlocks hR hS dX1_isHere_24 (Or.inl rfl) ⟨rfl, hw⟩
    · have hw := x_t hw c_4
      refine lv_iconst (v := 1) hx hb dX1_isHere_19 (by decide) ?_
      refine lv_goto (tgt := 24) hx hb dX1_isHere_20 (by decide) ?_
      exact xm_rz hx hb hr hlocks hR hS dX1_isHere_24 (Or.inr rfl) ⟨rfl, hw⟩
def w_X1_take (M : xM) (x1 : Int32) (x2 : Int32) (Q : Int32 → xM → Prop) : Prop := nm (m1 M 0 0) (fun M_1 : xM => w_X1_noMan M_1 x1 (fun (r_2 : Int32) => wif (r_2 = 0) (jn0 (w_X1_placeOf M_1 x1 (fun (r_6 : Int32) => w_X1_isStreet M_1 r_6 (fun (r_8 : Int32) => jn0 (wif ((M1 M_1 22) = 60) (Q (-4) M_1) (nm (6 * (M1 M_1 22)) (fun x4_12 : Int32 => vp_in x4_12 360 ∧ nm (m2 M_1 23 (Int32.toNatClampNeg x4_12) (M1 M_1 4)) (fun M_13 : xM => vp_in (x4_12 + 1) 360 ∧ nm (m2 M_13 23 (Int32.toNatClampNeg (x4_12 + 1)) x1) (fun M_14 : xM => vp_in (x4_12 + 2) 360 ∧ nm (m2 M_14 23 (Int32.toNatClampNeg (x4_12 + 2)) x2) (fun M_15 : xM => vp_in (x4_12 + 3) 360 ∧ nm (m2 M_15 23 (Int32.toNatClampNeg (x4_12 + 3)) r_6) (fun M_16 : xM => w_X1_asShown M_16 x1 x2 (fun (r_17 : Int32) (M_18 : xM) => jn (fun (v2_19 : Int32) => vp_in (x4_12 + 4) 360 ∧ nm (m2 M_18 23 (Int32.toNatClampNeg (x4_12 + 4)) v2_19) (fun M_21 : xM => w_X1_truly M_21 x1 (fun (r_22 : Int32) (M_23 : xM) => jn (fun (v2_24 : Int32) => vp_in (x4_12 + 5) 360 ∧ nm (m2 M_23 23 (Int32.toNatClampNeg (x4_12 + 5)) v2_24) (fun M_26 : xM => nm (m1 M_26 22 ((M1 M_26 22) + 1)) (fun M_27 : xM => w_X1_go M_27 x1 20 (fun (M_28 : xM) => Q ((M1 M_28 22) - 1) M_28)))) (fun J_25 => wif (r_22 = 0) (J_25 0) (J_25 1))))) (fun J_20 => wif (r_17 = 0) (J_20 0) (J_20 1)))))))))) (fun J_10 => wif (r_8 = 0) (w_X1_isHere M_1 r_6 (fun (r_32 : Int32) => wif (r_32 = 0) (Q (-3) M_1) (vp_in (r_6 - 10) 10 ∧ wif ((M2 M_1 10 (Int32.toNatClampNeg (r_6 - 10))) = 1) (J_10) (Q (-3) M_1)))) (J_10))))) (fun J_5 => wif (x2 = (-9)) (J_5) (w_X1_noPaper M_1 x2 (fun (r_37 : Int32) => wif (r_37 = 0) (J_5) (Q (-1) M_1))))) (Q (-1) M_1)))
theorem hd_X1_take : yX1_take.cls = "PressedMenModel" ∧ yX1_take.cls ≠ "java/lang/invoke/MethodHandle" ∧ yX1_take.cls ≠ "java/lang/invoke/VarHandle" ∧ (parseMethodDescriptor yX1_take.desc).map (fun d => d.parameters.length) = some 2 := by decide +kernel
set_option maxHeartbeats 4000000 in
theorem mt_X1_take (l : Launch) {D : va_G} {d : Nat → ClassId} {base : Nat} {mo : Nat} {Aa : Nat → Nat} {M : xM} {S : xH} {x1 : Int32} {x2 : Int32} {Q : Int32 → xM → Prop} (hw : w_X1_take M x1 x2 Q) : Met l yX1_take (ws_ yX1_take cX1_take 5 (some FieldType.int)) (x_rm 5 0 0 124) (x_Pc D d base (x_mc d mo Aa M) S [.ref mo, .int x1, .int x2]) (xm_Qi D d base mo Aa S (fun r M' => Q r M')) 0 0 (x_A base) := by
  refine x_met (by decide) (Nat.le_of_ble_eq_true rfl) ?_
  intro p e s m below meth c hx hb hml hr hlocks hown hts hz hR hK hin ls hl
  have hown : s.vm.findClass "PressedMenModel" = some m.cls := hown
  have hl : lv_has ls 5 [(0, .ref mo), (1, .int x1), (2, .int x2)] := hl
  have hS : va_S (x_A base) s.heap s.heap [] := va_S.rf
  unfold w_X1_take at hw
  refine lv_aload_n hx hb dX1_take_0 rfl (lv_at hl 0 rfl) ?_
  refine lv_iconst (v := 0) hx hb dX1_take_1 (by decide) ?_
  refine xm_putI (M := M) (k := 0) hx hb hts in_X1 hown hK hR hS (by decide) (hts _ q966) rfl rfl rfl rfl dX1_take_2 (fun H locs hR hS => ?_)
  obtain ⟨M_1, eM_1⟩ : ∃ z, z = (m1 M 0 0) := ⟨_, rfl⟩
  rw [← eM_1] at hR
  have hw := hw M_1 eM_1
  refine lv_aload_n hx hb dX1_take_5 rfl (lv_at hl 0 rfl) ?_
  refine lv_iload_n hx hb dX1_take_6 rfl (lv_at hl 1 rfl) ?_
  refine xm_ci (va_runV (As := [.int x1]) (rest := []) ⟨hx, hb, hml, hown, hts⟩ (mt_X1_noMan l hw) (cwV 1 hts (lw_V q1123 q1125 qs38 q65 q1126) rfl rfl rfl hd_X1_noMan ⟨Nat.le_of_ble_eq_true rfl, Nat.le_of_ble_eq_true rfl⟩) ⟨x_Pc_blind, xm_recv hR hK, x_Pc_pre hR hz hS hK⟩ rfl rfl hl.1 rfl (lv_room (Nat.le_of_ble_eq_true rfl)) dX1_take_7 ⟨Nat.le_refl _, Nat.le_refl _⟩) hS (fun r_2 M_3 H locs hp hR hS => ?_)
  have hw := hp.2
  rw [hp.1] at hR
  refine lv_if_ne (tgt := 27) hx hb dX1_take_10 (by decide) (fun c_4 => ?_) (fun c_4 => ?_)
  · have hw := x_f hw c_4
    refine lv_iconst (v := (-1)) hx hb dX1_take_27 (by decide) ?_
    exact xm_ri hx hb hr hlocks hR hS dX1_take_28 hw
  · have hw := x_t hw c_4
    refine lv_iload_n hx hb dX1_take_13 rfl (lv_at hl 2 rfl) ?_
    refine lv_bipush (v := (-9)) hx hb dX1_take_14 (by decide) ?_
    refine x_jn0 (G := ∀ (ls : Array Slot) (H : Heap) (locs : List Loc), x_Rp D d (x_A base) (x_mc d mo Aa M_1) S H → va_S (x_A base) s.heap H locs → lv_has ls 5 [(0, .ref mo), (1, .int x1), (2, .int x2)] → W p l e (x_rm 5 0 0 124) s m ([.ref mo, .int x1, .int x2] : List Value).toArray below meth c H locs 0 0 (MQ below (xm_Qi D d base mo Aa S (fun r M' => Q r M')) ([.ref mo, .int x1, .int x2] : List Value).toArray s 0 0 (x_A base)) (F0 m 29 ls [])) hw (fun hw => ?_) (fun hJ_5 hw => ?_)
    · intro ls H locs hR hS hl
      refine lv_aload_n hx hb dX1_take_29 rfl (lv_at hl 0 rfl) ?_
      refine lv_iload_n hx hb dX1_take_30 rfl (lv_at hl 1 rfl) ?_
      refine xm_ci (va_runV (As := [.int x1]) (rest := []) ⟨hx, hb, hml, hown, hts⟩ (mt_X1_placeOf l hw) (cwV 1 hts (lw_V q1146 q1148 qs40 q65 q1149) rfl rfl rfl hd_X1_placeOf ⟨Nat.le_of_ble_eq_true rfl, Nat.le_of_ble_eq_true rfl⟩) ⟨x_Pc_blind, xm_recv hR hK, x_Pc_pre hR hz hS hK⟩ rfl rfl hl.1 rfl (lv_room (Nat.le_of_ble_eq_true rfl)) dX1_take_31 ⟨Nat.le_refl _, Nat.le_refl _⟩) hS (fun r_6 M_7 H locs hp hR hS => ?_)
      have hw := hp.2
      rw [hp.1] at hR
      refine lv_istore_n (lv' := [(3, .int r_6), (0, .ref mo), (1, .int x1), (2, .int x2)]) hx hb dX1_take_34 rfl hl (by decide) rfl (fun ls hl => ?_)
      refine lv_iload_n hx hb dX1_take_35 rfl (lv_at hl 0 rfl) ?_
      refine xm_ci (va_runS (As := [.int r_6]) (rest := []) ⟨hx, hb, hml, hown, hts⟩ (mt_X1_isStreet l hw) (va_cwS 1 hts (lw_S q1162 q1163 q65 q1164) rfl rfl rfl hd_X1_isStreet.2 ⟨Nat.le_of_ble_eq_true rfl, Nat.le_of_ble_eq_true rfl⟩) ⟨x_Pc_blind, x_Pc_pre hR hz hS hK⟩ rfl rfl hl.1 rfl (lv_room (Nat.le_of_ble_eq_true rfl)) dX1_take_36 ⟨Nat.le_refl _, Nat.le_refl _⟩) hS (fun r_8 M_9 H locs hp hR hS => ?_)
      have hw := hp.2
      rw [hp.1] at hR
      refine x_jn0 (G := ∀ (ls : Array Slot) (H : Heap) (locs : List Loc), x_Rp D d (x_A base) (x_mc d mo Aa M_1) S H → va_S (x_A base) s.heap H locs → lv_has ls 5 [(0, .ref mo), (1, .int x1), (2, .int x2), (3, .int r_6)] → W p l e (x_rm 5 0 0 124) s m ([.ref mo, .int x1, .int x2] : List Value).toArray below meth c H locs 0 0 (MQ below (xm_Qi D d base mo Aa S (fun r M' => Q r M')) ([.ref mo, .int x1, .int x2] : List Value).toArray s 0 0 (x_A base)) (F0 m 66 ls [])) hw (fun hw => ?_) (fun hJ_10 hw => ?_)
      · intro ls H locs hR hS hl
        refine lv_aload_n hx hb dX1_take_66 rfl (lv_at hl 0 rfl) ?_
        refine xm_getI (k := 22) hx hb hts in_X1 hown hK hR (by decide) (hts _ q988) rfl dX1_take_67 ?_
        refine lv_bipush (v := 60) hx hb dX1_take_70 (by decide) ?_
        refine lv_icmp_ne (tgt := 78) hx hb dX1_take_72 (by decide) (fun c_11 => ?_) (fun c_11 => ?_)
        · have hw := x_f hw c_11
          refine lv_bipush (v := 6) hx hb dX1_take_78 (by decide) ?_
          refine lv_aload_n hx hb dX1_take_80 rfl (lv_at hl 0 rfl) ?_
          refine xm_getI (k := 22) hx hb hts in_X1 hown hK hR (by decide) (hts _ q988) rfl dX1_take_81 ?_
          refine lv_imul hx hb dX1_take_84 ?_
          refine lv_topi (fun x4_12 ex4_12 => ?_)
          have hw := hw x4_12 ex4_12
          refine lv_istore (lv' := [(4, .int x4_12), (0, .ref mo), (1, .int x1), (2, .int x2), (3, .int r_6)]) hx hb dX1_take_85 hl (by decide) rfl (fun ls hl => ?_)
          refine lv_aload_n hx hb dX1_take_87 rfl (lv_at hl 1 rfl) ?_
          refine xm_getA (k := 23) hx hb hts in_X1 hown hK hR (by decide) (hts _ q989) rfl dX1_take_88 ?_
          refine lv_iload hx hb dX1_take_91 (lv_at hl 0 rfl) ?_
          refine lv_aload_n hx hb dX1_take_93 rfl (lv_at hl 1 rfl) ?_
          refine xm_getI (k := 4) hx hb hts in_X1 hown hK hR (by decide) (hts _ q970) rfl dX1_take_94 ?_
          refine xm_ist (M := M_1) (k := 23) (j := 15) hx hb hK hR hS dX1_take_97 rfl hw.1 (fun H locs hR hS => ?_)
          have hw := hw.2
          obtain ⟨M_13, eM_13⟩ : ∃ z, z = (m2 M_1 23 (Int32.toNatClampNeg x4_12) (M1 M_1 4)) := ⟨_, rfl⟩
          rw [← eM_13] at hR
          have hw := hw M_13 eM_13
          refine lv_aload_n hx hb dX1_take_98 rfl (lv_at hl 1 rfl) ?_
          refine xm_getA (k := 23) hx hb hts in_X1 hown hK hR (by decide) (hts _ q989) rfl dX1_take_99 ?_
          refine lv_iload hx hb dX1_take_102 (lv_at hl 0 rfl) ?_
          refine lv_iconst (v := 1) hx hb dX1_take_104 (by decide) ?_
          refine lv_iadd hx hb dX1_take_105 ?_
          refine lv_iload_n hx hb dX1_take_106 rfl (lv_at hl 2 rfl) ?_
          refine xm_ist (M := M_13) (k := 23) (j := 15) hx hb hK hR hS dX1_take_107 rfl hw.1 (fun H locs hR hS => ?_)
          have hw := hw.2
          obtain ⟨M_14, eM_14⟩ : ∃ z, z = (m2 M_13 23 (Int32.toNatClampNeg (x4_12 + 1)) x1) := ⟨_, rfl⟩
          rw [← eM_14] at hR
          have hw := hw M_14 eM_14
          refine lv_aload_n hx hb dX1_take_108 rfl (lv_at hl 1 rfl) ?_
          refine xm_getA (k := 23) hx hb hts in_X1 hown hK hR (by decide) (hts _ q989) rfl dX1_take_109 ?_
          refine lv_iload hx hb dX1_take_112 (lv_at hl 0 rfl) ?_
          refine lv_iconst (v := 2) hx hb dX1_take_114 (by decide) ?_
          refine lv_iadd hx hb dX1_take_115 ?_
          refine lv_iload_n hx hb dX1_take_116 rfl (lv_at hl 3 rfl) ?_
          refine xm_ist (M := M_14) (k := 23) (j := 15) hx hb hK hR hS dX1_take_117 rfl hw.1 (fun H locs hR hS => ?_)
          have hw := hw.2
          obtain ⟨M_15, eM_15⟩ : ∃ z, z = (m2 M_14 23 (Int32.toNatClampNeg (x4_12 + 2)) x2) := ⟨_, rfl⟩
          rw [← eM_15] at hR
          have hw := hw M_15 eM_15
          refine lv_aload_n hx hb dX1_take_118 rfl (lv_at hl 1 rfl) ?_
          refine xm_getA (k := 23) hx hb hts in_X1 hown hK hR (by decide) (hts _ q989) rfl dX1_take_119 ?_
          refine lv_iload hx hb dX1_take_122 (lv_at hl 0 rfl) ?_
          refine lv_iconst (v := 3) hx hb dX1_take_124 (by decide) ?_
          refine lv_iadd hx hb dX1_take_125 ?_
          refine lv_iload_n hx hb dX1_take_126 rfl (lv_at hl 4 rfl) ?_
          refine xm_ist (M := M_15) (k := 23) (j := 15) hx hb hK hR hS dX1_take_127 rfl hw.1 (fun H locs hR hS => ?_)
          have hw := hw.2
          obtain ⟨M_16, eM_16⟩ : ∃ z, z = (m2 M_15 23 (Int32.toNatClampNeg (x4_12 + 3)) r_6) := ⟨_, rfl⟩
          rw [← eM_16] at hR
          have hw := hw M_16 eM_16
          refine lv_aload_n hx hb dX1_take_128 rfl (lv_at hl 1 rfl) ?_
          refine xm_getA (k := 23) hx hb hts in_X1 hown hK hR (by decide) (hts _ q989) rfl dX1_take_129 ?_
          refine lv_iload hx hb dX1_take_132 (lv_at hl 0 rfl) ?_
          refine lv_iconst (v := 4) hx hb dX1_take_134 (by decide) ?_
          refine lv_iadd hx hb dX1_take_135 ?_
          refine lv_aload_n hx hb dX1_take_136 rfl (lv_at hl 1 rfl) ?_
          refine lv_iload_n hx hb dX1_take_137 rfl (lv_at hl 2 rfl) ?_
          refine lv_iload_n hx hb dX1_take_138 rfl (lv_at hl 3 rfl) ?_
          refine xm_ci (va_runV (As := [.int x1, .int x2]) (rest := [.int (x4_12 + 4), .ref (Aa 23)]) ⟨hx, hb, hml, hown, hts⟩ (mt_X1_asShown l hw) (cwV 2 hts (lw_V q1250 q1252 qs48 q65 q1253) rfl rfl rfl hd_X1_asShown ⟨Nat.le_of_ble_eq_true rfl, Nat.le_of_ble_eq_true rfl⟩) ⟨x_Pc_blind, xm_recv hR hK, x_Pc_pre hR hz hS hK⟩ rfl rfl hl.1 rfl (lv_room (Nat.le_of_ble_eq_true rfl)) dX1_take_139 ⟨Nat.le_refl _, Nat.le_refl _⟩) hS (fun r_17 M_18 H locs hp hR hS => ?_)
          have hw := hp
          refine x_jn (G := fun (v2_19 : Int32) => ∀ (ls : Array Slot) (H : Heap) (locs : List Loc), x_Rp D d (x_A base) (x_mc d mo Aa M_18) S H → va_S (x_A base) s.heap H locs → lv_has ls 5 [(0, .ref mo), (1, .int x1), (4, .int x4_12)] → W p l e (x_rm 5 0 0 124) s m ([.ref mo, .int x1, .int x2] : List Value).toArray below meth c H locs 0 0 (MQ below (xm_Qi D d base mo Aa S (fun r M' => Q r M')) ([.ref mo, .int x1, .int x2] : List Value).toArray s 0 0 (x_A base)) (F0 m 150 ls [.int v2_19, .int (x4_12 + 4), .ref (Aa 23)])) hw (fun v2_19 hw => ?_) (fun hJ_20 hw => ?_)
          · intro ls H locs hR hS hl
            refine xm_ist (M := M_18) (k := 23) (j := 15) hx hb hK hR hS dX1_take_150 rfl hw.1 (fun H locs hR hS => ?_)
            have hw := hw.2
            obtain ⟨M_21, eM_21⟩ : ∃ z, z = (m2 M_18 23 (Int32.toNatClampNeg (x4_12 + 4)) v2_19) := ⟨_, rfl⟩
            rw [← eM_21] at hR
            have hw := hw M_21 eM_21
            refine lv_aload_n hx hb dX1_take_151 rfl (lv_at hl 0 rfl) ?_
            refine xm_getA (k := 23) hx hb hts in_X1 hown hK hR (by decide) (hts _ q989) rfl dX1_take_152 ?_
            refine lv_iload hx hb dX1_take_155 (lv_at hl 2 rfl) ?_
            refine lv_iconst (v := 5) hx hb dX1_take_157 (by decide) ?_
            refine lv_iadd hx hb dX1_take_158 ?_
            refine lv_aload_n hx hb dX1_take_159 rfl (lv_at hl 0 rfl) ?_
            refine lv_iload_n hx hb dX1_take_160 rfl (lv_at hl 1 rfl) ?_
            refine xm_ci (va_runV (As := [.int x1]) (rest := [.int (x4_12 + 5), .ref (Aa 23)]) ⟨hx, hb, hml, hown, hts⟩ (mt_X1_truly l hw) (cwV 1 hts (lw_V q1270 q1272 qs51 q65 q1273) rfl rfl rfl hd_X1_truly ⟨Nat.le_of_ble_eq_true rfl, Nat.le_of_ble_eq_true rfl⟩) ⟨x_Pc_blind, xm_recv hR hK, x_Pc_pre hR hz hS hK⟩ rfl rfl hl.1 rfl (lv_room (Nat.le_of_ble_eq_true rfl)) dX1_take_161 ⟨Nat.le_refl _, Nat.le_refl _⟩) hS (fun r_22 M_23 H locs hp hR hS => ?_)
            have hw := hp
            refine x_jn (G := fun (v2_24 : Int32) => ∀ (ls : Array Slot) (H : Heap) (locs : List Loc), x_Rp D d (x_A base) (x_mc d mo Aa M_23) S H → va_S (x_A base) s.heap H locs → lv_has ls 5 [(0, .ref mo), (1, .int x1)] → W p l e (x_rm 5 0 0 124) s m ([.ref mo, .int x1, .int x2] : List Value).toArray below meth c H locs 0 0 (MQ below (xm_Qi D d base mo Aa S (fun r M' => Q r M')) ([.ref mo, .int x1, .int x2] : List Value).toArray s 0 0 (x_A base)) (F0 m 172 ls [.int v2_24, .int (x4_12 + 5), .ref (Aa 23)])) hw (fun v2_24 hw => ?_) (fun hJ_25 hw => ?_)
            · intro ls H locs hR hS hl
              refine xm_ist (M := M_23) (k := 23) (j := 15) hx hb hK hR hS dX1_take_172 rfl hw.1 (fun H locs hR hS => ?_)
              have hw := hw.2
              obtain ⟨M_26, eM_26⟩ : ∃ z, z = (m2 M_23 23 (Int32.toNatClampNeg (x4_12 + 5)) v2_24) := ⟨_, rfl⟩
              rw [← eM_26] at hR
              have hw := hw M_26 eM_26
              refine lv_aload_n hx hb dX1_take_173 rfl (lv_at hl 0 rfl) ?_
              refine lv_dup hx hb dX1_take_174 rfl ?_
              refine xm_getI (k := 22) hx hb hts in_X1 hown hK hR (by decide) (hts _ q988) rfl dX1_take_175 ?_
              refine lv_iconst (v := 1) hx hb dX1_take_178 (by decide) ?_
              refine lv_iadd hx hb dX1_take_179 ?_
              refine xm_putI (M := M_26) (k := 22) hx hb hts in_X1 hown hK hR hS (by decide) (hts _ q988) rfl rfl rfl rfl dX1_take_180 (fun H locs hR hS => ?_)
              obtain ⟨M_27, eM_27⟩ : ∃ z, z = (m1 M_26 22 ((M1 M_26 22) + 1)) := ⟨_, rfl⟩
              rw [← eM_27] at hR
              have hw := hw M_27 eM_27
              refine lv_aload_n hx hb dX1_take_183 rfl (lv_at hl 0 rfl) ?_
              refine lv_iload_n hx hb dX1_take_184 rfl (lv_at hl 1 rfl) ?_
              refine lv_bipush (v := 20) hx hb dX1_take_185 (by decide) ?_
              refine xm_cv (va_runV (As := [.int x1, .int 20]) (rest := []) ⟨hx, hb, hml, hown, hts⟩ (mt_X1_go l hw) (cwV 2 hts (lw_V q1169 q1171 qs43 q65 q1172) rfl rfl rfl hd_X1_go ⟨Nat.le_of_ble_eq_true rfl, Nat.le_of_ble_eq_true rfl⟩) ⟨x_Pc_blind, xm_recv hR hK, x_Pc_pre hR hz hS hK⟩ rfl rfl hl.1 rfl (lv_room (Nat.le_of_ble_eq_true rfl)) dX1_take_187 ⟨Nat.le_refl _, Nat.le_refl _⟩) hS (fun M_28 H locs hp hR hS => ?_)
              have hw := hp
              refine lv_aload_n hx hb dX1_take_190 rfl (lv_at hl 0 rfl) ?_
              refine xm_getI (k := 22) hx hb hts in_X1 hown hK hR (by decide) (hts _ q988) rfl dX1_take_191 ?_
              refine lv_iconst (v := 1) hx hb dX1_take_194 (by decide) ?_
              refine lv_isub hx hb dX1_take_195 ?_
              exact xm_ri hx hb hr hlocks hR hS dX1_take_196 hw
            · refine lv_if_eq (tgt := 171) hx hb dX1_take_164 (by decide) (fun c_29 => ?_) (fun c_29 => ?_)
              · have hw := x_t hw c_29
                refine lv_iconst (v := 0) hx hb dX1_take_171 (by decide) ?_
                exact hJ_25 0 hw ls _ _ hR hS (lv_sub hl [0, 1] rfl)
              · have hw := x_f hw c_29
                refine lv_iconst (v := 1) hx hb dX1_take_167 (by decide) ?_
                refine lv_goto (tgt := 172) hx hb dX1_take_168 (by decide) ?_
                exact hJ_25 1 hw ls _ _ hR hS (lv_sub hl [0, 1] rfl)
          · refine lv_if_eq (tgt := 149) hx hb dX1_take_142 (by decide) (fun c_30 => ?_) (fun c_30 => ?_)
            · have hw := x_t hw c_30
              refine lv_iconst (v := 0) hx hb dX1_take_149 (by decide) ?_
              exact hJ_20 0 hw ls _ _ hR hS (lv_sub hl [1, 2, 0] rfl)
            · have hw := x_f hw c_30
              refine lv_iconst (v := 1) hx hb dX1_take_145 (by decide) ?_
              refine lv_goto (tgt := 150) hx hb dX1_take_146 (by decide) ?_
              exact hJ_20 1 hw ls _ _ hR hS (lv_sub hl [1, 2, 0] rfl)
        · have hw := x_t hw c_11
          refine lv_bipush (v := (-4)) hx hb dX1_take_75 (by decide) ?_
          exact xm_ri hx hb hr hlocks hR hS dX1_take_77 hw
      · refine lv_if_ne (tgt := 66) hx hb dX1_take_39 (by decide) (fun c_31 => ?_) (fun c_31 => ?_)
        · have hw := x_f hw c_31
          exact hJ_10  hw ls _ _ hR hS (lv_sub hl [1, 2, 3, 0] rfl)
        · have hw := x_t hw c_31
          refine lv_aload_n hx hb dX1_take_42 rfl (lv_at hl 1 rfl) ?_
          refine lv_iload_n hx hb dX1_take_43 rfl (lv_at hl 0 rfl) ?_
          refine xm_ci (va_runV (As := [.int r_6]) (rest := []) ⟨hx, hb, hml, hown, hts⟩ (mt_X1_isHere l hw) (cwV 1 hts (lw_V q1278 q1280 qs52 q65 q1281) rfl rfl rfl hd_X1_isHere ⟨Nat.le_of_ble_eq_true rfl, Nat.le_of_ble_eq_true rfl⟩) ⟨x_Pc_blind, xm_recv hR hK, x_Pc_pre hR hz hS hK⟩ rfl rfl hl.1 rfl (lv_room (Nat.le_of_ble_eq_true rfl)) dX1_take_44 ⟨Nat.le_refl _, Nat.le_refl _⟩) hS (fun r_32 M_33 H locs hp hR hS => ?_)
          have hw := hp.2
          rw [hp.1] at hR
          refine lv_if_eq (tgt := 63) hx hb dX1_take_47 (by decide) (fun c_34 => ?_) (fun c_34 => ?_)
          · have hw := x_t hw c_34
            refine lv_bipush (v := (-3)) hx hb dX1_take_63 (by decide) ?_
            exact xm_ri hx hb hr hlocks hR hS dX1_take_65 hw
          · have hw := x_f hw c_34
            refine lv_aload_n hx hb dX1_take_50 rfl (lv_at hl 1 rfl) ?_
            refine xm_getA (k := 10) hx hb hts in_X1 hown hK hR (by decide) (hts _ q976) rfl dX1_take_51 ?_
            refine lv_iload_n hx hb dX1_take_54 rfl (lv_at hl 0 rfl) ?_
            refine lv_bipush (v := 10) hx hb dX1_take_55 (by decide) ?_
            refine lv_isub hx hb dX1_take_57 ?_
            refine xm_ild (M := M_1) (k := 10) (j := 5) hx hb hK hR dX1_take_58 rfl hw.1 ?_
            have hw := hw.2
            refine lv_iconst (v := 1) hx hb dX1_take_59 (by decide) ?_
            refine lv_icmp_eq (tgt := 66) hx hb dX1_take_60 (by decide) (fun c_35 => ?_) (fun c_35 => ?_)
            · have hw := x_t hw c_35
              exact hJ_10  hw ls _ _ hR hS (lv_sub hl [1, 2, 3, 0] rfl)
            · have hw := x_f hw c_35
              refine lv_bipush (v := (-3)) hx hb dX1_take_63 (by decide) ?_
              exact xm_ri hx hb hr hlocks hR hS dX1_take_65 hw
    · refine lv_icmp_eq (tgt := 29) hx hb dX1_take_16 (by decide) (fun c_36 => ?_) (fun c_36 => ?_)
      · have hw := x_t hw c_36
        exact hJ_5  hw ls _ _ hR hS (lv_sub hl [0, 1, 2] rfl)
      · have hw := x_f hw c_36
        refine lv_aload_n hx hb dX1_take_19 rfl (lv_at hl 0 rfl) ?_
        refine lv_iload_n hx hb dX1_take_20 rfl (lv_at hl 2 rfl) ?_
        refine xm_ci (va_runV (As := [.int x2]) (rest := []) ⟨hx, hb, hml, hown, hts⟩ (mt_X1_noPaper l hw) (cwV 1 hts (lw_V q1195 q1197 qs44 q65 q1198) rfl rfl rfl hd_X1_noPaper ⟨Nat.le_of_ble_eq_true rfl, Nat.le_of_ble_eq_true rfl⟩) ⟨x_Pc_blind, xm_recv hR hK, x_Pc_pre hR hz hS hK⟩ rfl rfl hl.1 rfl (lv_room (Nat.le_of_ble_eq_true rfl)) dX1_take_21 ⟨Nat.le_refl _, Nat.le_refl _⟩) hS (fun r_37 M_38 H locs hp hR hS => ?_)
        have hw := hp.2
        rw [hp.1] at hR
        refine lv_if_eq (tgt := 29) hx hb dX1_take_24 (by decide) (fun c_39 => ?_) (fun c_39 => ?_)
        · have hw := x_t hw c_39
          exact hJ_5  hw ls _ _ hR hS (lv_sub hl [0, 1, 2] rfl)
        · have hw := x_f hw c_39
          refine lv_iconst (v := (-1)) hx hb dX1_take_27 (by decide) ?_
          exact xm_ri hx hb hr hlocks hR hS dX1_take_28 hw
def w_X1_taking (M : xM) (x1 : Int32) (x2 : Int32) (Q : Int32 → xM → Prop) : Prop := nm (m1 M 0 0) (fun M_1 : xM => w_X1_in M_1 (Int32.toInt64 x1) 0 (Int32.toInt64 ((M1 M_1 22) - 1)) (fun (r_2 : Int32) => wif (r_2 = 0) (Q (-1) M_1) (w_X1_in M_1 (Int32.toInt64 x2) 0 5 (fun (r_5 : Int32) => wif (r_5 = 0) (Q (-2) M_1) (vp_in ((6 * x1) + x2) 360 ∧ Q (M2 M_1 23 (Int32.toNatClampNeg ((6 * x1) + x2))) M_1)))))
theorem hd_X1_taking : yX1_taking.cls = "PressedMenModel" ∧ yX1_taking.cls ≠ "java/lang/invoke/MethodHandle" ∧ yX1_taking.cls ≠ "java/lang/invoke/VarHandle" ∧ (parseMethodDescriptor yX1_taking.desc).map (fun d => d.parameters.length) = some 2 := by decide +kernel
set_option maxHeartbeats 4000000 in
theorem mt_X1_taking (l : Launch) {D : va_G} {d : Nat → ClassId} {base : Nat} {mo : Nat} {Aa : Nat → Nat} {M : xM} {S : xH} {x1 : Int32} {x2 : Int32} {Q : Int32 → xM → Prop} (hw : w_X1_taking M x1 x2 Q) : Met l yX1_taking (ws_ yX1_taking cX1_taking 3 (some FieldType.int)) (x_rm 1 0 0 25) (x_Pc D d base (x_mc d mo Aa M) S [.ref mo, .int x1, .int x2]) (xm_Qi D d base mo Aa S (fun r M' => Q r M')) 0 0 (x_A base) := by
  refine x_met (by decide) (Nat.le_of_ble_eq_true rfl) ?_
  intro p e s m below meth c hx hb hml hr hlocks hown hts hz hR hK hin ls hl
  have hown : s.vm.findClass "PressedMenModel" = some m.cls := hown
  have hl : lv_has ls 3 [(0, .ref mo), (1, .int x1), (2, .int x2)] := hl
  have hS : va_S (x_A base) s.heap s.heap [] := va_S.rf
  unfold w_X1_taking at hw
  refine lv_aload_n hx hb dX1_taking_0 rfl (lv_at hl 0 rfl) ?_
  refine lv_iconst (v := 0) hx hb dX1_taking_1 (by decide) ?_
  refine xm_putI (M := M) (k := 0) hx hb hts in_X1 hown hK hR hS (by decide) (hts _ q966) rfl rfl rfl rfl dX1_taking_2 (fun H locs hR hS => ?_)
  obtain ⟨M_1, eM_1⟩ : ∃ z, z = (m1 M 0 0) := ⟨_, rfl⟩
  rw [← eM_1] at hR
  have hw := hw M_1 eM_1
  refine lv_iload_n hx hb dX1_taking_5 rfl (lv_at hl 1 rfl) ?_
  refine lv_i2l (v := (Int32.toInt64 x1)) hx hb dX1_taking_6 rfl ?_
  refine lv_lconst (v := 0) hx hb dX1_taking_7 (by decide) ?_
  refine lv_aload_n hx hb dX1_taking_8 rfl (lv_at hl 0 rfl) ?_
  refine xm_getI (k := 22) hx hb hts in_X1 hown hK hR (by decide) (hts _ q988) rfl dX1_taking_9 ?_
  refine lv_iconst (v := 1) hx hb dX1_taking_12 (by decide) ?_
  refine lv_isub hx hb dX1_taking_13 ?_
  refine lv_i2l (v := (Int32.toInt64 ((M1 M_1 22) - 1))) hx hb dX1_taking_14 rfl ?_
  refine xm_ci (va_runS (As := [.long (Int32.toInt64 x1), .long 0, .long (Int32.toInt64 ((M1 M_1 22) - 1))]) (rest := []) ⟨hx, hb, hml, hown, hts⟩ (mt_X1_in l hw) (va_cwS 3 hts (lw_S q1089 q1090 q65 q1091) rfl rfl rfl hd_X1_in.2 ⟨Nat.le_of_ble_eq_true rfl, Nat.le_of_ble_eq_true rfl⟩) ⟨x_Pc_blind, x_Pc_pre hR hz hS hK⟩ rfl rfl hl.1 rfl (lv_room (Nat.le_of_ble_eq_true rfl)) dX1_taking_15 ⟨Nat.le_refl _, Nat.le_refl _⟩) hS (fun r_2 M_3 H locs hp hR hS => ?_)
  have hw := hp.2
  rw [hp.1] at hR
  refine lv_if_ne (tgt := 23) hx hb dX1_taking_18 (by decide) (fun c_4 => ?_) (fun c_4 => ?_)
  · have hw := x_f hw c_4
    refine lv_iload_n hx hb dX1_taking_23 rfl (lv_at hl 2 rfl) ?_
    refine lv_i2l (v := (Int32.toInt64 x2)) hx hb dX1_taking_24 rfl ?_
    refine lv_lconst (v := 0) hx hb dX1_taking_25 (by decide) ?_
    refine lv_ldc2 (v := 5) hx hb hown (hts _ q1117) dX1_taking_26 ?_
    refine xm_ci (va_runS (As := [.long (Int32.toInt64 x2), .long 0, .long 5]) (rest := []) ⟨hx, hb, hml, hown, hts⟩ (mt_X1_in l hw) (va_cwS 3 hts (lw_S q1089 q1090 q65 q1091) rfl rfl rfl hd_X1_in.2 ⟨Nat.le_of_ble_eq_true rfl, Nat.le_of_ble_eq_true rfl⟩) ⟨x_Pc_blind, x_Pc_pre hR hz hS hK⟩ rfl rfl hl.1 rfl (lv_room (Nat.le_of_ble_eq_true rfl)) dX1_taking_29 ⟨Nat.le_refl _, Nat.le_refl _⟩) hS (fun r_5 M_6 H locs hp hR hS => ?_)
    have hw := hp.2
    rw [hp.1] at hR
    refine lv_if_eq (tgt := 49) hx hb dX1_taking_32 (by decide) (fun c_7 => ?_) (fun c_7 => ?_)
    · have hw := x_t hw c_7
      refine lv_bipush (v := (-2)) hx hb dX1_taking_49 (by decide) ?_
      exact xm_ri hx hb hr hlocks hR hS dX1_taking_51 hw
    · have hw := x_f hw c_7
      refine lv_aload_n hx hb dX1_taking_35 rfl (lv_at hl 0 rfl) ?_
      refine xm_getA (k := 23) hx hb hts in_X1 hown hK hR (by decide) (hts _ q989) rfl dX1_taking_36 ?_
      refine lv_bipush (v := 6) hx hb dX1_taking_39 (by decide) ?_
      refine lv_iload_n hx hb dX1_taking_41 rfl (lv_at hl 1 rfl) ?_
      refine lv_imul hx hb dX1_taking_42 ?_
      refine lv_iload_n hx hb dX1_taking_43 rfl (lv_at hl 2 rfl) ?_
      refine lv_iadd hx hb dX1_taking_44 ?_
      refine xm_ild (M := M_1) (k := 23) (j := 15) hx hb hK hR dX1_taking_45 rfl hw.1 ?_
      have hw := hw.2
      refine lv_goto (tgt := 51) hx hb dX1_taking_46 (by decide) ?_
      exact xm_ri hx hb hr hlocks hR hS dX1_taking_51 hw
  · have hw := x_t hw c_4
    refine lv_iconst (v := (-1)) hx hb dX1_taking_21 (by decide) ?_
    exact xm_ri hx hb hr hlocks hR hS dX1_taking_22 hw
def w_X1_isWronged (M : xM) (x1 : Int32) (Q : Int32 → Prop) : Prop := lf2 (fun L_3 (x2_1 : Int32) (x3_2 : Int32) => wif ((M1 M 22) ≤ x3_2) (w_X1_placeOf M x1 (fun (r_5 : Int32) => jn (fun (v0_7 : Int32) => wif (x2_1 = (-9)) (Q 0) (vp_in ((6 * x2_1) + 5) 360 ∧ wif ((M2 M 23 (Int32.toNatClampNeg ((6 * x2_1) + 5))) = 0) (wif (v0_7 = 0) (Q 0) (Q 1)) (Q 0))) (fun J_8 => jn0 (J_8 1) (fun J_12 => wif (r_5 = 20) (J_12) (wif (r_5 = 21) (J_12) (w_X1_isAboard M r_5 (fun (r_15 : Int32) => jn0 (J_8 0) (fun J_17 => wif (r_15 = 0) (J_17) (vp_in (r_5 - 10) 10 ∧ wif ((M2 M 10 (Int32.toNatClampNeg (r_5 - 10))) = 0) (J_12) (J_17)))))))))) (vp_in ((6 * x3_2) + 1) 360 ∧ jn (fun (v0_20 : Int32) => L_3 v0_20 (x3_2 + 1)) (fun J_21 => wif ((M2 M 23 (Int32.toNatClampNeg ((6 * x3_2) + 1))) = x1) (J_21 x3_2) (J_21 x2_1)))) (-9) 0
theorem hd_X1_isWronged : yX1_isWronged.cls = "PressedMenModel" ∧ yX1_isWronged.cls ≠ "java/lang/invoke/MethodHandle" ∧ yX1_isWronged.cls ≠ "java/lang/invoke/VarHandle" ∧ (parseMethodDescriptor yX1_isWronged.desc).map (fun d => d.parameters.length) = some 1 := by decide +kernel
set_option maxHeartbeats 4000000 in
theorem mt_X1_isWronged (l : Launch) {D : va_G} {d : Nat → ClassId} {base : Nat} {mo : Nat} {Aa : Nat → Nat} {M : xM} {S : xH} {x1 : Int32} {Q : Int32 → Prop} (hw : w_X1_isWronged M x1 Q) : Met l yX1_isWronged (ws_ yX1_isWronged cX1_isWronged 5 (some FieldType.boolean)) (x_rm 2 0 0 45) (x_Pc D d base (x_mc d mo Aa M) S [.ref mo, .int x1]) (xm_Qi D d base mo Aa S (fun r M' => M' = M ∧ Q r)) 0 0 (x_A base) := by
  refine x_met (by decide) (Nat.le_of_ble_eq_true rfl) ?_
  intro p e s m below meth c hx hb hml hr hlocks hown hts hz hR hK hin ls hl
  have hown : s.vm.findClass "PressedMenModel" = some m.cls := hown
  have hl : lv_has ls 5 [(0, .ref mo), (1, .int x1)] := hl
  have hS : va_S (x_A base) s.heap s.heap [] := va_S.rf
  unfold w_X1_isWronged at hw
  refine lv_bipush (v := (-9)) hx hb dX1_isWronged_0 (by decide) ?_
  refine lv_istore_n (lv' := [(2, .int (-9)), (0, .ref mo), (1, .int x1)]) hx hb dX1_isWronged_2 rfl hl (by decide) rfl (fun ls hl => ?_)
  refine lv_iconst (v := 0) hx hb dX1_isWronged_3 (by decide) ?_
  refine lv_istore_n (lv' := [(3, .int 0), (2, .int (-9)), (0, .ref mo), (1, .int x1)]) hx hb dX1_isWronged_4 rfl hl (by decide) rfl (fun ls hl => ?_)
  refine x_lf2 (G := fun (x2_1 : Int32) (x3_2 : Int32) => ∀ (ls : Array Slot) (H : Heap) (locs : List Loc), x_Rp D d (x_A base) (x_mc d mo Aa M) S H → va_S (x_A base) s.heap H locs → lv_has ls 5 [(0, .ref mo), (1, .int x1), (2, .int x2_1), (3, .int x3_2)] → W p l e (x_rm 2 0 0 45) s m ([.ref mo, .int x1] : List Value).toArray below meth c H locs 0 0 (MQ below (xm_Qi D d base mo Aa S (fun r M' => M' = M ∧ Q r)) ([.ref mo, .int x1] : List Value).toArray s 0 0 (x_A base)) (F0 m 5 ls [])) hw (fun x2_1 x3_2 hw => ?_) ls _ _ hR hS (lv_sub hl [2, 3, 1, 0] rfl)
  intro ls H locs hR hS hl
  refine lv_iload_n hx hb dX1_isWronged_5 rfl (lv_at hl 3 rfl) ?_
  refine lv_aload_n hx hb dX1_isWronged_6 rfl (lv_at hl 0 rfl) ?_
  refine xm_getI (k := 22) hx hb hts in_X1 hown hK hR (by decide) (hts _ q988) rfl dX1_isWronged_7 ?_
  refine lv_icmp_ge (tgt := 40) hx hb dX1_isWronged_10 (by decide) (fun c_4 => ?_) (fun c_4 => ?_)
  · have hw := x_t hw c_4
    refine lv_aload_n hx hb dX1_isWronged_40 rfl (lv_at hl 0 rfl) ?_
    refine lv_iload_n hx hb dX1_isWronged_41 rfl (lv_at hl 1 rfl) ?_
    refine xm_ci (va_runV (As := [.int x1]) (rest := []) ⟨hx, hb, hml, hown, hts⟩ (mt_X1_placeOf l hw) (cwV 1 hts (lw_V q1146 q1148 qs40 q65 q1149) rfl rfl rfl hd_X1_placeOf ⟨Nat.le_of_ble_eq_true rfl, Nat.le_of_ble_eq_true rfl⟩) ⟨x_Pc_blind, xm_recv hR hK, x_Pc_pre hR hz hS hK⟩ rfl rfl hl.1 rfl (lv_room (Nat.le_of_ble_eq_true rfl)) dX1_isWronged_42 ⟨Nat.le_refl _, Nat.le_refl _⟩) hS (fun r_5 M_6 H locs hp hR hS => ?_)
    have hw := hp.2
    rw [hp.1] at hR
    refine lv_istore_n (lv' := [(3, .int r_5), (0, .ref mo), (1, .int x1), (2, .int x2_1)]) hx hb dX1_isWronged_45 rfl hl (by decide) rfl (fun ls hl => ?_)
    refine lv_iload_n hx hb dX1_isWronged_46 rfl (lv_at hl 0 rfl) ?_
    refine lv_bipush (v := 20) hx hb dX1_isWronged_47 (by decide) ?_
    refine x_jn (G := fun (v0_7 : Int32) => ∀ (ls : Array Slot) (H : Heap) (locs : List Loc), x_Rp D d (x_A base) (x_mc d mo Aa M) S H → va_S (x_A base) s.heap H locs → lv_has ls 5 [(0, .ref mo), (2, .int x2_1)] → W p l e (x_rm 2 0 0 45) s m ([.ref mo, .int x1] : List Value).toArray below meth c H locs 0 0 (MQ below (xm_Qi D d base mo Aa S (fun r M' => M' = M ∧ Q r)) ([.ref mo, .int x1] : List Value).toArray s 0 0 (x_A base)) (F0 m 82 ls [.int v0_7])) hw (fun v0_7 hw => ?_) (fun hJ_8 hw => ?_)
    · intro ls H locs hR hS hl
      refine lv_istore (lv' := [(4, .int v0_7), (0, .ref mo), (2, .int x2_1)]) hx hb dX1_isWronged_82 hl (by decide) rfl (fun ls hl => ?_)
      refine lv_iload_n hx hb dX1_isWronged_84 rfl (lv_at hl 2 rfl) ?_
      refine lv_bipush (v := (-9)) hx hb dX1_isWronged_85 (by decide) ?_
      refine lv_icmp_eq (tgt := 113) hx hb dX1_isWronged_87 (by decide) (fun c_9 => ?_) (fun c_9 => ?_)
      · have hw := x_t hw c_9
        refine lv_iconst (v := 0) hx hb dX1_isWronged_113 (by decide) ?_
        exact xm_rz hx hb hr hlocks hR hS dX1_isWronged_114 (Or.inl rfl) ⟨rfl, hw⟩
      · have hw := x_f hw c_9
        refine lv_aload_n hx hb dX1_isWronged_90 rfl (lv_at hl 1 rfl) ?_
        refine xm_getA (k := 23) hx hb hts in_X1 hown hK hR (by decide) (hts _ q989) rfl dX1_isWronged_91 ?_
        refine lv_bipush (v := 6) hx hb dX1_isWronged_94 (by decide) ?_
        refine lv_iload_n hx hb dX1_isWronged_96 rfl (lv_at hl 2 rfl) ?_
        refine lv_imul hx hb dX1_isWronged_97 ?_
        refine lv_iconst (v := 5) hx hb dX1_isWronged_98 (by decide) ?_
        refine lv_iadd hx hb dX1_isWronged_99 ?_
        refine xm_ild (M := M) (k := 23) (j := 15) hx hb hK hR dX1_isWronged_100 rfl hw.1 ?_
        have hw := hw.2
        refine lv_if_ne (tgt := 113) hx hb dX1_isWronged_101 (by decide) (fun c_10 => ?_) (fun c_10 => ?_)
        · have hw := x_f hw c_10
          refine lv_iconst (v := 0) hx hb dX1_isWronged_113 (by decide) ?_
          exact xm_rz hx hb hr hlocks hR hS dX1_isWronged_114 (Or.inl rfl) ⟨rfl, hw⟩
        · have hw := x_t hw c_10
          refine lv_iload hx hb dX1_isWronged_104 (lv_at hl 0 rfl) ?_
          refine lv_if_eq (tgt := 113) hx hb dX1_isWronged_106 (by decide) (fun c_11 => ?_) (fun c_11 => ?_)
          · have hw := x_t hw c_11
            refine lv_iconst (v := 0) hx hb dX1_isWronged_113 (by decide) ?_
            exact xm_rz hx hb hr hlocks hR hS dX1_isWronged_114 (Or.inl rfl) ⟨rfl, hw⟩
          · have hw := x_f hw c_11
            refine lv_iconst (v := 1) hx hb dX1_isWronged_109 (by decide) ?_
            refine lv_goto (tgt := 114) hx hb dX1_isWronged_110 (by decide) ?_
            exact xm_rz hx hb hr hlocks hR hS dX1_isWronged_114 (Or.inr rfl) ⟨rfl, hw⟩
    · refine x_jn0 (G := ∀ (ls : Array Slot) (H : Heap) (locs : List Loc), x_Rp D d (x_A base) (x_mc d mo Aa M) S H → va_S (x_A base) s.heap H locs → lv_has ls 5 [(0, .ref mo), (2, .int x2_1)] → W p l e (x_rm 2 0 0 45) s m ([.ref mo, .int x1] : List Value).toArray below meth c H locs 0 0 (MQ below (xm_Qi D d base mo Aa S (fun r M' => M' = M ∧ Q r)) ([.ref mo, .int x1] : List Value).toArray s 0 0 (x_A base)) (F0 m 77 ls [])) hw (fun hw => ?_) (fun hJ_12 hw => ?_)
      · intro ls H locs hR hS hl
        refine lv_iconst (v := 1) hx hb dX1_isWronged_77 (by decide) ?_
        refine lv_goto (tgt := 82) hx hb dX1_isWronged_78 (by decide) ?_
        exact hJ_8 1 hw ls _ _ hR hS (lv_sub hl [0, 1] rfl)
      · refine lv_icmp_eq (tgt := 77) hx hb dX1_isWronged_49 (by decide) (fun c_13 => ?_) (fun c_13 => ?_)
        · have hw := x_t hw c_13
          exact hJ_12  hw ls _ _ hR hS (lv_sub hl [1, 3] rfl)
        · have hw := x_f hw c_13
          refine lv_iload_n hx hb dX1_isWronged_52 rfl (lv_at hl 0 rfl) ?_
          refine lv_bipush (v := 21) hx hb dX1_isWronged_53 (by decide) ?_
          refine lv_icmp_eq (tgt := 77) hx hb dX1_isWronged_55 (by decide) (fun c_14 => ?_) (fun c_14 => ?_)
          · have hw := x_t hw c_14
            exact hJ_12  hw ls _ _ hR hS (lv_sub hl [1, 3] rfl)
          · have hw := x_f hw c_14
            refine lv_iload_n hx hb dX1_isWronged_58 rfl (lv_at hl 0 rfl) ?_
            refine xm_ci (va_runS (As := [.int r_5]) (rest := []) ⟨hx, hb, hml, hown, hts⟩ (mt_X1_isAboard l hw) (va_cwS 1 hts (lw_S q1262 q1263 q65 q1264) rfl rfl rfl hd_X1_isAboard.2 ⟨Nat.le_of_ble_eq_true rfl, Nat.le_of_ble_eq_true rfl⟩) ⟨x_Pc_blind, x_Pc_pre hR hz hS hK⟩ rfl rfl hl.1 rfl (lv_room (Nat.le_of_ble_eq_true rfl)) dX1_isWronged_59 ⟨Nat.le_refl _, Nat.le_refl _⟩) hS (fun r_15 M_16 H locs hp hR hS => ?_)
            have hw := hp.2
            rw [hp.1] at hR
            refine x_jn0 (G := ∀ (ls : Array Slot) (H : Heap) (locs : List Loc), x_Rp D d (x_A base) (x_mc d mo Aa M) S H → va_S (x_A base) s.heap H locs → lv_has ls 5 [(0, .ref mo), (2, .int x2_1)] → W p l e (x_rm 2 0 0 45) s m ([.ref mo, .int x1] : List Value).toArray below meth c H locs 0 0 (MQ below (xm_Qi D d base mo Aa S (fun r M' => M' = M ∧ Q r)) ([.ref mo, .int x1] : List Value).toArray s 0 0 (x_A base)) (F0 m 81 ls [])) hw (fun hw => ?_) (fun hJ_17 hw => ?_)
            · intro ls H locs hR hS hl
              refine lv_iconst (v := 0) hx hb dX1_isWronged_81 (by decide) ?_
              exact hJ_8 0 hw ls _ _ hR hS (lv_sub hl [0, 1] rfl)
            · refine lv_if_eq (tgt := 81) hx hb dX1_isWronged_62 (by decide) (fun c_18 => ?_) (fun c_18 => ?_)
              · have hw := x_t hw c_18
                exact hJ_17  hw ls _ _ hR hS (lv_sub hl [1, 3] rfl)
              · have hw := x_f hw c_18
                refine lv_aload_n hx hb dX1_isWronged_65 rfl (lv_at hl 1 rfl) ?_
                refine xm_getA (k := 10) hx hb hts in_X1 hown hK hR (by decide) (hts _ q976) rfl dX1_isWronged_66 ?_
                refine lv_iload_n hx hb dX1_isWronged_69 rfl (lv_at hl 0 rfl) ?_
                refine lv_bipush (v := 10) hx hb dX1_isWronged_70 (by decide) ?_
                refine lv_isub hx hb dX1_isWronged_72 ?_
                refine xm_ild (M := M) (k := 10) (j := 5) hx hb hK hR dX1_isWronged_73 rfl hw.1 ?_
                have hw := hw.2
                refine lv_if_ne (tgt := 81) hx hb dX1_isWronged_74 (by decide) (fun c_19 => ?_) (fun c_19 => ?_)
                · have hw := x_f hw c_19
                  exact hJ_17  hw ls _ _ hR hS (lv_sub hl [1, 3] rfl)
                · have hw := x_t hw c_19
                  exact hJ_12  hw ls _ _ hR hS (lv_sub hl [1, 3] rfl)
  · have hw := x_f hw c_4
    refine lv_aload_n hx hb dX1_isWronged_13 rfl (lv_at hl 0 rfl) ?_
    refine xm_getA (k := 23) hx hb hts in_X1 hown hK hR (by decide) (hts _ q989) rfl dX1_isWronged_14 ?_
    refine lv_bipush (v := 6) hx hb dX1_isWronged_17 (by decide) ?_
    refine lv_iload_n hx hb dX1_isWronged_19 rfl (lv_at hl 3 rfl) ?_
    refine lv_imul hx hb dX1_isWronged_20 ?_
    refine lv_iconst (v := 1) hx hb dX1_isWronged_21 (by decide) ?_
    refine lv_iadd hx hb dX1_isWronged_22 ?_
    refine xm_ild (M := M) (k := 23) (j := 15) hx hb hK hR dX1_isWronged_23 rfl hw.1 ?_
    have hw := hw.2
    refine lv_iload_n hx hb dX1_isWronged_24 rfl (lv_at hl 1 rfl) ?_
    refine x_jn (G := fun (v0_20 : Int32) => ∀ (ls : Array Slot) (H : Heap) (locs : List Loc), x_Rp D d (x_A base) (x_mc d mo Aa M) S H → va_S (x_A base) s.heap H locs → lv_has ls 5 [(0, .ref mo), (1, .int x1), (3, .int x3_2)] → W p l e (x_rm 2 0 0 45) s m ([.ref mo, .int x1] : List Value).toArray below meth c H locs 0 0 (MQ below (xm_Qi D d base mo Aa S (fun r M' => M' = M ∧ Q r)) ([.ref mo, .int x1] : List Value).toArray s 0 0 (x_A base)) (F0 m 33 ls [.int v0_20])) hw (fun v0_20 hw => ?_) (fun hJ_21 hw => ?_)
    · intro ls H locs hR hS hl
      refine lv_istore_n (lv' := [(2, .int v0_20), (0, .ref mo), (1, .int x1), (3, .int x3_2)]) hx hb dX1_isWronged_33 rfl hl (by decide) rfl (fun ls hl => ?_)
      refine lv_iinc (v := (x3_2 + 1)) (lv' := [(3, .int (x3_2 + 1)), (2, .int v0_20), (0, .ref mo), (1, .int x1)]) hx hb dX1_isWronged_34 hl (k := 3) rfl rfl (by decide) rfl (fun ls hl => ?_)
      refine lv_goto (tgt := 5) hx hb dX1_isWronged_37 (by decide) ?_
      exact hw ls _ _ hR hS (lv_sub hl [2, 3, 1, 0] rfl)
    · refine lv_icmp_ne (tgt := 32) hx hb dX1_isWronged_25 (by decide) (fun c_22 => ?_) (fun c_22 => ?_)
      · have hw := x_f hw c_22
        refine lv_iload_n hx hb dX1_isWronged_32 rfl (lv_at hl 2 rfl) ?_
        exact hJ_21 x2_1 hw ls _ _ hR hS (lv_sub hl [0, 1, 3] rfl)
      · have hw := x_t hw c_22
        refine lv_iload_n hx hb dX1_isWronged_28 rfl (lv_at hl 3 rfl) ?_
        refine lv_goto (tgt := 33) hx hb dX1_isWronged_29 (by decide) ?_
        exact hJ_21 x3_2 hw ls _ _ hR hS (lv_sub hl [0, 1, 3] rfl)
def w_X1_wronged (M : xM) (Q : Int32 → xM → Prop) : Prop := nm (m1 M 0 0) (fun M_1 : xM => lf2 (fun L_4 (x1_2 : Int32) (x2_3 : Int32) => wif ((M1 M_1 5) ≤ x2_3) (Q x1_2 M_1) (w_X1_isWronged M_1 x2_3 (fun (r_6 : Int32) => jn (fun (v1_8 : Int32) => nm (x1_2 + v1_8) (fun x1_10 : Int32 => L_4 x1_10 (x2_3 + 1))) (fun J_9 => wif (r_6 = 0) (J_9 0) (J_9 1))))) 0 0)
theorem hd_X1_wronged : yX1_wronged.cls = "PressedMenModel" ∧ yX1_wronged.cls ≠ "java/lang/invoke/MethodHandle" ∧ yX1_wronged.cls ≠ "java/lang/invoke/VarHandle" ∧ (parseMethodDescriptor yX1_wronged.desc).map (fun d => d.parameters.length) = some 0 := by decide +kernel
set_option maxHeartbeats 4000000 in
theorem mt_X1_wronged (l : Launch) {D : va_G} {d : Nat → ClassId} {base : Nat} {mo : Nat} {Aa : Nat → Nat} {M : xM} {S : xH} {Q : Int32 → xM → Prop} (hw : w_X1_wronged M Q) : Met l yX1_wronged (ws_ yX1_wronged cX1_wronged 3 (some FieldType.int)) (x_rm 3 0 0 69) (x_Pc D d base (x_mc d mo Aa M) S [.ref mo]) (xm_Qi D d base mo Aa S (fun r M' => Q r M')) 0 0 (x_A base) := by
  refine x_met (by decide) (Nat.le_of_ble_eq_true rfl) ?_
  intro p e s m below meth c hx hb hml hr hlocks hown hts hz hR hK hin ls hl
  have hown : s.vm.findClass "PressedMenModel" = some m.cls := hown
  have hl : lv_has ls 3 [(0, .ref mo)] := hl
  have hS : va_S (x_A base) s.heap s.heap [] := va_S.rf
  unfold w_X1_wronged at hw
  refine lv_aload_n hx hb dX1_wronged_0 rfl (lv_at hl 0 rfl) ?_
  refine lv_iconst (v := 0) hx hb dX1_wronged_1 (by decide) ?_
  refine xm_putI (M := M) (k := 0) hx hb hts in_X1 hown hK hR hS (by decide) (hts _ q966) rfl rfl rfl rfl dX1_wronged_2 (fun H locs hR hS => ?_)
  obtain ⟨M_1, eM_1⟩ : ∃ z, z = (m1 M 0 0) := ⟨_, rfl⟩
  rw [← eM_1] at hR
  have hw := hw M_1 eM_1
  refine lv_iconst (v := 0) hx hb dX1_wronged_5 (by decide) ?_
  refine lv_istore_n (lv' := [(1, .int 0), (0, .ref mo)]) hx hb dX1_wronged_6 rfl hl (by decide) rfl (fun ls hl => ?_)
  refine lv_iconst (v := 0) hx hb dX1_wronged_7 (by decide) ?_
  refine lv_istore_n (lv' := [(2, .int 0), (1, .int 0), (0, .ref mo)]) hx hb dX1_wronged_8 rfl hl (by decide) rfl (fun ls hl => ?_)
  refine x_lf2 (G := fun (x1_2 : Int32) (x2_3 : Int32) => ∀ (ls : Array Slot) (H : Heap) (locs : List Loc), x_Rp D d (x_A base) (x_mc d mo Aa M_1) S H → va_S (x_A base) s.heap H locs → lv_has ls 3 [(0, .ref mo), (1, .int x1_2), (2, .int x2_3)] → W p l e (x_rm 3 0 0 69) s m ([.ref mo] : List Value).toArray below meth c H locs 0 0 (MQ below (xm_Qi D d base mo Aa S (fun r M' => Q r M')) ([.ref mo] : List Value).toArray s 0 0 (x_A base)) (F0 m 9 ls [])) hw (fun x1_2 x2_3 hw => ?_) ls _ _ hR hS (lv_sub hl [2, 1, 0] rfl)
  intro ls H locs hR hS hl
  refine lv_iload_n hx hb dX1_wronged_9 rfl (lv_at hl 2 rfl) ?_
  refine lv_aload_n hx hb dX1_wronged_10 rfl (lv_at hl 0 rfl) ?_
  refine xm_getI (k := 5) hx hb hts in_X1 hown hK hR (by decide) (hts _ q971) rfl dX1_wronged_11 ?_
  refine lv_icmp_ge (tgt := 39) hx hb dX1_wronged_14 (by decide) (fun c_5 => ?_) (fun c_5 => ?_)
  · have hw := x_t hw c_5
    refine lv_iload_n hx hb dX1_wronged_39 rfl (lv_at hl 1 rfl) ?_
    exact xm_ri hx hb hr hlocks hR hS dX1_wronged_40 hw
  · have hw := x_f hw c_5
    refine lv_iload_n hx hb dX1_wronged_17 rfl (lv_at hl 1 rfl) ?_
    refine lv_aload_n hx hb dX1_wronged_18 rfl (lv_at hl 0 rfl) ?_
    refine lv_iload_n hx hb dX1_wronged_19 rfl (lv_at hl 2 rfl) ?_
    refine xm_ci (va_runV (As := [.int x2_3]) (rest := [.int x1_2]) ⟨hx, hb, hml, hown, hts⟩ (mt_X1_isWronged l hw) (cwV 1 hts (lw_V q1290 q1292 qs53 q65 q1293) rfl rfl rfl hd_X1_isWronged ⟨Nat.le_of_ble_eq_true rfl, Nat.le_of_ble_eq_true rfl⟩) ⟨x_Pc_blind, xm_recv hR hK, x_Pc_pre hR hz hS hK⟩ rfl rfl hl.1 rfl (lv_room (Nat.le_of_ble_eq_true rfl)) dX1_wronged_20 ⟨Nat.le_refl _, Nat.le_refl _⟩) hS (fun r_6 M_7 H locs hp hR hS => ?_)
    have hw := hp.2
    rw [hp.1] at hR
    refine x_jn (G := fun (v1_8 : Int32) => ∀ (ls : Array Slot) (H : Heap) (locs : List Loc), x_Rp D d (x_A base) (x_mc d mo Aa M_1) S H → va_S (x_A base) s.heap H locs → lv_has ls 3 [(0, .ref mo), (2, .int x2_3)] → W p l e (x_rm 3 0 0 69) s m ([.ref mo] : List Value).toArray below meth c H locs 0 0 (MQ below (xm_Qi D d base mo Aa S (fun r M' => Q r M')) ([.ref mo] : List Value).toArray s 0 0 (x_A base)) (F0 m 31 ls [.int v1_8, .int x1_2])) hw (fun v1_8 hw => ?_) (fun hJ_9 hw => ?_)
    · intro ls H locs hR hS hl
      refine lv_iadd hx hb dX1_wronged_31 ?_
      refine lv_topi (fun x1_10 ex1_10 => ?_)
      have hw := hw x1_10 ex1_10
      refine lv_istore_n (lv' := [(1, .int x1_10), (0, .ref mo), (2, .int x2_3)]) hx hb dX1_wronged_32 rfl hl (by decide) rfl (fun ls hl => ?_)
      refine lv_iinc (v := (x2_3 + 1)) (lv' := [(2, .int (x2_3 + 1)), (1, .int x1_10), (0, .ref mo)]) hx hb dX1_wronged_33 hl (k := 2) rfl rfl (by decide) rfl (fun ls hl => ?_)
      refine lv_goto (tgt := 9) hx hb dX1_wronged_36 (by decide) ?_
      exact hw ls _ _ hR hS (lv_sub hl [2, 1, 0] rfl)
    · refine lv_if_eq (tgt := 30) hx hb dX1_wronged_23 (by decide) (fun c_11 => ?_) (fun c_11 => ?_)
      · have hw := x_t hw c_11
        refine lv_iconst (v := 0) hx hb dX1_wronged_30 (by decide) ?_
        exact hJ_9 0 hw ls _ _ hR hS (lv_sub hl [0, 2] rfl)
      · have hw := x_f hw c_11
        refine lv_iconst (v := 1) hx hb dX1_wronged_26 (by decide) ?_
        refine lv_goto (tgt := 31) hx hb dX1_wronged_27 (by decide) ?_
        exact hJ_9 1 hw ls _ _ hR hS (lv_sub hl [0, 2] rfl)
def w_X1_wrongedMan (M : xM) (x1 : Int32) (Q : Int32 → xM → Prop) : Prop := nm (m1 M 0 0) (fun M_1 : xM => lf2 (fun L_4 (x2_2 : Int32) (x3_3 : Int32) => wif ((M1 M_1 5) ≤ x3_3) (Q (-9) M_1) (w_X1_isWronged M_1 x3_3 (fun (r_6 : Int32) => jn (fun (x2_8 : Int32) => L_4 x2_8 (x3_3 + 1)) (fun J_9 => wif (r_6 = 0) (J_9 x2_2) (wif (x2_2 = x1) (Q x3_3 M_1) (J_9 (x2_2 + 1))))))) 0 0)
theorem hd_X1_wrongedMan : yX1_wrongedMan.cls = "PressedMenModel" ∧ yX1_wrongedMan.cls ≠ "java/lang/invoke/MethodHandle" ∧ yX1_wrongedMan.cls ≠ "java/lang/invoke/VarHandle" ∧ (parseMethodDescriptor yX1_wrongedMan.desc).map (fun d => d.parameters.length) = some 1 := by decide +kernel
set_option maxHeartbeats 4000000 in
theorem mt_X1_wrongedMan (l : Launch) {D : va_G} {d : Nat → ClassId} {base : Nat} {mo : Nat} {Aa : Nat → Nat} {M : xM} {S : xH} {x1 : Int32} {Q : Int32 → xM → Prop} (hw : w_X1_wrongedMan M x1 Q) : Met l yX1_wrongedMan (ws_ yX1_wrongedMan cX1_wrongedMan 4 (some FieldType.int)) (x_rm 3 0 0 69) (x_Pc D d base (x_mc d mo Aa M) S [.ref mo, .int x1]) (xm_Qi D d base mo Aa S (fun r M' => Q r M')) 0 0 (x_A base) := by
  refine x_met (by decide) (Nat.le_of_ble_eq_true rfl) ?_
  intro p e s m below meth c hx hb hml hr hlocks hown hts hz hR hK hin ls hl
  have hown : s.vm.findClass "PressedMenModel" = some m.cls := hown
  have hl : lv_has ls 4 [(0, .ref mo), (1, .int x1)] := hl
  have hS : va_S (x_A base) s.heap s.heap [] := va_S.rf
  unfold w_X1_wrongedMan at hw
  refine lv_aload_n hx hb dX1_wrongedMan_0 rfl (lv_at hl 0 rfl) ?_
  refine lv_iconst (v := 0) hx hb dX1_wrongedMan_1 (by decide) ?_
  refine xm_putI (M := M) (k := 0) hx hb hts in_X1 hown hK hR hS (by decide) (hts _ q966) rfl rfl rfl rfl dX1_wrongedMan_2 (fun H locs hR hS => ?_)
  obtain ⟨M_1, eM_1⟩ : ∃ z, z = (m1 M 0 0) := ⟨_, rfl⟩
  rw [← eM_1] at hR
  have hw := hw M_1 eM_1
  refine lv_iconst (v := 0) hx hb dX1_wrongedMan_5 (by decide) ?_
  refine lv_istore_n (lv' := [(2, .int 0), (0, .ref mo), (1, .int x1)]) hx hb dX1_wrongedMan_6 rfl hl (by decide) rfl (fun ls hl => ?_)
  refine lv_iconst (v := 0) hx hb dX1_wrongedMan_7 (by decide) ?_
  refine lv_istore_n (lv' := [(3, .int 0), (2, .int 0), (0, .ref mo), (1, .int x1)]) hx hb dX1_wrongedMan_8 rfl hl (by decide) rfl (fun ls hl => ?_)
  refine x_lf2 (G := fun (x2_2 : Int32) (x3_3 : Int32) => ∀ (ls : Array Slot) (H : Heap) (locs : List Loc), x_Rp D d (x_A base) (x_mc d mo Aa M_1) S H → va_S (x_A base) s.heap H locs → lv_has ls 4 [(0, .ref mo), (1, .int x1), (2, .int x2_2), (3, .int x3_3)] → W p l e (x_rm 3 0 0 69) s m ([.ref mo, .int x1] : List Value).toArray below meth c H locs 0 0 (MQ below (xm_Qi D d base mo Aa S (fun r M' => Q r M')) ([.ref mo, .int x1] : List Value).toArray s 0 0 (x_A base)) (F0 m 9 ls [])) hw (fun x2_2 x3_3 hw => ?_) ls _ _ hR hS (lv_sub hl [2, 3, 1, 0] rfl)
  intro ls H locs hR hS hl
  refine lv_iload_n hx hb dX1_wrongedMan_9 rfl (lv_at hl 3 rfl) ?_
  refine lv_aload_n hx hb dX1_wrongedMan_10 rfl (lv_at hl 0 rfl) ?_
  refine xm_getI (k := 5) hx hb hts in_X1 hown hK hR (by decide) (hts _ q971) rfl dX1_wrongedMan_11 ?_
  refine lv_icmp_ge (tgt := 41) hx hb dX1_wrongedMan_14 (by decide) (fun c_5 => ?_) (fun c_5 => ?_)
  · have hw := x_t hw c_5
    refine lv_bipush (v := (-9)) hx hb dX1_wrongedMan_41 (by decide) ?_
    exact xm_ri hx hb hr hlocks hR hS dX1_wrongedMan_43 hw
  · have hw := x_f hw c_5
    refine lv_aload_n hx hb dX1_wrongedMan_17 rfl (lv_at hl 0 rfl) ?_
    refine lv_iload_n hx hb dX1_wrongedMan_18 rfl (lv_at hl 3 rfl) ?_
    refine xm_ci (va_runV (As := [.int x3_3]) (rest := []) ⟨hx, hb, hml, hown, hts⟩ (mt_X1_isWronged l hw) (cwV 1 hts (lw_V q1290 q1292 qs53 q65 q1293) rfl rfl rfl hd_X1_isWronged ⟨Nat.le_of_ble_eq_true rfl, Nat.le_of_ble_eq_true rfl⟩) ⟨x_Pc_blind, xm_recv hR hK, x_Pc_pre hR hz hS hK⟩ rfl rfl hl.1 rfl (lv_room (Nat.le_of_ble_eq_true rfl)) dX1_wrongedMan_19 ⟨Nat.le_refl _, Nat.le_refl _⟩) hS (fun r_6 M_7 H locs hp hR hS => ?_)
    have hw := hp.2
    rw [hp.1] at hR
    refine x_jn (G := fun (x2_8 : Int32) => ∀ (ls : Array Slot) (H : Heap) (locs : List Loc), x_Rp D d (x_A base) (x_mc d mo Aa M_1) S H → va_S (x_A base) s.heap H locs → lv_has ls 4 [(0, .ref mo), (1, .int x1), (2, .int x2_8), (3, .int x3_3)] → W p l e (x_rm 3 0 0 69) s m ([.ref mo, .int x1] : List Value).toArray below meth c H locs 0 0 (MQ below (xm_Qi D d base mo Aa S (fun r M' => Q r M')) ([.ref mo, .int x1] : List Value).toArray s 0 0 (x_A base)) (F0 m 35 ls [])) hw (fun x2_8 hw => ?_) (fun hJ_9 hw => ?_)
    · intro ls H locs hR hS hl
      refine lv_iinc (v := (x3_3 + 1)) (lv' := [(3, .int (x3_3 + 1)), (0, .ref mo), (1, .int x1), (2, .int x2_8)]) hx hb dX1_wrongedMan_35 hl (k := 3) rfl rfl (by decide) rfl (fun ls hl => ?_)
      refine lv_goto (tgt := 9) hx hb dX1_wrongedMan_38 (by decide) ?_
      exact hw ls _ _ hR hS (lv_sub hl [1, 2, 3, 0] rfl)
    · refine lv_if_eq (tgt := 35) hx hb dX1_wrongedMan_22 (by decide) (fun c_10 => ?_) (fun c_10 => ?_)
      · have hw := x_t hw c_10
        exact hJ_9 x2_2 hw ls _ _ hR hS (lv_sub hl [0, 1, 2, 3] rfl)
      · have hw := x_f hw c_10
        refine lv_iload_n hx hb dX1_wrongedMan_25 rfl (lv_at hl 2 rfl) ?_
        refine lv_iload_n hx hb dX1_wrongedMan_26 rfl (lv_at hl 1 rfl) ?_
        refine lv_icmp_ne (tgt := 32) hx hb dX1_wrongedMan_27 (by decide) (fun c_11 => ?_) (fun c_11 => ?_)
        · have hw := x_f hw c_11
          refine lv_iinc (v := (x2_2 + 1)) (lv' := [(2, .int (x2_2 + 1)), (0, .ref mo), (1, .int x1), (3, .int x3_3)]) hx hb dX1_wrongedMan_32 hl (k := 2) rfl rfl (by decide) rfl (fun ls hl => ?_)
          exact hJ_9 (x2_2 + 1) hw ls _ _ hR hS (lv_sub hl [1, 2, 0, 3] rfl)
        · have hw := x_t hw c_11
          refine lv_iload_n hx hb dX1_wrongedMan_30 rfl (lv_at hl 3 rfl) ?_
          exact xm_ri hx hb hr hlocks hR hS dX1_wrongedMan_31 hw
def w_X1_letGo (M : xM) (x1 : Int32) (Q : Int32 → xM → Prop) : Prop := nm (m1 M 0 0) (fun M_1 : xM => w_X1_noMan M_1 x1 (fun (r_2 : Int32) => wif (r_2 = 0) (w_X1_placeOf M_1 x1 (fun (r_5 : Int32) => jn0 (vp_in ((8 * x1) + 6) 320 ∧ w_X1_go M_1 x1 (M2 M_1 6 (Int32.toNatClampNeg ((8 * x1) + 6))) (fun (M_8 : xM) => Q r_5 M_8)) (fun J_7 => wif (r_5 = 20) (J_7) (wif (r_5 = 21) (J_7) (w_X1_isHere M_1 r_5 (fun (r_11 : Int32) => wif (r_11 = 0) (Q (-3) M_1) (J_7))))))) (Q (-1) M_1)))
theorem hd_X1_letGo : yX1_letGo.cls = "PressedMenModel" ∧ yX1_letGo.cls ≠ "java/lang/invoke/MethodHandle" ∧ yX1_letGo.cls ≠ "java/lang/invoke/VarHandle" ∧ (parseMethodDescriptor yX1_letGo.desc).map (fun d => d.parameters.length) = some 1 := by decide +kernel
set_option maxHeartbeats 4000000 in
theorem mt_X1_letGo (l : Launch) {D : va_G} {d : Nat → ClassId} {base : Nat} {mo : Nat} {Aa : Nat → Nat} {M : xM} {S : xH} {x1 : Int32} {Q : Int32 → xM → Prop} (hw : w_X1_letGo M x1 Q) : Met l yX1_letGo (ws_ yX1_letGo cX1_letGo 3 (some FieldType.int)) (x_rm 3 0 0 66) (x_Pc D d base (x_mc d mo Aa M) S [.ref mo, .int x1]) (xm_Qi D d base mo Aa S (fun r M' => Q r M')) 0 0 (x_A base) := by
  refine x_met (by decide) (Nat.le_of_ble_eq_true rfl) ?_
  intro p e s m below meth c hx hb hml hr hlocks hown hts hz hR hK hin ls hl
  have hown : s.vm.findClass "PressedMenModel" = some m.cls := hown
  have hl : lv_has ls 3 [(0, .ref mo), (1, .int x1)] := hl
  have hS : va_S (x_A base) s.heap s.heap [] := va_S.rf
  unfold w_X1_letGo at hw
  refine lv_aload_n hx hb dX1_letGo_0 rfl (lv_at hl 0 rfl) ?_
  refine lv_iconst (v := 0) hx hb dX1_letGo_1 (by decide) ?_
  refine xm_putI (M := M) (k := 0) hx hb hts in_X1 hown hK hR hS (by decide) (hts _ q966) rfl rfl rfl rfl dX1_letGo_2 (fun H locs hR hS => ?_)
  obtain ⟨M_1, eM_1⟩ : ∃ z, z = (m1 M 0 0) := ⟨_, rfl⟩
  rw [← eM_1] at hR
  have hw := hw M_1 eM_1
  refine lv_aload_n hx hb dX1_letGo_5 rfl (lv_at hl 0 rfl) ?_
  refine lv_iload_n hx hb dX1_letGo_6 rfl (lv_at hl 1 rfl) ?_
  refine xm_ci (va_runV (As := [.int x1]) (rest := []) ⟨hx, hb, hml, hown, hts⟩ (mt_X1_noMan l hw) (cwV 1 hts (lw_V q1123 q1125 qs38 q65 q1126) rfl rfl rfl hd_X1_noMan ⟨Nat.le_of_ble_eq_true rfl, Nat.le_of_ble_eq_true rfl⟩) ⟨x_Pc_blind, xm_recv hR hK, x_Pc_pre hR hz hS hK⟩ rfl rfl hl.1 rfl (lv_room (Nat.le_of_ble_eq_true rfl)) dX1_letGo_7 ⟨Nat.le_refl _, Nat.le_refl _⟩) hS (fun r_2 M_3 H locs hp hR hS => ?_)
  have hw := hp.2
  rw [hp.1] at hR
  refine lv_if_eq (tgt := 15) hx hb dX1_letGo_10 (by decide) (fun c_4 => ?_) (fun c_4 => ?_)
  · have hw := x_t hw c_4
    refine lv_aload_n hx hb dX1_letGo_15 rfl (lv_at hl 0 rfl) ?_
    refine lv_iload_n hx hb dX1_letGo_16 rfl (lv_at hl 1 rfl) ?_
    refine xm_ci (va_runV (As := [.int x1]) (rest := []) ⟨hx, hb, hml, hown, hts⟩ (mt_X1_placeOf l hw) (cwV 1 hts (lw_V q1146 q1148 qs40 q65 q1149) rfl rfl rfl hd_X1_placeOf ⟨Nat.le_of_ble_eq_true rfl, Nat.le_of_ble_eq_true rfl⟩) ⟨x_Pc_blind, xm_recv hR hK, x_Pc_pre hR hz hS hK⟩ rfl rfl hl.1 rfl (lv_room (Nat.le_of_ble_eq_true rfl)) dX1_letGo_17 ⟨Nat.le_refl _, Nat.le_refl _⟩) hS (fun r_5 M_6 H locs hp hR hS => ?_)
    have hw := hp.2
    rw [hp.1] at hR
    refine lv_istore_n (lv' := [(2, .int r_5), (0, .ref mo), (1, .int x1)]) hx hb dX1_letGo_20 rfl hl (by decide) rfl (fun ls hl => ?_)
    refine lv_iload_n hx hb dX1_letGo_21 rfl (lv_at hl 0 rfl) ?_
    refine lv_bipush (v := 20) hx hb dX1_letGo_22 (by decide) ?_
    refine x_jn0 (G := ∀ (ls : Array Slot) (H : Heap) (locs : List Loc), x_Rp D d (x_A base) (x_mc d mo Aa M_1) S H → va_S (x_A base) s.heap H locs → lv_has ls 3 [(0, .ref mo), (1, .int x1), (2, .int r_5)] → W p l e (x_rm 3 0 0 66) s m ([.ref mo, .int x1] : List Value).toArray below meth c H locs 0 0 (MQ below (xm_Qi D d base mo Aa S (fun r M' => Q r M')) ([.ref mo, .int x1] : List Value).toArray s 0 0 (x_A base)) (F0 m 44 ls [])) hw (fun hw => ?_) (fun hJ_7 hw => ?_)
    · intro ls H locs hR hS hl
      refine lv_aload_n hx hb dX1_letGo_44 rfl (lv_at hl 0 rfl) ?_
      refine lv_iload_n hx hb dX1_letGo_45 rfl (lv_at hl 1 rfl) ?_
      refine lv_aload_n hx hb dX1_letGo_46 rfl (lv_at hl 0 rfl) ?_
      refine xm_getA (k := 6) hx hb hts in_X1 hown hK hR (by decide) (hts _ q972) rfl dX1_letGo_47 ?_
      refine lv_bipush (v := 8) hx hb dX1_letGo_50 (by decide) ?_
      refine lv_iload_n hx hb dX1_letGo_52 rfl (lv_at hl 1 rfl) ?_
      refine lv_imul hx hb dX1_letGo_53 ?_
      refine lv_bipush (v := 6) hx hb dX1_letGo_54 (by decide) ?_
      refine lv_iadd hx hb dX1_letGo_56 ?_
      refine xm_ild (M := M_1) (k := 6) (j := 2) hx hb hK hR dX1_letGo_57 rfl hw.1 ?_
      have hw := hw.2
      refine xm_cv (va_runV (As := [.int x1, .int (M2 M_1 6 (Int32.toNatClampNeg ((8 * x1) + 6)))]) (rest := []) ⟨hx, hb, hml, hown, hts⟩ (mt_X1_go l hw) (cwV 2 hts (lw_V q1169 q1171 qs43 q65 q1172) rfl rfl rfl hd_X1_go ⟨Nat.le_of_ble_eq_true rfl, Nat.le_of_ble_eq_true rfl⟩) ⟨x_Pc_blind, xm_recv hR hK, x_Pc_pre hR hz hS hK⟩ rfl rfl hl.1 rfl (lv_room (Nat.le_of_ble_eq_true rfl)) dX1_letGo_58 ⟨Nat.le_refl _, Nat.le_refl _⟩) hS (fun M_8 H locs hp hR hS => ?_)
      have hw := hp
      refine lv_iload_n hx hb dX1_letGo_61 rfl (lv_at hl 2 rfl) ?_
      exact xm_ri hx hb hr hlocks hR hS dX1_letGo_62 hw
    · refine lv_icmp_eq (tgt := 44) hx hb dX1_letGo_24 (by decide) (fun c_9 => ?_) (fun c_9 => ?_)
      · have hw := x_t hw c_9
        exact hJ_7  hw ls _ _ hR hS (lv_sub hl [1, 2, 0] rfl)
      · have hw := x_f hw c_9
        refine lv_iload_n hx hb dX1_letGo_27 rfl (lv_at hl 0 rfl) ?_
        refine lv_bipush (v := 21) hx hb dX1_letGo_28 (by decide) ?_
        refine lv_icmp_eq (tgt := 44) hx hb dX1_letGo_30 (by decide) (fun c_10 => ?_) (fun c_10 => ?_)
        · have hw := x_t hw c_10
          exact hJ_7  hw ls _ _ hR hS (lv_sub hl [1, 2, 0] rfl)
        · have hw := x_f hw c_10
          refine lv_aload_n hx hb dX1_letGo_33 rfl (lv_at hl 1 rfl) ?_
          refine lv_iload_n hx hb dX1_letGo_34 rfl (lv_at hl 0 rfl) ?_
          refine xm_ci (va_runV (As := [.int r_5]) (rest := []) ⟨hx, hb, hml, hown, hts⟩ (mt_X1_isHere l hw) (cwV 1 hts (lw_V q1278 q1280 qs52 q65 q1281) rfl rfl rfl hd_X1_isHere ⟨Nat.le_of_ble_eq_true rfl, Nat.le_of_ble_eq_true rfl⟩) ⟨x_Pc_blind, xm_recv hR hK, x_Pc_pre hR hz hS hK⟩ rfl rfl hl.1 rfl (lv_room (Nat.le_of_ble_eq_true rfl)) dX1_letGo_35 ⟨Nat.le_refl _, Nat.le_refl _⟩) hS (fun r_11 M_12 H locs hp hR hS => ?_)
          have hw := hp.2
          rw [hp.1] at hR
          refine lv_if_ne (tgt := 44) hx hb dX1_letGo_38 (by decide) (fun c_13 => ?_) (fun c_13 => ?_)
          · have hw := x_f hw c_13
            exact hJ_7  hw ls _ _ hR hS (lv_sub hl [1, 2, 0] rfl)
          · have hw := x_t hw c_13
            refine lv_bipush (v := (-3)) hx hb dX1_letGo_41 (by decide) ?_
            exact xm_ri hx hb hr hlocks hR hS dX1_letGo_43 hw
  · have hw := x_f hw c_4
    refine lv_iconst (v := (-1)) hx hb dX1_letGo_13 (by decide) ?_
    exact xm_ri hx hb hr hlocks hR hS dX1_letGo_14 hw
def w_X1_quiet (M : xM) (Q : Int32 → xM → Prop) : Prop := nm (m1 M 0 0) (fun M_1 : xM => nm (M1 M_1 24) (fun x2_2 : Int32 => lf2 (fun L_5 (x1_3 : Int32) (x2_4 : Int32) => wif ((M1 M_1 22) ≤ x2_4) (nm (m1 M_1 24 (M1 M_1 22)) (fun M_7 : xM => Q x1_3 M_7)) (vp_in ((6 * x2_4) + 3) 360 ∧ w_X1_isStreet M_1 (M2 M_1 23 (Int32.toNatClampNeg ((6 * x2_4) + 3))) (fun (r_8 : Int32) => jn (fun (v1_10 : Int32) => nm (x1_3 + v1_10) (fun x1_12 : Int32 => L_5 x1_12 (x2_4 + 1))) (fun J_11 => wif (r_8 = 0) (J_11 0) (J_11 1))))) 0 x2_2))
theorem hd_X1_quiet : yX1_quiet.cls = "PressedMenModel" ∧ yX1_quiet.cls ≠ "java/lang/invoke/MethodHandle" ∧ yX1_quiet.cls ≠ "java/lang/invoke/VarHandle" ∧ (parseMethodDescriptor yX1_quiet.desc).map (fun d => d.parameters.length) = some 0 := by decide +kernel
set_option maxHeartbeats 4000000 in
theorem mt_X1_quiet (l : Launch) {D : va_G} {d : Nat → ClassId} {base : Nat} {mo : Nat} {Aa : Nat → Nat} {M : xM} {S : xH} {Q : Int32 → xM → Prop} (hw : w_X1_quiet M Q) : Met l yX1_quiet (ws_ yX1_quiet cX1_quiet 3 (some FieldType.int)) (x_rm 2 0 0 45) (x_Pc D d base (x_mc d mo Aa M) S [.ref mo]) (xm_Qi D d base mo Aa S (fun r M' => Q r M')) 0 0 (x_A base) := by
  refine x_met (by decide) (Nat.le_of_ble_eq_true rfl) ?_
  intro p e s m below meth c hx hb hml hr hlocks hown hts hz hR hK hin ls hl
  have hown : s.vm.findClass "PressedMenModel" = some m.cls := hown
  have hl : lv_has ls 3 [(0, .ref mo)] := hl
  have hS : va_S (x_A base) s.heap s.heap [] := va_S.rf
  unfold w_X1_quiet at hw
  refine lv_aload_n hx hb dX1_quiet_0 rfl (lv_at hl 0 rfl) ?_
  refine lv_iconst (v := 0) hx hb dX1_quiet_1 (by decide) ?_
  refine xm_putI (M := M) (k := 0) hx hb hts in_X1 hown hK hR hS (by decide) (hts _ q966) rfl rfl rfl rfl dX1_quiet_2 (fun H locs hR hS => ?_)
  obtain ⟨M_1, eM_1⟩ : ∃ z, z = (m1 M 0 0) := ⟨_, rfl⟩
  rw [← eM_1] at hR
  have hw := hw M_1 eM_1
  refine lv_iconst (v := 0) hx hb dX1_quiet_5 (by decide) ?_
  refine lv_istore_n (lv' := [(1, .int 0), (0, .ref mo)]) hx hb dX1_quiet_6 rfl hl (by decide) rfl (fun ls hl => ?_)
  refine lv_aload_n hx hb dX1_quiet_7 rfl (lv_at hl 1 rfl) ?_
  refine xm_getI (k := 24) hx hb hts in_X1 hown hK hR (by decide) (hts _ q990) rfl dX1_quiet_8 ?_
  refine lv_topi (fun x2_2 ex2_2 => ?_)
  have hw := hw x2_2 ex2_2
  refine lv_istore_n (lv' := [(2, .int x2_2), (1, .int 0), (0, .ref mo)]) hx hb dX1_quiet_11 rfl hl (by decide) rfl (fun ls hl => ?_)
  refine x_lf2 (G := fun (x1_3 : Int32) (x2_4 : Int32) => ∀ (ls : Array Slot) (H : Heap) (locs : List Loc), x_Rp D d (x_A base) (x_mc d mo Aa M_1) S H → va_S (x_A base) s.heap H locs → lv_has ls 3 [(0, .ref mo), (1, .int x1_3), (2, .int x2_4)] → W p l e (x_rm 2 0 0 45) s m ([.ref mo] : List Value).toArray below meth c H locs 0 0 (MQ below (xm_Qi D d base mo Aa S (fun r M' => Q r M')) ([.ref mo] : List Value).toArray s 0 0 (x_A base)) (F0 m 12 ls [])) hw (fun x1_3 x2_4 hw => ?_) ls _ _ hR hS (lv_sub hl [2, 1, 0] rfl)
  intro ls H locs hR hS hl
  refine lv_iload_n hx hb dX1_quiet_12 rfl (lv_at hl 2 rfl) ?_
  refine lv_aload_n hx hb dX1_quiet_13 rfl (lv_at hl 0 rfl) ?_
  refine xm_getI (k := 22) hx hb hts in_X1 hown hK hR (by decide) (hts _ q988) rfl dX1_quiet_14 ?_
  refine lv_icmp_ge (tgt := 51) hx hb dX1_quiet_17 (by decide) (fun c_6 => ?_) (fun c_6 => ?_)
  · have hw := x_t hw c_6
    refine lv_aload_n hx hb dX1_quiet_51 rfl (lv_at hl 0 rfl) ?_
    refine lv_aload_n hx hb dX1_quiet_52 rfl (lv_at hl 0 rfl) ?_
    refine xm_getI (k := 22) hx hb hts in_X1 hown hK hR (by decide) (hts _ q988) rfl dX1_quiet_53 ?_
    refine xm_putI (M := M_1) (k := 24) hx hb hts in_X1 hown hK hR hS (by decide) (hts _ q990) rfl rfl rfl rfl dX1_quiet_56 (fun H locs hR hS => ?_)
    obtain ⟨M_7, eM_7⟩ : ∃ z, z = (m1 M_1 24 (M1 M_1 22)) := ⟨_, rfl⟩
    rw [← eM_7] at hR
    have hw := hw M_7 eM_7
    refine lv_iload_n hx hb dX1_quiet_59 rfl (lv_at hl 1 rfl) ?_
    exact xm_ri hx hb hr hlocks hR hS dX1_quiet_60 hw
  · have hw := x_f hw c_6
    refine lv_iload_n hx hb dX1_quiet_20 rfl (lv_at hl 1 rfl) ?_
    refine lv_aload_n hx hb dX1_quiet_21 rfl (lv_at hl 0 rfl) ?_
    refine xm_getA (k := 23) hx hb hts in_X1 hown hK hR (by decide) (hts _ q989) rfl dX1_quiet_22 ?_
    refine lv_bipush (v := 6) hx hb dX1_quiet_25 (by decide) ?_
    refine lv_iload_n hx hb dX1_quiet_27 rfl (lv_at hl 2 rfl) ?_
    refine lv_imul hx hb dX1_quiet_28 ?_
    refine lv_iconst (v := 3) hx hb dX1_quiet_29 (by decide) ?_
    refine lv_iadd hx hb dX1_quiet_30 ?_
    refine xm_ild (M := M_1) (k := 23) (j := 15) hx hb hK hR dX1_quiet_31 rfl hw.1 ?_
    have hw := hw.2
    refine xm_ci (va_runS (As := [.int (M2 M_1 23 (Int32.toNatClampNeg ((6 * x2_4) + 3)))]) (rest := [.int x1_3]) ⟨hx, hb, hml, hown, hts⟩ (mt_X1_isStreet l hw) (va_cwS 1 hts (lw_S q1162 q1163 q65 q1164) rfl rfl rfl hd_X1_isStreet.2 ⟨Nat.le_of_ble_eq_true rfl, Nat.le_of_ble_eq_true rfl⟩) ⟨x_Pc_blind, x_Pc_pre hR hz hS hK⟩ rfl rfl hl.1 rfl (lv_room (Nat.le_of_ble_eq_true rfl)) dX1_quiet_32 ⟨Nat.le_refl _, Nat.le_refl _⟩) hS (fun r_8 M_9 H locs hp hR hS => ?_)
    have hw := hp.2
    rw [hp.1] at hR
    refine x_jn (G := fun (v1_10 : Int32) => ∀ (ls : Array Slot) (H : Heap) (locs : List Loc), x_Rp D d (x_A base) (x_mc d mo Aa M_1) S H → va_S (x_A base) s.heap H locs → lv_has ls 3 [(0, .ref mo), (2, .int x2_4)] → W p l e (x_rm 2 0 0 45) s m ([.ref mo] : List Value).toArray below meth c H locs 0 0 (MQ below (xm_Qi D d base mo Aa S (fun r M' => Q r M')) ([.ref mo] : List Value).toArray s 0 0 (x_A base)) (F0 m 43 ls [.int v1_10, .int x1_3])) hw (fun v1_10 hw => ?_) (fun hJ_11 hw => ?_)
    · intro ls H locs hR hS hl
      refine lv_iadd hx hb dX1_quiet_43 ?_
      refine lv_topi (fun x1_12 ex1_12 => ?_)
      have hw := hw x1_12 ex1_12
      refine lv_istore_n (lv' := [(1, .int x1_12), (0, .ref mo), (2, .int x2_4)]) hx hb dX1_quiet_44 rfl hl (by decide) rfl (fun ls hl => ?_)
      refine lv_iinc (v := (x2_4 + 1)) (lv' := [(2, .int (x2_4 + 1)), (1, .int x1_12), (0, .ref mo)]) hx hb dX1_quiet_45 hl (k := 2) rfl rfl (by decide) rfl (fun ls hl => ?_)
      refine lv_goto (tgt := 12) hx hb dX1_quiet_48 (by decide) ?_
      exact hw ls _ _ hR hS (lv_sub hl [2, 1, 0] rfl)
    · refine lv_if_eq (tgt := 42) hx hb dX1_quiet_35 (by decide) (fun c_13 => ?_) (fun c_13 => ?_)
      · have hw := x_t hw c_13
        refine lv_iconst (v := 0) hx hb dX1_quiet_42 (by decide) ?_
        exact hJ_11 0 hw ls _ _ hR hS (lv_sub hl [0, 2] rfl)
      · have hw := x_f hw c_13
        refine lv_iconst (v := 1) hx hb dX1_quiet_38 (by decide) ?_
        refine lv_goto (tgt := 43) hx hb dX1_quiet_39 (by decide) ?_
        exact hJ_11 1 hw ls _ _ hR hS (lv_sub hl [0, 2] rfl)
def w_X1_heard (M : xM) (x1 : Int32) (Q : Int32 → xM → Prop) : Prop := nm (m1 M 0 0) (fun M_1 : xM => w_X1_noStreet M_1 x1 (fun (r_2 : Int32) => wif (r_2 = 0) (w_X1_measure M_1 (fun (M_5 : xM) => w_X1_heardAt M_5 x1 (fun (r_6 : Int32) => Q r_6 M_5))) (Q (-1) M_1)))
theorem hd_X1_heard : yX1_heard.cls = "PressedMenModel" ∧ yX1_heard.cls ≠ "java/lang/invoke/MethodHandle" ∧ yX1_heard.cls ≠ "java/lang/invoke/VarHandle" ∧ (parseMethodDescriptor yX1_heard.desc).map (fun d => d.parameters.length) = some 1 := by decide +kernel
set_option maxHeartbeats 4000000 in
theorem mt_X1_heard (l : Launch) {D : va_G} {d : Nat → ClassId} {base : Nat} {mo : Nat} {Aa : Nat → Nat} {M : xM} {S : xH} {x1 : Int32} {Q : Int32 → xM → Prop} (hw : w_X1_heard M x1 Q) : Met l yX1_heard (ws_ yX1_heard cX1_heard 2 (some FieldType.int)) (x_rm 3 0 0 70) (x_Pc D d base (x_mc d mo Aa M) S [.ref mo, .int x1]) (xm_Qi D d base mo Aa S (fun r M' => Q r M')) 0 0 (x_A base) := by
  refine x_met (by decide) (Nat.le_of_ble_eq_true rfl) ?_
  intro p e s m below meth c hx hb hml hr hlocks hown hts hz hR hK hin ls hl
  have hown : s.vm.findClass "PressedMenModel" = some m.cls := hown
  have hl : lv_has ls 2 [(0, .ref mo), (1, .int x1)] := hl
  have hS : va_S (x_A base) s.heap s.heap [] := va_S.rf
  unfold w_X1_heard at hw
  refine lv_aload_n hx hb dX1_heard_0 rfl (lv_at hl 0 rfl) ?_
  refine lv_iconst (v := 0) hx hb dX1_heard_1 (by decide) ?_
  refine xm_putI (M := M) (k := 0) hx hb hts in_X1 hown hK hR hS (by decide) (hts _ q966) rfl rfl rfl rfl dX1_heard_2 (fun H locs hR hS => ?_)
  obtain ⟨M_1, eM_1⟩ : ∃ z, z = (m1 M 0 0) := ⟨_, rfl⟩
  rw [← eM_1] at hR
  have hw := hw M_1 eM_1
  refine lv_aload_n hx hb dX1_heard_5 rfl (lv_at hl 0 rfl) ?_
  refine lv_iload_n hx hb dX1_heard_6 rfl (lv_at hl 1 rfl) ?_
  refine xm_ci (va_runV (As := [.int x1]) (rest := []) ⟨hx, hb, hml, hown, hts⟩ (mt_X1_noStreet l hw) (cwV 1 hts (lw_V q1096 q1098 qs36 q65 q1099) rfl rfl rfl hd_X1_noStreet ⟨Nat.le_of_ble_eq_true rfl, Nat.le_of_ble_eq_true rfl⟩) ⟨x_Pc_blind, xm_recv hR hK, x_Pc_pre hR hz hS hK⟩ rfl rfl hl.1 rfl (lv_room (Nat.le_of_ble_eq_true rfl)) dX1_heard_7 ⟨Nat.le_refl _, Nat.le_refl _⟩) hS (fun r_2 M_3 H locs hp hR hS => ?_)
  have hw := hp.2
  rw [hp.1] at hR
  refine lv_if_eq (tgt := 15) hx hb dX1_heard_10 (by decide) (fun c_4 => ?_) (fun c_4 => ?_)
  · have hw := x_t hw c_4
    refine lv_aload_n hx hb dX1_heard_15 rfl (lv_at hl 0 rfl) ?_
    refine xm_cv (va_runV (As := []) (rest := []) ⟨hx, hb, hml, hown, hts⟩ (mt_X1_measure l hw) (cwV 0 hts (lw_V q1104 q1106 qs37 q65 q1107) rfl rfl rfl hd_X1_measure ⟨Nat.le_of_ble_eq_true rfl, Nat.le_of_ble_eq_true rfl⟩) ⟨x_Pc_blind, xm_recv hR hK, x_Pc_pre hR hz hS hK⟩ rfl rfl hl.1 rfl (lv_room (Nat.le_of_ble_eq_true rfl)) dX1_heard_16 ⟨Nat.le_refl _, Nat.le_refl _⟩) hS (fun M_5 H locs hp hR hS => ?_)
    have hw := hp
    refine lv_aload_n hx hb dX1_heard_19 rfl (lv_at hl 0 rfl) ?_
    refine lv_iload_n hx hb dX1_heard_20 rfl (lv_at hl 1 rfl) ?_
    refine xm_ci (va_runV (As := [.int x1]) (rest := []) ⟨hx, hb, hml, hown, hts⟩ (mt_X1_heardAt l hw) (cwV 1 hts (lw_V q1165 q1167 qs42 q65 q1168) rfl rfl rfl hd_X1_heardAt ⟨Nat.le_of_ble_eq_true rfl, Nat.le_of_ble_eq_true rfl⟩) ⟨x_Pc_blind, xm_recv hR hK, x_Pc_pre hR hz hS hK⟩ rfl rfl hl.1 rfl (lv_room (Nat.le_of_ble_eq_true rfl)) dX1_heard_21 ⟨Nat.le_refl _, Nat.le_refl _⟩) hS (fun r_6 M_7 H locs hp hR hS => ?_)
    have hw := hp.2
    rw [hp.1] at hR
    exact xm_ri hx hb hr hlocks hR hS dX1_heard_24 hw
  · have hw := x_f hw c_4
    refine lv_iconst (v := (-1)) hx hb dX1_heard_13 (by decide) ?_
    exact xm_ri hx hb hr hlocks hR hS dX1_heard_14 hw
def w_X1_tender (M : xM) (x1 : Int32) (x2 : Int32) (Q : Int32 → xM → Prop) : Prop := nm (m1 M 0 0) (fun M_1 : xM => w_X1_in M_1 (Int32.toInt64 x1) 0 1 (fun (r_2 : Int32) => wif (r_2 = 0) (Q (-2) M_1) (jn (fun (v2_5 : Int64) => w_X1_in M_1 (Int32.toInt64 x2) 0 v2_5 (fun (r_7 : Int32) => wif (r_7 = 0) (Q (-2) M_1) (jn (fun (v0_10 : Int32) => wif (x1 = 0) (nm (m1 M_1 25 x2) (fun M_14 : xM => Q v0_10 M_14)) (nm (m1 M_1 26 x2) (fun M_13 : xM => Q v0_10 M_13))) (fun J_11 => wif (x1 = 0) (J_11 (M1 M_1 25)) (J_11 (M1 M_1 26)))))) (fun J_6 => wif (x1 = 0) (J_6 40) (J_6 100)))))
theorem hd_X1_tender : yX1_tender.cls = "PressedMenModel" ∧ yX1_tender.cls ≠ "java/lang/invoke/MethodHandle" ∧ yX1_tender.cls ≠ "java/lang/invoke/VarHandle" ∧ (parseMethodDescriptor yX1_tender.desc).map (fun d => d.parameters.length) = some 2 := by decide +kernel
set_option maxHeartbeats 4000000 in
theorem mt_X1_tender (l : Launch) {D : va_G} {d : Nat → ClassId} {base : Nat} {mo : Nat} {Aa : Nat → Nat} {M : xM} {S : xH} {x1 : Int32} {x2 : Int32} {Q : Int32 → xM → Prop} (hw : w_X1_tender M x1 x2 Q) : Met l yX1_tender (ws_ yX1_tender cX1_tender 4 (some FieldType.int)) (x_rm 1 0 0 25) (x_Pc D d base (x_mc d mo Aa M) S [.ref mo, .int x1, .int x2]) (xm_Qi D d base mo Aa S (fun r M' => Q r M')) 0 0 (x_A base) := by
  refine x_met (by decide) (Nat.le_of_ble_eq_true rfl) ?_
  intro p e s m below meth c hx hb hml hr hlocks hown hts hz hR hK hin ls hl
  have hown : s.vm.findClass "PressedMenModel" = some m.cls := hown
  have hl : lv_has ls 4 [(0, .ref mo), (1, .int x1), (2, .int x2)] := hl
  have hS : va_S (x_A base) s.heap s.heap [] := va_S.rf
  unfold w_X1_tender at hw
  refine lv_aload_n hx hb dX1_tender_0 rfl (lv_at hl 0 rfl) ?_
  refine lv_iconst (v := 0) hx hb dX1_tender_1 (by decide) ?_
  refine xm_putI (M := M) (k := 0) hx hb hts in_X1 hown hK hR hS (by decide) (hts _ q966) rfl rfl rfl rfl dX1_tender_2 (fun H locs hR hS => ?_)
  obtain ⟨M_1, eM_1⟩ : ∃ z, z = (m1 M 0 0) := ⟨_, rfl⟩
  rw [← eM_1] at hR
  have hw := hw M_1 eM_1
  refine lv_iload_n hx hb dX1_tender_5 rfl (lv_at hl 1 rfl) ?_
  refine lv_i2l (v := (Int32.toInt64 x1)) hx hb dX1_tender_6 rfl ?_
  refine lv_lconst (v := 0) hx hb dX1_tender_7 (by decide) ?_
  refine lv_lconst (v := 1) hx hb dX1_tender_8 (by decide) ?_
  refine xm_ci (va_runS (As := [.long (Int32.toInt64 x1), .long 0, .long 1]) (rest := []) ⟨hx, hb, hml, hown, hts⟩ (mt_X1_in l hw) (va_cwS 3 hts (lw_S q1089 q1090 q65 q1091) rfl rfl rfl hd_X1_in.2 ⟨Nat.le_of_ble_eq_true rfl, Nat.le_of_ble_eq_true rfl⟩) ⟨x_Pc_blind, x_Pc_pre hR hz hS hK⟩ rfl rfl hl.1 rfl (lv_room (Nat.le_of_ble_eq_true rfl)) dX1_tender_9 ⟨Nat.le_refl _, Nat.le_refl _⟩) hS (fun r_2 M_3 H locs hp hR hS => ?_)
  have hw := hp.2
  rw [hp.1] at hR
  refine lv_if_eq (tgt := 37) hx hb dX1_tender_12 (by decide) (fun c_4 => ?_) (fun c_4 => ?_)
  · have hw := x_t hw c_4
    refine lv_bipush (v := (-2)) hx hb dX1_tender_37 (by decide) ?_
    exact xm_ri hx hb hr hlocks hR hS dX1_tender_39 hw
  · have hw := x_f hw c_4
    refine lv_iload_n hx hb dX1_tender_15 rfl (lv_at hl 2 rfl) ?_
    refine lv_i2l (v := (Int32.toInt64 x2)) hx hb dX1_tender_16 rfl ?_
    refine lv_lconst (v := 0) hx hb dX1_tender_17 (by decide) ?_
    refine lv_iload_n hx hb dX1_tender_18 rfl (lv_at hl 1 rfl) ?_
    refine x_jn (G := fun (v2_5 : Int64) => ∀ (ls : Array Slot) (H : Heap) (locs : List Loc), x_Rp D d (x_A base) (x_mc d mo Aa M_1) S H → va_S (x_A base) s.heap H locs → lv_has ls 4 [(0, .ref mo), (1, .int x1), (2, .int x2)] → W p l e (x_rm 1 0 0 25) s m ([.ref mo, .int x1, .int x2] : List Value).toArray below meth c H locs 0 0 (MQ below (xm_Qi D d base mo Aa S (fun r M' => Q r M')) ([.ref mo, .int x1, .int x2] : List Value).toArray s 0 0 (x_A base)) (F0 m 31 ls [.long v2_5, .long 0, .long (Int32.toInt64 x2)])) hw (fun v2_5 hw => ?_) (fun hJ_6 hw => ?_)
    · intro ls H locs hR hS hl
      refine xm_ci (va_runS (As := [.long (Int32.toInt64 x2), .long 0, .long v2_5]) (rest := []) ⟨hx, hb, hml, hown, hts⟩ (mt_X1_in l hw) (va_cwS 3 hts (lw_S q1089 q1090 q65 q1091) rfl rfl rfl hd_X1_in.2 ⟨Nat.le_of_ble_eq_true rfl, Nat.le_of_ble_eq_true rfl⟩) ⟨x_Pc_blind, x_Pc_pre hR hz hS hK⟩ rfl rfl hl.1 rfl (lv_room (Nat.le_of_ble_eq_true rfl)) dX1_tender_31 ⟨Nat.le_refl _, Nat.le_refl _⟩) hS (fun r_7 M_8 H locs hp hR hS => ?_)
      have hw := hp.2
      rw [hp.1] at hR
      refine lv_if_ne (tgt := 40) hx hb dX1_tender_34 (by decide) (fun c_9 => ?_) (fun c_9 => ?_)
      · have hw := x_f hw c_9
        refine lv_iload_n hx hb dX1_tender_40 rfl (lv_at hl 1 rfl) ?_
        refine x_jn (G := fun (v0_10 : Int32) => ∀ (ls : Array Slot) (H : Heap) (locs : List Loc), x_Rp D d (x_A base) (x_mc d mo Aa M_1) S H → va_S (x_A base) s.heap H locs → lv_has ls 4 [(0, .ref mo), (1, .int x1), (2, .int x2)] → W p l e (x_rm 1 0 0 25) s m ([.ref mo, .int x1, .int x2] : List Value).toArray below meth c H locs 0 0 (MQ below (xm_Qi D d base mo Aa S (fun r M' => Q r M')) ([.ref mo, .int x1, .int x2] : List Value).toArray s 0 0 (x_A base)) (F0 m 55 ls [.int v0_10])) hw (fun v0_10 hw => ?_) (fun hJ_11 hw => ?_)
        · intro ls H locs hR hS hl
          refine lv_istore_n (lv' := [(3, .int v0_10), (0, .ref mo), (1, .int x1), (2, .int x2)]) hx hb dX1_tender_55 rfl hl (by decide) rfl (fun ls hl => ?_)
          refine lv_iload_n hx hb dX1_tender_56 rfl (lv_at hl 2 rfl) ?_
          refine lv_if_ne (tgt := 68) hx hb dX1_tender_57 (by decide) (fun c_12 => ?_) (fun c_12 => ?_)
          · have hw := x_f hw c_12
            refine lv_aload_n hx hb dX1_tender_68 rfl (lv_at hl 1 rfl) ?_
            refine lv_iload_n hx hb dX1_tender_69 rfl (lv_at hl 3 rfl) ?_
            refine xm_putI (M := M_1) (k := 26) hx hb hts in_X1 hown hK hR hS (by decide) (hts _ q992) rfl rfl rfl rfl dX1_tender_70 (fun H locs hR hS => ?_)
            obtain ⟨M_13, eM_13⟩ : ∃ z, z = (m1 M_1 26 x2) := ⟨_, rfl⟩
            rw [← eM_13] at hR
            have hw := hw M_13 eM_13
            refine lv_iload_n hx hb dX1_tender_73 rfl (lv_at hl 0 rfl) ?_
            exact xm_ri hx hb hr hlocks hR hS dX1_tender_74 hw
          · have hw := x_t hw c_12
            refine lv_aload_n hx hb dX1_tender_60 rfl (lv_at hl 1 rfl) ?_
            refine lv_iload_n hx hb dX1_tender_61 rfl (lv_at hl 3 rfl) ?_
            refine xm_putI (M := M_1) (k := 25) hx hb hts in_X1 hown hK hR hS (by decide) (hts _ q991) rfl rfl rfl rfl dX1_tender_62 (fun H locs hR hS => ?_)
            obtain ⟨M_14, eM_14⟩ : ∃ z, z = (m1 M_1 25 x2) := ⟨_, rfl⟩
            rw [← eM_14] at hR
            have hw := hw M_14 eM_14
            refine lv_goto (tgt := 73) hx hb dX1_tender_65 (by decide) ?_
            refine lv_iload_n hx hb dX1_tender_73 rfl (lv_at hl 0 rfl) ?_
            exact xm_ri hx hb hr hlocks hR hS dX1_tender_74 hw
        · refine lv_if_ne (tgt := 51) hx hb dX1_tender_41 (by decide) (fun c_15 => ?_) (fun c_15 => ?_)
          · have hw := x_f hw c_15
            refine lv_aload_n hx hb dX1_tender_51 rfl (lv_at hl 0 rfl) ?_
            refine xm_getI (k := 26) hx hb hts in_X1 hown hK hR (by decide) (hts _ q992) rfl dX1_tender_52 ?_
            exact hJ_11 (M1 M_1 26) hw ls _ _ hR hS (lv_sub hl [0, 1, 2] rfl)
          · have hw := x_t hw c_15
            refine lv_aload_n hx hb dX1_tender_44 rfl (lv_at hl 0 rfl) ?_
            refine xm_getI (k := 25) hx hb hts in_X1 hown hK hR (by decide) (hts _ q991) rfl dX1_tender_45 ?_
            refine lv_goto (tgt := 55) hx hb dX1_tender_48 (by decide) ?_
            exact hJ_11 (M1 M_1 25) hw ls _ _ hR hS (lv_sub hl [0, 1, 2] rfl)
      · have hw := x_t hw c_9
        refine lv_bipush (v := (-2)) hx hb dX1_tender_37 (by decide) ?_
        exact xm_ri hx hb hr hlocks hR hS dX1_tender_39 hw
    · refine lv_if_ne (tgt := 28) hx hb dX1_tender_19 (by decide) (fun c_16 => ?_) (fun c_16 => ?_)
      · have hw := x_f hw c_16
        refine lv_ldc2 (v := 100) hx hb hown (hts _ q1314) dX1_tender_28 ?_
        exact hJ_6 100 hw ls _ _ hR hS (lv_sub hl [0, 1, 2] rfl)
      · have hw := x_t hw c_16
        refine lv_ldc2 (v := 40) hx hb hown (hts _ q1118) dX1_tender_22 ?_
        refine lv_goto (tgt := 31) hx hb dX1_tender_25 (by decide) ?_
        exact hJ_6 40 hw ls _ _ hR hS (lv_sub hl [0, 1, 2] rfl)
def w_X1_badGangs (M : xM) (x0 : Int32) (x1 : Int32) (Q : Int32 → Prop) : Prop := w_X1_in M (Int32.toInt64 x0) 1 2 (fun (r_1 : Int32) => wif (r_1 = 0) (Q 1) (w_X1_in M (Int32.toInt64 x1) 1 3 (fun (r_4 : Int32) => wif (r_4 = 0) (Q 1) (Q 0))))
theorem hd_X1_badGangs : yX1_badGangs.cls = "PressedMenModel" ∧ yX1_badGangs.cls ≠ "java/lang/invoke/MethodHandle" ∧ yX1_badGangs.cls ≠ "java/lang/invoke/VarHandle" ∧ (parseMethodDescriptor yX1_badGangs.desc).map (fun d => d.parameters.length) = some 2 := by decide +kernel
set_option maxHeartbeats 4000000 in
theorem mt_X1_badGangs (l : Launch) {D : va_G} {d : Nat → ClassId} {base : Nat} {mo : Nat} {Aa : Nat → Nat} {M : xM} {S : xH} {x0 : Int32} {x1 : Int32} {Q : Int32 → Prop} (hw : w_X1_badGangs M x0 x1 Q) : Met l yX1_badGangs (ws_ yX1_badGangs cX1_badGangs 2 (some FieldType.boolean)) (x_rm 1 0 0 25) (x_Pc D d base (x_mc d mo Aa M) S [.int x0, .int x1]) (xm_Qi D d base mo Aa S (fun r M' => M' = M ∧ Q r)) 0 0 (x_A base) := by
  refine x_met (by decide) (Nat.le_of_ble_eq_true rfl) ?_
  intro p e s m below meth c hx hb hml hr hlocks hown hts hz hR hK hin ls hl
  have hown : s.vm.findClass "PressedMenModel" = some m.cls := hown
  have hl : lv_has ls 2 [(0, .int x0), (1, .int x1)] := hl
  have hS : va_S (x_A base) s.heap s.heap [] := va_S.rf
  unfold w_X1_badGangs at hw
  refine lv_iload_n hx hb dX1_badGangs_0 rfl (lv_at hl 0 rfl) ?_
  refine lv_i2l (v := (Int32.toInt64 x0)) hx hb dX1_badGangs_1 rfl ?_
  refine lv_lconst (v := 1) hx hb dX1_badGangs_2 (by decide) ?_
  refine lv_ldc2 (v := 2) hx hb hown (hts _ q1322) dX1_badGangs_3 ?_
  refine xm_ci (va_runS (As := [.long (Int32.toInt64 x0), .long 1, .long 2]) (rest := []) ⟨hx, hb, hml, hown, hts⟩ (mt_X1_in l hw) (va_cwS 3 hts (lw_S q1089 q1090 q65 q1091) rfl rfl rfl hd_X1_in.2 ⟨Nat.le_of_ble_eq_true rfl, Nat.le_of_ble_eq_true rfl⟩) ⟨x_Pc_blind, x_Pc_pre hR hz hS hK⟩ rfl rfl hl.1 rfl (lv_room (Nat.le_of_ble_eq_true rfl)) dX1_badGangs_6 ⟨Nat.le_refl _, Nat.le_refl _⟩) hS (fun r_1 M_2 H locs hp hR hS => ?_)
  have hw := hp.2
  rw [hp.1] at hR
  refine lv_if_eq (tgt := 24) hx hb dX1_badGangs_9 (by decide) (fun c_3 => ?_) (fun c_3 => ?_)
  · have hw := x_t hw c_3
    refine lv_iconst (v := 1) hx hb dX1_badGangs_24 (by decide) ?_
    refine lv_goto (tgt := 29) hx hb dX1_badGangs_25 (by decide) ?_
    exact xm_rz hx hb hr hlocks hR hS dX1_badGangs_29 (Or.inr rfl) ⟨rfl, hw⟩
  · have hw := x_f hw c_3
    refine lv_iload_n hx hb dX1_badGangs_12 rfl (lv_at hl 1 rfl) ?_
    refine lv_i2l (v := (Int32.toInt64 x1)) hx hb dX1_badGangs_13 rfl ?_
    refine lv_lconst (v := 1) hx hb dX1_badGangs_14 (by decide) ?_
    refine lv_ldc2 (v := 3) hx hb hown (hts _ q1114) dX1_badGangs_15 ?_
    refine xm_ci (va_runS (As := [.long (Int32.toInt64 x1), .long 1, .long 3]) (rest := []) ⟨hx, hb, hml, hown, hts⟩ (mt_X1_in l hw) (va_cwS 3 hts (lw_S q1089 q1090 q65 q1091) rfl rfl rfl hd_X1_in.2 ⟨Nat.le_of_ble_eq_true rfl, Nat.le_of_ble_eq_true rfl⟩) ⟨x_Pc_blind, x_Pc_pre hR hz hS hK⟩ rfl rfl hl.1 rfl (lv_room (Nat.le_of_ble_eq_true rfl)) dX1_badGangs_18 ⟨Nat.le_refl _, Nat.le_refl _⟩) hS (fun r_4 M_5 H locs hp hR hS => ?_)
    have hw := hp.2
    rw [hp.1] at hR
    refine lv_if_ne (tgt := 28) hx hb dX1_badGangs_21 (by decide) (fun c_6 => ?_) (fun c_6 => ?_)
    · have hw := x_f hw c_6
      refine lv_iconst (v := 0) hx hb dX1_badGangs_28 (by decide) ?_
      exact xm_rz hx hb hr hlocks hR hS dX1_badGangs_29 (Or.inl rfl) ⟨rfl, hw⟩
    · have hw := x_t hw c_6
      refine lv_iconst (v := 1) hx hb dX1_badGangs_24 (by decide) ?_
      refine lv_goto (tgt := 29) hx hb dX1_badGangs_25 (by decide) ?_
      exact xm_rz hx hb hr hlocks hR hS dX1_badGangs_29 (Or.inr rfl) ⟨rfl, hw⟩
def w_X1_meet (M : xM) (x1 : Int32) (x2 : Int32) (x3 : Int32) (Q : Int32 → xM → Prop) : Prop := nm ((x2 * x3) - 1) (fun x5_1 : Int32 => lf3 (fun L_5 (x4_2 : Int32) (x5_3 : Int32) (M_4 : xM) => wif (x5_3 < 0) (lf1 (fun L_8 (x5_7 : Int32) => wif ((x2 * x3) ≤ x5_7) (lf2 (fun L_12 (x5_10 : Int32) (M_11 : xM) => wif (8 ≤ x5_10) (lf3 (fun L_17 (x5_14 : Int32) (x6_15 : Int32) (M_16 : xM) => wif (x3 ≤ x6_15) (Q x5_14 M_16) (lf3 (fun L_22 (x5_19 : Int32) (x7_20 : Int32) (M_21 : xM) => wif (x2 ≤ x7_20) (L_17 x5_19 (x6_15 + 1) M_21) (vp_in ((x7_20 * x3) + x6_15) 6 ∧ nm (M2 M_21 28 (Int32.toNatClampNeg ((x7_20 * x3) + x6_15))) (fun x8_24 : Int32 => vp_in x8_24 8 ∧ jn (fun (v0_25 : Int32) => lf2 (fun L_29 (x9_27 : Int32) (x10_28 : Int32) => wif ((M1 M_21 1) ≤ x10_28) (jn2 (fun (x5_31 : Int32) (M_32 : xM) => L_22 x5_31 (x7_20 + 1) M_32) (fun J_33 => wif (x9_27 = 0) (J_33 x5_19 M_21) (vp_in x8_24 8 ∧ nm (m2 M_21 29 (Int32.toNatClampNeg x8_24) x6_15) (fun M_35 : xM => vp_in x8_24 8 ∧ nm (x5_19 + (M2 M_35 27 (Int32.toNatClampNeg x8_24))) (fun x5_36 : Int32 => J_33 x5_36 M_35))))) (jn (fun (v0_37 : Int32) => L_29 v0_37 (x10_28 + 1)) (fun J_38 => jn0 (J_38 0) (fun J_39 => wif (x9_27 = 0) (J_39) (vp_in x10_28 8 ∧ jn0 (J_38 1) (fun J_41 => wif ((M2 M_21 29 (Int32.toNatClampNeg x10_28)) = (-9)) (J_41) (vp_in x10_28 8 ∧ wif ((M2 M_21 29 (Int32.toNatClampNeg x10_28)) = x6_15) (J_41) (vp_in x10_28 8 ∧ vp_in ((8 * x10_28) + x8_24) 64 ∧ wif ((M2 M_21 3 (Int32.toNatClampNeg ((8 * x10_28) + x8_24))) ≤ (x6_15 - (M2 M_21 29 (Int32.toNatClampNeg x10_28)))) (J_39) (J_41))))))))) v0_25 0) (fun J_26 => jn0 (J_26 0) (fun J_45 => wif ((M2 M_21 27 (Int32.toNatClampNeg x8_24)) ≤ 0) (J_45) (vp_in x8_24 8 ∧ wif ((M2 M_21 29 (Int32.toNatClampNeg x8_24)) = (-9)) (J_26 1) (J_45))))))) x5_14 0 M_16)) 0 0 M_11) (vp_in x5_10 8 ∧ nm (m2 M_11 29 (Int32.toNatClampNeg x5_10) (-9)) (fun M_48 : xM => L_12 (x5_10 + 1) M_48))) 0 M_4) (¬ x3 = 0 ∧ jn0 (L_8 (x5_7 + 1)) (fun J_49 => wif ((x5_7 - x5_7 / x3 * x3) ≤ 0) (J_49) (vp_in (x5_7 - 1) 6 ∧ vp_in x5_7 6 ∧ vp_in ((8 * (M2 M_4 28 (Int32.toNatClampNeg (x5_7 - 1)))) + (M2 M_4 28 (Int32.toNatClampNeg x5_7))) 64 ∧ wif ((M2 M_4 3 (Int32.toNatClampNeg ((8 * (M2 M_4 28 (Int32.toNatClampNeg (x5_7 - 1)))) + (M2 M_4 28 (Int32.toNatClampNeg x5_7))))) ≤ 1) (J_49) (Q (-9) M_4))))) 0) (¬ (M1 M_4 1) = 0 ∧ vp_in x5_3 6 ∧ nm (m2 M_4 28 (Int32.toNatClampNeg x5_3) (x4_2 - x4_2 / (M1 M_4 1) * (M1 M_4 1))) (fun M_52 : xM => ¬ (M1 M_52 1) = 0 ∧ nm (x4_2 / (M1 M_52 1)) (fun x4_53 : Int32 => L_5 x4_53 (x5_3 + (-1)) M_52)))) x1 x5_1 M)
theorem hd_X1_meet : yX1_meet.cls = "PressedMenModel" ∧ yX1_meet.cls ≠ "java/lang/invoke/MethodHandle" ∧ yX1_meet.cls ≠ "java/lang/invoke/VarHandle" ∧ (parseMethodDescriptor yX1_meet.desc).map (fun d => d.parameters.length) = some 3 := by decide +kernel
set_option maxHeartbeats 4000000 in
theorem mt_X1_meet (l : Launch) {D : va_G} {d : Nat → ClassId} {base : Nat} {mo : Nat} {Aa : Nat → Nat} {M : xM} {S : xH} {x1 : Int32} {x2 : Int32} {x3 : Int32} {Q : Int32 → xM → Prop} (hw : w_X1_meet M x1 x2 x3 Q) : Met l yX1_meet (ws_ yX1_meet cX1_meet 11 (some FieldType.int)) (x_rm 0 0 0 0) (x_Pc D d base (x_mc d mo Aa M) S [.ref mo, .int x1, .int x2, .int x3]) (xm_Qi D d base mo Aa S (fun r M' => Q r M')) 0 0 (x_A base) := by
  refine x_met (by decide) (Nat.le_of_ble_eq_true rfl) ?_
  intro p e s m below meth c hx hb hml hr hlocks hown hts hz hR hK hin ls hl
  have hown : s.vm.findClass "PressedMenModel" = some m.cls := hown
  have hl : lv_has ls 11 [(0, .ref mo), (1, .int x1), (2, .int x2), (3, .int x3)] := hl
  have hS : va_S (x_A base) s.heap s.heap [] := va_S.rf
  unfold w_X1_meet at hw
  refine lv_iload_n hx hb dX1_meet_0 rfl (lv_at hl 1 rfl) ?_
  refine lv_istore (lv' := [(4, .int x1), (0, .ref mo), (1, .int x1), (2, .int x2), (3, .int x3)]) hx hb dX1_meet_1 hl (by decide) rfl (fun ls hl => ?_)
  refine lv_iload_n hx hb dX1_meet_3 rfl (lv_at hl 3 rfl) ?_
  refine lv_iload_n hx hb dX1_meet_4 rfl (lv_at hl 4 rfl) ?_
  refine lv_imul hx hb dX1_meet_5 ?_
  refine lv_iconst (v := 1) hx hb dX1_meet_6 (by decide) ?_
  refine lv_isub hx hb dX1_meet_7 ?_
  refine lv_topi (fun x5_1 ex5_1 => ?_)
  have hw := hw x5_1 ex5_1
  refine lv_istore (lv' := [(5, .int x5_1), (4, .int x1), (0, .ref mo), (1, .int x1), (2, .int x2), (3, .int x3)]) hx hb dX1_meet_8 hl (by decide) rfl (fun ls hl => ?_)
  refine x_lf3 (G := fun (x4_2 : Int32) (x5_3 : Int32) (M_4 : xM) => ∀ (ls : Array Slot) (H : Heap) (locs : List Loc), x_Rp D d (x_A base) (x_mc d mo Aa M_4) S H → va_S (x_A base) s.heap H locs → lv_has ls 11 [(0, .ref mo), (2, .int x2), (3, .int x3), (4, .int x4_2), (5, .int x5_3)] → W p l e (x_rm 0 0 0 0) s m ([.ref mo, .int x1, .int x2, .int x3] : List Value).toArray below meth c H locs 0 0 (MQ below (xm_Qi D d base mo Aa S (fun r M' => Q r M')) ([.ref mo, .int x1, .int x2, .int x3] : List Value).toArray s 0 0 (x_A base)) (F0 m 10 ls [])) hw (fun x4_2 x5_3 M_4 hw => ?_) ls _ _ hR hS (lv_sub hl [2, 4, 5, 1, 0] rfl)
  intro ls H locs hR hS hl
  refine lv_iload hx hb dX1_meet_10 (lv_at hl 4 rfl) ?_
  refine lv_if_lt (tgt := 44) hx hb dX1_meet_12 (by decide) (fun c_6 => ?_) (fun c_6 => ?_)
  · have hw := x_t hw c_6
    refine lv_iconst (v := 0) hx hb dX1_meet_44 (by decide) ?_
    refine lv_istore (lv' := [(5, .int 0), (0, .ref mo), (2, .int x2), (3, .int x3), (4, .int x4_2)]) hx hb dX1_meet_45 hl (by decide) rfl (fun ls hl => ?_)
    refine x_lf1 (G := fun (x5_7 : Int32) => ∀ (ls : Array Slot) (H : Heap) (locs : List Loc), x_Rp D d (x_A base) (x_mc d mo Aa M_4) S H → va_S (x_A base) s.heap H locs → lv_has ls 11 [(0, .ref mo), (2, .int x2), (3, .int x3), (5, .int x5_7)] → W p l e (x_rm 0 0 0 0) s m ([.ref mo, .int x1, .int x2, .int x3] : List Value).toArray below meth c H locs 0 0 (MQ below (xm_Qi D d base mo Aa S (fun r M' => Q r M')) ([.ref mo, .int x1, .int x2, .int x3] : List Value).toArray s 0 0 (x_A base)) (F0 m 47 ls [])) hw (fun x5_7 hw => ?_) ls _ _ hR hS (lv_sub hl [1, 2, 3, 0] rfl)
    intro ls H locs hR hS hl
    refine lv_iload hx hb dX1_meet_47 (lv_at hl 3 rfl) ?_
    refine lv_iload_n hx hb dX1_meet_49 rfl (lv_at hl 1 rfl) ?_
    refine lv_iload_n hx hb dX1_meet_50 rfl (lv_at hl 2 rfl) ?_
    refine lv_imul hx hb dX1_meet_51 ?_
    refine lv_icmp_ge (tgt := 100) hx hb dX1_meet_52 (by decide) (fun c_9 => ?_) (fun c_9 => ?_)
    · have hw := x_t hw c_9
      refine lv_iconst (v := 0) hx hb dX1_meet_100 (by decide) ?_
      refine lv_istore (lv' := [(5, .int 0), (0, .ref mo), (2, .int x2), (3, .int x3)]) hx hb dX1_meet_101 hl (by decide) rfl (fun ls hl => ?_)
      refine x_lf2 (G := fun (x5_10 : Int32) (M_11 : xM) => ∀ (ls : Array Slot) (H : Heap) (locs : List Loc), x_Rp D d (x_A base) (x_mc d mo Aa M_11) S H → va_S (x_A base) s.heap H locs → lv_has ls 11 [(0, .ref mo), (2, .int x2), (3, .int x3), (5, .int x5_10)] → W p l e (x_rm 0 0 0 0) s m ([.ref mo, .int x1, .int x2, .int x3] : List Value).toArray below meth c H locs 0 0 (MQ below (xm_Qi D d base mo Aa S (fun r M' => Q r M')) ([.ref mo, .int x1, .int x2, .int x3] : List Value).toArray s 0 0 (x_A base)) (F0 m 103 ls [])) hw (fun x5_10 M_11 hw => ?_) ls _ _ hR hS (lv_sub hl [1, 2, 3, 0] rfl)
      intro ls H locs hR hS hl
      refine lv_iload hx hb dX1_meet_103 (lv_at hl 3 rfl) ?_
      refine lv_bipush (v := 8) hx hb dX1_meet_105 (by decide) ?_
      refine lv_icmp_ge (tgt := 125) hx hb dX1_meet_107 (by decide) (fun c_13 => ?_) (fun c_13 => ?_)
      · have hw := x_t hw c_13
        refine lv_iconst (v := 0) hx hb dX1_meet_125 (by decide) ?_
        refine lv_istore (lv' := [(5, .int 0), (0, .ref mo), (2, .int x2), (3, .int x3)]) hx hb dX1_meet_126 hl (by decide) rfl (fun ls hl => ?_)
        refine lv_iconst (v := 0) hx hb dX1_meet_128 (by decide) ?_
        refine lv_istore (lv' := [(6, .int 0), (5, .int 0), (0, .ref mo), (2, .int x2), (3, .int x3)]) hx hb dX1_meet_129 hl (by decide) rfl (fun ls hl => ?_)
        refine x_lf3 (G := fun (x5_14 : Int32) (x6_15 : Int32) (M_16 : xM) => ∀ (ls : Array Slot) (H : Heap) (locs : List Loc), x_Rp D d (x_A base) (x_mc d mo Aa M_16) S H → va_S (x_A base) s.heap H locs → lv_has ls 11 [(0, .ref mo), (2, .int x2), (3, .int x3), (5, .int x5_14), (6, .int x6_15)] → W p l e (x_rm 0 0 0 0) s m ([.ref mo, .int x1, .int x2, .int x3] : List Value).toArray below meth c H locs 0 0 (MQ below (xm_Qi D d base mo Aa S (fun r M' => Q r M')) ([.ref mo, .int x1, .int x2, .int x3] : List Value).toArray s 0 0 (x_A base)) (F0 m 131 ls [])) hw (fun x5_14 x6_15 M_16 hw => ?_) ls _ _ hR hS (lv_sub hl [2, 3, 4, 1, 0] rfl)
        intro ls H locs hR hS hl
        refine lv_iload hx hb dX1_meet_131 (lv_at hl 4 rfl) ?_
        refine lv_iload_n hx hb dX1_meet_133 rfl (lv_at hl 2 rfl) ?_
        refine lv_icmp_ge (tgt := 307) hx hb dX1_meet_134 (by decide) (fun c_18 => ?_) (fun c_18 => ?_)
        · have hw := x_t hw c_18
          refine lv_iload hx hb dX1_meet_307 (lv_at hl 3 rfl) ?_
          exact xm_ri hx hb hr hlocks hR hS dX1_meet_309 hw
        · have hw := x_f hw c_18
          refine lv_iconst (v := 0) hx hb dX1_meet_137 (by decide) ?_
          refine lv_istore (lv' := [(7, .int 0), (0, .ref mo), (2, .int x2), (3, .int x3), (5, .int x5_14), (6, .int x6_15)]) hx hb dX1_meet_138 hl (by decide) rfl (fun ls hl => ?_)
          refine x_lf3 (G := fun (x5_19 : Int32) (x7_20 : Int32) (M_21 : xM) => ∀ (ls : Array Slot) (H : Heap) (locs : List Loc), x_Rp D d (x_A base) (x_mc d mo Aa M_21) S H → va_S (x_A base) s.heap H locs → lv_has ls 11 [(0, .ref mo), (2, .int x2), (3, .int x3), (5, .int x5_19), (6, .int x6_15), (7, .int x7_20)] → W p l e (x_rm 0 0 0 0) s m ([.ref mo, .int x1, .int x2, .int x3] : List Value).toArray below meth c H locs 0 0 (MQ below (xm_Qi D d base mo Aa S (fun r M' => Q r M')) ([.ref mo, .int x1, .int x2, .int x3] : List Value).toArray s 0 0 (x_A base)) (F0 m 140 ls [])) hw (fun x5_19 x7_20 M_21 hw => ?_) ls _ _ hR hS (lv_sub hl [1, 2, 3, 4, 5, 0] rfl)
          intro ls H locs hR hS hl
          refine lv_iload hx hb dX1_meet_140 (lv_at hl 5 rfl) ?_
          refine lv_iload_n hx hb dX1_meet_142 rfl (lv_at hl 1 rfl) ?_
          refine lv_icmp_ge (tgt := 301) hx hb dX1_meet_143 (by decide) (fun c_23 => ?_) (fun c_23 => ?_)
          · have hw := x_t hw c_23
            refine lv_iinc (v := (x6_15 + 1)) (lv' := [(6, .int (x6_15 + 1)), (0, .ref mo), (2, .int x2), (3, .int x3), (5, .int x5_19), (7, .int x7_20)]) hx hb dX1_meet_301 hl (k := 4) rfl rfl (by decide) rfl (fun ls hl => ?_)
            refine lv_goto (tgt := 131) hx hb dX1_meet_304 (by decide) ?_
            exact hw ls _ _ hR hS (lv_sub hl [1, 2, 3, 4, 0] rfl)
          · have hw := x_f hw c_23
            refine lv_aload_n hx hb dX1_meet_146 rfl (lv_at hl 0 rfl) ?_
            refine xm_getA (k := 28) hx hb hts in_X1 hown hK hR (by decide) (hts _ q994) rfl dX1_meet_147 ?_
            refine lv_iload hx hb dX1_meet_150 (lv_at hl 5 rfl) ?_
            refine lv_iload_n hx hb dX1_meet_152 rfl (lv_at hl 2 rfl) ?_
            refine lv_imul hx hb dX1_meet_153 ?_
            refine lv_iload hx hb dX1_meet_154 (lv_at hl 4 rfl) ?_
            refine lv_iadd hx hb dX1_meet_156 ?_
            refine xm_ild (M := M_21) (k := 28) (j := 17) hx hb hK hR dX1_meet_157 rfl hw.1 ?_
            have hw := hw.2
            refine lv_topi (fun x8_24 ex8_24 => ?_)
            have hw := hw x8_24 ex8_24
            refine lv_istore (lv' := [(8, .int x8_24), (0, .ref mo), (2, .int x2), (3, .int x3), (5, .int x5_19), (6, .int x6_15), (7, .int x7_20)]) hx hb dX1_meet_158 hl (by decide) rfl (fun ls hl => ?_)
            refine lv_aload_n hx hb dX1_meet_160 rfl (lv_at hl 1 rfl) ?_
            refine xm_getA (k := 27) hx hb hts in_X1 hown hK hR (by decide) (hts _ q993) rfl dX1_meet_161 ?_
            refine lv_iload hx hb dX1_meet_164 (lv_at hl 0 rfl) ?_
            refine xm_ild (M := M_21) (k := 27) (j := 16) hx hb hK hR dX1_meet_166 rfl hw.1 ?_
            have hw := hw.2
            refine x_jn (G := fun (v0_25 : Int32) => ∀ (ls : Array Slot) (H : Heap) (locs : List Loc), x_Rp D d (x_A base) (x_mc d mo Aa M_21) S H → va_S (x_A base) s.heap H locs → lv_has ls 11 [(0, .ref mo), (2, .int x2), (3, .int x3), (5, .int x5_19), (6, .int x6_15), (7, .int x7_20), (8, .int x8_24)] → W p l e (x_rm 0 0 0 0) s m ([.ref mo, .int x1, .int x2, .int x3] : List Value).toArray below meth c H locs 0 0 (MQ below (xm_Qi D d base mo Aa S (fun r M' => Q r M')) ([.ref mo, .int x1, .int x2, .int x3] : List Value).toArray s 0 0 (x_A base)) (F0 m 187 ls [.int v0_25])) hw (fun v0_25 hw => ?_) (fun hJ_26 hw => ?_)
            · intro ls H locs hR hS hl
              refine lv_istore (lv' := [(9, .int v0_25), (0, .ref mo), (2, .int x2), (3, .int x3), (5, .int x5_19), (6, .int x6_15), (7, .int x7_20), (8, .int x8_24)]) hx hb dX1_meet_187 hl (by decide) rfl (fun ls hl => ?_)
              refine lv_iconst (v := 0) hx hb dX1_meet_189 (by decide) ?_
              refine lv_istore (lv' := [(10, .int 0), (9, .int v0_25), (0, .ref mo), (2, .int x2), (3, .int x3), (5, .int x5_19), (6, .int x6_15), (7, .int x7_20), (8, .int x8_24)]) hx hb dX1_meet_190 hl (by decide) rfl (fun ls hl => ?_)
              refine x_lf2 (G := fun (x9_27 : Int32) (x10_28 : Int32) => ∀ (ls : Array Slot) (H : Heap) (locs : List Loc), x_Rp D d (x_A base) (x_mc d mo Aa M_21) S H → va_S (x_A base) s.heap H locs → lv_has ls 11 [(0, .ref mo), (2, .int x2), (3, .int x3), (5, .int x5_19), (6, .int x6_15), (7, .int x7_20), (8, .int x8_24), (9, .int x9_27), (10, .int x10_28)] → W p l e (x_rm 0 0 0 0) s m ([.ref mo, .int x1, .int x2, .int x3] : List Value).toArray below meth c H locs 0 0 (MQ below (xm_Qi D d base mo Aa S (fun r M' => Q r M')) ([.ref mo, .int x1, .int x2, .int x3] : List Value).toArray s 0 0 (x_A base)) (F0 m 192 ls [])) hw (fun x9_27 x10_28 hw => ?_) ls _ _ hR hS (lv_sub hl [2, 3, 4, 5, 6, 7, 8, 1, 0] rfl)
              intro ls H locs hR hS hl
              refine lv_iload hx hb dX1_meet_192 (lv_at hl 8 rfl) ?_
              refine lv_aload_n hx hb dX1_meet_194 rfl (lv_at hl 0 rfl) ?_
              refine xm_getI (k := 1) hx hb hts in_X1 hown hK hR (by decide) (hts _ q967) rfl dX1_meet_195 ?_
              refine lv_icmp_ge (tgt := 269) hx hb dX1_meet_198 (by decide) (fun c_30 => ?_) (fun c_30 => ?_)
              · have hw := x_t hw c_30
                refine lv_iload hx hb dX1_meet_269 (lv_at hl 7 rfl) ?_
                refine x_jn2 (G := fun (x5_31 : Int32) (M_32 : xM) => ∀ (ls : Array Slot) (H : Heap) (locs : List Loc), x_Rp D d (x_A base) (x_mc d mo Aa M_32) S H → va_S (x_A base) s.heap H locs → lv_has ls 11 [(0, .ref mo), (2, .int x2), (3, .int x3), (5, .int x5_31), (6, .int x6_15), (7, .int x7_20)] → W p l e (x_rm 0 0 0 0) s m ([.ref mo, .int x1, .int x2, .int x3] : List Value).toArray below meth c H locs 0 0 (MQ below (xm_Qi D d base mo Aa S (fun r M' => Q r M')) ([.ref mo, .int x1, .int x2, .int x3] : List Value).toArray s 0 0 (x_A base)) (F0 m 295 ls [])) hw (fun x5_31 M_32 hw => ?_) (fun hJ_33 hw => ?_)
                · intro ls H locs hR hS hl
                  refine lv_iinc (v := (x7_20 + 1)) (lv' := [(7, .int (x7_20 + 1)), (0, .ref mo), (2, .int x2), (3, .int x3), (5, .int x5_31), (6, .int x6_15)]) hx hb dX1_meet_295 hl (k := 5) rfl rfl (by decide) rfl (fun ls hl => ?_)
                  refine lv_goto (tgt := 140) hx hb dX1_meet_298 (by decide) ?_
                  exact hw ls _ _ hR hS (lv_sub hl [1, 2, 3, 4, 5, 0] rfl)
                · refine lv_if_eq (tgt := 295) hx hb dX1_meet_271 (by decide) (fun c_34 => ?_) (fun c_34 => ?_)
                  · have hw := x_t hw c_34
                    exact hJ_33 x5_19 M_21 hw ls _ _ hR hS (lv_sub hl [0, 1, 2, 3, 4, 5] rfl)
                  · have hw := x_f hw c_34
                    refine lv_aload_n hx hb dX1_meet_274 rfl (lv_at hl 0 rfl) ?_
                    refine xm_getA (k := 29) hx hb hts in_X1 hown hK hR (by decide) (hts _ q995) rfl dX1_meet_275 ?_
                    refine lv_iload hx hb dX1_meet_278 (lv_at hl 6 rfl) ?_
                    refine lv_iload hx hb dX1_meet_280 (lv_at hl 4 rfl) ?_
                    refine xm_ist (M := M_21) (k := 29) (j := 18) hx hb hK hR hS dX1_meet_282 rfl hw.1 (fun H locs hR hS => ?_)
                    have hw := hw.2
                    obtain ⟨M_35, eM_35⟩ : ∃ z, z = (m2 M_21 29 (Int32.toNatClampNeg x8_24) x6_15) := ⟨_, rfl⟩
                    rw [← eM_35] at hR
                    have hw := hw M_35 eM_35
                    refine lv_iload hx hb dX1_meet_283 (lv_at hl 3 rfl) ?_
                    refine lv_aload_n hx hb dX1_meet_285 rfl (lv_at hl 0 rfl) ?_
                    refine xm_getA (k := 27) hx hb hts in_X1 hown hK hR (by decide) (hts _ q993) rfl dX1_meet_286 ?_
                    refine lv_iload hx hb dX1_meet_289 (lv_at hl 6 rfl) ?_
                    refine xm_ild (M := M_35) (k := 27) (j := 16) hx hb hK hR dX1_meet_291 rfl hw.1 ?_
                    have hw := hw.2
                    refine lv_iadd hx hb dX1_meet_292 ?_
                    refine lv_topi (fun x5_36 ex5_36 => ?_)
                    have hw := hw x5_36 ex5_36
                    refine lv_istore (lv' := [(5, .int x5_36), (0, .ref mo), (2, .int x2), (3, .int x3), (6, .int x6_15), (7, .int x7_20), (8, .int x8_24), (9, .int x9_27), (10, .int x10_28)]) hx hb dX1_meet_293 hl (by decide) rfl (fun ls hl => ?_)
                    exact hJ_33 x5_36 M_35 hw ls _ _ hR hS (lv_sub hl [1, 2, 3, 0, 4, 5] rfl)
              · have hw := x_f hw c_30
                refine lv_iload hx hb dX1_meet_201 (lv_at hl 7 rfl) ?_
                refine x_jn (G := fun (v0_37 : Int32) => ∀ (ls : Array Slot) (H : Heap) (locs : List Loc), x_Rp D d (x_A base) (x_mc d mo Aa M_21) S H → va_S (x_A base) s.heap H locs → lv_has ls 11 [(0, .ref mo), (2, .int x2), (3, .int x3), (5, .int x5_19), (6, .int x6_15), (7, .int x7_20), (8, .int x8_24), (10, .int x10_28)] → W p l e (x_rm 0 0 0 0) s m ([.ref mo, .int x1, .int x2, .int x3] : List Value).toArray below meth c H locs 0 0 (MQ below (xm_Qi D d base mo Aa S (fun r M' => Q r M')) ([.ref mo, .int x1, .int x2, .int x3] : List Value).toArray s 0 0 (x_A base)) (F0 m 261 ls [.int v0_37])) hw (fun v0_37 hw => ?_) (fun hJ_38 hw => ?_)
                · intro ls H locs hR hS hl
                  refine lv_istore (lv' := [(9, .int v0_37), (0, .ref mo), (2, .int x2), (3, .int x3), (5, .int x5_19), (6, .int x6_15), (7, .int x7_20), (8, .int x8_24), (10, .int x10_28)]) hx hb dX1_meet_261 hl (by decide) rfl (fun ls hl => ?_)
                  refine lv_iinc (v := (x10_28 + 1)) (lv' := [(10, .int (x10_28 + 1)), (9, .int v0_37), (0, .ref mo), (2, .int x2), (3, .int x3), (5, .int x5_19), (6, .int x6_15), (7, .int x7_20), (8, .int x8_24)]) hx hb dX1_meet_263 hl (k := 8) rfl rfl (by decide) rfl (fun ls hl => ?_)
                  refine lv_goto (tgt := 192) hx hb dX1_meet_266 (by decide) ?_
                  exact hw ls _ _ hR hS (lv_sub hl [2, 3, 4, 5, 6, 7, 8, 1, 0] rfl)
                · refine x_jn0 (G := ∀ (ls : Array Slot) (H : Heap) (locs : List Loc), x_Rp D d (x_A base) (x_mc d mo Aa M_21) S H → va_S (x_A base) s.heap H locs → lv_has ls 11 [(0, .ref mo), (2, .int x2), (3, .int x3), (5, .int x5_19), (6, .int x6_15), (7, .int x7_20), (8, .int x8_24), (10, .int x10_28)] → W p l e (x_rm 0 0 0 0) s m ([.ref mo, .int x1, .int x2, .int x3] : List Value).toArray below meth c H locs 0 0 (MQ below (xm_Qi D d base mo Aa S (fun r M' => Q r M')) ([.ref mo, .int x1, .int x2, .int x3] : List Value).toArray s 0 0 (x_A base)) (F0 m 260 ls [])) hw (fun hw => ?_) (fun hJ_39 hw => ?_)
                  · intro ls H locs hR hS hl
                    refine lv_iconst (v := 0) hx hb dX1_meet_260 (by decide) ?_
                    exact hJ_38 0 hw ls _ _ hR hS (lv_sub hl [0, 1, 2, 3, 4, 5, 6, 7] rfl)
                  · refine lv_if_eq (tgt := 260) hx hb dX1_meet_203 (by decide) (fun c_40 => ?_) (fun c_40 => ?_)
                    · have hw := x_t hw c_40
                      exact hJ_39  hw ls _ _ hR hS (lv_sub hl [0, 1, 2, 3, 4, 5, 6, 8] rfl)
                    · have hw := x_f hw c_40
                      refine lv_aload_n hx hb dX1_meet_206 rfl (lv_at hl 0 rfl) ?_
                      refine xm_getA (k := 29) hx hb hts in_X1 hown hK hR (by decide) (hts _ q995) rfl dX1_meet_207 ?_
                      refine lv_iload hx hb dX1_meet_210 (lv_at hl 8 rfl) ?_
                      refine xm_ild (M := M_21) (k := 29) (j := 18) hx hb hK hR dX1_meet_212 rfl hw.1 ?_
                      have hw := hw.2
                      refine lv_bipush (v := (-9)) hx hb dX1_meet_213 (by decide) ?_
                      refine x_jn0 (G := ∀ (ls : Array Slot) (H : Heap) (locs : List Loc), x_Rp D d (x_A base) (x_mc d mo Aa M_21) S H → va_S (x_A base) s.heap H locs → lv_has ls 11 [(0, .ref mo), (2, .int x2), (3, .int x3), (5, .int x5_19), (6, .int x6_15), (7, .int x7_20), (8, .int x8_24), (10, .int x10_28)] → W p l e (x_rm 0 0 0 0) s m ([.ref mo, .int x1, .int x2, .int x3] : List Value).toArray below meth c H locs 0 0 (MQ below (xm_Qi D d base mo Aa S (fun r M' => Q r M')) ([.ref mo, .int x1, .int x2, .int x3] : List Value).toArray s 0 0 (x_A base)) (F0 m 256 ls [])) hw (fun hw => ?_) (fun hJ_41 hw => ?_)
                      · intro ls H locs hR hS hl
                        refine lv_iconst (v := 1) hx hb dX1_meet_256 (by decide) ?_
                        refine lv_goto (tgt := 261) hx hb dX1_meet_257 (by decide) ?_
                        exact hJ_38 1 hw ls _ _ hR hS (lv_sub hl [0, 1, 2, 3, 4, 5, 6, 7] rfl)
                      · refine lv_icmp_eq (tgt := 256) hx hb dX1_meet_215 (by decide) (fun c_42 => ?_) (fun c_42 => ?_)
                        · have hw := x_t hw c_42
                          exact hJ_41  hw ls _ _ hR hS (lv_sub hl [0, 1, 2, 3, 4, 5, 6, 8] rfl)
                        · have hw := x_f hw c_42
                          refine lv_aload_n hx hb dX1_meet_218 rfl (lv_at hl 0 rfl) ?_
                          refine xm_getA (k := 29) hx hb hts in_X1 hown hK hR (by decide) (hts _ q995) rfl dX1_meet_219 ?_
                          refine lv_iload hx hb dX1_meet_222 (lv_at hl 8 rfl) ?_
                          refine xm_ild (M := M_21) (k := 29) (j := 18) hx hb hK hR dX1_meet_224 rfl hw.1 ?_
                          have hw := hw.2
                          refine lv_iload hx hb dX1_meet_225 (lv_at hl 4 rfl) ?_
                          refine lv_icmp_eq (tgt := 256) hx hb dX1_meet_227 (by decide) (fun c_43 => ?_) (fun c_43 => ?_)
                          · have hw := x_t hw c_43
                            exact hJ_41  hw ls _ _ hR hS (lv_sub hl [0, 1, 2, 3, 4, 5, 6, 8] rfl)
                          · have hw := x_f hw c_43
                            refine lv_iload hx hb dX1_meet_230 (lv_at hl 4 rfl) ?_
                            refine lv_aload_n hx hb dX1_meet_232 rfl (lv_at hl 0 rfl) ?_
                            refine xm_getA (k := 29) hx hb hts in_X1 hown hK hR (by decide) (hts _ q995) rfl dX1_meet_233 ?_
                            refine lv_iload hx hb dX1_meet_236 (lv_at hl 8 rfl) ?_
                            refine xm_ild (M := M_21) (k := 29) (j := 18) hx hb hK hR dX1_meet_238 rfl hw.1 ?_
                            have hw := hw.2
                            refine lv_isub hx hb dX1_meet_239 ?_
                            refine lv_aload_n hx hb dX1_meet_240 rfl (lv_at hl 0 rfl) ?_
                            refine xm_getA (k := 3) hx hb hts in_X1 hown hK hR (by decide) (hts _ q969) rfl dX1_meet_241 ?_
                            refine lv_bipush (v := 8) hx hb dX1_meet_244 (by decide) ?_
                            refine lv_iload hx hb dX1_meet_246 (lv_at hl 8 rfl) ?_
                            refine lv_imul hx hb dX1_meet_248 ?_
                            refine lv_iload hx hb dX1_meet_249 (lv_at hl 6 rfl) ?_
                            refine lv_iadd hx hb dX1_meet_251 ?_
                            refine xm_ild (M := M_21) (k := 3) (j := 1) hx hb hK hR dX1_meet_252 rfl hw.1 ?_
                            have hw := hw.2
                            refine lv_icmp_ge (tgt := 260) hx hb dX1_meet_253 (by decide) (fun c_44 => ?_) (fun c_44 => ?_)
                            · have hw := x_t hw c_44
                              exact hJ_39  hw ls _ _ hR hS (lv_sub hl [0, 1, 2, 3, 4, 5, 6, 8] rfl)
                            · have hw := x_f hw c_44
                              exact hJ_41  hw ls _ _ hR hS (lv_sub hl [0, 1, 2, 3, 4, 5, 6, 8] rfl)
            · refine x_jn0 (G := ∀ (ls : Array Slot) (H : Heap) (locs : List Loc), x_Rp D d (x_A base) (x_mc d mo Aa M_21) S H → va_S (x_A base) s.heap H locs → lv_has ls 11 [(0, .ref mo), (2, .int x2), (3, .int x3), (5, .int x5_19), (6, .int x6_15), (7, .int x7_20), (8, .int x8_24)] → W p l e (x_rm 0 0 0 0) s m ([.ref mo, .int x1, .int x2, .int x3] : List Value).toArray below meth c H locs 0 0 (MQ below (xm_Qi D d base mo Aa S (fun r M' => Q r M')) ([.ref mo, .int x1, .int x2, .int x3] : List Value).toArray s 0 0 (x_A base)) (F0 m 186 ls [])) hw (fun hw => ?_) (fun hJ_45 hw => ?_)
              · intro ls H locs hR hS hl
                refine lv_iconst (v := 0) hx hb dX1_meet_186 (by decide) ?_
                exact hJ_26 0 hw ls _ _ hR hS (lv_sub hl [0, 1, 2, 3, 4, 5, 6] rfl)
              · refine lv_if_le (tgt := 186) hx hb dX1_meet_167 (by decide) (fun c_46 => ?_) (fun c_46 => ?_)
                · have hw := x_t hw c_46
                  exact hJ_45  hw ls _ _ hR hS (lv_sub hl [1, 2, 3, 4, 5, 6, 0] rfl)
                · have hw := x_f hw c_46
                  refine lv_aload_n hx hb dX1_meet_170 rfl (lv_at hl 1 rfl) ?_
                  refine xm_getA (k := 29) hx hb hts in_X1 hown hK hR (by decide) (hts _ q995) rfl dX1_meet_171 ?_
                  refine lv_iload hx hb dX1_meet_174 (lv_at hl 0 rfl) ?_
                  refine xm_ild (M := M_21) (k := 29) (j := 18) hx hb hK hR dX1_meet_176 rfl hw.1 ?_
                  have hw := hw.2
                  refine lv_bipush (v := (-9)) hx hb dX1_meet_177 (by decide) ?_
                  refine lv_icmp_ne (tgt := 186) hx hb dX1_meet_179 (by decide) (fun c_47 => ?_) (fun c_47 => ?_)
                  · have hw := x_f hw c_47
                    exact hJ_45  hw ls _ _ hR hS (lv_sub hl [1, 2, 3, 4, 5, 6, 0] rfl)
                  · have hw := x_t hw c_47
                    refine lv_iconst (v := 1) hx hb dX1_meet_182 (by decide) ?_
                    refine lv_goto (tgt := 187) hx hb dX1_meet_183 (by decide) ?_
                    exact hJ_26 1 hw ls _ _ hR hS (lv_sub hl [1, 2, 3, 4, 5, 6, 0] rfl)
      · have hw := x_f hw c_13
        refine lv_aload_n hx hb dX1_meet_110 rfl (lv_at hl 0 rfl) ?_
        refine xm_getA (k := 29) hx hb hts in_X1 hown hK hR (by decide) (hts _ q995) rfl dX1_meet_111 ?_
        refine lv_iload hx hb dX1_meet_114 (lv_at hl 3 rfl) ?_
        refine lv_bipush (v := (-9)) hx hb dX1_meet_116 (by decide) ?_
        refine xm_ist (M := M_11) (k := 29) (j := 18) hx hb hK hR hS dX1_meet_118 rfl hw.1 (fun H locs hR hS => ?_)
        have hw := hw.2
        obtain ⟨M_48, eM_48⟩ : ∃ z, z = (m2 M_11 29 (Int32.toNatClampNeg x5_10) (-9)) := ⟨_, rfl⟩
        rw [← eM_48] at hR
        have hw := hw M_48 eM_48
        refine lv_iinc (v := (x5_10 + 1)) (lv' := [(5, .int (x5_10 + 1)), (0, .ref mo), (2, .int x2), (3, .int x3)]) hx hb dX1_meet_119 hl (k := 3) rfl rfl (by decide) rfl (fun ls hl => ?_)
        refine lv_goto (tgt := 103) hx hb dX1_meet_122 (by decide) ?_
        exact hw ls _ _ hR hS (lv_sub hl [1, 2, 3, 0] rfl)
    · have hw := x_f hw c_9
      refine lv_iload hx hb dX1_meet_55 (lv_at hl 3 rfl) ?_
      refine lv_iload_n hx hb dX1_meet_57 rfl (lv_at hl 2 rfl) ?_
      refine lv_irem hx hb dX1_meet_58 hw.1 ?_
      have hw := hw.2
      refine x_jn0 (G := ∀ (ls : Array Slot) (H : Heap) (locs : List Loc), x_Rp D d (x_A base) (x_mc d mo Aa M_4) S H → va_S (x_A base) s.heap H locs → lv_has ls 11 [(0, .ref mo), (2, .int x2), (3, .int x3), (5, .int x5_7)] → W p l e (x_rm 0 0 0 0) s m ([.ref mo, .int x1, .int x2, .int x3] : List Value).toArray below meth c H locs 0 0 (MQ below (xm_Qi D d base mo Aa S (fun r M' => Q r M')) ([.ref mo, .int x1, .int x2, .int x3] : List Value).toArray s 0 0 (x_A base)) (F0 m 94 ls [])) hw (fun hw => ?_) (fun hJ_49 hw => ?_)
      · intro ls H locs hR hS hl
        refine lv_iinc (v := (x5_7 + 1)) (lv' := [(5, .int (x5_7 + 1)), (0, .ref mo), (2, .int x2), (3, .int x3)]) hx hb dX1_meet_94 hl (k := 3) rfl rfl (by decide) rfl (fun ls hl => ?_)
        refine lv_goto (tgt := 47) hx hb dX1_meet_97 (by decide) ?_
        exact hw ls _ _ hR hS (lv_sub hl [1, 2, 3, 0] rfl)
      · refine lv_if_le (tgt := 94) hx hb dX1_meet_59 (by decide) (fun c_50 => ?_) (fun c_50 => ?_)
        · have hw := x_t hw c_50
          exact hJ_49  hw ls _ _ hR hS (lv_sub hl [0, 1, 2, 3] rfl)
        · have hw := x_f hw c_50
          refine lv_aload_n hx hb dX1_meet_62 rfl (lv_at hl 0 rfl) ?_
          refine xm_getA (k := 3) hx hb hts in_X1 hown hK hR (by decide) (hts _ q969) rfl dX1_meet_63 ?_
          refine lv_bipush (v := 8) hx hb dX1_meet_66 (by decide) ?_
          refine lv_aload_n hx hb dX1_meet_68 rfl (lv_at hl 0 rfl) ?_
          refine xm_getA (k := 28) hx hb hts in_X1 hown hK hR (by decide) (hts _ q994) rfl dX1_meet_69 ?_
          refine lv_iload hx hb dX1_meet_72 (lv_at hl 3 rfl) ?_
          refine lv_iconst (v := 1) hx hb dX1_meet_74 (by decide) ?_
          refine lv_isub hx hb dX1_meet_75 ?_
          refine xm_ild (M := M_4) (k := 28) (j := 17) hx hb hK hR dX1_meet_76 rfl hw.1 ?_
          have hw := hw.2
          refine lv_imul hx hb dX1_meet_77 ?_
          refine lv_aload_n hx hb dX1_meet_78 rfl (lv_at hl 0 rfl) ?_
          refine xm_getA (k := 28) hx hb hts in_X1 hown hK hR (by decide) (hts _ q994) rfl dX1_meet_79 ?_
          refine lv_iload hx hb dX1_meet_82 (lv_at hl 3 rfl) ?_
          refine xm_ild (M := M_4) (k := 28) (j := 17) hx hb hK hR dX1_meet_84 rfl hw.1 ?_
          have hw := hw.2
          refine lv_iadd hx hb dX1_meet_85 ?_
          refine xm_ild (M := M_4) (k := 3) (j := 1) hx hb hK hR dX1_meet_86 rfl hw.1 ?_
          have hw := hw.2
          refine lv_iconst (v := 1) hx hb dX1_meet_87 (by decide) ?_
          refine lv_icmp_le (tgt := 94) hx hb dX1_meet_88 (by decide) (fun c_51 => ?_) (fun c_51 => ?_)
          · have hw := x_t hw c_51
            exact hJ_49  hw ls _ _ hR hS (lv_sub hl [0, 1, 2, 3] rfl)
          · have hw := x_f hw c_51
            refine lv_bipush (v := (-9)) hx hb dX1_meet_91 (by decide) ?_
            exact xm_ri hx hb hr hlocks hR hS dX1_meet_93 hw
  · have hw := x_f hw c_6
    refine lv_aload_n hx hb dX1_meet_15 rfl (lv_at hl 0 rfl) ?_
    refine xm_getA (k := 28) hx hb hts in_X1 hown hK hR (by decide) (hts _ q994) rfl dX1_meet_16 ?_
    refine lv_iload hx hb dX1_meet_19 (lv_at hl 4 rfl) ?_
    refine lv_iload hx hb dX1_meet_21 (lv_at hl 3 rfl) ?_
    refine lv_aload_n hx hb dX1_meet_23 rfl (lv_at hl 0 rfl) ?_
    refine xm_getI (k := 1) hx hb hts in_X1 hown hK hR (by decide) (hts _ q967) rfl dX1_meet_24 ?_
    refine lv_irem hx hb dX1_meet_27 hw.1 ?_
    have hw := hw.2
    refine xm_ist (M := M_4) (k := 28) (j := 17) hx hb hK hR hS dX1_meet_28 rfl hw.1 (fun H locs hR hS => ?_)
    have hw := hw.2
    obtain ⟨M_52, eM_52⟩ : ∃ z, z = (m2 M_4 28 (Int32.toNatClampNeg x5_3) (x4_2 - x4_2 / (M1 M_4 1) * (M1 M_4 1))) := ⟨_, rfl⟩
    rw [← eM_52] at hR
    have hw := hw M_52 eM_52
    refine lv_iload hx hb dX1_meet_29 (lv_at hl 3 rfl) ?_
    refine lv_aload_n hx hb dX1_meet_31 rfl (lv_at hl 0 rfl) ?_
    refine xm_getI (k := 1) hx hb hts in_X1 hown hK hR (by decide) (hts _ q967) rfl dX1_meet_32 ?_
    refine lv_idiv hx hb dX1_meet_35 hw.1 ?_
    have hw := hw.2
    refine lv_topi (fun x4_53 ex4_53 => ?_)
    have hw := hw x4_53 ex4_53
    refine lv_istore (lv' := [(4, .int x4_53), (0, .ref mo), (2, .int x2), (3, .int x3), (5, .int x5_3)]) hx hb dX1_meet_36 hl (by decide) rfl (fun ls hl => ?_)
    refine lv_iinc (v := (x5_3 + (-1))) (lv' := [(5, .int (x5_3 + (-1))), (4, .int x4_53), (0, .ref mo), (2, .int x2), (3, .int x3)]) hx hb dX1_meet_38 hl (k := 4) rfl rfl (by decide) rfl (fun ls hl => ?_)
    refine lv_goto (tgt := 10) hx hb dX1_meet_41 (by decide) ?_
    exact hw ls _ _ hR hS (lv_sub hl [2, 3, 4, 1, 0] rfl)
