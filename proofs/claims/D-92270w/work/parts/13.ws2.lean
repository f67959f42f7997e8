set_option maxRecDepth 100000
def w_X0_paper (k n : Nat) (S : xH) (o : Nat) (x1 : Int32) (x2 : Int32) (x3 : Int32) (x4 : Int32) (x5 : Int32) (x6 : Int32) (x7 : Int32) (x8 : Int32) (x9 : Int32) (Q : Int32 → xH → Prop) : Prop := xT S o = 1 ∧ w_X0_isMan S o x1 (fun (r_1 : Int32) => wif (r_1 = 0) (Q (-1) S) (w_X0_isMark S x2 (fun (r_4 : Int32) => wif (r_4 = 0) (Q (-2) S) (w_X0_isMark S x3 (fun (r_7 : Int32) => wif (r_7 = 0) (Q (-2) S) (w_X0_areIn S x4 x5 99 (fun (r_10 : Int32) => wif (r_10 = 0) (Q (-2) S) (w_X0_areIn S x6 x7 99 (fun (r_13 : Int32) => wif (r_13 = 0) (Q (-2) S) (w_X0_areIn S x8 x9 899 (fun (r_16 : Int32) => wif (r_16 = 0) (Q (-2) S) (xT S o = 1 ∧ wif ((xI S 58 o) = 60) (Q (-4) S) (1 ≤ k ∧ 6 ≤ n ∧ ∀ a_20, xT S a_20 = 0 → nm (sV S a_20 101 6) (fun S_21 : xH => xT S_21 a_20 = 101 ∧ vp_in 0 (xL S_21 a_20) ∧ nm (sA S_21 a_20 (Int32.toNatClampNeg 0) x4) (fun S_22 : xH => xT S_22 a_20 = 101 ∧ vp_in 1 (xL S_22 a_20) ∧ nm (sA S_22 a_20 (Int32.toNatClampNeg 1) x5) (fun S_23 : xH => xT S_23 a_20 = 101 ∧ vp_in 2 (xL S_23 a_20) ∧ nm (sA S_23 a_20 (Int32.toNatClampNeg 2) x6) (fun S_24 : xH => xT S_24 a_20 = 101 ∧ vp_in 3 (xL S_24 a_20) ∧ nm (sA S_24 a_20 (Int32.toNatClampNeg 3) x7) (fun S_25 : xH => xT S_25 a_20 = 101 ∧ vp_in 4 (xL S_25 a_20) ∧ nm (sA S_25 a_20 (Int32.toNatClampNeg 4) x8) (fun S_26 : xH => xT S_26 a_20 = 101 ∧ vp_in 5 (xL S_26 a_20) ∧ nm (sA S_26 a_20 (Int32.toNatClampNeg 5) x9) (fun S_27 : xH => xT S_27 o = 1 ∧ xT S_27 o = 1 ∧ 1 ≤ (k - 1) ∧ 4 ≤ (n - 6) ∧ ∀ a_28, xT S_27 a_28 = 0 → nm (sN S_27 a_28 5) (fun S_29 : xH => xT S_29 o = 1 ∧ ∃ b_30, (xR S_29 52 o) = some b_30 ∧ xT S_29 b_30 = 103 ∧ vp_in x1 (xL S_29 b_30) ∧ ∃ b_32, (xQ S_29 b_30 (Int32.toNatClampNeg x1)) = some b_32 ∧ w_X4_init S_29 a_28 b_32 x2 x3 a_20 (fun (S_34 : xH) => ∃ b_35, (xR S_27 57 o) = some b_35 ∧ xT S_34 b_35 = 104 ∧ vp_in (xI S_27 58 o) (xL S_34 b_35) ∧ xT S_34 a_28 = 5 ∧ nm (sQ S_34 b_35 (Int32.toNatClampNeg (xI S_27 58 o)) (some a_28)) (fun S_37 : xH => xT S_37 o = 1 ∧ xT S_37 o = 1 ∧ nm (sI S_37 58 o ((xI S_37 58 o) + 1)) (fun S_38 : xH => xT S_38 o = 1 ∧ Q ((xI S_38 58 o) - 1) S_38))))))))))))))))))))))))
theorem hd_X0_paper : yX0_paper.cls = "PressedMen" ∧ yX0_paper.cls ≠ "java/lang/invoke/MethodHandle" ∧ yX0_paper.cls ≠ "java/lang/invoke/VarHandle" ∧ (parseMethodDescriptor yX0_paper.desc).map (fun d => d.parameters.length) = some 9 := by decide +kernel
set_option maxHeartbeats 4000000 in
theorem mt_X0_paper (l : Launch) {D : va_G} {d : Nat → ClassId} {base : Nat} {mc : va_W} {S : xH} {k n : Nat} {o : Nat} {x1 : Int32} {x2 : Int32} {x3 : Int32} {x4 : Int32} {x5 : Int32} {x6 : Int32} {x7 : Int32} {x8 : Int32} {x9 : Int32} {Q : Int32 → xH → Prop} (hw : w_X0_paper k n S o x1 x2 x3 x4 x5 x6 x7 x8 x9 Q) : Met l yX0_paper (ws_ yX0_paper cX0_paper 11 (some FieldType.int)) (x_rm 2 k n 52) (x_Pc D d base mc S [.ref o, .int x1, .int x2, .int x3, .int x4, .int x5, .int x6, .int x7, .int x8, .int x9]) (x_Qi D d base mc (fun r S' => Q r S')) k n (x_A base) := by
  refine x_met (by decide) (Nat.le_of_ble_eq_true rfl) ?_
  intro p e s m below meth c hx hb hml hr hlocks hown hts hz hR hK hin ls hl
  have hown : s.vm.findClass "PressedMen" = some m.cls := hown
  have hl : lv_has ls 11 [(0, .ref o), (1, .int x1), (2, .int x2), (3, .int x3), (4, .int x4), (5, .int x5), (6, .int x6), (7, .int x7), (8, .int x8), (9, .int x9)] := hl
  have hS : va_S (x_A base) s.heap s.heap [] := va_S.rf
  have hA : ∀ q : Nat, s.heap.size ≤ q → x_A base q := fun q h => Nat.le_trans hz h
  have hc : 0 + k ≤ k := by omega
  have hs : 0 + n ≤ n := by omega
  unfold w_X0_paper at hw
  refine lv_aload_n hx hb dX0_paper_0 rfl (lv_at hl 0 rfl) ?_
  refine lv_iload_n hx hb dX0_paper_1 rfl (lv_at hl 1 rfl) ?_
  obtain ⟨ha, hw⟩ := hw
  refine x_ci (va_runV (As := [.int x1]) (rest := []) ⟨hx, hb, hml, hown, hts⟩ (mt_X0_isMan l hw) (cwV 1 hts (lw_V q252 q254 qs2 q64 q255) rfl rfl rfl hd_X0_isMan ⟨Nat.le_of_ble_eq_true rfl, Nat.le_of_ble_eq_true rfl⟩) ⟨x_Pc_blind, hR.recv hK (ci := 0) rfl (by decide) ha, x_Pc_pre hR hz hS hK⟩ rfl rfl hl.1 rfl (lv_room (Nat.le_of_ble_eq_true rfl)) dX0_paper_2 ⟨by show _ ≤ k; omega, by show _ ≤ n; omega⟩) hS (fun r_1 S_2 H locs hp hR hS => ?_)
  have hw := hp.2
  rw [hp.1] at hR
  refine lv_if_ne (tgt := 10) hx hb dX0_paper_5 (by decide) (fun c_3 => ?_) (fun c_3 => ?_)
  · have hw := x_f hw c_3
    refine lv_iload_n hx hb dX0_paper_10 rfl (lv_at hl 2 rfl) ?_
    refine x_ci (va_runS (As := [.int x2]) (rest := []) ⟨hx, hb, hml, hown, hts⟩ (mt_X0_isMark l hw) (va_cwS 1 hts (lw_S q342 q343 q64 q344) rfl rfl rfl hd_X0_isMark.2 ⟨Nat.le_of_ble_eq_true rfl, Nat.le_of_ble_eq_true rfl⟩) ⟨x_Pc_blind, x_Pc_pre hR hz hS hK⟩ rfl rfl hl.1 rfl (lv_room (Nat.le_of_ble_eq_true rfl)) dX0_paper_11 ⟨by show _ ≤ k; omega, by show _ ≤ n; omega⟩) hS (fun r_4 S_5 H locs hp hR hS => ?_)
    have hw := hp.2
    rw [hp.1] at hR
    refine lv_if_eq (tgt := 61) hx hb dX0_paper_14 (by decide) (fun c_6 => ?_) (fun c_6 => ?_)
    · have hw := x_t hw c_6
      refine lv_bipush (v := (-2)) hx hb dX0_paper_61 (by decide) ?_
      refine W.widen (k := k) (n := n) (by omega) (by omega) ?_
      exact x_ri hx hb hr hlocks hR hS dX0_paper_63 hw
    · have hw := x_f hw c_6
      refine lv_iload_n hx hb dX0_paper_17 rfl (lv_at hl 3 rfl) ?_
      refine x_ci (va_runS (As := [.int x3]) (rest := []) ⟨hx, hb, hml, hown, hts⟩ (mt_X0_isMark l hw) (va_cwS 1 hts (lw_S q342 q343 q64 q344) rfl rfl rfl hd_X0_isMark.2 ⟨Nat.le_of_ble_eq_true rfl, Nat.le_of_ble_eq_true rfl⟩) ⟨x_Pc_blind, x_Pc_pre hR hz hS hK⟩ rfl rfl hl.1 rfl (lv_room (Nat.le_of_ble_eq_true rfl)) dX0_paper_18 ⟨by show _ ≤ k; omega, by show _ ≤ n; omega⟩) hS (fun r_7 S_8 H locs hp hR hS => ?_)
      have hw := hp.2
      rw [hp.1] at hR
      refine lv_if_eq (tgt := 61) hx hb dX0_paper_21 (by decide) (fun c_9 => ?_) (fun c_9 => ?_)
      · have hw := x_t hw c_9
        refine lv_bipush (v := (-2)) hx hb dX0_paper_61 (by decide) ?_
        refine W.widen (k := k) (n := n) (by omega) (by omega) ?_
        exact x_ri hx hb hr hlocks hR hS dX0_paper_63 hw
      · have hw := x_f hw c_9
        refine lv_iload hx hb dX0_paper_24 (lv_at hl 4 rfl) ?_
        refine lv_iload hx hb dX0_paper_26 (lv_at hl 5 rfl) ?_
        refine lv_bipush (v := 99) hx hb dX0_paper_28 (by decide) ?_
        refine x_ci (va_runS (As := [.int x4, .int x5, .int 99]) (rest := []) ⟨hx, hb, hml, hown, hts⟩ (mt_X0_areIn l hw) (va_cwS 3 hts (lw_S q345 q346 q64 q347) rfl rfl rfl hd_X0_areIn.2 ⟨Nat.le_of_ble_eq_true rfl, Nat.le_of_ble_eq_true rfl⟩) ⟨x_Pc_blind, x_Pc_pre hR hz hS hK⟩ rfl rfl hl.1 rfl (lv_room (Nat.le_of_ble_eq_true rfl)) dX0_paper_30 ⟨by show _ ≤ k; omega, by show _ ≤ n; omega⟩) hS (fun r_10 S_11 H locs hp hR hS => ?_)
        have hw := hp.2
        rw [hp.1] at hR
        refine lv_if_eq (tgt := 61) hx hb dX0_paper_33 (by decide) (fun c_12 => ?_) (fun c_12 => ?_)
        · have hw := x_t hw c_12
          refine lv_bipush (v := (-2)) hx hb dX0_paper_61 (by decide) ?_
          refine W.widen (k := k) (n := n) (by omega) (by omega) ?_
          exact x_ri hx hb hr hlocks hR hS dX0_paper_63 hw
        · have hw := x_f hw c_12
          refine lv_iload hx hb dX0_paper_36 (lv_at hl 6 rfl) ?_
          refine lv_iload hx hb dX0_paper_38 (lv_at hl 7 rfl) ?_
          refine lv_bipush (v := 99) hx hb dX0_paper_40 (by decide) ?_
          refine x_ci (va_runS (As := [.int x6, .int x7, .int 99]) (rest := []) ⟨hx, hb, hml, hown, hts⟩ (mt_X0_areIn l hw) (va_cwS 3 hts (lw_S q345 q346 q64 q347) rfl rfl rfl hd_X0_areIn.2 ⟨Nat.le_of_ble_eq_true rfl, Nat.le_of_ble_eq_true rfl⟩) ⟨x_Pc_blind, x_Pc_pre hR hz hS hK⟩ rfl rfl hl.1 rfl (lv_room (Nat.le_of_ble_eq_true rfl)) dX0_paper_42 ⟨by show _ ≤ k; omega, by show _ ≤ n; omega⟩) hS (fun r_13 S_14 H locs hp hR hS => ?_)
          have hw := hp.2
          rw [hp.1] at hR
          refine lv_if_eq (tgt := 61) hx hb dX0_paper_45 (by decide) (fun c_15 => ?_) (fun c_15 => ?_)
          · have hw := x_t hw c_15
            refine lv_bipush (v := (-2)) hx hb dX0_paper_61 (by decide) ?_
            refine W.widen (k := k) (n := n) (by omega) (by omega) ?_
            exact x_ri hx hb hr hlocks hR hS dX0_paper_63 hw
          · have hw := x_f hw c_15
            refine lv_iload hx hb dX0_paper_48 (lv_at hl 8 rfl) ?_
            refine lv_iload hx hb dX0_paper_50 (lv_at hl 9 rfl) ?_
            refine lv_sipush (v := 899) hx hb dX0_paper_52 (by decide) ?_
            refine x_ci (va_runS (As := [.int x8, .int x9, .int 899]) (rest := []) ⟨hx, hb, hml, hown, hts⟩ (mt_X0_areIn l hw) (va_cwS 3 hts (lw_S q345 q346 q64 q347) rfl rfl rfl hd_X0_areIn.2 ⟨Nat.le_of_ble_eq_true rfl, Nat.le_of_ble_eq_true rfl⟩) ⟨x_Pc_blind, x_Pc_pre hR hz hS hK⟩ rfl rfl hl.1 rfl (lv_room (Nat.le_of_ble_eq_true rfl)) dX0_paper_55 ⟨by show _ ≤ k; omega, by show _ ≤ n; omega⟩) hS (fun r_16 S_17 H locs hp hR hS => ?_)
            have hw := hp.2
            rw [hp.1] at hR
            refine lv_if_ne (tgt := 64) hx hb dX0_paper_58 (by decide) (fun c_18 => ?_) (fun c_18 => ?_)
            · have hw := x_f hw c_18
              refine lv_aload_n hx hb dX0_paper_64 rfl (lv_at hl 0 rfl) ?_
              refine x_getI (ci := 0) (C := RX0) (T := TX0) (N := 19) (f := 58) hx hb hts in_X0 hown hK hR rfl 8 (by decide) (hts _ q121) (fun _ h => h) rfl (by decide) dX0_paper_65 hw.1 ?_
              have hw := hw.2
              refine lv_bipush (v := 60) hx hb dX0_paper_68 (by decide) ?_
              refine lv_icmp_ne (tgt := 76) hx hb dX0_paper_70 (by decide) (fun c_19 => ?_) (fun c_19 => ?_)
              · have hw := x_f hw c_19
                refine lv_bipush (v := 6) hx hb dX0_paper_76 (by decide) ?_
                obtain ⟨h1, h2, hw⟩ := hw
                refine x_newa (atype := .int) (t := 101) (N' := 6) hx hb rfl (by decide) (by decide) rfl rfl (fun _ => rfl) (hts _ q173) hK hR hS hA dX0_paper_78 (by decide) (by decide) (by decide) (by show _ ≤ k; omega) (by show _ ≤ n; omega) (fun a_20 H hf hR hS => ?_)
                have hw := hw a_20 hf
                have hc : (0 + 1) + (k - 1) ≤ k := by omega
                have hs : (0 + 6) + (n - 6) ≤ n := by omega
                obtain ⟨S_21, eS_21⟩ : ∃ z, z = (sV S a_20 101 6) := ⟨_, rfl⟩
                rw [← eS_21] at hR
                have hw := hw S_21 eS_21
                refine lv_dup hx hb dX0_paper_80 rfl ?_
                refine lv_iconst (v := 0) hx hb dX0_paper_81 (by decide) ?_
                refine lv_iload hx hb dX0_paper_82 (lv_at hl 4 rfl) ?_
                refine x_iast hx hb hK hR hS dX0_paper_84 hw.1 hw.2.1 (fun H locs hR hS => ?_)
                have hw := hw.2.2
                obtain ⟨S_22, eS_22⟩ : ∃ z, z = (sA S_21 a_20 (Int32.toNatClampNeg 0) x4) := ⟨_, rfl⟩
                rw [← eS_22] at hR
                have hw := hw S_22 eS_22
                refine lv_dup hx hb dX0_paper_85 rfl ?_
                refine lv_iconst (v := 1) hx hb dX0_paper_86 (by decide) ?_
                refine lv_iload hx hb dX0_paper_87 (lv_at hl 5 rfl) ?_
                refine x_iast hx hb hK hR hS dX0_paper_89 hw.1 hw.2.1 (fun H locs hR hS => ?_)
                have hw := hw.2.2
                obtain ⟨S_23, eS_23⟩ : ∃ z, z = (sA S_22 a_20 (Int32.toNatClampNeg 1) x5) := ⟨_, rfl⟩
                rw [← eS_23] at hR
                have hw := hw S_23 eS_23
                refine lv_dup hx hb dX0_paper_90 rfl ?_
                refine lv_iconst (v := 2) hx hb dX0_paper_91 (by decide) ?_
                refine lv_iload hx hb dX0_paper_92 (lv_at hl 6 rfl) ?_
                refine x_iast hx hb hK hR hS dX0_paper_94 hw.1 hw.2.1 (fun H locs hR hS => ?_)
                have hw := hw.2.2
                obtain ⟨S_24, eS_24⟩ : ∃ z, z = (sA S_23 a_20 (Int32.toNatClampNeg 2) x6) := ⟨_, rfl⟩
                rw [← eS_24] at hR
                have hw := hw S_24 eS_24
                refine lv_dup hx hb dX0_paper_95 rfl ?_
                refine lv_iconst (v := 3) hx hb dX0_paper_96 (by decide) ?_
                refine lv_iload hx hb dX0_paper_97 (lv_at hl 7 rfl) ?_
                refine x_iast hx hb hK hR hS dX0_paper_99 hw.1 hw.2.1 (fun H locs hR hS => ?_)
                have hw := hw.2.2
                obtain ⟨S_25, eS_25⟩ : ∃ z, z = (sA S_24 a_20 (Int32.toNatClampNeg 3) x7) := ⟨_, rfl⟩
                rw [← eS_25] at hR
                have hw := hw S_25 eS_25
                refine lv_dup hx hb dX0_paper_100 rfl ?_
                refine lv_iconst (v := 4) hx hb dX0_paper_101 (by decide) ?_
                refine lv_iload hx hb dX0_paper_102 (lv_at hl 8 rfl) ?_
                refine x_iast hx hb hK hR hS dX0_paper_104 hw.1 hw.2.1 (fun H locs hR hS => ?_)
                have hw := hw.2.2
                obtain ⟨S_26, eS_26⟩ : ∃ z, z = (sA S_25 a_20 (Int32.toNatClampNeg 4) x8) := ⟨_, rfl⟩
                rw [← eS_26] at hR
                have hw := hw S_26 eS_26
                refine lv_dup hx hb dX0_paper_105 rfl ?_
                refine lv_iconst (v := 5) hx hb dX0_paper_106 (by decide) ?_
                refine lv_iload hx hb dX0_paper_107 (lv_at hl 9 rfl) ?_
                refine x_iast hx hb hK hR hS dX0_paper_109 hw.1 hw.2.1 (fun H locs hR hS => ?_)
                have hw := hw.2.2
                obtain ⟨S_27, eS_27⟩ : ∃ z, z = (sA S_26 a_20 (Int32.toNatClampNeg 5) x9) := ⟨_, rfl⟩
                rw [← eS_27] at hR
                have hw := hw S_27 eS_27
                refine lv_astore (lv' := [(10, .ref a_20), (0, .ref o), (1, .int x1), (2, .int x2), (3, .int x3), (4, .int x4), (5, .int x5), (6, .int x6), (7, .int x7), (8, .int x8), (9, .int x9)]) hx hb dX0_paper_110 hl (by decide) rfl (fun ls hl => ?_)
                refine lv_aload_n hx hb dX0_paper_112 rfl (lv_at hl 1 rfl) ?_
                refine x_getR (ci := 0) (C := RX0) (T := TX0) (N := 19) (f := 57) hx hb hts in_X0 hown hK hR rfl 7 (by decide) (hts _ q120) (fun _ h => h) rfl (by decide) dX0_paper_113 hw.1 ?_
                have hw := hw.2
                refine lv_aload_n hx hb dX0_paper_116 rfl (lv_at hl 1 rfl) ?_
                refine x_getI (ci := 0) (C := RX0) (T := TX0) (N := 19) (f := 58) hx hb hts in_X0 hown hK hR rfl 8 (by decide) (hts _ q121) (fun _ h => h) rfl (by decide) dX0_paper_117 hw.1 ?_
                have hw := hw.2
                obtain ⟨h1, h2, hw⟩ := hw
                refine x_new (ci := 4) (C := RX4) (T := TX4) (N := 4) hx hb hts in_X4 tyX4 tyX4_ok hown (hts _ q99) (hts _ q348) (hts _ q69) hK hR hS hA rfl (by decide) dfX4 dX0_paper_120 (by show _ ≤ k; omega) (by show _ ≤ n; omega) (fun a_28 H hf hR hS => ?_)
                have hw := hw a_28 hf
                have hc : ((0 + 1) + 1) + ((k - 1) - 1) ≤ k := by omega
                have hs : ((0 + 6) + 4) + ((n - 6) - 4) ≤ n := by omega
                obtain ⟨S_29, eS_29⟩ : ∃ z, z = (sN S_27 a_28 5) := ⟨_, rfl⟩
                rw [← eS_29] at hR
                have hw := hw S_29 eS_29
                refine lv_dup hx hb dX0_paper_123 rfl ?_
                refine lv_aload_n hx hb dX0_paper_124 rfl (lv_at hl 1 rfl) ?_
                refine x_getR (ci := 0) (C := RX0) (T := TX0) (N := 19) (f := 52) hx hb hts in_X0 hown hK hR rfl 2 (by decide) (hts _ q114) (fun _ h => h) rfl (by decide) dX0_paper_125 hw.1 ?_
                have hw := hw.2
                refine lv_iload_n hx hb dX0_paper_128 rfl (lv_at hl 2 rfl) ?_
                obtain ⟨b_30, e_31, hw⟩ := hw
                refine x_dr1 e_31 ?_
                refine x_aald (t := 103) hx hb hK hR (by decide) rfl rfl dX0_paper_129 hw.1 hw.2.1 ?_
                have hw := hw.2.2
                refine lv_iload_n hx hb dX0_paper_130 rfl (lv_at hl 3 rfl) ?_
                refine lv_iload_n hx hb dX0_paper_131 rfl (lv_at hl 4 rfl) ?_
                refine lv_aload hx hb dX0_paper_132 (lv_at hl 0 rfl) ?_
                obtain ⟨b_32, e_33, hw⟩ := hw
                refine x_dr3 e_33 ?_
                refine x_cv (va_runI (As := [.ref b_32, .int x2, .int x3, .ref a_20]) (rest := [.ref a_28, .int (xI S_27 58 o), va_rf (xR S_27 57 o)]) ⟨hx, hb, hml, hown, hts⟩ (mt_X4_init l hw) (cwI 4 hts (lw_meth q351) rfl rfl rfl (hts _ q69) (hts _ q349) (hts _ q350) rfl hd_X4_init.2 ⟨Nat.le_of_ble_eq_true rfl, Nat.le_of_ble_eq_true rfl⟩) ⟨x_Pc_blind, x_Pc_pre hR hz hS hK⟩ rfl rfl hl.1 rfl (lv_room (by simp only [List.map_cons, List.map_nil, x_cat]; exact Nat.le_of_ble_eq_true rfl)) dX0_paper_134 ⟨by show _ ≤ k; omega, by show _ ≤ n; omega⟩) hS (fun S_34 H locs hp hR hS => ?_)
                have hw := hp
                obtain ⟨b_35, e_36, hw⟩ := hw
                refine x_dr2 e_36 ?_
                refine x_aast (t := 104) (ci := 4) hx hb hK hR hS (by decide) rfl (by decide) rfl dX0_paper_137 hw.1 hw.2.1 hw.2.2.1 (fun H locs hR hS => ?_)
                have hw := hw.2.2.2
                obtain ⟨S_37, eS_37⟩ : ∃ z, z = (sQ S_34 b_35 (Int32.toNatClampNeg (xI S_27 58 o)) (some a_28)) := ⟨_, rfl⟩
                rw [← eS_37] at hR
                have hw := hw S_37 eS_37
                refine lv_aload_n hx hb dX0_paper_138 rfl (lv_at hl 1 rfl) ?_
                refine lv_dup hx hb dX0_paper_139 rfl ?_
                refine x_getI (ci := 0) (C := RX0) (T := TX0) (N := 19) (f := 58) hx hb hts in_X0 hown hK hR rfl 8 (by decide) (hts _ q121) (fun _ h => h) rfl (by decide) dX0_paper_140 hw.1 ?_
                have hw := hw.2
                refine lv_iconst (v := 1) hx hb dX0_paper_143 (by decide) ?_
                refine lv_iadd hx hb dX0_paper_144 ?_
                refine x_putI (ci := 0) (C := RX0) (T := TX0) (N := 19) (f := 58) hx hb hts in_X0 tyX0 tyX0_ok nmX0 hown hK hR hS rfl 8 (by decide) (hts _ q121) (fun _ h => h) rfl rfl (by decide) rfl rfl dX0_paper_145 hw.1 (fun H locs hR hS => ?_)
                have hw := hw.2
                obtain ⟨S_38, eS_38⟩ : ∃ z, z = (sI S_37 58 o ((xI S_37 58 o) + 1)) := ⟨_, rfl⟩
                rw [← eS_38] at hR
                have hw := hw S_38 eS_38
                refine lv_aload_n hx hb dX0_paper_148 rfl (lv_at hl 1 rfl) ?_
                refine x_getI (ci := 0) (C := RX0) (T := TX0) (N := 19) (f := 58) hx hb hts in_X0 hown hK hR rfl 8 (by decide) (hts _ q121) (fun _ h => h) rfl (by decide) dX0_paper_149 hw.1 ?_
                have hw := hw.2
                refine lv_iconst (v := 1) hx hb dX0_paper_152 (by decide) ?_
                refine lv_isub hx hb dX0_paper_153 ?_
                refine W.widen (k := k) (n := n) (by omega) (by omega) ?_
                exact x_ri hx hb hr hlocks hR hS dX0_paper_154 hw
              · have hw := x_t hw c_19
                refine lv_bipush (v := (-4)) hx hb dX0_paper_73 (by decide) ?_
                refine W.widen (k := k) (n := n) (by omega) (by omega) ?_
                exact x_ri hx hb hr hlocks hR hS dX0_paper_75 hw
            · have hw := x_t hw c_18
              refine lv_bipush (v := (-2)) hx hb dX0_paper_61 (by decide) ?_
              refine W.widen (k := k) (n := n) (by omega) (by omega) ?_
              exact x_ri hx hb hr hlocks hR hS dX0_paper_63 hw
  · have hw := x_t hw c_3
    refine lv_iconst (v := (-1)) hx hb dX0_paper_8 (by decide) ?_
    refine W.widen (k := k) (n := n) (by omega) (by omega) ?_
    exact x_ri hx hb hr hlocks hR hS dX0_paper_9 hw
def w_X0_isPaper (S : xH) (o : Nat) (x1 : Int32) (Q : Int32 → Prop) : Prop := xT S o = 1 ∧ w_X0_isIn S x1 0 ((xI S 58 o) - 1) (fun (r_1 : Int32) => x_B r_1 ∧ Q r_1)
theorem hd_X0_isPaper : yX0_isPaper.cls = "PressedMen" ∧ yX0_isPaper.cls ≠ "java/lang/invoke/MethodHandle" ∧ yX0_isPaper.cls ≠ "java/lang/invoke/VarHandle" ∧ (parseMethodDescriptor yX0_isPaper.desc).map (fun d => d.parameters.length) = some 1 := by decide +kernel
set_option maxHeartbeats 4000000 in
theorem mt_X0_isPaper (l : Launch) {D : va_G} {d : Nat → ClassId} {base : Nat} {mc : va_W} {S : xH} {o : Nat} {x1 : Int32} {Q : Int32 → Prop} (hw : w_X0_isPaper S o x1 Q) : Met l yX0_isPaper (ws_ yX0_isPaper cX0_isPaper 2 (some FieldType.boolean)) (x_rm 1 0 0 22) (x_Pc D d base mc S [.ref o, .int x1]) (x_Qi D d base mc (fun r S' => S' = S ∧ Q r)) 0 0 (x_A base) := by
  refine x_met (by decide) (Nat.le_of_ble_eq_true rfl) ?_
  intro p e s m below meth c hx hb hml hr hlocks hown hts hz hR hK hin ls hl
  have hown : s.vm.findClass "PressedMen" = some m.cls := hown
  have hl : lv_has ls 2 [(0, .ref o), (1, .int x1)] := hl
  have hS : va_S (x_A base) s.heap s.heap [] := va_S.rf
  unfold w_X0_isPaper at hw
  refine lv_iload_n hx hb dX0_isPaper_0 rfl (lv_at hl 1 rfl) ?_
  refine lv_iconst (v := 0) hx hb dX0_isPaper_1 (by decide) ?_
  refine lv_aload_n hx hb dX0_isPaper_2 rfl (lv_at hl 0 rfl) ?_
  refine x_getI (ci := 0) (C := RX0) (T := TX0) (N := 19) (f := 58) hx hb hts in_X0 hown hK hR rfl 8 (by decide) (hts _ q121) (fun _ h => h) rfl (by decide) dX0_isPaper_3 hw.1 ?_
  have hw := hw.2
  refine lv_iconst (v := 1) hx hb dX0_isPaper_6 (by decide) ?_
  refine lv_isub hx hb dX0_isPaper_7 ?_
  refine x_ci (va_runS (As := [.int x1, .int 0, .int ((xI S 58 o) - 1)]) (rest := []) ⟨hx, hb, hml, hown, hts⟩ (mt_X0_isIn l hw) (va_cwS 3 hts (lw_S q178 q179 q64 q180) rfl rfl rfl hd_X0_isIn.2 ⟨Nat.le_of_ble_eq_true rfl, Nat.le_of_ble_eq_true rfl⟩) ⟨x_Pc_blind, x_Pc_pre hR hz hS hK⟩ rfl rfl hl.1 rfl (lv_room (Nat.le_of_ble_eq_true rfl)) dX0_isPaper_8 ⟨Nat.le_refl _, Nat.le_refl _⟩) hS (fun r_1 S_2 H locs hp hR hS => ?_)
  have hw := hp.2
  rw [hp.1] at hR
  exact x_rz hx hb hr hlocks hR hS dX0_isPaper_11 hw.1 ⟨rfl, hw.2⟩
def w_X0_isTide (S : xH) (x0 : Int32) (Q : Int32 → Prop) : Prop := w_X0_isIn S x0 0 899 (fun (r_1 : Int32) => x_B r_1 ∧ Q r_1)
theorem hd_X0_isTide : yX0_isTide.cls = "PressedMen" ∧ yX0_isTide.cls ≠ "java/lang/invoke/MethodHandle" ∧ yX0_isTide.cls ≠ "java/lang/invoke/VarHandle" ∧ (parseMethodDescriptor yX0_isTide.desc).map (fun d => d.parameters.length) = some 1 := by decide +kernel
set_option maxHeartbeats 4000000 in
theorem mt_X0_isTide (l : Launch) {D : va_G} {d : Nat → ClassId} {base : Nat} {mc : va_W} {S : xH} {x0 : Int32} {Q : Int32 → Prop} (hw : w_X0_isTide S x0 Q) : Met l yX0_isTide (ws_ yX0_isTide cX0_isTide 1 (some FieldType.boolean)) (x_rm 1 0 0 22) (x_Pc D d base mc S [.int x0]) (x_Qi D d base mc (fun r S' => S' = S ∧ Q r)) 0 0 (x_A base) := by
  refine x_met (by decide) (Nat.le_of_ble_eq_true rfl) ?_
  intro p e s m below meth c hx hb hml hr hlocks hown hts hz hR hK hin ls hl
  have hown : s.vm.findClass "PressedMen" = some m.cls := hown
  have hl : lv_has ls 1 [(0, .int x0)] := hl
  have hS : va_S (x_A base) s.heap s.heap [] := va_S.rf
  unfold w_X0_isTide at hw
  refine lv_iload_n hx hb dX0_isTide_0 rfl (lv_at hl 0 rfl) ?_
  refine lv_iconst (v := 0) hx hb dX0_isTide_1 (by decide) ?_
  refine lv_sipush (v := 899) hx hb dX0_isTide_2 (by decide) ?_
  refine x_ci (va_runS (As := [.int x0, .int 0, .int 899]) (rest := []) ⟨hx, hb, hml, hown, hts⟩ (mt_X0_isIn l hw) (va_cwS 3 hts (lw_S q178 q179 q64 q180) rfl rfl rfl hd_X0_isIn.2 ⟨Nat.le_of_ble_eq_true rfl, Nat.le_of_ble_eq_true rfl⟩) ⟨x_Pc_blind, x_Pc_pre hR hz hS hK⟩ rfl rfl hl.1 rfl (lv_room (Nat.le_of_ble_eq_true rfl)) dX0_isTide_5 ⟨Nat.le_refl _, Nat.le_refl _⟩) hS (fun r_1 S_2 H locs hp hR hS => ?_)
  have hw := hp.2
  rw [hp.1] at hR
  exact x_rz hx hb hr hlocks hR hS dX0_isTide_8 hw.1 ⟨rfl, hw.2⟩
def w_X4_spans (S : xH) (o : Nat) (x1 : Int32) (x2 : Int32) (Q : Int32 → Prop) : Prop := xT S o = 5 ∧ ∃ b_1, (xR S 253 o) = some b_1 ∧ xT S b_1 = 101 ∧ vp_in (2 * x1) (xL S b_1) ∧ xT S o = 5 ∧ ∃ b_3, (xR S 253 o) = some b_3 ∧ xT S b_3 = 101 ∧ vp_in ((2 * x1) + 1) (xL S b_3) ∧ w_X0_isIn S x2 (xA S b_1 (Int32.toNatClampNeg (2 * x1))) (xA S b_3 (Int32.toNatClampNeg ((2 * x1) + 1))) (fun (r_5 : Int32) => x_B r_5 ∧ Q r_5)
theorem hd_X4_spans : yX4_spans.cls = "PressedMen$Paper" ∧ yX4_spans.cls ≠ "java/lang/invoke/MethodHandle" ∧ yX4_spans.cls ≠ "java/lang/invoke/VarHandle" ∧ (parseMethodDescriptor yX4_spans.desc).map (fun d => d.parameters.length) = some 2 := by decide +kernel
set_option maxHeartbeats 4000000 in
theorem mt_X4_spans (l : Launch) {D : va_G} {d : Nat → ClassId} {base : Nat} {mc : va_W} {S : xH} {o : Nat} {x1 : Int32} {x2 : Int32} {Q : Int32 → Prop} (hw : w_X4_spans S o x1 x2 Q) : Met l yX4_spans (ws_ yX4_spans cX4_spans 3 (some FieldType.boolean)) (x_rm 1 0 0 22) (x_Pc D d base mc S [.ref o, .int x1, .int x2]) (x_Qi D d base mc (fun r S' => S' = S ∧ Q r)) 0 0 (x_A base) := by
  refine x_met (by decide) (Nat.le_of_ble_eq_true rfl) ?_
  intro p e s m below meth c hx hb hml hr hlocks hown hts hz hR hK hin ls hl
  have hown : s.vm.findClass "PressedMen$Paper" = some m.cls := hown
  have hl : lv_has ls 3 [(0, .ref o), (1, .int x1), (2, .int x2)] := hl
  have hS : va_S (x_A base) s.heap s.heap [] := va_S.rf
  unfold w_X4_spans at hw
  refine lv_iload_n hx hb dX4_spans_0 rfl (lv_at hl 2 rfl) ?_
  refine lv_aload_n hx hb dX4_spans_1 rfl (lv_at hl 0 rfl) ?_
  refine x_getR (ci := 4) (C := RX4) (T := TX4) (N := 4) (f := 253) hx hb hts in_X4 hown hK hR rfl 3 (by decide) (hts _ q357) (fun _ h => h) rfl (by decide) dX4_spans_2 hw.1 ?_
  have hw := hw.2
  refine lv_iconst (v := 2) hx hb dX4_spans_5 (by decide) ?_
  refine lv_iload_n hx hb dX4_spans_6 rfl (lv_at hl 1 rfl) ?_
  refine lv_imul hx hb dX4_spans_7 ?_
  obtain ⟨b_1, e_2, hw⟩ := hw
  refine x_dr1 e_2 ?_
  refine x_iald hx hb hK hR dX4_spans_8 hw.1 hw.2.1 ?_
  have hw := hw.2.2
  refine lv_aload_n hx hb dX4_spans_9 rfl (lv_at hl 0 rfl) ?_
  refine x_getR (ci := 4) (C := RX4) (T := TX4) (N := 4) (f := 253) hx hb hts in_X4 hown hK hR rfl 3 (by decide) (hts _ q357) (fun _ h => h) rfl (by decide) dX4_spans_10 hw.1 ?_
  have hw := hw.2
  refine lv_iconst (v := 2) hx hb dX4_spans_13 (by decide) ?_
  refine lv_iload_n hx hb dX4_spans_14 rfl (lv_at hl 1 rfl) ?_
  refine lv_imul hx hb dX4_spans_15 ?_
  refine lv_iconst (v := 1) hx hb dX4_spans_16 (by decide) ?_
  refine lv_iadd hx hb dX4_spans_17 ?_
  obtain ⟨b_3, e_4, hw⟩ := hw
  refine x_dr1 e_4 ?_
  refine x_iald hx hb hK hR dX4_spans_18 hw.1 hw.2.1 ?_
  have hw := hw.2.2
  refine x_ci (va_runSN (As := [.int x2, .int (xA S b_1 (Int32.toNatClampNeg (2 * x1))), .int (xA S b_3 (Int32.toNatClampNeg ((2 * x1) + 1)))]) (rest := []) ⟨hx, hb, hml, hown, hts⟩ (mt_X0_isIn l hw) ⟨va_cnB 3 hts (lw_meth q180) rfl rfl rfl (hK.2 _ q386 rfl) (hts _ q64) hd_X0_isIn.2 ⟨Nat.le_of_ble_eq_true rfl, Nat.le_of_ble_eq_true rfl⟩, hts _ q179, trivial⟩ ⟨x_Pc_blind, x_Pc_pre hR hz hS hK⟩ rfl rfl hl.1 rfl (lv_room (Nat.le_of_ble_eq_true rfl)) dX4_spans_19 ⟨Nat.le_refl _, Nat.le_refl _⟩) hS (fun r_5 S_6 H locs hp hR hS => ?_)
  have hw := hp.2
  rw [hp.1] at hR
  exact x_rz hx hb hr hlocks hR hS dX4_spans_22 hw.1 ⟨rfl, hw.2⟩
def w_X4_isNarrow (S : xH) (o : Nat) (x1 : Int32) (x2 : Int32) (Q : Int32 → Prop) : Prop := xT S o = 5 ∧ ∃ b_1, (xR S 253 o) = some b_1 ∧ xT S b_1 = 101 ∧ vp_in ((2 * x1) + 1) (xL S b_1) ∧ xT S o = 5 ∧ ∃ b_3, (xR S 253 o) = some b_3 ∧ xT S b_3 = 101 ∧ vp_in (2 * x1) (xL S b_3) ∧ wif (x2 < ((xA S b_1 (Int32.toNatClampNeg ((2 * x1) + 1))) - (xA S b_3 (Int32.toNatClampNeg (2 * x1))))) (Q 0) (Q 1)
theorem hd_X4_isNarrow : yX4_isNarrow.cls = "PressedMen$Paper" ∧ yX4_isNarrow.cls ≠ "java/lang/invoke/MethodHandle" ∧ yX4_isNarrow.cls ≠ "java/lang/invoke/VarHandle" ∧ (parseMethodDescriptor yX4_isNarrow.desc).map (fun d => d.parameters.length) = some 2 := by decide +kernel
set_option maxHeartbeats 4000000 in
theorem mt_X4_isNarrow (l : Launch) {D : va_G} {d : Nat → ClassId} {base : Nat} {mc : va_W} {S : xH} {o : Nat} {x1 : Int32} {x2 : Int32} {Q : Int32 → Prop} (hw : w_X4_isNarrow S o x1 x2 Q) : Met l yX4_isNarrow (ws_ yX4_isNarrow cX4_isNarrow 3 (some FieldType.boolean)) (x_rm 0 0 0 0) (x_Pc D d base mc S [.ref o, .int x1, .int x2]) (x_Qi D d base mc (fun r S' => S' = S ∧ Q r)) 0 0 (x_A base) := by
  refine x_met (by decide) (Nat.le_of_ble_eq_true rfl) ?_
  intro p e s m below meth c hx hb hml hr hlocks hown hts hz hR hK hin ls hl
  have hown : s.vm.findClass "PressedMen$Paper" = some m.cls := hown
  have hl : lv_has ls 3 [(0, .ref o), (1, .int x1), (2, .int x2)] := hl
  have hS : va_S (x_A base) s.heap s.heap [] := va_S.rf
  unfold w_X4_isNarrow at hw
  refine lv_aload_n hx hb dX4_isNarrow_0 rfl (lv_at hl 0 rfl) ?_
  refine x_getR (ci := 4) (C := RX4) (T := TX4) (N := 4) (f := 253) hx hb hts in_X4 hown hK hR rfl 3 (by decide) (hts _ q357) (fun _ h => h) rfl (by decide) dX4_isNarrow_1 hw.1 ?_
  have hw := hw.2
  refine lv_iconst (v := 2) hx hb dX4_isNarrow_4 (by decide) ?_
  refine lv_iload_n hx hb dX4_isNarrow_5 rfl (lv_at hl 1 rfl) ?_
  refine lv_imul hx hb dX4_isNarrow_6 ?_
  refine lv_iconst (v := 1) hx hb dX4_isNarrow_7 (by decide) ?_
  refine lv_iadd hx hb dX4_isNarrow_8 ?_
  obtain ⟨b_1, e_2, hw⟩ := hw
  refine x_dr1 e_2 ?_
  refine x_iald hx hb hK hR dX4_isNarrow_9 hw.1 hw.2.1 ?_
  have hw := hw.2.2
  refine lv_aload_n hx hb dX4_isNarrow_10 rfl (lv_at hl 0 rfl) ?_
  refine x_getR (ci := 4) (C := RX4) (T := TX4) (N := 4) (f := 253) hx hb hts in_X4 hown hK hR rfl 3 (by decide) (hts _ q357) (fun _ h => h) rfl (by decide) dX4_isNarrow_11 hw.1 ?_
  have hw := hw.2
  refine lv_iconst (v := 2) hx hb dX4_isNarrow_14 (by decide) ?_
  refine lv_iload_n hx hb dX4_isNarrow_15 rfl (lv_at hl 1 rfl) ?_
  refine lv_imul hx hb dX4_isNarrow_16 ?_
  obtain ⟨b_3, e_4, hw⟩ := hw
  refine x_dr1 e_4 ?_
  refine x_iald hx hb hK hR dX4_isNarrow_17 hw.1 hw.2.1 ?_
  have hw := hw.2.2
  refine lv_isub hx hb dX4_isNarrow_18 ?_
  refine lv_iload_n hx hb dX4_isNarrow_19 rfl (lv_at hl 2 rfl) ?_
  refine lv_icmp_gt (tgt := 27) hx hb dX4_isNarrow_20 (by decide) (fun c_5 => ?_) (fun c_5 => ?_)
  · have hw := x_t hw c_5
    refine lv_iconst (v := 0) hx hb dX4_isNarrow_27 (by decide) ?_
    exact x_rz hx hb hr hlocks hR hS dX4_isNarrow_28 (Or.inl rfl) ⟨rfl, hw⟩
  · have hw := x_f hw c_5
    refine lv_iconst (v := 1) hx hb dX4_isNarrow_23 (by decide) ?_
    refine lv_goto (tgt := 28) hx hb dX4_isNarrow_24 (by decide) ?_
    exact x_rz hx hb hr hlocks hR hS dX4_isNarrow_28 (Or.inr rfl) ⟨rfl, hw⟩
def w_X4_covers (S : xH) (o : Nat) (x1 : Nat) (x2 : Int32) (Q : Int32 → Prop) : Prop := xT S o = 5 ∧ jn (fun (v0_1 : Int32) => xT S o = 5 ∧ jn (fun (v0_3 : Int32) => wif (v0_1 = 0) (Q 0) (wif (v0_3 = 0) (Q 1) (Q 2))) (fun J_4 => jn0 (J_4 0) (fun J_7 => wif ((xI S 251 o) = (-9)) (J_7) (xT S o = 5 ∧ wif ((xI S 252 o) = (-9)) (J_7) (xT S o = 5 ∧ w_X4_isNarrow S o 0 5 (fun (r_10 : Int32) => wif (r_10 = 0) (J_7) (xT S o = 5 ∧ w_X4_isNarrow S o 1 2 (fun (r_13 : Int32) => wif (r_13 = 0) (J_7) (J_4 1))))))))) (fun J_2 => jn0 (J_2 0) (fun J_16 => jn0 (xT S o = 5 ∧ jn0 (xT S x1 = 3 ∧ ∃ b_19, (xR S 150 x1) = some b_19 ∧ xT S b_19 = 101 ∧ vp_in 0 (xL S b_19) ∧ xT S o = 5 ∧ w_X4_spans S o 0 (xA S b_19 (Int32.toNatClampNeg 0)) (fun (r_21 : Int32) => wif (r_21 = 0) (J_16) (xT S x1 = 3 ∧ ∃ b_24, (xR S 150 x1) = some b_24 ∧ xT S b_24 = 101 ∧ vp_in 3 (xL S b_24) ∧ xT S o = 5 ∧ w_X4_spans S o 1 (xA S b_24 (Int32.toNatClampNeg 3)) (fun (r_26 : Int32) => wif (r_26 = 0) (J_16) (xT S o = 5 ∧ w_X4_spans S o 2 x2 (fun (r_29 : Int32) => wif (r_29 = 0) (J_16) (J_2 1))))))) (fun J_18 => wif ((xI S 252 o) = (-9)) (J_18) (xT S o = 5 ∧ xT S x1 = 3 ∧ ∃ b_33, (xR S 150 x1) = some b_33 ∧ xT S b_33 = 101 ∧ vp_in 2 (xL S b_33) ∧ wif ((xI S 252 o) = (xA S b_33 (Int32.toNatClampNeg 2))) (J_18) (J_16)))) (fun J_17 => wif ((xI S 251 o) = (-9)) (J_17) (xT S o = 5 ∧ xT S x1 = 3 ∧ ∃ b_37, (xR S 150 x1) = some b_37 ∧ xT S b_37 = 101 ∧ vp_in 1 (xL S b_37) ∧ wif ((xI S 251 o) = (xA S b_37 (Int32.toNatClampNeg 1))) (J_17) (J_16)))))
theorem hd_X4_covers : yX4_covers.cls = "PressedMen$Paper" ∧ yX4_covers.cls ≠ "java/lang/invoke/MethodHandle" ∧ yX4_covers.cls ≠ "java/lang/invoke/VarHandle" ∧ (parseMethodDescriptor yX4_covers.desc).map (fun d => d.parameters.length) = some 2 := by decide +kernel
set_option maxHeartbeats 4000000 in
theorem mt_X4_covers (l : Launch) {D : va_G} {d : Nat → ClassId} {base : Nat} {mc : va_W} {S : xH} {o : Nat} {x1 : Nat} {x2 : Int32} {Q : Int32 → Prop} (hw : w_X4_covers S o x1 x2 Q) : Met l yX4_covers (ws_ yX4_covers cX4_covers 5 (some FieldType.int)) (x_rm 2 0 0 44) (x_Pc D d base mc S [.ref o, .ref x1, .int x2]) (x_Qi D d base mc (fun r S' => S' = S ∧ Q r)) 0 0 (x_A base) := by
  refine x_met (by decide) (Nat.le_of_ble_eq_true rfl) ?_
  intro p e s m below meth c hx hb hml hr hlocks hown hts hz hR hK hin ls hl
  have hown : s.vm.findClass "PressedMen$Paper" = some m.cls := hown
  have hl : lv_has ls 5 [(0, .ref o), (1, .ref x1), (2, .int x2)] := hl
  have hS : va_S (x_A base) s.heap s.heap [] := va_S.rf
  unfold w_X4_covers at hw
  refine lv_aload_n hx hb dX4_covers_0 rfl (lv_at hl 0 rfl) ?_
  refine x_getI (ci := 4) (C := RX4) (T := TX4) (N := 4) (f := 251) hx hb hts in_X4 hown hK hR rfl 1 (by decide) (hts _ q355) (fun _ h => h) rfl (by decide) dX4_covers_1 hw.1 ?_
  have hw := hw.2
  refine lv_bipush (v := (-9)) hx hb dX4_covers_4 (by decide) ?_
  refine x_jn (G := fun (v0_1 : Int32) => ∀ (ls : Array Slot) (H : Heap) (locs : List Loc), x_Rp D d (x_A base) mc S H → va_S (x_A base) s.heap H locs → lv_has ls 5 [(0, .ref o)] → W p l e (x_rm 2 0 0 44) s m ([.ref o, .ref x1, .int x2] : List Value).toArray below meth c H locs 0 0 (MQ below (x_Qi D d base mc (fun r S' => S' = S ∧ Q r)) ([.ref o, .ref x1, .int x2] : List Value).toArray s 0 0 (x_A base)) (F0 m 86 ls [.int v0_1])) hw (fun v0_1 hw => ?_) (fun hJ_2 hw => ?_)
  · intro ls H locs hR hS hl
    refine lv_istore_n (lv' := [(3, .int v0_1), (0, .ref o)]) hx hb dX4_covers_86 rfl hl (by decide) rfl (fun ls hl => ?_)
    refine lv_aload_n hx hb dX4_covers_87 rfl (lv_at hl 1 rfl) ?_
    refine x_getI (ci := 4) (C := RX4) (T := TX4) (N := 4) (f := 251) hx hb hts in_X4 hown hK hR rfl 1 (by decide) (hts _ q355) (fun _ h => h) rfl (by decide) dX4_covers_88 hw.1 ?_
    have hw := hw.2
    refine lv_bipush (v := (-9)) hx hb dX4_covers_91 (by decide) ?_
    refine x_jn (G := fun (v0_3 : Int32) => ∀ (ls : Array Slot) (H : Heap) (locs : List Loc), x_Rp D d (x_A base) mc S H → va_S (x_A base) s.heap H locs → lv_has ls 5 [(3, .int v0_1)] → W p l e (x_rm 2 0 0 44) s m ([.ref o, .ref x1, .int x2] : List Value).toArray below meth c H locs 0 0 (MQ below (x_Qi D d base mc (fun r S' => S' = S ∧ Q r)) ([.ref o, .ref x1, .int x2] : List Value).toArray s 0 0 (x_A base)) (F0 m 128 ls [.int v0_3])) hw (fun v0_3 hw => ?_) (fun hJ_4 hw => ?_)
    · intro ls H locs hR hS hl
      refine lv_istore (lv' := [(4, .int v0_3), (3, .int v0_1)]) hx hb dX4_covers_128 hl (by decide) rfl (fun ls hl => ?_)
      refine lv_iload_n hx hb dX4_covers_130 rfl (lv_at hl 1 rfl) ?_
      refine lv_if_ne (tgt := 138) hx hb dX4_covers_131 (by decide) (fun c_5 => ?_) (fun c_5 => ?_)
      · have hw := x_f hw c_5
        refine lv_iload hx hb dX4_covers_138 (lv_at hl 0 rfl) ?_
        refine lv_if_eq (tgt := 147) hx hb dX4_covers_140 (by decide) (fun c_6 => ?_) (fun c_6 => ?_)
        · have hw := x_t hw c_6
          refine lv_iconst (v := 1) hx hb dX4_covers_147 (by decide) ?_
          exact x_ri hx hb hr hlocks hR hS dX4_covers_148 ⟨rfl, hw⟩
        · have hw := x_f hw c_6
          refine lv_iconst (v := 2) hx hb dX4_covers_143 (by decide) ?_
          refine lv_goto (tgt := 148) hx hb dX4_covers_144 (by decide) ?_
          exact x_ri hx hb hr hlocks hR hS dX4_covers_148 ⟨rfl, hw⟩
      · have hw := x_t hw c_5
        refine lv_iconst (v := 0) hx hb dX4_covers_134 (by decide) ?_
        refine lv_goto (tgt := 148) hx hb dX4_covers_135 (by decide) ?_
        exact x_ri hx hb hr hlocks hR hS dX4_covers_148 ⟨rfl, hw⟩
    · refine x_jn0 (G := ∀ (ls : Array Slot) (H : Heap) (locs : List Loc), x_Rp D d (x_A base) mc S H → va_S (x_A base) s.heap H locs → lv_has ls 5 [(3, .int v0_1)] → W p l e (x_rm 2 0 0 44) s m ([.ref o, .ref x1, .int x2] : List Value).toArray below meth c H locs 0 0 (MQ below (x_Qi D d base mc (fun r S' => S' = S ∧ Q r)) ([.ref o, .ref x1, .int x2] : List Value).toArray s 0 0 (x_A base)) (F0 m 127 ls [])) hw (fun hw => ?_) (fun hJ_7 hw => ?_)
      · intro ls H locs hR hS hl
        refine lv_iconst (v := 0) hx hb dX4_covers_127 (by decide) ?_
        exact hJ_4 0 hw ls _ _ hR hS (lv_sub hl [0] rfl)
      · refine lv_icmp_eq (tgt := 127) hx hb dX4_covers_93 (by decide) (fun c_8 => ?_) (fun c_8 => ?_)
        · have hw := x_t hw c_8
          exact hJ_7  hw ls _ _ hR hS (lv_sub hl [0] rfl)
        · have hw := x_f hw c_8
          refine lv_aload_n hx hb dX4_covers_96 rfl (lv_at hl 1 rfl) ?_
          refine x_getI (ci := 4) (C := RX4) (T := TX4) (N := 4) (f := 252) hx hb hts in_X4 hown hK hR rfl 2 (by decide) (hts _ q356) (fun _ h => h) rfl (by decide) dX4_covers_97 hw.1 ?_
          have hw := hw.2
          refine lv_bipush (v := (-9)) hx hb dX4_covers_100 (by decide) ?_
          refine lv_icmp_eq (tgt := 127) hx hb dX4_covers_102 (by decide) (fun c_9 => ?_) (fun c_9 => ?_)
          · have hw := x_t hw c_9
            exact hJ_7  hw ls _ _ hR hS (lv_sub hl [0] rfl)
          · have hw := x_f hw c_9
            refine lv_aload_n hx hb dX4_covers_105 rfl (lv_at hl 1 rfl) ?_
            refine lv_iconst (v := 0) hx hb dX4_covers_106 (by decide) ?_
            refine lv_iconst (v := 5) hx hb dX4_covers_107 (by decide) ?_
            obtain ⟨ha, hw⟩ := hw
            refine x_ci (va_runV (As := [.int 0, .int 5]) (rest := []) ⟨hx, hb, hml, hown, hts⟩ (mt_X4_isNarrow l hw) (cwV 2 hts (lw_V q387 q389 qs10 q69 q390) rfl rfl rfl hd_X4_isNarrow ⟨Nat.le_of_ble_eq_true rfl, Nat.le_of_ble_eq_true rfl⟩) ⟨x_Pc_blind, hR.recv hK (ci := 4) rfl (by decide) ha, x_Pc_pre hR hz hS hK⟩ rfl rfl hl.1 rfl (lv_room (Nat.le_of_ble_eq_true rfl)) dX4_covers_108 ⟨Nat.le_refl _, Nat.le_refl _⟩) hS (fun r_10 S_11 H locs hp hR hS => ?_)
            have hw := hp.2
            rw [hp.1] at hR
            refine lv_if_eq (tgt := 127) hx hb dX4_covers_111 (by decide) (fun c_12 => ?_) (fun c_12 => ?_)
            · have hw := x_t hw c_12
              exact hJ_7  hw ls _ _ hR hS (lv_sub hl [0] rfl)
            · have hw := x_f hw c_12
              refine lv_aload_n hx hb dX4_covers_114 rfl (lv_at hl 1 rfl) ?_
              refine lv_iconst (v := 1) hx hb dX4_covers_115 (by decide) ?_
              refine lv_iconst (v := 2) hx hb dX4_covers_116 (by decide) ?_
              obtain ⟨ha, hw⟩ := hw
              refine x_ci (va_runV (As := [.int 1, .int 2]) (rest := []) ⟨hx, hb, hml, hown, hts⟩ (mt_X4_isNarrow l hw) (cwV 2 hts (lw_V q387 q389 qs10 q69 q390) rfl rfl rfl hd_X4_isNarrow ⟨Nat.le_of_ble_eq_true rfl, Nat.le_of_ble_eq_true rfl⟩) ⟨x_Pc_blind, hR.recv hK (ci := 4) rfl (by decide) ha, x_Pc_pre hR hz hS hK⟩ rfl rfl hl.1 rfl (lv_room (Nat.le_of_ble_eq_true rfl)) dX4_covers_117 ⟨Nat.le_refl _, Nat.le_refl _⟩) hS (fun r_13 S_14 H locs hp hR hS => ?_)
              have hw := hp.2
              rw [hp.1] at hR
              refine lv_if_eq (tgt := 127) hx hb dX4_covers_120 (by decide) (fun c_15 => ?_) (fun c_15 => ?_)
              · have hw := x_t hw c_15
                exact hJ_7  hw ls _ _ hR hS (lv_sub hl [0] rfl)
              · have hw := x_f hw c_15
                refine lv_iconst (v := 1) hx hb dX4_covers_123 (by decide) ?_
                refine lv_goto (tgt := 128) hx hb dX4_covers_124 (by decide) ?_
                exact hJ_4 1 hw ls _ _ hR hS (lv_sub hl [0] rfl)
  · refine x_jn0 (G := ∀ (ls : Array Slot) (H : Heap) (locs : List Loc), x_Rp D d (x_A base) mc S H → va_S (x_A base) s.heap H locs → lv_has ls 5 [(0, .ref o)] → W p l e (x_rm 2 0 0 44) s m ([.ref o, .ref x1, .int x2] : List Value).toArray below meth c H locs 0 0 (MQ below (x_Qi D d base mc (fun r S' => S' = S ∧ Q r)) ([.ref o, .ref x1, .int x2] : List Value).toArray s 0 0 (x_A base)) (F0 m 85 ls [])) hw (fun hw => ?_) (fun hJ_16 hw => ?_)
    · intro ls H locs hR hS hl
      refine lv_iconst (v := 0) hx hb dX4_covers_85 (by decide) ?_
      exact hJ_2 0 hw ls _ _ hR hS (lv_sub hl [0] rfl)
    · refine x_jn0 (G := ∀ (ls : Array Slot) (H : Heap) (locs : List Loc), x_Rp D d (x_A base) mc S H → va_S (x_A base) s.heap H locs → lv_has ls 5 [(0, .ref o), (1, .ref x1), (2, .int x2)] → W p l e (x_rm 2 0 0 44) s m ([.ref o, .ref x1, .int x2] : List Value).toArray below meth c H locs 0 0 (MQ below (x_Qi D d base mc (fun r S' => S' = S ∧ Q r)) ([.ref o, .ref x1, .int x2] : List Value).toArray s 0 0 (x_A base)) (F0 m 22 ls [])) hw (fun hw => ?_) (fun hJ_17 hw => ?_)
      · intro ls H locs hR hS hl
        refine lv_aload_n hx hb dX4_covers_22 rfl (lv_at hl 0 rfl) ?_
        refine x_getI (ci := 4) (C := RX4) (T := TX4) (N := 4) (f := 252) hx hb hts in_X4 hown hK hR rfl 2 (by decide) (hts _ q356) (fun _ h => h) rfl (by decide) dX4_covers_23 hw.1 ?_
        have hw := hw.2
        refine lv_bipush (v := (-9)) hx hb dX4_covers_26 (by decide) ?_
        refine x_jn0 (G := ∀ (ls : Array Slot) (H : Heap) (locs : List Loc), x_Rp D d (x_A base) mc S H → va_S (x_A base) s.heap H locs → lv_has ls 5 [(0, .ref o), (1, .ref x1), (2, .int x2)] → W p l e (x_rm 2 0 0 44) s m ([.ref o, .ref x1, .int x2] : List Value).toArray below meth c H locs 0 0 (MQ below (x_Qi D d base mc (fun r S' => S' = S ∧ Q r)) ([.ref o, .ref x1, .int x2] : List Value).toArray s 0 0 (x_A base)) (F0 m 44 ls [])) hw (fun hw => ?_) (fun hJ_18 hw => ?_)
        · intro ls H locs hR hS hl
          refine lv_aload_n hx hb dX4_covers_44 rfl (lv_at hl 0 rfl) ?_
          refine lv_iconst (v := 0) hx hb dX4_covers_45 (by decide) ?_
          refine lv_aload_n hx hb dX4_covers_46 rfl (lv_at hl 1 rfl) ?_
          refine x_getNR (ci := 2) (C := RX2) (T := TX2) (N := 5) (f := 150) hx hb hts in_X2 hown hK hR rfl 0 (by decide) (hK.2 _ q229 rfl) (fun _ h => h) rfl (by decide) dX4_covers_47 hw.1 ?_
          have hw := hw.2
          refine lv_iconst (v := 0) hx hb dX4_covers_50 (by decide) ?_
          obtain ⟨b_19, e_20, hw⟩ := hw
          refine x_dr1 e_20 ?_
          refine x_iald hx hb hK hR dX4_covers_51 hw.1 hw.2.1 ?_
          have hw := hw.2.2
          obtain ⟨ha, hw⟩ := hw
          refine x_ci (va_runV (As := [.int 0, .int (xA S b_19 (Int32.toNatClampNeg 0))]) (rest := []) ⟨hx, hb, hml, hown, hts⟩ (mt_X4_spans l hw) (cwV 2 hts (lw_V q382 q384 qs9 q69 q385) rfl rfl rfl hd_X4_spans ⟨Nat.le_of_ble_eq_true rfl, Nat.le_of_ble_eq_true rfl⟩) ⟨x_Pc_blind, hR.recv hK (ci := 4) rfl (by decide) ha, x_Pc_pre hR hz hS hK⟩ rfl rfl hl.1 rfl (lv_room (Nat.le_of_ble_eq_true rfl)) dX4_covers_52 ⟨Nat.le_refl _, Nat.le_refl _⟩) hS (fun r_21 S_22 H locs hp hR hS => ?_)
          have hw := hp.2
          rw [hp.1] at hR
          refine lv_if_eq (tgt := 85) hx hb dX4_covers_55 (by decide) (fun c_23 => ?_) (fun c_23 => ?_)
          · have hw := x_t hw c_23
            exact hJ_16  hw ls _ _ hR hS (lv_sub hl [0] rfl)
          · have hw := x_f hw c_23
            refine lv_aload_n hx hb dX4_covers_58 rfl (lv_at hl 0 rfl) ?_
            refine lv_iconst (v := 1) hx hb dX4_covers_59 (by decide) ?_
            refine lv_aload_n hx hb dX4_covers_60 rfl (lv_at hl 1 rfl) ?_
            refine x_getNR (ci := 2) (C := RX2) (T := TX2) (N := 5) (f := 150) hx hb hts in_X2 hown hK hR rfl 0 (by decide) (hK.2 _ q229 rfl) (fun _ h => h) rfl (by decide) dX4_covers_61 hw.1 ?_
            have hw := hw.2
            refine lv_iconst (v := 3) hx hb dX4_covers_64 (by decide) ?_
            obtain ⟨b_24, e_25, hw⟩ := hw
            refine x_dr1 e_25 ?_
            refine x_iald hx hb hK hR dX4_covers_65 hw.1 hw.2.1 ?_
            have hw := hw.2.2
            obtain ⟨ha, hw⟩ := hw
            refine x_ci (va_runV (As := [.int 1, .int (xA S b_24 (Int32.toNatClampNeg 3))]) (rest := []) ⟨hx, hb, hml, hown, hts⟩ (mt_X4_spans l hw) (cwV 2 hts (lw_V q382 q384 qs9 q69 q385) rfl rfl rfl hd_X4_spans ⟨Nat.le_of_ble_eq_true rfl, Nat.le_of_ble_eq_true rfl⟩) ⟨x_Pc_blind, hR.recv hK (ci := 4) rfl (by decide) ha, x_Pc_pre hR hz hS hK⟩ rfl rfl hl.1 rfl (lv_room (Nat.le_of_ble_eq_true rfl)) dX4_covers_66 ⟨Nat.le_refl _, Nat.le_refl _⟩) hS (fun r_26 S_27 H locs hp hR hS => ?_)
            have hw := hp.2
            rw [hp.1] at hR
            refine lv_if_eq (tgt := 85) hx hb dX4_covers_69 (by decide) (fun c_28 => ?_) (fun c_28 => ?_)
            · have hw := x_t hw c_28
              exact hJ_16  hw ls _ _ hR hS (lv_sub hl [0] rfl)
            · have hw := x_f hw c_28
              refine lv_aload_n hx hb dX4_covers_72 rfl (lv_at hl 0 rfl) ?_
              refine lv_iconst (v := 2) hx hb dX4_covers_73 (by decide) ?_
              refine lv_iload_n hx hb dX4_covers_74 rfl (lv_at hl 2 rfl) ?_
              obtain ⟨ha, hw⟩ := hw
              refine x_ci (va_runV (As := [.int 2, .int x2]) (rest := []) ⟨hx, hb, hml, hown, hts⟩ (mt_X4_spans l hw) (cwV 2 hts (lw_V q382 q384 qs9 q69 q385) rfl rfl rfl hd_X4_spans ⟨Nat.le_of_ble_eq_true rfl, Nat.le_of_ble_eq_true rfl⟩) ⟨x_Pc_blind, hR.recv hK (ci := 4) rfl (by decide) ha, x_Pc_pre hR hz hS hK⟩ rfl rfl hl.1 rfl (lv_room (Nat.le_of_ble_eq_true rfl)) dX4_covers_75 ⟨Nat.le_refl _, Nat.le_refl _⟩) hS (fun r_29 S_30 H locs hp hR hS => ?_)
              have hw := hp.2
              rw [hp.1] at hR
              refine lv_if_eq (tgt := 85) hx hb dX4_covers_78 (by decide) (fun c_31 => ?_) (fun c_31 => ?_)
              · have hw := x_t hw c_31
                exact hJ_16  hw ls _ _ hR hS (lv_sub hl [0] rfl)
              · have hw := x_f hw c_31
                refine lv_iconst (v := 1) hx hb dX4_covers_81 (by decide) ?_
                refine lv_goto (tgt := 86) hx hb dX4_covers_82 (by decide) ?_
                exact hJ_2 1 hw ls _ _ hR hS (lv_sub hl [0] rfl)
        · refine lv_icmp_eq (tgt := 44) hx hb dX4_covers_28 (by decide) (fun c_32 => ?_) (fun c_32 => ?_)
          · have hw := x_t hw c_32
            exact hJ_18  hw ls _ _ hR hS (lv_sub hl [0, 1, 2] rfl)
          · have hw := x_f hw c_32
            refine lv_aload_n hx hb dX4_covers_31 rfl (lv_at hl 0 rfl) ?_
            refine x_getI (ci := 4) (C := RX4) (T := TX4) (N := 4) (f := 252) hx hb hts in_X4 hown hK hR rfl 2 (by decide) (hts _ q356) (fun _ h => h) rfl (by decide) dX4_covers_32 hw.1 ?_
            have hw := hw.2
            refine lv_aload_n hx hb dX4_covers_35 rfl (lv_at hl 1 rfl) ?_
            refine x_getNR (ci := 2) (C := RX2) (T := TX2) (N := 5) (f := 150) hx hb hts in_X2 hown hK hR rfl 0 (by decide) (hK.2 _ q229 rfl) (fun _ h => h) rfl (by decide) dX4_covers_36 hw.1 ?_
            have hw := hw.2
            refine lv_iconst (v := 2) hx hb dX4_covers_39 (by decide) ?_
            obtain ⟨b_33, e_34, hw⟩ := hw
            refine x_dr1 e_34 ?_
            refine x_iald hx hb hK hR dX4_covers_40 hw.1 hw.2.1 ?_
            have hw := hw.2.2
            refine lv_icmp_ne (tgt := 85) hx hb dX4_covers_41 (by decide) (fun c_35 => ?_) (fun c_35 => ?_)
            · have hw := x_f hw c_35
              exact hJ_16  hw ls _ _ hR hS (lv_sub hl [0] rfl)
            · have hw := x_t hw c_35
              exact hJ_18  hw ls _ _ hR hS (lv_sub hl [0, 1, 2] rfl)
      · refine lv_icmp_eq (tgt := 22) hx hb dX4_covers_6 (by decide) (fun c_36 => ?_) (fun c_36 => ?_)
        · have hw := x_t hw c_36
          exact hJ_17  hw ls _ _ hR hS (lv_sub hl [0, 1, 2] rfl)
        · have hw := x_f hw c_36
          refine lv_aload_n hx hb dX4_covers_9 rfl (lv_at hl 0 rfl) ?_
          refine x_getI (ci := 4) (C := RX4) (T := TX4) (N := 4) (f := 251) hx hb hts in_X4 hown hK hR rfl 1 (by decide) (hts _ q355) (fun _ h => h) rfl (by decide) dX4_covers_10 hw.1 ?_
          have hw := hw.2
          refine lv_aload_n hx hb dX4_covers_13 rfl (lv_at hl 1 rfl) ?_
          refine x_getNR (ci := 2) (C := RX2) (T := TX2) (N := 5) (f := 150) hx hb hts in_X2 hown hK hR rfl 0 (by decide) (hK.2 _ q229 rfl) (fun _ h => h) rfl (by decide) dX4_covers_14 hw.1 ?_
          have hw := hw.2
          refine lv_iconst (v := 1) hx hb dX4_covers_17 (by decide) ?_
          obtain ⟨b_37, e_38, hw⟩ := hw
          refine x_dr1 e_38 ?_
          refine x_iald hx hb hK hR dX4_covers_18 hw.1 hw.2.1 ?_
          have hw := hw.2.2
          refine lv_icmp_ne (tgt := 85) hx hb dX4_covers_19 (by decide) (fun c_39 => ?_) (fun c_39 => ?_)
          · have hw := x_f hw c_39
            exact hJ_16  hw ls _ _ hR hS (lv_sub hl [0] rfl)
          · have hw := x_t hw c_39
            exact hJ_17  hw ls _ _ hR hS (lv_sub hl [0, 1, 2] rfl)
def w_X0_cover (S : xH) (o : Nat) (x1 : Int32) (x2 : Int32) (x3 : Int32) (Q : Int32 → Prop) : Prop := xT S o = 1 ∧ w_X0_isPaper S o x1 (fun (r_1 : Int32) => wif (r_1 = 0) (Q (-1)) (xT S o = 1 ∧ w_X0_isMan S o x2 (fun (r_4 : Int32) => wif (r_4 = 0) (Q (-1)) (w_X0_isTide S x3 (fun (r_7 : Int32) => wif (r_7 = 0) (Q (-2)) (xT S o = 1 ∧ ∃ b_10, (xR S 57 o) = some b_10 ∧ xT S b_10 = 104 ∧ vp_in x1 (xL S b_10) ∧ xT S o = 1 ∧ ∃ b_12, (xR S 52 o) = some b_12 ∧ xT S b_12 = 103 ∧ vp_in x2 (xL S b_12) ∧ ∃ b_14, (xQ S b_10 (Int32.toNatClampNeg x1)) = some b_14 ∧ ∃ b_16, (xQ S b_12 (Int32.toNatClampNeg x2)) = some b_16 ∧ xT S b_14 = 5 ∧ w_X4_covers S b_14 b_16 x3 (fun (r_18 : Int32) => Q r_18)))))))
theorem hd_X0_cover : yX0_cover.cls = "PressedMen" ∧ yX0_cover.cls ≠ "java/lang/invoke/MethodHandle" ∧ yX0_cover.cls ≠ "java/lang/invoke/VarHandle" ∧ (parseMethodDescriptor yX0_cover.desc).map (fun d => d.parameters.length) = some 3 := by decide +kernel
set_option maxHeartbeats 4000000 in
theorem mt_X0_cover (l : Launch) {D : va_G} {d : Nat → ClassId} {base : Nat} {mc : va_W} {S : xH} {o : Nat} {x1 : Int32} {x2 : Int32} {x3 : Int32} {Q : Int32 → Prop} (hw : w_X0_cover S o x1 x2 x3 Q) : Met l yX0_cover (ws_ yX0_cover cX0_cover 4 (some FieldType.int)) (x_rm 3 0 0 68) (x_Pc D d base mc S [.ref o, .int x1, .int x2, .int x3]) (x_Qi D d base mc (fun r S' => S' = S ∧ Q r)) 0 0 (x_A base) := by
  refine x_met (by decide) (Nat.le_of_ble_eq_true rfl) ?_
  intro p e s m below meth c hx hb hml hr hlocks hown hts hz hR hK hin ls hl
  have hown : s.vm.findClass "PressedMen" = some m.cls := hown
  have hl : lv_has ls 4 [(0, .ref o), (1, .int x1), (2, .int x2), (3, .int x3)] := hl
  have hS : va_S (x_A base) s.heap s.heap [] := va_S.rf
  unfold w_X0_cover at hw
  refine lv_aload_n hx hb dX0_cover_0 rfl (lv_at hl 0 rfl) ?_
  refine lv_iload_n hx hb dX0_cover_1 rfl (lv_at hl 1 rfl) ?_
  obtain ⟨ha, hw⟩ := hw
  refine x_ci (va_runV (As := [.int x1]) (rest := []) ⟨hx, hb, hml, hown, hts⟩ (mt_X0_isPaper l hw) (cwV 1 hts (lw_V q371 q373 qs8 q64 q374) rfl rfl rfl hd_X0_isPaper ⟨Nat.le_of_ble_eq_true rfl, Nat.le_of_ble_eq_true rfl⟩) ⟨x_Pc_blind, hR.recv hK (ci := 0) rfl (by decide) ha, x_Pc_pre hR hz hS hK⟩ rfl rfl hl.1 rfl (lv_room (Nat.le_of_ble_eq_true rfl)) dX0_cover_2 ⟨Nat.le_refl _, Nat.le_refl _⟩) hS (fun r_1 S_2 H locs hp hR hS => ?_)
  have hw := hp.2
  rw [hp.1] at hR
  refine lv_if_eq (tgt := 16) hx hb dX0_cover_5 (by decide) (fun c_3 => ?_) (fun c_3 => ?_)
  · have hw := x_t hw c_3
    refine lv_iconst (v := (-1)) hx hb dX0_cover_16 (by decide) ?_
    exact x_ri hx hb hr hlocks hR hS dX0_cover_17 ⟨rfl, hw⟩
  · have hw := x_f hw c_3
    refine lv_aload_n hx hb dX0_cover_8 rfl (lv_at hl 0 rfl) ?_
    refine lv_iload_n hx hb dX0_cover_9 rfl (lv_at hl 2 rfl) ?_
    obtain ⟨ha, hw⟩ := hw
    refine x_ci (va_runV (As := [.int x2]) (rest := []) ⟨hx, hb, hml, hown, hts⟩ (mt_X0_isMan l hw) (cwV 1 hts (lw_V q252 q254 qs2 q64 q255) rfl rfl rfl hd_X0_isMan ⟨Nat.le_of_ble_eq_true rfl, Nat.le_of_ble_eq_true rfl⟩) ⟨x_Pc_blind, hR.recv hK (ci := 0) rfl (by decide) ha, x_Pc_pre hR hz hS hK⟩ rfl rfl hl.1 rfl (lv_room (Nat.le_of_ble_eq_true rfl)) dX0_cover_10 ⟨Nat.le_refl _, Nat.le_refl _⟩) hS (fun r_4 S_5 H locs hp hR hS => ?_)
    have hw := hp.2
    rw [hp.1] at hR
    refine lv_if_ne (tgt := 18) hx hb dX0_cover_13 (by decide) (fun c_6 => ?_) (fun c_6 => ?_)
    · have hw := x_f hw c_6
      refine lv_iload_n hx hb dX0_cover_18 rfl (lv_at hl 3 rfl) ?_
      refine x_ci (va_runS (As := [.int x3]) (rest := []) ⟨hx, hb, hml, hown, hts⟩ (mt_X0_isTide l hw) (va_cwS 1 hts (lw_S q375 q376 q64 q377) rfl rfl rfl hd_X0_isTide.2 ⟨Nat.le_of_ble_eq_true rfl, Nat.le_of_ble_eq_true rfl⟩) ⟨x_Pc_blind, x_Pc_pre hR hz hS hK⟩ rfl rfl hl.1 rfl (lv_room (Nat.le_of_ble_eq_true rfl)) dX0_cover_19 ⟨Nat.le_refl _, Nat.le_refl _⟩) hS (fun r_7 S_8 H locs hp hR hS => ?_)
      have hw := hp.2
      rw [hp.1] at hR
      refine lv_if_eq (tgt := 44) hx hb dX0_cover_22 (by decide) (fun c_9 => ?_) (fun c_9 => ?_)
      · have hw := x_t hw c_9
        refine lv_bipush (v := (-2)) hx hb dX0_cover_44 (by decide) ?_
        exact x_ri hx hb hr hlocks hR hS dX0_cover_46 ⟨rfl, hw⟩
      · have hw := x_f hw c_9
        refine lv_aload_n hx hb dX0_cover_25 rfl (lv_at hl 0 rfl) ?_
        refine x_getR (ci := 0) (C := RX0) (T := TX0) (N := 19) (f := 57) hx hb hts in_X0 hown hK hR rfl 7 (by decide) (hts _ q120) (fun _ h => h) rfl (by decide) dX0_cover_26 hw.1 ?_
        have hw := hw.2
        refine lv_iload_n hx hb dX0_cover_29 rfl (lv_at hl 1 rfl) ?_
        obtain ⟨b_10, e_11, hw⟩ := hw
        refine x_dr1 e_11 ?_
        refine x_aald (t := 104) hx hb hK hR (by decide) rfl rfl dX0_cover_30 hw.1 hw.2.1 ?_
        have hw := hw.2.2
        refine lv_aload_n hx hb dX0_cover_31 rfl (lv_at hl 0 rfl) ?_
        refine x_getR (ci := 0) (C := RX0) (T := TX0) (N := 19) (f := 52) hx hb hts in_X0 hown hK hR rfl 2 (by decide) (hts _ q114) (fun _ h => h) rfl (by decide) dX0_cover_32 hw.1 ?_
        have hw := hw.2
        refine lv_iload_n hx hb dX0_cover_35 rfl (lv_at hl 2 rfl) ?_
        obtain ⟨b_12, e_13, hw⟩ := hw
        refine x_dr1 e_13 ?_
        refine x_aald (t := 103) hx hb hK hR (by decide) rfl rfl dX0_cover_36 hw.1 hw.2.1 ?_
        have hw := hw.2.2
        refine lv_iload_n hx hb dX0_cover_37 rfl (lv_at hl 3 rfl) ?_
        obtain ⟨b_14, e_15, hw⟩ := hw
        refine x_dr2 e_15 ?_
        obtain ⟨b_16, e_17, hw⟩ := hw
        refine x_dr1 e_17 ?_
        obtain ⟨ha, hw⟩ := hw
        refine x_ci (va_runV (As := [.ref b_16, .int x3]) (rest := []) ⟨hx, hb, hml, hown, hts⟩ (mt_X4_covers l hw) (cwV 2 hts (lw_V q378 q379 q380 q69 q381) rfl rfl rfl hd_X4_covers ⟨Nat.le_of_ble_eq_true rfl, Nat.le_of_ble_eq_true rfl⟩) ⟨x_Pc_blind, hR.recv hK (ci := 4) rfl (by decide) ha, x_Pc_pre hR hz hS hK⟩ rfl rfl hl.1 rfl (lv_room (Nat.le_of_ble_eq_true rfl)) dX0_cover_38 ⟨Nat.le_refl _, Nat.le_refl _⟩) hS (fun r_18 S_19 H locs hp hR hS => ?_)
        have hw := hp.2
        rw [hp.1] at hR
        refine lv_goto (tgt := 46) hx hb dX0_cover_41 (by decide) ?_
        exact x_ri hx hb hr hlocks hR hS dX0_cover_46 ⟨rfl, hw⟩
    · have hw := x_t hw c_6
      refine lv_iconst (v := (-1)) hx hb dX0_cover_16 (by decide) ?_
      exact x_ri hx hb hr hlocks hR hS dX0_cover_17 ⟨rfl, hw⟩
def w_X0_same (S : xH) (o : Nat) (x1 : Int32) (x2 : Int32) (Q : Int32 → Prop) : Prop := xT S o = 1 ∧ w_X0_isPaper S o x1 (fun (r_1 : Int32) => wif (r_1 = 0) (Q (-1)) (w_X0_isTide S x2 (fun (r_4 : Int32) => wif (r_4 = 0) (Q (-2)) (lf2 (fun L_9 (x3_7 : Int32) (x4_8 : Int32) => xT S o = 1 ∧ wif ((xI S 53 o) ≤ x4_8) (Q x3_7) (xT S o = 1 ∧ ∃ b_11, (xR S 57 o) = some b_11 ∧ xT S b_11 = 104 ∧ vp_in x1 (xL S b_11) ∧ xT S o = 1 ∧ ∃ b_13, (xR S 52 o) = some b_13 ∧ xT S b_13 = 103 ∧ vp_in x4_8 (xL S b_13) ∧ ∃ b_15, (xQ S b_11 (Int32.toNatClampNeg x1)) = some b_15 ∧ ∃ b_17, (xQ S b_13 (Int32.toNatClampNeg x4_8)) = some b_17 ∧ xT S b_15 = 5 ∧ w_X4_covers S b_15 b_17 x2 (fun (r_19 : Int32) => jn (fun (v1_21 : Int32) => nm (x3_7 + v1_21) (fun x3_23 : Int32 => L_9 x3_23 (x4_8 + 1))) (fun J_22 => wif (r_19 ≤ 0) (J_22 0) (J_22 1))))) 0 0))))
theorem hd_X0_same : yX0_same.cls = "PressedMen" ∧ yX0_same.cls ≠ "java/lang/invoke/MethodHandle" ∧ yX0_same.cls ≠ "java/lang/invoke/VarHandle" ∧ (parseMethodDescriptor yX0_same.desc).map (fun d => d.parameters.length) = some 2 := by decide +kernel
set_option maxHeartbeats 4000000 in
theorem mt_X0_same (l : Launch) {D : va_G} {d : Nat → ClassId} {base : Nat} {mc : va_W} {S : xH} {o : Nat} {x1 : Int32} {x2 : Int32} {Q : Int32 → Prop} (hw : w_X0_same S o x1 x2 Q) : Met l yX0_same (ws_ yX0_same cX0_same 5 (some FieldType.int)) (x_rm 3 0 0 68) (x_Pc D d base mc S [.ref o, .int x1, .int x2]) (x_Qi D d base mc (fun r S' => S' = S ∧ Q r)) 0 0 (x_A base) := by
  refine x_met (by decide) (Nat.le_of_ble_eq_true rfl) ?_
  intro p e s m below meth c hx hb hml hr hlocks hown hts hz hR hK hin ls hl
  have hown : s.vm.findClass "PressedMen" = some m.cls := hown
  have hl : lv_has ls 5 [(0, .ref o), (1, .int x1), (2, .int x2)] := hl
  have hS : va_S (x_A base) s.heap s.heap [] := va_S.rf
  unfold w_X0_same at hw
  refine lv_aload_n hx hb dX0_same_0 rfl (lv_at hl 0 rfl) ?_
  refine lv_iload_n hx hb dX0_same_1 rfl (lv_at hl 1 rfl) ?_
  obtain ⟨ha, hw⟩ := hw
  refine x_ci (va_runV (As := [.int x1]) (rest := []) ⟨hx, hb, hml, hown, hts⟩ (mt_X0_isPaper l hw) (cwV 1 hts (lw_V q371 q373 qs8 q64 q374) rfl rfl rfl hd_X0_isPaper ⟨Nat.le_of_ble_eq_true rfl, Nat.le_of_ble_eq_true rfl⟩) ⟨x_Pc_blind, hR.recv hK (ci := 0) rfl (by decide) ha, x_Pc_pre hR hz hS hK⟩ rfl rfl hl.1 rfl (lv_room (Nat.le_of_ble_eq_true rfl)) dX0_same_2 ⟨Nat.le_refl _, Nat.le_refl _⟩) hS (fun r_1 S_2 H locs hp hR hS => ?_)
  have hw := hp.2
  rw [hp.1] at hR
  refine lv_if_ne (tgt := 10) hx hb dX0_same_5 (by decide) (fun c_3 => ?_) (fun c_3 => ?_)
  · have hw := x_f hw c_3
    refine lv_iload_n hx hb dX0_same_10 rfl (lv_at hl 2 rfl) ?_
    refine x_ci (va_runS (As := [.int x2]) (rest := []) ⟨hx, hb, hml, hown, hts⟩ (mt_X0_isTide l hw) (va_cwS 1 hts (lw_S q375 q376 q64 q377) rfl rfl rfl hd_X0_isTide.2 ⟨Nat.le_of_ble_eq_true rfl, Nat.le_of_ble_eq_true rfl⟩) ⟨x_Pc_blind, x_Pc_pre hR hz hS hK⟩ rfl rfl hl.1 rfl (lv_room (Nat.le_of_ble_eq_true rfl)) dX0_same_11 ⟨Nat.le_refl _, Nat.le_refl _⟩) hS (fun r_4 S_5 H locs hp hR hS => ?_)
    have hw := hp.2
    rw [hp.1] at hR
    refine lv_if_ne (tgt := 20) hx hb dX0_same_14 (by decide) (fun c_6 => ?_) (fun c_6 => ?_)
    · have hw := x_f hw c_6
      refine lv_iconst (v := 0) hx hb dX0_same_20 (by decide) ?_
      refine lv_istore_n (lv' := [(3, .int 0), (0, .ref o), (1, .int x1), (2, .int x2)]) hx hb dX0_same_21 rfl hl (by decide) rfl (fun ls hl => ?_)
      refine lv_iconst (v := 0) hx hb dX0_same_22 (by decide) ?_
      refine lv_istore (lv' := [(4, .int 0), (3, .int 0), (0, .ref o), (1, .int x1), (2, .int x2)]) hx hb dX0_same_23 hl (by decide) rfl (fun ls hl => ?_)
      refine x_lf2 (G := fun (x3_7 : Int32) (x4_8 : Int32) => ∀ (ls : Array Slot) (H : Heap) (locs : List Loc), x_Rp D d (x_A base) mc S H → va_S (x_A base) s.heap H locs → lv_has ls 5 [(0, .ref o), (1, .int x1), (2, .int x2), (3, .int x3_7), (4, .int x4_8)] → W p l e (x_rm 3 0 0 68) s m ([.ref o, .int x1, .int x2] : List Value).toArray below meth c H locs 0 0 (MQ below (x_Qi D d base mc (fun r S' => S' = S ∧ Q r)) ([.ref o, .int x1, .int x2] : List Value).toArray s 0 0 (x_A base)) (F0 m 25 ls [])) hw (fun x3_7 x4_8 hw => ?_) ls _ _ hR hS (lv_sub hl [2, 3, 4, 1, 0] rfl)
      intro ls H locs hR hS hl
      refine lv_iload hx hb dX0_same_25 (lv_at hl 4 rfl) ?_
      refine lv_aload_n hx hb dX0_same_27 rfl (lv_at hl 0 rfl) ?_
      refine x_getI (ci := 0) (C := RX0) (T := TX0) (N := 19) (f := 53) hx hb hts in_X0 hown hK hR rfl 3 (by decide) (hts _ q116) (fun _ h => h) rfl (by decide) dX0_same_28 hw.1 ?_
      have hw := hw.2
      refine lv_icmp_ge (tgt := 68) hx hb dX0_same_31 (by decide) (fun c_10 => ?_) (fun c_10 => ?_)
      · have hw := x_t hw c_10
        refine lv_iload_n hx hb dX0_same_68 rfl (lv_at hl 3 rfl) ?_
        exact x_ri hx hb hr hlocks hR hS dX0_same_69 ⟨rfl, hw⟩
      · have hw := x_f hw c_10
        refine lv_iload_n hx hb dX0_same_34 rfl (lv_at hl 3 rfl) ?_
        refine lv_aload_n hx hb dX0_same_35 rfl (lv_at hl 0 rfl) ?_
        refine x_getR (ci := 0) (C := RX0) (T := TX0) (N := 19) (f := 57) hx hb hts in_X0 hown hK hR rfl 7 (by decide) (hts _ q120) (fun _ h => h) rfl (by decide) dX0_same_36 hw.1 ?_
        have hw := hw.2
        refine lv_iload_n hx hb dX0_same_39 rfl (lv_at hl 1 rfl) ?_
        obtain ⟨b_11, e_12, hw⟩ := hw
        refine x_dr1 e_12 ?_
        refine x_aald (t := 104) hx hb hK hR (by decide) rfl rfl dX0_same_40 hw.1 hw.2.1 ?_
        have hw := hw.2.2
        refine lv_aload_n hx hb dX0_same_41 rfl (lv_at hl 0 rfl) ?_
        refine x_getR (ci := 0) (C := RX0) (T := TX0) (N := 19) (f := 52) hx hb hts in_X0 hown hK hR rfl 2 (by decide) (hts _ q114) (fun _ h => h) rfl (by decide) dX0_same_42 hw.1 ?_
        have hw := hw.2
        refine lv_iload hx hb dX0_same_45 (lv_at hl 4 rfl) ?_
        obtain ⟨b_13, e_14, hw⟩ := hw
        refine x_dr1 e_14 ?_
        refine x_aald (t := 103) hx hb hK hR (by decide) rfl rfl dX0_same_47 hw.1 hw.2.1 ?_
        have hw := hw.2.2
        refine lv_iload_n hx hb dX0_same_48 rfl (lv_at hl 2 rfl) ?_
        obtain ⟨b_15, e_16, hw⟩ := hw
        refine x_dr2 e_16 ?_
        obtain ⟨b_17, e_18, hw⟩ := hw
        refine x_dr1 e_18 ?_
        obtain ⟨ha, hw⟩ := hw
        refine x_ci (va_runV (As := [.ref b_17, .int x2]) (rest := [.int x3_7]) ⟨hx, hb, hml, hown, hts⟩ (mt_X4_covers l hw) (cwV 2 hts (lw_V q378 q379 q380 q69 q381) rfl rfl rfl hd_X4_covers ⟨Nat.le_of_ble_eq_true rfl, Nat.le_of_ble_eq_true rfl⟩) ⟨x_Pc_blind, hR.recv hK (ci := 4) rfl (by decide) ha, x_Pc_pre hR hz hS hK⟩ rfl rfl hl.1 rfl (lv_room (Nat.le_of_ble_eq_true rfl)) dX0_same_49 ⟨Nat.le_refl _, Nat.le_refl _⟩) hS (fun r_19 S_20 H locs hp hR hS => ?_)
        have hw := hp.2
        rw [hp.1] at hR
        refine x_jn (G := fun (v1_21 : Int32) => ∀ (ls : Array Slot) (H : Heap) (locs : List Loc), x_Rp D d (x_A base) mc S H → va_S (x_A base) s.heap H locs → lv_has ls 5 [(0, .ref o), (1, .int x1), (2, .int x2), (4, .int x4_8)] → W p l e (x_rm 3 0 0 68) s m ([.ref o, .int x1, .int x2] : List Value).toArray below meth c H locs 0 0 (MQ below (x_Qi D d base mc (fun r S' => S' = S ∧ Q r)) ([.ref o, .int x1, .int x2] : List Value).toArray s 0 0 (x_A base)) (F0 m 60 ls [.int v1_21, .int x3_7])) hw (fun v1_21 hw => ?_) (fun hJ_22 hw => ?_)
        · intro ls H locs hR hS hl
          refine lv_iadd hx hb dX0_same_60 ?_
          refine lv_topi (fun x3_23 ex3_23 => ?_)
          have hw := hw x3_23 ex3_23
          refine lv_istore_n (lv' := [(3, .int x3_23), (0, .ref o), (1, .int x1), (2, .int x2), (4, .int x4_8)]) hx hb dX0_same_61 rfl hl (by decide) rfl (fun ls hl => ?_)
          refine lv_iinc (v := (x4_8 + 1)) (lv' := [(4, .int (x4_8 + 1)), (3, .int x3_23), (0, .ref o), (1, .int x1), (2, .int x2)]) hx hb dX0_same_62 hl (k := 4) rfl rfl (by decide) rfl (fun ls hl => ?_)
          refine lv_goto (tgt := 25) hx hb dX0_same_65 (by decide) ?_
          exact hw ls _ _ hR hS (lv_sub hl [2, 3, 4, 1, 0] rfl)
        · refine lv_if_le (tgt := 59) hx hb dX0_same_52 (by decide) (fun c_24 => ?_) (fun c_24 => ?_)
          · have hw := x_t hw c_24
            refine lv_iconst (v := 0) hx hb dX0_same_59 (by decide) ?_
            exact hJ_22 0 hw ls _ _ hR hS (lv_sub hl [0, 1, 2, 4] rfl)
          · have hw := x_f hw c_24
            refine lv_iconst (v := 1) hx hb dX0_same_55 (by decide) ?_
            refine lv_goto (tgt := 60) hx hb dX0_same_56 (by decide) ?_
            exact hJ_22 1 hw ls _ _ hR hS (lv_sub hl [0, 1, 2, 4] rfl)
    · have hw := x_t hw c_6
      refine lv_bipush (v := (-2)) hx hb dX0_same_17 (by decide) ?_
      exact x_ri hx hb hr hlocks hR hS dX0_same_19 ⟨rfl, hw⟩
  · have hw := x_t hw c_3
    refine lv_iconst (v := (-1)) hx hb dX0_same_8 (by decide) ?_
    exact x_ri hx hb hr hlocks hR hS dX0_same_9 ⟨rfl, hw⟩
def w_X0_shown (k n : Nat) (S : xH) (o : Nat) (x1 : Int32) (x2 : Int32) (Q : Int32 → xH → Prop) : Prop := xT S o = 1 ∧ w_X0_isPaper S o x1 (fun (r_1 : Int32) => wif (r_1 = 0) (Q (-1) S) (w_X0_isTide S x2 (fun (r_4 : Int32) => wif (r_4 = 0) (Q (-2) S) (1 ≤ k ∧ 40 ≤ n ∧ ∀ a_7, xT S a_7 = 0 → nm (sV S a_7 102 40) (fun S_8 : xH => lf3 (fun L_12 (x4_9 : Int32) (x5_10 : Int32) (S_11 : xH) => xT S_11 o = 1 ∧ wif ((xI S_11 62 o) ≤ x5_10) (Q x4_9 S_11) (xT S_11 o = 1 ∧ ∃ b_14, (xR S_11 61 o) = some b_14 ∧ xT S_11 b_14 = 106 ∧ vp_in x5_10 (xL S_11 b_14) ∧ ∃ b_16, (xQ S_11 b_14 (Int32.toNatClampNeg x5_10)) = some b_16 ∧ xT S_11 b_16 = 17 ∧ jn2 (fun (x4_18 : Int32) (S_19 : xH) => L_12 x4_18 (x5_10 + 1) S_19) (fun J_20 => wif ((xI S_11 852 b_16) = x1) (xT S_11 b_16 = 17 ∧ w_X0_isIn S_11 (xI S_11 850 b_16) ((x2 - 14) + 1) x2 (fun (r_22 : Int32) => wif (r_22 = 0) (J_20 x4_9 S_11) (xT S_11 b_16 = 17 ∧ xT S_11 a_7 = 102 ∧ vp_in (xI S_11 851 b_16) (xL S_11 a_7) ∧ wif ((xA S_11 a_7 (Int32.toNatClampNeg (xI S_11 851 b_16))) = 0) (xT S_11 b_16 = 17 ∧ xT S_11 a_7 = 102 ∧ vp_in (xI S_11 851 b_16) (xL S_11 a_7) ∧ nm (sA S_11 a_7 (Int32.toNatClampNeg (xI S_11 851 b_16)) 1) (fun S_26 : xH => J_20 (x4_9 + 1) S_26)) (J_20 x4_9 S_11)))) (J_20 x4_9 S_11)))) 0 0 S_8)))))
theorem hd_X0_shown : yX0_shown.cls = "PressedMen" ∧ yX0_shown.cls ≠ "java/lang/invoke/MethodHandle" ∧ yX0_shown.cls ≠ "java/lang/invoke/VarHandle" ∧ (parseMethodDescriptor yX0_shown.desc).map (fun d => d.parameters.length) = some 2 := by decide +kernel
set_option maxHeartbeats 4000000 in
theorem mt_X0_shown (l : Launch) {D : va_G} {d : Nat → ClassId} {base : Nat} {mc : va_W} {S : xH} {k n : Nat} {o : Nat} {x1 : Int32} {x2 : Int32} {Q : Int32 → xH → Prop} (hw : w_X0_shown k n S o x1 x2 Q) : Met l yX0_shown (ws_ yX0_shown cX0_shown 7 (some FieldType.int)) (x_rm 2 k n 43) (x_Pc D d base mc S [.ref o, .int x1, .int x2]) (x_Qi D d base mc (fun r S' => Q r S')) k n (x_A base) := by
  refine x_met (by decide) (Nat.le_of_ble_eq_true rfl) ?_
  intro p e s m below meth c hx hb hml hr hlocks hown hts hz hR hK hin ls hl
  have hown : s.vm.findClass "PressedMen" = some m.cls := hown
  have hl : lv_has ls 7 [(0, .ref o), (1, .int x1), (2, .int x2)] := hl
  have hS : va_S (x_A base) s.heap s.heap [] := va_S.rf
  have hA : ∀ q : Nat, s.heap.size ≤ q → x_A base q := fun q h => Nat.le_trans hz h
  have hc : 0 + k ≤ k := by omega
  have hs : 0 + n ≤ n := by omega
  unfold w_X0_shown at hw
  refine lv_aload_n hx hb dX0_shown_0 rfl (lv_at hl 0 rfl) ?_
  refine lv_iload_n hx hb dX0_shown_1 rfl (lv_at hl 1 rfl) ?_
  obtain ⟨ha, hw⟩ := hw
  refine x_ci (va_runV (As := [.int x1]) (rest := []) ⟨hx, hb, hml, hown, hts⟩ (mt_X0_isPaper l hw) (cwV 1 hts (lw_V q371 q373 qs8 q64 q374) rfl rfl rfl hd_X0_isPaper ⟨Nat.le_of_ble_eq_true rfl, Nat.le_of_ble_eq_true rfl⟩) ⟨x_Pc_blind, hR.recv hK (ci := 0) rfl (by decide) ha, x_Pc_pre hR hz hS hK⟩ rfl rfl hl.1 rfl (lv_room (Nat.le_of_ble_eq_true rfl)) dX0_shown_2 ⟨by show _ ≤ k; omega, by show _ ≤ n; omega⟩) hS (fun r_1 S_2 H locs hp hR hS => ?_)
  have hw := hp.2
  rw [hp.1] at hR
  refine lv_if_ne (tgt := 10) hx hb dX0_shown_5 (by decide) (fun c_3 => ?_) (fun c_3 => ?_)
  · have hw := x_f hw c_3
    refine lv_iload_n hx hb dX0_shown_10 rfl (lv_at hl 2 rfl) ?_
    refine x_ci (va_runS (As := [.int x2]) (rest := []) ⟨hx, hb, hml, hown, hts⟩ (mt_X0_isTide l hw) (va_cwS 1 hts (lw_S q375 q376 q64 q377) rfl rfl rfl hd_X0_isTide.2 ⟨Nat.le_of_ble_eq_true rfl, Nat.le_of_ble_eq_true rfl⟩) ⟨x_Pc_blind, x_Pc_pre hR hz hS hK⟩ rfl rfl hl.1 rfl (lv_room (Nat.le_of_ble_eq_true rfl)) dX0_shown_11 ⟨by show _ ≤ k; omega, by show _ ≤ n; omega⟩) hS (fun r_4 S_5 H locs hp hR hS => ?_)
    have hw := hp.2
    rw [hp.1] at hR
    refine lv_if_ne (tgt := 20) hx hb dX0_shown_14 (by decide) (fun c_6 => ?_) (fun c_6 => ?_)
    · have hw := x_f hw c_6
      refine lv_bipush (v := 40) hx hb dX0_shown_20 (by decide) ?_
      obtain ⟨h1, h2, hw⟩ := hw
      refine x_newa (atype := .boolean) (t := 102) (N' := 40) hx hb rfl (by decide) (by decide) rfl rfl (fun _ => rfl) (hts _ q172) hK hR hS hA dX0_shown_22 (by decide) (by decide) (by decide) (by show _ ≤ k; omega) (by show _ ≤ n; omega) (fun a_7 H hf hR hS => ?_)
      have hw := hw a_7 hf
      have hc : (0 + 1) + (k - 1) ≤ k := by omega
      have hs : (0 + 40) + (n - 40) ≤ n := by omega
      obtain ⟨S_8, eS_8⟩ : ∃ z, z = (sV S a_7 102 40) := ⟨_, rfl⟩
      rw [← eS_8] at hR
      have hw := hw S_8 eS_8
      refine lv_astore_n (lv' := [(3, .ref a_7), (0, .ref o), (1, .int x1), (2, .int x2)]) hx hb dX0_shown_24 rfl hl (by decide) rfl (fun ls hl => ?_)
      refine lv_iconst (v := 0) hx hb dX0_shown_25 (by decide) ?_
      refine lv_istore (lv' := [(4, .int 0), (3, .ref a_7), (0, .ref o), (1, .int x1), (2, .int x2)]) hx hb dX0_shown_26 hl (by decide) rfl (fun ls hl => ?_)
      refine lv_iconst (v := 0) hx hb dX0_shown_28 (by decide) ?_
      refine lv_istore (lv' := [(5, .int 0), (4, .int 0), (3, .ref a_7), (0, .ref o), (1, .int x1), (2, .int x2)]) hx hb dX0_shown_29 hl (by decide) rfl (fun ls hl => ?_)
      refine x_lf3 (G := fun (x4_9 : Int32) (x5_10 : Int32) (S_11 : xH) => ∀ (ls : Array Slot) (H : Heap) (locs : List Loc) (cK nK : Nat), cK + (k - 1) ≤ k → nK + (n - 40) ≤ n → x_Rp D d (x_A base) mc S_11 H → va_S (x_A base) s.heap H locs → lv_has ls 7 [(0, .ref o), (1, .int x1), (2, .int x2), (3, .ref a_7), (4, .int x4_9), (5, .int x5_10)] → W p l e (x_rm 2 k n 43) s m ([.ref o, .int x1, .int x2] : List Value).toArray below meth c H locs cK nK (MQ below (x_Qi D d base mc (fun r S' => Q r S')) ([.ref o, .int x1, .int x2] : List Value).toArray s k n (x_A base)) (F0 m 31 ls [])) hw (fun x4_9 x5_10 S_11 hw => ?_) ls _ _ _ _ hc hs hR hS (lv_sub hl [3, 4, 5, 2, 1, 0] rfl)
      intro ls H locs cK nK hc hs hR hS hl
      refine lv_iload hx hb dX0_shown_31 (lv_at hl 5 rfl) ?_
      refine lv_aload_n hx hb dX0_shown_33 rfl (lv_at hl 0 rfl) ?_
      refine x_getI (ci := 0) (C := RX0) (T := TX0) (N := 19) (f := 62) hx hb hts in_X0 hown hK hR rfl 12 (by decide) (hts _ q125) (fun _ h => h) rfl (by decide) dX0_shown_34 hw.1 ?_
      have hw := hw.2
      refine lv_icmp_ge (tgt := 103) hx hb dX0_shown_37 (by decide) (fun c_13 => ?_) (fun c_13 => ?_)
      · have hw := x_t hw c_13
        refine lv_iload hx hb dX0_shown_103 (lv_at hl 4 rfl) ?_
        refine W.widen (k := k) (n := n) (by omega) (by omega) ?_
        exact x_ri hx hb hr hlocks hR hS dX0_shown_105 hw
      · have hw := x_f hw c_13
        refine lv_aload_n hx hb dX0_shown_40 rfl (lv_at hl 0 rfl) ?_
        refine x_getR (ci := 0) (C := RX0) (T := TX0) (N := 19) (f := 61) hx hb hts in_X0 hown hK hR rfl 11 (by decide) (hts _ q124) (fun _ h => h) rfl (by decide) dX0_shown_41 hw.1 ?_
        have hw := hw.2
        refine lv_iload hx hb dX0_shown_44 (lv_at hl 5 rfl) ?_
        obtain ⟨b_14, e_15, hw⟩ := hw
        refine x_dr1 e_15 ?_
        refine x_aald (t := 106) hx hb hK hR (by decide) rfl rfl dX0_shown_46 hw.1 hw.2.1 ?_
        have hw := hw.2.2
        obtain ⟨b_16, e_17, hw⟩ := hw
        refine x_dr0 e_17 ?_
        refine lv_astore (lv' := [(6, .ref b_16), (0, .ref o), (1, .int x1), (2, .int x2), (3, .ref a_7), (4, .int x4_9), (5, .int x5_10)]) hx hb dX0_shown_47 hl (by decide) rfl (fun ls hl => ?_)
        refine lv_aload hx hb dX0_shown_49 (lv_at hl 0 rfl) ?_
        refine x_getNI (ci := 16) (C := RX16) (T := TX16) (N := 6) (f := 852) hx hb hts in_X16 hown hK hR rfl 2 (by decide) (hK.2 _ q664 rfl) (fun _ h => h) rfl (by decide) dX0_shown_51 hw.1 ?_
        have hw := hw.2
        refine lv_iload_n hx hb dX0_shown_54 rfl (lv_at hl 2 rfl) ?_
        refine x_jn2 (G := fun (x4_18 : Int32) (S_19 : xH) => ∀ (ls : Array Slot) (H : Heap) (locs : List Loc) (cK nK : Nat), cK + (k - 1) ≤ k → nK + (n - 40) ≤ n → x_Rp D d (x_A base) mc S_19 H → va_S (x_A base) s.heap H locs → lv_has ls 7 [(0, .ref o), (1, .int x1), (2, .int x2), (3, .ref a_7), (4, .int x4_18), (5, .int x5_10)] → W p l e (x_rm 2 k n 43) s m ([.ref o, .int x1, .int x2] : List Value).toArray below meth c H locs cK nK (MQ below (x_Qi D d base mc (fun r S' => Q r S')) ([.ref o, .int x1, .int x2] : List Value).toArray s k n (x_A base)) (F0 m 97 ls [])) hw (fun x4_18 S_19 hw => ?_) (fun hJ_20 hw => ?_)
        · intro ls H locs cK nK hc hs hR hS hl
          refine lv_iinc (v := (x5_10 + 1)) (lv' := [(5, .int (x5_10 + 1)), (0, .ref o), (1, .int x1), (2, .int x2), (3, .ref a_7), (4, .int x4_18)]) hx hb dX0_shown_97 hl (k := 5) rfl rfl (by decide) rfl (fun ls hl => ?_)
          refine lv_goto (tgt := 31) hx hb dX0_shown_100 (by decide) ?_
          exact hw ls _ _ _ _ hc hs hR hS (lv_sub hl [1, 2, 3, 4, 5, 0] rfl)
        · refine lv_icmp_ne (tgt := 97) hx hb dX0_shown_55 (by decide) (fun c_21 => ?_) (fun c_21 => ?_)
          · have hw := x_f hw c_21
            exact hJ_20 x4_9 S_11 hw ls _ _ _ _ hc hs hR hS (lv_sub hl [1, 2, 3, 4, 5, 6] rfl)
          · have hw := x_t hw c_21
            refine lv_aload hx hb dX0_shown_58 (lv_at hl 0 rfl) ?_
            refine x_getNI (ci := 16) (C := RX16) (T := TX16) (N := 6) (f := 850) hx hb hts in_X16 hown hK hR rfl 0 (by decide) (hK.2 _ q660 rfl) (fun _ h => h) rfl (by decide) dX0_shown_60 hw.1 ?_
            have hw := hw.2
            refine lv_iload_n hx hb dX0_shown_63 rfl (lv_at hl 3 rfl) ?_
            refine lv_bipush (v := 14) hx hb dX0_shown_64 (by decide) ?_
            refine lv_isub hx hb dX0_shown_66 ?_
            refine lv_iconst (v := 1) hx hb dX0_shown_67 (by decide) ?_
            refine lv_iadd hx hb dX0_shown_68 ?_
            refine lv_iload_n hx hb dX0_shown_69 rfl (lv_at hl 3 rfl) ?_
            refine x_ci (va_runS (As := [.int (xI S_11 850 b_16), .int ((x2 - 14) + 1), .int x2]) (rest := []) ⟨hx, hb, hml, hown, hts⟩ (mt_X0_isIn l hw) (va_cwS 3 hts (lw_S q178 q179 q64 q180) rfl rfl rfl hd_X0_isIn.2 ⟨Nat.le_of_ble_eq_true rfl, Nat.le_of_ble_eq_true rfl⟩) ⟨x_Pc_blind, x_Pc_pre hR hz hS hK⟩ rfl rfl hl.1 rfl (lv_room (Nat.le_of_ble_eq_true rfl)) dX0_shown_70 ⟨by show _ ≤ k; omega, by show _ ≤ n; omega⟩) hS (fun r_22 S_23 H locs hp hR hS => ?_)
            have hw := hp.2
            rw [hp.1] at hR
            refine lv_if_eq (tgt := 97) hx hb dX0_shown_73 (by decide) (fun c_24 => ?_) (fun c_24 => ?_)
            · have hw := x_t hw c_24
              exact hJ_20 x4_9 S_11 hw ls _ _ _ _ hc hs hR hS (lv_sub hl [1, 2, 3, 4, 5, 6] rfl)
            · have hw := x_f hw c_24
              refine lv_aload_n hx hb dX0_shown_76 rfl (lv_at hl 4 rfl) ?_
              refine lv_aload hx hb dX0_shown_77 (lv_at hl 0 rfl) ?_
              refine x_getNI (ci := 16) (C := RX16) (T := TX16) (N := 6) (f := 851) hx hb hts in_X16 hown hK hR rfl 1 (by decide) (hK.2 _ q662 rfl) (fun _ h => h) rfl (by decide) dX0_shown_79 hw.1 ?_
              have hw := hw.2
              refine x_zald hx hb hK hR dX0_shown_82 hw.1 hw.2.1 ?_
              have hw := hw.2.2
              refine lv_if_ne (tgt := 97) hx hb dX0_shown_83 (by decide) (fun c_25 => ?_) (fun c_25 => ?_)
              · have hw := x_f hw c_25
                exact hJ_20 x4_9 S_11 hw ls _ _ _ _ hc hs hR hS (lv_sub hl [1, 2, 3, 4, 5, 6] rfl)
              · have hw := x_t hw c_25
                refine lv_aload_n hx hb dX0_shown_86 rfl (lv_at hl 4 rfl) ?_
                refine lv_aload hx hb dX0_shown_87 (lv_at hl 0 rfl) ?_
                refine x_getNI (ci := 16) (C := RX16) (T := TX16) (N := 6) (f := 851) hx hb hts in_X16 hown hK hR rfl 1 (by decide) (hK.2 _ q662 rfl) (fun _ h => h) rfl (by decide) dX0_shown_89 hw.1 ?_
                have hw := hw.2
                refine lv_iconst (v := 1) hx hb dX0_shown_92 (by decide) ?_
                refine x_zast hx hb hK hR hS dX0_shown_93 hw.1 hw.2.1 (Or.inr rfl) (fun H locs hR hS => ?_)
                have hw := hw.2.2
                obtain ⟨S_26, eS_26⟩ : ∃ z, z = (sA S_11 a_7 (Int32.toNatClampNeg (xI S_11 851 b_16)) 1) := ⟨_, rfl⟩
                rw [← eS_26] at hR
                have hw := hw S_26 eS_26
                refine lv_iinc (v := (x4_9 + 1)) (lv' := [(4, .int (x4_9 + 1)), (6, .ref b_16), (0, .ref o), (1, .int x1), (2, .int x2), (3, .ref a_7), (5, .int x5_10)]) hx hb dX0_shown_94 hl (k := 5) rfl rfl (by decide) rfl (fun ls hl => ?_)
                exact hJ_20 (x4_9 + 1) S_26 hw ls _ _ _ _ hc hs hR hS (lv_sub hl [2, 3, 4, 5, 0, 6] rfl)
    · have hw := x_t hw c_6
      refine lv_bipush (v := (-2)) hx hb dX0_shown_17 (by decide) ?_
      refine W.widen (k := k) (n := n) (by omega) (by omega) ?_
      exact x_ri hx hb hr hlocks hR hS dX0_shown_19 hw
  · have hw := x_t hw c_3
    refine lv_iconst (v := (-1)) hx hb dX0_shown_8 (by decide) ?_
    refine W.widen (k := k) (n := n) (by omega) (by omega) ?_
    exact x_ri hx hb hr hlocks hR hS dX0_shown_9 hw
def w_X5_init (k n : Nat) (S : xH) (o : Nat) (x1 : Nat) (x2 : Int32) (Q : xH → Prop) : Prop := xT S o = 6 ∧ nm (sR S 305 o (some x1)) (fun S_1 : xH => 1 ≤ k ∧ 60 ≤ n ∧ ∀ a_2, xT S_1 a_2 = 0 → nm (sV S_1 a_2 101 60) (fun S_3 : xH => xT S_3 o = 6 ∧ nm (sR S_3 301 o (some a_2)) (fun S_4 : xH => xT S_4 o = 6 ∧ nm (sI S_4 300 o x2) (fun S_5 : xH => Q S_5))))
theorem hd_X5_init : yX5_init.cls = "PressedMen$Act" ∧ yX5_init.cls ≠ "java/lang/invoke/MethodHandle" ∧ yX5_init.cls ≠ "java/lang/invoke/VarHandle" ∧ (parseMethodDescriptor yX5_init.desc).map (fun d => d.parameters.length) = some 2 := by decide +kernel
set_option maxHeartbeats 4000000 in
theorem mt_X5_init (l : Launch) {D : va_G} {d : Nat → ClassId} {base : Nat} {mc : va_W} {S : xH} {k n : Nat} {o : Nat} {x1 : Nat} {x2 : Int32} {Q : xH → Prop} (hw : w_X5_init k n S o x1 x2 Q) : Met l yX5_init (ws_ yX5_init cX5_init 3 none) (x_rm 1 k n 28) (x_Pc D d base mc S [.ref o, .ref x1, .int x2]) (x_Qv D d base mc (fun S' => Q S')) k n (x_A base) := by
  refine x_met (by decide) (Nat.le_of_ble_eq_true rfl) ?_
  intro p e s m below meth c hx hb hml hr hlocks hown hts hz hR hK hin ls hl
  have hown : s.vm.findClass "PressedMen$Act" = some m.cls := hown
  have hl : lv_has ls 3 [(0, .ref o), (1, .ref x1), (2, .int x2)] := hl
  have hS : va_S (x_A base) s.heap s.heap [] := va_S.rf
  have hA : ∀ q : Nat, s.heap.size ≤ q → x_A base q := fun q h => Nat.le_trans hz h
  have hc : 0 + k ≤ k := by omega
  have hs : 0 + n ≤ n := by omega
  unfold w_X5_init at hw
  refine lv_aload_n hx hb dX5_init_0 rfl (lv_at hl 0 rfl) ?_
  refine lv_aload_n hx hb dX5_init_1 rfl (lv_at hl 1 rfl) ?_
  refine x_putFR (ci := 5) (C := RX5) (T := TX5) (N := 6) (f := 305) (r := (some x1)) hx hb hts in_X5 tyX5 tyX5_ok nmX5 hown hK hR hS rfl 5 (by decide) (hts _ q417) (fun _ h => h) rfl hin rfl rfl (by decide) (x_rn _ _) (x_rf _ _) dX5_init_2 hw.1 (fun H locs hR hS => ?_)
  have hw := hw.2
  obtain ⟨S_1, eS_1⟩ : ∃ z, z = (sR S 305 o (some x1)) := ⟨_, rfl⟩
  rw [← eS_1] at hR
  have hw := hw S_1 eS_1
  refine lv_aload_n hx hb dX5_init_5 rfl (lv_at hl 0 rfl) ?_
  refine W.objInit hx hb hown (hts _ q407) (hts _ q93) (hts _ q94) rfl (by rw [hml]; exact hl.1) rfl dX5_init_6 (Nat.le_of_ble_eq_true rfl) (Nat.le_of_ble_eq_true rfl) ?_
  refine W.eq (g2 := F0 m 9 ls []) rfl ?_
  refine lv_aload_n hx hb dX5_init_9 rfl (lv_at hl 0 rfl) ?_
  refine lv_bipush (v := 60) hx hb dX5_init_10 (by decide) ?_
  obtain ⟨h1, h2, hw⟩ := hw
  refine x_newa (atype := .int) (t := 101) (N' := 60) hx hb rfl (by decide) (by decide) rfl rfl (fun _ => rfl) (hts _ q173) hK hR hS hA dX5_init_12 (by decide) (by decide) (by decide) (by show _ ≤ k; omega) (by show _ ≤ n; omega) (fun a_2 H hf hR hS => ?_)
  have hw := hw a_2 hf
  have hc : (0 + 1) + (k - 1) ≤ k := by omega
  have hs : (0 + 60) + (n - 60) ≤ n := by omega
  obtain ⟨S_3, eS_3⟩ : ∃ z, z = (sV S_1 a_2 101 60) := ⟨_, rfl⟩
  rw [← eS_3] at hR
  have hw := hw S_3 eS_3
  refine x_putFR (ci := 5) (C := RX5) (T := TX5) (N := 6) (f := 301) (r := (some a_2)) hx hb hts in_X5 tyX5 tyX5_ok nmX5 hown hK hR hS rfl 1 (by decide) (hts _ q410) (fun _ h => h) rfl hin rfl rfl (by decide) (x_rnA _ _) (x_rfA _ _) dX5_init_14 hw.1 (fun H locs hR hS => ?_)
  have hw := hw.2
  obtain ⟨S_4, eS_4⟩ : ∃ z, z = (sR S_3 301 o (some a_2)) := ⟨_, rfl⟩
  rw [← eS_4] at hR
  have hw := hw S_4 eS_4
  refine lv_aload_n hx hb dX5_init_17 rfl (lv_at hl 0 rfl) ?_
  refine lv_iload_n hx hb dX5_init_18 rfl (lv_at hl 2 rfl) ?_
  refine x_putFI (ci := 5) (C := RX5) (T := TX5) (N := 6) (f := 300) hx hb hts in_X5 tyX5 tyX5_ok nmX5 hown hK hR hS rfl 0 (by decide) (hts _ q408) (fun _ h => h) rfl hin rfl rfl (by decide) rfl rfl dX5_init_19 hw.1 (fun H locs hR hS => ?_)
  have hw := hw.2
  obtain ⟨S_5, eS_5⟩ : ∃ z, z = (sI S_4 300 o x2) := ⟨_, rfl⟩
  rw [← eS_5] at hR
  have hw := hw S_5 eS_5
  refine W.widen (k := k) (n := n) (by omega) (by omega) ?_
  exact x_rv hx hb hr hlocks hR hS dX5_init_22 hw
def w_X0_act (k n : Nat) (S : xH) (o : Nat) (x1 : Int32) (Q : Int32 → xH → Prop) : Prop := w_X0_isTide S x1 (fun (r_1 : Int32) => wif (r_1 = 0) (Q (-2) S) (xT S o = 1 ∧ wif ((xI S 60 o) = 8) (Q (-4) S) (xT S o = 1 ∧ xT S o = 1 ∧ 1 ≤ k ∧ 6 ≤ n ∧ ∀ a_5, xT S a_5 = 0 → nm (sN S a_5 6) (fun S_6 : xH => ∃ k_7 n_8, k_7 ≤ (k - 1) ∧ n_8 ≤ (n - 6) ∧ w_X5_init k_7 n_8 S_6 a_5 o x1 (fun (S_9 : xH) => ∃ b_10, (xR S 59 o) = some b_10 ∧ xT S_9 b_10 = 105 ∧ vp_in (xI S 60 o) (xL S_9 b_10) ∧ xT S_9 a_5 = 6 ∧ nm (sQ S_9 b_10 (Int32.toNatClampNeg (xI S 60 o)) (some a_5)) (fun S_12 : xH => xT S_12 o = 1 ∧ xT S_12 o = 1 ∧ nm (sI S_12 60 o ((xI S_12 60 o) + 1)) (fun S_13 : xH => xT S_13 o = 1 ∧ Q ((xI S_13 60 o) - 1) S_13)))))))
theorem hd_X0_act : yX0_act.cls = "PressedMen" ∧ yX0_act.cls ≠ "java/lang/invoke/MethodHandle" ∧ yX0_act.cls ≠ "java/lang/invoke/VarHandle" ∧ (parseMethodDescriptor yX0_act.desc).map (fun d => d.parameters.length) = some 1 := by decide +kernel
set_option maxHeartbeats 4000000 in
theorem mt_X0_act (l : Launch) {D : va_G} {d : Nat → ClassId} {base : Nat} {mc : va_W} {S : xH} {k n : Nat} {o : Nat} {x1 : Int32} {Q : Int32 → xH → Prop} (hw : w_X0_act k n S o x1 Q) : Met l yX0_act (ws_ yX0_act cX0_act 2 (some FieldType.int)) (x_rm 2 k n 50) (x_Pc D d base mc S [.ref o, .int x1]) (x_Qi D d base mc (fun r S' => Q r S')) k n (x_A base) := by
  refine x_met (by decide) (Nat.le_of_ble_eq_true rfl) ?_
  intro p e s m below meth c hx hb hml hr hlocks hown hts hz hR hK hin ls hl
  have hown : s.vm.findClass "PressedMen" = some m.cls := hown
  have hl : lv_has ls 2 [(0, .ref o), (1, .int x1)] := hl
  have hS : va_S (x_A base) s.heap s.heap [] := va_S.rf
  have hA : ∀ q : Nat, s.heap.size ≤ q → x_A base q := fun q h => Nat.le_trans hz h
  have hc : 0 + k ≤ k := by omega
  have hs : 0 + n ≤ n := by omega
  unfold w_X0_act at hw
  refine lv_iload_n hx hb dX0_act_0 rfl (lv_at hl 1 rfl) ?_
  refine x_ci (va_runS (As := [.int x1]) (rest := []) ⟨hx, hb, hml, hown, hts⟩ (mt_X0_isTide l hw) (va_cwS 1 hts (lw_S q375 q376 q64 q377) rfl rfl rfl hd_X0_isTide.2 ⟨Nat.le_of_ble_eq_true rfl, Nat.le_of_ble_eq_true rfl⟩) ⟨x_Pc_blind, x_Pc_pre hR hz hS hK⟩ rfl rfl hl.1 rfl (lv_room (Nat.le_of_ble_eq_true rfl)) dX0_act_1 ⟨by show _ ≤ k; omega, by show _ ≤ n; omega⟩) hS (fun r_1 S_2 H locs hp hR hS => ?_)
  have hw := hp.2
  rw [hp.1] at hR
  refine lv_if_ne (tgt := 10) hx hb dX0_act_4 (by decide) (fun c_3 => ?_) (fun c_3 => ?_)
  · have hw := x_f hw c_3
    refine lv_aload_n hx hb dX0_act_10 rfl (lv_at hl 0 rfl) ?_
    refine x_getI (ci := 0) (C := RX0) (T := TX0) (N := 19) (f := 60) hx hb hts in_X0 hown hK hR rfl 10 (by decide) (hts _ q123) (fun _ h => h) rfl (by decide) dX0_act_11 hw.1 ?_
    have hw := hw.2
    refine lv_bipush (v := 8) hx hb dX0_act_14 (by decide) ?_
    refine lv_icmp_ne (tgt := 22) hx hb dX0_act_16 (by decide) (fun c_4 => ?_) (fun c_4 => ?_)
    · have hw := x_f hw c_4
      refine lv_aload_n hx hb dX0_act_22 rfl (lv_at hl 0 rfl) ?_
      refine x_getR (ci := 0) (C := RX0) (T := TX0) (N := 19) (f := 59) hx hb hts in_X0 hown hK hR rfl 9 (by decide) (hts _ q122) (fun _ h => h) rfl (by decide) dX0_act_23 hw.1 ?_
      have hw := hw.2
      refine lv_aload_n hx hb dX0_act_26 rfl (lv_at hl 0 rfl) ?_
      refine x_getI (ci := 0) (C := RX0) (T := TX0) (N := 19) (f := 60) hx hb hts in_X0 hown hK hR rfl 10 (by decide) (hts _ q123) (fun _ h => h) rfl (by decide) dX0_act_27 hw.1 ?_
      have hw := hw.2
      obtain ⟨h1, h2, hw⟩ := hw
      refine x_new (ci := 5) (C := RX5) (T := TX5) (N := 6) hx hb hts in_X5 tyX5 tyX5_ok hown (hts _ q101) (hts _ q403) (hts _ q70) hK hR hS hA rfl (by decide) dfX5 dX0_act_30 (by show _ ≤ k; omega) (by show _ ≤ n; omega) (fun a_5 H hf hR hS => ?_)
      have hw := hw a_5 hf
      have hc : (0 + 1) + (k - 1) ≤ k := by omega
      have hs : (0 + 6) + (n - 6) ≤ n := by omega
      obtain ⟨S_6, eS_6⟩ : ∃ z, z = (sN S a_5 6) := ⟨_, rfl⟩
      rw [← eS_6] at hR
      have hw := hw S_6 eS_6
      refine lv_dup hx hb dX0_act_33 rfl ?_
      refine lv_aload_n hx hb dX0_act_34 rfl (lv_at hl 0 rfl) ?_
      refine lv_iload_n hx hb dX0_act_35 rfl (lv_at hl 1 rfl) ?_
      obtain ⟨k_7, n_8, h1, h2, hw⟩ := hw
      refine x_cv (va_runI (As := [.ref o, .int x1]) (rest := [.ref a_5, .int (xI S 60 o), va_rf (xR S 59 o)]) ⟨hx, hb, hml, hown, hts⟩ (mt_X5_init l hw) (cwI 2 hts (lw_meth q406) rfl rfl rfl (hts _ q70) (hts _ q404) (hts _ q405) rfl hd_X5_init.2 ⟨Nat.le_of_ble_eq_true rfl, Nat.le_of_ble_eq_true rfl⟩) ⟨x_Pc_blind, x_Pc_pre hR hz hS hK⟩ rfl rfl hl.1 rfl (lv_room (by simp only [List.map_cons, List.map_nil, x_cat]; exact Nat.le_of_ble_eq_true rfl)) dX0_act_36 ⟨by show _ ≤ k; omega, by show _ ≤ n; omega⟩) hS (fun S_9 H locs hp hR hS => ?_)
      have hw := hp
      have hc : ((0 + 1) + k_7) + ((k - 1) - k_7) ≤ k := by omega
      have hs : ((0 + 6) + n_8) + ((n - 6) - n_8) ≤ n := by omega
      obtain ⟨b_10, e_11, hw⟩ := hw
      refine x_dr2 e_11 ?_
      refine x_aast (t := 105) (ci := 5) hx hb hK hR hS (by decide) rfl (by decide) rfl dX0_act_39 hw.1 hw.2.1 hw.2.2.1 (fun H locs hR hS => ?_)
      have hw := hw.2.2.2
      obtain ⟨S_12, eS_12⟩ : ∃ z, z = (sQ S_9 b_10 (Int32.toNatClampNeg (xI S 60 o)) (some a_5)) := ⟨_, rfl⟩
      rw [← eS_12] at hR
      have hw := hw S_12 eS_12
      refine lv_aload_n hx hb dX0_act_40 rfl (lv_at hl 0 rfl) ?_
      refine lv_dup hx hb dX0_act_41 rfl ?_
      refine x_getI (ci := 0) (C := RX0) (T := TX0) (N := 19) (f := 60) hx hb hts in_X0 hown hK hR rfl 10 (by decide) (hts _ q123) (fun _ h => h) rfl (by decide) dX0_act_42 hw.1 ?_
      have hw := hw.2
      refine lv_iconst (v := 1) hx hb dX0_act_45 (by decide) ?_
      refine lv_iadd hx hb dX0_act_46 ?_
      refine x_putI (ci := 0) (C := RX0) (T := TX0) (N := 19) (f := 60) hx hb hts in_X0 tyX0 tyX0_ok nmX0 hown hK hR hS rfl 10 (by decide) (hts _ q123) (fun _ h => h) rfl rfl (by decide) rfl rfl dX0_act_47 hw.1 (fun H locs hR hS => ?_)
      have hw := hw.2
      obtain ⟨S_13, eS_13⟩ : ∃ z, z = (sI S_12 60 o ((xI S_12 60 o) + 1)) := ⟨_, rfl⟩
      rw [← eS_13] at hR
      have hw := hw S_13 eS_13
      refine lv_aload_n hx hb dX0_act_50 rfl (lv_at hl 0 rfl) ?_
      refine x_getI (ci := 0) (C := RX0) (T := TX0) (N := 19) (f := 60) hx hb hts in_X0 hown hK hR rfl 10 (by decide) (hts _ q123) (fun _ h => h) rfl (by decide) dX0_act_51 hw.1 ?_
      have hw := hw.2
      refine lv_iconst (v := 1) hx hb dX0_act_54 (by decide) ?_
      refine lv_isub hx hb dX0_act_55 ?_
      refine W.widen (k := k) (n := n) (by omega) (by omega) ?_
      exact x_ri hx hb hr hlocks hR hS dX0_act_56 hw
    · have hw := x_t hw c_4
      refine lv_bipush (v := (-4)) hx hb dX0_act_19 (by decide) ?_
      refine W.widen (k := k) (n := n) (by omega) (by omega) ?_
      exact x_ri hx hb hr hlocks hR hS dX0_act_21 hw
  · have hw := x_t hw c_3
    refine lv_bipush (v := (-2)) hx hb dX0_act_7 (by decide) ?_
    refine W.widen (k := k) (n := n) (by omega) (by omega) ?_
    exact x_ri hx hb hr hlocks hR hS dX0_act_9 hw
def w_X0_isAct (S : xH) (o : Nat) (x1 : Int32) (Q : Int32 → Prop) : Prop := xT S o = 1 ∧ w_X0_isIn S x1 0 ((xI S 60 o) - 1) (fun (r_1 : Int32) => x_B r_1 ∧ Q r_1)
theorem hd_X0_isAct : yX0_isAct.cls = "PressedMen" ∧ yX0_isAct.cls ≠ "java/lang/invoke/MethodHandle" ∧ yX0_isAct.cls ≠ "java/lang/invoke/VarHandle" ∧ (parseMethodDescriptor yX0_isAct.desc).map (fun d => d.parameters.length) = some 1 := by decide +kernel
set_option maxHeartbeats 4000000 in
theorem mt_X0_isAct (l : Launch) {D : va_G} {d : Nat → ClassId} {base : Nat} {mc : va_W} {S : xH} {o : Nat} {x1 : Int32} {Q : Int32 → Prop} (hw : w_X0_isAct S o x1 Q) : Met l yX0_isAct (ws_ yX0_isAct cX0_isAct 2 (some FieldType.boolean)) (x_rm 1 0 0 22) (x_Pc D d base mc S [.ref o, .int x1]) (x_Qi D d base mc (fun r S' => S' = S ∧ Q r)) 0 0 (x_A base) := by
  refine x_met (by decide) (Nat.le_of_ble_eq_true rfl) ?_
  intro p e s m below meth c hx hb hml hr hlocks hown hts hz hR hK hin ls hl
  have hown : s.vm.findClass "PressedMen" = some m.cls := hown
  have hl : lv_has ls 2 [(0, .ref o), (1, .int x1)] := hl
  have hS : va_S (x_A base) s.heap s.heap [] := va_S.rf
  unfold w_X0_isAct at hw
  refine lv_iload_n hx hb dX0_isAct_0 rfl (lv_at hl 1 rfl) ?_
  refine lv_iconst (v := 0) hx hb dX0_isAct_1 (by decide) ?_
  refine lv_aload_n hx hb dX0_isAct_2 rfl (lv_at hl 0 rfl) ?_
  refine x_getI (ci := 0) (C := RX0) (T := TX0) (N := 19) (f := 60) hx hb hts in_X0 hown hK hR rfl 10 (by decide) (hts _ q123) (fun _ h => h) rfl (by decide) dX0_isAct_3 hw.1 ?_
  have hw := hw.2
  refine lv_iconst (v := 1) hx hb dX0_isAct_6 (by decide) ?_
  refine lv_isub hx hb dX0_isAct_7 ?_
  refine x_ci (va_runS (As := [.int x1, .int 0, .int ((xI S 60 o) - 1)]) (rest := []) ⟨hx, hb, hml, hown, hts⟩ (mt_X0_isIn l hw) (va_cwS 3 hts (lw_S q178 q179 q64 q180) rfl rfl rfl hd_X0_isIn.2 ⟨Nat.le_of_ble_eq_true rfl, Nat.le_of_ble_eq_true rfl⟩) ⟨x_Pc_blind, x_Pc_pre hR hz hS hK⟩ rfl rfl hl.1 rfl (lv_room (Nat.le_of_ble_eq_true rfl)) dX0_isAct_8 ⟨Nat.le_refl _, Nat.le_refl _⟩) hS (fun r_1 S_2 H locs hp hR hS => ?_)
  have hw := hp.2
  rw [hp.1] at hR
  exact x_rz hx hb hr hlocks hR hS dX0_isAct_11 hw.1 ⟨rfl, hw.2⟩
def w_X0_sign (S : xH) (o : Nat) (x1 : Int32) (x2 : Int32) (Q : Int32 → xH → Prop) : Prop := xT S o = 1 ∧ w_X0_isAct S o x1 (fun (r_1 : Int32) => wif (r_1 = 0) (Q (-1) S) (w_X0_isIn S x2 33 126 (fun (r_4 : Int32) => wif (r_4 = 0) (Q (-2) S) (xT S o = 1 ∧ ∃ b_7, (xR S 59 o) = some b_7 ∧ xT S b_7 = 105 ∧ vp_in x1 (xL S b_7) ∧ ∃ b_9, (xQ S b_7 (Int32.toNatClampNeg x1)) = some b_9 ∧ xT S b_9 = 6 ∧ wif ((xI S 302 b_9) = 60) (Q (-4) S) (xT S b_9 = 6 ∧ xT S b_9 = 6 ∧ ∃ b_12, (xR S 301 b_9) = some b_12 ∧ xT S b_12 = 101 ∧ vp_in (xI S 302 b_9) (xL S b_12) ∧ nm (sA S b_12 (Int32.toNatClampNeg (xI S 302 b_9)) x2) (fun S_14 : xH => xT S_14 b_9 = 6 ∧ xT S_14 b_9 = 6 ∧ nm (sI S_14 302 b_9 ((xI S_14 302 b_9) + 1)) (fun S_15 : xH => xT S_15 b_9 = 6 ∧ Q (xI S_15 302 b_9) S_15)))))))
theorem hd_X0_sign : yX0_sign.cls = "PressedMen" ∧ yX0_sign.cls ≠ "java/lang/invoke/MethodHandle" ∧ yX0_sign.cls ≠ "java/lang/invoke/VarHandle" ∧ (parseMethodDescriptor yX0_sign.desc).map (fun d => d.parameters.length) = some 2 := by decide +kernel
set_option maxHeartbeats 4000000 in
theorem mt_X0_sign (l : Launch) {D : va_G} {d : Nat → ClassId} {base : Nat} {mc : va_W} {S : xH} {o : Nat} {x1 : Int32} {x2 : Int32} {Q : Int32 → xH → Prop} (hw : w_X0_sign S o x1 x2 Q) : Met l yX0_sign (ws_ yX0_sign cX0_sign 4 (some FieldType.int)) (x_rm 2 0 0 43) (x_Pc D d base mc S [.ref o, .int x1, .int x2]) (x_Qi D d base mc (fun r S' => Q r S')) 0 0 (x_A base) := by
  refine x_met (by decide) (Nat.le_of_ble_eq_true rfl) ?_
  intro p e s m below meth c hx hb hml hr hlocks hown hts hz hR hK hin ls hl
  have hown : s.vm.findClass "PressedMen" = some m.cls := hown
  have hl : lv_has ls 4 [(0, .ref o), (1, .int x1), (2, .int x2)] := hl
  have hS : va_S (x_A base) s.heap s.heap [] := va_S.rf
  unfold w_X0_sign at hw
  refine lv_aload_n hx hb dX0_sign_0 rfl (lv_at hl 0 rfl) ?_
  refine lv_iload_n hx hb dX0_sign_1 rfl (lv_at hl 1 rfl) ?_
  obtain ⟨ha, hw⟩ := hw
  refine x_ci (va_runV (As := [.int x1]) (rest := []) ⟨hx, hb, hml, hown, hts⟩ (mt_X0_isAct l hw) (cwV 1 hts (lw_V q435 q437 qs11 q64 q438) rfl rfl rfl hd_X0_isAct ⟨Nat.le_of_ble_eq_true rfl, Nat.le_of_ble_eq_true rfl⟩) ⟨x_Pc_blind, hR.recv hK (ci := 0) rfl (by decide) ha, x_Pc_pre hR hz hS hK⟩ rfl rfl hl.1 rfl (lv_room (Nat.le_of_ble_eq_true rfl)) dX0_sign_2 ⟨Nat.le_refl _, Nat.le_refl _⟩) hS (fun r_1 S_2 H locs hp hR hS => ?_)
  have hw := hp.2
  rw [hp.1] at hR
  refine lv_if_ne (tgt := 10) hx hb dX0_sign_5 (by decide) (fun c_3 => ?_) (fun c_3 => ?_)
  · have hw := x_f hw c_3
    refine lv_iload_n hx hb dX0_sign_10 rfl (lv_at hl 2 rfl) ?_
    refine lv_bipush (v := 33) hx hb dX0_sign_11 (by decide) ?_
    refine lv_bipush (v := 126) hx hb dX0_sign_13 (by decide) ?_
    refine x_ci (va_runS (As := [.int x2, .int 33, .int 126]) (rest := []) ⟨hx, hb, hml, hown, hts⟩ (mt_X0_isIn l hw) (va_cwS 3 hts (lw_S q178 q179 q64 q180) rfl rfl rfl hd_X0_isIn.2 ⟨Nat.le_of_ble_eq_true rfl, Nat.le_of_ble_eq_true rfl⟩) ⟨x_Pc_blind, x_Pc_pre hR hz hS hK⟩ rfl rfl hl.1 rfl (lv_room (Nat.le_of_ble_eq_true rfl)) dX0_sign_15 ⟨Nat.le_refl _, Nat.le_refl _⟩) hS (fun r_4 S_5 H locs hp hR hS => ?_)
    have hw := hp.2
    rw [hp.1] at hR
    refine lv_if_ne (tgt := 24) hx hb dX0_sign_18 (by decide) (fun c_6 => ?_) (fun c_6 => ?_)
    · have hw := x_f hw c_6
      refine lv_aload_n hx hb dX0_sign_24 rfl (lv_at hl 0 rfl) ?_
      refine x_getR (ci := 0) (C := RX0) (T := TX0) (N := 19) (f := 59) hx hb hts in_X0 hown hK hR rfl 9 (by decide) (hts _ q122) (fun _ h => h) rfl (by decide) dX0_sign_25 hw.1 ?_
      have hw := hw.2
      refine lv_iload_n hx hb dX0_sign_28 rfl (lv_at hl 1 rfl) ?_
      obtain ⟨b_7, e_8, hw⟩ := hw
      refine x_dr1 e_8 ?_
      refine x_aald (t := 105) hx hb hK hR (by decide) rfl rfl dX0_sign_29 hw.1 hw.2.1 ?_
      have hw := hw.2.2
      obtain ⟨b_9, e_10, hw⟩ := hw
      refine x_dr0 e_10 ?_
      refine lv_astore_n (lv' := [(3, .ref b_9), (0, .ref o), (1, .int x1), (2, .int x2)]) hx hb dX0_sign_30 rfl hl (by decide) rfl (fun ls hl => ?_)
      refine lv_aload_n hx hb dX0_sign_31 rfl (lv_at hl 0 rfl) ?_
      refine x_getNI (ci := 5) (C := RX5) (T := TX5) (N := 6) (f := 302) hx hb hts in_X5 hown hK hR rfl 2 (by decide) (hK.2 _ q413 rfl) (fun _ h => h) rfl (by decide) dX0_sign_32 hw.1 ?_
      have hw := hw.2
      refine lv_bipush (v := 60) hx hb dX0_sign_35 (by decide) ?_
      refine lv_icmp_ne (tgt := 43) hx hb dX0_sign_37 (by decide) (fun c_11 => ?_) (fun c_11 => ?_)
      · have hw := x_f hw c_11
        refine lv_aload_n hx hb dX0_sign_43 rfl (lv_at hl 0 rfl) ?_
        refine x_getNR (ci := 5) (C := RX5) (T := TX5) (N := 6) (f := 301) hx hb hts in_X5 hown hK hR rfl 1 (by decide) (hK.2 _ q411 rfl) (fun _ h => h) rfl (by decide) dX0_sign_44 hw.1 ?_
        have hw := hw.2
        refine lv_aload_n hx hb dX0_sign_47 rfl (lv_at hl 0 rfl) ?_
        refine x_getNI (ci := 5) (C := RX5) (T := TX5) (N := 6) (f := 302) hx hb hts in_X5 hown hK hR rfl 2 (by decide) (hK.2 _ q413 rfl) (fun _ h => h) rfl (by decide) dX0_sign_48 hw.1 ?_
        have hw := hw.2
        refine lv_iload_n hx hb dX0_sign_51 rfl (lv_at hl 3 rfl) ?_
        obtain ⟨b_12, e_13, hw⟩ := hw
        refine x_dr2 e_13 ?_
        refine x_iast hx hb hK hR hS dX0_sign_52 hw.1 hw.2.1 (fun H locs hR hS => ?_)
        have hw := hw.2.2
        obtain ⟨S_14, eS_14⟩ : ∃ z, z = (sA S b_12 (Int32.toNatClampNeg (xI S 302 b_9)) x2) := ⟨_, rfl⟩
        rw [← eS_14] at hR
        have hw := hw S_14 eS_14
        refine lv_aload_n hx hb dX0_sign_53 rfl (lv_at hl 0 rfl) ?_
        refine lv_dup hx hb dX0_sign_54 rfl ?_
        refine x_getNI (ci := 5) (C := RX5) (T := TX5) (N := 6) (f := 302) hx hb hts in_X5 hown hK hR rfl 2 (by decide) (hK.2 _ q413 rfl) (fun _ h => h) rfl (by decide) dX0_sign_55 hw.1 ?_
        have hw := hw.2
        refine lv_iconst (v := 1) hx hb dX0_sign_58 (by decide) ?_
        refine lv_iadd hx hb dX0_sign_59 ?_
        refine x_putNI (ci := 5) (C := RX5) (T := TX5) (N := 6) (f := 302) hx hb hts in_X5 tyX5 tyX5_ok nmX5 hown hK hR hS rfl 2 (by decide) (hK.2 _ q413 rfl) (fun _ h => h) rfl rfl (by decide) rfl rfl dX0_sign_60 hw.1 (fun H locs hR hS => ?_)
        have hw := hw.2
        obtain ⟨S_15, eS_15⟩ : ∃ z, z = (sI S_14 302 b_9 ((xI S_14 302 b_9) + 1)) := ⟨_, rfl⟩
        rw [← eS_15] at hR
        have hw := hw S_15 eS_15
        refine lv_aload_n hx hb dX0_sign_63 rfl (lv_at hl 0 rfl) ?_
        refine x_getNI (ci := 5) (C := RX5) (T := TX5) (N := 6) (f := 302) hx hb hts in_X5 hown hK hR rfl 2 (by decide) (hK.2 _ q413 rfl) (fun _ h => h) rfl (by decide) dX0_sign_64 hw.1 ?_
        have hw := hw.2
        exact x_ri hx hb hr hlocks hR hS dX0_sign_67 hw
      · have hw := x_t hw c_11
        refine lv_bipush (v := (-4)) hx hb dX0_sign_40 (by decide) ?_
        exact x_ri hx hb hr hlocks hR hS dX0_sign_42 hw
    · have hw := x_t hw c_6
      refine lv_bipush (v := (-2)) hx hb dX0_sign_21 (by decide) ?_
      exact x_ri hx hb hr hlocks hR hS dX0_sign_23 hw
  · have hw := x_t hw c_3
    refine lv_iconst (v := (-1)) hx hb dX0_sign_8 (by decide) ?_
    exact x_ri hx hb hr hlocks hR hS dX0_sign_9 hw
def w_X5_next (S : xH) (o : Nat) (Q : Int32 → xH → Prop) : Prop := xT S o = 6 ∧ xT S o = 6 ∧ jn (fun (v0_1 : Int32) => xT S o = 6 ∧ xT S o = 6 ∧ xT S o = 6 ∧ jn (fun (v2_3 : Int32) => xT S o = 6 ∧ nm (sI S 303 o ((xI S 303 o) + v2_3)) (fun S_5 : xH => Q v0_1 S_5)) (fun J_4 => wif ((xI S 302 o) ≤ (xI S 303 o)) (J_4 0) (J_4 1))) (fun J_2 => wif ((xI S 302 o) ≤ (xI S 303 o)) (J_2 0) (xT S o = 6 ∧ xT S o = 6 ∧ ∃ b_8, (xR S 301 o) = some b_8 ∧ xT S b_8 = 101 ∧ vp_in (xI S 303 o) (xL S b_8) ∧ J_2 (xA S b_8 (Int32.toNatClampNeg (xI S 303 o)))))
theorem hd_X5_next : yX5_next.cls = "PressedMen$Act" ∧ yX5_next.cls ≠ "java/lang/invoke/MethodHandle" ∧ yX5_next.cls ≠ "java/lang/invoke/VarHandle" ∧ (parseMethodDescriptor yX5_next.desc).map (fun d => d.parameters.length) = some 0 := by decide +kernel
set_option maxHeartbeats 4000000 in
theorem mt_X5_next (l : Launch) {D : va_G} {d : Nat → ClassId} {base : Nat} {mc : va_W} {S : xH} {o : Nat} {Q : Int32 → xH → Prop} (hw : w_X5_next S o Q) : Met l yX5_next (ws_ yX5_next cX5_next 2 (some FieldType.int)) (x_rm 0 0 0 0) (x_Pc D d base mc S [.ref o]) (x_Qi D d base mc (fun r S' => Q r S')) 0 0 (x_A base) := by
  refine x_met (by decide) (Nat.le_of_ble_eq_true rfl) ?_
  intro p e s m below meth c hx hb hml hr hlocks hown hts hz hR hK hin ls hl
  have hown : s.vm.findClass "PressedMen$Act" = some m.cls := hown
  have hl : lv_has ls 2 [(0, .ref o)] := hl
  have hS : va_S (x_A base) s.heap s.heap [] := va_S.rf
  unfold w_X5_next at hw
  refine lv_aload_n hx hb dX5_next_0 rfl (lv_at hl 0 rfl) ?_
  refine x_getI (ci := 5) (C := RX5) (T := TX5) (N := 6) (f := 303) hx hb hts in_X5 hown hK hR rfl 3 (by decide) (hts _ q414) (fun _ h => h) rfl (by decide) dX5_next_1 hw.1 ?_
  have hw := hw.2
  refine lv_aload_n hx hb dX5_next_4 rfl (lv_at hl 0 rfl) ?_
  refine x_getI (ci := 5) (C := RX5) (T := TX5) (N := 6) (f := 302) hx hb hts in_X5 hown hK hR rfl 2 (by decide) (hts _ q412) (fun _ h => h) rfl (by decide) dX5_next_5 hw.1 ?_
  have hw := hw.2
  refine x_jn (G := fun (v0_1 : Int32) => ∀ (ls : Array Slot) (H : Heap) (locs : List Loc), x_Rp D d (x_A base) mc S H → va_S (x_A base) s.heap H locs → lv_has ls 2 [(0, .ref o)] → W p l e (x_rm 0 0 0 0) s m ([.ref o] : List Value).toArray below meth c H locs 0 0 (MQ below (x_Qi D d base mc (fun r S' => Q r S')) ([.ref o] : List Value).toArray s 0 0 (x_A base)) (F0 m 24 ls [.int v0_1])) hw (fun v0_1 hw => ?_) (fun hJ_2 hw => ?_)
  · intro ls H locs hR hS hl
    refine lv_istore_n (lv' := [(1, .int v0_1), (0, .ref o)]) hx hb dX5_next_24 rfl hl (by decide) rfl (fun ls hl => ?_)
    refine lv_aload_n hx hb dX5_next_25 rfl (lv_at hl 1 rfl) ?_
    refine lv_dup hx hb dX5_next_26 rfl ?_
    refine x_getI (ci := 5) (C := RX5) (T := TX5) (N := 6) (f := 303) hx hb hts in_X5 hown hK hR rfl 3 (by decide) (hts _ q414) (fun _ h => h) rfl (by decide) dX5_next_27 hw.1 ?_
    have hw := hw.2
    refine lv_aload_n hx hb dX5_next_30 rfl (lv_at hl 1 rfl) ?_
    refine x_getI (ci := 5) (C := RX5) (T := TX5) (N := 6) (f := 303) hx hb hts in_X5 hown hK hR rfl 3 (by decide) (hts _ q414) (fun _ h => h) rfl (by decide) dX5_next_31 hw.1 ?_
    have hw := hw.2
    refine lv_aload_n hx hb dX5_next_34 rfl (lv_at hl 1 rfl) ?_
    refine x_getI (ci := 5) (C := RX5) (T := TX5) (N := 6) (f := 302) hx hb hts in_X5 hown hK hR rfl 2 (by decide) (hts _ q412) (fun _ h => h) rfl (by decide) dX5_next_35 hw.1 ?_
    have hw := hw.2
    refine x_jn (G := fun (v2_3 : Int32) => ∀ (ls : Array Slot) (H : Heap) (locs : List Loc), x_Rp D d (x_A base) mc S H → va_S (x_A base) s.heap H locs → lv_has ls 2 [(1, .int v0_1)] → W p l e (x_rm 0 0 0 0) s m ([.ref o] : List Value).toArray below meth c H locs 0 0 (MQ below (x_Qi D d base mc (fun r S' => Q r S')) ([.ref o] : List Value).toArray s 0 0 (x_A base)) (F0 m 46 ls [.int v2_3, .int (xI S 303 o), .ref o])) hw (fun v2_3 hw => ?_) (fun hJ_4 hw => ?_)
    · intro ls H locs hR hS hl
      refine lv_iadd hx hb dX5_next_46 ?_
      refine x_putI (ci := 5) (C := RX5) (T := TX5) (N := 6) (f := 303) hx hb hts in_X5 tyX5 tyX5_ok nmX5 hown hK hR hS rfl 3 (by decide) (hts _ q414) (fun _ h => h) rfl rfl (by decide) rfl rfl dX5_next_47 hw.1 (fun H locs hR hS => ?_)
      have hw := hw.2
      obtain ⟨S_5, eS_5⟩ : ∃ z, z = (sI S 303 o ((xI S 303 o) + v2_3)) := ⟨_, rfl⟩
      rw [← eS_5] at hR
      have hw := hw S_5 eS_5
      refine lv_iload_n hx hb dX5_next_50 rfl (lv_at hl 0 rfl) ?_
      exact x_ri hx hb hr hlocks hR hS dX5_next_51 hw
    · refine lv_icmp_ge (tgt := 45) hx hb dX5_next_38 (by decide) (fun c_6 => ?_) (fun c_6 => ?_)
      · have hw := x_t hw c_6
        refine lv_iconst (v := 0) hx hb dX5_next_45 (by decide) ?_
        exact hJ_4 0 hw ls _ _ hR hS (lv_sub hl [0] rfl)
      · have hw := x_f hw c_6
        refine lv_iconst (v := 1) hx hb dX5_next_41 (by decide) ?_
        refine lv_goto (tgt := 46) hx hb dX5_next_42 (by decide) ?_
        exact hJ_4 1 hw ls _ _ hR hS (lv_sub hl [0] rfl)
  · refine lv_icmp_ge (tgt := 23) hx hb dX5_next_8 (by decide) (fun c_7 => ?_) (fun c_7 => ?_)
    · have hw := x_t hw c_7
      refine lv_iconst (v := 0) hx hb dX5_next_23 (by decide) ?_
      exact hJ_2 0 hw ls _ _ hR hS (lv_sub hl [0] rfl)
    · have hw := x_f hw c_7
      refine lv_aload_n hx hb dX5_next_11 rfl (lv_at hl 0 rfl) ?_
      refine x_getR (ci := 5) (C := RX5) (T := TX5) (N := 6) (f := 301) hx hb hts in_X5 hown hK hR rfl 1 (by decide) (hts _ q410) (fun _ h => h) rfl (by decide) dX5_next_12 hw.1 ?_
      have hw := hw.2
      refine lv_aload_n hx hb dX5_next_15 rfl (lv_at hl 0 rfl) ?_
      refine x_getI (ci := 5) (C := RX5) (T := TX5) (N := 6) (f := 303) hx hb hts in_X5 hown hK hR rfl 3 (by decide) (hts _ q414) (fun _ h => h) rfl (by decide) dX5_next_16 hw.1 ?_
      have hw := hw.2
      obtain ⟨b_8, e_9, hw⟩ := hw
      refine x_dr1 e_9 ?_
      refine x_iald hx hb hK hR dX5_next_19 hw.1 hw.2.1 ?_
      have hw := hw.2.2
      refine lv_goto (tgt := 24) hx hb dX5_next_20 (by decide) ?_
      exact hJ_2 (xA S b_8 (Int32.toNatClampNeg (xI S 303 o))) hw ls _ _ hR hS (lv_sub hl [0] rfl)
def w_X6_init (S : xH) (o : Nat) (Q : Prop) : Prop := Q
theorem hd_X6_init : yX6_init.cls = "PressedMen$Text" ∧ yX6_init.cls ≠ "java/lang/invoke/MethodHandle" ∧ yX6_init.cls ≠ "java/lang/invoke/VarHandle" ∧ (parseMethodDescriptor yX6_init.desc).map (fun d => d.parameters.length) = some 0 := by decide +kernel
set_option maxHeartbeats 4000000 in
theorem mt_X6_init (l : Launch) {D : va_G} {d : Nat → ClassId} {base : Nat} {mc : va_W} {S : xH} {o : Nat} {Q : Prop} (hw : w_X6_init S o Q) : Met l yX6_init (ws_ yX6_init cX6_init 1 none) (x_rm 1 0 0 28) (x_Pc D d base mc S [.ref o]) (x_Qv D d base mc (fun S' => S' = S ∧ Q)) 0 0 (x_A base) := by
  refine x_met (by decide) (Nat.le_of_ble_eq_true rfl) ?_
  intro p e s m below meth c hx hb hml hr hlocks hown hts hz hR hK hin ls hl
  have hown : s.vm.findClass "PressedMen$Text" = some m.cls := hown
  have hl : lv_has ls 1 [(0, .ref o)] := hl
  have hS : va_S (x_A base) s.heap s.heap [] := va_S.rf
  unfold w_X6_init at hw
  refine lv_aload_n hx hb dX6_init_0 rfl (lv_at hl 0 rfl) ?_
  refine W.objInit hx hb hown (hts _ q467) (hts _ q93) (hts _ q94) rfl (by rw [hml]; exact hl.1) rfl dX6_init_1 (Nat.le_of_ble_eq_true rfl) (Nat.le_of_ble_eq_true rfl) ?_
  refine W.eq (g2 := F0 m 4 ls []) rfl ?_
  exact x_rv hx hb hr hlocks hR hS dX6_init_4 ⟨rfl, hw⟩
def w_X7_init (S : xH) (o : Nat) (x1 : Nat) (x2 : Nat) (Q : xH → Prop) : Prop := w_X6_init S o ((xT S o = 8 ∨ xT S o = 9) ∧ nm (sR S 400 o (some x1)) (fun S_2 : xH => (xT S_2 o = 8 ∨ xT S_2 o = 9) ∧ nm (sR S_2 401 o (some x2)) (fun S_3 : xH => Q S_3)))
theorem hd_X7_init : yX7_init.cls = "PressedMen$Both" ∧ yX7_init.cls ≠ "java/lang/invoke/MethodHandle" ∧ yX7_init.cls ≠ "java/lang/invoke/VarHandle" ∧ (parseMethodDescriptor yX7_init.desc).map (fun d => d.parameters.length) = some 2 := by decide +kernel
set_option maxHeartbeats 4000000 in
theorem mt_X7_init (l : Launch) {D : va_G} {d : Nat → ClassId} {base : Nat} {mc : va_W} {S : xH} {o : Nat} {x1 : Nat} {x2 : Nat} {Q : xH → Prop} (hw : w_X7_init S o x1 x2 Q) : Met l yX7_init (ws_ yX7_init cX7_init 3 none) (x_rm 2 0 0 48) (x_Pc D d base mc S [.ref o, .ref x1, .ref x2]) (x_Qv D d base mc (fun S' => Q S')) 0 0 (x_A base) := by
  refine x_met (by decide) (Nat.le_of_ble_eq_true rfl) ?_
  intro p e s m below meth c hx hb hml hr hlocks hown hts hz hR hK hin ls hl
  have hown : s.vm.findClass "PressedMen$Both" = some m.cls := hown
  have hl : lv_has ls 3 [(0, .ref o), (1, .ref x1), (2, .ref x2)] := hl
  have hS : va_S (x_A base) s.heap s.heap [] := va_S.rf
  unfold w_X7_init at hw
  refine lv_aload_n hx hb dX7_init_0 rfl (lv_at hl 0 rfl) ?_
  refine x_cv (va_runIN (As := []) (rest := []) ⟨hx, hb, hml, hown, hts⟩ (mt_X6_init l hw) ⟨va_cnB 0 hts (lw_meth q466) rfl rfl rfl (hK.2 _ q464 rfl) (hts _ q71) hd_X6_init.2 ⟨Nat.le_of_ble_eq_true rfl, Nat.le_of_ble_eq_true rfl⟩, rfl, hts _ q465⟩ ⟨x_Pc_blind, x_Pc_pre hR hz hS hK⟩ rfl rfl hl.1 rfl (lv_room (Nat.le_of_ble_eq_true rfl)) dX7_init_1 ⟨Nat.le_refl _, Nat.le_refl _⟩) hS (fun S_1 H locs hp hR hS => ?_)
  have hw := hp.2
  rw [hp.1] at hR
  refine lv_aload_n hx hb dX7_init_4 rfl (lv_at hl 0 rfl) ?_
  refine lv_aload_n hx hb dX7_init_5 rfl (lv_at hl 1 rfl) ?_
  refine x_put400 (r := (some x1)) hx hb hts hown hK hR hS hin (hts _ q468) dX7_init_6 hw.1 (fun H locs hR hS => ?_)
  have hw := hw.2
  obtain ⟨S_2, eS_2⟩ : ∃ z, z = (sR S 400 o (some x1)) := ⟨_, rfl⟩
  rw [← eS_2] at hR
  have hw := hw S_2 eS_2
  refine lv_aload_n hx hb dX7_init_9 rfl (lv_at hl 0 rfl) ?_
  refine lv_aload_n hx hb dX7_init_10 rfl (lv_at hl 2 rfl) ?_
  refine x_put401 (r := (some x2)) hx hb hts hown hK hR hS hin (hts _ q469) dX7_init_11 hw.1 (fun H locs hR hS => ?_)
  have hw := hw.2
  obtain ⟨S_3, eS_3⟩ : ∃ z, z = (sR S_2 401 o (some x2)) := ⟨_, rfl⟩
  rw [← eS_3] at hR
  have hw := hw S_3 eS_3
  exact x_rv hx hb hr hlocks hR hS dX7_init_14 hw
def w_X8_init (S : xH) (o : Nat) (x1 : Nat) (x2 : Nat) (Q : xH → Prop) : Prop := w_X7_init S o x1 x2 (fun (S_1 : xH) => Q S_1)
theorem hd_X8_init : yX8_init.cls = "PressedMen$Either" ∧ yX8_init.cls ≠ "java/lang/invoke/MethodHandle" ∧ yX8_init.cls ≠ "java/lang/invoke/VarHandle" ∧ (parseMethodDescriptor yX8_init.desc).map (fun d => d.parameters.length) = some 2 := by decide +kernel
set_option maxHeartbeats 4000000 in
theorem mt_X8_init (l : Launch) {D : va_G} {d : Nat → ClassId} {base : Nat} {mc : va_W} {S : xH} {o : Nat} {x1 : Nat} {x2 : Nat} {Q : xH → Prop} (hw : w_X8_init S o x1 x2 Q) : Met l yX8_init (ws_ yX8_init cX8_init 3 none) (x_rm 3 0 0 70) (x_Pc D d base mc S [.ref o, .ref x1, .ref x2]) (x_Qv D d base mc (fun S' => Q S')) 0 0 (x_A base) := by
  refine x_met (by decide) (Nat.le_of_ble_eq_true rfl) ?_
  intro p e s m below meth c hx hb hml hr hlocks hown hts hz hR hK hin ls hl
  have hown : s.vm.findClass "PressedMen$Either" = some m.cls := hown
  have hl : lv_has ls 3 [(0, .ref o), (1, .ref x1), (2, .ref x2)] := hl
  have hS : va_S (x_A base) s.heap s.heap [] := va_S.rf
  unfold w_X8_init at hw
  refine lv_aload_n hx hb dX8_init_0 rfl (lv_at hl 0 rfl) ?_
  refine lv_aload_n hx hb dX8_init_1 rfl (lv_at hl 1 rfl) ?_
  refine lv_aload_n hx hb dX8_init_2 rfl (lv_at hl 2 rfl) ?_
  refine x_cv (va_runI (As := [.ref x1, .ref x2]) (rest := []) ⟨hx, hb, hml, hown, hts⟩ (mt_X7_init l hw) (cwI 2 hts (lw_meth q463) rfl rfl rfl (hts _ q72) (hts _ q480) (hts _ q462) rfl hd_X7_init.2 ⟨Nat.le_of_ble_eq_true rfl, Nat.le_of_ble_eq_true rfl⟩) ⟨x_Pc_blind, x_Pc_pre hR hz hS hK⟩ rfl rfl hl.1 rfl (lv_room (Nat.le_of_ble_eq_true rfl)) dX8_init_3 ⟨Nat.le_refl _, Nat.le_refl _⟩) hS (fun S_1 H locs hp hR hS => ?_)
  have hw := hp
  exact x_rv hx hb hr hlocks hR hS dX8_init_6 hw
def w_X9_init (S : xH) (o : Nat) (x1 : Nat) (Q : xH → Prop) : Prop := w_X6_init S o (xT S o = 10 ∧ nm (sR S 500 o (some x1)) (fun S_2 : xH => Q S_2))
theorem hd_X9_init : yX9_init.cls = "PressedMen$Not" ∧ yX9_init.cls ≠ "java/lang/invoke/MethodHandle" ∧ yX9_init.cls ≠ "java/lang/invoke/VarHandle" ∧ (parseMethodDescriptor yX9_init.desc).map (fun d => d.parameters.length) = some 1 := by decide +kernel
set_option maxHeartbeats 4000000 in
theorem mt_X9_init (l : Launch) {D : va_G} {d : Nat → ClassId} {base : Nat} {mc : va_W} {S : xH} {o : Nat} {x1 : Nat} {Q : xH → Prop} (hw : w_X9_init S o x1 Q) : Met l yX9_init (ws_ yX9_init cX9_init 2 none) (x_rm 2 0 0 48) (x_Pc D d base mc S [.ref o, .ref x1]) (x_Qv D d base mc (fun S' => Q S')) 0 0 (x_A base) := by
  refine x_met (by decide) (Nat.le_of_ble_eq_true rfl) ?_
  intro p e s m below meth c hx hb hml hr hlocks hown hts hz hR hK hin ls hl
  have hown : s.vm.findClass "PressedMen$Not" = some m.cls := hown
  have hl : lv_has ls 2 [(0, .ref o), (1, .ref x1)] := hl
  have hS : va_S (x_A base) s.heap s.heap [] := va_S.rf
  unfold w_X9_init at hw
  refine lv_aload_n hx hb dX9_init_0 rfl (lv_at hl 0 rfl) ?_
  refine x_cv (va_runIN (As := []) (rest := []) ⟨hx, hb, hml, hown, hts⟩ (mt_X6_init l hw) ⟨va_cnB 0 hts (lw_meth q466) rfl rfl rfl (hK.2 _ q489 rfl) (hts _ q71) hd_X6_init.2 ⟨Nat.le_of_ble_eq_true rfl, Nat.le_of_ble_eq_true rfl⟩, rfl, hts _ q465⟩ ⟨x_Pc_blind, x_Pc_pre hR hz hS hK⟩ rfl rfl hl.1 rfl (lv_room (Nat.le_of_ble_eq_true rfl)) dX9_init_1 ⟨Nat.le_refl _, Nat.le_refl _⟩) hS (fun S_1 H locs hp hR hS => ?_)
  have hw := hp.2
  rw [hp.1] at hR
  refine lv_aload_n hx hb dX9_init_4 rfl (lv_at hl 0 rfl) ?_
  refine lv_aload_n hx hb dX9_init_5 rfl (lv_at hl 1 rfl) ?_
  refine x_putFR (ci := 9) (C := RX9) (T := TX9) (N := 1) (f := 500) (r := (some x1)) hx hb hts in_X9 tyX9 tyX9_ok nmX9 hown hK hR hS rfl 0 (by decide) (hts _ q490) (fun _ h => h) rfl hin rfl rfl (by decide) (x_rn _ _) (x_rf _ _) dX9_init_6 hw.1 (fun H locs hR hS => ?_)
  have hw := hw.2
  obtain ⟨S_2, eS_2⟩ : ∃ z, z = (sR S 500 o (some x1)) := ⟨_, rfl⟩
  rw [← eS_2] at hR
  have hw := hw S_2 eS_2
  exact x_rv hx hb hr hlocks hR hS dX9_init_9 hw
def w_X5_digit (S : xH) (o : Nat) (Q : Int32 → xH → Prop) : Prop := xT S o = 6 ∧ xT S o = 6 ∧ wif ((xI S 303 o) = (xI S 302 o)) (Q (-1) S) (xT S o = 6 ∧ xT S o = 6 ∧ ∃ b_2, (xR S 301 o) = some b_2 ∧ xT S b_2 = 101 ∧ vp_in (xI S 303 o) (xL S b_2) ∧ w_X0_isIn S (xA S b_2 (Int32.toNatClampNeg (xI S 303 o))) 48 57 (fun (r_4 : Int32) => wif (r_4 = 0) (Q (-1) S) (xT S o = 6 ∧ xT S o = 6 ∧ nm (sI S 303 o ((xI S 303 o) + 1)) (fun S_7 : xH => xT S_7 o = 6 ∧ xT S_7 o = 6 ∧ ∃ b_8, (xR S_7 301 o) = some b_8 ∧ xT S_7 b_8 = 101 ∧ vp_in ((xI S_7 303 o) - 1) (xL S_7 b_8) ∧ Q ((xA S_7 b_8 (Int32.toNatClampNeg ((xI S_7 303 o) - 1))) - 48) S_7))))
theorem hd_X5_digit : yX5_digit.cls = "PressedMen$Act" ∧ yX5_digit.cls ≠ "java/lang/invoke/MethodHandle" ∧ yX5_digit.cls ≠ "java/lang/invoke/VarHandle" ∧ (parseMethodDescriptor yX5_digit.desc).map (fun d => d.parameters.length) = some 0 := by decide +kernel
set_option maxHeartbeats 4000000 in
theorem mt_X5_digit (l : Launch) {D : va_G} {d : Nat → ClassId} {base : Nat} {mc : va_W} {S : xH} {o : Nat} {Q : Int32 → xH → Prop} (hw : w_X5_digit S o Q) : Met l yX5_digit (ws_ yX5_digit cX5_digit 1 (some FieldType.int)) (x_rm 1 0 0 22) (x_Pc D d base mc S [.ref o]) (x_Qi D d base mc (fun r S' => Q r S')) 0 0 (x_A base) := by
  refine x_met (by decide) (Nat.le_of_ble_eq_true rfl) ?_
  intro p e s m below meth c hx hb hml hr hlocks hown hts hz hR hK hin ls hl
  have hown : s.vm.findClass "PressedMen$Act" = some m.cls := hown
  have hl : lv_has ls 1 [(0, .ref o)] := hl
  have hS : va_S (x_A base) s.heap s.heap [] := va_S.rf
  unfold w_X5_digit at hw
  refine lv_aload_n hx hb dX5_digit_0 rfl (lv_at hl 0 rfl) ?_
  refine x_getI (ci := 5) (C := RX5) (T := TX5) (N := 6) (f := 303) hx hb hts in_X5 hown hK hR rfl 3 (by decide) (hts _ q414) (fun _ h => h) rfl (by decide) dX5_digit_1 hw.1 ?_
  have hw := hw.2
  refine lv_aload_n hx hb dX5_digit_4 rfl (lv_at hl 0 rfl) ?_
  refine x_getI (ci := 5) (C := RX5) (T := TX5) (N := 6) (f := 302) hx hb hts in_X5 hown hK hR rfl 2 (by decide) (hts _ q412) (fun _ h => h) rfl (by decide) dX5_digit_5 hw.1 ?_
  have hw := hw.2
  refine lv_icmp_eq (tgt := 30) hx hb dX5_digit_8 (by decide) (fun c_1 => ?_) (fun c_1 => ?_)
  · have hw := x_t hw c_1
    refine lv_iconst (v := (-1)) hx hb dX5_digit_30 (by decide) ?_
    exact x_ri hx hb hr hlocks hR hS dX5_digit_31 hw
  · have hw := x_f hw c_1
    refine lv_aload_n hx hb dX5_digit_11 rfl (lv_at hl 0 rfl) ?_
    refine x_getR (ci := 5) (C := RX5) (T := TX5) (N := 6) (f := 301) hx hb hts in_X5 hown hK hR rfl 1 (by decide) (hts _ q410) (fun _ h => h) rfl (by decide) dX5_digit_12 hw.1 ?_
    have hw := hw.2
    refine lv_aload_n hx hb dX5_digit_15 rfl (lv_at hl 0 rfl) ?_
    refine x_getI (ci := 5) (C := RX5) (T := TX5) (N := 6) (f := 303) hx hb hts in_X5 hown hK hR rfl 3 (by decide) (hts _ q414) (fun _ h => h) rfl (by decide) dX5_digit_16 hw.1 ?_
    have hw := hw.2
    obtain ⟨b_2, e_3, hw⟩ := hw
    refine x_dr1 e_3 ?_
    refine x_iald hx hb hK hR dX5_digit_19 hw.1 hw.2.1 ?_
    have hw := hw.2.2
    refine lv_bipush (v := 48) hx hb dX5_digit_20 (by decide) ?_
    refine lv_bipush (v := 57) hx hb dX5_digit_22 (by decide) ?_
    refine x_ci (va_runSN (As := [.int (xA S b_2 (Int32.toNatClampNeg (xI S 303 o))), .int 48, .int 57]) (rest := []) ⟨hx, hb, hml, hown, hts⟩ (mt_X0_isIn l hw) ⟨va_cnB 3 hts (lw_meth q180) rfl rfl rfl (hK.2 _ q502 rfl) (hts _ q64) hd_X0_isIn.2 ⟨Nat.le_of_ble_eq_true rfl, Nat.le_of_ble_eq_true rfl⟩, hts _ q179, trivial⟩ ⟨x_Pc_blind, x_Pc_pre hR hz hS hK⟩ rfl rfl hl.1 rfl (lv_room (Nat.le_of_ble_eq_true rfl)) dX5_digit_24 ⟨Nat.le_refl _, Nat.le_refl _⟩) hS (fun r_4 S_5 H locs hp hR hS => ?_)
    have hw := hp.2
    rw [hp.1] at hR
    refine lv_if_ne (tgt := 32) hx hb dX5_digit_27 (by decide) (fun c_6 => ?_) (fun c_6 => ?_)
    · have hw := x_f hw c_6
      refine lv_aload_n hx hb dX5_digit_32 rfl (lv_at hl 0 rfl) ?_
      refine lv_dup hx hb dX5_digit_33 rfl ?_
      refine x_getI (ci := 5) (C := RX5) (T := TX5) (N := 6) (f := 303) hx hb hts in_X5 hown hK hR rfl 3 (by decide) (hts _ q414) (fun _ h => h) rfl (by decide) dX5_digit_34 hw.1 ?_
      have hw := hw.2
      refine lv_iconst (v := 1) hx hb dX5_digit_37 (by decide) ?_
      refine lv_iadd hx hb dX5_digit_38 ?_
      refine x_putI (ci := 5) (C := RX5) (T := TX5) (N := 6) (f := 303) hx hb hts in_X5 tyX5 tyX5_ok nmX5 hown hK hR hS rfl 3 (by decide) (hts _ q414) (fun _ h => h) rfl rfl (by decide) rfl rfl dX5_digit_39 hw.1 (fun H locs hR hS => ?_)
      have hw := hw.2
      obtain ⟨S_7, eS_7⟩ : ∃ z, z = (sI S 303 o ((xI S 303 o) + 1)) := ⟨_, rfl⟩
      rw [← eS_7] at hR
      have hw := hw S_7 eS_7
      refine lv_aload_n hx hb dX5_digit_42 rfl (lv_at hl 0 rfl) ?_
      refine x_getR (ci := 5) (C := RX5) (T := TX5) (N := 6) (f := 301) hx hb hts in_X5 hown hK hR rfl 1 (by decide) (hts _ q410) (fun _ h => h) rfl (by decide) dX5_digit_43 hw.1 ?_
      have hw := hw.2
      refine lv_aload_n hx hb dX5_digit_46 rfl (lv_at hl 0 rfl) ?_
      refine x_getI (ci := 5) (C := RX5) (T := TX5) (N := 6) (f := 303) hx hb hts in_X5 hown hK hR rfl 3 (by decide) (hts _ q414) (fun _ h => h) rfl (by decide) dX5_digit_47 hw.1 ?_
      have hw := hw.2
      refine lv_iconst (v := 1) hx hb dX5_digit_50 (by decide) ?_
      refine lv_isub hx hb dX5_digit_51 ?_
      obtain ⟨b_8, e_9, hw⟩ := hw
      refine x_dr1 e_9 ?_
      refine x_iald hx hb hK hR dX5_digit_52 hw.1 hw.2.1 ?_
      have hw := hw.2.2
      refine lv_bipush (v := 48) hx hb dX5_digit_53 (by decide) ?_
      refine lv_isub hx hb dX5_digit_55 ?_
      exact x_ri hx hb hr hlocks hR hS dX5_digit_56 hw
    · have hw := x_t hw c_6
      refine lv_iconst (v := (-1)) hx hb dX5_digit_30 (by decide) ?_
      exact x_ri hx hb hr hlocks hR hS dX5_digit_31 hw
def w_X5_fail (S : xH) (o : Nat) (Q : Option Nat → xH → Prop) : Prop := xT S o = 6 ∧ jn (fun (v1_1 : Int32) => xT S o = 6 ∧ nm (sI S 304 o v1_1) (fun S_3 : xH => Q none S_3)) (fun J_2 => wif ((xI S 304 o) = (-9)) (xT S o = 6 ∧ J_2 (xI S 303 o)) (xT S o = 6 ∧ J_2 (xI S 304 o)))
theorem hd_X5_fail : yX5_fail.cls = "PressedMen$Act" ∧ yX5_fail.cls ≠ "java/lang/invoke/MethodHandle" ∧ yX5_fail.cls ≠ "java/lang/invoke/VarHandle" ∧ (parseMethodDescriptor yX5_fail.desc).map (fun d => d.parameters.length) = some 0 := by decide +kernel
set_option maxHeartbeats 4000000 in
theorem mt_X5_fail (l : Launch) {D : va_G} {d : Nat → ClassId} {base : Nat} {mc : va_W} {S : xH} {o : Nat} {Q : Option Nat → xH → Prop} (hw : w_X5_fail S o Q) : Met l yX5_fail (ws_ yX5_fail cX5_fail 1 (some (FieldType.object "PressedMen$Text"))) (x_rm 0 0 0 0) (x_Pc D d base mc S [.ref o]) (x_Qq D d base mc (fun r S' => Q r S')) 0 0 (x_A base) := by
  refine x_met (by decide) (Nat.le_of_ble_eq_true rfl) ?_
  intro p e s m below meth c hx hb hml hr hlocks hown hts hz hR hK hin ls hl
  have hown : s.vm.findClass "PressedMen$Act" = some m.cls := hown
  have hl : lv_has ls 1 [(0, .ref o)] := hl
  have hS : va_S (x_A base) s.heap s.heap [] := va_S.rf
  unfold w_X5_fail at hw
  refine lv_aload_n hx hb dX5_fail_0 rfl (lv_at hl 0 rfl) ?_
  refine lv_aload_n hx hb dX5_fail_1 rfl (lv_at hl 0 rfl) ?_
  refine x_getI (ci := 5) (C := RX5) (T := TX5) (N := 6) (f := 304) hx hb hts in_X5 hown hK hR rfl 4 (by decide) (hts _ q415) (fun _ h => h) rfl (by decide) dX5_fail_2 hw.1 ?_
  have hw := hw.2
  refine lv_bipush (v := (-9)) hx hb dX5_fail_5 (by decide) ?_
  refine x_jn (G := fun (v1_1 : Int32) => ∀ (ls : Array Slot) (H : Heap) (locs : List Loc), x_Rp D d (x_A base) mc S H → va_S (x_A base) s.heap H locs → lv_has ls 1 [] → W p l e (x_rm 0 0 0 0) s m ([.ref o] : List Value).toArray below meth c H locs 0 0 (MQ below (x_Qq D d base mc (fun r S' => Q r S')) ([.ref o] : List Value).toArray s 0 0 (x_A base)) (F0 m 21 ls [.int v1_1, .ref o])) hw (fun v1_1 hw => ?_) (fun hJ_2 hw => ?_)
  · intro ls H locs hR hS hl
    refine x_putI (ci := 5) (C := RX5) (T := TX5) (N := 6) (f := 304) hx hb hts in_X5 tyX5 tyX5_ok nmX5 hown hK hR hS rfl 4 (by decide) (hts _ q415) (fun _ h => h) rfl rfl (by decide) rfl rfl dX5_fail_21 hw.1 (fun H locs hR hS => ?_)
    have hw := hw.2
    obtain ⟨S_3, eS_3⟩ : ∃ z, z = (sI S 304 o v1_1) := ⟨_, rfl⟩
    rw [← eS_3] at hR
    have hw := hw S_3 eS_3
    refine lv_null hx hb dX5_fail_24 ?_
    exact x_rq (r := none) hx hb hr (Or.inl ⟨_, rfl⟩) hlocks hR hS dX5_fail_25 hw
  · refine lv_icmp_ne (tgt := 17) hx hb dX5_fail_7 (by decide) (fun c_4 => ?_) (fun c_4 => ?_)
    · have hw := x_f hw c_4
      refine lv_aload_n hx hb dX5_fail_17 rfl (lv_at hl 0 rfl) ?_
      refine x_getI (ci := 5) (C := RX5) (T := TX5) (N := 6) (f := 304) hx hb hts in_X5 hown hK hR rfl 4 (by decide) (hts _ q415) (fun _ h => h) rfl (by decide) dX5_fail_18 hw.1 ?_
      have hw := hw.2
      exact hJ_2 (xI S 304 o) hw ls _ _ hR hS (lv_sub hl [] rfl)
    · have hw := x_t hw c_4
      refine lv_aload_n hx hb dX5_fail_10 rfl (lv_at hl 0 rfl) ?_
      refine x_getI (ci := 5) (C := RX5) (T := TX5) (N := 6) (f := 303) hx hb hts in_X5 hown hK hR rfl 3 (by decide) (hts _ q414) (fun _ h => h) rfl (by decide) dX5_fail_11 hw.1 ?_
      have hw := hw.2
      refine lv_goto (tgt := 21) hx hb dX5_fail_14 (by decide) ?_
      exact hJ_2 (xI S 303 o) hw ls _ _ hR hS (lv_sub hl [] rfl)
def w_X10_init (S : xH) (o : Nat) (x1 : Int32) (x2 : Int32) (Q : xH → Prop) : Prop := w_X6_init S o ((xT S o = 11 ∨ xT S o = 12 ∨ xT S o = 13) ∧ nm (sI S 550 o x1) (fun S_2 : xH => (xT S_2 o = 11 ∨ xT S_2 o = 12 ∨ xT S_2 o = 13) ∧ nm (sI S_2 551 o x2) (fun S_3 : xH => Q S_3)))
theorem hd_X10_init : yX10_init.cls = "PressedMen$AtLeast" ∧ yX10_init.cls ≠ "java/lang/invoke/MethodHandle" ∧ yX10_init.cls ≠ "java/lang/invoke/VarHandle" ∧ (parseMethodDescriptor yX10_init.desc).map (fun d => d.parameters.length) = some 2 := by decide +kernel
set_option maxHeartbeats 4000000 in
theorem mt_X10_init (l : Launch) {D : va_G} {d : Nat → ClassId} {base : Nat} {mc : va_W} {S : xH} {o : Nat} {x1 : Int32} {x2 : Int32} {Q : xH → Prop} (hw : w_X10_init S o x1 x2 Q) : Met l yX10_init (ws_ yX10_init cX10_init 3 none) (x_rm 2 0 0 48) (x_Pc D d base mc S [.ref o, .int x1, .int x2]) (x_Qv D d base mc (fun S' => Q S')) 0 0 (x_A base) := by
  refine x_met (by decide) (Nat.le_of_ble_eq_true rfl) ?_
  intro p e s m below meth c hx hb hml hr hlocks hown hts hz hR hK hin ls hl
  have hown : s.vm.findClass "PressedMen$AtLeast" = some m.cls := hown
  have hl : lv_has ls 3 [(0, .ref o), (1, .int x1), (2, .int x2)] := hl
  have hS : va_S (x_A base) s.heap s.heap [] := va_S.rf
  unfold w_X10_init at hw
  refine lv_aload_n hx hb dX10_init_0 rfl (lv_at hl 0 rfl) ?_
  refine x_cv (va_runIN (As := []) (rest := []) ⟨hx, hb, hml, hown, hts⟩ (mt_X6_init l hw) ⟨va_cnB 0 hts (lw_meth q466) rfl rfl rfl (hK.2 _ q512 rfl) (hts _ q71) hd_X6_init.2 ⟨Nat.le_of_ble_eq_true rfl, Nat.le_of_ble_eq_true rfl⟩, rfl, hts _ q465⟩ ⟨x_Pc_blind, x_Pc_pre hR hz hS hK⟩ rfl rfl hl.1 rfl (lv_room (Nat.le_of_ble_eq_true rfl)) dX10_init_1 ⟨Nat.le_refl _, Nat.le_refl _⟩) hS (fun S_1 H locs hp hR hS => ?_)
  have hw := hp.2
  rw [hp.1] at hR
  refine lv_aload_n hx hb dX10_init_4 rfl (lv_at hl 0 rfl) ?_
  refine lv_iload_n hx hb dX10_init_5 rfl (lv_at hl 1 rfl) ?_
  refine x_put550 hx hb hts hown hK hR hS hin (hts _ q513) dX10_init_6 hw.1 (fun H locs hR hS => ?_)
  have hw := hw.2
  obtain ⟨S_2, eS_2⟩ : ∃ z, z = (sI S 550 o x1) := ⟨_, rfl⟩
  rw [← eS_2] at hR
  have hw := hw S_2 eS_2
  refine lv_aload_n hx hb dX10_init_9 rfl (lv_at hl 0 rfl) ?_
  refine lv_iload_n hx hb dX10_init_10 rfl (lv_at hl 2 rfl) ?_
  refine x_put551 hx hb hts hown hK hR hS hin (hts _ q514) dX10_init_11 hw.1 (fun H locs hR hS => ?_)
  have hw := hw.2
  obtain ⟨S_3, eS_3⟩ : ∃ z, z = (sI S_2 551 o x2) := ⟨_, rfl⟩
  rw [← eS_3] at hR
  have hw := hw S_3 eS_3
  exact x_rv hx hb hr hlocks hR hS dX10_init_14 hw
def w_X11_init (S : xH) (o : Nat) (x1 : Int32) (x2 : Int32) (Q : xH → Prop) : Prop := w_X10_init S o x1 x2 (fun (S_1 : xH) => Q S_1)
theorem hd_X11_init : yX11_init.cls = "PressedMen$Below" ∧ yX11_init.cls ≠ "java/lang/invoke/MethodHandle" ∧ yX11_init.cls ≠ "java/lang/invoke/VarHandle" ∧ (parseMethodDescriptor yX11_init.desc).map (fun d => d.parameters.length) = some 2 := by decide +kernel
set_option maxHeartbeats 4000000 in
theorem mt_X11_init (l : Launch) {D : va_G} {d : Nat → ClassId} {base : Nat} {mc : va_W} {S : xH} {o : Nat} {x1 : Int32} {x2 : Int32} {Q : xH → Prop} (hw : w_X11_init S o x1 x2 Q) : Met l yX11_init (ws_ yX11_init cX11_init 3 none) (x_rm 3 0 0 70) (x_Pc D d base mc S [.ref o, .int x1, .int x2]) (x_Qv D d base mc (fun S' => Q S')) 0 0 (x_A base) := by
  refine x_met (by decide) (Nat.le_of_ble_eq_true rfl) ?_
  intro p e s m below meth c hx hb hml hr hlocks hown hts hz hR hK hin ls hl
  have hown : s.vm.findClass "PressedMen$Below" = some m.cls := hown
  have hl : lv_has ls 3 [(0, .ref o), (1, .int x1), (2, .int x2)] := hl
  have hS : va_S (x_A base) s.heap s.heap [] := va_S.rf
  unfold w_X11_init at hw
  refine lv_aload_n hx hb dX11_init_0 rfl (lv_at hl 0 rfl) ?_
  refine lv_iload_n hx hb dX11_init_1 rfl (lv_at hl 1 rfl) ?_
  refine lv_iload_n hx hb dX11_init_2 rfl (lv_at hl 2 rfl) ?_
  refine x_cv (va_runI (As := [.int x1, .int x2]) (rest := []) ⟨hx, hb, hml, hown, hts⟩ (mt_X10_init l hw) (cwI 2 hts (lw_meth q511) rfl rfl rfl (hts _ q75) (hts _ q525) (hts _ q510) rfl hd_X10_init.2 ⟨Nat.le_of_ble_eq_true rfl, Nat.le_of_ble_eq_true rfl⟩) ⟨x_Pc_blind, x_Pc_pre hR hz hS hK⟩ rfl rfl hl.1 rfl (lv_room (Nat.le_of_ble_eq_true rfl)) dX11_init_3 ⟨Nat.le_refl _, Nat.le_refl _⟩) hS (fun S_1 H locs hp hR hS => ?_)
  have hw := hp
  exact x_rv hx hb hr hlocks hR hS dX11_init_6 hw
def w_X12_init (S : xH) (o : Nat) (x1 : Int32) (x2 : Int32) (Q : xH → Prop) : Prop := w_X11_init S o x1 x2 (fun (S_1 : xH) => Q S_1)
theorem hd_X12_init : yX12_init.cls = "PressedMen$Equal" ∧ yX12_init.cls ≠ "java/lang/invoke/MethodHandle" ∧ yX12_init.cls ≠ "java/lang/invoke/VarHandle" ∧ (parseMethodDescriptor yX12_init.desc).map (fun d => d.parameters.length) = some 2 := by decide +kernel
set_option maxHeartbeats 4000000 in
theorem mt_X12_init (l : Launch) {D : va_G} {d : Nat → ClassId} {base : Nat} {mc : va_W} {S : xH} {o : Nat} {x1 : Int32} {x2 : Int32} {Q : xH → Prop} (hw : w_X12_init S o x1 x2 Q) : Met l yX12_init (ws_ yX12_init cX12_init 3 none) (x_rm 4 0 0 92) (x_Pc D d base mc S [.ref o, .int x1, .int x2]) (x_Qv D d base mc (fun S' => Q S')) 0 0 (x_A base) := by
  refine x_met (by decide) (Nat.le_of_ble_eq_true rfl) ?_
  intro p e s m below meth c hx hb hml hr hlocks hown hts hz hR hK hin ls hl
  have hown : s.vm.findClass "PressedMen$Equal" = some m.cls := hown
  have hl : lv_has ls 3 [(0, .ref o), (1, .int x1), (2, .int x2)] := hl
  have hS : va_S (x_A base) s.heap s.heap [] := va_S.rf
  unfold w_X12_init at hw
  refine lv_aload_n hx hb dX12_init_0 rfl (lv_at hl 0 rfl) ?_
  refine lv_iload_n hx hb dX12_init_1 rfl (lv_at hl 1 rfl) ?_
  refine lv_iload_n hx hb dX12_init_2 rfl (lv_at hl 2 rfl) ?_
  refine x_cv (va_runI (As := [.int x1, .int x2]) (rest := []) ⟨hx, hb, hml, hown, hts⟩ (mt_X11_init l hw) (cwI 2 hts (lw_meth q524) rfl rfl rfl (hts _ q76) (hts _ q534) (hts _ q523) rfl hd_X11_init.2 ⟨Nat.le_of_ble_eq_true rfl, Nat.le_of_ble_eq_true rfl⟩) ⟨x_Pc_blind, x_Pc_pre hR hz hS hK⟩ rfl rfl hl.1 rfl (lv_room (Nat.le_of_ble_eq_true rfl)) dX12_init_3 ⟨Nat.le_refl _, Nat.le_refl _⟩) hS (fun S_1 H locs hp hR hS => ?_)
  have hw := hp
  exact x_rv hx hb hr hlocks hR hS dX12_init_6 hw
def w_X5_readNumber (k n : Nat) (S : xH) (o : Nat) (x1 : Int32) (x2 : Int32) (Q : Option Nat → xH → Prop) : Prop := xT S o = 6 ∧ w_X5_digit S o (fun (r_1 : Int32) (S_2 : xH) => jn2 (fun (v0_3 : Int32) (S_4 : xH) => wif (0 ≤ v0_3) (nm ((10 * r_1) + v0_3) (fun x5_7 : Int32 => wif (x2 = 97) (1 ≤ k ∧ 2 ≤ n ∧ ∀ a_16, xT S_4 a_16 = 0 → nm (sN S_4 a_16 11) (fun S_17 : xH => w_X10_init S_17 a_16 x1 x5_7 (fun (S_18 : xH) => Q (some a_16) S_18))) (wif (x2 = 65) (1 ≤ k ∧ 2 ≤ n ∧ ∀ a_13, xT S_4 a_13 = 0 → nm (sN S_4 a_13 12) (fun S_14 : xH => w_X11_init S_14 a_13 x1 x5_7 (fun (S_15 : xH) => Q (some a_13) S_15))) (1 ≤ k ∧ 2 ≤ n ∧ ∀ a_10, xT S_4 a_10 = 0 → nm (sN S_4 a_10 13) (fun S_11 : xH => w_X12_init S_11 a_10 x1 x5_7 (fun (S_12 : xH) => Q (some a_10) S_12)))))) (xT S_4 o = 6 ∧ w_X5_fail S_4 o (fun (r_19 : Option Nat) (S_20 : xH) => Q r_19 S_20))) (fun J_5 => wif (0 ≤ r_1) (xT S_2 o = 6 ∧ w_X5_digit S_2 o (fun (r_22 : Int32) (S_23 : xH) => J_5 r_22 S_23)) (J_5 (-1) S_2)))
theorem hd_X5_readNumber : yX5_readNumber.cls = "PressedMen$Act" ∧ yX5_readNumber.cls ≠ "java/lang/invoke/MethodHandle" ∧ yX5_readNumber.cls ≠ "java/lang/invoke/VarHandle" ∧ (parseMethodDescriptor yX5_readNumber.desc).map (fun d => d.parameters.length) = some 2 := by decide +kernel
set_option maxHeartbeats 4000000 in
theorem mt_X5_readNumber (l : Launch) {D : va_G} {d : Nat → ClassId} {base : Nat} {mc : va_W} {S : xH} {k n : Nat} {o : Nat} {x1 : Int32} {x2 : Int32} {Q : Option Nat → xH → Prop} (hw : w_X5_readNumber k n S o x1 x2 Q) : Met l yX5_readNumber (ws_ yX5_readNumber cX5_readNumber 6 (some (FieldType.object "PressedMen$Text"))) (x_rm 5 k n 114) (x_Pc D d base mc S [.ref o, .int x1, .int x2]) (x_Qq D d base mc (fun r S' => Q r S')) k n (x_A base) := by
  refine x_met (by decide) (Nat.le_of_ble_eq_true rfl) ?_
  intro p e s m below meth c hx hb hml hr hlocks hown hts hz hR hK hin ls hl
  have hown : s.vm.findClass "PressedMen$Act" = some m.cls := hown
  have hl : lv_has ls 6 [(0, .ref o), (1, .int x1), (2, .int x2)] := hl
  have hS : va_S (x_A base) s.heap s.heap [] := va_S.rf
  have hA : ∀ q : Nat, s.heap.size ≤ q → x_A base q := fun q h => Nat.le_trans hz h
  have hc : 0 + k ≤ k := by omega
  have hs : 0 + n ≤ n := by omega
  unfold w_X5_readNumber at hw
  refine lv_aload_n hx hb dX5_readNumber_0 rfl (lv_at hl 0 rfl) ?_
  obtain ⟨ha, hw⟩ := hw
  refine x_ci (va_runV (As := []) (rest := []) ⟨hx, hb, hml, hown, hts⟩ (mt_X5_digit l hw) (cwV 0 hts (lw_V q498 q500 qs16 q70 q501) rfl rfl rfl hd_X5_digit ⟨Nat.le_of_ble_eq_true rfl, Nat.le_of_ble_eq_true rfl⟩) ⟨x_Pc_blind, hR.recv hK (ci := 5) rfl (by decide) ha, x_Pc_pre hR hz hS hK⟩ rfl rfl hl.1 rfl (lv_room (Nat.le_of_ble_eq_true rfl)) dX5_readNumber_1 ⟨by show _ ≤ k; omega, by show _ ≤ n; omega⟩) hS (fun r_1 S_2 H locs hp hR hS => ?_)
  have hw := hp
  refine lv_istore_n (lv' := [(3, .int r_1), (0, .ref o), (1, .int x1), (2, .int x2)]) hx hb dX5_readNumber_4 rfl hl (by decide) rfl (fun ls hl => ?_)
  refine lv_iload_n hx hb dX5_readNumber_5 rfl (lv_at hl 0 rfl) ?_
  refine x_jn2 (G := fun (v0_3 : Int32) (S_4 : xH) => ∀ (ls : Array Slot) (H : Heap) (locs : List Loc) (cK nK : Nat), cK + k ≤ k → nK + n ≤ n → x_Rp D d (x_A base) mc S_4 H → va_S (x_A base) s.heap H locs → lv_has ls 6 [(0, .ref o), (1, .int x1), (2, .int x2), (3, .int r_1)] → W p l e (x_rm 5 k n 114) s m ([.ref o, .int x1, .int x2] : List Value).toArray below meth c H locs cK nK (MQ below (x_Qq D d base mc (fun r S' => Q r S')) ([.ref o, .int x1, .int x2] : List Value).toArray s k n (x_A base)) (F0 m 17 ls [.int v0_3])) hw (fun v0_3 S_4 hw => ?_) (fun hJ_5 hw => ?_)
  · intro ls H locs cK nK hc hs hR hS hl
    refine lv_istore (lv' := [(4, .int v0_3), (0, .ref o), (1, .int x1), (2, .int x2), (3, .int r_1)]) hx hb dX5_readNumber_17 hl (by decide) rfl (fun ls hl => ?_)
    refine lv_iload hx hb dX5_readNumber_19 (lv_at hl 0 rfl) ?_
    refine lv_if_ge (tgt := 29) hx hb dX5_readNumber_21 (by decide) (fun c_6 => ?_) (fun c_6 => ?_)
    · have hw := x_t hw c_6
      refine lv_bipush (v := 10) hx hb dX5_readNumber_29 (by decide) ?_
      refine lv_iload_n hx hb dX5_readNumber_31 rfl (lv_at hl 4 rfl) ?_
      refine lv_imul hx hb dX5_readNumber_32 ?_
      refine lv_iload hx hb dX5_readNumber_33 (lv_at hl 0 rfl) ?_
      refine lv_iadd hx hb dX5_readNumber_35 ?_
      refine lv_topi (fun x5_7 ex5_7 => ?_)
      have hw := hw x5_7 ex5_7
      refine lv_istore (lv' := [(5, .int x5_7), (4, .int v0_3), (0, .ref o), (1, .int x1), (2, .int x2), (3, .int r_1)]) hx hb dX5_readNumber_36 hl (by decide) rfl (fun ls hl => ?_)
      refine lv_iload_n hx hb dX5_readNumber_38 rfl (lv_at hl 4 rfl) ?_
      refine lv_bipush (v := 97) hx hb dX5_readNumber_39 (by decide) ?_
      refine lv_icmp_ne (tgt := 57) hx hb dX5_readNumber_41 (by decide) (fun c_8 => ?_) (fun c_8 => ?_)
      · have hw := x_f hw c_8
        refine lv_iload_n hx hb dX5_readNumber_57 rfl (lv_at hl 4 rfl) ?_
        refine lv_bipush (v := 65) hx hb dX5_readNumber_58 (by decide) ?_
        refine lv_icmp_ne (tgt := 76) hx hb dX5_readNumber_60 (by decide) (fun c_9 => ?_) (fun c_9 => ?_)
        · have hw := x_f hw c_9
          obtain ⟨h1, h2, hw⟩ := hw
          refine x_new (ci := 12) (C := RX12) (T := TX12) (N := 2) hx hb hts in_X12 tyX12 tyX12_ok hown (hts _ q529) (hts _ q530) (hts _ q77) hK hR hS hA rfl (by decide) dfX12 dX5_readNumber_76 (by show _ ≤ k; omega) (by show _ ≤ n; omega) (fun a_10 H hf hR hS => ?_)
          have hw := hw a_10 hf
          have hc : (cK + 1) + (k - 1) ≤ k := by omega
          have hs : (nK + 2) + (n - 2) ≤ n := by omega
          obtain ⟨S_11, eS_11⟩ : ∃ z, z = (sN S_4 a_10 13) := ⟨_, rfl⟩
          rw [← eS_11] at hR
          have hw := hw S_11 eS_11
          refine lv_dup hx hb dX5_readNumber_79 rfl ?_
          refine lv_iload_n hx hb dX5_readNumber_80 rfl (lv_at hl 3 rfl) ?_
          refine lv_iload hx hb dX5_readNumber_81 (lv_at hl 0 rfl) ?_
          refine x_cv (va_runI (As := [.int x1, .int x5_7]) (rest := [.ref a_10]) ⟨hx, hb, hml, hown, hts⟩ (mt_X12_init l hw) (cwI 2 hts (lw_meth q533) rfl rfl rfl (hts _ q77) (hts _ q531) (hts _ q532) rfl hd_X12_init.2 ⟨Nat.le_of_ble_eq_true rfl, Nat.le_of_ble_eq_true rfl⟩) ⟨x_Pc_blind, x_Pc_pre hR hz hS hK⟩ rfl rfl hl.1 rfl (lv_room (Nat.le_of_ble_eq_true rfl)) dX5_readNumber_83 ⟨by show _ ≤ k; omega, by show _ ≤ n; omega⟩) hS (fun S_12 H locs hp hR hS => ?_)
          have hw := hp
          refine W.widen (k := k) (n := n) (by omega) (by omega) ?_
          exact x_rq (r := (some a_10)) hx hb hr (Or.inl ⟨_, rfl⟩) hlocks hR hS dX5_readNumber_86 hw
        · have hw := x_t hw c_9
          obtain ⟨h1, h2, hw⟩ := hw
          refine x_new (ci := 11) (C := RX11) (T := TX11) (N := 2) hx hb hts in_X11 tyX11 tyX11_ok hown (hts _ q520) (hts _ q521) (hts _ q76) hK hR hS hA rfl (by decide) dfX11 dX5_readNumber_63 (by show _ ≤ k; omega) (by show _ ≤ n; omega) (fun a_13 H hf hR hS => ?_)
          have hw := hw a_13 hf
          have hc : (cK + 1) + (k - 1) ≤ k := by omega
          have hs : (nK + 2) + (n - 2) ≤ n := by omega
          obtain ⟨S_14, eS_14⟩ : ∃ z, z = (sN S_4 a_13 12) := ⟨_, rfl⟩
          rw [← eS_14] at hR
          have hw := hw S_14 eS_14
          refine lv_dup hx hb dX5_readNumber_66 rfl ?_
          refine lv_iload_n hx hb dX5_readNumber_67 rfl (lv_at hl 3 rfl) ?_
          refine lv_iload hx hb dX5_readNumber_68 (lv_at hl 0 rfl) ?_
          refine x_cv (va_runI (As := [.int x1, .int x5_7]) (rest := [.ref a_13]) ⟨hx, hb, hml, hown, hts⟩ (mt_X11_init l hw) (cwI 2 hts (lw_meth q524) rfl rfl rfl (hts _ q76) (hts _ q522) (hts _ q523) rfl hd_X11_init.2 ⟨Nat.le_of_ble_eq_true rfl, Nat.le_of_ble_eq_true rfl⟩) ⟨x_Pc_blind, x_Pc_pre hR hz hS hK⟩ rfl rfl hl.1 rfl (lv_room (Nat.le_of_ble_eq_true rfl)) dX5_readNumber_70 ⟨by show _ ≤ k; omega, by show _ ≤ n; omega⟩) hS (fun S_15 H locs hp hR hS => ?_)
          have hw := hp
          refine lv_goto (tgt := 86) hx hb dX5_readNumber_73 (by decide) ?_
          refine W.widen (k := k) (n := n) (by omega) (by omega) ?_
          exact x_rq (r := (some a_13)) hx hb hr (Or.inl ⟨_, rfl⟩) hlocks hR hS dX5_readNumber_86 hw
      · have hw := x_t hw c_8
        obtain ⟨h1, h2, hw⟩ := hw
        refine x_new (ci := 10) (C := RX10) (T := TX10) (N := 2) hx hb hts in_X10 tyX10 tyX10_ok hown (hts _ q507) (hts _ q508) (hts _ q75) hK hR hS hA rfl (by decide) dfX10 dX5_readNumber_44 (by show _ ≤ k; omega) (by show _ ≤ n; omega) (fun a_16 H hf hR hS => ?_)
        have hw := hw a_16 hf
        have hc : (cK + 1) + (k - 1) ≤ k := by omega
        have hs : (nK + 2) + (n - 2) ≤ n := by omega
        obtain ⟨S_17, eS_17⟩ : ∃ z, z = (sN S_4 a_16 11) := ⟨_, rfl⟩
        rw [← eS_17] at hR
        have hw := hw S_17 eS_17
        refine lv_dup hx hb dX5_readNumber_47 rfl ?_
        refine lv_iload_n hx hb dX5_readNumber_48 rfl (lv_at hl 3 rfl) ?_
        refine lv_iload hx hb dX5_readNumber_49 (lv_at hl 0 rfl) ?_
        refine x_cv (va_runI (As := [.int x1, .int x5_7]) (rest := [.ref a_16]) ⟨hx, hb, hml, hown, hts⟩ (mt_X10_init l hw) (cwI 2 hts (lw_meth q511) rfl rfl rfl (hts _ q75) (hts _ q509) (hts _ q510) rfl hd_X10_init.2 ⟨Nat.le_of_ble_eq_true rfl, Nat.le_of_ble_eq_true rfl⟩) ⟨x_Pc_blind, x_Pc_pre hR hz hS hK⟩ rfl rfl hl.1 rfl (lv_room (Nat.le_of_ble_eq_true rfl)) dX5_readNumber_51 ⟨by show _ ≤ k; omega, by show _ ≤ n; omega⟩) hS (fun S_18 H locs hp hR hS => ?_)
        have hw := hp
        refine lv_goto (tgt := 86) hx hb dX5_readNumber_54 (by decide) ?_
        refine W.widen (k := k) (n := n) (by omega) (by omega) ?_
        exact x_rq (r := (some a_16)) hx hb hr (Or.inl ⟨_, rfl⟩) hlocks hR hS dX5_readNumber_86 hw
    · have hw := x_f hw c_6
      refine lv_aload_n hx hb dX5_readNumber_24 rfl (lv_at hl 1 rfl) ?_
      obtain ⟨ha, hw⟩ := hw
      refine x_cq (va_runV (As := []) (rest := []) ⟨hx, hb, hml, hown, hts⟩ (mt_X5_fail l hw) (cwV 0 hts (lw_V q503 q505 qs17 q70 q506) rfl rfl rfl hd_X5_fail ⟨Nat.le_of_ble_eq_true rfl, Nat.le_of_ble_eq_true rfl⟩) ⟨x_Pc_blind, hR.recv hK (ci := 5) rfl (by decide) ha, x_Pc_pre hR hz hS hK⟩ rfl rfl hl.1 rfl (lv_room (Nat.le_of_ble_eq_true rfl)) dX5_readNumber_25 ⟨by show _ ≤ k; omega, by show _ ≤ n; omega⟩) hS (fun r_19 S_20 H locs hp hR hS => ?_)
      have hw := hp
      refine W.widen (k := k) (n := n) (by omega) (by omega) ?_
      exact x_rq (r := r_19) hx hb hr (Or.inl ⟨_, rfl⟩) hlocks hR hS dX5_readNumber_28 hw
  · refine lv_if_ge (tgt := 13) hx hb dX5_readNumber_6 (by decide) (fun c_21 => ?_) (fun c_21 => ?_)
    · have hw := x_t hw c_21
      refine lv_aload_n hx hb dX5_readNumber_13 rfl (lv_at hl 1 rfl) ?_
      obtain ⟨ha, hw⟩ := hw
      refine x_ci (va_runV (As := []) (rest := []) ⟨hx, hb, hml, hown, hts⟩ (mt_X5_digit l hw) (cwV 0 hts (lw_V q498 q500 qs16 q70 q501) rfl rfl rfl hd_X5_digit ⟨Nat.le_of_ble_eq_true rfl, Nat.le_of_ble_eq_true rfl⟩) ⟨x_Pc_blind, hR.recv hK (ci := 5) rfl (by decide) ha, x_Pc_pre hR hz hS hK⟩ rfl rfl hl.1 rfl (lv_room (Nat.le_of_ble_eq_true rfl)) dX5_readNumber_14 ⟨by show _ ≤ k; omega, by show _ ≤ n; omega⟩) hS (fun r_22 S_23 H locs hp hR hS => ?_)
      have hw := hp
      exact hJ_5 r_22 S_23 hw ls _ _ _ _ hc hs hR hS (lv_sub hl [1, 2, 3, 0] rfl)
    · have hw := x_f hw c_21
      refine lv_iconst (v := (-1)) hx hb dX5_readNumber_9 (by decide) ?_
      refine lv_goto (tgt := 17) hx hb dX5_readNumber_10 (by decide) ?_
      exact hJ_5 (-1) S_2 hw ls _ _ _ _ hc hs hR hS (lv_sub hl [1, 2, 3, 0] rfl)
def w_X13_init (S : xH) (o : Nat) (Q : Prop) : Prop := w_X6_init S o (Q)
theorem hd_X13_init : yX13_init.cls = "PressedMen$Covered" ∧ yX13_init.cls ≠ "java/lang/invoke/MethodHandle" ∧ yX13_init.cls ≠ "java/lang/invoke/VarHandle" ∧ (parseMethodDescriptor yX13_init.desc).map (fun d => d.parameters.length) = some 0 := by decide +kernel
set_option maxHeartbeats 4000000 in
theorem mt_X13_init (l : Launch) {D : va_G} {d : Nat → ClassId} {base : Nat} {mc : va_W} {S : xH} {o : Nat} {Q : Prop} (hw : w_X13_init S o Q) : Met l yX13_init (ws_ yX13_init cX13_init 1 none) (x_rm 2 0 0 48) (x_Pc D d base mc S [.ref o]) (x_Qv D d base mc (fun S' => S' = S ∧ Q)) 0 0 (x_A base) := by
  refine x_met (by decide) (Nat.le_of_ble_eq_true rfl) ?_
  intro p e s m below meth c hx hb hml hr hlocks hown hts hz hR hK hin ls hl
  have hown : s.vm.findClass "PressedMen$Covered" = some m.cls := hown
  have hl : lv_has ls 1 [(0, .ref o)] := hl
  have hS : va_S (x_A base) s.heap s.heap [] := va_S.rf
  unfold w_X13_init at hw
  refine lv_aload_n hx hb dX13_init_0 rfl (lv_at hl 0 rfl) ?_
  refine x_cv (va_runIN (As := []) (rest := []) ⟨hx, hb, hml, hown, hts⟩ (mt_X6_init l hw) ⟨va_cnB 0 hts (lw_meth q466) rfl rfl rfl (hK.2 _ q543 rfl) (hts _ q71) hd_X6_init.2 ⟨Nat.le_of_ble_eq_true rfl, Nat.le_of_ble_eq_true rfl⟩, rfl, hts _ q465⟩ ⟨x_Pc_blind, x_Pc_pre hR hz hS hK⟩ rfl rfl hl.1 rfl (lv_room (Nat.le_of_ble_eq_true rfl)) dX13_init_1 ⟨Nat.le_refl _, Nat.le_refl _⟩) hS (fun S_1 H locs hp hR hS => ?_)
  have hw := hp.2
  rw [hp.1] at hR
  exact x_rv hx hb hr hlocks hR hS dX13_init_4 ⟨rfl, hw⟩
def w_X14_init (S : xH) (o : Nat) (Q : Prop) : Prop := w_X13_init S o (Q)
theorem hd_X14_init : yX14_init.cls = "PressedMen$Aboard" ∧ yX14_init.cls ≠ "java/lang/invoke/MethodHandle" ∧ yX14_init.cls ≠ "java/lang/invoke/VarHandle" ∧ (parseMethodDescriptor yX14_init.desc).map (fun d => d.parameters.length) = some 0 := by decide +kernel
set_option maxHeartbeats 4000000 in
theorem mt_X14_init (l : Launch) {D : va_G} {d : Nat → ClassId} {base : Nat} {mc : va_W} {S : xH} {o : Nat} {Q : Prop} (hw : w_X14_init S o Q) : Met l yX14_init (ws_ yX14_init cX14_init 1 none) (x_rm 3 0 0 68) (x_Pc D d base mc S [.ref o]) (x_Qv D d base mc (fun S' => S' = S ∧ Q)) 0 0 (x_A base) := by
  refine x_met (by decide) (Nat.le_of_ble_eq_true rfl) ?_
  intro p e s m below meth c hx hb hml hr hlocks hown hts hz hR hK hin ls hl
  have hown : s.vm.findClass "PressedMen$Aboard" = some m.cls := hown
  have hl : lv_has ls 1 [(0, .ref o)] := hl
  have hS : va_S (x_A base) s.heap s.heap [] := va_S.rf
  unfold w_X14_init at hw
  refine lv_aload_n hx hb dX14_init_0 rfl (lv_at hl 0 rfl) ?_
  refine x_cv (va_runIN (As := []) (rest := []) ⟨hx, hb, hml, hown, hts⟩ (mt_X13_init l hw) ⟨va_cnB 0 hts (lw_meth q542) rfl rfl rfl (hK.2 _ q550 rfl) (hts _ q78) hd_X13_init.2 ⟨Nat.le_of_ble_eq_true rfl, Nat.le_of_ble_eq_true rfl⟩, rfl, hts _ q541⟩ ⟨x_Pc_blind, x_Pc_pre hR hz hS hK⟩ rfl rfl hl.1 rfl (lv_room (Nat.le_of_ble_eq_true rfl)) dX14_init_1 ⟨Nat.le_refl _, Nat.le_refl _⟩) hS (fun S_1 H locs hp hR hS => ?_)
  have hw := hp.2
  rw [hp.1] at hR
  exact x_rv hx hb hr hlocks hR hS dX14_init_4 ⟨rfl, hw⟩
def w_X15_init (S : xH) (o : Nat) (Q : Prop) : Prop := w_X13_init S o (Q)
theorem hd_X15_init : yX15_init.cls = "PressedMen$AtHome" ∧ yX15_init.cls ≠ "java/lang/invoke/MethodHandle" ∧ yX15_init.cls ≠ "java/lang/invoke/VarHandle" ∧ (parseMethodDescriptor yX15_init.desc).map (fun d => d.parameters.length) = some 0 := by decide +kernel
set_option maxHeartbeats 4000000 in
theorem mt_X15_init (l : Launch) {D : va_G} {d : Nat → ClassId} {base : Nat} {mc : va_W} {S : xH} {o : Nat} {Q : Prop} (hw : w_X15_init S o Q) : Met l yX15_init (ws_ yX15_init cX15_init 1 none) (x_rm 3 0 0 68) (x_Pc D d base mc S [.ref o]) (x_Qv D d base mc (fun S' => S' = S ∧ Q)) 0 0 (x_A base) := by
  refine x_met (by decide) (Nat.le_of_ble_eq_true rfl) ?_
  intro p e s m below meth c hx hb hml hr hlocks hown hts hz hR hK hin ls hl
  have hown : s.vm.findClass "PressedMen$AtHome" = some m.cls := hown
  have hl : lv_has ls 1 [(0, .ref o)] := hl
  have hS : va_S (x_A base) s.heap s.heap [] := va_S.rf
  unfold w_X15_init at hw
  refine lv_aload_n hx hb dX15_init_0 rfl (lv_at hl 0 rfl) ?_
  refine x_cv (va_runIN (As := []) (rest := []) ⟨hx, hb, hml, hown, hts⟩ (mt_X13_init l hw) ⟨va_cnB 0 hts (lw_meth q542) rfl rfl rfl (hK.2 _ q557 rfl) (hts _ q78) hd_X13_init.2 ⟨Nat.le_of_ble_eq_true rfl, Nat.le_of_ble_eq_true rfl⟩, rfl, hts _ q541⟩ ⟨x_Pc_blind, x_Pc_pre hR hz hS hK⟩ rfl rfl hl.1 rfl (lv_room (Nat.le_of_ble_eq_true rfl)) dX15_init_1 ⟨Nat.le_refl _, Nat.le_refl _⟩) hS (fun S_1 H locs hp hR hS => ?_)
  have hw := hp.2
  rw [hp.1] at hR
  exact x_rv hx hb hr hlocks hR hS dX15_init_4 ⟨rfl, hw⟩
def w_X0_isCoveredTruly (S : xH) (o : Nat) (x1 : Nat) (Q : Int32 → Prop) : Prop := lf2 (fun L_3 (x2_1 : Int32) (x3_2 : Int32) => xT S o = 1 ∧ wif ((xI S 58 o) ≤ x3_2) (x_B x2_1 ∧ Q x2_1) (xT S o = 1 ∧ ∃ b_5, (xR S 57 o) = some b_5 ∧ xT S b_5 = 104 ∧ vp_in x3_2 (xL S b_5) ∧ ∃ b_7, (xQ S b_5 (Int32.toNatClampNeg x3_2)) = some b_7 ∧ xT S b_7 = 5 ∧ jn (fun (v1_9 : Int32) => nm (x2_1 ||| v1_9) (fun x2_11 : Int32 => L_3 x2_11 (x3_2 + 1))) (fun J_10 => jn0 (J_10 0) (fun J_12 => wif ((xR S 250 b_7) = (some x1)) (xT S o = 1 ∧ ∃ b_14, (xR S 57 o) = some b_14 ∧ xT S b_14 = 104 ∧ vp_in x3_2 (xL S b_14) ∧ xT S o = 1 ∧ ∃ b_16, (xQ S b_14 (Int32.toNatClampNeg x3_2)) = some b_16 ∧ xT S b_16 = 5 ∧ w_X4_covers S b_16 x1 (xI S 54 o) (fun (r_18 : Int32) => wif (r_18 ≤ 0) (J_12) (J_10 1))) (J_12))))) 0 0
theorem hd_X0_isCoveredTruly : yX0_isCoveredTruly.cls = "PressedMen" ∧ yX0_isCoveredTruly.cls ≠ "java/lang/invoke/MethodHandle" ∧ yX0_isCoveredTruly.cls ≠ "java/lang/invoke/VarHandle" ∧ (parseMethodDescriptor yX0_isCoveredTruly.desc).map (fun d => d.parameters.length) = some 1 := by decide +kernel
set_option maxHeartbeats 4000000 in
theorem mt_X0_isCoveredTruly (l : Launch) {D : va_G} {d : Nat → ClassId} {base : Nat} {mc : va_W} {S : xH} {o : Nat} {x1 : Nat} {Q : Int32 → Prop} (hw : w_X0_isCoveredTruly S o x1 Q) : Met l yX0_isCoveredTruly (ws_ yX0_isCoveredTruly cX0_isCoveredTruly 4 (some FieldType.boolean)) (x_rm 3 0 0 68) (x_Pc D d base mc S [.ref o, .ref x1]) (x_Qi D d base mc (fun r S' => S' = S ∧ Q r)) 0 0 (x_A base) := by
  refine x_met (by decide) (Nat.le_of_ble_eq_true rfl) ?_
  intro p e s m below meth c hx hb hml hr hlocks hown hts hz hR hK hin ls hl
  have hown : s.vm.findClass "PressedMen" = some m.cls := hown
  have hl : lv_has ls 4 [(0, .ref o), (1, .ref x1)] := hl
  have hS : va_S (x_A base) s.heap s.heap [] := va_S.rf
  unfold w_X0_isCoveredTruly at hw
  refine lv_iconst (v := 0) hx hb dX0_isCoveredTruly_0 (by decide) ?_
  refine lv_istore_n (lv' := [(2, .int 0), (0, .ref o), (1, .ref x1)]) hx hb dX0_isCoveredTruly_1 rfl hl (by decide) rfl (fun ls hl => ?_)
  refine lv_iconst (v := 0) hx hb dX0_isCoveredTruly_2 (by decide) ?_
  refine lv_istore_n (lv' := [(3, .int 0), (2, .int 0), (0, .ref o), (1, .ref x1)]) hx hb dX0_isCoveredTruly_3 rfl hl (by decide) rfl (fun ls hl => ?_)
  refine x_lf2 (G := fun (x2_1 : Int32) (x3_2 : Int32) => ∀ (ls : Array Slot) (H : Heap) (locs : List Loc), x_Rp D d (x_A base) mc S H → va_S (x_A base) s.heap H locs → lv_has ls 4 [(0, .ref o), (1, .ref x1), (2, .int x2_1), (3, .int x3_2)] → W p l e (x_rm 3 0 0 68) s m ([.ref o, .ref x1] : List Value).toArray below meth c H locs 0 0 (MQ below (x_Qi D d base mc (fun r S' => S' = S ∧ Q r)) ([.ref o, .ref x1] : List Value).toArray s 0 0 (x_A base)) (F0 m 4 ls [])) hw (fun x2_1 x3_2 hw => ?_) ls _ _ hR hS (lv_sub hl [2, 3, 1, 0] rfl)
  intro ls H locs hR hS hl
  refine lv_iload_n hx hb dX0_isCoveredTruly_4 rfl (lv_at hl 3 rfl) ?_
  refine lv_aload_n hx hb dX0_isCoveredTruly_5 rfl (lv_at hl 0 rfl) ?_
  refine x_getI (ci := 0) (C := RX0) (T := TX0) (N := 19) (f := 58) hx hb hts in_X0 hown hK hR rfl 8 (by decide) (hts _ q121) (fun _ h => h) rfl (by decide) dX0_isCoveredTruly_6 hw.1 ?_
  have hw := hw.2
  refine lv_icmp_ge (tgt := 56) hx hb dX0_isCoveredTruly_9 (by decide) (fun c_4 => ?_) (fun c_4 => ?_)
  · have hw := x_t hw c_4
    refine lv_iload_n hx hb dX0_isCoveredTruly_56 rfl (lv_at hl 2 rfl) ?_
    exact x_rz hx hb hr hlocks hR hS dX0_isCoveredTruly_57 hw.1 ⟨rfl, hw.2⟩
  · have hw := x_f hw c_4
    refine lv_iload_n hx hb dX0_isCoveredTruly_12 rfl (lv_at hl 2 rfl) ?_
    refine lv_aload_n hx hb dX0_isCoveredTruly_13 rfl (lv_at hl 0 rfl) ?_
    refine x_getR (ci := 0) (C := RX0) (T := TX0) (N := 19) (f := 57) hx hb hts in_X0 hown hK hR rfl 7 (by decide) (hts _ q120) (fun _ h => h) rfl (by decide) dX0_isCoveredTruly_14 hw.1 ?_
    have hw := hw.2
    refine lv_iload_n hx hb dX0_isCoveredTruly_17 rfl (lv_at hl 3 rfl) ?_
    obtain ⟨b_5, e_6, hw⟩ := hw
    refine x_dr1 e_6 ?_
    refine x_aald (t := 104) hx hb hK hR (by decide) rfl rfl dX0_isCoveredTruly_18 hw.1 hw.2.1 ?_
    have hw := hw.2.2
    obtain ⟨b_7, e_8, hw⟩ := hw
    refine x_dr0 e_8 ?_
    refine x_getNR (ci := 4) (C := RX4) (T := TX4) (N := 4) (f := 250) hx hb hts in_X4 hown hK hR rfl 0 (by decide) (hK.2 _ q354 rfl) (fun _ h => h) rfl (by decide) dX0_isCoveredTruly_19 hw.1 ?_
    have hw := hw.2
    refine lv_aload_n hx hb dX0_isCoveredTruly_22 rfl (lv_at hl 1 rfl) ?_
    refine x_jn (G := fun (v1_9 : Int32) => ∀ (ls : Array Slot) (H : Heap) (locs : List Loc), x_Rp D d (x_A base) mc S H → va_S (x_A base) s.heap H locs → lv_has ls 4 [(0, .ref o), (1, .ref x1), (3, .int x3_2)] → W p l e (x_rm 3 0 0 68) s m ([.ref o, .ref x1] : List Value).toArray below meth c H locs 0 0 (MQ below (x_Qi D d base mc (fun r S' => S' = S ∧ Q r)) ([.ref o, .ref x1] : List Value).toArray s 0 0 (x_A base)) (F0 m 48 ls [.int v1_9, .int x2_1])) hw (fun v1_9 hw => ?_) (fun hJ_10 hw => ?_)
    · intro ls H locs hR hS hl
      refine lv_ior hx hb dX0_isCoveredTruly_48 ?_
      refine lv_topi (fun x2_11 ex2_11 => ?_)
      have hw := hw x2_11 ex2_11
      refine lv_istore_n (lv' := [(2, .int x2_11), (0, .ref o), (1, .ref x1), (3, .int x3_2)]) hx hb dX0_isCoveredTruly_49 rfl hl (by decide) rfl (fun ls hl => ?_)
      refine lv_iinc (v := (x3_2 + 1)) (lv' := [(3, .int (x3_2 + 1)), (2, .int x2_11), (0, .ref o), (1, .ref x1)]) hx hb dX0_isCoveredTruly_50 hl (k := 3) rfl rfl (by decide) rfl (fun ls hl => ?_)
      refine lv_goto (tgt := 4) hx hb dX0_isCoveredTruly_53 (by decide) ?_
      exact hw ls _ _ hR hS (lv_sub hl [2, 3, 1, 0] rfl)
    · refine x_jn0 (G := ∀ (ls : Array Slot) (H : Heap) (locs : List Loc), x_Rp D d (x_A base) mc S H → va_S (x_A base) s.heap H locs → lv_has ls 4 [(0, .ref o), (1, .ref x1), (3, .int x3_2)] → W p l e (x_rm 3 0 0 68) s m ([.ref o, .ref x1] : List Value).toArray below meth c H locs 0 0 (MQ below (x_Qi D d base mc (fun r S' => S' = S ∧ Q r)) ([.ref o, .ref x1] : List Value).toArray s 0 0 (x_A base)) (F0 m 47 ls [.int x2_1])) hw (fun hw => ?_) (fun hJ_12 hw => ?_)
      · intro ls H locs hR hS hl
        refine lv_iconst (v := 0) hx hb dX0_isCoveredTruly_47 (by decide) ?_
        exact hJ_10 0 hw ls _ _ hR hS (lv_sub hl [0, 1, 2] rfl)
      · refine lv_acmp_ne (rx := (xR S 250 b_7)) (ry := (some x1)) (tgt := 47) hx hb dX0_isCoveredTruly_23 (by decide) (fun c_13 => ?_) (fun c_13 => ?_)
        · have hw := x_f hw c_13
          exact hJ_12  hw ls _ _ hR hS (lv_sub hl [0, 1, 3] rfl)
        · have hw := x_t hw c_13
          refine lv_aload_n hx hb dX0_isCoveredTruly_26 rfl (lv_at hl 0 rfl) ?_
          refine x_getR (ci := 0) (C := RX0) (T := TX0) (N := 19) (f := 57) hx hb hts in_X0 hown hK hR rfl 7 (by decide) (hts _ q120) (fun _ h => h) rfl (by decide) dX0_isCoveredTruly_27 hw.1 ?_
          have hw := hw.2
          refine lv_iload_n hx hb dX0_isCoveredTruly_30 rfl (lv_at hl 3 rfl) ?_
          obtain ⟨b_14, e_15, hw⟩ := hw
          refine x_dr1 e_15 ?_
          refine x_aald (t := 104) hx hb hK hR (by decide) rfl rfl dX0_isCoveredTruly_31 hw.1 hw.2.1 ?_
          have hw := hw.2.2
          refine lv_aload_n hx hb dX0_isCoveredTruly_32 rfl (lv_at hl 1 rfl) ?_
          refine lv_aload_n hx hb dX0_isCoveredTruly_33 rfl (lv_at hl 0 rfl) ?_
          refine x_getI (ci := 0) (C := RX0) (T := TX0) (N := 19) (f := 54) hx hb hts in_X0 hown hK hR rfl 4 (by decide) (hts _ q117) (fun _ h => h) rfl (by decide) dX0_isCoveredTruly_34 hw.1 ?_
          have hw := hw.2
          obtain ⟨b_16, e_17, hw⟩ := hw
          refine x_dr2 e_17 ?_
          obtain ⟨ha, hw⟩ := hw
          refine x_ci (va_runV (As := [.ref x1, .int (xI S 54 o)]) (rest := [.int x2_1]) ⟨hx, hb, hml, hown, hts⟩ (mt_X4_covers l hw) (cwV 2 hts (lw_V q378 q379 q380 q69 q381) rfl rfl rfl hd_X4_covers ⟨Nat.le_of_ble_eq_true rfl, Nat.le_of_ble_eq_true rfl⟩) ⟨x_Pc_blind, hR.recv hK (ci := 4) rfl (by decide) ha, x_Pc_pre hR hz hS hK⟩ rfl rfl hl.1 rfl (lv_room (Nat.le_of_ble_eq_true rfl)) dX0_isCoveredTruly_37 ⟨Nat.le_refl _, Nat.le_refl _⟩) hS (fun r_18 S_19 H locs hp hR hS => ?_)
          have hw := hp.2
          rw [hp.1] at hR
          refine lv_if_le (tgt := 47) hx hb dX0_isCoveredTruly_40 (by decide) (fun c_20 => ?_) (fun c_20 => ?_)
          · have hw := x_t hw c_20
            exact hJ_12  hw ls _ _ hR hS (lv_sub hl [0, 1, 3] rfl)
          · have hw := x_f hw c_20
            refine lv_iconst (v := 1) hx hb dX0_isCoveredTruly_43 (by decide) ?_
            refine lv_goto (tgt := 48) hx hb dX0_isCoveredTruly_44 (by decide) ?_
            exact hJ_10 1 hw ls _ _ hR hS (lv_sub hl [0, 1, 3] rfl)
def w_X0_isHomeShip (S : xH) (o : Nat) (x1 : Int32) (x2 : Int32) (Q : Int32 → Prop) : Prop := nm (x1 - 10) (fun x3_1 : Int32 => xT S o = 1 ∧ w_X0_isIn S x3_1 0 ((xI S 65 o) - 1) (fun (r_2 : Int32) => wif (r_2 = 0) (Q 0) (xT S o = 1 ∧ ∃ b_5, (xR S 64 o) = some b_5 ∧ xT S b_5 = 107 ∧ vp_in x3_1 (xL S b_5) ∧ ∃ b_7, (xQ S b_5 (Int32.toNatClampNeg x3_1)) = some b_7 ∧ xT S b_7 = 19 ∧ wif ((xI S 954 b_7) = 0) (Q 0) (wif (x2 = (-9)) (Q 1) (xT S o = 1 ∧ ∃ b_11, (xR S 64 o) = some b_11 ∧ xT S b_11 = 107 ∧ vp_in x3_1 (xL S b_11) ∧ ∃ b_13, (xQ S b_11 (Int32.toNatClampNeg x3_1)) = some b_13 ∧ xT S b_13 = 19 ∧ wif ((xI S 950 b_13) = x2) (Q 1) (Q 0))))))
theorem hd_X0_isHomeShip : yX0_isHomeShip.cls = "PressedMen" ∧ yX0_isHomeShip.cls ≠ "java/lang/invoke/MethodHandle" ∧ yX0_isHomeShip.cls ≠ "java/lang/invoke/VarHandle" ∧ (parseMethodDescriptor yX0_isHomeShip.desc).map (fun d => d.parameters.length) = some 2 := by decide +kernel
set_option maxHeartbeats 4000000 in
theorem mt_X0_isHomeShip (l : Launch) {D : va_G} {d : Nat → ClassId} {base : Nat} {mc : va_W} {S : xH} {o : Nat} {x1 : Int32} {x2 : Int32} {Q : Int32 → Prop} (hw : w_X0_isHomeShip S o x1 x2 Q) : Met l yX0_isHomeShip (ws_ yX0_isHomeShip cX0_isHomeShip 4 (some FieldType.boolean)) (x_rm 1 0 0 22) (x_Pc D d base mc S [.ref o, .int x1, .int x2]) (x_Qi D d base mc (fun r S' => S' = S ∧ Q r)) 0 0 (x_A base) := by
  refine x_met (by decide) (Nat.le_of_ble_eq_true rfl) ?_
  intro p e s m below meth c hx hb hml hr hlocks hown hts hz hR hK hin ls hl
  have hown : s.vm.findClass "PressedMen" = some m.cls := hown
  have hl : lv_has ls 4 [(0, .ref o), (1, .int x1), (2, .int x2)] := hl
  have hS : va_S (x_A base) s.heap s.heap [] := va_S.rf
  unfold w_X0_isHomeShip at hw
  refine lv_iload_n hx hb dX0_isHomeShip_0 rfl (lv_at hl 1 rfl) ?_
  refine lv_bipush (v := 10) hx hb dX0_isHomeShip_1 (by decide) ?_
  refine lv_isub hx hb dX0_isHomeShip_3 ?_
  refine lv_topi (fun x3_1 ex3_1 => ?_)
  have hw := hw x3_1 ex3_1
  refine lv_istore_n (lv' := [(3, .int x3_1), (0, .ref o), (1, .int x1), (2, .int x2)]) hx hb dX0_isHomeShip_4 rfl hl (by decide) rfl (fun ls hl => ?_)
  refine lv_iload_n hx hb dX0_isHomeShip_5 rfl (lv_at hl 0 rfl) ?_
  refine lv_iconst (v := 0) hx hb dX0_isHomeShip_6 (by decide) ?_
  refine lv_aload_n hx hb dX0_isHomeShip_7 rfl (lv_at hl 1 rfl) ?_
  refine x_getI (ci := 0) (C := RX0) (T := TX0) (N := 19) (f := 65) hx hb hts in_X0 hown hK hR rfl 15 (by decide) (hts _ q128) (fun _ h => h) rfl (by decide) dX0_isHomeShip_8 hw.1 ?_
  have hw := hw.2
  refine lv_iconst (v := 1) hx hb dX0_isHomeShip_11 (by decide) ?_
  refine lv_isub hx hb dX0_isHomeShip_12 ?_
  refine x_ci (va_runS (As := [.int x3_1, .int 0, .int ((xI S 65 o) - 1)]) (rest := []) ⟨hx, hb, hml, hown, hts⟩ (mt_X0_isIn l hw) (va_cwS 3 hts (lw_S q178 q179 q64 q180) rfl rfl rfl hd_X0_isIn.2 ⟨Nat.le_of_ble_eq_true rfl, Nat.le_of_ble_eq_true rfl⟩) ⟨x_Pc_blind, x_Pc_pre hR hz hS hK⟩ rfl rfl hl.1 rfl (lv_room (Nat.le_of_ble_eq_true rfl)) dX0_isHomeShip_13 ⟨Nat.le_refl _, Nat.le_refl _⟩) hS (fun r_2 S_3 H locs hp hR hS => ?_)
  have hw := hp.2
  rw [hp.1] at hR
  refine lv_if_eq (tgt := 54) hx hb dX0_isHomeShip_16 (by decide) (fun c_4 => ?_) (fun c_4 => ?_)
  · have hw := x_t hw c_4
    refine lv_iconst (v := 0) hx hb dX0_isHomeShip_54 (by decide) ?_
    exact x_rz hx hb hr hlocks hR hS dX0_isHomeShip_55 (Or.inl rfl) ⟨rfl, hw⟩
  · have hw := x_f hw c_4
    refine lv_aload_n hx hb dX0_isHomeShip_19 rfl (lv_at hl 1 rfl) ?_
    refine x_getR (ci := 0) (C := RX0) (T := TX0) (N := 19) (f := 64) hx hb hts in_X0 hown hK hR rfl 14 (by decide) (hts _ q127) (fun _ h => h) rfl (by decide) dX0_isHomeShip_20 hw.1 ?_
    have hw := hw.2
    refine lv_iload_n hx hb dX0_isHomeShip_23 rfl (lv_at hl 0 rfl) ?_
    obtain ⟨b_5, e_6, hw⟩ := hw
    refine x_dr1 e_6 ?_
    refine x_aald (t := 107) hx hb hK hR (by decide) rfl rfl dX0_isHomeShip_24 hw.1 hw.2.1 ?_
    have hw := hw.2.2
    obtain ⟨b_7, e_8, hw⟩ := hw
    refine x_dr0 e_8 ?_
    refine x_getNI (ci := 18) (C := RX18) (T := TX18) (N := 5) (f := 954) hx hb hts in_X18 hown hK hR rfl 4 (by decide) (hK.2 _ q807 rfl) (fun _ h => h) rfl (by decide) dX0_isHomeShip_25 hw.1 ?_
    have hw := hw.2
    refine lv_if_eq (tgt := 54) hx hb dX0_isHomeShip_28 (by decide) (fun c_9 => ?_) (fun c_9 => ?_)
    · have hw := x_t hw c_9
      refine lv_iconst (v := 0) hx hb dX0_isHomeShip_54 (by decide) ?_
      exact x_rz hx hb hr hlocks hR hS dX0_isHomeShip_55 (Or.inl rfl) ⟨rfl, hw⟩
    · have hw := x_f hw c_9
      refine lv_iload_n hx hb dX0_isHomeShip_31 rfl (lv_at hl 3 rfl) ?_
      refine lv_bipush (v := (-9)) hx hb dX0_isHomeShip_32 (by decide) ?_
      refine lv_icmp_eq (tgt := 50) hx hb dX0_isHomeShip_34 (by decide) (fun c_10 => ?_) (fun c_10 => ?_)
      · have hw := x_t hw c_10
        refine lv_iconst (v := 1) hx hb dX0_isHomeShip_50 (by decide) ?_
        refine lv_goto (tgt := 55) hx hb dX0_isHomeShip_51 (by decide) ?_
        exact x_rz hx hb hr hlocks hR hS dX0_isHomeShip_55 (Or.inr rfl) ⟨rfl, hw⟩
      · have hw := x_f hw c_10
        refine lv_aload_n hx hb dX0_isHomeShip_37 rfl (lv_at hl 1 rfl) ?_
        refine x_getR (ci := 0) (C := RX0) (T := TX0) (N := 19) (f := 64) hx hb hts in_X0 hown hK hR rfl 14 (by decide) (hts _ q127) (fun _ h => h) rfl (by decide) dX0_isHomeShip_38 hw.1 ?_
        have hw := hw.2
        refine lv_iload_n hx hb dX0_isHomeShip_41 rfl (lv_at hl 0 rfl) ?_
        obtain ⟨b_11, e_12, hw⟩ := hw
        refine x_dr1 e_12 ?_
        refine x_aald (t := 107) hx hb hK hR (by decide) rfl rfl dX0_isHomeShip_42 hw.1 hw.2.1 ?_
        have hw := hw.2.2
        obtain ⟨b_13, e_14, hw⟩ := hw
        refine x_dr0 e_14 ?_
        refine x_getNI (ci := 18) (C := RX18) (T := TX18) (N := 5) (f := 950) hx hb hts in_X18 hown hK hR rfl 0 (by decide) (hK.2 _ q799 rfl) (fun _ h => h) rfl (by decide) dX0_isHomeShip_43 hw.1 ?_
        have hw := hw.2
        refine lv_iload_n hx hb dX0_isHomeShip_46 rfl (lv_at hl 3 rfl) ?_
        refine lv_icmp_ne (tgt := 54) hx hb dX0_isHomeShip_47 (by decide) (fun c_15 => ?_) (fun c_15 => ?_)
        · have hw := x_f hw c_15
          refine lv_iconst (v := 0) hx hb dX0_isHomeShip_54 (by decide) ?_
          exact x_rz hx hb hr hlocks hR hS dX0_isHomeShip_55 (Or.inl rfl) ⟨rfl, hw⟩
        · have hw := x_t hw c_15
          refine lv_iconst (v := 1) hx hb dX0_isHomeShip_50 (by decide) ?_
          refine lv_goto (tgt := 55) hx hb dX0_isHomeShip_51 (by decide) ?_
          exact x_rz hx hb hr hlocks hR hS dX0_isHomeShip_55 (Or.inr rfl) ⟨rfl, hw⟩
def w_X16_init (S : xH) (o : Nat) (x1 : Int32) (x2 : Int32) (x3 : Int32) (x4 : Int32) (x5 : Int32) (x6 : Int32) (Q : xH → Prop) : Prop := xT S o = 17 ∧ nm (sI S 850 o x1) (fun S_1 : xH => xT S_1 o = 17 ∧ nm (sI S_1 851 o x2) (fun S_2 : xH => xT S_2 o = 17 ∧ nm (sI S_2 852 o x3) (fun S_3 : xH => xT S_3 o = 17 ∧ nm (sI S_3 853 o x4) (fun S_4 : xH => xT S_4 o = 17 ∧ x_B x5 ∧ nm (sI S_4 854 o x5) (fun S_5 : xH => xT S_5 o = 17 ∧ x_B x6 ∧ nm (sI S_5 855 o x6) (fun S_6 : xH => Q S_6))))))
theorem hd_X16_init : yX16_init.cls = "PressedMen$Taking" ∧ yX16_init.cls ≠ "java/lang/invoke/MethodHandle" ∧ yX16_init.cls ≠ "java/lang/invoke/VarHandle" ∧ (parseMethodDescriptor yX16_init.desc).map (fun d => d.parameters.length) = some 6 := by decide +kernel
set_option maxHeartbeats 4000000 in
theorem mt_X16_init (l : Launch) {D : va_G} {d : Nat → ClassId} {base : Nat} {mc : va_W} {S : xH} {o : Nat} {x1 : Int32} {x2 : Int32} {x3 : Int32} {x4 : Int32} {x5 : Int32} {x6 : Int32} {Q : xH → Prop} (hw : w_X16_init S o x1 x2 x3 x4 x5 x6 Q) : Met l yX16_init (ws_ yX16_init cX16_init 7 none) (x_rm 1 0 0 28) (x_Pc D d base mc S [.ref o, .int x1, .int x2, .int x3, .int x4, .int x5, .int x6]) (x_Qv D d base mc (fun S' => Q S')) 0 0 (x_A base) := by
  refine x_met (by decide) (Nat.le_of_ble_eq_true rfl) ?_
  intro p e s m below meth c hx hb hml hr hlocks hown hts hz hR hK hin ls hl
  have hown : s.vm.findClass "PressedMen$Taking" = some m.cls := hown
  have hl : lv_has ls 7 [(0, .ref o), (1, .int x1), (2, .int x2), (3, .int x3), (4, .int x4), (5, .int x5), (6, .int x6)] := hl
  have hS : va_S (x_A base) s.heap s.heap [] := va_S.rf
  unfold w_X16_init at hw
  refine lv_aload_n hx hb dX16_init_0 rfl (lv_at hl 0 rfl) ?_
  refine W.objInit hx hb hown (hts _ q658) (hts _ q93) (hts _ q94) rfl (by rw [hml]; exact hl.1) rfl dX16_init_1 (Nat.le_of_ble_eq_true rfl) (Nat.le_of_ble_eq_true rfl) ?_
  refine W.eq (g2 := F0 m 4 ls []) rfl ?_
  refine lv_aload_n hx hb dX16_init_4 rfl (lv_at hl 0 rfl) ?_
  refine lv_iload_n hx hb dX16_init_5 rfl (lv_at hl 1 rfl) ?_
  refine x_putFI (ci := 16) (C := RX16) (T := TX16) (N := 6) (f := 850) hx hb hts in_X16 tyX16 tyX16_ok nmX16 hown hK hR hS rfl 0 (by decide) (hts _ q659) (fun _ h => h) rfl hin rfl rfl (by decide) rfl rfl dX16_init_6 hw.1 (fun H locs hR hS => ?_)
  have hw := hw.2
  obtain ⟨S_1, eS_1⟩ : ∃ z, z = (sI S 850 o x1) := ⟨_, rfl⟩
  rw [← eS_1] at hR
  have hw := hw S_1 eS_1
  refine lv_aload_n hx hb dX16_init_9 rfl (lv_at hl 0 rfl) ?_
  refine lv_iload_n hx hb dX16_init_10 rfl (lv_at hl 2 rfl) ?_
  refine x_putFI (ci := 16) (C := RX16) (T := TX16) (N := 6) (f := 851) hx hb hts in_X16 tyX16 tyX16_ok nmX16 hown hK hR hS rfl 1 (by decide) (hts _ q661) (fun _ h => h) rfl hin rfl rfl (by decide) rfl rfl dX16_init_11 hw.1 (fun H locs hR hS => ?_)
  have hw := hw.2
  obtain ⟨S_2, eS_2⟩ : ∃ z, z = (sI S_1 851 o x2) := ⟨_, rfl⟩
  rw [← eS_2] at hR
  have hw := hw S_2 eS_2
  refine lv_aload_n hx hb dX16_init_14 rfl (lv_at hl 0 rfl) ?_
  refine lv_iload_n hx hb dX16_init_15 rfl (lv_at hl 3 rfl) ?_
  refine x_putFI (ci := 16) (C := RX16) (T := TX16) (N := 6) (f := 852) hx hb hts in_X16 tyX16 tyX16_ok nmX16 hown hK hR hS rfl 2 (by decide) (hts _ q663) (fun _ h => h) rfl hin rfl rfl (by decide) rfl rfl dX16_init_16 hw.1 (fun H locs hR hS => ?_)
  have hw := hw.2
  obtain ⟨S_3, eS_3⟩ : ∃ z, z = (sI S_2 852 o x3) := ⟨_, rfl⟩
  rw [← eS_3] at hR
  have hw := hw S_3 eS_3
  refine lv_aload_n hx hb dX16_init_19 rfl (lv_at hl 0 rfl) ?_
  refine lv_iload hx hb dX16_init_20 (lv_at hl 4 rfl) ?_
  refine x_putFI (ci := 16) (C := RX16) (T := TX16) (N := 6) (f := 853) hx hb hts in_X16 tyX16 tyX16_ok nmX16 hown hK hR hS rfl 3 (by decide) (hts _ q665) (fun _ h => h) rfl hin rfl rfl (by decide) rfl rfl dX16_init_22 hw.1 (fun H locs hR hS => ?_)
  have hw := hw.2
  obtain ⟨S_4, eS_4⟩ : ∃ z, z = (sI S_3 853 o x4) := ⟨_, rfl⟩
  rw [← eS_4] at hR
  have hw := hw S_4 eS_4
  refine lv_aload_n hx hb dX16_init_25 rfl (lv_at hl 0 rfl) ?_
  refine lv_iload hx hb dX16_init_26 (lv_at hl 5 rfl) ?_
  refine x_putFI (ci := 16) (C := RX16) (T := TX16) (N := 6) (f := 854) hx hb hts in_X16 tyX16 tyX16_ok nmX16 hown hK hR hS rfl 4 (by decide) (hts _ q667) (fun _ h => h) rfl hin rfl rfl (by decide) (x_B.n hw.2.1) (x_B.f hw.2.1) dX16_init_28 hw.1 (fun H locs hR hS => ?_)
  have hw := hw.2.2
  obtain ⟨S_5, eS_5⟩ : ∃ z, z = (sI S_4 854 o x5) := ⟨_, rfl⟩
  rw [← eS_5] at hR
  have hw := hw S_5 eS_5
  refine lv_aload_n hx hb dX16_init_31 rfl (lv_at hl 0 rfl) ?_
  refine lv_iload hx hb dX16_init_32 (lv_at hl 6 rfl) ?_
  refine x_putFI (ci := 16) (C := RX16) (T := TX16) (N := 6) (f := 855) hx hb hts in_X16 tyX16 tyX16_ok nmX16 hown hK hR hS rfl 5 (by decide) (hts _ q669) (fun _ h => h) rfl hin rfl rfl (by decide) (x_B.n hw.2.1) (x_B.f hw.2.1) dX16_init_34 hw.1 (fun H locs hR hS => ?_)
  have hw := hw.2.2
  obtain ⟨S_6, eS_6⟩ : ∃ z, z = (sI S_5 855 o x6) := ⟨_, rfl⟩
  rw [← eS_6] at hR
  have hw := hw S_6 eS_6
  exact x_rv hx hb hr hlocks hR hS dX16_init_37 hw
def w_X0_taking (S : xH) (o : Nat) (x1 : Int32) (x2 : Int32) (Q : Int32 → Prop) : Prop := xT S o = 1 ∧ w_X0_isIn S x1 0 ((xI S 62 o) - 1) (fun (r_1 : Int32) => wif (r_1 = 0) (Q (-1)) (xT S o = 1 ∧ ∃ b_4, (xR S 61 o) = some b_4 ∧ xT S b_4 = 106 ∧ vp_in x1 (xL S b_4) ∧ ∃ b_6, (xQ S b_4 (Int32.toNatClampNeg x1)) = some b_6 ∧ wif (x2 = 0) (xT S b_6 = 17 ∧ Q (xI S 850 b_6)) (wif (x2 = 1) (xT S b_6 = 17 ∧ Q (xI S 851 b_6)) (wif (x2 = 2) (xT S b_6 = 17 ∧ Q (xI S 852 b_6)) (wif (x2 = 3) (xT S b_6 = 17 ∧ Q (xI S 853 b_6)) (wif (x2 = 4) (xT S b_6 = 17 ∧ wif ((xI S 854 b_6) = 0) (Q 0) (Q 1)) (wif (x2 = 5) (xT S b_6 = 17 ∧ wif ((xI S 855 b_6) = 0) (Q 0) (Q 1)) ((Q (-2))))))))))
theorem hd_X0_taking : yX0_taking.cls = "PressedMen" ∧ yX0_taking.cls ≠ "java/lang/invoke/MethodHandle" ∧ yX0_taking.cls ≠ "java/lang/invoke/VarHandle" ∧ (parseMethodDescriptor yX0_taking.desc).map (fun d => d.parameters.length) = some 2 := by decide +kernel
set_option maxHeartbeats 4000000 in
theorem mt_X0_taking (l : Launch) {D : va_G} {d : Nat → ClassId} {base : Nat} {mc : va_W} {S : xH} {o : Nat} {x1 : Int32} {x2 : Int32} {Q : Int32 → Prop} (hw : w_X0_taking S o x1 x2 Q) : Met l yX0_taking (ws_ yX0_taking cX0_taking 4 (some FieldType.int)) (x_rm 1 0 0 22) (x_Pc D d base mc S [.ref o, .int x1, .int x2]) (x_Qi D d base mc (fun r S' => S' = S ∧ Q r)) 0 0 (x_A base) := by
  refine x_met (by decide) (Nat.le_of_ble_eq_true rfl) ?_
  intro p e s m below meth c hx hb hml hr hlocks hown hts hz hR hK hin ls hl
  have hown : s.vm.findClass "PressedMen" = some m.cls := hown
  have hl : lv_has ls 4 [(0, .ref o), (1, .int x1), (2, .int x2)] := hl
  have hS : va_S (x_A base) s.heap s.heap [] := va_S.rf
  unfold w_X0_taking at hw
  refine lv_iload_n hx hb dX0_taking_0 rfl (lv_at hl 1 rfl) ?_
  refine lv_iconst (v := 0) hx hb dX0_taking_1 (by decide) ?_
  refine lv_aload_n hx hb dX0_taking_2 rfl (lv_at hl 0 rfl) ?_
  refine x_getI (ci := 0) (C := RX0) (T := TX0) (N := 19) (f := 62) hx hb hts in_X0 hown hK hR rfl 12 (by decide) (hts _ q125) (fun _ h => h) rfl (by decide) dX0_taking_3 hw.1 ?_
  have hw := hw.2
  refine lv_iconst (v := 1) hx hb dX0_taking_6 (by decide) ?_
  refine lv_isub hx hb dX0_taking_7 ?_
  refine x_ci (va_runS (As := [.int x1, .int 0, .int ((xI S 62 o) - 1)]) (rest := []) ⟨hx, hb, hml, hown, hts⟩ (mt_X0_isIn l hw) (va_cwS 3 hts (lw_S q178 q179 q64 q180) rfl rfl rfl hd_X0_isIn.2 ⟨Nat.le_of_ble_eq_true rfl, Nat.le_of_ble_eq_true rfl⟩) ⟨x_Pc_blind, x_Pc_pre hR hz hS hK⟩ rfl rfl hl.1 rfl (lv_room (Nat.le_of_ble_eq_true rfl)) dX0_taking_8 ⟨Nat.le_refl _, Nat.le_refl _⟩) hS (fun r_1 S_2 H locs hp hR hS => ?_)
  have hw := hp.2
  rw [hp.1] at hR
  refine lv_if_ne (tgt := 16) hx hb dX0_taking_11 (by decide) (fun c_3 => ?_) (fun c_3 => ?_)
  · have hw := x_f hw c_3
    refine lv_aload_n hx hb dX0_taking_16 rfl (lv_at hl 0 rfl) ?_
    refine x_getR (ci := 0) (C := RX0) (T := TX0) (N := 19) (f := 61) hx hb hts in_X0 hown hK hR rfl 11 (by decide) (hts _ q124) (fun _ h => h) rfl (by decide) dX0_taking_17 hw.1 ?_
    have hw := hw.2
    refine lv_iload_n hx hb dX0_taking_20 rfl (lv_at hl 1 rfl) ?_
    obtain ⟨b_4, e_5, hw⟩ := hw
    refine x_dr1 e_5 ?_
    refine x_aald (t := 106) hx hb hK hR (by decide) rfl rfl dX0_taking_21 hw.1 hw.2.1 ?_
    have hw := hw.2.2
    obtain ⟨b_6, e_7, hw⟩ := hw
    refine x_dr0 e_7 ?_
    refine lv_astore_n (lv' := [(3, .ref b_6), (0, .ref o), (1, .int x1), (2, .int x2)]) hx hb dX0_taking_22 rfl hl (by decide) rfl (fun ls hl => ?_)
    refine lv_iload_n hx hb dX0_taking_23 rfl (lv_at hl 3 rfl) ?_
    rcases Classical.em (x2 = 0) with c_80 | c_80
    · have hw := x_t hw c_80
      refine lv_tableIn (off := 40) (tgt := 64) hx hb dX0_taking_24 (by rw [c_80]; decide) (by rw [c_80]; decide) (by rw [c_80]; rfl) (by decide) ?_
      refine lv_aload_n hx hb dX0_taking_64 rfl (lv_at hl 0 rfl) ?_
      refine x_getNI (ci := 16) (C := RX16) (T := TX16) (N := 6) (f := 850) hx hb hts in_X16 hown hK hR rfl 0 (by decide) (hK.2 _ q660 rfl) (fun _ h => h) rfl (by decide) dX0_taking_65 hw.1 ?_
      have hw := hw.2
      exact x_ri hx hb hr hlocks hR hS dX0_taking_68 ⟨rfl, hw⟩
    · have hw := x_f hw c_80
      rcases Classical.em (x2 = 1) with c_81 | c_81
      · have hw := x_t hw c_81
        refine lv_tableIn (off := 45) (tgt := 69) hx hb dX0_taking_24 (by rw [c_81]; decide) (by rw [c_81]; decide) (by rw [c_81]; rfl) (by decide) ?_
        refine lv_aload_n hx hb dX0_taking_69 rfl (lv_at hl 0 rfl) ?_
        refine x_getNI (ci := 16) (C := RX16) (T := TX16) (N := 6) (f := 851) hx hb hts in_X16 hown hK hR rfl 1 (by decide) (hK.2 _ q662 rfl) (fun _ h => h) rfl (by decide) dX0_taking_70 hw.1 ?_
        have hw := hw.2
        exact x_ri hx hb hr hlocks hR hS dX0_taking_73 ⟨rfl, hw⟩
      · have hw := x_f hw c_81
        rcases Classical.em (x2 = 2) with c_82 | c_82
        · have hw := x_t hw c_82
          refine lv_tableIn (off := 50) (tgt := 74) hx hb dX0_taking_24 (by rw [c_82]; decide) (by rw [c_82]; decide) (by rw [c_82]; rfl) (by decide) ?_
          refine lv_aload_n hx hb dX0_taking_74 rfl (lv_at hl 0 rfl) ?_
          refine x_getNI (ci := 16) (C := RX16) (T := TX16) (N := 6) (f := 852) hx hb hts in_X16 hown hK hR rfl 2 (by decide) (hK.2 _ q664 rfl) (fun _ h => h) rfl (by decide) dX0_taking_75 hw.1 ?_
          have hw := hw.2
          exact x_ri hx hb hr hlocks hR hS dX0_taking_78 ⟨rfl, hw⟩
        · have hw := x_f hw c_82
          rcases Classical.em (x2 = 3) with c_83 | c_83
          · have hw := x_t hw c_83
            refine lv_tableIn (off := 55) (tgt := 79) hx hb dX0_taking_24 (by rw [c_83]; decide) (by rw [c_83]; decide) (by rw [c_83]; rfl) (by decide) ?_
            refine lv_aload_n hx hb dX0_taking_79 rfl (lv_at hl 0 rfl) ?_
            refine x_getNI (ci := 16) (C := RX16) (T := TX16) (N := 6) (f := 853) hx hb hts in_X16 hown hK hR rfl 3 (by decide) (hK.2 _ q666 rfl) (fun _ h => h) rfl (by decide) dX0_taking_80 hw.1 ?_
            have hw := hw.2
            exact x_ri hx hb hr hlocks hR hS dX0_taking_83 ⟨rfl, hw⟩
          · have hw := x_f hw c_83
            rcases Classical.em (x2 = 4) with c_84 | c_84
            · have hw := x_t hw c_84
              refine lv_tableIn (off := 60) (tgt := 84) hx hb dX0_taking_24 (by rw [c_84]; decide) (by rw [c_84]; decide) (by rw [c_84]; rfl) (by decide) ?_
              refine lv_aload_n hx hb dX0_taking_84 rfl (lv_at hl 0 rfl) ?_
              refine x_getNI (ci := 16) (C := RX16) (T := TX16) (N := 6) (f := 854) hx hb hts in_X16 hown hK hR rfl 4 (by decide) (hK.2 _ q668 rfl) (fun _ h => h) rfl (by decide) dX0_taking_85 hw.1 ?_
              have hw := hw.2
              refine lv_if_eq (tgt := 95) hx hb dX0_taking_88 (by decide) (fun c_9 => ?_) (fun c_9 => ?_)
              · have hw := x_t hw c_9
                refine lv_iconst (v := 0) hx hb dX0_taking_95 (by decide) ?_
                exact x_ri hx hb hr hlocks hR hS dX0_taking_96 ⟨rfl, hw⟩
              · have hw := x_f hw c_9
                refine lv_iconst (v := 1) hx hb dX0_taking_91 (by decide) ?_
                refine lv_goto (tgt := 96) hx hb dX0_taking_92 (by decide) ?_
                exact x_ri hx hb hr hlocks hR hS dX0_taking_96 ⟨rfl, hw⟩
            · have hw := x_f hw c_84
              rcases Classical.em (x2 = 5) with c_85 | c_85
              · have hw := x_t hw c_85
                refine lv_tableIn (off := 73) (tgt := 97) hx hb dX0_taking_24 (by rw [c_85]; decide) (by rw [c_85]; decide) (by rw [c_85]; rfl) (by decide) ?_
                refine lv_aload_n hx hb dX0_taking_97 rfl (lv_at hl 0 rfl) ?_
                refine x_getNI (ci := 16) (C := RX16) (T := TX16) (N := 6) (f := 855) hx hb hts in_X16 hown hK hR rfl 5 (by decide) (hK.2 _ q670 rfl) (fun _ h => h) rfl (by decide) dX0_taking_98 hw.1 ?_
                have hw := hw.2
                refine lv_if_eq (tgt := 108) hx hb dX0_taking_101 (by decide) (fun c_10 => ?_) (fun c_10 => ?_)
                · have hw := x_t hw c_10
                  refine lv_iconst (v := 0) hx hb dX0_taking_108 (by decide) ?_
                  exact x_ri hx hb hr hlocks hR hS dX0_taking_109 ⟨rfl, hw⟩
                · have hw := x_f hw c_10
                  refine lv_iconst (v := 1) hx hb dX0_taking_104 (by decide) ?_
                  refine lv_goto (tgt := 109) hx hb dX0_taking_105 (by decide) ?_
                  exact x_ri hx hb hr hlocks hR hS dX0_taking_109 ⟨rfl, hw⟩
              · have hw := x_f hw c_85
                refine lv_tableOut (tgt := 110) hx hb dX0_taking_24 (x_swo 5 (fun j hj => by rcases (show j = 0 ∨ j = 1 ∨ j = 2 ∨ j = 3 ∨ j = 4 ∨ j = 5 by omega) with rfl | rfl | rfl | rfl | rfl | rfl <;> assumption)) (by decide) ?_
                refine lv_bipush (v := (-2)) hx hb dX0_taking_110 (by decide) ?_
                exact x_ri hx hb hr hlocks hR hS dX0_taking_112 ⟨rfl, hw⟩
  · have hw := x_t hw c_3
    refine lv_iconst (v := (-1)) hx hb dX0_taking_14 (by decide) ?_
    exact x_ri hx hb hr hlocks hR hS dX0_taking_15 ⟨rfl, hw⟩
def w_X0_isWronged (S : xH) (o : Nat) (x1 : Nat) (Q : Int32 → Prop) : Prop := xT S x1 = 3 ∧ w_X2_place S x1 (fun (r_1 : Int32) => nm (r_1 - 10) (fun x2_3 : Int32 => xT S x1 = 3 ∧ w_X2_place S x1 (fun (r_4 : Int32) => jn (fun (v0_6 : Int32) => wif (v0_6 = 0) (Q 0) (xT S x1 = 3 ∧ wif ((xR S 153 x1) = none) (Q 0) (xT S x1 = 3 ∧ ∃ b_10, (xR S 153 x1) = some b_10 ∧ xT S b_10 = 17 ∧ wif ((xI S 855 b_10) = 0) (Q 1) (Q 0)))) (fun J_7 => jn0 (J_7 1) (fun J_13 => wif (r_4 = 20) (J_13) (xT S x1 = 3 ∧ w_X2_place S x1 (fun (r_15 : Int32) => wif (r_15 = 21) (J_13) (xT S o = 1 ∧ w_X0_isIn S x2_3 0 ((xI S 65 o) - 1) (fun (r_18 : Int32) => jn0 (J_7 0) (fun J_20 => wif (r_18 = 0) (J_20) (xT S o = 1 ∧ ∃ b_22, (xR S 64 o) = some b_22 ∧ xT S b_22 = 107 ∧ vp_in x2_3 (xL S b_22) ∧ ∃ b_24, (xQ S b_22 (Int32.toNatClampNeg x2_3)) = some b_24 ∧ xT S b_24 = 19 ∧ wif ((xI S 950 b_24) = 0) (J_13) (J_20))))))))))))
theorem hd_X0_isWronged : yX0_isWronged.cls = "PressedMen" ∧ yX0_isWronged.cls ≠ "java/lang/invoke/MethodHandle" ∧ yX0_isWronged.cls ≠ "java/lang/invoke/VarHandle" ∧ (parseMethodDescriptor yX0_isWronged.desc).map (fun d => d.parameters.length) = some 1 := by decide +kernel
set_option maxHeartbeats 4000000 in
theorem mt_X0_isWronged (l : Launch) {D : va_G} {d : Nat → ClassId} {base : Nat} {mc : va_W} {S : xH} {o : Nat} {x1 : Nat} {Q : Int32 → Prop} (hw : w_X0_isWronged S o x1 Q) : Met l yX0_isWronged (ws_ yX0_isWronged cX0_isWronged 4 (some FieldType.boolean)) (x_rm 1 0 0 22) (x_Pc D d base mc S [.ref o, .ref x1]) (x_Qi D d base mc (fun r S' => S' = S ∧ Q r)) 0 0 (x_A base) := by
  refine x_met (by decide) (Nat.le_of_ble_eq_true rfl) ?_
  intro p e s m below meth c hx hb hml hr hlocks hown hts hz hR hK hin ls hl
  have hown : s.vm.findClass "PressedMen" = some m.cls := hown
  have hl : lv_has ls 4 [(0, .ref o), (1, .ref x1)] := hl
  have hS : va_S (x_A base) s.heap s.heap [] := va_S.rf
  unfold w_X0_isWronged at hw
  refine lv_aload_n hx hb dX0_isWronged_0 rfl (lv_at hl 1 rfl) ?_
  obtain ⟨ha, hw⟩ := hw
  refine x_ci (va_runV (As := []) (rest := []) ⟨hx, hb, hml, hown, hts⟩ (mt_X2_place l hw) (cwV 0 hts (lw_V q276 q277 q278 q66 q279) rfl rfl rfl hd_X2_place ⟨Nat.le_of_ble_eq_true rfl, Nat.le_of_ble_eq_true rfl⟩) ⟨x_Pc_blind, hR.recv hK (ci := 2) rfl (by decide) ha, x_Pc_pre hR hz hS hK⟩ rfl rfl hl.1 rfl (lv_room (Nat.le_of_ble_eq_true rfl)) dX0_isWronged_1 ⟨Nat.le_refl _, Nat.le_refl _⟩) hS (fun r_1 S_2 H locs hp hR hS => ?_)
  have hw := hp.2
  rw [hp.1] at hR
  refine lv_bipush (v := 10) hx hb dX0_isWronged_4 (by decide) ?_
  refine lv_isub hx hb dX0_isWronged_6 ?_
  refine lv_topi (fun x2_3 ex2_3 => ?_)
  have hw := hw x2_3 ex2_3
  refine lv_istore_n (lv' := [(2, .int x2_3), (0, .ref o), (1, .ref x1)]) hx hb dX0_isWronged_7 rfl hl (by decide) rfl (fun ls hl => ?_)
  refine lv_aload_n hx hb dX0_isWronged_8 rfl (lv_at hl 2 rfl) ?_
  obtain ⟨ha, hw⟩ := hw
  refine x_ci (va_runV (As := []) (rest := []) ⟨hx, hb, hml, hown, hts⟩ (mt_X2_place l hw) (cwV 0 hts (lw_V q276 q277 q278 q66 q279) rfl rfl rfl hd_X2_place ⟨Nat.le_of_ble_eq_true rfl, Nat.le_of_ble_eq_true rfl⟩) ⟨x_Pc_blind, hR.recv hK (ci := 2) rfl (by decide) ha, x_Pc_pre hR hz hS hK⟩ rfl rfl hl.1 rfl (lv_room (Nat.le_of_ble_eq_true rfl)) dX0_isWronged_9 ⟨Nat.le_refl _, Nat.le_refl _⟩) hS (fun r_4 S_5 H locs hp hR hS => ?_)
  have hw := hp.2
  rw [hp.1] at hR
  refine lv_bipush (v := 20) hx hb dX0_isWronged_12 (by decide) ?_
  refine x_jn (G := fun (v0_6 : Int32) => ∀ (ls : Array Slot) (H : Heap) (locs : List Loc), x_Rp D d (x_A base) mc S H → va_S (x_A base) s.heap H locs → lv_has ls 4 [(1, .ref x1)] → W p l e (x_rm 1 0 0 22) s m ([.ref o, .ref x1] : List Value).toArray below meth c H locs 0 0 (MQ below (x_Qi D d base mc (fun r S' => S' = S ∧ Q r)) ([.ref o, .ref x1] : List Value).toArray s 0 0 (x_A base)) (F0 m 57 ls [.int v0_6])) hw (fun v0_6 hw => ?_) (fun hJ_7 hw => ?_)
  · intro ls H locs hR hS hl
    refine lv_istore_n (lv' := [(3, .int v0_6), (1, .ref x1)]) hx hb dX0_isWronged_57 rfl hl (by decide) rfl (fun ls hl => ?_)
    refine lv_iload_n hx hb dX0_isWronged_58 rfl (lv_at hl 0 rfl) ?_
    refine lv_if_eq (tgt := 83) hx hb dX0_isWronged_59 (by decide) (fun c_8 => ?_) (fun c_8 => ?_)
    · have hw := x_t hw c_8
      refine lv_iconst (v := 0) hx hb dX0_isWronged_83 (by decide) ?_
      exact x_rz hx hb hr hlocks hR hS dX0_isWronged_84 (Or.inl rfl) ⟨rfl, hw⟩
    · have hw := x_f hw c_8
      refine lv_aload_n hx hb dX0_isWronged_62 rfl (lv_at hl 1 rfl) ?_
      refine x_getNR (ci := 2) (C := RX2) (T := TX2) (N := 5) (f := 153) hx hb hts in_X2 hown hK hR rfl 3 (by decide) (hK.2 _ q234 rfl) (fun _ h => h) rfl (by decide) dX0_isWronged_63 hw.1 ?_
      have hw := hw.2
      refine x_ifnull (r := (xR S 153 x1)) (tgt := 83) hx hb dX0_isWronged_66 (by decide) (fun c_9 => ?_) (fun c_9 => ?_)
      · have hw := x_t hw c_9
        refine lv_iconst (v := 0) hx hb dX0_isWronged_83 (by decide) ?_
        exact x_rz hx hb hr hlocks hR hS dX0_isWronged_84 (Or.inl rfl) ⟨rfl, hw⟩
      · have hw := x_f hw c_9
        refine lv_aload_n hx hb dX0_isWronged_69 rfl (lv_at hl 1 rfl) ?_
        refine x_getNR (ci := 2) (C := RX2) (T := TX2) (N := 5) (f := 153) hx hb hts in_X2 hown hK hR rfl 3 (by decide) (hK.2 _ q234 rfl) (fun _ h => h) rfl (by decide) dX0_isWronged_70 hw.1 ?_
        have hw := hw.2
        obtain ⟨b_10, e_11, hw⟩ := hw
        refine x_dr0 e_11 ?_
        refine x_getNI (ci := 16) (C := RX16) (T := TX16) (N := 6) (f := 855) hx hb hts in_X16 hown hK hR rfl 5 (by decide) (hK.2 _ q670 rfl) (fun _ h => h) rfl (by decide) dX0_isWronged_73 hw.1 ?_
        have hw := hw.2
        refine lv_if_ne (tgt := 83) hx hb dX0_isWronged_76 (by decide) (fun c_12 => ?_) (fun c_12 => ?_)
        · have hw := x_f hw c_12
          refine lv_iconst (v := 0) hx hb dX0_isWronged_83 (by decide) ?_
          exact x_rz hx hb hr hlocks hR hS dX0_isWronged_84 (Or.inl rfl) ⟨rfl, hw⟩
        · have hw := x_t hw c_12
          refine lv_iconst (v := 1) hx hb dX0_isWronged_79 (by decide) ?_
          refine lv_goto (tgt := 84) hx hb dX0_isWronged_80 (by decide) ?_
          exact x_rz hx hb hr hlocks hR hS dX0_isWronged_84 (Or.inr rfl) ⟨rfl, hw⟩
  · refine x_jn0 (G := ∀ (ls : Array Slot) (H : Heap) (locs : List Loc), x_Rp D d (x_A base) mc S H → va_S (x_A base) s.heap H locs → lv_has ls 4 [(1, .ref x1)] → W p l e (x_rm 1 0 0 22) s m ([.ref o, .ref x1] : List Value).toArray below meth c H locs 0 0 (MQ below (x_Qi D d base mc (fun r S' => S' = S ∧ Q r)) ([.ref o, .ref x1] : List Value).toArray s 0 0 (x_A base)) (F0 m 52 ls [])) hw (fun hw => ?_) (fun hJ_13 hw => ?_)
    · intro ls H locs hR hS hl
      refine lv_iconst (v := 1) hx hb dX0_isWronged_52 (by decide) ?_
      refine lv_goto (tgt := 57) hx hb dX0_isWronged_53 (by decide) ?_
      exact hJ_7 1 hw ls _ _ hR hS (lv_sub hl [0] rfl)
    · refine lv_icmp_eq (tgt := 52) hx hb dX0_isWronged_14 (by decide) (fun c_14 => ?_) (fun c_14 => ?_)
      · have hw := x_t hw c_14
        exact hJ_13  hw ls _ _ hR hS (lv_sub hl [2] rfl)
      · have hw := x_f hw c_14
        refine lv_aload_n hx hb dX0_isWronged_17 rfl (lv_at hl 2 rfl) ?_
        obtain ⟨ha, hw⟩ := hw
        refine x_ci (va_runV (As := []) (rest := []) ⟨hx, hb, hml, hown, hts⟩ (mt_X2_place l hw) (cwV 0 hts (lw_V q276 q277 q278 q66 q279) rfl rfl rfl hd_X2_place ⟨Nat.le_of_ble_eq_true rfl, Nat.le_of_ble_eq_true rfl⟩) ⟨x_Pc_blind, hR.recv hK (ci := 2) rfl (by decide) ha, x_Pc_pre hR hz hS hK⟩ rfl rfl hl.1 rfl (lv_room (Nat.le_of_ble_eq_true rfl)) dX0_isWronged_18 ⟨Nat.le_refl _, Nat.le_refl _⟩) hS (fun r_15 S_16 H locs hp hR hS => ?_)
        have hw := hp.2
        rw [hp.1] at hR
        refine lv_bipush (v := 21) hx hb dX0_isWronged_21 (by decide) ?_
        refine lv_icmp_eq (tgt := 52) hx hb dX0_isWronged_23 (by decide) (fun c_17 => ?_) (fun c_17 => ?_)
        · have hw := x_t hw c_17
          exact hJ_13  hw ls _ _ hR hS (lv_sub hl [2] rfl)
        · have hw := x_f hw c_17
          refine lv_iload_n hx hb dX0_isWronged_26 rfl (lv_at hl 0 rfl) ?_
          refine lv_iconst (v := 0) hx hb dX0_isWronged_27 (by decide) ?_
          refine lv_aload_n hx hb dX0_isWronged_28 rfl (lv_at hl 1 rfl) ?_
          refine x_getI (ci := 0) (C := RX0) (T := TX0) (N := 19) (f := 65) hx hb hts in_X0 hown hK hR rfl 15 (by decide) (hts _ q128) (fun _ h => h) rfl (by decide) dX0_isWronged_29 hw.1 ?_
          have hw := hw.2
          refine lv_iconst (v := 1) hx hb dX0_isWronged_32 (by decide) ?_
          refine lv_isub hx hb dX0_isWronged_33 ?_
          refine x_ci (va_runS (As := [.int x2_3, .int 0, .int ((xI S 65 o) - 1)]) (rest := []) ⟨hx, hb, hml, hown, hts⟩ (mt_X0_isIn l hw) (va_cwS 3 hts (lw_S q178 q179 q64 q180) rfl rfl rfl hd_X0_isIn.2 ⟨Nat.le_of_ble_eq_true rfl, Nat.le_of_ble_eq_true rfl⟩) ⟨x_Pc_blind, x_Pc_pre hR hz hS hK⟩ rfl rfl hl.1 rfl (lv_room (Nat.le_of_ble_eq_true rfl)) dX0_isWronged_34 ⟨Nat.le_refl _, Nat.le_refl _⟩) hS (fun r_18 S_19 H locs hp hR hS => ?_)
          have hw := hp.2
          rw [hp.1] at hR
          refine x_jn0 (G := ∀ (ls : Array Slot) (H : Heap) (locs : List Loc), x_Rp D d (x_A base) mc S H → va_S (x_A base) s.heap H locs → lv_has ls 4 [(1, .ref x1)] → W p l e (x_rm 1 0 0 22) s m ([.ref o, .ref x1] : List Value).toArray below meth c H locs 0 0 (MQ below (x_Qi D d base mc (fun r S' => S' = S ∧ Q r)) ([.ref o, .ref x1] : List Value).toArray s 0 0 (x_A base)) (F0 m 56 ls [])) hw (fun hw => ?_) (fun hJ_20 hw => ?_)
          · intro ls H locs hR hS hl
            refine lv_iconst (v := 0) hx hb dX0_isWronged_56 (by decide) ?_
            exact hJ_7 0 hw ls _ _ hR hS (lv_sub hl [0] rfl)
          · refine lv_if_eq (tgt := 56) hx hb dX0_isWronged_37 (by decide) (fun c_21 => ?_) (fun c_21 => ?_)
            · have hw := x_t hw c_21
              exact hJ_20  hw ls _ _ hR hS (lv_sub hl [2] rfl)
            · have hw := x_f hw c_21
              refine lv_aload_n hx hb dX0_isWronged_40 rfl (lv_at hl 1 rfl) ?_
              refine x_getR (ci := 0) (C := RX0) (T := TX0) (N := 19) (f := 64) hx hb hts in_X0 hown hK hR rfl 14 (by decide) (hts _ q127) (fun _ h => h) rfl (by decide) dX0_isWronged_41 hw.1 ?_
              have hw := hw.2
              refine lv_iload_n hx hb dX0_isWronged_44 rfl (lv_at hl 0 rfl) ?_
              obtain ⟨b_22, e_23, hw⟩ := hw
              refine x_dr1 e_23 ?_
              refine x_aald (t := 107) hx hb hK hR (by decide) rfl rfl dX0_isWronged_45 hw.1 hw.2.1 ?_
              have hw := hw.2.2
              obtain ⟨b_24, e_25, hw⟩ := hw
              refine x_dr0 e_25 ?_
              refine x_getNI (ci := 18) (C := RX18) (T := TX18) (N := 5) (f := 950) hx hb hts in_X18 hown hK hR rfl 0 (by decide) (hK.2 _ q799 rfl) (fun _ h => h) rfl (by decide) dX0_isWronged_46 hw.1 ?_
              have hw := hw.2
              refine lv_if_ne (tgt := 56) hx hb dX0_isWronged_49 (by decide) (fun c_26 => ?_) (fun c_26 => ?_)
              · have hw := x_f hw c_26
                exact hJ_20  hw ls _ _ hR hS (lv_sub hl [2] rfl)
              · have hw := x_t hw c_26
                exact hJ_13  hw ls _ _ hR hS (lv_sub hl [2] rfl)
def w_X0_wronged (S : xH) (o : Nat) (Q : Int32 → Prop) : Prop := lf2 (fun L_3 (x1_1 : Int32) (x2_2 : Int32) => xT S o = 1 ∧ wif ((xI S 53 o) ≤ x2_2) (Q x1_1) (xT S o = 1 ∧ ∃ b_5, (xR S 52 o) = some b_5 ∧ xT S b_5 = 103 ∧ vp_in x2_2 (xL S b_5) ∧ ∃ b_7, (xQ S b_5 (Int32.toNatClampNeg x2_2)) = some b_7 ∧ xT S o = 1 ∧ w_X0_isWronged S o b_7 (fun (r_9 : Int32) => jn (fun (v1_11 : Int32) => nm (x1_1 + v1_11) (fun x1_13 : Int32 => L_3 x1_13 (x2_2 + 1))) (fun J_12 => wif (r_9 = 0) (J_12 0) (J_12 1))))) 0 0
theorem hd_X0_wronged : yX0_wronged.cls = "PressedMen" ∧ yX0_wronged.cls ≠ "java/lang/invoke/MethodHandle" ∧ yX0_wronged.cls ≠ "java/lang/invoke/VarHandle" ∧ (parseMethodDescriptor yX0_wronged.desc).map (fun d => d.parameters.length) = some 0 := by decide +kernel
set_option maxHeartbeats 4000000 in
theorem mt_X0_wronged (l : Launch) {D : va_G} {d : Nat → ClassId} {base : Nat} {mc : va_W} {S : xH} {o : Nat} {Q : Int32 → Prop} (hw : w_X0_wronged S o Q) : Met l yX0_wronged (ws_ yX0_wronged cX0_wronged 3 (some FieldType.int)) (x_rm 2 0 0 45) (x_Pc D d base mc S [.ref o]) (x_Qi D d base mc (fun r S' => S' = S ∧ Q r)) 0 0 (x_A base) := by
  refine x_met (by decide) (Nat.le_of_ble_eq_true rfl) ?_
  intro p e s m below meth c hx hb hml hr hlocks hown hts hz hR hK hin ls hl
  have hown : s.vm.findClass "PressedMen" = some m.cls := hown
  have hl : lv_has ls 3 [(0, .ref o)] := hl
  have hS : va_S (x_A base) s.heap s.heap [] := va_S.rf
  unfold w_X0_wronged at hw
  refine lv_iconst (v := 0) hx hb dX0_wronged_0 (by decide) ?_
  refine lv_istore_n (lv' := [(1, .int 0), (0, .ref o)]) hx hb dX0_wronged_1 rfl hl (by decide) rfl (fun ls hl => ?_)
  refine lv_iconst (v := 0) hx hb dX0_wronged_2 (by decide) ?_
  refine lv_istore_n (lv' := [(2, .int 0), (1, .int 0), (0, .ref o)]) hx hb dX0_wronged_3 rfl hl (by decide) rfl (fun ls hl => ?_)
  refine x_lf2 (G := fun (x1_1 : Int32) (x2_2 : Int32) => ∀ (ls : Array Slot) (H : Heap) (locs : List Loc), x_Rp D d (x_A base) mc S H → va_S (x_A base) s.heap H locs → lv_has ls 3 [(0, .ref o), (1, .int x1_1), (2, .int x2_2)] → W p l e (x_rm 2 0 0 45) s m ([.ref o] : List Value).toArray below meth c H locs 0 0 (MQ below (x_Qi D d base mc (fun r S' => S' = S ∧ Q r)) ([.ref o] : List Value).toArray s 0 0 (x_A base)) (F0 m 4 ls [])) hw (fun x1_1 x2_2 hw => ?_) ls _ _ hR hS (lv_sub hl [2, 1, 0] rfl)
  intro ls H locs hR hS hl
  refine lv_iload_n hx hb dX0_wronged_4 rfl (lv_at hl 2 rfl) ?_
  refine lv_aload_n hx hb dX0_wronged_5 rfl (lv_at hl 0 rfl) ?_
  refine x_getI (ci := 0) (C := RX0) (T := TX0) (N := 19) (f := 53) hx hb hts in_X0 hown hK hR rfl 3 (by decide) (hts _ q116) (fun _ h => h) rfl (by decide) dX0_wronged_6 hw.1 ?_
  have hw := hw.2
  refine lv_icmp_ge (tgt := 39) hx hb dX0_wronged_9 (by decide) (fun c_4 => ?_) (fun c_4 => ?_)
  · have hw := x_t hw c_4
    refine lv_iload_n hx hb dX0_wronged_39 rfl (lv_at hl 1 rfl) ?_
    exact x_ri hx hb hr hlocks hR hS dX0_wronged_40 ⟨rfl, hw⟩
  · have hw := x_f hw c_4
    refine lv_iload_n hx hb dX0_wronged_12 rfl (lv_at hl 1 rfl) ?_
    refine lv_aload_n hx hb dX0_wronged_13 rfl (lv_at hl 0 rfl) ?_
    refine lv_aload_n hx hb dX0_wronged_14 rfl (lv_at hl 0 rfl) ?_
    refine x_getR (ci := 0) (C := RX0) (T := TX0) (N := 19) (f := 52) hx hb hts in_X0 hown hK hR rfl 2 (by decide) (hts _ q114) (fun _ h => h) rfl (by decide) dX0_wronged_15 hw.1 ?_
    have hw := hw.2
    refine lv_iload_n hx hb dX0_wronged_18 rfl (lv_at hl 2 rfl) ?_
    obtain ⟨b_5, e_6, hw⟩ := hw
    refine x_dr1 e_6 ?_
    refine x_aald (t := 103) hx hb hK hR (by decide) rfl rfl dX0_wronged_19 hw.1 hw.2.1 ?_
    have hw := hw.2.2
    obtain ⟨b_7, e_8, hw⟩ := hw
    refine x_dr0 e_8 ?_
    obtain ⟨ha, hw⟩ := hw
    refine x_ci (va_runV (As := [.ref b_7]) (rest := [.int x1_1]) ⟨hx, hb, hml, hown, hts⟩ (mt_X0_isWronged l hw) (cwV 1 hts (lw_V q692 q694 qs23 q64 q695) rfl rfl rfl hd_X0_isWronged ⟨Nat.le_of_ble_eq_true rfl, Nat.le_of_ble_eq_true rfl⟩) ⟨x_Pc_blind, hR.recv hK (ci := 0) rfl (by decide) ha, x_Pc_pre hR hz hS hK⟩ rfl rfl hl.1 rfl (lv_room (Nat.le_of_ble_eq_true rfl)) dX0_wronged_20 ⟨Nat.le_refl _, Nat.le_refl _⟩) hS (fun r_9 S_10 H locs hp hR hS => ?_)
    have hw := hp.2
    rw [hp.1] at hR
    refine x_jn (G := fun (v1_11 : Int32) => ∀ (ls : Array Slot) (H : Heap) (locs : List Loc), x_Rp D d (x_A base) mc S H → va_S (x_A base) s.heap H locs → lv_has ls 3 [(0, .ref o), (2, .int x2_2)] → W p l e (x_rm 2 0 0 45) s m ([.ref o] : List Value).toArray below meth c H locs 0 0 (MQ below (x_Qi D d base mc (fun r S' => S' = S ∧ Q r)) ([.ref o] : List Value).toArray s 0 0 (x_A base)) (F0 m 31 ls [.int v1_11, .int x1_1])) hw (fun v1_11 hw => ?_) (fun hJ_12 hw => ?_)
    · intro ls H locs hR hS hl
      refine lv_iadd hx hb dX0_wronged_31 ?_
      refine lv_topi (fun x1_13 ex1_13 => ?_)
      have hw := hw x1_13 ex1_13
      refine lv_istore_n (lv' := [(1, .int x1_13), (0, .ref o), (2, .int x2_2)]) hx hb dX0_wronged_32 rfl hl (by decide) rfl (fun ls hl => ?_)
      refine lv_iinc (v := (x2_2 + 1)) (lv' := [(2, .int (x2_2 + 1)), (1, .int x1_13), (0, .ref o)]) hx hb dX0_wronged_33 hl (k := 2) rfl rfl (by decide) rfl (fun ls hl => ?_)
      refine lv_goto (tgt := 4) hx hb dX0_wronged_36 (by decide) ?_
      exact hw ls _ _ hR hS (lv_sub hl [2, 1, 0] rfl)
    · refine lv_if_eq (tgt := 30) hx hb dX0_wronged_23 (by decide) (fun c_14 => ?_) (fun c_14 => ?_)
      · have hw := x_t hw c_14
        refine lv_iconst (v := 0) hx hb dX0_wronged_30 (by decide) ?_
        exact hJ_12 0 hw ls _ _ hR hS (lv_sub hl [0, 2] rfl)
      · have hw := x_f hw c_14
        refine lv_iconst (v := 1) hx hb dX0_wronged_26 (by decide) ?_
        refine lv_goto (tgt := 31) hx hb dX0_wronged_27 (by decide) ?_
        exact hJ_12 1 hw ls _ _ hR hS (lv_sub hl [0, 2] rfl)
def w_X0_wrongedMan (S : xH) (o : Nat) (x1 : Int32) (Q : Int32 → Prop) : Prop := lf2 (fun L_3 (x2_1 : Int32) (x3_2 : Int32) => xT S o = 1 ∧ wif ((xI S 53 o) ≤ x3_2) (Q (-9)) (wif (x1 < 0) (Q (-9)) (xT S o = 1 ∧ ∃ b_6, (xR S 52 o) = some b_6 ∧ xT S b_6 = 103 ∧ vp_in x3_2 (xL S b_6) ∧ ∃ b_8, (xQ S b_6 (Int32.toNatClampNeg x3_2)) = some b_8 ∧ xT S o = 1 ∧ w_X0_isWronged S o b_8 (fun (r_10 : Int32) => jn (fun (x2_12 : Int32) => L_3 x2_12 (x3_2 + 1)) (fun J_13 => wif (r_10 = 0) (J_13 x2_1) (wif (x2_1 = 0) (Q x3_2) (J_13 (x2_1 + (-1))))))))) x1 0
theorem hd_X0_wrongedMan : yX0_wrongedMan.cls = "PressedMen" ∧ yX0_wrongedMan.cls ≠ "java/lang/invoke/MethodHandle" ∧ yX0_wrongedMan.cls ≠ "java/lang/invoke/VarHandle" ∧ (parseMethodDescriptor yX0_wrongedMan.desc).map (fun d => d.parameters.length) = some 1 := by decide +kernel
set_option maxHeartbeats 4000000 in
theorem mt_X0_wrongedMan (l : Launch) {D : va_G} {d : Nat → ClassId} {base : Nat} {mc : va_W} {S : xH} {o : Nat} {x1 : Int32} {Q : Int32 → Prop} (hw : w_X0_wrongedMan S o x1 Q) : Met l yX0_wrongedMan (ws_ yX0_wrongedMan cX0_wrongedMan 4 (some FieldType.int)) (x_rm 2 0 0 45) (x_Pc D d base mc S [.ref o, .int x1]) (x_Qi D d base mc (fun r S' => S' = S ∧ Q r)) 0 0 (x_A base) := by
  refine x_met (by decide) (Nat.le_of_ble_eq_true rfl) ?_
  intro p e s m below meth c hx hb hml hr hlocks hown hts hz hR hK hin ls hl
  have hown : s.vm.findClass "PressedMen" = some m.cls := hown
  have hl : lv_has ls 4 [(0, .ref o), (1, .int x1)] := hl
  have hS : va_S (x_A base) s.heap s.heap [] := va_S.rf
  unfold w_X0_wrongedMan at hw
  refine lv_iload_n hx hb dX0_wrongedMan_0 rfl (lv_at hl 1 rfl) ?_
  refine lv_istore_n (lv' := [(2, .int x1), (0, .ref o), (1, .int x1)]) hx hb dX0_wrongedMan_1 rfl hl (by decide) rfl (fun ls hl => ?_)
  refine lv_iconst (v := 0) hx hb dX0_wrongedMan_2 (by decide) ?_
  refine lv_istore_n (lv' := [(3, .int 0), (2, .int x1), (0, .ref o), (1, .int x1)]) hx hb dX0_wrongedMan_3 rfl hl (by decide) rfl (fun ls hl => ?_)
  refine x_lf2 (G := fun (x2_1 : Int32) (x3_2 : Int32) => ∀ (ls : Array Slot) (H : Heap) (locs : List Loc), x_Rp D d (x_A base) mc S H → va_S (x_A base) s.heap H locs → lv_has ls 4 [(0, .ref o), (1, .int x1), (2, .int x2_1), (3, .int x3_2)] → W p l e (x_rm 2 0 0 45) s m ([.ref o, .int x1] : List Value).toArray below meth c H locs 0 0 (MQ below (x_Qi D d base mc (fun r S' => S' = S ∧ Q r)) ([.ref o, .int x1] : List Value).toArray s 0 0 (x_A base)) (F0 m 4 ls [])) hw (fun x2_1 x3_2 hw => ?_) ls _ _ hR hS (lv_sub hl [2, 3, 1, 0] rfl)
  intro ls H locs hR hS hl
  refine lv_iload_n hx hb dX0_wrongedMan_4 rfl (lv_at hl 3 rfl) ?_
  refine lv_aload_n hx hb dX0_wrongedMan_5 rfl (lv_at hl 0 rfl) ?_
  refine x_getI (ci := 0) (C := RX0) (T := TX0) (N := 19) (f := 53) hx hb hts in_X0 hown hK hR rfl 3 (by decide) (hts _ q116) (fun _ h => h) rfl (by decide) dX0_wrongedMan_6 hw.1 ?_
  have hw := hw.2
  refine lv_icmp_ge (tgt := 44) hx hb dX0_wrongedMan_9 (by decide) (fun c_4 => ?_) (fun c_4 => ?_)
  · have hw := x_t hw c_4
    refine lv_bipush (v := (-9)) hx hb dX0_wrongedMan_44 (by decide) ?_
    exact x_ri hx hb hr hlocks hR hS dX0_wrongedMan_46 ⟨rfl, hw⟩
  · have hw := x_f hw c_4
    refine lv_iload_n hx hb dX0_wrongedMan_12 rfl (lv_at hl 1 rfl) ?_
    refine lv_if_lt (tgt := 44) hx hb dX0_wrongedMan_13 (by decide) (fun c_5 => ?_) (fun c_5 => ?_)
    · have hw := x_t hw c_5
      refine lv_bipush (v := (-9)) hx hb dX0_wrongedMan_44 (by decide) ?_
      exact x_ri hx hb hr hlocks hR hS dX0_wrongedMan_46 ⟨rfl, hw⟩
    · have hw := x_f hw c_5
      refine lv_aload_n hx hb dX0_wrongedMan_16 rfl (lv_at hl 0 rfl) ?_
      refine lv_aload_n hx hb dX0_wrongedMan_17 rfl (lv_at hl 0 rfl) ?_
      refine x_getR (ci := 0) (C := RX0) (T := TX0) (N := 19) (f := 52) hx hb hts in_X0 hown hK hR rfl 2 (by decide) (hts _ q114) (fun _ h => h) rfl (by decide) dX0_wrongedMan_18 hw.1 ?_
      have hw := hw.2
      refine lv_iload_n hx hb dX0_wrongedMan_21 rfl (lv_at hl 3 rfl) ?_
      obtain ⟨b_6, e_7, hw⟩ := hw
      refine x_dr1 e_7 ?_
      refine x_aald (t := 103) hx hb hK hR (by decide) rfl rfl dX0_wrongedMan_22 hw.1 hw.2.1 ?_
      have hw := hw.2.2
      obtain ⟨b_8, e_9, hw⟩ := hw
      refine x_dr0 e_9 ?_
      obtain ⟨ha, hw⟩ := hw
      refine x_ci (va_runV (As := [.ref b_8]) (rest := []) ⟨hx, hb, hml, hown, hts⟩ (mt_X0_isWronged l hw) (cwV 1 hts (lw_V q692 q694 qs23 q64 q695) rfl rfl rfl hd_X0_isWronged ⟨Nat.le_of_ble_eq_true rfl, Nat.le_of_ble_eq_true rfl⟩) ⟨x_Pc_blind, hR.recv hK (ci := 0) rfl (by decide) ha, x_Pc_pre hR hz hS hK⟩ rfl rfl hl.1 rfl (lv_room (Nat.le_of_ble_eq_true rfl)) dX0_wrongedMan_23 ⟨Nat.le_refl _, Nat.le_refl _⟩) hS (fun r_10 S_11 H locs hp hR hS => ?_)
      have hw := hp.2
      rw [hp.1] at hR
      refine x_jn (G := fun (x2_12 : Int32) => ∀ (ls : Array Slot) (H : Heap) (locs : List Loc), x_Rp D d (x_A base) mc S H → va_S (x_A base) s.heap H locs → lv_has ls 4 [(0, .ref o), (1, .int x1), (2, .int x2_12), (3, .int x3_2)] → W p l e (x_rm 2 0 0 45) s m ([.ref o, .int x1] : List Value).toArray below meth c H locs 0 0 (MQ below (x_Qi D d base mc (fun r S' => S' = S ∧ Q r)) ([.ref o, .int x1] : List Value).toArray s 0 0 (x_A base)) (F0 m 38 ls [])) hw (fun x2_12 hw => ?_) (fun hJ_13 hw => ?_)
      · intro ls H locs hR hS hl
        refine lv_iinc (v := (x3_2 + 1)) (lv' := [(3, .int (x3_2 + 1)), (0, .ref o), (1, .int x1), (2, .int x2_12)]) hx hb dX0_wrongedMan_38 hl (k := 3) rfl rfl (by decide) rfl (fun ls hl => ?_)
        refine lv_goto (tgt := 4) hx hb dX0_wrongedMan_41 (by decide) ?_
        exact hw ls _ _ hR hS (lv_sub hl [1, 2, 3, 0] rfl)
      · refine lv_if_eq (tgt := 38) hx hb dX0_wrongedMan_26 (by decide) (fun c_14 => ?_) (fun c_14 => ?_)
        · have hw := x_t hw c_14
          exact hJ_13 x2_1 hw ls _ _ hR hS (lv_sub hl [0, 1, 2, 3] rfl)
        · have hw := x_f hw c_14
          refine lv_iload_n hx hb dX0_wrongedMan_29 rfl (lv_at hl 2 rfl) ?_
          refine lv_if_ne (tgt := 35) hx hb dX0_wrongedMan_30 (by decide) (fun c_15 => ?_) (fun c_15 => ?_)
          · have hw := x_f hw c_15
            refine lv_iinc (v := (x2_1 + (-1))) (lv' := [(2, .int (x2_1 + (-1))), (0, .ref o), (1, .int x1), (3, .int x3_2)]) hx hb dX0_wrongedMan_35 hl (k := 2) rfl rfl (by decide) rfl (fun ls hl => ?_)
            exact hJ_13 (x2_1 + (-1)) hw ls _ _ hR hS (lv_sub hl [1, 2, 0, 3] rfl)
          · have hw := x_t hw c_15
            refine lv_iload_n hx hb dX0_wrongedMan_33 rfl (lv_at hl 3 rfl) ?_
            exact x_ri hx hb hr hlocks hR hS dX0_wrongedMan_34 ⟨rfl, hw⟩
def w_X0_letGo (k n : Nat) (S : xH) (o : Nat) (x1 : Int32) (Q : Int32 → xH → Prop) : Prop := xT S o = 1 ∧ w_X0_isMan S o x1 (fun (r_1 : Int32) => wif (r_1 = 0) (Q (-1) S) (xT S o = 1 ∧ ∃ b_4, (xR S 52 o) = some b_4 ∧ xT S b_4 = 103 ∧ vp_in x1 (xL S b_4) ∧ ∃ b_6, (xQ S b_4 (Int32.toNatClampNeg x1)) = some b_6 ∧ xT S b_6 = 3 ∧ w_X2_place S b_6 (fun (r_8 : Int32) => jn (fun (v0_10 : Int32) => wif (v0_10 = 0) (Q (-3) S) (xT S o = 1 ∧ ∃ b_13, (xR S 52 o) = some b_13 ∧ xT S b_13 = 103 ∧ vp_in x1 (xL S b_13) ∧ xT S o = 1 ∧ ∃ b_15, (xR S 52 o) = some b_15 ∧ xT S b_15 = 103 ∧ vp_in x1 (xL S b_15) ∧ ∃ b_17, (xQ S b_15 (Int32.toNatClampNeg x1)) = some b_17 ∧ xT S b_17 = 3 ∧ w_X2_home S b_17 (fun (r_19 : Int32) => ∃ b_21, (xQ S b_13 (Int32.toNatClampNeg x1)) = some b_21 ∧ xT S o = 1 ∧ ∃ k_23 n_24, k_23 ≤ k ∧ n_24 ≤ n ∧ w_X0_send k_23 n_24 S o b_21 r_19 (fun (r_25 : Int32) (S_26 : xH) => Q r_25 S_26)))) (fun J_11 => jn0 (J_11 1) (fun J_27 => wif (r_8 = 20) (J_27) (wif (r_8 = 21) (J_27) (xT S o = 1 ∧ w_X0_isHomeShip S o r_8 (-9) (fun (r_30 : Int32) => wif (r_30 = 0) (J_11 0) (J_27)))))))))
theorem hd_X0_letGo : yX0_letGo.cls = "PressedMen" ∧ yX0_letGo.cls ≠ "java/lang/invoke/MethodHandle" ∧ yX0_letGo.cls ≠ "java/lang/invoke/VarHandle" ∧ (parseMethodDescriptor yX0_letGo.desc).map (fun d => d.parameters.length) = some 1 := by decide +kernel
set_option maxHeartbeats 4000000 in
theorem mt_X0_letGo (l : Launch) {D : va_G} {d : Nat → ClassId} {base : Nat} {mc : va_W} {S : xH} {k n : Nat} {o : Nat} {x1 : Int32} {Q : Int32 → xH → Prop} (hw : w_X0_letGo k n S o x1 Q) : Met l yX0_letGo (ws_ yX0_letGo cX0_letGo 4 (some FieldType.int)) (x_rm 4 k n 96) (x_Pc D d base mc S [.ref o, .int x1]) (x_Qi D d base mc (fun r S' => Q r S')) k n (x_A base) := by
  refine x_met (by decide) (Nat.le_of_ble_eq_true rfl) ?_
  intro p e s m below meth c hx hb hml hr hlocks hown hts hz hR hK hin ls hl
  have hown : s.vm.findClass "PressedMen" = some m.cls := hown
  have hl : lv_has ls 4 [(0, .ref o), (1, .int x1)] := hl
  have hS : va_S (x_A base) s.heap s.heap [] := va_S.rf
  have hA : ∀ q : Nat, s.heap.size ≤ q → x_A base q := fun q h => Nat.le_trans hz h
  have hc : 0 + k ≤ k := by omega
  have hs : 0 + n ≤ n := by omega
  unfold w_X0_letGo at hw
  refine lv_aload_n hx hb dX0_letGo_0 rfl (lv_at hl 0 rfl) ?_
  refine lv_iload_n hx hb dX0_letGo_1 rfl (lv_at hl 1 rfl) ?_
  obtain ⟨ha, hw⟩ := hw
  refine x_ci (va_runV (As := [.int x1]) (rest := []) ⟨hx, hb, hml, hown, hts⟩ (mt_X0_isMan l hw) (cwV 1 hts (lw_V q252 q254 qs2 q64 q255) rfl rfl rfl hd_X0_isMan ⟨Nat.le_of_ble_eq_true rfl, Nat.le_of_ble_eq_true rfl⟩) ⟨x_Pc_blind, hR.recv hK (ci := 0) rfl (by decide) ha, x_Pc_pre hR hz hS hK⟩ rfl rfl hl.1 rfl (lv_room (Nat.le_of_ble_eq_true rfl)) dX0_letGo_2 ⟨by show _ ≤ k; omega, by show _ ≤ n; omega⟩) hS (fun r_1 S_2 H locs hp hR hS => ?_)
  have hw := hp.2
  rw [hp.1] at hR
  refine lv_if_ne (tgt := 10) hx hb dX0_letGo_5 (by decide) (fun c_3 => ?_) (fun c_3 => ?_)
  · have hw := x_f hw c_3
    refine lv_aload_n hx hb dX0_letGo_10 rfl (lv_at hl 0 rfl) ?_
    refine x_getR (ci := 0) (C := RX0) (T := TX0) (N := 19) (f := 52) hx hb hts in_X0 hown hK hR rfl 2 (by decide) (hts _ q114) (fun _ h => h) rfl (by decide) dX0_letGo_11 hw.1 ?_
    have hw := hw.2
    refine lv_iload_n hx hb dX0_letGo_14 rfl (lv_at hl 1 rfl) ?_
    obtain ⟨b_4, e_5, hw⟩ := hw
    refine x_dr1 e_5 ?_
    refine x_aald (t := 103) hx hb hK hR (by decide) rfl rfl dX0_letGo_15 hw.1 hw.2.1 ?_
    have hw := hw.2.2
    obtain ⟨b_6, e_7, hw⟩ := hw
    refine x_dr0 e_7 ?_
    obtain ⟨ha, hw⟩ := hw
    refine x_ci (va_runV (As := []) (rest := []) ⟨hx, hb, hml, hown, hts⟩ (mt_X2_place l hw) (cwV 0 hts (lw_V q276 q277 q278 q66 q279) rfl rfl rfl hd_X2_place ⟨Nat.le_of_ble_eq_true rfl, Nat.le_of_ble_eq_true rfl⟩) ⟨x_Pc_blind, hR.recv hK (ci := 2) rfl (by decide) ha, x_Pc_pre hR hz hS hK⟩ rfl rfl hl.1 rfl (lv_room (Nat.le_of_ble_eq_true rfl)) dX0_letGo_16 ⟨by show _ ≤ k; omega, by show _ ≤ n; omega⟩) hS (fun r_8 S_9 H locs hp hR hS => ?_)
    have hw := hp.2
    rw [hp.1] at hR
    refine lv_istore_n (lv' := [(2, .int r_8), (0, .ref o), (1, .int x1)]) hx hb dX0_letGo_19 rfl hl (by decide) rfl (fun ls hl => ?_)
    refine lv_iload_n hx hb dX0_letGo_20 rfl (lv_at hl 0 rfl) ?_
    refine lv_bipush (v := 20) hx hb dX0_letGo_21 (by decide) ?_
    refine x_jn (G := fun (v0_10 : Int32) => ∀ (ls : Array Slot) (H : Heap) (locs : List Loc) (cK nK : Nat), cK + k ≤ k → nK + n ≤ n → x_Rp D d (x_A base) mc S H → va_S (x_A base) s.heap H locs → lv_has ls 4 [(0, .ref o), (1, .int x1)] → W p l e (x_rm 4 k n 96) s m ([.ref o, .int x1] : List Value).toArray below meth c H locs cK nK (MQ below (x_Qi D d base mc (fun r S' => Q r S')) ([.ref o, .int x1] : List Value).toArray s k n (x_A base)) (F0 m 47 ls [.int v0_10])) hw (fun v0_10 hw => ?_) (fun hJ_11 hw => ?_)
    · intro ls H locs cK nK hc hs hR hS hl
      refine lv_istore_n (lv' := [(3, .int v0_10), (0, .ref o), (1, .int x1)]) hx hb dX0_letGo_47 rfl hl (by decide) rfl (fun ls hl => ?_)
      refine lv_iload_n hx hb dX0_letGo_48 rfl (lv_at hl 0 rfl) ?_
      refine lv_if_eq (tgt := 74) hx hb dX0_letGo_49 (by decide) (fun c_12 => ?_) (fun c_12 => ?_)
      · have hw := x_t hw c_12
        refine lv_bipush (v := (-3)) hx hb dX0_letGo_74 (by decide) ?_
        refine W.widen (k := k) (n := n) (by omega) (by omega) ?_
        exact x_ri hx hb hr hlocks hR hS dX0_letGo_76 hw
      · have hw := x_f hw c_12
        refine lv_aload_n hx hb dX0_letGo_52 rfl (lv_at hl 1 rfl) ?_
        refine lv_aload_n hx hb dX0_letGo_53 rfl (lv_at hl 1 rfl) ?_
        refine x_getR (ci := 0) (C := RX0) (T := TX0) (N := 19) (f := 52) hx hb hts in_X0 hown hK hR rfl 2 (by decide) (hts _ q114) (fun _ h => h) rfl (by decide) dX0_letGo_54 hw.1 ?_
        have hw := hw.2
        refine lv_iload_n hx hb dX0_letGo_57 rfl (lv_at hl 2 rfl) ?_
        obtain ⟨b_13, e_14, hw⟩ := hw
        refine x_dr1 e_14 ?_
        refine x_aald (t := 103) hx hb hK hR (by decide) rfl rfl dX0_letGo_58 hw.1 hw.2.1 ?_
        have hw := hw.2.2
        refine lv_aload_n hx hb dX0_letGo_59 rfl (lv_at hl 1 rfl) ?_
        refine x_getR (ci := 0) (C := RX0) (T := TX0) (N := 19) (f := 52) hx hb hts in_X0 hown hK hR rfl 2 (by decide) (hts _ q114) (fun _ h => h) rfl (by decide) dX0_letGo_60 hw.1 ?_
        have hw := hw.2
        refine lv_iload_n hx hb dX0_letGo_63 rfl (lv_at hl 2 rfl) ?_
        obtain ⟨b_15, e_16, hw⟩ := hw
        refine x_dr1 e_16 ?_
        refine x_aald (t := 103) hx hb hK hR (by decide) rfl rfl dX0_letGo_64 hw.1 hw.2.1 ?_
        have hw := hw.2.2
        obtain ⟨b_17, e_18, hw⟩ := hw
        refine x_dr0 e_18 ?_
        obtain ⟨ha, hw⟩ := hw
        refine x_ci (va_runV (As := []) (rest := [va_rf (xQ S b_13 (Int32.toNatClampNeg x1)), .ref o]) ⟨hx, hb, hml, hown, hts⟩ (mt_X2_home l hw) (cwV 0 hts (lw_V q318 q319 q320 q66 q321) rfl rfl rfl hd_X2_home ⟨Nat.le_of_ble_eq_true rfl, Nat.le_of_ble_eq_true rfl⟩) ⟨x_Pc_blind, hR.recv hK (ci := 2) rfl (by decide) ha, x_Pc_pre hR hz hS hK⟩ rfl rfl hl.1 rfl (lv_room (by simp only [List.map_cons, List.map_nil, x_cat]; exact Nat.le_of_ble_eq_true rfl)) dX0_letGo_65 ⟨by show _ ≤ k; omega, by show _ ≤ n; omega⟩) hS (fun r_19 S_20 H locs hp hR hS => ?_)
        have hw := hp.2
        rw [hp.1] at hR
        obtain ⟨b_21, e_22, hw⟩ := hw
        refine x_dr1 e_22 ?_
        obtain ⟨ha, hw⟩ := hw
        obtain ⟨k_23, n_24, h1, h2, hw⟩ := hw
        refine x_ci (va_runV (As := [.ref b_21, .int r_19]) (rest := []) ⟨hx, hb, hml, hown, hts⟩ (mt_X0_send l hw) (cwV 2 hts (lw_V q330 q332 qs7 q64 q333) rfl rfl rfl hd_X0_send ⟨Nat.le_of_ble_eq_true rfl, Nat.le_of_ble_eq_true rfl⟩) ⟨x_Pc_blind, hR.recv hK (ci := 0) rfl (by decide) ha, x_Pc_pre hR hz hS hK⟩ rfl rfl hl.1 rfl (lv_room (Nat.le_of_ble_eq_true rfl)) dX0_letGo_68 ⟨by show _ ≤ k; omega, by show _ ≤ n; omega⟩) hS (fun r_25 S_26 H locs hp hR hS => ?_)
        have hw := hp
        have hc : (cK + k_23) + (k - k_23) ≤ k := by omega
        have hs : (nK + n_24) + (n - n_24) ≤ n := by omega
        refine lv_goto (tgt := 76) hx hb dX0_letGo_71 (by decide) ?_
        refine W.widen (k := k) (n := n) (by omega) (by omega) ?_
        exact x_ri hx hb hr hlocks hR hS dX0_letGo_76 hw
    · refine x_jn0 (G := ∀ (ls : Array Slot) (H : Heap) (locs : List Loc) (cK nK : Nat), cK + k ≤ k → nK + n ≤ n → x_Rp D d (x_A base) mc S H → va_S (x_A base) s.heap H locs → lv_has ls 4 [(0, .ref o), (1, .int x1)] → W p l e (x_rm 4 k n 96) s m ([.ref o, .int x1] : List Value).toArray below meth c H locs cK nK (MQ below (x_Qi D d base mc (fun r S' => Q r S')) ([.ref o, .int x1] : List Value).toArray s k n (x_A base)) (F0 m 42 ls [])) hw (fun hw => ?_) (fun hJ_27 hw => ?_)
      · intro ls H locs cK nK hc hs hR hS hl
        refine lv_iconst (v := 1) hx hb dX0_letGo_42 (by decide) ?_
        refine lv_goto (tgt := 47) hx hb dX0_letGo_43 (by decide) ?_
        exact hJ_11 1 hw ls _ _ _ _ hc hs hR hS (lv_sub hl [0, 1] rfl)
      · refine lv_icmp_eq (tgt := 42) hx hb dX0_letGo_23 (by decide) (fun c_28 => ?_) (fun c_28 => ?_)
        · have hw := x_t hw c_28
          exact hJ_27  hw ls _ _ _ _ hc hs hR hS (lv_sub hl [1, 2] rfl)
        · have hw := x_f hw c_28
          refine lv_iload_n hx hb dX0_letGo_26 rfl (lv_at hl 0 rfl) ?_
          refine lv_bipush (v := 21) hx hb dX0_letGo_27 (by decide) ?_
          refine lv_icmp_eq (tgt := 42) hx hb dX0_letGo_29 (by decide) (fun c_29 => ?_) (fun c_29 => ?_)
          · have hw := x_t hw c_29
            exact hJ_27  hw ls _ _ _ _ hc hs hR hS (lv_sub hl [1, 2] rfl)
          · have hw := x_f hw c_29
            refine lv_aload_n hx hb dX0_letGo_32 rfl (lv_at hl 1 rfl) ?_
            refine lv_iload_n hx hb dX0_letGo_33 rfl (lv_at hl 0 rfl) ?_
            refine lv_bipush (v := (-9)) hx hb dX0_letGo_34 (by decide) ?_
            obtain ⟨ha, hw⟩ := hw
            refine x_ci (va_runV (As := [.int r_8, .int (-9)]) (rest := []) ⟨hx, hb, hml, hown, hts⟩ (mt_X0_isHomeShip l hw) (cwV 2 hts (lw_V q650 q652 qs22 q64 q653) rfl rfl rfl hd_X0_isHomeShip ⟨Nat.le_of_ble_eq_true rfl, Nat.le_of_ble_eq_true rfl⟩) ⟨x_Pc_blind, hR.recv hK (ci := 0) rfl (by decide) ha, x_Pc_pre hR hz hS hK⟩ rfl rfl hl.1 rfl (lv_room (Nat.le_of_ble_eq_true rfl)) dX0_letGo_36 ⟨by show _ ≤ k; omega, by show _ ≤ n; omega⟩) hS (fun r_30 S_31 H locs hp hR hS => ?_)
            have hw := hp.2
            rw [hp.1] at hR
            refine lv_if_eq (tgt := 46) hx hb dX0_letGo_39 (by decide) (fun c_32 => ?_) (fun c_32 => ?_)
            · have hw := x_t hw c_32
              refine lv_iconst (v := 0) hx hb dX0_letGo_46 (by decide) ?_
              exact hJ_11 0 hw ls _ _ _ _ hc hs hR hS (lv_sub hl [1, 2] rfl)
            · have hw := x_f hw c_32
              exact hJ_27  hw ls _ _ _ _ hc hs hR hS (lv_sub hl [1, 2] rfl)
  · have hw := x_t hw c_3
    refine lv_iconst (v := (-1)) hx hb dX0_letGo_8 (by decide) ?_
    refine W.widen (k := k) (n := n) (by omega) (by omega) ?_
    exact x_ri hx hb hr hlocks hR hS dX0_letGo_9 hw
def w_X0_quiet (S : xH) (o : Nat) (Q : Int32 → xH → Prop) : Prop := xT S o = 1 ∧ nm (xI S 63 o) (fun x2_1 : Int32 => lf2 (fun L_4 (x1_2 : Int32) (x2_3 : Int32) => xT S o = 1 ∧ wif ((xI S 62 o) ≤ x2_3) (xT S o = 1 ∧ xT S o = 1 ∧ nm (sI S 63 o (xI S 62 o)) (fun S_6 : xH => Q x1_2 S_6)) (xT S o = 1 ∧ ∃ b_7, (xR S 61 o) = some b_7 ∧ xT S b_7 = 106 ∧ vp_in x2_3 (xL S b_7) ∧ ∃ b_9, (xQ S b_7 (Int32.toNatClampNeg x2_3)) = some b_9 ∧ xT S b_9 = 17 ∧ w_X16_isInStreet S b_9 (fun (r_11 : Int32) => jn (fun (v1_13 : Int32) => nm (x1_2 + v1_13) (fun x1_15 : Int32 => L_4 x1_15 (x2_3 + 1))) (fun J_14 => wif (r_11 = 0) (J_14 0) (J_14 1))))) 0 x2_1)
theorem hd_X0_quiet : yX0_quiet.cls = "PressedMen" ∧ yX0_quiet.cls ≠ "java/lang/invoke/MethodHandle" ∧ yX0_quiet.cls ≠ "java/lang/invoke/VarHandle" ∧ (parseMethodDescriptor yX0_quiet.desc).map (fun d => d.parameters.length) = some 0 := by decide +kernel
set_option maxHeartbeats 4000000 in
theorem mt_X0_quiet (l : Launch) {D : va_G} {d : Nat → ClassId} {base : Nat} {mc : va_W} {S : xH} {o : Nat} {Q : Int32 → xH → Prop} (hw : w_X0_quiet S o Q) : Met l yX0_quiet (ws_ yX0_quiet cX0_quiet 3 (some FieldType.int)) (x_rm 1 0 0 20) (x_Pc D d base mc S [.ref o]) (x_Qi D d base mc (fun r S' => Q r S')) 0 0 (x_A base) := by
  refine x_met (by decide) (Nat.le_of_ble_eq_true rfl) ?_
  intro p e s m below meth c hx hb hml hr hlocks hown hts hz hR hK hin ls hl
  have hown : s.vm.findClass "PressedMen" = some m.cls := hown
  have hl : lv_has ls 3 [(0, .ref o)] := hl
  have hS : va_S (x_A base) s.heap s.heap [] := va_S.rf
  unfold w_X0_quiet at hw
  refine lv_iconst (v := 0) hx hb dX0_quiet_0 (by decide) ?_
  refine lv_istore_n (lv' := [(1, .int 0), (0, .ref o)]) hx hb dX0_quiet_1 rfl hl (by decide) rfl (fun ls hl => ?_)
  refine lv_aload_n hx hb dX0_quiet_2 rfl (lv_at hl 1 rfl) ?_
  refine x_getI (ci := 0) (C := RX0) (T := TX0) (N := 19) (f := 63) hx hb hts in_X0 hown hK hR rfl 13 (by decide) (hts _ q126) (fun _ h => h) rfl (by decide) dX0_quiet_3 hw.1 ?_
  have hw := hw.2
  refine lv_topi (fun x2_1 ex2_1 => ?_)
  have hw := hw x2_1 ex2_1
  refine lv_istore_n (lv' := [(2, .int x2_1), (1, .int 0), (0, .ref o)]) hx hb dX0_quiet_6 rfl hl (by decide) rfl (fun ls hl => ?_)
  refine x_lf2 (G := fun (x1_2 : Int32) (x2_3 : Int32) => ∀ (ls : Array Slot) (H : Heap) (locs : List Loc), x_Rp D d (x_A base) mc S H → va_S (x_A base) s.heap H locs → lv_has ls 3 [(0, .ref o), (1, .int x1_2), (2, .int x2_3)] → W p l e (x_rm 1 0 0 20) s m ([.ref o] : List Value).toArray below meth c H locs 0 0 (MQ below (x_Qi D d base mc (fun r S' => Q r S')) ([.ref o] : List Value).toArray s 0 0 (x_A base)) (F0 m 7 ls [])) hw (fun x1_2 x2_3 hw => ?_) ls _ _ hR hS (lv_sub hl [2, 1, 0] rfl)
  intro ls H locs hR hS hl
  refine lv_iload_n hx hb dX0_quiet_7 rfl (lv_at hl 2 rfl) ?_
  refine lv_aload_n hx hb dX0_quiet_8 rfl (lv_at hl 0 rfl) ?_
  refine x_getI (ci := 0) (C := RX0) (T := TX0) (N := 19) (f := 62) hx hb hts in_X0 hown hK hR rfl 12 (by decide) (hts _ q125) (fun _ h => h) rfl (by decide) dX0_quiet_9 hw.1 ?_
  have hw := hw.2
  refine lv_icmp_ge (tgt := 41) hx hb dX0_quiet_12 (by decide) (fun c_5 => ?_) (fun c_5 => ?_)
  · have hw := x_t hw c_5
    refine lv_aload_n hx hb dX0_quiet_41 rfl (lv_at hl 0 rfl) ?_
    refine lv_aload_n hx hb dX0_quiet_42 rfl (lv_at hl 0 rfl) ?_
    refine x_getI (ci := 0) (C := RX0) (T := TX0) (N := 19) (f := 62) hx hb hts in_X0 hown hK hR rfl 12 (by decide) (hts _ q125) (fun _ h => h) rfl (by decide) dX0_quiet_43 hw.1 ?_
    have hw := hw.2
    refine x_putI (ci := 0) (C := RX0) (T := TX0) (N := 19) (f := 63) hx hb hts in_X0 tyX0 tyX0_ok nmX0 hown hK hR hS rfl 13 (by decide) (hts _ q126) (fun _ h => h) rfl rfl (by decide) rfl rfl dX0_quiet_46 hw.1 (fun H locs hR hS => ?_)
    have hw := hw.2
    obtain ⟨S_6, eS_6⟩ : ∃ z, z = (sI S 63 o (xI S 62 o)) := ⟨_, rfl⟩
    rw [← eS_6] at hR
    have hw := hw S_6 eS_6
    refine lv_iload_n hx hb dX0_quiet_49 rfl (lv_at hl 1 rfl) ?_
    exact x_ri hx hb hr hlocks hR hS dX0_quiet_50 hw
  · have hw := x_f hw c_5
    refine lv_iload_n hx hb dX0_quiet_15 rfl (lv_at hl 1 rfl) ?_
    refine lv_aload_n hx hb dX0_quiet_16 rfl (lv_at hl 0 rfl) ?_
    refine x_getR (ci := 0) (C := RX0) (T := TX0) (N := 19) (f := 61) hx hb hts in_X0 hown hK hR rfl 11 (by decide) (hts _ q124) (fun _ h => h) rfl (by decide) dX0_quiet_17 hw.1 ?_
    have hw := hw.2
    refine lv_iload_n hx hb dX0_quiet_20 rfl (lv_at hl 2 rfl) ?_
    obtain ⟨b_7, e_8, hw⟩ := hw
    refine x_dr1 e_8 ?_
    refine x_aald (t := 106) hx hb hK hR (by decide) rfl rfl dX0_quiet_21 hw.1 hw.2.1 ?_
    have hw := hw.2.2
    obtain ⟨b_9, e_10, hw⟩ := hw
    refine x_dr0 e_10 ?_
    obtain ⟨ha, hw⟩ := hw
    refine x_ci (va_runV (As := []) (rest := [.int x1_2]) ⟨hx, hb, hml, hown, hts⟩ (mt_X16_isInStreet l hw) (cwV 0 hts (lw_V q304 q305 q306 q81 q307) rfl rfl rfl hd_X16_isInStreet ⟨Nat.le_of_ble_eq_true rfl, Nat.le_of_ble_eq_true rfl⟩) ⟨x_Pc_blind, hR.recv hK (ci := 16) rfl (by decide) ha, x_Pc_pre hR hz hS hK⟩ rfl rfl hl.1 rfl (lv_room (Nat.le_of_ble_eq_true rfl)) dX0_quiet_22 ⟨Nat.le_refl _, Nat.le_refl _⟩) hS (fun r_11 S_12 H locs hp hR hS => ?_)
    have hw := hp.2
    rw [hp.1] at hR
    refine x_jn (G := fun (v1_13 : Int32) => ∀ (ls : Array Slot) (H : Heap) (locs : List Loc), x_Rp D d (x_A base) mc S H → va_S (x_A base) s.heap H locs → lv_has ls 3 [(0, .ref o), (2, .int x2_3)] → W p l e (x_rm 1 0 0 20) s m ([.ref o] : List Value).toArray below meth c H locs 0 0 (MQ below (x_Qi D d base mc (fun r S' => Q r S')) ([.ref o] : List Value).toArray s 0 0 (x_A base)) (F0 m 33 ls [.int v1_13, .int x1_2])) hw (fun v1_13 hw => ?_) (fun hJ_14 hw => ?_)
    · intro ls H locs hR hS hl
      refine lv_iadd hx hb dX0_quiet_33 ?_
      refine lv_topi (fun x1_15 ex1_15 => ?_)
      have hw := hw x1_15 ex1_15
      refine lv_istore_n (lv' := [(1, .int x1_15), (0, .ref o), (2, .int x2_3)]) hx hb dX0_quiet_34 rfl hl (by decide) rfl (fun ls hl => ?_)
      refine lv_iinc (v := (x2_3 + 1)) (lv' := [(2, .int (x2_3 + 1)), (1, .int x1_15), (0, .ref o)]) hx hb dX0_quiet_35 hl (k := 2) rfl rfl (by decide) rfl (fun ls hl => ?_)
      refine lv_goto (tgt := 7) hx hb dX0_quiet_38 (by decide) ?_
      exact hw ls _ _ hR hS (lv_sub hl [2, 1, 0] rfl)
    · refine lv_if_eq (tgt := 32) hx hb dX0_quiet_25 (by decide) (fun c_16 => ?_) (fun c_16 => ?_)
      · have hw := x_t hw c_16
        refine lv_iconst (v := 0) hx hb dX0_quiet_32 (by decide) ?_
        exact hJ_14 0 hw ls _ _ hR hS (lv_sub hl [0, 2] rfl)
      · have hw := x_f hw c_16
        refine lv_iconst (v := 1) hx hb dX0_quiet_28 (by decide) ?_
        refine lv_goto (tgt := 33) hx hb dX0_quiet_29 (by decide) ?_
        exact hJ_14 1 hw ls _ _ hR hS (lv_sub hl [0, 2] rfl)
