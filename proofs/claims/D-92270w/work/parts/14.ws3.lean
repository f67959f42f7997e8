set_option maxRecDepth 100000
def w_X0_heard (k n : Nat) (S : xH) (o : Nat) (x1 : Int32) (Q : Int32 → xH → Prop) : Prop := xT S o = 1 ∧ w_X0_isStreet S o x1 (fun (r_1 : Int32) => wif (r_1 = 0) (Q (-1) S) (xT S o = 1 ∧ ∃ k_4 n_5, k_4 ≤ k ∧ n_5 ≤ n ∧ w_X0_heardBy k_4 n_5 S o x1 (fun (r_6 : Int32) (S_7 : xH) => Q r_6 S_7)))
theorem hd_X0_heard : yX0_heard.cls = "PressedMen" ∧ yX0_heard.cls ≠ "java/lang/invoke/MethodHandle" ∧ yX0_heard.cls ≠ "java/lang/invoke/VarHandle" ∧ (parseMethodDescriptor yX0_heard.desc).map (fun d => d.parameters.length) = some 1 := by decide +kernel
set_option maxHeartbeats 4000000 in
theorem mt_X0_heard (l : Launch) {D : va_G} {d : Nat → ClassId} {base : Nat} {mc : va_W} {S : xH} {k n : Nat} {o : Nat} {x1 : Int32} {Q : Int32 → xH → Prop} (hw : w_X0_heard k n S o x1 Q) : Met l yX0_heard (ws_ yX0_heard cX0_heard 2 (some FieldType.int)) (x_rm 2 k n 55) (x_Pc D d base mc S [.ref o, .int x1]) (x_Qi D d base mc (fun r S' => Q r S')) k n (x_A base) := by
  refine x_met (by decide) (Nat.le_of_ble_eq_true rfl) ?_
  intro p e s m below meth c hx hb hml hr hlocks hown hts hz hR hK hin ls hl
  have hown : s.vm.findClass "PressedMen" = some m.cls := hown
  have hl : lv_has ls 2 [(0, .ref o), (1, .int x1)] := hl
  have hS : va_S (x_A base) s.heap s.heap [] := va_S.rf
  have hA : ∀ q : Nat, s.heap.size ≤ q → x_A base q := fun q h => Nat.le_trans hz h
  have hc : 0 + k ≤ k := by omega
  have hs : 0 + n ≤ n := by omega
  unfold w_X0_heard at hw
  refine lv_aload_n hx hb dX0_heard_0 rfl (lv_at hl 0 rfl) ?_
  refine lv_iload_n hx hb dX0_heard_1 rfl (lv_at hl 1 rfl) ?_
  obtain ⟨ha, hw⟩ := hw
  refine x_ci (va_runV (As := [.int x1]) (rest := []) ⟨hx, hb, hml, hown, hts⟩ (mt_X0_isStreet l hw) (cwV 1 hts (lw_V q181 q183 qs0 q64 q184) rfl rfl rfl hd_X0_isStreet ⟨Nat.le_of_ble_eq_true rfl, Nat.le_of_ble_eq_true rfl⟩) ⟨x_Pc_blind, hR.recv hK (ci := 0) rfl (by decide) ha, x_Pc_pre hR hz hS hK⟩ rfl rfl hl.1 rfl (lv_room (Nat.le_of_ble_eq_true rfl)) dX0_heard_2 ⟨by show _ ≤ k; omega, by show _ ≤ n; omega⟩) hS (fun r_1 S_2 H locs hp hR hS => ?_)
  have hw := hp.2
  rw [hp.1] at hR
  refine lv_if_eq (tgt := 16) hx hb dX0_heard_5 (by decide) (fun c_3 => ?_) (fun c_3 => ?_)
  · have hw := x_t hw c_3
    refine lv_iconst (v := (-1)) hx hb dX0_heard_16 (by decide) ?_
    refine W.widen (k := k) (n := n) (by omega) (by omega) ?_
    exact x_ri hx hb hr hlocks hR hS dX0_heard_17 hw
  · have hw := x_f hw c_3
    refine lv_aload_n hx hb dX0_heard_8 rfl (lv_at hl 0 rfl) ?_
    refine lv_iload_n hx hb dX0_heard_9 rfl (lv_at hl 1 rfl) ?_
    obtain ⟨ha, hw⟩ := hw
    obtain ⟨k_4, n_5, h1, h2, hw⟩ := hw
    refine x_ci (va_runV (As := [.int x1]) (rest := []) ⟨hx, hb, hml, hown, hts⟩ (mt_X0_heardBy l hw) (cwV 1 hts (lw_V q300 q302 qs6 q64 q303) rfl rfl rfl hd_X0_heardBy ⟨Nat.le_of_ble_eq_true rfl, Nat.le_of_ble_eq_true rfl⟩) ⟨x_Pc_blind, hR.recv hK (ci := 0) rfl (by decide) ha, x_Pc_pre hR hz hS hK⟩ rfl rfl hl.1 rfl (lv_room (Nat.le_of_ble_eq_true rfl)) dX0_heard_10 ⟨by show _ ≤ k; omega, by show _ ≤ n; omega⟩) hS (fun r_6 S_7 H locs hp hR hS => ?_)
    have hw := hp
    have hc : (0 + k_4) + (k - k_4) ≤ k := by omega
    have hs : (0 + n_5) + (n - n_5) ≤ n := by omega
    refine lv_goto (tgt := 17) hx hb dX0_heard_13 (by decide) ?_
    refine W.widen (k := k) (n := n) (by omega) (by omega) ?_
    exact x_ri hx hb hr hlocks hR hS dX0_heard_17 hw
def w_X0_tender (S : xH) (o : Nat) (x1 : Int32) (x2 : Int32) (Q : Int32 → xH → Prop) : Prop := jn0 (jn (fun (v0_2 : Int32) => wif (x1 = 0) (xT S o = 1 ∧ nm (sI S 55 o x2) (fun S_6 : xH => Q v0_2 S_6)) (xT S o = 1 ∧ nm (sI S 56 o x2) (fun S_5 : xH => Q v0_2 S_5))) (fun J_3 => wif (x1 = 0) (xT S o = 1 ∧ J_3 (xI S 55 o)) (xT S o = 1 ∧ J_3 (xI S 56 o)))) (fun J_1 => jn0 (wif (x1 = 1) (w_X0_isIn S x2 0 100 (fun (r_10 : Int32) => wif (r_10 = 0) (Q (-2) S) (J_1))) (Q (-2) S)) (fun J_8 => wif (x1 = 0) (w_X0_isIn S x2 0 40 (fun (r_14 : Int32) => wif (r_14 = 0) (J_8) (J_1))) (J_8)))
theorem hd_X0_tender : yX0_tender.cls = "PressedMen" ∧ yX0_tender.cls ≠ "java/lang/invoke/MethodHandle" ∧ yX0_tender.cls ≠ "java/lang/invoke/VarHandle" ∧ (parseMethodDescriptor yX0_tender.desc).map (fun d => d.parameters.length) = some 2 := by decide +kernel
set_option maxHeartbeats 4000000 in
theorem mt_X0_tender (l : Launch) {D : va_G} {d : Nat → ClassId} {base : Nat} {mc : va_W} {S : xH} {o : Nat} {x1 : Int32} {x2 : Int32} {Q : Int32 → xH → Prop} (hw : w_X0_tender S o x1 x2 Q) : Met l yX0_tender (ws_ yX0_tender cX0_tender 4 (some FieldType.int)) (x_rm 1 0 0 22) (x_Pc D d base mc S [.ref o, .int x1, .int x2]) (x_Qi D d base mc (fun r S' => Q r S')) 0 0 (x_A base) := by
  refine x_met (by decide) (Nat.le_of_ble_eq_true rfl) ?_
  intro p e s m below meth c hx hb hml hr hlocks hown hts hz hR hK hin ls hl
  have hown : s.vm.findClass "PressedMen" = some m.cls := hown
  have hl : lv_has ls 4 [(0, .ref o), (1, .int x1), (2, .int x2)] := hl
  have hS : va_S (x_A base) s.heap s.heap [] := va_S.rf
  unfold w_X0_tender at hw
  refine lv_iload_n hx hb dX0_tender_0 rfl (lv_at hl 1 rfl) ?_
  refine x_jn0 (G := ∀ (ls : Array Slot) (H : Heap) (locs : List Loc), x_Rp D d (x_A base) mc S H → va_S (x_A base) s.heap H locs → lv_has ls 4 [(0, .ref o), (1, .int x1), (2, .int x2)] → W p l e (x_rm 1 0 0 22) s m ([.ref o, .int x1, .int x2] : List Value).toArray below meth c H locs 0 0 (MQ below (x_Qi D d base mc (fun r S' => Q r S')) ([.ref o, .int x1, .int x2] : List Value).toArray s 0 0 (x_A base)) (F0 m 32 ls [])) hw (fun hw => ?_) (fun hJ_1 hw => ?_)
  · intro ls H locs hR hS hl
    refine lv_iload_n hx hb dX0_tender_32 rfl (lv_at hl 1 rfl) ?_
    refine x_jn (G := fun (v0_2 : Int32) => ∀ (ls : Array Slot) (H : Heap) (locs : List Loc), x_Rp D d (x_A base) mc S H → va_S (x_A base) s.heap H locs → lv_has ls 4 [(0, .ref o), (1, .int x1), (2, .int x2)] → W p l e (x_rm 1 0 0 22) s m ([.ref o, .int x1, .int x2] : List Value).toArray below meth c H locs 0 0 (MQ below (x_Qi D d base mc (fun r S' => Q r S')) ([.ref o, .int x1, .int x2] : List Value).toArray s 0 0 (x_A base)) (F0 m 47 ls [.int v0_2])) hw (fun v0_2 hw => ?_) (fun hJ_3 hw => ?_)
    · intro ls H locs hR hS hl
      refine lv_istore_n (lv' := [(3, .int v0_2), (0, .ref o), (1, .int x1), (2, .int x2)]) hx hb dX0_tender_47 rfl hl (by decide) rfl (fun ls hl => ?_)
      refine lv_iload_n hx hb dX0_tender_48 rfl (lv_at hl 2 rfl) ?_
      refine lv_if_ne (tgt := 60) hx hb dX0_tender_49 (by decide) (fun c_4 => ?_) (fun c_4 => ?_)
      · have hw := x_f hw c_4
        refine lv_aload_n hx hb dX0_tender_60 rfl (lv_at hl 1 rfl) ?_
        refine lv_iload_n hx hb dX0_tender_61 rfl (lv_at hl 3 rfl) ?_
        refine x_putI (ci := 0) (C := RX0) (T := TX0) (N := 19) (f := 56) hx hb hts in_X0 tyX0 tyX0_ok nmX0 hown hK hR hS rfl 6 (by decide) (hts _ q119) (fun _ h => h) rfl rfl (by decide) rfl rfl dX0_tender_62 hw.1 (fun H locs hR hS => ?_)
        have hw := hw.2
        obtain ⟨S_5, eS_5⟩ : ∃ z, z = (sI S 56 o x2) := ⟨_, rfl⟩
        rw [← eS_5] at hR
        have hw := hw S_5 eS_5
        refine lv_iload_n hx hb dX0_tender_65 rfl (lv_at hl 0 rfl) ?_
        exact x_ri hx hb hr hlocks hR hS dX0_tender_66 hw
      · have hw := x_t hw c_4
        refine lv_aload_n hx hb dX0_tender_52 rfl (lv_at hl 1 rfl) ?_
        refine lv_iload_n hx hb dX0_tender_53 rfl (lv_at hl 3 rfl) ?_
        refine x_putI (ci := 0) (C := RX0) (T := TX0) (N := 19) (f := 55) hx hb hts in_X0 tyX0 tyX0_ok nmX0 hown hK hR hS rfl 5 (by decide) (hts _ q118) (fun _ h => h) rfl rfl (by decide) rfl rfl dX0_tender_54 hw.1 (fun H locs hR hS => ?_)
        have hw := hw.2
        obtain ⟨S_6, eS_6⟩ : ∃ z, z = (sI S 55 o x2) := ⟨_, rfl⟩
        rw [← eS_6] at hR
        have hw := hw S_6 eS_6
        refine lv_goto (tgt := 65) hx hb dX0_tender_57 (by decide) ?_
        refine lv_iload_n hx hb dX0_tender_65 rfl (lv_at hl 0 rfl) ?_
        exact x_ri hx hb hr hlocks hR hS dX0_tender_66 hw
    · refine lv_if_ne (tgt := 43) hx hb dX0_tender_33 (by decide) (fun c_7 => ?_) (fun c_7 => ?_)
      · have hw := x_f hw c_7
        refine lv_aload_n hx hb dX0_tender_43 rfl (lv_at hl 0 rfl) ?_
        refine x_getI (ci := 0) (C := RX0) (T := TX0) (N := 19) (f := 56) hx hb hts in_X0 hown hK hR rfl 6 (by decide) (hts _ q119) (fun _ h => h) rfl (by decide) dX0_tender_44 hw.1 ?_
        have hw := hw.2
        exact hJ_3 (xI S 56 o) hw ls _ _ hR hS (lv_sub hl [0, 1, 2] rfl)
      · have hw := x_t hw c_7
        refine lv_aload_n hx hb dX0_tender_36 rfl (lv_at hl 0 rfl) ?_
        refine x_getI (ci := 0) (C := RX0) (T := TX0) (N := 19) (f := 55) hx hb hts in_X0 hown hK hR rfl 5 (by decide) (hts _ q118) (fun _ h => h) rfl (by decide) dX0_tender_37 hw.1 ?_
        have hw := hw.2
        refine lv_goto (tgt := 47) hx hb dX0_tender_40 (by decide) ?_
        exact hJ_3 (xI S 55 o) hw ls _ _ hR hS (lv_sub hl [0, 1, 2] rfl)
  · refine x_jn0 (G := ∀ (ls : Array Slot) (H : Heap) (locs : List Loc), x_Rp D d (x_A base) mc S H → va_S (x_A base) s.heap H locs → lv_has ls 4 [(0, .ref o), (1, .int x1), (2, .int x2)] → W p l e (x_rm 1 0 0 22) s m ([.ref o, .int x1, .int x2] : List Value).toArray below meth c H locs 0 0 (MQ below (x_Qi D d base mc (fun r S' => Q r S')) ([.ref o, .int x1, .int x2] : List Value).toArray s 0 0 (x_A base)) (F0 m 14 ls [])) hw (fun hw => ?_) (fun hJ_8 hw => ?_)
    · intro ls H locs hR hS hl
      refine lv_iload_n hx hb dX0_tender_14 rfl (lv_at hl 1 rfl) ?_
      refine lv_iconst (v := 1) hx hb dX0_tender_15 (by decide) ?_
      refine lv_icmp_ne (tgt := 29) hx hb dX0_tender_16 (by decide) (fun c_9 => ?_) (fun c_9 => ?_)
      · have hw := x_f hw c_9
        refine lv_bipush (v := (-2)) hx hb dX0_tender_29 (by decide) ?_
        exact x_ri hx hb hr hlocks hR hS dX0_tender_31 hw
      · have hw := x_t hw c_9
        refine lv_iload_n hx hb dX0_tender_19 rfl (lv_at hl 2 rfl) ?_
        refine lv_iconst (v := 0) hx hb dX0_tender_20 (by decide) ?_
        refine lv_bipush (v := 100) hx hb dX0_tender_21 (by decide) ?_
        refine x_ci (va_runS (As := [.int x2, .int 0, .int 100]) (rest := []) ⟨hx, hb, hml, hown, hts⟩ (mt_X0_isIn l hw) (va_cwS 3 hts (lw_S q178 q179 q64 q180) rfl rfl rfl hd_X0_isIn.2 ⟨Nat.le_of_ble_eq_true rfl, Nat.le_of_ble_eq_true rfl⟩) ⟨x_Pc_blind, x_Pc_pre hR hz hS hK⟩ rfl rfl hl.1 rfl (lv_room (Nat.le_of_ble_eq_true rfl)) dX0_tender_23 ⟨Nat.le_refl _, Nat.le_refl _⟩) hS (fun r_10 S_11 H locs hp hR hS => ?_)
        have hw := hp.2
        rw [hp.1] at hR
        refine lv_if_ne (tgt := 32) hx hb dX0_tender_26 (by decide) (fun c_12 => ?_) (fun c_12 => ?_)
        · have hw := x_f hw c_12
          exact hJ_1  hw ls _ _ hR hS (lv_sub hl [0, 1, 2] rfl)
        · have hw := x_t hw c_12
          refine lv_bipush (v := (-2)) hx hb dX0_tender_29 (by decide) ?_
          exact x_ri hx hb hr hlocks hR hS dX0_tender_31 hw
    · refine lv_if_ne (tgt := 14) hx hb dX0_tender_1 (by decide) (fun c_13 => ?_) (fun c_13 => ?_)
      · have hw := x_f hw c_13
        exact hJ_8  hw ls _ _ hR hS (lv_sub hl [0, 1, 2] rfl)
      · have hw := x_t hw c_13
        refine lv_iload_n hx hb dX0_tender_4 rfl (lv_at hl 2 rfl) ?_
        refine lv_iconst (v := 0) hx hb dX0_tender_5 (by decide) ?_
        refine lv_bipush (v := 40) hx hb dX0_tender_6 (by decide) ?_
        refine x_ci (va_runS (As := [.int x2, .int 0, .int 40]) (rest := []) ⟨hx, hb, hml, hown, hts⟩ (mt_X0_isIn l hw) (va_cwS 3 hts (lw_S q178 q179 q64 q180) rfl rfl rfl hd_X0_isIn.2 ⟨Nat.le_of_ble_eq_true rfl, Nat.le_of_ble_eq_true rfl⟩) ⟨x_Pc_blind, x_Pc_pre hR hz hS hK⟩ rfl rfl hl.1 rfl (lv_room (Nat.le_of_ble_eq_true rfl)) dX0_tender_8 ⟨Nat.le_refl _, Nat.le_refl _⟩) hS (fun r_14 S_15 H locs hp hR hS => ?_)
        have hw := hp.2
        rw [hp.1] at hR
        refine lv_if_ne (tgt := 32) hx hb dX0_tender_11 (by decide) (fun c_16 => ?_) (fun c_16 => ?_)
        · have hw := x_f hw c_16
          exact hJ_1  hw ls _ _ hR hS (lv_sub hl [0, 1, 2] rfl)
        · have hw := x_t hw c_16
          exact hJ_8  hw ls _ _ hR hS (lv_sub hl [0, 1, 2] rfl)
def w_X17_hasHeardBy (S : xH) (o : Nat) (x1 : Int32) (x2 : Int32) (Q : Int32 → Prop) : Prop := lf2 (fun L_3 (x3_1 : Int32) (x4_2 : Int32) => xT S o = 18 ∧ ∃ b_4, (xR S 909 o) = some b_4 ∧ xT S b_4 = 1 ∧ wif ((xI S 50 b_4) ≤ x4_2) (x_B x3_1 ∧ Q x3_1) (xT S o = 18 ∧ ∃ b_7, (xR S 908 o) = some b_7 ∧ xT S b_7 = 101 ∧ vp_in x4_2 (xL S b_7) ∧ jn (fun (v1_9 : Int32) => nm (x3_1 ||| v1_9) (fun x3_11 : Int32 => L_3 x3_11 (x4_2 + 1))) (fun J_10 => jn0 (J_10 0) (fun J_12 => wif (x2 ≤ (xA S b_7 (Int32.toNatClampNeg x4_2))) (J_12) (xT S o = 18 ∧ ∃ b_14, (xR S 903 o) = some b_14 ∧ xT S b_14 = 110 ∧ vp_in x4_2 (xL S b_14) ∧ ∃ b_16, (xQ S b_14 (Int32.toNatClampNeg x4_2)) = some b_16 ∧ xT S b_16 = 101 ∧ vp_in x1 (xL S b_16) ∧ wif ((xA S b_16 (Int32.toNatClampNeg x1)) = (-9)) (J_12) (xT S o = 18 ∧ ∃ b_19, (xR S 903 o) = some b_19 ∧ xT S b_19 = 110 ∧ vp_in x4_2 (xL S b_19) ∧ ∃ b_21, (xQ S b_19 (Int32.toNatClampNeg x4_2)) = some b_21 ∧ xT S b_21 = 101 ∧ vp_in x1 (xL S b_21) ∧ xT S o = 18 ∧ ∃ b_23, (xR S 908 o) = some b_23 ∧ xT S b_23 = 101 ∧ vp_in x4_2 (xL S b_23) ∧ wif ((x2 - (xA S b_23 (Int32.toNatClampNeg x4_2))) < (xA S b_21 (Int32.toNatClampNeg x1))) (J_12) (J_10 1))))))) 0 0
theorem hd_X17_hasHeardBy : yX17_hasHeardBy.cls = "PressedMen$Laying" ∧ yX17_hasHeardBy.cls ≠ "java/lang/invoke/MethodHandle" ∧ yX17_hasHeardBy.cls ≠ "java/lang/invoke/VarHandle" ∧ (parseMethodDescriptor yX17_hasHeardBy.desc).map (fun d => d.parameters.length) = some 2 := by decide +kernel
set_option maxHeartbeats 4000000 in
theorem mt_X17_hasHeardBy (l : Launch) {D : va_G} {d : Nat → ClassId} {base : Nat} {mc : va_W} {S : xH} {o : Nat} {x1 : Int32} {x2 : Int32} {Q : Int32 → Prop} (hw : w_X17_hasHeardBy S o x1 x2 Q) : Met l yX17_hasHeardBy (ws_ yX17_hasHeardBy cX17_hasHeardBy 5 (some FieldType.boolean)) (x_rm 0 0 0 0) (x_Pc D d base mc S [.ref o, .int x1, .int x2]) (x_Qi D d base mc (fun r S' => S' = S ∧ Q r)) 0 0 (x_A base) := by
  refine x_met (by decide) (Nat.le_of_ble_eq_true rfl) ?_
  intro p e s m below meth c hx hb hml hr hlocks hown hts hz hR hK hin ls hl
  have hown : s.vm.findClass "PressedMen$Laying" = some m.cls := hown
  have hl : lv_has ls 5 [(0, .ref o), (1, .int x1), (2, .int x2)] := hl
  have hS : va_S (x_A base) s.heap s.heap [] := va_S.rf
  unfold w_X17_hasHeardBy at hw
  refine lv_iconst (v := 0) hx hb dX17_hasHeardBy_0 (by decide) ?_
  refine lv_istore_n (lv' := [(3, .int 0), (0, .ref o), (1, .int x1), (2, .int x2)]) hx hb dX17_hasHeardBy_1 rfl hl (by decide) rfl (fun ls hl => ?_)
  refine lv_iconst (v := 0) hx hb dX17_hasHeardBy_2 (by decide) ?_
  refine lv_istore (lv' := [(4, .int 0), (3, .int 0), (0, .ref o), (1, .int x1), (2, .int x2)]) hx hb dX17_hasHeardBy_3 hl (by decide) rfl (fun ls hl => ?_)
  refine x_lf2 (G := fun (x3_1 : Int32) (x4_2 : Int32) => ∀ (ls : Array Slot) (H : Heap) (locs : List Loc), x_Rp D d (x_A base) mc S H → va_S (x_A base) s.heap H locs → lv_has ls 5 [(0, .ref o), (1, .int x1), (2, .int x2), (3, .int x3_1), (4, .int x4_2)] → W p l e (x_rm 0 0 0 0) s m ([.ref o, .int x1, .int x2] : List Value).toArray below meth c H locs 0 0 (MQ below (x_Qi D d base mc (fun r S' => S' = S ∧ Q r)) ([.ref o, .int x1, .int x2] : List Value).toArray s 0 0 (x_A base)) (F0 m 5 ls [])) hw (fun x3_1 x4_2 hw => ?_) ls _ _ hR hS (lv_sub hl [2, 3, 4, 1, 0] rfl)
  intro ls H locs hR hS hl
  refine lv_iload hx hb dX17_hasHeardBy_5 (lv_at hl 4 rfl) ?_
  refine lv_aload_n hx hb dX17_hasHeardBy_7 rfl (lv_at hl 0 rfl) ?_
  refine x_getR (ci := 17) (C := RX17) (T := TX17) (N := 10) (f := 909) hx hb hts in_X17 hown hK hR rfl 9 (by decide) (hts _ q763) (fun _ h => h) rfl (by decide) dX17_hasHeardBy_8 hw.1 ?_
  have hw := hw.2
  obtain ⟨b_4, e_5, hw⟩ := hw
  refine x_dr0 e_5 ?_
  refine x_getNI (ci := 0) (C := RX0) (T := TX0) (N := 19) (f := 50) hx hb hts in_X0 hown hK hR rfl 0 (by decide) (hK.2 _ q109 rfl) (fun _ h => h) rfl (by decide) dX17_hasHeardBy_11 hw.1 ?_
  have hw := hw.2
  refine lv_icmp_ge (tgt := 77) hx hb dX17_hasHeardBy_14 (by decide) (fun c_6 => ?_) (fun c_6 => ?_)
  · have hw := x_t hw c_6
    refine lv_iload_n hx hb dX17_hasHeardBy_77 rfl (lv_at hl 3 rfl) ?_
    exact x_rz hx hb hr hlocks hR hS dX17_hasHeardBy_78 hw.1 ⟨rfl, hw.2⟩
  · have hw := x_f hw c_6
    refine lv_iload_n hx hb dX17_hasHeardBy_17 rfl (lv_at hl 3 rfl) ?_
    refine lv_aload_n hx hb dX17_hasHeardBy_18 rfl (lv_at hl 0 rfl) ?_
    refine x_getR (ci := 17) (C := RX17) (T := TX17) (N := 10) (f := 908) hx hb hts in_X17 hown hK hR rfl 8 (by decide) (hts _ q762) (fun _ h => h) rfl (by decide) dX17_hasHeardBy_19 hw.1 ?_
    have hw := hw.2
    refine lv_iload hx hb dX17_hasHeardBy_22 (lv_at hl 4 rfl) ?_
    obtain ⟨b_7, e_8, hw⟩ := hw
    refine x_dr1 e_8 ?_
    refine x_iald hx hb hK hR dX17_hasHeardBy_24 hw.1 hw.2.1 ?_
    have hw := hw.2.2
    refine lv_iload_n hx hb dX17_hasHeardBy_25 rfl (lv_at hl 2 rfl) ?_
    refine x_jn (G := fun (v1_9 : Int32) => ∀ (ls : Array Slot) (H : Heap) (locs : List Loc), x_Rp D d (x_A base) mc S H → va_S (x_A base) s.heap H locs → lv_has ls 5 [(0, .ref o), (1, .int x1), (2, .int x2), (4, .int x4_2)] → W p l e (x_rm 0 0 0 0) s m ([.ref o, .int x1, .int x2] : List Value).toArray below meth c H locs 0 0 (MQ below (x_Qi D d base mc (fun r S' => S' = S ∧ Q r)) ([.ref o, .int x1, .int x2] : List Value).toArray s 0 0 (x_A base)) (F0 m 69 ls [.int v1_9, .int x3_1])) hw (fun v1_9 hw => ?_) (fun hJ_10 hw => ?_)
    · intro ls H locs hR hS hl
      refine lv_ior hx hb dX17_hasHeardBy_69 ?_
      refine lv_topi (fun x3_11 ex3_11 => ?_)
      have hw := hw x3_11 ex3_11
      refine lv_istore_n (lv' := [(3, .int x3_11), (0, .ref o), (1, .int x1), (2, .int x2), (4, .int x4_2)]) hx hb dX17_hasHeardBy_70 rfl hl (by decide) rfl (fun ls hl => ?_)
      refine lv_iinc (v := (x4_2 + 1)) (lv' := [(4, .int (x4_2 + 1)), (3, .int x3_11), (0, .ref o), (1, .int x1), (2, .int x2)]) hx hb dX17_hasHeardBy_71 hl (k := 4) rfl rfl (by decide) rfl (fun ls hl => ?_)
      refine lv_goto (tgt := 5) hx hb dX17_hasHeardBy_74 (by decide) ?_
      exact hw ls _ _ hR hS (lv_sub hl [2, 3, 4, 1, 0] rfl)
    · refine x_jn0 (G := ∀ (ls : Array Slot) (H : Heap) (locs : List Loc), x_Rp D d (x_A base) mc S H → va_S (x_A base) s.heap H locs → lv_has ls 5 [(0, .ref o), (1, .int x1), (2, .int x2), (4, .int x4_2)] → W p l e (x_rm 0 0 0 0) s m ([.ref o, .int x1, .int x2] : List Value).toArray below meth c H locs 0 0 (MQ below (x_Qi D d base mc (fun r S' => S' = S ∧ Q r)) ([.ref o, .int x1, .int x2] : List Value).toArray s 0 0 (x_A base)) (F0 m 68 ls [.int x3_1])) hw (fun hw => ?_) (fun hJ_12 hw => ?_)
      · intro ls H locs hR hS hl
        refine lv_iconst (v := 0) hx hb dX17_hasHeardBy_68 (by decide) ?_
        exact hJ_10 0 hw ls _ _ hR hS (lv_sub hl [0, 1, 2, 3] rfl)
      · refine lv_icmp_ge (tgt := 68) hx hb dX17_hasHeardBy_26 (by decide) (fun c_13 => ?_) (fun c_13 => ?_)
        · have hw := x_t hw c_13
          exact hJ_12  hw ls _ _ hR hS (lv_sub hl [0, 1, 2, 4] rfl)
        · have hw := x_f hw c_13
          refine lv_aload_n hx hb dX17_hasHeardBy_29 rfl (lv_at hl 0 rfl) ?_
          refine x_getR (ci := 17) (C := RX17) (T := TX17) (N := 10) (f := 903) hx hb hts in_X17 hown hK hR rfl 3 (by decide) (hts _ q755) (fun _ h => h) rfl (by decide) dX17_hasHeardBy_30 hw.1 ?_
          have hw := hw.2
          refine lv_iload hx hb dX17_hasHeardBy_33 (lv_at hl 4 rfl) ?_
          obtain ⟨b_14, e_15, hw⟩ := hw
          refine x_dr1 e_15 ?_
          refine x_aald (t := 110) hx hb hK hR (by decide) rfl rfl dX17_hasHeardBy_35 hw.1 hw.2.1 ?_
          have hw := hw.2.2
          refine lv_iload_n hx hb dX17_hasHeardBy_36 rfl (lv_at hl 1 rfl) ?_
          obtain ⟨b_16, e_17, hw⟩ := hw
          refine x_dr1 e_17 ?_
          refine x_iald hx hb hK hR dX17_hasHeardBy_37 hw.1 hw.2.1 ?_
          have hw := hw.2.2
          refine lv_bipush (v := (-9)) hx hb dX17_hasHeardBy_38 (by decide) ?_
          refine lv_icmp_eq (tgt := 68) hx hb dX17_hasHeardBy_40 (by decide) (fun c_18 => ?_) (fun c_18 => ?_)
          · have hw := x_t hw c_18
            exact hJ_12  hw ls _ _ hR hS (lv_sub hl [0, 1, 2, 4] rfl)
          · have hw := x_f hw c_18
            refine lv_aload_n hx hb dX17_hasHeardBy_43 rfl (lv_at hl 0 rfl) ?_
            refine x_getR (ci := 17) (C := RX17) (T := TX17) (N := 10) (f := 903) hx hb hts in_X17 hown hK hR rfl 3 (by decide) (hts _ q755) (fun _ h => h) rfl (by decide) dX17_hasHeardBy_44 hw.1 ?_
            have hw := hw.2
            refine lv_iload hx hb dX17_hasHeardBy_47 (lv_at hl 4 rfl) ?_
            obtain ⟨b_19, e_20, hw⟩ := hw
            refine x_dr1 e_20 ?_
            refine x_aald (t := 110) hx hb hK hR (by decide) rfl rfl dX17_hasHeardBy_49 hw.1 hw.2.1 ?_
            have hw := hw.2.2
            refine lv_iload_n hx hb dX17_hasHeardBy_50 rfl (lv_at hl 1 rfl) ?_
            obtain ⟨b_21, e_22, hw⟩ := hw
            refine x_dr1 e_22 ?_
            refine x_iald hx hb hK hR dX17_hasHeardBy_51 hw.1 hw.2.1 ?_
            have hw := hw.2.2
            refine lv_iload_n hx hb dX17_hasHeardBy_52 rfl (lv_at hl 2 rfl) ?_
            refine lv_aload_n hx hb dX17_hasHeardBy_53 rfl (lv_at hl 0 rfl) ?_
            refine x_getR (ci := 17) (C := RX17) (T := TX17) (N := 10) (f := 908) hx hb hts in_X17 hown hK hR rfl 8 (by decide) (hts _ q762) (fun _ h => h) rfl (by decide) dX17_hasHeardBy_54 hw.1 ?_
            have hw := hw.2
            refine lv_iload hx hb dX17_hasHeardBy_57 (lv_at hl 4 rfl) ?_
            obtain ⟨b_23, e_24, hw⟩ := hw
            refine x_dr1 e_24 ?_
            refine x_iald hx hb hK hR dX17_hasHeardBy_59 hw.1 hw.2.1 ?_
            have hw := hw.2.2
            refine lv_isub hx hb dX17_hasHeardBy_60 ?_
            refine lv_icmp_gt (tgt := 68) hx hb dX17_hasHeardBy_61 (by decide) (fun c_25 => ?_) (fun c_25 => ?_)
            · have hw := x_t hw c_25
              exact hJ_12  hw ls _ _ hR hS (lv_sub hl [0, 1, 2, 4] rfl)
            · have hw := x_f hw c_25
              refine lv_iconst (v := 1) hx hb dX17_hasHeardBy_64 (by decide) ?_
              refine lv_goto (tgt := 69) hx hb dX17_hasHeardBy_65 (by decide) ?_
              exact hJ_10 1 hw ls _ _ hR hS (lv_sub hl [0, 1, 2, 4] rfl)
def w_X17_judge (S : xH) (o : Nat) (Q : xH → Prop) : Prop := lf2 (fun L_3 (x1_1 : Int32) (S_2 : xH) => xT S_2 o = 18 ∧ ∃ b_4, (xR S_2 909 o) = some b_4 ∧ xT S_2 b_4 = 1 ∧ wif ((xI S_2 50 b_4) ≤ x1_1) (lf3 (fun L_10 (x1_7 : Int32) (x2_8 : Int32) (S_9 : xH) => xT S_9 o = 18 ∧ wif ((xI S_9 901 o) ≤ x2_8) (xT S_9 o = 18 ∧ wif (x1_7 ≤ (xI S_9 906 o)) (Q S_9) (xT S_9 o = 18 ∧ nm (sI S_9 906 o x1_7) (fun S_13 : xH => xT S_13 o = 18 ∧ xT S_13 o = 18 ∧ xT S_13 o = 18 ∧ ∃ b_14, (xR S_13 904 o) = some b_14 ∧ xT S_13 b_14 = 101 ∧ ∃ b_16, (xR S_13 904 o) = some b_16 ∧ ∃ b_18, (xR S_13 905 o) = some b_18 ∧ xT S_13 b_16 = 101 ∧ xT S_13 b_18 = 101 ∧ ¬ (0 : Int32) < 0 ∧ ¬ (0 : Int32) < 0 ∧ ¬ ((nI (xL S_13 b_14)) : Int32) < 0 ∧ (Int32.toNatClampNeg 0) + (Int32.toNatClampNeg (nI (xL S_13 b_14))) ≤ xL S_13 b_16 ∧ (Int32.toNatClampNeg 0) + (Int32.toNatClampNeg (nI (xL S_13 b_14))) ≤ xL S_13 b_18 ∧ nm (sB S_13 b_18 (va_cpy (xA S_13 b_16) (xA S_13 b_18) (Int32.toNatClampNeg 0) (Int32.toNatClampNeg 0) (Int32.toNatClampNeg (nI (xL S_13 b_14))))) (fun S_20 : xH => Q S_20)))) (lf3 (fun L_24 (x1_21 : Int32) (x3_22 : Int32) (S_23 : xH) => xT S_23 o = 18 ∧ wif ((xI S_23 900 o) ≤ x3_22) (L_10 x1_21 (x2_8 + 1) S_23) (xT S_23 o = 18 ∧ xT S_23 o = 18 ∧ ∃ b_26, (xR S_23 904 o) = some b_26 ∧ xT S_23 b_26 = 101 ∧ vp_in ((x3_22 * (xI S_23 901 o)) + x2_8) (xL S_23 b_26) ∧ nm (xA S_23 b_26 (Int32.toNatClampNeg ((x3_22 * (xI S_23 901 o)) + x2_8))) (fun x4_28 : Int32 => xT S_23 o = 18 ∧ ∃ b_29, (xR S_23 908 o) = some b_29 ∧ xT S_23 b_29 = 101 ∧ vp_in x4_28 (xL S_23 b_29) ∧ xT S_23 o = 18 ∧ jn2 (fun (x1_31 : Int32) (S_32 : xH) => L_24 x1_31 (x3_22 + 1) S_32) (fun J_33 => wif ((xA S_23 b_29 (Int32.toNatClampNeg x4_28)) = (xI S_23 901 o)) (xT S_23 o = 18 ∧ ∃ b_35, (xR S_23 902 o) = some b_35 ∧ xT S_23 b_35 = 101 ∧ vp_in x4_28 (xL S_23 b_35) ∧ wif ((xA S_23 b_35 (Int32.toNatClampNeg x4_28)) ≤ 0) (J_33 x1_21 S_23) (xT S_23 o = 18 ∧ w_X17_hasHeardBy S_23 o x4_28 x2_8 (fun (r_38 : Int32) => wif (r_38 = 0) (xT S_23 o = 18 ∧ ∃ b_41, (xR S_23 902 o) = some b_41 ∧ xT S_23 b_41 = 101 ∧ vp_in x4_28 (xL S_23 b_41) ∧ nm (x1_21 + (xA S_23 b_41 (Int32.toNatClampNeg x4_28))) (fun x1_43 : Int32 => xT S_23 o = 18 ∧ ∃ b_44, (xR S_23 908 o) = some b_44 ∧ xT S_23 b_44 = 101 ∧ vp_in x4_28 (xL S_23 b_44) ∧ nm (sA S_23 b_44 (Int32.toNatClampNeg x4_28) x2_8) (fun S_46 : xH => J_33 x1_43 S_46))) (J_33 x1_21 S_23)))) (J_33 x1_21 S_23))))) x1_7 0 S_9)) 0 0 S_2) (xT S_2 o = 18 ∧ xT S_2 o = 18 ∧ ∃ b_47, (xR S_2 908 o) = some b_47 ∧ xT S_2 b_47 = 101 ∧ vp_in x1_1 (xL S_2 b_47) ∧ nm (sA S_2 b_47 (Int32.toNatClampNeg x1_1) (xI S_2 901 o)) (fun S_49 : xH => L_3 (x1_1 + 1) S_49))) 0 S
theorem hd_X17_judge : yX17_judge.cls = "PressedMen$Laying" ∧ yX17_judge.cls ≠ "java/lang/invoke/MethodHandle" ∧ yX17_judge.cls ≠ "java/lang/invoke/VarHandle" ∧ (parseMethodDescriptor yX17_judge.desc).map (fun d => d.parameters.length) = some 0 := by decide +kernel
set_option maxHeartbeats 4000000 in
theorem mt_X17_judge (l : Launch) {D : va_G} {d : Nat → ClassId} {base : Nat} {mc : va_W} {S : xH} {o : Nat} {Q : xH → Prop} (hw : w_X17_judge S o Q) : Met l yX17_judge (ws_ yX17_judge cX17_judge 5 none) (x_rm 1 0 0 60) (x_Pc D d base mc S [.ref o]) (x_Qv D d base mc (fun S' => Q S')) 0 0 (x_A base) := by
  refine x_met (by decide) (Nat.le_of_ble_eq_true rfl) ?_
  intro p e s m below meth c hx hb hml hr hlocks hown hts hz hR hK hin ls hl
  have hown : s.vm.findClass "PressedMen$Laying" = some m.cls := hown
  have hl : lv_has ls 5 [(0, .ref o)] := hl
  have hS : va_S (x_A base) s.heap s.heap [] := va_S.rf
  unfold w_X17_judge at hw
  refine lv_iconst (v := 0) hx hb dX17_judge_0 (by decide) ?_
  refine lv_istore_n (lv' := [(1, .int 0), (0, .ref o)]) hx hb dX17_judge_1 rfl hl (by decide) rfl (fun ls hl => ?_)
  refine x_lf2 (G := fun (x1_1 : Int32) (S_2 : xH) => ∀ (ls : Array Slot) (H : Heap) (locs : List Loc), x_Rp D d (x_A base) mc S_2 H → va_S (x_A base) s.heap H locs → lv_has ls 5 [(0, .ref o), (1, .int x1_1)] → W p l e (x_rm 1 0 0 60) s m ([.ref o] : List Value).toArray below meth c H locs 0 0 (MQ below (x_Qv D d base mc (fun S' => Q S')) ([.ref o] : List Value).toArray s 0 0 (x_A base)) (F0 m 2 ls [])) hw (fun x1_1 S_2 hw => ?_) ls _ _ hR hS (lv_sub hl [1, 0] rfl)
  intro ls H locs hR hS hl
  refine lv_iload_n hx hb dX17_judge_2 rfl (lv_at hl 1 rfl) ?_
  refine lv_aload_n hx hb dX17_judge_3 rfl (lv_at hl 0 rfl) ?_
  refine x_getR (ci := 17) (C := RX17) (T := TX17) (N := 10) (f := 909) hx hb hts in_X17 hown hK hR rfl 9 (by decide) (hts _ q763) (fun _ h => h) rfl (by decide) dX17_judge_4 hw.1 ?_
  have hw := hw.2
  obtain ⟨b_4, e_5, hw⟩ := hw
  refine x_dr0 e_5 ?_
  refine x_getNI (ci := 0) (C := RX0) (T := TX0) (N := 19) (f := 50) hx hb hts in_X0 hown hK hR rfl 0 (by decide) (hK.2 _ q109 rfl) (fun _ h => h) rfl (by decide) dX17_judge_7 hw.1 ?_
  have hw := hw.2
  refine lv_icmp_ge (tgt := 29) hx hb dX17_judge_10 (by decide) (fun c_6 => ?_) (fun c_6 => ?_)
  · have hw := x_t hw c_6
    refine lv_iconst (v := 0) hx hb dX17_judge_29 (by decide) ?_
    refine lv_istore_n (lv' := [(1, .int 0), (0, .ref o)]) hx hb dX17_judge_30 rfl hl (by decide) rfl (fun ls hl => ?_)
    refine lv_iconst (v := 0) hx hb dX17_judge_31 (by decide) ?_
    refine lv_istore_n (lv' := [(2, .int 0), (1, .int 0), (0, .ref o)]) hx hb dX17_judge_32 rfl hl (by decide) rfl (fun ls hl => ?_)
    refine x_lf3 (G := fun (x1_7 : Int32) (x2_8 : Int32) (S_9 : xH) => ∀ (ls : Array Slot) (H : Heap) (locs : List Loc), x_Rp D d (x_A base) mc S_9 H → va_S (x_A base) s.heap H locs → lv_has ls 5 [(0, .ref o), (1, .int x1_7), (2, .int x2_8)] → W p l e (x_rm 1 0 0 60) s m ([.ref o] : List Value).toArray below meth c H locs 0 0 (MQ below (x_Qv D d base mc (fun S' => Q S')) ([.ref o] : List Value).toArray s 0 0 (x_A base)) (F0 m 33 ls [])) hw (fun x1_7 x2_8 S_9 hw => ?_) ls _ _ hR hS (lv_sub hl [2, 1, 0] rfl)
    intro ls H locs hR hS hl
    refine lv_iload_n hx hb dX17_judge_33 rfl (lv_at hl 2 rfl) ?_
    refine lv_aload_n hx hb dX17_judge_34 rfl (lv_at hl 0 rfl) ?_
    refine x_getI (ci := 17) (C := RX17) (T := TX17) (N := 10) (f := 901) hx hb hts in_X17 hown hK hR rfl 1 (by decide) (hts _ q753) (fun _ h => h) rfl (by decide) dX17_judge_35 hw.1 ?_
    have hw := hw.2
    refine lv_icmp_ge (tgt := 130) hx hb dX17_judge_38 (by decide) (fun c_11 => ?_) (fun c_11 => ?_)
    · have hw := x_t hw c_11
      refine lv_iload_n hx hb dX17_judge_130 rfl (lv_at hl 1 rfl) ?_
      refine lv_aload_n hx hb dX17_judge_131 rfl (lv_at hl 0 rfl) ?_
      refine x_getI (ci := 17) (C := RX17) (T := TX17) (N := 10) (f := 906) hx hb hts in_X17 hown hK hR rfl 6 (by decide) (hts _ q759) (fun _ h => h) rfl (by decide) dX17_judge_132 hw.1 ?_
      have hw := hw.2
      refine lv_icmp_le (tgt := 161) hx hb dX17_judge_135 (by decide) (fun c_12 => ?_) (fun c_12 => ?_)
      · have hw := x_t hw c_12
        exact x_rv hx hb hr hlocks hR hS dX17_judge_161 hw
      · have hw := x_f hw c_12
        refine lv_aload_n hx hb dX17_judge_138 rfl (lv_at hl 0 rfl) ?_
        refine lv_iload_n hx hb dX17_judge_139 rfl (lv_at hl 1 rfl) ?_
        refine x_putI (ci := 17) (C := RX17) (T := TX17) (N := 10) (f := 906) hx hb hts in_X17 tyX17 tyX17_ok nmX17 hown hK hR hS rfl 6 (by decide) (hts _ q759) (fun _ h => h) rfl rfl (by decide) rfl rfl dX17_judge_140 hw.1 (fun H locs hR hS => ?_)
        have hw := hw.2
        obtain ⟨S_13, eS_13⟩ : ∃ z, z = (sI S_9 906 o x1_7) := ⟨_, rfl⟩
        rw [← eS_13] at hR
        have hw := hw S_13 eS_13
        refine lv_aload_n hx hb dX17_judge_143 rfl (lv_at hl 0 rfl) ?_
        refine x_getR (ci := 17) (C := RX17) (T := TX17) (N := 10) (f := 904) hx hb hts in_X17 hown hK hR rfl 4 (by decide) (hts _ q756) (fun _ h => h) rfl (by decide) dX17_judge_144 hw.1 ?_
        have hw := hw.2
        refine lv_iconst (v := 0) hx hb dX17_judge_147 (by decide) ?_
        refine lv_aload_n hx hb dX17_judge_148 rfl (lv_at hl 0 rfl) ?_
        refine x_getR (ci := 17) (C := RX17) (T := TX17) (N := 10) (f := 905) hx hb hts in_X17 hown hK hR rfl 5 (by decide) (hts _ q757) (fun _ h => h) rfl (by decide) dX17_judge_149 hw.1 ?_
        have hw := hw.2
        refine lv_iconst (v := 0) hx hb dX17_judge_152 (by decide) ?_
        refine lv_aload_n hx hb dX17_judge_153 rfl (lv_at hl 0 rfl) ?_
        refine x_getR (ci := 17) (C := RX17) (T := TX17) (N := 10) (f := 904) hx hb hts in_X17 hown hK hR rfl 4 (by decide) (hts _ q756) (fun _ h => h) rfl (by decide) dX17_judge_154 hw.1 ?_
        have hw := hw.2
        obtain ⟨b_14, e_15, hw⟩ := hw
        refine x_dr0 e_15 ?_
        refine x_alen hx hb hK hR dX17_judge_157 hw.1 ?_
        have hw := hw.2
        obtain ⟨b_16, e_17, hw⟩ := hw
        refine x_dr4 e_17 ?_
        obtain ⟨b_18, e_19, hw⟩ := hw
        refine x_dr2 e_19 ?_
        obtain ⟨h1, h2, h3, h4, h5, h6, h7, hw⟩ := hw
        refine x_copy hx hb hml hl.1 hown (hts _ q745) (hts _ q747) (hts _ q746) (hts _ q83) hK hR hS dX17_judge_158 h1 h2 h3 h4 h5 h6 h7 (Nat.le_of_ble_eq_true rfl) (Nat.le_of_ble_eq_true rfl) (fun H locs hR hS => ?_)
        obtain ⟨S_20, eS_20⟩ : ∃ z, z = (sB S_13 b_18 (va_cpy (xA S_13 b_16) (xA S_13 b_18) (Int32.toNatClampNeg 0) (Int32.toNatClampNeg 0) (Int32.toNatClampNeg (nI (xL S_13 b_14))))) := ⟨_, rfl⟩
        rw [← eS_20] at hR
        have hw := hw S_20 eS_20
        exact x_rv hx hb hr hlocks hR hS dX17_judge_161 hw
    · have hw := x_f hw c_11
      refine lv_iconst (v := 0) hx hb dX17_judge_41 (by decide) ?_
      refine lv_istore_n (lv' := [(3, .int 0), (0, .ref o), (1, .int x1_7), (2, .int x2_8)]) hx hb dX17_judge_42 rfl hl (by decide) rfl (fun ls hl => ?_)
      refine x_lf3 (G := fun (x1_21 : Int32) (x3_22 : Int32) (S_23 : xH) => ∀ (ls : Array Slot) (H : Heap) (locs : List Loc), x_Rp D d (x_A base) mc S_23 H → va_S (x_A base) s.heap H locs → lv_has ls 5 [(0, .ref o), (1, .int x1_21), (2, .int x2_8), (3, .int x3_22)] → W p l e (x_rm 1 0 0 60) s m ([.ref o] : List Value).toArray below meth c H locs 0 0 (MQ below (x_Qv D d base mc (fun S' => Q S')) ([.ref o] : List Value).toArray s 0 0 (x_A base)) (F0 m 43 ls [])) hw (fun x1_21 x3_22 S_23 hw => ?_) ls _ _ hR hS (lv_sub hl [1, 2, 3, 0] rfl)
      intro ls H locs hR hS hl
      refine lv_iload_n hx hb dX17_judge_43 rfl (lv_at hl 3 rfl) ?_
      refine lv_aload_n hx hb dX17_judge_44 rfl (lv_at hl 0 rfl) ?_
      refine x_getI (ci := 17) (C := RX17) (T := TX17) (N := 10) (f := 900) hx hb hts in_X17 hown hK hR rfl 0 (by decide) (hts _ q752) (fun _ h => h) rfl (by decide) dX17_judge_45 hw.1 ?_
      have hw := hw.2
      refine lv_icmp_ge (tgt := 124) hx hb dX17_judge_48 (by decide) (fun c_25 => ?_) (fun c_25 => ?_)
      · have hw := x_t hw c_25
        refine lv_iinc (v := (x2_8 + 1)) (lv' := [(2, .int (x2_8 + 1)), (0, .ref o), (1, .int x1_21), (3, .int x3_22)]) hx hb dX17_judge_124 hl (k := 2) rfl rfl (by decide) rfl (fun ls hl => ?_)
        refine lv_goto (tgt := 33) hx hb dX17_judge_127 (by decide) ?_
        exact hw ls _ _ hR hS (lv_sub hl [1, 2, 0] rfl)
      · have hw := x_f hw c_25
        refine lv_aload_n hx hb dX17_judge_51 rfl (lv_at hl 0 rfl) ?_
        refine x_getR (ci := 17) (C := RX17) (T := TX17) (N := 10) (f := 904) hx hb hts in_X17 hown hK hR rfl 4 (by decide) (hts _ q756) (fun _ h => h) rfl (by decide) dX17_judge_52 hw.1 ?_
        have hw := hw.2
        refine lv_iload_n hx hb dX17_judge_55 rfl (lv_at hl 3 rfl) ?_
        refine lv_aload_n hx hb dX17_judge_56 rfl (lv_at hl 0 rfl) ?_
        refine x_getI (ci := 17) (C := RX17) (T := TX17) (N := 10) (f := 901) hx hb hts in_X17 hown hK hR rfl 1 (by decide) (hts _ q753) (fun _ h => h) rfl (by decide) dX17_judge_57 hw.1 ?_
        have hw := hw.2
        refine lv_imul hx hb dX17_judge_60 ?_
        refine lv_iload_n hx hb dX17_judge_61 rfl (lv_at hl 2 rfl) ?_
        refine lv_iadd hx hb dX17_judge_62 ?_
        obtain ⟨b_26, e_27, hw⟩ := hw
        refine x_dr1 e_27 ?_
        refine x_iald hx hb hK hR dX17_judge_63 hw.1 hw.2.1 ?_
        have hw := hw.2.2
        refine lv_topi (fun x4_28 ex4_28 => ?_)
        have hw := hw x4_28 ex4_28
        refine lv_istore (lv' := [(4, .int x4_28), (0, .ref o), (1, .int x1_21), (2, .int x2_8), (3, .int x3_22)]) hx hb dX17_judge_64 hl (by decide) rfl (fun ls hl => ?_)
        refine lv_aload_n hx hb dX17_judge_66 rfl (lv_at hl 1 rfl) ?_
        refine x_getR (ci := 17) (C := RX17) (T := TX17) (N := 10) (f := 908) hx hb hts in_X17 hown hK hR rfl 8 (by decide) (hts _ q762) (fun _ h => h) rfl (by decide) dX17_judge_67 hw.1 ?_
        have hw := hw.2
        refine lv_iload hx hb dX17_judge_70 (lv_at hl 0 rfl) ?_
        obtain ⟨b_29, e_30, hw⟩ := hw
        refine x_dr1 e_30 ?_
        refine x_iald hx hb hK hR dX17_judge_72 hw.1 hw.2.1 ?_
        have hw := hw.2.2
        refine lv_aload_n hx hb dX17_judge_73 rfl (lv_at hl 1 rfl) ?_
        refine x_getI (ci := 17) (C := RX17) (T := TX17) (N := 10) (f := 901) hx hb hts in_X17 hown hK hR rfl 1 (by decide) (hts _ q753) (fun _ h => h) rfl (by decide) dX17_judge_74 hw.1 ?_
        have hw := hw.2
        refine x_jn2 (G := fun (x1_31 : Int32) (S_32 : xH) => ∀ (ls : Array Slot) (H : Heap) (locs : List Loc), x_Rp D d (x_A base) mc S_32 H → va_S (x_A base) s.heap H locs → lv_has ls 5 [(0, .ref o), (1, .int x1_31), (2, .int x2_8), (3, .int x3_22)] → W p l e (x_rm 1 0 0 60) s m ([.ref o] : List Value).toArray below meth c H locs 0 0 (MQ below (x_Qv D d base mc (fun S' => Q S')) ([.ref o] : List Value).toArray s 0 0 (x_A base)) (F0 m 118 ls [])) hw (fun x1_31 S_32 hw => ?_) (fun hJ_33 hw => ?_)
        · intro ls H locs hR hS hl
          refine lv_iinc (v := (x3_22 + 1)) (lv' := [(3, .int (x3_22 + 1)), (0, .ref o), (1, .int x1_31), (2, .int x2_8)]) hx hb dX17_judge_118 hl (k := 3) rfl rfl (by decide) rfl (fun ls hl => ?_)
          refine lv_goto (tgt := 43) hx hb dX17_judge_121 (by decide) ?_
          exact hw ls _ _ hR hS (lv_sub hl [1, 2, 3, 0] rfl)
        · refine lv_icmp_ne (tgt := 118) hx hb dX17_judge_77 (by decide) (fun c_34 => ?_) (fun c_34 => ?_)
          · have hw := x_f hw c_34
            exact hJ_33 x1_21 S_23 hw ls _ _ hR hS (lv_sub hl [1, 2, 3, 4] rfl)
          · have hw := x_t hw c_34
            refine lv_aload_n hx hb dX17_judge_80 rfl (lv_at hl 1 rfl) ?_
            refine x_getR (ci := 17) (C := RX17) (T := TX17) (N := 10) (f := 902) hx hb hts in_X17 hown hK hR rfl 2 (by decide) (hts _ q754) (fun _ h => h) rfl (by decide) dX17_judge_81 hw.1 ?_
            have hw := hw.2
            refine lv_iload hx hb dX17_judge_84 (lv_at hl 0 rfl) ?_
            obtain ⟨b_35, e_36, hw⟩ := hw
            refine x_dr1 e_36 ?_
            refine x_iald hx hb hK hR dX17_judge_86 hw.1 hw.2.1 ?_
            have hw := hw.2.2
            refine lv_if_le (tgt := 118) hx hb dX17_judge_87 (by decide) (fun c_37 => ?_) (fun c_37 => ?_)
            · have hw := x_t hw c_37
              exact hJ_33 x1_21 S_23 hw ls _ _ hR hS (lv_sub hl [1, 2, 3, 4] rfl)
            · have hw := x_f hw c_37
              refine lv_aload_n hx hb dX17_judge_90 rfl (lv_at hl 1 rfl) ?_
              refine lv_iload hx hb dX17_judge_91 (lv_at hl 0 rfl) ?_
              refine lv_iload_n hx hb dX17_judge_93 rfl (lv_at hl 3 rfl) ?_
              obtain ⟨ha, hw⟩ := hw
              refine x_ci (va_runV (As := [.int x4_28, .int x2_8]) (rest := []) ⟨hx, hb, hml, hown, hts⟩ (mt_X17_hasHeardBy l hw) (cwV 2 hts (lw_V q741 q743 qs26 q82 q744) rfl rfl rfl hd_X17_hasHeardBy ⟨Nat.le_of_ble_eq_true rfl, Nat.le_of_ble_eq_true rfl⟩) ⟨x_Pc_blind, hR.recv hK (ci := 17) rfl (by decide) ha, x_Pc_pre hR hz hS hK⟩ rfl rfl hl.1 rfl (lv_room (Nat.le_of_ble_eq_true rfl)) dX17_judge_94 ⟨Nat.le_refl _, Nat.le_refl _⟩) hS (fun r_38 S_39 H locs hp hR hS => ?_)
              have hw := hp.2
              rw [hp.1] at hR
              refine lv_if_ne (tgt := 118) hx hb dX17_judge_97 (by decide) (fun c_40 => ?_) (fun c_40 => ?_)
              · have hw := x_f hw c_40
                exact hJ_33 x1_21 S_23 hw ls _ _ hR hS (lv_sub hl [1, 2, 3, 4] rfl)
              · have hw := x_t hw c_40
                refine lv_iload_n hx hb dX17_judge_100 rfl (lv_at hl 2 rfl) ?_
                refine lv_aload_n hx hb dX17_judge_101 rfl (lv_at hl 1 rfl) ?_
                refine x_getR (ci := 17) (C := RX17) (T := TX17) (N := 10) (f := 902) hx hb hts in_X17 hown hK hR rfl 2 (by decide) (hts _ q754) (fun _ h => h) rfl (by decide) dX17_judge_102 hw.1 ?_
                have hw := hw.2
                refine lv_iload hx hb dX17_judge_105 (lv_at hl 0 rfl) ?_
                obtain ⟨b_41, e_42, hw⟩ := hw
                refine x_dr1 e_42 ?_
                refine x_iald hx hb hK hR dX17_judge_107 hw.1 hw.2.1 ?_
                have hw := hw.2.2
                refine lv_iadd hx hb dX17_judge_108 ?_
                refine lv_topi (fun x1_43 ex1_43 => ?_)
                have hw := hw x1_43 ex1_43
                refine lv_istore_n (lv' := [(1, .int x1_43), (4, .int x4_28), (0, .ref o), (2, .int x2_8), (3, .int x3_22)]) hx hb dX17_judge_109 rfl hl (by decide) rfl (fun ls hl => ?_)
                refine lv_aload_n hx hb dX17_judge_110 rfl (lv_at hl 2 rfl) ?_
                refine x_getR (ci := 17) (C := RX17) (T := TX17) (N := 10) (f := 908) hx hb hts in_X17 hown hK hR rfl 8 (by decide) (hts _ q762) (fun _ h => h) rfl (by decide) dX17_judge_111 hw.1 ?_
                have hw := hw.2
                refine lv_iload hx hb dX17_judge_114 (lv_at hl 1 rfl) ?_
                refine lv_iload_n hx hb dX17_judge_116 rfl (lv_at hl 3 rfl) ?_
                obtain ⟨b_44, e_45, hw⟩ := hw
                refine x_dr2 e_45 ?_
                refine x_iast hx hb hK hR hS dX17_judge_117 hw.1 hw.2.1 (fun H locs hR hS => ?_)
                have hw := hw.2.2
                obtain ⟨S_46, eS_46⟩ : ∃ z, z = (sA S_23 b_44 (Int32.toNatClampNeg x4_28) x2_8) := ⟨_, rfl⟩
                rw [← eS_46] at hR
                have hw := hw S_46 eS_46
                exact hJ_33 x1_43 S_46 hw ls _ _ hR hS (lv_sub hl [2, 0, 3, 4] rfl)
  · have hw := x_f hw c_6
    refine lv_aload_n hx hb dX17_judge_13 rfl (lv_at hl 0 rfl) ?_
    refine x_getR (ci := 17) (C := RX17) (T := TX17) (N := 10) (f := 908) hx hb hts in_X17 hown hK hR rfl 8 (by decide) (hts _ q762) (fun _ h => h) rfl (by decide) dX17_judge_14 hw.1 ?_
    have hw := hw.2
    refine lv_iload_n hx hb dX17_judge_17 rfl (lv_at hl 1 rfl) ?_
    refine lv_aload_n hx hb dX17_judge_18 rfl (lv_at hl 0 rfl) ?_
    refine x_getI (ci := 17) (C := RX17) (T := TX17) (N := 10) (f := 901) hx hb hts in_X17 hown hK hR rfl 1 (by decide) (hts _ q753) (fun _ h => h) rfl (by decide) dX17_judge_19 hw.1 ?_
    have hw := hw.2
    obtain ⟨b_47, e_48, hw⟩ := hw
    refine x_dr2 e_48 ?_
    refine x_iast hx hb hK hR hS dX17_judge_22 hw.1 hw.2.1 (fun H locs hR hS => ?_)
    have hw := hw.2.2
    obtain ⟨S_49, eS_49⟩ : ∃ z, z = (sA S_2 b_47 (Int32.toNatClampNeg x1_1) (xI S_2 901 o)) := ⟨_, rfl⟩
    rw [← eS_49] at hR
    have hw := hw S_49 eS_49
    refine lv_iinc (v := (x1_1 + 1)) (lv' := [(1, .int (x1_1 + 1)), (0, .ref o)]) hx hb dX17_judge_23 hl (k := 1) rfl rfl (by decide) rfl (fun ls hl => ?_)
    refine lv_goto (tgt := 2) hx hb dX17_judge_26 (by decide) ?_
    exact hw ls _ _ hR hS (lv_sub hl [1, 0] rfl)
def w_X17_mayFollow (S : xH) (o : Nat) (x1 : Int32) (x2 : Int32) (Q : Int32 → Prop) : Prop := xT S o = 18 ∧ ¬ (xI S 901 o) = 0 ∧ jn (fun (v0_1 : Int32) => wif (v0_1 = x2) (Q 1) (xT S o = 18 ∧ ∃ b_4, (xR S 909 o) = some b_4 ∧ xT S b_4 = 1 ∧ ∃ b_6, (xR S 51 b_4) = some b_6 ∧ xT S b_6 = 109 ∧ vp_in v0_1 (xL S b_6) ∧ ∃ b_8, (xQ S b_6 (Int32.toNatClampNeg v0_1)) = some b_8 ∧ xT S b_8 = 102 ∧ vp_in x2 (xL S b_8) ∧ wif ((xA S b_8 (Int32.toNatClampNeg x2)) = 0) (Q 0) (Q 1))) (fun J_2 => wif ((x1 - x1 / (xI S 901 o) * (xI S 901 o)) = 0) (J_2 x2) (xT S o = 18 ∧ ∃ b_12, (xR S 904 o) = some b_12 ∧ xT S b_12 = 101 ∧ vp_in (x1 - 1) (xL S b_12) ∧ J_2 (xA S b_12 (Int32.toNatClampNeg (x1 - 1)))))
theorem hd_X17_mayFollow : yX17_mayFollow.cls = "PressedMen$Laying" ∧ yX17_mayFollow.cls ≠ "java/lang/invoke/MethodHandle" ∧ yX17_mayFollow.cls ≠ "java/lang/invoke/VarHandle" ∧ (parseMethodDescriptor yX17_mayFollow.desc).map (fun d => d.parameters.length) = some 2 := by decide +kernel
set_option maxHeartbeats 4000000 in
theorem mt_X17_mayFollow (l : Launch) {D : va_G} {d : Nat → ClassId} {base : Nat} {mc : va_W} {S : xH} {o : Nat} {x1 : Int32} {x2 : Int32} {Q : Int32 → Prop} (hw : w_X17_mayFollow S o x1 x2 Q) : Met l yX17_mayFollow (ws_ yX17_mayFollow cX17_mayFollow 4 (some FieldType.boolean)) (x_rm 0 0 0 0) (x_Pc D d base mc S [.ref o, .int x1, .int x2]) (x_Qi D d base mc (fun r S' => S' = S ∧ Q r)) 0 0 (x_A base) := by
  refine x_met (by decide) (Nat.le_of_ble_eq_true rfl) ?_
  intro p e s m below meth c hx hb hml hr hlocks hown hts hz hR hK hin ls hl
  have hown : s.vm.findClass "PressedMen$Laying" = some m.cls := hown
  have hl : lv_has ls 4 [(0, .ref o), (1, .int x1), (2, .int x2)] := hl
  have hS : va_S (x_A base) s.heap s.heap [] := va_S.rf
  unfold w_X17_mayFollow at hw
  refine lv_iload_n hx hb dX17_mayFollow_0 rfl (lv_at hl 1 rfl) ?_
  refine lv_aload_n hx hb dX17_mayFollow_1 rfl (lv_at hl 0 rfl) ?_
  refine x_getI (ci := 17) (C := RX17) (T := TX17) (N := 10) (f := 901) hx hb hts in_X17 hown hK hR rfl 1 (by decide) (hts _ q753) (fun _ h => h) rfl (by decide) dX17_mayFollow_2 hw.1 ?_
  have hw := hw.2
  refine lv_irem hx hb dX17_mayFollow_5 hw.1 ?_
  have hw := hw.2
  refine x_jn (G := fun (v0_1 : Int32) => ∀ (ls : Array Slot) (H : Heap) (locs : List Loc), x_Rp D d (x_A base) mc S H → va_S (x_A base) s.heap H locs → lv_has ls 4 [(0, .ref o), (2, .int x2)] → W p l e (x_rm 0 0 0 0) s m ([.ref o, .int x1, .int x2] : List Value).toArray below meth c H locs 0 0 (MQ below (x_Qi D d base mc (fun r S' => S' = S ∧ Q r)) ([.ref o, .int x1, .int x2] : List Value).toArray s 0 0 (x_A base)) (F0 m 21 ls [.int v0_1])) hw (fun v0_1 hw => ?_) (fun hJ_2 hw => ?_)
  · intro ls H locs hR hS hl
    refine lv_istore_n (lv' := [(3, .int v0_1), (0, .ref o), (2, .int x2)]) hx hb dX17_mayFollow_21 rfl hl (by decide) rfl (fun ls hl => ?_)
    refine lv_iload_n hx hb dX17_mayFollow_22 rfl (lv_at hl 0 rfl) ?_
    refine lv_iload_n hx hb dX17_mayFollow_23 rfl (lv_at hl 2 rfl) ?_
    refine lv_icmp_eq (tgt := 41) hx hb dX17_mayFollow_24 (by decide) (fun c_3 => ?_) (fun c_3 => ?_)
    · have hw := x_t hw c_3
      refine lv_iconst (v := 1) hx hb dX17_mayFollow_41 (by decide) ?_
      refine lv_goto (tgt := 46) hx hb dX17_mayFollow_42 (by decide) ?_
      exact x_rz hx hb hr hlocks hR hS dX17_mayFollow_46 (Or.inr rfl) ⟨rfl, hw⟩
    · have hw := x_f hw c_3
      refine lv_aload_n hx hb dX17_mayFollow_27 rfl (lv_at hl 1 rfl) ?_
      refine x_getR (ci := 17) (C := RX17) (T := TX17) (N := 10) (f := 909) hx hb hts in_X17 hown hK hR rfl 9 (by decide) (hts _ q763) (fun _ h => h) rfl (by decide) dX17_mayFollow_28 hw.1 ?_
      have hw := hw.2
      obtain ⟨b_4, e_5, hw⟩ := hw
      refine x_dr0 e_5 ?_
      refine x_getNR (ci := 0) (C := RX0) (T := TX0) (N := 19) (f := 51) hx hb hts in_X0 hown hK hR rfl 1 (by decide) (hK.2 _ q111 rfl) (fun _ h => h) rfl (by decide) dX17_mayFollow_31 hw.1 ?_
      have hw := hw.2
      refine lv_iload_n hx hb dX17_mayFollow_34 rfl (lv_at hl 0 rfl) ?_
      obtain ⟨b_6, e_7, hw⟩ := hw
      refine x_dr1 e_7 ?_
      refine x_aald (t := 109) hx hb hK hR (by decide) rfl rfl dX17_mayFollow_35 hw.1 hw.2.1 ?_
      have hw := hw.2.2
      refine lv_iload_n hx hb dX17_mayFollow_36 rfl (lv_at hl 2 rfl) ?_
      obtain ⟨b_8, e_9, hw⟩ := hw
      refine x_dr1 e_9 ?_
      refine x_zald hx hb hK hR dX17_mayFollow_37 hw.1 hw.2.1 ?_
      have hw := hw.2.2
      refine lv_if_eq (tgt := 45) hx hb dX17_mayFollow_38 (by decide) (fun c_10 => ?_) (fun c_10 => ?_)
      · have hw := x_t hw c_10
        refine lv_iconst (v := 0) hx hb dX17_mayFollow_45 (by decide) ?_
        exact x_rz hx hb hr hlocks hR hS dX17_mayFollow_46 (Or.inl rfl) ⟨rfl, hw⟩
      · have hw := x_f hw c_10
        refine lv_iconst (v := 1) hx hb dX17_mayFollow_41 (by decide) ?_
        refine lv_goto (tgt := 46) hx hb dX17_mayFollow_42 (by decide) ?_
        exact x_rz hx hb hr hlocks hR hS dX17_mayFollow_46 (Or.inr rfl) ⟨rfl, hw⟩
  · refine lv_if_ne (tgt := 13) hx hb dX17_mayFollow_6 (by decide) (fun c_11 => ?_) (fun c_11 => ?_)
    · have hw := x_f hw c_11
      refine lv_aload_n hx hb dX17_mayFollow_13 rfl (lv_at hl 0 rfl) ?_
      refine x_getR (ci := 17) (C := RX17) (T := TX17) (N := 10) (f := 904) hx hb hts in_X17 hown hK hR rfl 4 (by decide) (hts _ q756) (fun _ h => h) rfl (by decide) dX17_mayFollow_14 hw.1 ?_
      have hw := hw.2
      refine lv_iload_n hx hb dX17_mayFollow_17 rfl (lv_at hl 1 rfl) ?_
      refine lv_iconst (v := 1) hx hb dX17_mayFollow_18 (by decide) ?_
      refine lv_isub hx hb dX17_mayFollow_19 ?_
      obtain ⟨b_12, e_13, hw⟩ := hw
      refine x_dr1 e_13 ?_
      refine x_iald hx hb hK hR dX17_mayFollow_20 hw.1 hw.2.1 ?_
      have hw := hw.2.2
      exact hJ_2 (xA S b_12 (Int32.toNatClampNeg (x1 - 1))) hw ls _ _ hR hS (lv_sub hl [0, 2] rfl)
    · have hw := x_t hw c_11
      refine lv_iload_n hx hb dX17_mayFollow_9 rfl (lv_at hl 2 rfl) ?_
      refine lv_goto (tgt := 21) hx hb dX17_mayFollow_10 (by decide) ?_
      exact hJ_2 x2 hw ls _ _ hR hS (lv_sub hl [0, 2] rfl)
def w_X18_init (S : xH) (o : Nat) (x1 : Int32) (x2 : Int32) (x3 : Int32) (x4 : Int32) (Q : xH → Prop) : Prop := xT S o = 19 ∧ nm (sI S 954 o 1) (fun S_1 : xH => xT S_1 o = 19 ∧ nm (sI S_1 950 o x1) (fun S_2 : xH => xT S_2 o = 19 ∧ nm (sI S_2 951 o x2) (fun S_3 : xH => xT S_3 o = 19 ∧ nm (sI S_3 952 o x3) (fun S_4 : xH => xT S_4 o = 19 ∧ nm (sI S_4 953 o x4) (fun S_5 : xH => Q S_5)))))
theorem hd_X18_init : yX18_init.cls = "PressedMen$Ship" ∧ yX18_init.cls ≠ "java/lang/invoke/MethodHandle" ∧ yX18_init.cls ≠ "java/lang/invoke/VarHandle" ∧ (parseMethodDescriptor yX18_init.desc).map (fun d => d.parameters.length) = some 4 := by decide +kernel
set_option maxHeartbeats 4000000 in
theorem mt_X18_init (l : Launch) {D : va_G} {d : Nat → ClassId} {base : Nat} {mc : va_W} {S : xH} {o : Nat} {x1 : Int32} {x2 : Int32} {x3 : Int32} {x4 : Int32} {Q : xH → Prop} (hw : w_X18_init S o x1 x2 x3 x4 Q) : Met l yX18_init (ws_ yX18_init cX18_init 5 none) (x_rm 1 0 0 28) (x_Pc D d base mc S [.ref o, .int x1, .int x2, .int x3, .int x4]) (x_Qv D d base mc (fun S' => Q S')) 0 0 (x_A base) := by
  refine x_met (by decide) (Nat.le_of_ble_eq_true rfl) ?_
  intro p e s m below meth c hx hb hml hr hlocks hown hts hz hR hK hin ls hl
  have hown : s.vm.findClass "PressedMen$Ship" = some m.cls := hown
  have hl : lv_has ls 5 [(0, .ref o), (1, .int x1), (2, .int x2), (3, .int x3), (4, .int x4)] := hl
  have hS : va_S (x_A base) s.heap s.heap [] := va_S.rf
  unfold w_X18_init at hw
  refine lv_aload_n hx hb dX18_init_0 rfl (lv_at hl 0 rfl) ?_
  refine W.objInit hx hb hown (hts _ q797) (hts _ q93) (hts _ q94) rfl (by rw [hml]; exact hl.1) rfl dX18_init_1 (Nat.le_of_ble_eq_true rfl) (Nat.le_of_ble_eq_true rfl) ?_
  refine W.eq (g2 := F0 m 4 ls []) rfl ?_
  refine lv_aload_n hx hb dX18_init_4 rfl (lv_at hl 0 rfl) ?_
  refine lv_iconst (v := 1) hx hb dX18_init_5 (by decide) ?_
  refine x_putI (ci := 18) (C := RX18) (T := TX18) (N := 5) (f := 954) hx hb hts in_X18 tyX18 tyX18_ok nmX18 hown hK hR hS rfl 4 (by decide) (hts _ q806) (fun _ h => h) rfl rfl (by decide) (x_B.n (Or.inr rfl)) (x_B.f (Or.inr rfl)) dX18_init_6 hw.1 (fun H locs hR hS => ?_)
  have hw := hw.2
  obtain ⟨S_1, eS_1⟩ : ∃ z, z = (sI S 954 o 1) := ⟨_, rfl⟩
  rw [← eS_1] at hR
  have hw := hw S_1 eS_1
  refine lv_aload_n hx hb dX18_init_9 rfl (lv_at hl 0 rfl) ?_
  refine lv_iload_n hx hb dX18_init_10 rfl (lv_at hl 1 rfl) ?_
  refine x_putFI (ci := 18) (C := RX18) (T := TX18) (N := 5) (f := 950) hx hb hts in_X18 tyX18 tyX18_ok nmX18 hown hK hR hS rfl 0 (by decide) (hts _ q798) (fun _ h => h) rfl hin rfl rfl (by decide) rfl rfl dX18_init_11 hw.1 (fun H locs hR hS => ?_)
  have hw := hw.2
  obtain ⟨S_2, eS_2⟩ : ∃ z, z = (sI S_1 950 o x1) := ⟨_, rfl⟩
  rw [← eS_2] at hR
  have hw := hw S_2 eS_2
  refine lv_aload_n hx hb dX18_init_14 rfl (lv_at hl 0 rfl) ?_
  refine lv_iload_n hx hb dX18_init_15 rfl (lv_at hl 2 rfl) ?_
  refine x_putFI (ci := 18) (C := RX18) (T := TX18) (N := 5) (f := 951) hx hb hts in_X18 tyX18 tyX18_ok nmX18 hown hK hR hS rfl 1 (by decide) (hts _ q800) (fun _ h => h) rfl hin rfl rfl (by decide) rfl rfl dX18_init_16 hw.1 (fun H locs hR hS => ?_)
  have hw := hw.2
  obtain ⟨S_3, eS_3⟩ : ∃ z, z = (sI S_2 951 o x2) := ⟨_, rfl⟩
  rw [← eS_3] at hR
  have hw := hw S_3 eS_3
  refine lv_aload_n hx hb dX18_init_19 rfl (lv_at hl 0 rfl) ?_
  refine lv_iload_n hx hb dX18_init_20 rfl (lv_at hl 3 rfl) ?_
  refine x_putFI (ci := 18) (C := RX18) (T := TX18) (N := 5) (f := 952) hx hb hts in_X18 tyX18 tyX18_ok nmX18 hown hK hR hS rfl 2 (by decide) (hts _ q802) (fun _ h => h) rfl hin rfl rfl (by decide) rfl rfl dX18_init_21 hw.1 (fun H locs hR hS => ?_)
  have hw := hw.2
  obtain ⟨S_4, eS_4⟩ : ∃ z, z = (sI S_3 952 o x3) := ⟨_, rfl⟩
  rw [← eS_4] at hR
  have hw := hw S_4 eS_4
  refine lv_aload_n hx hb dX18_init_24 rfl (lv_at hl 0 rfl) ?_
  refine lv_iload hx hb dX18_init_25 (lv_at hl 4 rfl) ?_
  refine x_putFI (ci := 18) (C := RX18) (T := TX18) (N := 5) (f := 953) hx hb hts in_X18 tyX18 tyX18_ok nmX18 hown hK hR hS rfl 3 (by decide) (hts _ q804) (fun _ h => h) rfl hin rfl rfl (by decide) rfl rfl dX18_init_27 hw.1 (fun H locs hR hS => ?_)
  have hw := hw.2
  obtain ⟨S_5, eS_5⟩ : ∃ z, z = (sI S_4 953 o x4) := ⟨_, rfl⟩
  rw [← eS_5] at hR
  have hw := hw S_5 eS_5
  exact x_rv hx hb hr hlocks hR hS dX18_init_30 hw
def w_X0_ship (k n : Nat) (S : xH) (o : Nat) (x1 : Int32) (x2 : Int32) (x3 : Int32) (x4 : Int32) (Q : Int32 → xH → Prop) : Prop := w_X0_isIn S x1 0 1 (fun (r_1 : Int32) => wif (r_1 = 0) (Q (-2) S) (w_X0_isIn S x2 1 20 (fun (r_4 : Int32) => wif (r_4 = 0) (Q (-2) S) (w_X0_isIn S x3 0 x2 (fun (r_7 : Int32) => wif (r_7 = 0) (Q (-2) S) (w_X0_isIn S x4 0 20 (fun (r_10 : Int32) => wif (r_10 = 0) (Q (-2) S) (xT S o = 1 ∧ wif ((xI S 65 o) = 10) (Q (-4) S) (xT S o = 1 ∧ xT S o = 1 ∧ 1 ≤ k ∧ 5 ≤ n ∧ ∀ a_14, xT S a_14 = 0 → nm (sN S a_14 19) (fun S_15 : xH => w_X18_init S_15 a_14 x1 x2 x3 x4 (fun (S_16 : xH) => ∃ b_17, (xR S 64 o) = some b_17 ∧ xT S_16 b_17 = 107 ∧ vp_in (xI S 65 o) (xL S_16 b_17) ∧ xT S_16 a_14 = 19 ∧ nm (sQ S_16 b_17 (Int32.toNatClampNeg (xI S 65 o)) (some a_14)) (fun S_19 : xH => xT S_19 o = 1 ∧ xT S_19 o = 1 ∧ nm (sI S_19 65 o ((xI S_19 65 o) + 1)) (fun S_20 : xH => xT S_20 o = 1 ∧ Q ((xI S_20 65 o) - 1) S_20)))))))))))))
theorem hd_X0_ship : yX0_ship.cls = "PressedMen" ∧ yX0_ship.cls ≠ "java/lang/invoke/MethodHandle" ∧ yX0_ship.cls ≠ "java/lang/invoke/VarHandle" ∧ (parseMethodDescriptor yX0_ship.desc).map (fun d => d.parameters.length) = some 4 := by decide +kernel
set_option maxHeartbeats 4000000 in
theorem mt_X0_ship (l : Launch) {D : va_G} {d : Nat → ClassId} {base : Nat} {mc : va_W} {S : xH} {k n : Nat} {o : Nat} {x1 : Int32} {x2 : Int32} {x3 : Int32} {x4 : Int32} {Q : Int32 → xH → Prop} (hw : w_X0_ship k n S o x1 x2 x3 x4 Q) : Met l yX0_ship (ws_ yX0_ship cX0_ship 5 (some FieldType.int)) (x_rm 2 k n 52) (x_Pc D d base mc S [.ref o, .int x1, .int x2, .int x3, .int x4]) (x_Qi D d base mc (fun r S' => Q r S')) k n (x_A base) := by
  refine x_met (by decide) (Nat.le_of_ble_eq_true rfl) ?_
  intro p e s m below meth c hx hb hml hr hlocks hown hts hz hR hK hin ls hl
  have hown : s.vm.findClass "PressedMen" = some m.cls := hown
  have hl : lv_has ls 5 [(0, .ref o), (1, .int x1), (2, .int x2), (3, .int x3), (4, .int x4)] := hl
  have hS : va_S (x_A base) s.heap s.heap [] := va_S.rf
  have hA : ∀ q : Nat, s.heap.size ≤ q → x_A base q := fun q h => Nat.le_trans hz h
  have hc : 0 + k ≤ k := by omega
  have hs : 0 + n ≤ n := by omega
  unfold w_X0_ship at hw
  refine lv_iload_n hx hb dX0_ship_0 rfl (lv_at hl 1 rfl) ?_
  refine lv_iconst (v := 0) hx hb dX0_ship_1 (by decide) ?_
  refine lv_iconst (v := 1) hx hb dX0_ship_2 (by decide) ?_
  refine x_ci (va_runS (As := [.int x1, .int 0, .int 1]) (rest := []) ⟨hx, hb, hml, hown, hts⟩ (mt_X0_isIn l hw) (va_cwS 3 hts (lw_S q178 q179 q64 q180) rfl rfl rfl hd_X0_isIn.2 ⟨Nat.le_of_ble_eq_true rfl, Nat.le_of_ble_eq_true rfl⟩) ⟨x_Pc_blind, x_Pc_pre hR hz hS hK⟩ rfl rfl hl.1 rfl (lv_room (Nat.le_of_ble_eq_true rfl)) dX0_ship_3 ⟨by show _ ≤ k; omega, by show _ ≤ n; omega⟩) hS (fun r_1 S_2 H locs hp hR hS => ?_)
  have hw := hp.2
  rw [hp.1] at hR
  refine lv_if_eq (tgt := 39) hx hb dX0_ship_6 (by decide) (fun c_3 => ?_) (fun c_3 => ?_)
  · have hw := x_t hw c_3
    refine lv_bipush (v := (-2)) hx hb dX0_ship_39 (by decide) ?_
    refine W.widen (k := k) (n := n) (by omega) (by omega) ?_
    exact x_ri hx hb hr hlocks hR hS dX0_ship_41 hw
  · have hw := x_f hw c_3
    refine lv_iload_n hx hb dX0_ship_9 rfl (lv_at hl 2 rfl) ?_
    refine lv_iconst (v := 1) hx hb dX0_ship_10 (by decide) ?_
    refine lv_bipush (v := 20) hx hb dX0_ship_11 (by decide) ?_
    refine x_ci (va_runS (As := [.int x2, .int 1, .int 20]) (rest := []) ⟨hx, hb, hml, hown, hts⟩ (mt_X0_isIn l hw) (va_cwS 3 hts (lw_S q178 q179 q64 q180) rfl rfl rfl hd_X0_isIn.2 ⟨Nat.le_of_ble_eq_true rfl, Nat.le_of_ble_eq_true rfl⟩) ⟨x_Pc_blind, x_Pc_pre hR hz hS hK⟩ rfl rfl hl.1 rfl (lv_room (Nat.le_of_ble_eq_true rfl)) dX0_ship_13 ⟨by show _ ≤ k; omega, by show _ ≤ n; omega⟩) hS (fun r_4 S_5 H locs hp hR hS => ?_)
    have hw := hp.2
    rw [hp.1] at hR
    refine lv_if_eq (tgt := 39) hx hb dX0_ship_16 (by decide) (fun c_6 => ?_) (fun c_6 => ?_)
    · have hw := x_t hw c_6
      refine lv_bipush (v := (-2)) hx hb dX0_ship_39 (by decide) ?_
      refine W.widen (k := k) (n := n) (by omega) (by omega) ?_
      exact x_ri hx hb hr hlocks hR hS dX0_ship_41 hw
    · have hw := x_f hw c_6
      refine lv_iload_n hx hb dX0_ship_19 rfl (lv_at hl 3 rfl) ?_
      refine lv_iconst (v := 0) hx hb dX0_ship_20 (by decide) ?_
      refine lv_iload_n hx hb dX0_ship_21 rfl (lv_at hl 2 rfl) ?_
      refine x_ci (va_runS (As := [.int x3, .int 0, .int x2]) (rest := []) ⟨hx, hb, hml, hown, hts⟩ (mt_X0_isIn l hw) (va_cwS 3 hts (lw_S q178 q179 q64 q180) rfl rfl rfl hd_X0_isIn.2 ⟨Nat.le_of_ble_eq_true rfl, Nat.le_of_ble_eq_true rfl⟩) ⟨x_Pc_blind, x_Pc_pre hR hz hS hK⟩ rfl rfl hl.1 rfl (lv_room (Nat.le_of_ble_eq_true rfl)) dX0_ship_22 ⟨by show _ ≤ k; omega, by show _ ≤ n; omega⟩) hS (fun r_7 S_8 H locs hp hR hS => ?_)
      have hw := hp.2
      rw [hp.1] at hR
      refine lv_if_eq (tgt := 39) hx hb dX0_ship_25 (by decide) (fun c_9 => ?_) (fun c_9 => ?_)
      · have hw := x_t hw c_9
        refine lv_bipush (v := (-2)) hx hb dX0_ship_39 (by decide) ?_
        refine W.widen (k := k) (n := n) (by omega) (by omega) ?_
        exact x_ri hx hb hr hlocks hR hS dX0_ship_41 hw
      · have hw := x_f hw c_9
        refine lv_iload hx hb dX0_ship_28 (lv_at hl 4 rfl) ?_
        refine lv_iconst (v := 0) hx hb dX0_ship_30 (by decide) ?_
        refine lv_bipush (v := 20) hx hb dX0_ship_31 (by decide) ?_
        refine x_ci (va_runS (As := [.int x4, .int 0, .int 20]) (rest := []) ⟨hx, hb, hml, hown, hts⟩ (mt_X0_isIn l hw) (va_cwS 3 hts (lw_S q178 q179 q64 q180) rfl rfl rfl hd_X0_isIn.2 ⟨Nat.le_of_ble_eq_true rfl, Nat.le_of_ble_eq_true rfl⟩) ⟨x_Pc_blind, x_Pc_pre hR hz hS hK⟩ rfl rfl hl.1 rfl (lv_room (Nat.le_of_ble_eq_true rfl)) dX0_ship_33 ⟨by show _ ≤ k; omega, by show _ ≤ n; omega⟩) hS (fun r_10 S_11 H locs hp hR hS => ?_)
        have hw := hp.2
        rw [hp.1] at hR
        refine lv_if_ne (tgt := 42) hx hb dX0_ship_36 (by decide) (fun c_12 => ?_) (fun c_12 => ?_)
        · have hw := x_f hw c_12
          refine lv_aload_n hx hb dX0_ship_42 rfl (lv_at hl 0 rfl) ?_
          refine x_getI (ci := 0) (C := RX0) (T := TX0) (N := 19) (f := 65) hx hb hts in_X0 hown hK hR rfl 15 (by decide) (hts _ q128) (fun _ h => h) rfl (by decide) dX0_ship_43 hw.1 ?_
          have hw := hw.2
          refine lv_bipush (v := 10) hx hb dX0_ship_46 (by decide) ?_
          refine lv_icmp_ne (tgt := 54) hx hb dX0_ship_48 (by decide) (fun c_13 => ?_) (fun c_13 => ?_)
          · have hw := x_f hw c_13
            refine lv_aload_n hx hb dX0_ship_54 rfl (lv_at hl 0 rfl) ?_
            refine x_getR (ci := 0) (C := RX0) (T := TX0) (N := 19) (f := 64) hx hb hts in_X0 hown hK hR rfl 14 (by decide) (hts _ q127) (fun _ h => h) rfl (by decide) dX0_ship_55 hw.1 ?_
            have hw := hw.2
            refine lv_aload_n hx hb dX0_ship_58 rfl (lv_at hl 0 rfl) ?_
            refine x_getI (ci := 0) (C := RX0) (T := TX0) (N := 19) (f := 65) hx hb hts in_X0 hown hK hR rfl 15 (by decide) (hts _ q128) (fun _ h => h) rfl (by decide) dX0_ship_59 hw.1 ?_
            have hw := hw.2
            obtain ⟨h1, h2, hw⟩ := hw
            refine x_new (ci := 18) (C := RX18) (T := TX18) (N := 5) hx hb hts in_X18 tyX18 tyX18_ok hown (hts _ q105) (hts _ q793) (hts _ q84) hK hR hS hA rfl (by decide) dfX18 dX0_ship_62 (by show _ ≤ k; omega) (by show _ ≤ n; omega) (fun a_14 H hf hR hS => ?_)
            have hw := hw a_14 hf
            have hc : (0 + 1) + (k - 1) ≤ k := by omega
            have hs : (0 + 5) + (n - 5) ≤ n := by omega
            obtain ⟨S_15, eS_15⟩ : ∃ z, z = (sN S a_14 19) := ⟨_, rfl⟩
            rw [← eS_15] at hR
            have hw := hw S_15 eS_15
            refine lv_dup hx hb dX0_ship_65 rfl ?_
            refine lv_iload_n hx hb dX0_ship_66 rfl (lv_at hl 1 rfl) ?_
            refine lv_iload_n hx hb dX0_ship_67 rfl (lv_at hl 2 rfl) ?_
            refine lv_iload_n hx hb dX0_ship_68 rfl (lv_at hl 3 rfl) ?_
            refine lv_iload hx hb dX0_ship_69 (lv_at hl 4 rfl) ?_
            refine x_cv (va_runI (As := [.int x1, .int x2, .int x3, .int x4]) (rest := [.ref a_14, .int (xI S 65 o), va_rf (xR S 64 o)]) ⟨hx, hb, hml, hown, hts⟩ (mt_X18_init l hw) (cwI 4 hts (lw_meth q796) rfl rfl rfl (hts _ q84) (hts _ q794) (hts _ q795) rfl hd_X18_init.2 ⟨Nat.le_of_ble_eq_true rfl, Nat.le_of_ble_eq_true rfl⟩) ⟨x_Pc_blind, x_Pc_pre hR hz hS hK⟩ rfl rfl hl.1 rfl (lv_room (by simp only [List.map_cons, List.map_nil, x_cat]; exact Nat.le_of_ble_eq_true rfl)) dX0_ship_71 ⟨by show _ ≤ k; omega, by show _ ≤ n; omega⟩) hS (fun S_16 H locs hp hR hS => ?_)
            have hw := hp
            obtain ⟨b_17, e_18, hw⟩ := hw
            refine x_dr2 e_18 ?_
            refine x_aast (t := 107) (ci := 18) hx hb hK hR hS (by decide) rfl (by decide) rfl dX0_ship_74 hw.1 hw.2.1 hw.2.2.1 (fun H locs hR hS => ?_)
            have hw := hw.2.2.2
            obtain ⟨S_19, eS_19⟩ : ∃ z, z = (sQ S_16 b_17 (Int32.toNatClampNeg (xI S 65 o)) (some a_14)) := ⟨_, rfl⟩
            rw [← eS_19] at hR
            have hw := hw S_19 eS_19
            refine lv_aload_n hx hb dX0_ship_75 rfl (lv_at hl 0 rfl) ?_
            refine lv_dup hx hb dX0_ship_76 rfl ?_
            refine x_getI (ci := 0) (C := RX0) (T := TX0) (N := 19) (f := 65) hx hb hts in_X0 hown hK hR rfl 15 (by decide) (hts _ q128) (fun _ h => h) rfl (by decide) dX0_ship_77 hw.1 ?_
            have hw := hw.2
            refine lv_iconst (v := 1) hx hb dX0_ship_80 (by decide) ?_
            refine lv_iadd hx hb dX0_ship_81 ?_
            refine x_putI (ci := 0) (C := RX0) (T := TX0) (N := 19) (f := 65) hx hb hts in_X0 tyX0 tyX0_ok nmX0 hown hK hR hS rfl 15 (by decide) (hts _ q128) (fun _ h => h) rfl rfl (by decide) rfl rfl dX0_ship_82 hw.1 (fun H locs hR hS => ?_)
            have hw := hw.2
            obtain ⟨S_20, eS_20⟩ : ∃ z, z = (sI S_19 65 o ((xI S_19 65 o) + 1)) := ⟨_, rfl⟩
            rw [← eS_20] at hR
            have hw := hw S_20 eS_20
            refine lv_aload_n hx hb dX0_ship_85 rfl (lv_at hl 0 rfl) ?_
            refine x_getI (ci := 0) (C := RX0) (T := TX0) (N := 19) (f := 65) hx hb hts in_X0 hown hK hR rfl 15 (by decide) (hts _ q128) (fun _ h => h) rfl (by decide) dX0_ship_86 hw.1 ?_
            have hw := hw.2
            refine lv_iconst (v := 1) hx hb dX0_ship_89 (by decide) ?_
            refine lv_isub hx hb dX0_ship_90 ?_
            refine W.widen (k := k) (n := n) (by omega) (by omega) ?_
            exact x_ri hx hb hr hlocks hR hS dX0_ship_91 hw
          · have hw := x_t hw c_13
            refine lv_bipush (v := (-4)) hx hb dX0_ship_51 (by decide) ?_
            refine W.widen (k := k) (n := n) (by omega) (by omega) ?_
            exact x_ri hx hb hr hlocks hR hS dX0_ship_53 hw
        · have hw := x_t hw c_12
          refine lv_bipush (v := (-2)) hx hb dX0_ship_39 (by decide) ?_
          refine W.widen (k := k) (n := n) (by omega) (by omega) ?_
          exact x_ri hx hb hr hlocks hR hS dX0_ship_41 hw
def w_X0_isShip (S : xH) (o : Nat) (x1 : Int32) (Q : Int32 → Prop) : Prop := xT S o = 1 ∧ w_X0_isIn S x1 0 ((xI S 65 o) - 1) (fun (r_1 : Int32) => x_B r_1 ∧ Q r_1)
theorem hd_X0_isShip : yX0_isShip.cls = "PressedMen" ∧ yX0_isShip.cls ≠ "java/lang/invoke/MethodHandle" ∧ yX0_isShip.cls ≠ "java/lang/invoke/VarHandle" ∧ (parseMethodDescriptor yX0_isShip.desc).map (fun d => d.parameters.length) = some 1 := by decide +kernel
set_option maxHeartbeats 4000000 in
theorem mt_X0_isShip (l : Launch) {D : va_G} {d : Nat → ClassId} {base : Nat} {mc : va_W} {S : xH} {o : Nat} {x1 : Int32} {Q : Int32 → Prop} (hw : w_X0_isShip S o x1 Q) : Met l yX0_isShip (ws_ yX0_isShip cX0_isShip 2 (some FieldType.boolean)) (x_rm 1 0 0 22) (x_Pc D d base mc S [.ref o, .int x1]) (x_Qi D d base mc (fun r S' => S' = S ∧ Q r)) 0 0 (x_A base) := by
  refine x_met (by decide) (Nat.le_of_ble_eq_true rfl) ?_
  intro p e s m below meth c hx hb hml hr hlocks hown hts hz hR hK hin ls hl
  have hown : s.vm.findClass "PressedMen" = some m.cls := hown
  have hl : lv_has ls 2 [(0, .ref o), (1, .int x1)] := hl
  have hS : va_S (x_A base) s.heap s.heap [] := va_S.rf
  unfold w_X0_isShip at hw
  refine lv_iload_n hx hb dX0_isShip_0 rfl (lv_at hl 1 rfl) ?_
  refine lv_iconst (v := 0) hx hb dX0_isShip_1 (by decide) ?_
  refine lv_aload_n hx hb dX0_isShip_2 rfl (lv_at hl 0 rfl) ?_
  refine x_getI (ci := 0) (C := RX0) (T := TX0) (N := 19) (f := 65) hx hb hts in_X0 hown hK hR rfl 15 (by decide) (hts _ q128) (fun _ h => h) rfl (by decide) dX0_isShip_3 hw.1 ?_
  have hw := hw.2
  refine lv_iconst (v := 1) hx hb dX0_isShip_6 (by decide) ?_
  refine lv_isub hx hb dX0_isShip_7 ?_
  refine x_ci (va_runS (As := [.int x1, .int 0, .int ((xI S 65 o) - 1)]) (rest := []) ⟨hx, hb, hml, hown, hts⟩ (mt_X0_isIn l hw) (va_cwS 3 hts (lw_S q178 q179 q64 q180) rfl rfl rfl hd_X0_isIn.2 ⟨Nat.le_of_ble_eq_true rfl, Nat.le_of_ble_eq_true rfl⟩) ⟨x_Pc_blind, x_Pc_pre hR hz hS hK⟩ rfl rfl hl.1 rfl (lv_room (Nat.le_of_ble_eq_true rfl)) dX0_isShip_8 ⟨Nat.le_refl _, Nat.le_refl _⟩) hS (fun r_1 S_2 H locs hp hR hS => ?_)
  have hw := hp.2
  rw [hp.1] at hR
  exact x_rz hx hb hr hlocks hR hS dX0_isShip_11 hw.1 ⟨rfl, hw.2⟩
def w_X0_crew (S : xH) (o : Nat) (x1 : Int32) (x2 : Int32) (Q : Int32 → Prop) : Prop := xT S o = 1 ∧ w_X0_menAt S o (10 + x1) x2 (fun (r_1 : Int32) => Q r_1)
theorem hd_X0_crew : yX0_crew.cls = "PressedMen" ∧ yX0_crew.cls ≠ "java/lang/invoke/MethodHandle" ∧ yX0_crew.cls ≠ "java/lang/invoke/VarHandle" ∧ (parseMethodDescriptor yX0_crew.desc).map (fun d => d.parameters.length) = some 2 := by decide +kernel
set_option maxHeartbeats 4000000 in
theorem mt_X0_crew (l : Launch) {D : va_G} {d : Nat → ClassId} {base : Nat} {mc : va_W} {S : xH} {o : Nat} {x1 : Int32} {x2 : Int32} {Q : Int32 → Prop} (hw : w_X0_crew S o x1 x2 Q) : Met l yX0_crew (ws_ yX0_crew cX0_crew 3 (some FieldType.int)) (x_rm 2 0 0 44) (x_Pc D d base mc S [.ref o, .int x1, .int x2]) (x_Qi D d base mc (fun r S' => S' = S ∧ Q r)) 0 0 (x_A base) := by
  refine x_met (by decide) (Nat.le_of_ble_eq_true rfl) ?_
  intro p e s m below meth c hx hb hml hr hlocks hown hts hz hR hK hin ls hl
  have hown : s.vm.findClass "PressedMen" = some m.cls := hown
  have hl : lv_has ls 3 [(0, .ref o), (1, .int x1), (2, .int x2)] := hl
  have hS : va_S (x_A base) s.heap s.heap [] := va_S.rf
  unfold w_X0_crew at hw
  refine lv_aload_n hx hb dX0_crew_0 rfl (lv_at hl 0 rfl) ?_
  refine lv_bipush (v := 10) hx hb dX0_crew_1 (by decide) ?_
  refine lv_iload_n hx hb dX0_crew_3 rfl (lv_at hl 1 rfl) ?_
  refine lv_iadd hx hb dX0_crew_4 ?_
  refine lv_iload_n hx hb dX0_crew_5 rfl (lv_at hl 2 rfl) ?_
  obtain ⟨ha, hw⟩ := hw
  refine x_ci (va_runV (As := [.int (10 + x1), .int x2]) (rest := []) ⟨hx, hb, hml, hown, hts⟩ (mt_X0_menAt l hw) (cwV 2 hts (lw_V q272 q274 qs3 q64 q275) rfl rfl rfl hd_X0_menAt ⟨Nat.le_of_ble_eq_true rfl, Nat.le_of_ble_eq_true rfl⟩) ⟨x_Pc_blind, hR.recv hK (ci := 0) rfl (by decide) ha, x_Pc_pre hR hz hS hK⟩ rfl rfl hl.1 rfl (lv_room (Nat.le_of_ble_eq_true rfl)) dX0_crew_6 ⟨Nat.le_refl _, Nat.le_refl _⟩) hS (fun r_1 S_2 H locs hp hR hS => ?_)
  have hw := hp.2
  rw [hp.1] at hR
  exact x_ri hx hb hr hlocks hR hS dX0_crew_9 ⟨rfl, hw⟩
def w_X0_of (S : xH) (o : Nat) (x1 : Int32) (x2 : Int32) (Q : Int32 → Prop) : Prop := xT S o = 1 ∧ w_X0_isShip S o x1 (fun (r_1 : Int32) => wif (r_1 = 0) (Q (-1)) (xT S o = 1 ∧ ∃ b_4, (xR S 64 o) = some b_4 ∧ xT S b_4 = 107 ∧ vp_in x1 (xL S b_4) ∧ ∃ b_6, (xQ S b_4 (Int32.toNatClampNeg x1)) = some b_6 ∧ wif (x2 = 0) (xT S b_6 = 19 ∧ Q (xI S 950 b_6)) (wif (x2 = 1) (xT S b_6 = 19 ∧ Q (xI S 951 b_6)) (wif (x2 = 2) (xT S b_6 = 19 ∧ Q (xI S 952 b_6)) (wif (x2 = 3) (xT S b_6 = 19 ∧ Q (xI S 953 b_6)) (wif (x2 = 4) (xT S b_6 = 19 ∧ wif ((xI S 954 b_6) = 0) (Q 0) (Q 1)) (wif (x2 = 5) (xT S o = 1 ∧ w_X0_crew S o x1 0 (fun (r_10 : Int32) => Q r_10)) (wif (x2 = 6) (xT S o = 1 ∧ w_X0_crew S o x1 1 (fun (r_12 : Int32) => Q r_12)) ((Q (-2)))))))))))
theorem hd_X0_of : yX0_of.cls = "PressedMen" ∧ yX0_of.cls ≠ "java/lang/invoke/MethodHandle" ∧ yX0_of.cls ≠ "java/lang/invoke/VarHandle" ∧ (parseMethodDescriptor yX0_of.desc).map (fun d => d.parameters.length) = some 2 := by decide +kernel
set_option maxHeartbeats 4000000 in
theorem mt_X0_of (l : Launch) {D : va_G} {d : Nat → ClassId} {base : Nat} {mc : va_W} {S : xH} {o : Nat} {x1 : Int32} {x2 : Int32} {Q : Int32 → Prop} (hw : w_X0_of S o x1 x2 Q) : Met l yX0_of (ws_ yX0_of cX0_of 4 (some FieldType.int)) (x_rm 3 0 0 66) (x_Pc D d base mc S [.ref o, .int x1, .int x2]) (x_Qi D d base mc (fun r S' => S' = S ∧ Q r)) 0 0 (x_A base) := by
  refine x_met (by decide) (Nat.le_of_ble_eq_true rfl) ?_
  intro p e s m below meth c hx hb hml hr hlocks hown hts hz hR hK hin ls hl
  have hown : s.vm.findClass "PressedMen" = some m.cls := hown
  have hl : lv_has ls 4 [(0, .ref o), (1, .int x1), (2, .int x2)] := hl
  have hS : va_S (x_A base) s.heap s.heap [] := va_S.rf
  unfold w_X0_of at hw
  refine lv_aload_n hx hb dX0_of_0 rfl (lv_at hl 0 rfl) ?_
  refine lv_iload_n hx hb dX0_of_1 rfl (lv_at hl 1 rfl) ?_
  obtain ⟨ha, hw⟩ := hw
  refine x_ci (va_runV (As := [.int x1]) (rest := []) ⟨hx, hb, hml, hown, hts⟩ (mt_X0_isShip l hw) (cwV 1 hts (lw_V q823 q825 qs28 q64 q826) rfl rfl rfl hd_X0_isShip ⟨Nat.le_of_ble_eq_true rfl, Nat.le_of_ble_eq_true rfl⟩) ⟨x_Pc_blind, hR.recv hK (ci := 0) rfl (by decide) ha, x_Pc_pre hR hz hS hK⟩ rfl rfl hl.1 rfl (lv_room (Nat.le_of_ble_eq_true rfl)) dX0_of_2 ⟨Nat.le_refl _, Nat.le_refl _⟩) hS (fun r_1 S_2 H locs hp hR hS => ?_)
  have hw := hp.2
  rw [hp.1] at hR
  refine lv_if_ne (tgt := 10) hx hb dX0_of_5 (by decide) (fun c_3 => ?_) (fun c_3 => ?_)
  · have hw := x_f hw c_3
    refine lv_aload_n hx hb dX0_of_10 rfl (lv_at hl 0 rfl) ?_
    refine x_getR (ci := 0) (C := RX0) (T := TX0) (N := 19) (f := 64) hx hb hts in_X0 hown hK hR rfl 14 (by decide) (hts _ q127) (fun _ h => h) rfl (by decide) dX0_of_11 hw.1 ?_
    have hw := hw.2
    refine lv_iload_n hx hb dX0_of_14 rfl (lv_at hl 1 rfl) ?_
    obtain ⟨b_4, e_5, hw⟩ := hw
    refine x_dr1 e_5 ?_
    refine x_aald (t := 107) hx hb hK hR (by decide) rfl rfl dX0_of_15 hw.1 hw.2.1 ?_
    have hw := hw.2.2
    obtain ⟨b_6, e_7, hw⟩ := hw
    refine x_dr0 e_7 ?_
    refine lv_astore_n (lv' := [(3, .ref b_6), (0, .ref o), (1, .int x1), (2, .int x2)]) hx hb dX0_of_16 rfl hl (by decide) rfl (fun ls hl => ?_)
    refine lv_iload_n hx hb dX0_of_17 rfl (lv_at hl 3 rfl) ?_
    rcases Classical.em (x2 = 0) with c_80 | c_80
    · have hw := x_t hw c_80
      refine lv_tableIn (off := 42) (tgt := 60) hx hb dX0_of_18 (by rw [c_80]; decide) (by rw [c_80]; decide) (by rw [c_80]; rfl) (by decide) ?_
      refine lv_aload_n hx hb dX0_of_60 rfl (lv_at hl 0 rfl) ?_
      refine x_getNI (ci := 18) (C := RX18) (T := TX18) (N := 5) (f := 950) hx hb hts in_X18 hown hK hR rfl 0 (by decide) (hK.2 _ q799 rfl) (fun _ h => h) rfl (by decide) dX0_of_61 hw.1 ?_
      have hw := hw.2
      exact x_ri hx hb hr hlocks hR hS dX0_of_64 ⟨rfl, hw⟩
    · have hw := x_f hw c_80
      rcases Classical.em (x2 = 1) with c_81 | c_81
      · have hw := x_t hw c_81
        refine lv_tableIn (off := 47) (tgt := 65) hx hb dX0_of_18 (by rw [c_81]; decide) (by rw [c_81]; decide) (by rw [c_81]; rfl) (by decide) ?_
        refine lv_aload_n hx hb dX0_of_65 rfl (lv_at hl 0 rfl) ?_
        refine x_getNI (ci := 18) (C := RX18) (T := TX18) (N := 5) (f := 951) hx hb hts in_X18 hown hK hR rfl 1 (by decide) (hK.2 _ q801 rfl) (fun _ h => h) rfl (by decide) dX0_of_66 hw.1 ?_
        have hw := hw.2
        exact x_ri hx hb hr hlocks hR hS dX0_of_69 ⟨rfl, hw⟩
      · have hw := x_f hw c_81
        rcases Classical.em (x2 = 2) with c_82 | c_82
        · have hw := x_t hw c_82
          refine lv_tableIn (off := 52) (tgt := 70) hx hb dX0_of_18 (by rw [c_82]; decide) (by rw [c_82]; decide) (by rw [c_82]; rfl) (by decide) ?_
          refine lv_aload_n hx hb dX0_of_70 rfl (lv_at hl 0 rfl) ?_
          refine x_getNI (ci := 18) (C := RX18) (T := TX18) (N := 5) (f := 952) hx hb hts in_X18 hown hK hR rfl 2 (by decide) (hK.2 _ q803 rfl) (fun _ h => h) rfl (by decide) dX0_of_71 hw.1 ?_
          have hw := hw.2
          exact x_ri hx hb hr hlocks hR hS dX0_of_74 ⟨rfl, hw⟩
        · have hw := x_f hw c_82
          rcases Classical.em (x2 = 3) with c_83 | c_83
          · have hw := x_t hw c_83
            refine lv_tableIn (off := 57) (tgt := 75) hx hb dX0_of_18 (by rw [c_83]; decide) (by rw [c_83]; decide) (by rw [c_83]; rfl) (by decide) ?_
            refine lv_aload_n hx hb dX0_of_75 rfl (lv_at hl 0 rfl) ?_
            refine x_getNI (ci := 18) (C := RX18) (T := TX18) (N := 5) (f := 953) hx hb hts in_X18 hown hK hR rfl 3 (by decide) (hK.2 _ q805 rfl) (fun _ h => h) rfl (by decide) dX0_of_76 hw.1 ?_
            have hw := hw.2
            exact x_ri hx hb hr hlocks hR hS dX0_of_79 ⟨rfl, hw⟩
          · have hw := x_f hw c_83
            rcases Classical.em (x2 = 4) with c_84 | c_84
            · have hw := x_t hw c_84
              refine lv_tableIn (off := 62) (tgt := 80) hx hb dX0_of_18 (by rw [c_84]; decide) (by rw [c_84]; decide) (by rw [c_84]; rfl) (by decide) ?_
              refine lv_aload_n hx hb dX0_of_80 rfl (lv_at hl 0 rfl) ?_
              refine x_getNI (ci := 18) (C := RX18) (T := TX18) (N := 5) (f := 954) hx hb hts in_X18 hown hK hR rfl 4 (by decide) (hK.2 _ q807 rfl) (fun _ h => h) rfl (by decide) dX0_of_81 hw.1 ?_
              have hw := hw.2
              refine lv_if_eq (tgt := 91) hx hb dX0_of_84 (by decide) (fun c_9 => ?_) (fun c_9 => ?_)
              · have hw := x_t hw c_9
                refine lv_iconst (v := 0) hx hb dX0_of_91 (by decide) ?_
                exact x_ri hx hb hr hlocks hR hS dX0_of_92 ⟨rfl, hw⟩
              · have hw := x_f hw c_9
                refine lv_iconst (v := 1) hx hb dX0_of_87 (by decide) ?_
                refine lv_goto (tgt := 92) hx hb dX0_of_88 (by decide) ?_
                exact x_ri hx hb hr hlocks hR hS dX0_of_92 ⟨rfl, hw⟩
            · have hw := x_f hw c_84
              rcases Classical.em (x2 = 5) with c_85 | c_85
              · have hw := x_t hw c_85
                refine lv_tableIn (off := 75) (tgt := 93) hx hb dX0_of_18 (by rw [c_85]; decide) (by rw [c_85]; decide) (by rw [c_85]; rfl) (by decide) ?_
                refine lv_aload_n hx hb dX0_of_93 rfl (lv_at hl 1 rfl) ?_
                refine lv_iload_n hx hb dX0_of_94 rfl (lv_at hl 2 rfl) ?_
                refine lv_iconst (v := 0) hx hb dX0_of_95 (by decide) ?_
                obtain ⟨ha, hw⟩ := hw
                refine x_ci (va_runV (As := [.int x1, .int 0]) (rest := []) ⟨hx, hb, hml, hown, hts⟩ (mt_X0_crew l hw) (cwV 2 hts (lw_V q827 q829 qs29 q64 q830) rfl rfl rfl hd_X0_crew ⟨Nat.le_of_ble_eq_true rfl, Nat.le_of_ble_eq_true rfl⟩) ⟨x_Pc_blind, hR.recv hK (ci := 0) rfl (by decide) ha, x_Pc_pre hR hz hS hK⟩ rfl rfl hl.1 rfl (lv_room (Nat.le_of_ble_eq_true rfl)) dX0_of_96 ⟨Nat.le_refl _, Nat.le_refl _⟩) hS (fun r_10 S_11 H locs hp hR hS => ?_)
                have hw := hp.2
                rw [hp.1] at hR
                exact x_ri hx hb hr hlocks hR hS dX0_of_99 ⟨rfl, hw⟩
              · have hw := x_f hw c_85
                rcases Classical.em (x2 = 6) with c_86 | c_86
                · have hw := x_t hw c_86
                  refine lv_tableIn (off := 82) (tgt := 100) hx hb dX0_of_18 (by rw [c_86]; decide) (by rw [c_86]; decide) (by rw [c_86]; rfl) (by decide) ?_
                  refine lv_aload_n hx hb dX0_of_100 rfl (lv_at hl 1 rfl) ?_
                  refine lv_iload_n hx hb dX0_of_101 rfl (lv_at hl 2 rfl) ?_
                  refine lv_iconst (v := 1) hx hb dX0_of_102 (by decide) ?_
                  obtain ⟨ha, hw⟩ := hw
                  refine x_ci (va_runV (As := [.int x1, .int 1]) (rest := []) ⟨hx, hb, hml, hown, hts⟩ (mt_X0_crew l hw) (cwV 2 hts (lw_V q827 q829 qs29 q64 q830) rfl rfl rfl hd_X0_crew ⟨Nat.le_of_ble_eq_true rfl, Nat.le_of_ble_eq_true rfl⟩) ⟨x_Pc_blind, hR.recv hK (ci := 0) rfl (by decide) ha, x_Pc_pre hR hz hS hK⟩ rfl rfl hl.1 rfl (lv_room (Nat.le_of_ble_eq_true rfl)) dX0_of_103 ⟨Nat.le_refl _, Nat.le_refl _⟩) hS (fun r_12 S_13 H locs hp hR hS => ?_)
                  have hw := hp.2
                  rw [hp.1] at hR
                  exact x_ri hx hb hr hlocks hR hS dX0_of_106 ⟨rfl, hw⟩
                · have hw := x_f hw c_86
                  refine lv_tableOut (tgt := 107) hx hb dX0_of_18 (x_swo 6 (fun j hj => by rcases (show j = 0 ∨ j = 1 ∨ j = 2 ∨ j = 3 ∨ j = 4 ∨ j = 5 ∨ j = 6 by omega) with rfl | rfl | rfl | rfl | rfl | rfl | rfl <;> assumption)) (by decide) ?_
                  refine lv_bipush (v := (-2)) hx hb dX0_of_107 (by decide) ?_
                  exact x_ri hx hb hr hlocks hR hS dX0_of_109 ⟨rfl, hw⟩
  · have hw := x_t hw c_3
    refine lv_iconst (v := (-1)) hx hb dX0_of_8 (by decide) ?_
    exact x_ri hx hb hr hlocks hR hS dX0_of_9 ⟨rfl, hw⟩
def w_X0_isWeather (S : xH) (x0 : Int32) (Q : Int32 → Prop) : Prop := w_X0_isIn S x0 0 3 (fun (r_1 : Int32) => x_B r_1 ∧ Q r_1)
theorem hd_X0_isWeather : yX0_isWeather.cls = "PressedMen" ∧ yX0_isWeather.cls ≠ "java/lang/invoke/MethodHandle" ∧ yX0_isWeather.cls ≠ "java/lang/invoke/VarHandle" ∧ (parseMethodDescriptor yX0_isWeather.desc).map (fun d => d.parameters.length) = some 1 := by decide +kernel
set_option maxHeartbeats 4000000 in
theorem mt_X0_isWeather (l : Launch) {D : va_G} {d : Nat → ClassId} {base : Nat} {mc : va_W} {S : xH} {x0 : Int32} {Q : Int32 → Prop} (hw : w_X0_isWeather S x0 Q) : Met l yX0_isWeather (ws_ yX0_isWeather cX0_isWeather 1 (some FieldType.boolean)) (x_rm 1 0 0 22) (x_Pc D d base mc S [.int x0]) (x_Qi D d base mc (fun r S' => S' = S ∧ Q r)) 0 0 (x_A base) := by
  refine x_met (by decide) (Nat.le_of_ble_eq_true rfl) ?_
  intro p e s m below meth c hx hb hml hr hlocks hown hts hz hR hK hin ls hl
  have hown : s.vm.findClass "PressedMen" = some m.cls := hown
  have hl : lv_has ls 1 [(0, .int x0)] := hl
  have hS : va_S (x_A base) s.heap s.heap [] := va_S.rf
  unfold w_X0_isWeather at hw
  refine lv_iload_n hx hb dX0_isWeather_0 rfl (lv_at hl 0 rfl) ?_
  refine lv_iconst (v := 0) hx hb dX0_isWeather_1 (by decide) ?_
  refine lv_iconst (v := 3) hx hb dX0_isWeather_2 (by decide) ?_
  refine x_ci (va_runS (As := [.int x0, .int 0, .int 3]) (rest := []) ⟨hx, hb, hml, hown, hts⟩ (mt_X0_isIn l hw) (va_cwS 3 hts (lw_S q178 q179 q64 q180) rfl rfl rfl hd_X0_isIn.2 ⟨Nat.le_of_ble_eq_true rfl, Nat.le_of_ble_eq_true rfl⟩) ⟨x_Pc_blind, x_Pc_pre hR hz hS hK⟩ rfl rfl hl.1 rfl (lv_room (Nat.le_of_ble_eq_true rfl)) dX0_isWeather_3 ⟨Nat.le_refl _, Nat.le_refl _⟩) hS (fun r_1 S_2 H locs hp hR hS => ?_)
  have hw := hp.2
  rw [hp.1] at hR
  exact x_rz hx hb hr hlocks hR hS dX0_isWeather_6 hw.1 ⟨rfl, hw.2⟩
def w_X0_spareOf (S : xH) (o : Nat) (x1 : Int32) (x2 : Int32) (Q : Int32 → Prop) : Prop := xT S o = 1 ∧ w_X0_crew S o x1 0 (fun (r_1 : Int32) => xT S o = 1 ∧ ∃ b_3, (xR S 64 o) = some b_3 ∧ xT S b_3 = 107 ∧ vp_in x1 (xL S b_3) ∧ ∃ b_5, (xQ S b_3 (Int32.toNatClampNeg x1)) = some b_5 ∧ xT S b_5 = 19 ∧ Q (if 0 < ((r_1 - (xI S 953 b_5)) - x2) then ((r_1 - (xI S 953 b_5)) - x2) else 0))
theorem hd_X0_spareOf : yX0_spareOf.cls = "PressedMen" ∧ yX0_spareOf.cls ≠ "java/lang/invoke/MethodHandle" ∧ yX0_spareOf.cls ≠ "java/lang/invoke/VarHandle" ∧ (parseMethodDescriptor yX0_spareOf.desc).map (fun d => d.parameters.length) = some 2 := by decide +kernel
set_option maxHeartbeats 4000000 in
theorem mt_X0_spareOf (l : Launch) {D : va_G} {d : Nat → ClassId} {base : Nat} {mc : va_W} {S : xH} {o : Nat} {x1 : Int32} {x2 : Int32} {Q : Int32 → Prop} (hw : w_X0_spareOf S o x1 x2 Q) : Met l yX0_spareOf (ws_ yX0_spareOf cX0_spareOf 3 (some FieldType.int)) (x_rm 3 0 0 66) (x_Pc D d base mc S [.ref o, .int x1, .int x2]) (x_Qi D d base mc (fun r S' => S' = S ∧ Q r)) 0 0 (x_A base) := by
  refine x_met (by decide) (Nat.le_of_ble_eq_true rfl) ?_
  intro p e s m below meth c hx hb hml hr hlocks hown hts hz hR hK hin ls hl
  have hown : s.vm.findClass "PressedMen" = some m.cls := hown
  have hl : lv_has ls 3 [(0, .ref o), (1, .int x1), (2, .int x2)] := hl
  have hS : va_S (x_A base) s.heap s.heap [] := va_S.rf
  unfold w_X0_spareOf at hw
  refine lv_iconst (v := 0) hx hb dX0_spareOf_0 (by decide) ?_
  refine lv_aload_n hx hb dX0_spareOf_1 rfl (lv_at hl 0 rfl) ?_
  refine lv_iload_n hx hb dX0_spareOf_2 rfl (lv_at hl 1 rfl) ?_
  refine lv_iconst (v := 0) hx hb dX0_spareOf_3 (by decide) ?_
  obtain ⟨ha, hw⟩ := hw
  refine x_ci (va_runV (As := [.int x1, .int 0]) (rest := [.int 0]) ⟨hx, hb, hml, hown, hts⟩ (mt_X0_crew l hw) (cwV 2 hts (lw_V q827 q829 qs29 q64 q830) rfl rfl rfl hd_X0_crew ⟨Nat.le_of_ble_eq_true rfl, Nat.le_of_ble_eq_true rfl⟩) ⟨x_Pc_blind, hR.recv hK (ci := 0) rfl (by decide) ha, x_Pc_pre hR hz hS hK⟩ rfl rfl hl.1 rfl (lv_room (Nat.le_of_ble_eq_true rfl)) dX0_spareOf_4 ⟨Nat.le_refl _, Nat.le_refl _⟩) hS (fun r_1 S_2 H locs hp hR hS => ?_)
  have hw := hp.2
  rw [hp.1] at hR
  refine lv_aload_n hx hb dX0_spareOf_7 rfl (lv_at hl 0 rfl) ?_
  refine x_getR (ci := 0) (C := RX0) (T := TX0) (N := 19) (f := 64) hx hb hts in_X0 hown hK hR rfl 14 (by decide) (hts _ q127) (fun _ h => h) rfl (by decide) dX0_spareOf_8 hw.1 ?_
  have hw := hw.2
  refine lv_iload_n hx hb dX0_spareOf_11 rfl (lv_at hl 1 rfl) ?_
  obtain ⟨b_3, e_4, hw⟩ := hw
  refine x_dr1 e_4 ?_
  refine x_aald (t := 107) hx hb hK hR (by decide) rfl rfl dX0_spareOf_12 hw.1 hw.2.1 ?_
  have hw := hw.2.2
  obtain ⟨b_5, e_6, hw⟩ := hw
  refine x_dr0 e_6 ?_
  refine x_getNI (ci := 18) (C := RX18) (T := TX18) (N := 5) (f := 953) hx hb hts in_X18 hown hK hR rfl 3 (by decide) (hK.2 _ q805 rfl) (fun _ h => h) rfl (by decide) dX0_spareOf_13 hw.1 ?_
  have hw := hw.2
  refine lv_isub hx hb dX0_spareOf_16 ?_
  refine lv_iload_n hx hb dX0_spareOf_17 rfl (lv_at hl 2 rfl) ?_
  refine lv_isub hx hb dX0_spareOf_18 ?_
  refine va_mmax hx hb (by rw [hml]; exact hl.1.symm) hown (hts _ q315) (hts _ q316) (hts _ q68) (hts _ q317) (Nat.le_of_ble_eq_true rfl) (Nat.le_of_ble_eq_true rfl) (Nat.le_of_ble_eq_true rfl) (Nat.le_of_ble_eq_true rfl) dX0_spareOf_19 ?_
  exact x_ri hx hb hr hlocks hR hS dX0_spareOf_22 ⟨rfl, hw⟩
def w_X0_spare (S : xH) (o : Nat) (x1 : Int32) (x2 : Int32) (Q : Int32 → Prop) : Prop := xT S o = 1 ∧ w_X0_isShip S o x1 (fun (r_1 : Int32) => wif (r_1 = 0) (Q (-1)) (w_X0_isWeather S x2 (fun (r_4 : Int32) => wif (r_4 = 0) (Q (-2)) (xT S o = 1 ∧ ∃ b_7, (xR S 64 o) = some b_7 ∧ xT S b_7 = 107 ∧ vp_in x1 (xL S b_7) ∧ ∃ b_9, (xQ S b_7 (Int32.toNatClampNeg x1)) = some b_9 ∧ xT S b_9 = 19 ∧ wif ((xI S 950 b_9) = 0) (Q (-3)) (xT S o = 1 ∧ w_X0_spareOf S o x1 x2 (fun (r_12 : Int32) => Q r_12))))))
theorem hd_X0_spare : yX0_spare.cls = "PressedMen" ∧ yX0_spare.cls ≠ "java/lang/invoke/MethodHandle" ∧ yX0_spare.cls ≠ "java/lang/invoke/VarHandle" ∧ (parseMethodDescriptor yX0_spare.desc).map (fun d => d.parameters.length) = some 2 := by decide +kernel
set_option maxHeartbeats 4000000 in
theorem mt_X0_spare (l : Launch) {D : va_G} {d : Nat → ClassId} {base : Nat} {mc : va_W} {S : xH} {o : Nat} {x1 : Int32} {x2 : Int32} {Q : Int32 → Prop} (hw : w_X0_spare S o x1 x2 Q) : Met l yX0_spare (ws_ yX0_spare cX0_spare 3 (some FieldType.int)) (x_rm 4 0 0 88) (x_Pc D d base mc S [.ref o, .int x1, .int x2]) (x_Qi D d base mc (fun r S' => S' = S ∧ Q r)) 0 0 (x_A base) := by
  refine x_met (by decide) (Nat.le_of_ble_eq_true rfl) ?_
  intro p e s m below meth c hx hb hml hr hlocks hown hts hz hR hK hin ls hl
  have hown : s.vm.findClass "PressedMen" = some m.cls := hown
  have hl : lv_has ls 3 [(0, .ref o), (1, .int x1), (2, .int x2)] := hl
  have hS : va_S (x_A base) s.heap s.heap [] := va_S.rf
  unfold w_X0_spare at hw
  refine lv_aload_n hx hb dX0_spare_0 rfl (lv_at hl 0 rfl) ?_
  refine lv_iload_n hx hb dX0_spare_1 rfl (lv_at hl 1 rfl) ?_
  obtain ⟨ha, hw⟩ := hw
  refine x_ci (va_runV (As := [.int x1]) (rest := []) ⟨hx, hb, hml, hown, hts⟩ (mt_X0_isShip l hw) (cwV 1 hts (lw_V q823 q825 qs28 q64 q826) rfl rfl rfl hd_X0_isShip ⟨Nat.le_of_ble_eq_true rfl, Nat.le_of_ble_eq_true rfl⟩) ⟨x_Pc_blind, hR.recv hK (ci := 0) rfl (by decide) ha, x_Pc_pre hR hz hS hK⟩ rfl rfl hl.1 rfl (lv_room (Nat.le_of_ble_eq_true rfl)) dX0_spare_2 ⟨Nat.le_refl _, Nat.le_refl _⟩) hS (fun r_1 S_2 H locs hp hR hS => ?_)
  have hw := hp.2
  rw [hp.1] at hR
  refine lv_if_ne (tgt := 10) hx hb dX0_spare_5 (by decide) (fun c_3 => ?_) (fun c_3 => ?_)
  · have hw := x_f hw c_3
    refine lv_iload_n hx hb dX0_spare_10 rfl (lv_at hl 2 rfl) ?_
    refine x_ci (va_runS (As := [.int x2]) (rest := []) ⟨hx, hb, hml, hown, hts⟩ (mt_X0_isWeather l hw) (va_cwS 1 hts (lw_S q835 q836 q64 q837) rfl rfl rfl hd_X0_isWeather.2 ⟨Nat.le_of_ble_eq_true rfl, Nat.le_of_ble_eq_true rfl⟩) ⟨x_Pc_blind, x_Pc_pre hR hz hS hK⟩ rfl rfl hl.1 rfl (lv_room (Nat.le_of_ble_eq_true rfl)) dX0_spare_11 ⟨Nat.le_refl _, Nat.le_refl _⟩) hS (fun r_4 S_5 H locs hp hR hS => ?_)
    have hw := hp.2
    rw [hp.1] at hR
    refine lv_if_ne (tgt := 20) hx hb dX0_spare_14 (by decide) (fun c_6 => ?_) (fun c_6 => ?_)
    · have hw := x_f hw c_6
      refine lv_aload_n hx hb dX0_spare_20 rfl (lv_at hl 0 rfl) ?_
      refine x_getR (ci := 0) (C := RX0) (T := TX0) (N := 19) (f := 64) hx hb hts in_X0 hown hK hR rfl 14 (by decide) (hts _ q127) (fun _ h => h) rfl (by decide) dX0_spare_21 hw.1 ?_
      have hw := hw.2
      refine lv_iload_n hx hb dX0_spare_24 rfl (lv_at hl 1 rfl) ?_
      obtain ⟨b_7, e_8, hw⟩ := hw
      refine x_dr1 e_8 ?_
      refine x_aald (t := 107) hx hb hK hR (by decide) rfl rfl dX0_spare_25 hw.1 hw.2.1 ?_
      have hw := hw.2.2
      obtain ⟨b_9, e_10, hw⟩ := hw
      refine x_dr0 e_10 ?_
      refine x_getNI (ci := 18) (C := RX18) (T := TX18) (N := 5) (f := 950) hx hb hts in_X18 hown hK hR rfl 0 (by decide) (hK.2 _ q799 rfl) (fun _ h => h) rfl (by decide) dX0_spare_26 hw.1 ?_
      have hw := hw.2
      refine lv_if_ne (tgt := 37) hx hb dX0_spare_29 (by decide) (fun c_11 => ?_) (fun c_11 => ?_)
      · have hw := x_f hw c_11
        refine lv_aload_n hx hb dX0_spare_37 rfl (lv_at hl 0 rfl) ?_
        refine lv_iload_n hx hb dX0_spare_38 rfl (lv_at hl 1 rfl) ?_
        refine lv_iload_n hx hb dX0_spare_39 rfl (lv_at hl 2 rfl) ?_
        obtain ⟨ha, hw⟩ := hw
        refine x_ci (va_runV (As := [.int x1, .int x2]) (rest := []) ⟨hx, hb, hml, hown, hts⟩ (mt_X0_spareOf l hw) (cwV 2 hts (lw_V q838 q840 qs30 q64 q841) rfl rfl rfl hd_X0_spareOf ⟨Nat.le_of_ble_eq_true rfl, Nat.le_of_ble_eq_true rfl⟩) ⟨x_Pc_blind, hR.recv hK (ci := 0) rfl (by decide) ha, x_Pc_pre hR hz hS hK⟩ rfl rfl hl.1 rfl (lv_room (Nat.le_of_ble_eq_true rfl)) dX0_spare_40 ⟨Nat.le_refl _, Nat.le_refl _⟩) hS (fun r_12 S_13 H locs hp hR hS => ?_)
        have hw := hp.2
        rw [hp.1] at hR
        exact x_ri hx hb hr hlocks hR hS dX0_spare_43 ⟨rfl, hw⟩
      · have hw := x_t hw c_11
        refine lv_bipush (v := (-3)) hx hb dX0_spare_32 (by decide) ?_
        refine lv_goto (tgt := 43) hx hb dX0_spare_34 (by decide) ?_
        exact x_ri hx hb hr hlocks hR hS dX0_spare_43 ⟨rfl, hw⟩
    · have hw := x_t hw c_6
      refine lv_bipush (v := (-2)) hx hb dX0_spare_17 (by decide) ?_
      exact x_ri hx hb hr hlocks hR hS dX0_spare_19 ⟨rfl, hw⟩
  · have hw := x_t hw c_3
    refine lv_iconst (v := (-1)) hx hb dX0_spare_8 (by decide) ?_
    exact x_ri hx hb hr hlocks hR hS dX0_spare_9 ⟨rfl, hw⟩
def w_X0_isCrowded (S : xH) (o : Nat) (x1 : Int32) (Q : Int32 → Prop) : Prop := xT S o = 1 ∧ w_X0_crew S o x1 0 (fun (r_1 : Int32) => xT S o = 1 ∧ ∃ b_3, (xR S 64 o) = some b_3 ∧ xT S b_3 = 107 ∧ vp_in x1 (xL S b_3) ∧ ∃ b_5, (xQ S b_3 (Int32.toNatClampNeg x1)) = some b_5 ∧ xT S b_5 = 19 ∧ wif (r_1 < (2 * (xI S 951 b_5))) (Q 0) (Q 1))
theorem hd_X0_isCrowded : yX0_isCrowded.cls = "PressedMen" ∧ yX0_isCrowded.cls ≠ "java/lang/invoke/MethodHandle" ∧ yX0_isCrowded.cls ≠ "java/lang/invoke/VarHandle" ∧ (parseMethodDescriptor yX0_isCrowded.desc).map (fun d => d.parameters.length) = some 1 := by decide +kernel
set_option maxHeartbeats 4000000 in
theorem mt_X0_isCrowded (l : Launch) {D : va_G} {d : Nat → ClassId} {base : Nat} {mc : va_W} {S : xH} {o : Nat} {x1 : Int32} {Q : Int32 → Prop} (hw : w_X0_isCrowded S o x1 Q) : Met l yX0_isCrowded (ws_ yX0_isCrowded cX0_isCrowded 2 (some FieldType.boolean)) (x_rm 3 0 0 66) (x_Pc D d base mc S [.ref o, .int x1]) (x_Qi D d base mc (fun r S' => S' = S ∧ Q r)) 0 0 (x_A base) := by
  refine x_met (by decide) (Nat.le_of_ble_eq_true rfl) ?_
  intro p e s m below meth c hx hb hml hr hlocks hown hts hz hR hK hin ls hl
  have hown : s.vm.findClass "PressedMen" = some m.cls := hown
  have hl : lv_has ls 2 [(0, .ref o), (1, .int x1)] := hl
  have hS : va_S (x_A base) s.heap s.heap [] := va_S.rf
  unfold w_X0_isCrowded at hw
  refine lv_aload_n hx hb dX0_isCrowded_0 rfl (lv_at hl 0 rfl) ?_
  refine lv_iload_n hx hb dX0_isCrowded_1 rfl (lv_at hl 1 rfl) ?_
  refine lv_iconst (v := 0) hx hb dX0_isCrowded_2 (by decide) ?_
  obtain ⟨ha, hw⟩ := hw
  refine x_ci (va_runV (As := [.int x1, .int 0]) (rest := []) ⟨hx, hb, hml, hown, hts⟩ (mt_X0_crew l hw) (cwV 2 hts (lw_V q827 q829 qs29 q64 q830) rfl rfl rfl hd_X0_crew ⟨Nat.le_of_ble_eq_true rfl, Nat.le_of_ble_eq_true rfl⟩) ⟨x_Pc_blind, hR.recv hK (ci := 0) rfl (by decide) ha, x_Pc_pre hR hz hS hK⟩ rfl rfl hl.1 rfl (lv_room (Nat.le_of_ble_eq_true rfl)) dX0_isCrowded_3 ⟨Nat.le_refl _, Nat.le_refl _⟩) hS (fun r_1 S_2 H locs hp hR hS => ?_)
  have hw := hp.2
  rw [hp.1] at hR
  refine lv_iconst (v := 2) hx hb dX0_isCrowded_6 (by decide) ?_
  refine lv_aload_n hx hb dX0_isCrowded_7 rfl (lv_at hl 0 rfl) ?_
  refine x_getR (ci := 0) (C := RX0) (T := TX0) (N := 19) (f := 64) hx hb hts in_X0 hown hK hR rfl 14 (by decide) (hts _ q127) (fun _ h => h) rfl (by decide) dX0_isCrowded_8 hw.1 ?_
  have hw := hw.2
  refine lv_iload_n hx hb dX0_isCrowded_11 rfl (lv_at hl 1 rfl) ?_
  obtain ⟨b_3, e_4, hw⟩ := hw
  refine x_dr1 e_4 ?_
  refine x_aald (t := 107) hx hb hK hR (by decide) rfl rfl dX0_isCrowded_12 hw.1 hw.2.1 ?_
  have hw := hw.2.2
  obtain ⟨b_5, e_6, hw⟩ := hw
  refine x_dr0 e_6 ?_
  refine x_getNI (ci := 18) (C := RX18) (T := TX18) (N := 5) (f := 951) hx hb hts in_X18 hown hK hR rfl 1 (by decide) (hK.2 _ q801 rfl) (fun _ h => h) rfl (by decide) dX0_isCrowded_13 hw.1 ?_
  have hw := hw.2
  refine lv_imul hx hb dX0_isCrowded_16 ?_
  refine lv_icmp_lt (tgt := 24) hx hb dX0_isCrowded_17 (by decide) (fun c_7 => ?_) (fun c_7 => ?_)
  · have hw := x_t hw c_7
    refine lv_iconst (v := 0) hx hb dX0_isCrowded_24 (by decide) ?_
    exact x_rz hx hb hr hlocks hR hS dX0_isCrowded_25 (Or.inl rfl) ⟨rfl, hw⟩
  · have hw := x_f hw c_7
    refine lv_iconst (v := 1) hx hb dX0_isCrowded_20 (by decide) ?_
    refine lv_goto (tgt := 25) hx hb dX0_isCrowded_21 (by decide) ?_
    exact x_rz hx hb hr hlocks hR hS dX0_isCrowded_25 (Or.inr rfl) ⟨rfl, hw⟩
def w_X0_board (k n : Nat) (S : xH) (o : Nat) (x1 : Int32) (x2 : Int32) (Q : Int32 → xH → Prop) : Prop := xT S o = 1 ∧ w_X0_isMan S o x1 (fun (r_1 : Int32) => wif (r_1 = 0) (Q (-1) S) (xT S o = 1 ∧ w_X0_isShip S o x2 (fun (r_4 : Int32) => wif (r_4 = 0) (Q (-1) S) (xT S o = 1 ∧ ∃ b_7, (xR S 52 o) = some b_7 ∧ xT S b_7 = 103 ∧ vp_in x1 (xL S b_7) ∧ ∃ b_9, (xQ S b_7 (Int32.toNatClampNeg x1)) = some b_9 ∧ xT S b_9 = 3 ∧ w_X2_place S b_9 (fun (r_11 : Int32) => wif (10 ≤ r_11) (Q (-3) S) (xT S o = 1 ∧ ∃ b_14, (xR S 64 o) = some b_14 ∧ xT S b_14 = 107 ∧ vp_in x2 (xL S b_14) ∧ ∃ b_16, (xQ S b_14 (Int32.toNatClampNeg x2)) = some b_16 ∧ xT S b_16 = 19 ∧ wif ((xI S 954 b_16) = 0) (Q (-3) S) (xT S o = 1 ∧ w_X0_isCrowded S o x2 (fun (r_19 : Int32) => wif (r_19 = 0) (xT S o = 1 ∧ ∃ b_22, (xR S 52 o) = some b_22 ∧ xT S b_22 = 103 ∧ vp_in x1 (xL S b_22) ∧ xT S o = 1 ∧ ∃ b_24, (xQ S b_22 (Int32.toNatClampNeg x1)) = some b_24 ∧ xT S b_24 = 3 ∧ ∃ k_26 n_27, k_26 ≤ k ∧ n_27 ≤ n ∧ w_X2_go k_26 n_27 S b_24 (xI S 54 o) (10 + x2) (fun (S_28 : xH) => xT S_28 o = 1 ∧ w_X0_crew S_28 o x2 0 (fun (r_29 : Int32) => Q r_29 S_28))) (Q (-4) S)))))))))
theorem hd_X0_board : yX0_board.cls = "PressedMen" ∧ yX0_board.cls ≠ "java/lang/invoke/MethodHandle" ∧ yX0_board.cls ≠ "java/lang/invoke/VarHandle" ∧ (parseMethodDescriptor yX0_board.desc).map (fun d => d.parameters.length) = some 2 := by decide +kernel
set_option maxHeartbeats 4000000 in
theorem mt_X0_board (l : Launch) {D : va_G} {d : Nat → ClassId} {base : Nat} {mc : va_W} {S : xH} {k n : Nat} {o : Nat} {x1 : Int32} {x2 : Int32} {Q : Int32 → xH → Prop} (hw : w_X0_board k n S o x1 x2 Q) : Met l yX0_board (ws_ yX0_board cX0_board 3 (some FieldType.int)) (x_rm 4 k n 87) (x_Pc D d base mc S [.ref o, .int x1, .int x2]) (x_Qi D d base mc (fun r S' => Q r S')) k n (x_A base) := by
  refine x_met (by decide) (Nat.le_of_ble_eq_true rfl) ?_
  intro p e s m below meth c hx hb hml hr hlocks hown hts hz hR hK hin ls hl
  have hown : s.vm.findClass "PressedMen" = some m.cls := hown
  have hl : lv_has ls 3 [(0, .ref o), (1, .int x1), (2, .int x2)] := hl
  have hS : va_S (x_A base) s.heap s.heap [] := va_S.rf
  have hA : ∀ q : Nat, s.heap.size ≤ q → x_A base q := fun q h => Nat.le_trans hz h
  have hc : 0 + k ≤ k := by omega
  have hs : 0 + n ≤ n := by omega
  unfold w_X0_board at hw
  refine lv_aload_n hx hb dX0_board_0 rfl (lv_at hl 0 rfl) ?_
  refine lv_iload_n hx hb dX0_board_1 rfl (lv_at hl 1 rfl) ?_
  obtain ⟨ha, hw⟩ := hw
  refine x_ci (va_runV (As := [.int x1]) (rest := []) ⟨hx, hb, hml, hown, hts⟩ (mt_X0_isMan l hw) (cwV 1 hts (lw_V q252 q254 qs2 q64 q255) rfl rfl rfl hd_X0_isMan ⟨Nat.le_of_ble_eq_true rfl, Nat.le_of_ble_eq_true rfl⟩) ⟨x_Pc_blind, hR.recv hK (ci := 0) rfl (by decide) ha, x_Pc_pre hR hz hS hK⟩ rfl rfl hl.1 rfl (lv_room (Nat.le_of_ble_eq_true rfl)) dX0_board_2 ⟨by show _ ≤ k; omega, by show _ ≤ n; omega⟩) hS (fun r_1 S_2 H locs hp hR hS => ?_)
  have hw := hp.2
  rw [hp.1] at hR
  refine lv_if_eq (tgt := 16) hx hb dX0_board_5 (by decide) (fun c_3 => ?_) (fun c_3 => ?_)
  · have hw := x_t hw c_3
    refine lv_iconst (v := (-1)) hx hb dX0_board_16 (by decide) ?_
    refine W.widen (k := k) (n := n) (by omega) (by omega) ?_
    exact x_ri hx hb hr hlocks hR hS dX0_board_17 hw
  · have hw := x_f hw c_3
    refine lv_aload_n hx hb dX0_board_8 rfl (lv_at hl 0 rfl) ?_
    refine lv_iload_n hx hb dX0_board_9 rfl (lv_at hl 2 rfl) ?_
    obtain ⟨ha, hw⟩ := hw
    refine x_ci (va_runV (As := [.int x2]) (rest := []) ⟨hx, hb, hml, hown, hts⟩ (mt_X0_isShip l hw) (cwV 1 hts (lw_V q823 q825 qs28 q64 q826) rfl rfl rfl hd_X0_isShip ⟨Nat.le_of_ble_eq_true rfl, Nat.le_of_ble_eq_true rfl⟩) ⟨x_Pc_blind, hR.recv hK (ci := 0) rfl (by decide) ha, x_Pc_pre hR hz hS hK⟩ rfl rfl hl.1 rfl (lv_room (Nat.le_of_ble_eq_true rfl)) dX0_board_10 ⟨by show _ ≤ k; omega, by show _ ≤ n; omega⟩) hS (fun r_4 S_5 H locs hp hR hS => ?_)
    have hw := hp.2
    rw [hp.1] at hR
    refine lv_if_ne (tgt := 18) hx hb dX0_board_13 (by decide) (fun c_6 => ?_) (fun c_6 => ?_)
    · have hw := x_f hw c_6
      refine lv_aload_n hx hb dX0_board_18 rfl (lv_at hl 0 rfl) ?_
      refine x_getR (ci := 0) (C := RX0) (T := TX0) (N := 19) (f := 52) hx hb hts in_X0 hown hK hR rfl 2 (by decide) (hts _ q114) (fun _ h => h) rfl (by decide) dX0_board_19 hw.1 ?_
      have hw := hw.2
      refine lv_iload_n hx hb dX0_board_22 rfl (lv_at hl 1 rfl) ?_
      obtain ⟨b_7, e_8, hw⟩ := hw
      refine x_dr1 e_8 ?_
      refine x_aald (t := 103) hx hb hK hR (by decide) rfl rfl dX0_board_23 hw.1 hw.2.1 ?_
      have hw := hw.2.2
      obtain ⟨b_9, e_10, hw⟩ := hw
      refine x_dr0 e_10 ?_
      obtain ⟨ha, hw⟩ := hw
      refine x_ci (va_runV (As := []) (rest := []) ⟨hx, hb, hml, hown, hts⟩ (mt_X2_place l hw) (cwV 0 hts (lw_V q276 q277 q278 q66 q279) rfl rfl rfl hd_X2_place ⟨Nat.le_of_ble_eq_true rfl, Nat.le_of_ble_eq_true rfl⟩) ⟨x_Pc_blind, hR.recv hK (ci := 2) rfl (by decide) ha, x_Pc_pre hR hz hS hK⟩ rfl rfl hl.1 rfl (lv_room (Nat.le_of_ble_eq_true rfl)) dX0_board_24 ⟨by show _ ≤ k; omega, by show _ ≤ n; omega⟩) hS (fun r_11 S_12 H locs hp hR hS => ?_)
      have hw := hp.2
      rw [hp.1] at hR
      refine lv_bipush (v := 10) hx hb dX0_board_27 (by decide) ?_
      refine lv_icmp_ge (tgt := 44) hx hb dX0_board_29 (by decide) (fun c_13 => ?_) (fun c_13 => ?_)
      · have hw := x_t hw c_13
        refine lv_bipush (v := (-3)) hx hb dX0_board_44 (by decide) ?_
        refine W.widen (k := k) (n := n) (by omega) (by omega) ?_
        exact x_ri hx hb hr hlocks hR hS dX0_board_46 hw
      · have hw := x_f hw c_13
        refine lv_aload_n hx hb dX0_board_32 rfl (lv_at hl 0 rfl) ?_
        refine x_getR (ci := 0) (C := RX0) (T := TX0) (N := 19) (f := 64) hx hb hts in_X0 hown hK hR rfl 14 (by decide) (hts _ q127) (fun _ h => h) rfl (by decide) dX0_board_33 hw.1 ?_
        have hw := hw.2
        refine lv_iload_n hx hb dX0_board_36 rfl (lv_at hl 2 rfl) ?_
        obtain ⟨b_14, e_15, hw⟩ := hw
        refine x_dr1 e_15 ?_
        refine x_aald (t := 107) hx hb hK hR (by decide) rfl rfl dX0_board_37 hw.1 hw.2.1 ?_
        have hw := hw.2.2
        obtain ⟨b_16, e_17, hw⟩ := hw
        refine x_dr0 e_17 ?_
        refine x_getNI (ci := 18) (C := RX18) (T := TX18) (N := 5) (f := 954) hx hb hts in_X18 hown hK hR rfl 4 (by decide) (hK.2 _ q807 rfl) (fun _ h => h) rfl (by decide) dX0_board_38 hw.1 ?_
        have hw := hw.2
        refine lv_if_ne (tgt := 47) hx hb dX0_board_41 (by decide) (fun c_18 => ?_) (fun c_18 => ?_)
        · have hw := x_f hw c_18
          refine lv_aload_n hx hb dX0_board_47 rfl (lv_at hl 0 rfl) ?_
          refine lv_iload_n hx hb dX0_board_48 rfl (lv_at hl 2 rfl) ?_
          obtain ⟨ha, hw⟩ := hw
          refine x_ci (va_runV (As := [.int x2]) (rest := []) ⟨hx, hb, hml, hown, hts⟩ (mt_X0_isCrowded l hw) (cwV 1 hts (lw_V q846 q848 qs31 q64 q849) rfl rfl rfl hd_X0_isCrowded ⟨Nat.le_of_ble_eq_true rfl, Nat.le_of_ble_eq_true rfl⟩) ⟨x_Pc_blind, hR.recv hK (ci := 0) rfl (by decide) ha, x_Pc_pre hR hz hS hK⟩ rfl rfl hl.1 rfl (lv_room (Nat.le_of_ble_eq_true rfl)) dX0_board_49 ⟨by show _ ≤ k; omega, by show _ ≤ n; omega⟩) hS (fun r_19 S_20 H locs hp hR hS => ?_)
          have hw := hp.2
          rw [hp.1] at hR
          refine lv_if_eq (tgt := 58) hx hb dX0_board_52 (by decide) (fun c_21 => ?_) (fun c_21 => ?_)
          · have hw := x_t hw c_21
            refine lv_aload_n hx hb dX0_board_58 rfl (lv_at hl 0 rfl) ?_
            refine x_getR (ci := 0) (C := RX0) (T := TX0) (N := 19) (f := 52) hx hb hts in_X0 hown hK hR rfl 2 (by decide) (hts _ q114) (fun _ h => h) rfl (by decide) dX0_board_59 hw.1 ?_
            have hw := hw.2
            refine lv_iload_n hx hb dX0_board_62 rfl (lv_at hl 1 rfl) ?_
            obtain ⟨b_22, e_23, hw⟩ := hw
            refine x_dr1 e_23 ?_
            refine x_aald (t := 103) hx hb hK hR (by decide) rfl rfl dX0_board_63 hw.1 hw.2.1 ?_
            have hw := hw.2.2
            refine lv_aload_n hx hb dX0_board_64 rfl (lv_at hl 0 rfl) ?_
            refine x_getI (ci := 0) (C := RX0) (T := TX0) (N := 19) (f := 54) hx hb hts in_X0 hown hK hR rfl 4 (by decide) (hts _ q117) (fun _ h => h) rfl (by decide) dX0_board_65 hw.1 ?_
            have hw := hw.2
            refine lv_bipush (v := 10) hx hb dX0_board_68 (by decide) ?_
            refine lv_iload_n hx hb dX0_board_70 rfl (lv_at hl 2 rfl) ?_
            refine lv_iadd hx hb dX0_board_71 ?_
            obtain ⟨b_24, e_25, hw⟩ := hw
            refine x_dr2 e_25 ?_
            obtain ⟨ha, hw⟩ := hw
            obtain ⟨k_26, n_27, h1, h2, hw⟩ := hw
            refine x_cv (va_runV (As := [.int (xI S 54 o), .int (10 + x2)]) (rest := []) ⟨hx, hb, hml, hown, hts⟩ (mt_X2_go l hw) (cwV 2 hts (lw_V q311 q312 q313 q66 q314) rfl rfl rfl hd_X2_go ⟨Nat.le_of_ble_eq_true rfl, Nat.le_of_ble_eq_true rfl⟩) ⟨x_Pc_blind, hR.recv hK (ci := 2) rfl (by decide) ha, x_Pc_pre hR hz hS hK⟩ rfl rfl hl.1 rfl (lv_room (Nat.le_of_ble_eq_true rfl)) dX0_board_72 ⟨by show _ ≤ k; omega, by show _ ≤ n; omega⟩) hS (fun S_28 H locs hp hR hS => ?_)
            have hw := hp
            have hc : (0 + k_26) + (k - k_26) ≤ k := by omega
            have hs : (0 + n_27) + (n - n_27) ≤ n := by omega
            refine lv_aload_n hx hb dX0_board_75 rfl (lv_at hl 0 rfl) ?_
            refine lv_iload_n hx hb dX0_board_76 rfl (lv_at hl 2 rfl) ?_
            refine lv_iconst (v := 0) hx hb dX0_board_77 (by decide) ?_
            obtain ⟨ha, hw⟩ := hw
            refine x_ci (va_runV (As := [.int x2, .int 0]) (rest := []) ⟨hx, hb, hml, hown, hts⟩ (mt_X0_crew l hw) (cwV 2 hts (lw_V q827 q829 qs29 q64 q830) rfl rfl rfl hd_X0_crew ⟨Nat.le_of_ble_eq_true rfl, Nat.le_of_ble_eq_true rfl⟩) ⟨x_Pc_blind, hR.recv hK (ci := 0) rfl (by decide) ha, x_Pc_pre hR hz hS hK⟩ rfl rfl hl.1 rfl (lv_room (Nat.le_of_ble_eq_true rfl)) dX0_board_78 ⟨by show _ ≤ k; omega, by show _ ≤ n; omega⟩) hS (fun r_29 S_30 H locs hp hR hS => ?_)
            have hw := hp.2
            rw [hp.1] at hR
            refine W.widen (k := k) (n := n) (by omega) (by omega) ?_
            exact x_ri hx hb hr hlocks hR hS dX0_board_81 hw
          · have hw := x_f hw c_21
            refine lv_bipush (v := (-4)) hx hb dX0_board_55 (by decide) ?_
            refine W.widen (k := k) (n := n) (by omega) (by omega) ?_
            exact x_ri hx hb hr hlocks hR hS dX0_board_57 hw
        · have hw := x_t hw c_18
          refine lv_bipush (v := (-3)) hx hb dX0_board_44 (by decide) ?_
          refine W.widen (k := k) (n := n) (by omega) (by omega) ?_
          exact x_ri hx hb hr hlocks hR hS dX0_board_46 hw
    · have hw := x_t hw c_6
      refine lv_iconst (v := (-1)) hx hb dX0_board_16 (by decide) ?_
      refine W.widen (k := k) (n := n) (by omega) (by omega) ?_
      exact x_ri hx hb hr hlocks hR hS dX0_board_17 hw
def w_X0_turn (k n : Nat) (S : xH) (o : Nat) (x1 : Int32) (x2 : Int32) (Q : Int32 → xH → Prop) : Prop := xT S o = 1 ∧ w_X0_isMan S o x1 (fun (r_1 : Int32) => wif (r_1 = 0) (Q (-1) S) (xT S o = 1 ∧ w_X0_isShip S o x2 (fun (r_4 : Int32) => wif (r_4 = 0) (Q (-1) S) (xT S o = 1 ∧ ∃ b_7, (xR S 52 o) = some b_7 ∧ xT S b_7 = 103 ∧ vp_in x1 (xL S b_7) ∧ ∃ b_9, (xQ S b_7 (Int32.toNatClampNeg x1)) = some b_9 ∧ xT S b_9 = 3 ∧ w_X2_place S b_9 (fun (r_11 : Int32) => jn (fun (v0_13 : Int32) => wif (v0_13 = 0) (Q (-3) S) (xT S o = 1 ∧ ∃ b_16, (xR S 64 o) = some b_16 ∧ xT S b_16 = 107 ∧ vp_in x2 (xL S b_16) ∧ ∃ b_18, (xQ S b_16 (Int32.toNatClampNeg x2)) = some b_18 ∧ xT S b_18 = 19 ∧ wif ((xI S 954 b_18) = 0) (Q (-3) S) (xT S o = 1 ∧ w_X0_isCrowded S o x2 (fun (r_21 : Int32) => wif (r_21 = 0) (xT S o = 1 ∧ ∃ b_24, (xR S 52 o) = some b_24 ∧ xT S b_24 = 103 ∧ vp_in x1 (xL S b_24) ∧ ∃ b_26, (xQ S b_24 (Int32.toNatClampNeg x1)) = some b_26 ∧ xT S o = 1 ∧ ∃ k_28 n_29, k_28 ≤ k ∧ n_29 ≤ n ∧ w_X0_send k_28 n_29 S o b_26 (10 + x2) (fun (r_30 : Int32) (S_31 : xH) => Q r_30 S_31)) (Q (-4) S))))) (fun J_14 => jn0 (J_14 1) (fun J_32 => wif (r_11 = 20) (J_32) (jn0 (J_14 0) (fun J_34 => wif (r_11 = (10 + x2)) (J_34) (xT S o = 1 ∧ w_X0_isHomeShip S o r_11 (-9) (fun (r_36 : Int32) => wif (r_36 = 0) (J_34) (J_32))))))))))))
theorem hd_X0_turn : yX0_turn.cls = "PressedMen" ∧ yX0_turn.cls ≠ "java/lang/invoke/MethodHandle" ∧ yX0_turn.cls ≠ "java/lang/invoke/VarHandle" ∧ (parseMethodDescriptor yX0_turn.desc).map (fun d => d.parameters.length) = some 2 := by decide +kernel
set_option maxHeartbeats 4000000 in
theorem mt_X0_turn (l : Launch) {D : va_G} {d : Nat → ClassId} {base : Nat} {mc : va_W} {S : xH} {k n : Nat} {o : Nat} {x1 : Int32} {x2 : Int32} {Q : Int32 → xH → Prop} (hw : w_X0_turn k n S o x1 x2 Q) : Met l yX0_turn (ws_ yX0_turn cX0_turn 5 (some FieldType.int)) (x_rm 4 k n 96) (x_Pc D d base mc S [.ref o, .int x1, .int x2]) (x_Qi D d base mc (fun r S' => Q r S')) k n (x_A base) := by
  refine x_met (by decide) (Nat.le_of_ble_eq_true rfl) ?_
  intro p e s m below meth c hx hb hml hr hlocks hown hts hz hR hK hin ls hl
  have hown : s.vm.findClass "PressedMen" = some m.cls := hown
  have hl : lv_has ls 5 [(0, .ref o), (1, .int x1), (2, .int x2)] := hl
  have hS : va_S (x_A base) s.heap s.heap [] := va_S.rf
  have hA : ∀ q : Nat, s.heap.size ≤ q → x_A base q := fun q h => Nat.le_trans hz h
  have hc : 0 + k ≤ k := by omega
  have hs : 0 + n ≤ n := by omega
  unfold w_X0_turn at hw
  refine lv_aload_n hx hb dX0_turn_0 rfl (lv_at hl 0 rfl) ?_
  refine lv_iload_n hx hb dX0_turn_1 rfl (lv_at hl 1 rfl) ?_
  obtain ⟨ha, hw⟩ := hw
  refine x_ci (va_runV (As := [.int x1]) (rest := []) ⟨hx, hb, hml, hown, hts⟩ (mt_X0_isMan l hw) (cwV 1 hts (lw_V q252 q254 qs2 q64 q255) rfl rfl rfl hd_X0_isMan ⟨Nat.le_of_ble_eq_true rfl, Nat.le_of_ble_eq_true rfl⟩) ⟨x_Pc_blind, hR.recv hK (ci := 0) rfl (by decide) ha, x_Pc_pre hR hz hS hK⟩ rfl rfl hl.1 rfl (lv_room (Nat.le_of_ble_eq_true rfl)) dX0_turn_2 ⟨by show _ ≤ k; omega, by show _ ≤ n; omega⟩) hS (fun r_1 S_2 H locs hp hR hS => ?_)
  have hw := hp.2
  rw [hp.1] at hR
  refine lv_if_eq (tgt := 16) hx hb dX0_turn_5 (by decide) (fun c_3 => ?_) (fun c_3 => ?_)
  · have hw := x_t hw c_3
    refine lv_iconst (v := (-1)) hx hb dX0_turn_16 (by decide) ?_
    refine W.widen (k := k) (n := n) (by omega) (by omega) ?_
    exact x_ri hx hb hr hlocks hR hS dX0_turn_17 hw
  · have hw := x_f hw c_3
    refine lv_aload_n hx hb dX0_turn_8 rfl (lv_at hl 0 rfl) ?_
    refine lv_iload_n hx hb dX0_turn_9 rfl (lv_at hl 2 rfl) ?_
    obtain ⟨ha, hw⟩ := hw
    refine x_ci (va_runV (As := [.int x2]) (rest := []) ⟨hx, hb, hml, hown, hts⟩ (mt_X0_isShip l hw) (cwV 1 hts (lw_V q823 q825 qs28 q64 q826) rfl rfl rfl hd_X0_isShip ⟨Nat.le_of_ble_eq_true rfl, Nat.le_of_ble_eq_true rfl⟩) ⟨x_Pc_blind, hR.recv hK (ci := 0) rfl (by decide) ha, x_Pc_pre hR hz hS hK⟩ rfl rfl hl.1 rfl (lv_room (Nat.le_of_ble_eq_true rfl)) dX0_turn_10 ⟨by show _ ≤ k; omega, by show _ ≤ n; omega⟩) hS (fun r_4 S_5 H locs hp hR hS => ?_)
    have hw := hp.2
    rw [hp.1] at hR
    refine lv_if_ne (tgt := 18) hx hb dX0_turn_13 (by decide) (fun c_6 => ?_) (fun c_6 => ?_)
    · have hw := x_f hw c_6
      refine lv_aload_n hx hb dX0_turn_18 rfl (lv_at hl 0 rfl) ?_
      refine x_getR (ci := 0) (C := RX0) (T := TX0) (N := 19) (f := 52) hx hb hts in_X0 hown hK hR rfl 2 (by decide) (hts _ q114) (fun _ h => h) rfl (by decide) dX0_turn_19 hw.1 ?_
      have hw := hw.2
      refine lv_iload_n hx hb dX0_turn_22 rfl (lv_at hl 1 rfl) ?_
      obtain ⟨b_7, e_8, hw⟩ := hw
      refine x_dr1 e_8 ?_
      refine x_aald (t := 103) hx hb hK hR (by decide) rfl rfl dX0_turn_23 hw.1 hw.2.1 ?_
      have hw := hw.2.2
      obtain ⟨b_9, e_10, hw⟩ := hw
      refine x_dr0 e_10 ?_
      obtain ⟨ha, hw⟩ := hw
      refine x_ci (va_runV (As := []) (rest := []) ⟨hx, hb, hml, hown, hts⟩ (mt_X2_place l hw) (cwV 0 hts (lw_V q276 q277 q278 q66 q279) rfl rfl rfl hd_X2_place ⟨Nat.le_of_ble_eq_true rfl, Nat.le_of_ble_eq_true rfl⟩) ⟨x_Pc_blind, hR.recv hK (ci := 2) rfl (by decide) ha, x_Pc_pre hR hz hS hK⟩ rfl rfl hl.1 rfl (lv_room (Nat.le_of_ble_eq_true rfl)) dX0_turn_24 ⟨by show _ ≤ k; omega, by show _ ≤ n; omega⟩) hS (fun r_11 S_12 H locs hp hR hS => ?_)
      have hw := hp.2
      rw [hp.1] at hR
      refine lv_istore_n (lv' := [(3, .int r_11), (0, .ref o), (1, .int x1), (2, .int x2)]) hx hb dX0_turn_27 rfl hl (by decide) rfl (fun ls hl => ?_)
      refine lv_iload_n hx hb dX0_turn_28 rfl (lv_at hl 0 rfl) ?_
      refine lv_bipush (v := 20) hx hb dX0_turn_29 (by decide) ?_
      refine x_jn (G := fun (v0_13 : Int32) => ∀ (ls : Array Slot) (H : Heap) (locs : List Loc) (cK nK : Nat), cK + k ≤ k → nK + n ≤ n → x_Rp D d (x_A base) mc S H → va_S (x_A base) s.heap H locs → lv_has ls 5 [(0, .ref o), (1, .int x1), (2, .int x2)] → W p l e (x_rm 4 k n 96) s m ([.ref o, .int x1, .int x2] : List Value).toArray below meth c H locs cK nK (MQ below (x_Qi D d base mc (fun r S' => Q r S')) ([.ref o, .int x1, .int x2] : List Value).toArray s k n (x_A base)) (F0 m 57 ls [.int v0_13])) hw (fun v0_13 hw => ?_) (fun hJ_14 hw => ?_)
      · intro ls H locs cK nK hc hs hR hS hl
        refine lv_istore (lv' := [(4, .int v0_13), (0, .ref o), (1, .int x1), (2, .int x2)]) hx hb dX0_turn_57 hl (by decide) rfl (fun ls hl => ?_)
        refine lv_iload hx hb dX0_turn_59 (lv_at hl 0 rfl) ?_
        refine lv_if_eq (tgt := 76) hx hb dX0_turn_61 (by decide) (fun c_15 => ?_) (fun c_15 => ?_)
        · have hw := x_t hw c_15
          refine lv_bipush (v := (-3)) hx hb dX0_turn_76 (by decide) ?_
          refine W.widen (k := k) (n := n) (by omega) (by omega) ?_
          exact x_ri hx hb hr hlocks hR hS dX0_turn_78 hw
        · have hw := x_f hw c_15
          refine lv_aload_n hx hb dX0_turn_64 rfl (lv_at hl 1 rfl) ?_
          refine x_getR (ci := 0) (C := RX0) (T := TX0) (N := 19) (f := 64) hx hb hts in_X0 hown hK hR rfl 14 (by decide) (hts _ q127) (fun _ h => h) rfl (by decide) dX0_turn_65 hw.1 ?_
          have hw := hw.2
          refine lv_iload_n hx hb dX0_turn_68 rfl (lv_at hl 3 rfl) ?_
          obtain ⟨b_16, e_17, hw⟩ := hw
          refine x_dr1 e_17 ?_
          refine x_aald (t := 107) hx hb hK hR (by decide) rfl rfl dX0_turn_69 hw.1 hw.2.1 ?_
          have hw := hw.2.2
          obtain ⟨b_18, e_19, hw⟩ := hw
          refine x_dr0 e_19 ?_
          refine x_getNI (ci := 18) (C := RX18) (T := TX18) (N := 5) (f := 954) hx hb hts in_X18 hown hK hR rfl 4 (by decide) (hK.2 _ q807 rfl) (fun _ h => h) rfl (by decide) dX0_turn_70 hw.1 ?_
          have hw := hw.2
          refine lv_if_ne (tgt := 79) hx hb dX0_turn_73 (by decide) (fun c_20 => ?_) (fun c_20 => ?_)
          · have hw := x_f hw c_20
            refine lv_aload_n hx hb dX0_turn_79 rfl (lv_at hl 1 rfl) ?_
            refine lv_iload_n hx hb dX0_turn_80 rfl (lv_at hl 3 rfl) ?_
            obtain ⟨ha, hw⟩ := hw
            refine x_ci (va_runV (As := [.int x2]) (rest := []) ⟨hx, hb, hml, hown, hts⟩ (mt_X0_isCrowded l hw) (cwV 1 hts (lw_V q846 q848 qs31 q64 q849) rfl rfl rfl hd_X0_isCrowded ⟨Nat.le_of_ble_eq_true rfl, Nat.le_of_ble_eq_true rfl⟩) ⟨x_Pc_blind, hR.recv hK (ci := 0) rfl (by decide) ha, x_Pc_pre hR hz hS hK⟩ rfl rfl hl.1 rfl (lv_room (Nat.le_of_ble_eq_true rfl)) dX0_turn_81 ⟨by show _ ≤ k; omega, by show _ ≤ n; omega⟩) hS (fun r_21 S_22 H locs hp hR hS => ?_)
            have hw := hp.2
            rw [hp.1] at hR
            refine lv_if_eq (tgt := 92) hx hb dX0_turn_84 (by decide) (fun c_23 => ?_) (fun c_23 => ?_)
            · have hw := x_t hw c_23
              refine lv_aload_n hx hb dX0_turn_92 rfl (lv_at hl 1 rfl) ?_
              refine lv_aload_n hx hb dX0_turn_93 rfl (lv_at hl 1 rfl) ?_
              refine x_getR (ci := 0) (C := RX0) (T := TX0) (N := 19) (f := 52) hx hb hts in_X0 hown hK hR rfl 2 (by decide) (hts _ q114) (fun _ h => h) rfl (by decide) dX0_turn_94 hw.1 ?_
              have hw := hw.2
              refine lv_iload_n hx hb dX0_turn_97 rfl (lv_at hl 2 rfl) ?_
              obtain ⟨b_24, e_25, hw⟩ := hw
              refine x_dr1 e_25 ?_
              refine x_aald (t := 103) hx hb hK hR (by decide) rfl rfl dX0_turn_98 hw.1 hw.2.1 ?_
              have hw := hw.2.2
              refine lv_bipush (v := 10) hx hb dX0_turn_99 (by decide) ?_
              refine lv_iload_n hx hb dX0_turn_101 rfl (lv_at hl 3 rfl) ?_
              refine lv_iadd hx hb dX0_turn_102 ?_
              obtain ⟨b_26, e_27, hw⟩ := hw
              refine x_dr1 e_27 ?_
              obtain ⟨ha, hw⟩ := hw
              obtain ⟨k_28, n_29, h1, h2, hw⟩ := hw
              refine x_ci (va_runV (As := [.ref b_26, .int (10 + x2)]) (rest := []) ⟨hx, hb, hml, hown, hts⟩ (mt_X0_send l hw) (cwV 2 hts (lw_V q330 q332 qs7 q64 q333) rfl rfl rfl hd_X0_send ⟨Nat.le_of_ble_eq_true rfl, Nat.le_of_ble_eq_true rfl⟩) ⟨x_Pc_blind, hR.recv hK (ci := 0) rfl (by decide) ha, x_Pc_pre hR hz hS hK⟩ rfl rfl hl.1 rfl (lv_room (Nat.le_of_ble_eq_true rfl)) dX0_turn_103 ⟨by show _ ≤ k; omega, by show _ ≤ n; omega⟩) hS (fun r_30 S_31 H locs hp hR hS => ?_)
              have hw := hp
              have hc : (cK + k_28) + (k - k_28) ≤ k := by omega
              have hs : (nK + n_29) + (n - n_29) ≤ n := by omega
              refine W.widen (k := k) (n := n) (by omega) (by omega) ?_
              exact x_ri hx hb hr hlocks hR hS dX0_turn_106 hw
            · have hw := x_f hw c_23
              refine lv_bipush (v := (-4)) hx hb dX0_turn_87 (by decide) ?_
              refine lv_goto (tgt := 106) hx hb dX0_turn_89 (by decide) ?_
              refine W.widen (k := k) (n := n) (by omega) (by omega) ?_
              exact x_ri hx hb hr hlocks hR hS dX0_turn_106 hw
          · have hw := x_t hw c_20
            refine lv_bipush (v := (-3)) hx hb dX0_turn_76 (by decide) ?_
            refine W.widen (k := k) (n := n) (by omega) (by omega) ?_
            exact x_ri hx hb hr hlocks hR hS dX0_turn_78 hw
      · refine x_jn0 (G := ∀ (ls : Array Slot) (H : Heap) (locs : List Loc) (cK nK : Nat), cK + k ≤ k → nK + n ≤ n → x_Rp D d (x_A base) mc S H → va_S (x_A base) s.heap H locs → lv_has ls 5 [(0, .ref o), (1, .int x1), (2, .int x2)] → W p l e (x_rm 4 k n 96) s m ([.ref o, .int x1, .int x2] : List Value).toArray below meth c H locs cK nK (MQ below (x_Qi D d base mc (fun r S' => Q r S')) ([.ref o, .int x1, .int x2] : List Value).toArray s k n (x_A base)) (F0 m 52 ls [])) hw (fun hw => ?_) (fun hJ_32 hw => ?_)
        · intro ls H locs cK nK hc hs hR hS hl
          refine lv_iconst (v := 1) hx hb dX0_turn_52 (by decide) ?_
          refine lv_goto (tgt := 57) hx hb dX0_turn_53 (by decide) ?_
          exact hJ_14 1 hw ls _ _ _ _ hc hs hR hS (lv_sub hl [0, 1, 2] rfl)
        · refine lv_icmp_eq (tgt := 52) hx hb dX0_turn_31 (by decide) (fun c_33 => ?_) (fun c_33 => ?_)
          · have hw := x_t hw c_33
            exact hJ_32  hw ls _ _ _ _ hc hs hR hS (lv_sub hl [1, 2, 3] rfl)
          · have hw := x_f hw c_33
            refine lv_iload_n hx hb dX0_turn_34 rfl (lv_at hl 0 rfl) ?_
            refine lv_bipush (v := 10) hx hb dX0_turn_35 (by decide) ?_
            refine lv_iload_n hx hb dX0_turn_37 rfl (lv_at hl 3 rfl) ?_
            refine lv_iadd hx hb dX0_turn_38 ?_
            refine x_jn0 (G := ∀ (ls : Array Slot) (H : Heap) (locs : List Loc) (cK nK : Nat), cK + k ≤ k → nK + n ≤ n → x_Rp D d (x_A base) mc S H → va_S (x_A base) s.heap H locs → lv_has ls 5 [(0, .ref o), (1, .int x1), (2, .int x2)] → W p l e (x_rm 4 k n 96) s m ([.ref o, .int x1, .int x2] : List Value).toArray below meth c H locs cK nK (MQ below (x_Qi D d base mc (fun r S' => Q r S')) ([.ref o, .int x1, .int x2] : List Value).toArray s k n (x_A base)) (F0 m 56 ls [])) hw (fun hw => ?_) (fun hJ_34 hw => ?_)
            · intro ls H locs cK nK hc hs hR hS hl
              refine lv_iconst (v := 0) hx hb dX0_turn_56 (by decide) ?_
              exact hJ_14 0 hw ls _ _ _ _ hc hs hR hS (lv_sub hl [0, 1, 2] rfl)
            · refine lv_icmp_eq (tgt := 56) hx hb dX0_turn_39 (by decide) (fun c_35 => ?_) (fun c_35 => ?_)
              · have hw := x_t hw c_35
                exact hJ_34  hw ls _ _ _ _ hc hs hR hS (lv_sub hl [1, 2, 3] rfl)
              · have hw := x_f hw c_35
                refine lv_aload_n hx hb dX0_turn_42 rfl (lv_at hl 1 rfl) ?_
                refine lv_iload_n hx hb dX0_turn_43 rfl (lv_at hl 0 rfl) ?_
                refine lv_bipush (v := (-9)) hx hb dX0_turn_44 (by decide) ?_
                obtain ⟨ha, hw⟩ := hw
                refine x_ci (va_runV (As := [.int r_11, .int (-9)]) (rest := []) ⟨hx, hb, hml, hown, hts⟩ (mt_X0_isHomeShip l hw) (cwV 2 hts (lw_V q650 q652 qs22 q64 q653) rfl rfl rfl hd_X0_isHomeShip ⟨Nat.le_of_ble_eq_true rfl, Nat.le_of_ble_eq_true rfl⟩) ⟨x_Pc_blind, hR.recv hK (ci := 0) rfl (by decide) ha, x_Pc_pre hR hz hS hK⟩ rfl rfl hl.1 rfl (lv_room (Nat.le_of_ble_eq_true rfl)) dX0_turn_46 ⟨by show _ ≤ k; omega, by show _ ≤ n; omega⟩) hS (fun r_36 S_37 H locs hp hR hS => ?_)
                have hw := hp.2
                rw [hp.1] at hR
                refine lv_if_eq (tgt := 56) hx hb dX0_turn_49 (by decide) (fun c_38 => ?_) (fun c_38 => ?_)
                · have hw := x_t hw c_38
                  exact hJ_34  hw ls _ _ _ _ hc hs hR hS (lv_sub hl [1, 2, 3] rfl)
                · have hw := x_f hw c_38
                  exact hJ_32  hw ls _ _ _ _ hc hs hR hS (lv_sub hl [1, 2, 3] rfl)
    · have hw := x_t hw c_6
      refine lv_iconst (v := (-1)) hx hb dX0_turn_16 (by decide) ?_
      refine W.widen (k := k) (n := n) (by omega) (by omega) ?_
      exact x_ri hx hb hr hlocks hR hS dX0_turn_17 hw
def w_X0_notAshore (S : xH) (o : Nat) (x1 : Int32) (x2 : Int32) (Q : Int32 → Prop) : Prop := xT S o = 1 ∧ w_X0_isMan S o x1 (fun (r_1 : Int32) => wif (r_1 = 0) (Q (-1)) (xT S o = 1 ∧ w_X0_isIn S x2 0 (xI S 54 o) (fun (r_4 : Int32) => wif (r_4 = 0) (Q (-2)) (xT S o = 1 ∧ ∃ b_7, (xR S 52 o) = some b_7 ∧ xT S b_7 = 103 ∧ vp_in x1 (xL S b_7) ∧ ∃ b_9, (xQ S b_7 (Int32.toNatClampNeg x1)) = some b_9 ∧ xT S b_9 = 3 ∧ w_X2_asOf S b_9 x2 (fun (r_11 : Option Nat) => ∃ b_13, r_11 = some b_13 ∧ lf2 (fun L_17 (x3_15 : Nat) (x4_16 : Int32) => xT S x3_15 = 4 ∧ w_X3_isAshore S x3_15 (fun (r_18 : Int32) => wif (r_18 = 0) (xT S x3_15 = 4 ∧ nm ((xI S 200 x3_15) - 1) (fun x4_21 : Int32 => xT S o = 1 ∧ ∃ b_22, (xR S 52 o) = some b_22 ∧ xT S b_22 = 103 ∧ vp_in x1 (xL S b_22) ∧ ∃ b_24, (xQ S b_22 (Int32.toNatClampNeg x1)) = some b_24 ∧ xT S b_24 = 3 ∧ w_X2_asOf S b_24 x4_21 (fun (r_26 : Option Nat) => ∃ b_28, r_26 = some b_28 ∧ L_17 b_28 x4_21))) (Q (x2 - x4_16)))) b_13 x2)))))
theorem hd_X0_notAshore : yX0_notAshore.cls = "PressedMen" ∧ yX0_notAshore.cls ≠ "java/lang/invoke/MethodHandle" ∧ yX0_notAshore.cls ≠ "java/lang/invoke/VarHandle" ∧ (parseMethodDescriptor yX0_notAshore.desc).map (fun d => d.parameters.length) = some 2 := by decide +kernel
set_option maxHeartbeats 4000000 in
theorem mt_X0_notAshore (l : Launch) {D : va_G} {d : Nat → ClassId} {base : Nat} {mc : va_W} {S : xH} {o : Nat} {x1 : Int32} {x2 : Int32} {Q : Int32 → Prop} (hw : w_X0_notAshore S o x1 x2 Q) : Met l yX0_notAshore (ws_ yX0_notAshore cX0_notAshore 5 (some FieldType.int)) (x_rm 2 0 0 43) (x_Pc D d base mc S [.ref o, .int x1, .int x2]) (x_Qi D d base mc (fun r S' => S' = S ∧ Q r)) 0 0 (x_A base) := by
  refine x_met (by decide) (Nat.le_of_ble_eq_true rfl) ?_
  intro p e s m below meth c hx hb hml hr hlocks hown hts hz hR hK hin ls hl
  have hown : s.vm.findClass "PressedMen" = some m.cls := hown
  have hl : lv_has ls 5 [(0, .ref o), (1, .int x1), (2, .int x2)] := hl
  have hS : va_S (x_A base) s.heap s.heap [] := va_S.rf
  unfold w_X0_notAshore at hw
  refine lv_aload_n hx hb dX0_notAshore_0 rfl (lv_at hl 0 rfl) ?_
  refine lv_iload_n hx hb dX0_notAshore_1 rfl (lv_at hl 1 rfl) ?_
  obtain ⟨ha, hw⟩ := hw
  refine x_ci (va_runV (As := [.int x1]) (rest := []) ⟨hx, hb, hml, hown, hts⟩ (mt_X0_isMan l hw) (cwV 1 hts (lw_V q252 q254 qs2 q64 q255) rfl rfl rfl hd_X0_isMan ⟨Nat.le_of_ble_eq_true rfl, Nat.le_of_ble_eq_true rfl⟩) ⟨x_Pc_blind, hR.recv hK (ci := 0) rfl (by decide) ha, x_Pc_pre hR hz hS hK⟩ rfl rfl hl.1 rfl (lv_room (Nat.le_of_ble_eq_true rfl)) dX0_notAshore_2 ⟨Nat.le_refl _, Nat.le_refl _⟩) hS (fun r_1 S_2 H locs hp hR hS => ?_)
  have hw := hp.2
  rw [hp.1] at hR
  refine lv_if_ne (tgt := 10) hx hb dX0_notAshore_5 (by decide) (fun c_3 => ?_) (fun c_3 => ?_)
  · have hw := x_f hw c_3
    refine lv_iload_n hx hb dX0_notAshore_10 rfl (lv_at hl 2 rfl) ?_
    refine lv_iconst (v := 0) hx hb dX0_notAshore_11 (by decide) ?_
    refine lv_aload_n hx hb dX0_notAshore_12 rfl (lv_at hl 0 rfl) ?_
    refine x_getI (ci := 0) (C := RX0) (T := TX0) (N := 19) (f := 54) hx hb hts in_X0 hown hK hR rfl 4 (by decide) (hts _ q117) (fun _ h => h) rfl (by decide) dX0_notAshore_13 hw.1 ?_
    have hw := hw.2
    refine x_ci (va_runS (As := [.int x2, .int 0, .int (xI S 54 o)]) (rest := []) ⟨hx, hb, hml, hown, hts⟩ (mt_X0_isIn l hw) (va_cwS 3 hts (lw_S q178 q179 q64 q180) rfl rfl rfl hd_X0_isIn.2 ⟨Nat.le_of_ble_eq_true rfl, Nat.le_of_ble_eq_true rfl⟩) ⟨x_Pc_blind, x_Pc_pre hR hz hS hK⟩ rfl rfl hl.1 rfl (lv_room (Nat.le_of_ble_eq_true rfl)) dX0_notAshore_16 ⟨Nat.le_refl _, Nat.le_refl _⟩) hS (fun r_4 S_5 H locs hp hR hS => ?_)
    have hw := hp.2
    rw [hp.1] at hR
    refine lv_if_ne (tgt := 25) hx hb dX0_notAshore_19 (by decide) (fun c_6 => ?_) (fun c_6 => ?_)
    · have hw := x_f hw c_6
      refine lv_aload_n hx hb dX0_notAshore_25 rfl (lv_at hl 0 rfl) ?_
      refine x_getR (ci := 0) (C := RX0) (T := TX0) (N := 19) (f := 52) hx hb hts in_X0 hown hK hR rfl 2 (by decide) (hts _ q114) (fun _ h => h) rfl (by decide) dX0_notAshore_26 hw.1 ?_
      have hw := hw.2
      refine lv_iload_n hx hb dX0_notAshore_29 rfl (lv_at hl 1 rfl) ?_
      obtain ⟨b_7, e_8, hw⟩ := hw
      refine x_dr1 e_8 ?_
      refine x_aald (t := 103) hx hb hK hR (by decide) rfl rfl dX0_notAshore_30 hw.1 hw.2.1 ?_
      have hw := hw.2.2
      refine lv_iload_n hx hb dX0_notAshore_31 rfl (lv_at hl 2 rfl) ?_
      obtain ⟨b_9, e_10, hw⟩ := hw
      refine x_dr1 e_10 ?_
      obtain ⟨ha, hw⟩ := hw
      refine x_cq (va_runV (As := [.int x2]) (rest := []) ⟨hx, hb, hml, hown, hts⟩ (mt_X2_asOf l hw) (cwV 1 hts (lw_V q264 q265 q266 q66 q267) rfl rfl rfl hd_X2_asOf ⟨Nat.le_of_ble_eq_true rfl, Nat.le_of_ble_eq_true rfl⟩) ⟨x_Pc_blind, hR.recv hK (ci := 2) rfl (by decide) ha, x_Pc_pre hR hz hS hK⟩ rfl rfl hl.1 rfl (lv_room (Nat.le_of_ble_eq_true rfl)) dX0_notAshore_32 ⟨Nat.le_refl _, Nat.le_refl _⟩) hS (fun r_11 S_12 H locs hp hR hS => ?_)
      have hw := hp.2
      rw [hp.1] at hR
      obtain ⟨b_13, e_14, hw⟩ := hw
      refine x_dr0 e_14 ?_
      refine lv_astore_n (lv' := [(3, .ref b_13), (0, .ref o), (1, .int x1), (2, .int x2)]) hx hb dX0_notAshore_35 rfl hl (by decide) rfl (fun ls hl => ?_)
      refine lv_iload_n hx hb dX0_notAshore_36 rfl (lv_at hl 3 rfl) ?_
      refine lv_istore (lv' := [(4, .int x2), (3, .ref b_13), (0, .ref o), (1, .int x1), (2, .int x2)]) hx hb dX0_notAshore_37 hl (by decide) rfl (fun ls hl => ?_)
      refine x_lf2 (G := fun (x3_15 : Nat) (x4_16 : Int32) => ∀ (ls : Array Slot) (H : Heap) (locs : List Loc), x_Rp D d (x_A base) mc S H → va_S (x_A base) s.heap H locs → lv_has ls 5 [(0, .ref o), (1, .int x1), (2, .int x2), (3, .ref x3_15), (4, .int x4_16)] → W p l e (x_rm 2 0 0 43) s m ([.ref o, .int x1, .int x2] : List Value).toArray below meth c H locs 0 0 (MQ below (x_Qi D d base mc (fun r S' => S' = S ∧ Q r)) ([.ref o, .int x1, .int x2] : List Value).toArray s 0 0 (x_A base)) (F0 m 39 ls [])) hw (fun x3_15 x4_16 hw => ?_) ls _ _ hR hS (lv_sub hl [2, 3, 4, 1, 0] rfl)
      intro ls H locs hR hS hl
      refine lv_aload_n hx hb dX0_notAshore_39 rfl (lv_at hl 3 rfl) ?_
      obtain ⟨ha, hw⟩ := hw
      refine x_ci (va_runV (As := []) (rest := []) ⟨hx, hb, hml, hown, hts⟩ (mt_X3_isAshore l hw) (cwV 0 hts (lw_V q326 q327 q328 q67 q329) rfl rfl rfl hd_X3_isAshore ⟨Nat.le_of_ble_eq_true rfl, Nat.le_of_ble_eq_true rfl⟩) ⟨x_Pc_blind, hR.recv hK (ci := 3) rfl (by decide) ha, x_Pc_pre hR hz hS hK⟩ rfl rfl hl.1 rfl (lv_room (Nat.le_of_ble_eq_true rfl)) dX0_notAshore_40 ⟨Nat.le_refl _, Nat.le_refl _⟩) hS (fun r_18 S_19 H locs hp hR hS => ?_)
      have hw := hp.2
      rw [hp.1] at hR
      refine lv_if_ne (tgt := 69) hx hb dX0_notAshore_43 (by decide) (fun c_20 => ?_) (fun c_20 => ?_)
      · have hw := x_f hw c_20
        refine lv_iload_n hx hb dX0_notAshore_69 rfl (lv_at hl 2 rfl) ?_
        refine lv_iload hx hb dX0_notAshore_70 (lv_at hl 4 rfl) ?_
        refine lv_isub hx hb dX0_notAshore_72 ?_
        exact x_ri hx hb hr hlocks hR hS dX0_notAshore_73 ⟨rfl, hw⟩
      · have hw := x_t hw c_20
        refine lv_aload_n hx hb dX0_notAshore_46 rfl (lv_at hl 3 rfl) ?_
        refine x_getNI (ci := 3) (C := RX3) (T := TX3) (N := 3) (f := 200) hx hb hts in_X3 hown hK hR rfl 0 (by decide) (hK.2 _ q214 rfl) (fun _ h => h) rfl (by decide) dX0_notAshore_47 hw.1 ?_
        have hw := hw.2
        refine lv_iconst (v := 1) hx hb dX0_notAshore_50 (by decide) ?_
        refine lv_isub hx hb dX0_notAshore_51 ?_
        refine lv_topi (fun x4_21 ex4_21 => ?_)
        have hw := hw x4_21 ex4_21
        refine lv_istore (lv' := [(4, .int x4_21), (0, .ref o), (1, .int x1), (2, .int x2), (3, .ref x3_15)]) hx hb dX0_notAshore_52 hl (by decide) rfl (fun ls hl => ?_)
        refine lv_aload_n hx hb dX0_notAshore_54 rfl (lv_at hl 1 rfl) ?_
        refine x_getR (ci := 0) (C := RX0) (T := TX0) (N := 19) (f := 52) hx hb hts in_X0 hown hK hR rfl 2 (by decide) (hts _ q114) (fun _ h => h) rfl (by decide) dX0_notAshore_55 hw.1 ?_
        have hw := hw.2
        refine lv_iload_n hx hb dX0_notAshore_58 rfl (lv_at hl 2 rfl) ?_
        obtain ⟨b_22, e_23, hw⟩ := hw
        refine x_dr1 e_23 ?_
        refine x_aald (t := 103) hx hb hK hR (by decide) rfl rfl dX0_notAshore_59 hw.1 hw.2.1 ?_
        have hw := hw.2.2
        refine lv_iload hx hb dX0_notAshore_60 (lv_at hl 0 rfl) ?_
        obtain ⟨b_24, e_25, hw⟩ := hw
        refine x_dr1 e_25 ?_
        obtain ⟨ha, hw⟩ := hw
        refine x_cq (va_runV (As := [.int x4_21]) (rest := []) ⟨hx, hb, hml, hown, hts⟩ (mt_X2_asOf l hw) (cwV 1 hts (lw_V q264 q265 q266 q66 q267) rfl rfl rfl hd_X2_asOf ⟨Nat.le_of_ble_eq_true rfl, Nat.le_of_ble_eq_true rfl⟩) ⟨x_Pc_blind, hR.recv hK (ci := 2) rfl (by decide) ha, x_Pc_pre hR hz hS hK⟩ rfl rfl hl.1 rfl (lv_room (Nat.le_of_ble_eq_true rfl)) dX0_notAshore_62 ⟨Nat.le_refl _, Nat.le_refl _⟩) hS (fun r_26 S_27 H locs hp hR hS => ?_)
        have hw := hp.2
        rw [hp.1] at hR
        obtain ⟨b_28, e_29, hw⟩ := hw
        refine x_dr0 e_29 ?_
        refine lv_astore_n (lv' := [(3, .ref b_28), (4, .int x4_21), (0, .ref o), (1, .int x1), (2, .int x2)]) hx hb dX0_notAshore_65 rfl hl (by decide) rfl (fun ls hl => ?_)
        refine lv_goto (tgt := 39) hx hb dX0_notAshore_66 (by decide) ?_
        exact hw ls _ _ hR hS (lv_sub hl [2, 3, 4, 0, 1] rfl)
    · have hw := x_t hw c_6
      refine lv_bipush (v := (-2)) hx hb dX0_notAshore_22 (by decide) ?_
      exact x_ri hx hb hr hlocks hR hS dX0_notAshore_24 ⟨rfl, hw⟩
  · have hw := x_t hw c_3
    refine lv_iconst (v := (-1)) hx hb dX0_notAshore_8 (by decide) ?_
    exact x_ri hx hb hr hlocks hR hS dX0_notAshore_9 ⟨rfl, hw⟩
def w_X0_isFleet (S : xH) (o : Nat) (x1 : Int32) (Q : Int32 → Prop) : Prop := xT S o = 1 ∧ w_X0_isIn S x1 0 ((1 <<< ((xI S 65 o) &&& 31)) - 1) (fun (r_1 : Int32) => lf2 (fun L_5 (x2_3 : Int32) (x3_4 : Int32) => xT S o = 1 ∧ wif ((xI S 65 o) ≤ x3_4) (x_B x2_3 ∧ Q x2_3) (wif (x2_3 = 0) (x_B x2_3 ∧ Q x2_3) (jn (fun (v0_8 : Int32) => L_5 v0_8 (x3_4 + 1)) (fun J_9 => jn0 (J_9 1) (fun J_10 => wif (((x1 >>> (x3_4 &&& 31)) &&& 1) = 0) (J_10) (xT S o = 1 ∧ w_X0_isHomeShip S o (10 + x3_4) 0 (fun (r_12 : Int32) => wif (r_12 = 0) (J_9 0) (J_10)))))))) r_1 0)
theorem hd_X0_isFleet : yX0_isFleet.cls = "PressedMen" ∧ yX0_isFleet.cls ≠ "java/lang/invoke/MethodHandle" ∧ yX0_isFleet.cls ≠ "java/lang/invoke/VarHandle" ∧ (parseMethodDescriptor yX0_isFleet.desc).map (fun d => d.parameters.length) = some 1 := by decide +kernel
set_option maxHeartbeats 4000000 in
theorem mt_X0_isFleet (l : Launch) {D : va_G} {d : Nat → ClassId} {base : Nat} {mc : va_W} {S : xH} {o : Nat} {x1 : Int32} {Q : Int32 → Prop} (hw : w_X0_isFleet S o x1 Q) : Met l yX0_isFleet (ws_ yX0_isFleet cX0_isFleet 4 (some FieldType.boolean)) (x_rm 2 0 0 45) (x_Pc D d base mc S [.ref o, .int x1]) (x_Qi D d base mc (fun r S' => S' = S ∧ Q r)) 0 0 (x_A base) := by
  refine x_met (by decide) (Nat.le_of_ble_eq_true rfl) ?_
  intro p e s m below meth c hx hb hml hr hlocks hown hts hz hR hK hin ls hl
  have hown : s.vm.findClass "PressedMen" = some m.cls := hown
  have hl : lv_has ls 4 [(0, .ref o), (1, .int x1)] := hl
  have hS : va_S (x_A base) s.heap s.heap [] := va_S.rf
  unfold w_X0_isFleet at hw
  refine lv_iload_n hx hb dX0_isFleet_0 rfl (lv_at hl 1 rfl) ?_
  refine lv_iconst (v := 0) hx hb dX0_isFleet_1 (by decide) ?_
  refine lv_iconst (v := 1) hx hb dX0_isFleet_2 (by decide) ?_
  refine lv_aload_n hx hb dX0_isFleet_3 rfl (lv_at hl 0 rfl) ?_
  refine x_getI (ci := 0) (C := RX0) (T := TX0) (N := 19) (f := 65) hx hb hts in_X0 hown hK hR rfl 15 (by decide) (hts _ q128) (fun _ h => h) rfl (by decide) dX0_isFleet_4 hw.1 ?_
  have hw := hw.2
  refine lv_ishl hx hb dX0_isFleet_7 ?_
  refine lv_iconst (v := 1) hx hb dX0_isFleet_8 (by decide) ?_
  refine lv_isub hx hb dX0_isFleet_9 ?_
  refine x_ci (va_runS (As := [.int x1, .int 0, .int ((1 <<< ((xI S 65 o) &&& 31)) - 1)]) (rest := []) ⟨hx, hb, hml, hown, hts⟩ (mt_X0_isIn l hw) (va_cwS 3 hts (lw_S q178 q179 q64 q180) rfl rfl rfl hd_X0_isIn.2 ⟨Nat.le_of_ble_eq_true rfl, Nat.le_of_ble_eq_true rfl⟩) ⟨x_Pc_blind, x_Pc_pre hR hz hS hK⟩ rfl rfl hl.1 rfl (lv_room (Nat.le_of_ble_eq_true rfl)) dX0_isFleet_10 ⟨Nat.le_refl _, Nat.le_refl _⟩) hS (fun r_1 S_2 H locs hp hR hS => ?_)
  have hw := hp.2
  rw [hp.1] at hR
  refine lv_istore_n (lv' := [(2, .int r_1), (0, .ref o), (1, .int x1)]) hx hb dX0_isFleet_13 rfl hl (by decide) rfl (fun ls hl => ?_)
  refine lv_iconst (v := 0) hx hb dX0_isFleet_14 (by decide) ?_
  refine lv_istore_n (lv' := [(3, .int 0), (2, .int r_1), (0, .ref o), (1, .int x1)]) hx hb dX0_isFleet_15 rfl hl (by decide) rfl (fun ls hl => ?_)
  refine x_lf2 (G := fun (x2_3 : Int32) (x3_4 : Int32) => ∀ (ls : Array Slot) (H : Heap) (locs : List Loc), x_Rp D d (x_A base) mc S H → va_S (x_A base) s.heap H locs → lv_has ls 4 [(0, .ref o), (1, .int x1), (2, .int x2_3), (3, .int x3_4)] → W p l e (x_rm 2 0 0 45) s m ([.ref o, .int x1] : List Value).toArray below meth c H locs 0 0 (MQ below (x_Qi D d base mc (fun r S' => S' = S ∧ Q r)) ([.ref o, .int x1] : List Value).toArray s 0 0 (x_A base)) (F0 m 16 ls [])) hw (fun x2_3 x3_4 hw => ?_) ls _ _ hR hS (lv_sub hl [2, 3, 1, 0] rfl)
  intro ls H locs hR hS hl
  refine lv_iload_n hx hb dX0_isFleet_16 rfl (lv_at hl 3 rfl) ?_
  refine lv_aload_n hx hb dX0_isFleet_17 rfl (lv_at hl 0 rfl) ?_
  refine x_getI (ci := 0) (C := RX0) (T := TX0) (N := 19) (f := 65) hx hb hts in_X0 hown hK hR rfl 15 (by decide) (hts _ q128) (fun _ h => h) rfl (by decide) dX0_isFleet_18 hw.1 ?_
  have hw := hw.2
  refine lv_icmp_ge (tgt := 60) hx hb dX0_isFleet_21 (by decide) (fun c_6 => ?_) (fun c_6 => ?_)
  · have hw := x_t hw c_6
    refine lv_iload_n hx hb dX0_isFleet_60 rfl (lv_at hl 2 rfl) ?_
    exact x_rz hx hb hr hlocks hR hS dX0_isFleet_61 hw.1 ⟨rfl, hw.2⟩
  · have hw := x_f hw c_6
    refine lv_iload_n hx hb dX0_isFleet_24 rfl (lv_at hl 2 rfl) ?_
    refine lv_if_eq (tgt := 60) hx hb dX0_isFleet_25 (by decide) (fun c_7 => ?_) (fun c_7 => ?_)
    · have hw := x_t hw c_7
      refine lv_iload_n hx hb dX0_isFleet_60 rfl (lv_at hl 2 rfl) ?_
      exact x_rz hx hb hr hlocks hR hS dX0_isFleet_61 hw.1 ⟨rfl, hw.2⟩
    · have hw := x_f hw c_7
      refine lv_iload_n hx hb dX0_isFleet_28 rfl (lv_at hl 1 rfl) ?_
      refine lv_iload_n hx hb dX0_isFleet_29 rfl (lv_at hl 3 rfl) ?_
      refine lv_ishr hx hb dX0_isFleet_30 ?_
      refine lv_iconst (v := 1) hx hb dX0_isFleet_31 (by decide) ?_
      refine lv_iand hx hb dX0_isFleet_32 ?_
      refine x_jn (G := fun (v0_8 : Int32) => ∀ (ls : Array Slot) (H : Heap) (locs : List Loc), x_Rp D d (x_A base) mc S H → va_S (x_A base) s.heap H locs → lv_has ls 4 [(0, .ref o), (1, .int x1), (3, .int x3_4)] → W p l e (x_rm 2 0 0 45) s m ([.ref o, .int x1] : List Value).toArray below meth c H locs 0 0 (MQ below (x_Qi D d base mc (fun r S' => S' = S ∧ Q r)) ([.ref o, .int x1] : List Value).toArray s 0 0 (x_A base)) (F0 m 53 ls [.int v0_8])) hw (fun v0_8 hw => ?_) (fun hJ_9 hw => ?_)
      · intro ls H locs hR hS hl
        refine lv_istore_n (lv' := [(2, .int v0_8), (0, .ref o), (1, .int x1), (3, .int x3_4)]) hx hb dX0_isFleet_53 rfl hl (by decide) rfl (fun ls hl => ?_)
        refine lv_iinc (v := (x3_4 + 1)) (lv' := [(3, .int (x3_4 + 1)), (2, .int v0_8), (0, .ref o), (1, .int x1)]) hx hb dX0_isFleet_54 hl (k := 3) rfl rfl (by decide) rfl (fun ls hl => ?_)
        refine lv_goto (tgt := 16) hx hb dX0_isFleet_57 (by decide) ?_
        exact hw ls _ _ hR hS (lv_sub hl [2, 3, 1, 0] rfl)
      · refine x_jn0 (G := ∀ (ls : Array Slot) (H : Heap) (locs : List Loc), x_Rp D d (x_A base) mc S H → va_S (x_A base) s.heap H locs → lv_has ls 4 [(0, .ref o), (1, .int x1), (3, .int x3_4)] → W p l e (x_rm 2 0 0 45) s m ([.ref o, .int x1] : List Value).toArray below meth c H locs 0 0 (MQ below (x_Qi D d base mc (fun r S' => S' = S ∧ Q r)) ([.ref o, .int x1] : List Value).toArray s 0 0 (x_A base)) (F0 m 48 ls [])) hw (fun hw => ?_) (fun hJ_10 hw => ?_)
        · intro ls H locs hR hS hl
          refine lv_iconst (v := 1) hx hb dX0_isFleet_48 (by decide) ?_
          refine lv_goto (tgt := 53) hx hb dX0_isFleet_49 (by decide) ?_
          exact hJ_9 1 hw ls _ _ hR hS (lv_sub hl [0, 1, 2] rfl)
        · refine lv_if_eq (tgt := 48) hx hb dX0_isFleet_33 (by decide) (fun c_11 => ?_) (fun c_11 => ?_)
          · have hw := x_t hw c_11
            exact hJ_10  hw ls _ _ hR hS (lv_sub hl [0, 1, 3] rfl)
          · have hw := x_f hw c_11
            refine lv_aload_n hx hb dX0_isFleet_36 rfl (lv_at hl 0 rfl) ?_
            refine lv_bipush (v := 10) hx hb dX0_isFleet_37 (by decide) ?_
            refine lv_iload_n hx hb dX0_isFleet_39 rfl (lv_at hl 3 rfl) ?_
            refine lv_iadd hx hb dX0_isFleet_40 ?_
            refine lv_iconst (v := 0) hx hb dX0_isFleet_41 (by decide) ?_
            obtain ⟨ha, hw⟩ := hw
            refine x_ci (va_runV (As := [.int (10 + x3_4), .int 0]) (rest := []) ⟨hx, hb, hml, hown, hts⟩ (mt_X0_isHomeShip l hw) (cwV 2 hts (lw_V q650 q652 qs22 q64 q653) rfl rfl rfl hd_X0_isHomeShip ⟨Nat.le_of_ble_eq_true rfl, Nat.le_of_ble_eq_true rfl⟩) ⟨x_Pc_blind, hR.recv hK (ci := 0) rfl (by decide) ha, x_Pc_pre hR hz hS hK⟩ rfl rfl hl.1 rfl (lv_room (Nat.le_of_ble_eq_true rfl)) dX0_isFleet_42 ⟨Nat.le_refl _, Nat.le_refl _⟩) hS (fun r_12 S_13 H locs hp hR hS => ?_)
            have hw := hp.2
            rw [hp.1] at hR
            refine lv_if_eq (tgt := 52) hx hb dX0_isFleet_45 (by decide) (fun c_14 => ?_) (fun c_14 => ?_)
            · have hw := x_t hw c_14
              refine lv_iconst (v := 0) hx hb dX0_isFleet_52 (by decide) ?_
              exact hJ_9 0 hw ls _ _ hR hS (lv_sub hl [0, 1, 3] rfl)
            · have hw := x_f hw c_14
              exact hJ_10  hw ls _ _ hR hS (lv_sub hl [0, 1, 3] rfl)
def w_X0_pool (S : xH) (o : Nat) (x1 : Int32) (Q : Int32 → Prop) : Prop := xT S o = 1 ∧ w_X0_menAt S o 20 x1 (fun (r_1 : Int32) => lf2 (fun L_5 (x2_3 : Int32) (x3_4 : Int32) => xT S o = 1 ∧ wif ((xI S 65 o) ≤ x3_4) (Q x2_3) (xT S o = 1 ∧ w_X0_isHomeShip S o (10 + x3_4) 0 (fun (r_7 : Int32) => jn (fun (v1_9 : Int32) => nm (x2_3 + v1_9) (fun x2_11 : Int32 => L_5 x2_11 (x3_4 + 1))) (fun J_10 => wif (r_7 = 0) (J_10 0) (xT S o = 1 ∧ w_X0_crew S o x3_4 x1 (fun (r_13 : Int32) => J_10 r_13)))))) r_1 0)
theorem hd_X0_pool : yX0_pool.cls = "PressedMen" ∧ yX0_pool.cls ≠ "java/lang/invoke/MethodHandle" ∧ yX0_pool.cls ≠ "java/lang/invoke/VarHandle" ∧ (parseMethodDescriptor yX0_pool.desc).map (fun d => d.parameters.length) = some 1 := by decide +kernel
set_option maxHeartbeats 4000000 in
theorem mt_X0_pool (l : Launch) {D : va_G} {d : Nat → ClassId} {base : Nat} {mc : va_W} {S : xH} {o : Nat} {x1 : Int32} {Q : Int32 → Prop} (hw : w_X0_pool S o x1 Q) : Met l yX0_pool (ws_ yX0_pool cX0_pool 4 (some FieldType.int)) (x_rm 3 0 0 66) (x_Pc D d base mc S [.ref o, .int x1]) (x_Qi D d base mc (fun r S' => S' = S ∧ Q r)) 0 0 (x_A base) := by
  refine x_met (by decide) (Nat.le_of_ble_eq_true rfl) ?_
  intro p e s m below meth c hx hb hml hr hlocks hown hts hz hR hK hin ls hl
  have hown : s.vm.findClass "PressedMen" = some m.cls := hown
  have hl : lv_has ls 4 [(0, .ref o), (1, .int x1)] := hl
  have hS : va_S (x_A base) s.heap s.heap [] := va_S.rf
  unfold w_X0_pool at hw
  refine lv_aload_n hx hb dX0_pool_0 rfl (lv_at hl 0 rfl) ?_
  refine lv_bipush (v := 20) hx hb dX0_pool_1 (by decide) ?_
  refine lv_iload_n hx hb dX0_pool_3 rfl (lv_at hl 1 rfl) ?_
  obtain ⟨ha, hw⟩ := hw
  refine x_ci (va_runV (As := [.int 20, .int x1]) (rest := []) ⟨hx, hb, hml, hown, hts⟩ (mt_X0_menAt l hw) (cwV 2 hts (lw_V q272 q274 qs3 q64 q275) rfl rfl rfl hd_X0_menAt ⟨Nat.le_of_ble_eq_true rfl, Nat.le_of_ble_eq_true rfl⟩) ⟨x_Pc_blind, hR.recv hK (ci := 0) rfl (by decide) ha, x_Pc_pre hR hz hS hK⟩ rfl rfl hl.1 rfl (lv_room (Nat.le_of_ble_eq_true rfl)) dX0_pool_4 ⟨Nat.le_refl _, Nat.le_refl _⟩) hS (fun r_1 S_2 H locs hp hR hS => ?_)
  have hw := hp.2
  rw [hp.1] at hR
  refine lv_istore_n (lv' := [(2, .int r_1), (0, .ref o), (1, .int x1)]) hx hb dX0_pool_7 rfl hl (by decide) rfl (fun ls hl => ?_)
  refine lv_iconst (v := 0) hx hb dX0_pool_8 (by decide) ?_
  refine lv_istore_n (lv' := [(3, .int 0), (2, .int r_1), (0, .ref o), (1, .int x1)]) hx hb dX0_pool_9 rfl hl (by decide) rfl (fun ls hl => ?_)
  refine x_lf2 (G := fun (x2_3 : Int32) (x3_4 : Int32) => ∀ (ls : Array Slot) (H : Heap) (locs : List Loc), x_Rp D d (x_A base) mc S H → va_S (x_A base) s.heap H locs → lv_has ls 4 [(0, .ref o), (1, .int x1), (2, .int x2_3), (3, .int x3_4)] → W p l e (x_rm 3 0 0 66) s m ([.ref o, .int x1] : List Value).toArray below meth c H locs 0 0 (MQ below (x_Qi D d base mc (fun r S' => S' = S ∧ Q r)) ([.ref o, .int x1] : List Value).toArray s 0 0 (x_A base)) (F0 m 10 ls [])) hw (fun x2_3 x3_4 hw => ?_) ls _ _ hR hS (lv_sub hl [2, 3, 1, 0] rfl)
  intro ls H locs hR hS hl
  refine lv_iload_n hx hb dX0_pool_10 rfl (lv_at hl 3 rfl) ?_
  refine lv_aload_n hx hb dX0_pool_11 rfl (lv_at hl 0 rfl) ?_
  refine x_getI (ci := 0) (C := RX0) (T := TX0) (N := 19) (f := 65) hx hb hts in_X0 hown hK hR rfl 15 (by decide) (hts _ q128) (fun _ h => h) rfl (by decide) dX0_pool_12 hw.1 ?_
  have hw := hw.2
  refine lv_icmp_ge (tgt := 49) hx hb dX0_pool_15 (by decide) (fun c_6 => ?_) (fun c_6 => ?_)
  · have hw := x_t hw c_6
    refine lv_iload_n hx hb dX0_pool_49 rfl (lv_at hl 2 rfl) ?_
    exact x_ri hx hb hr hlocks hR hS dX0_pool_50 ⟨rfl, hw⟩
  · have hw := x_f hw c_6
    refine lv_iload_n hx hb dX0_pool_18 rfl (lv_at hl 2 rfl) ?_
    refine lv_aload_n hx hb dX0_pool_19 rfl (lv_at hl 0 rfl) ?_
    refine lv_bipush (v := 10) hx hb dX0_pool_20 (by decide) ?_
    refine lv_iload_n hx hb dX0_pool_22 rfl (lv_at hl 3 rfl) ?_
    refine lv_iadd hx hb dX0_pool_23 ?_
    refine lv_iconst (v := 0) hx hb dX0_pool_24 (by decide) ?_
    obtain ⟨ha, hw⟩ := hw
    refine x_ci (va_runV (As := [.int (10 + x3_4), .int 0]) (rest := [.int x2_3]) ⟨hx, hb, hml, hown, hts⟩ (mt_X0_isHomeShip l hw) (cwV 2 hts (lw_V q650 q652 qs22 q64 q653) rfl rfl rfl hd_X0_isHomeShip ⟨Nat.le_of_ble_eq_true rfl, Nat.le_of_ble_eq_true rfl⟩) ⟨x_Pc_blind, hR.recv hK (ci := 0) rfl (by decide) ha, x_Pc_pre hR hz hS hK⟩ rfl rfl hl.1 rfl (lv_room (Nat.le_of_ble_eq_true rfl)) dX0_pool_25 ⟨Nat.le_refl _, Nat.le_refl _⟩) hS (fun r_7 S_8 H locs hp hR hS => ?_)
    have hw := hp.2
    rw [hp.1] at hR
    refine x_jn (G := fun (v1_9 : Int32) => ∀ (ls : Array Slot) (H : Heap) (locs : List Loc), x_Rp D d (x_A base) mc S H → va_S (x_A base) s.heap H locs → lv_has ls 4 [(0, .ref o), (1, .int x1), (3, .int x3_4)] → W p l e (x_rm 3 0 0 66) s m ([.ref o, .int x1] : List Value).toArray below meth c H locs 0 0 (MQ below (x_Qi D d base mc (fun r S' => S' = S ∧ Q r)) ([.ref o, .int x1] : List Value).toArray s 0 0 (x_A base)) (F0 m 41 ls [.int v1_9, .int x2_3])) hw (fun v1_9 hw => ?_) (fun hJ_10 hw => ?_)
    · intro ls H locs hR hS hl
      refine lv_iadd hx hb dX0_pool_41 ?_
      refine lv_topi (fun x2_11 ex2_11 => ?_)
      have hw := hw x2_11 ex2_11
      refine lv_istore_n (lv' := [(2, .int x2_11), (0, .ref o), (1, .int x1), (3, .int x3_4)]) hx hb dX0_pool_42 rfl hl (by decide) rfl (fun ls hl => ?_)
      refine lv_iinc (v := (x3_4 + 1)) (lv' := [(3, .int (x3_4 + 1)), (2, .int x2_11), (0, .ref o), (1, .int x1)]) hx hb dX0_pool_43 hl (k := 3) rfl rfl (by decide) rfl (fun ls hl => ?_)
      refine lv_goto (tgt := 10) hx hb dX0_pool_46 (by decide) ?_
      exact hw ls _ _ hR hS (lv_sub hl [2, 3, 1, 0] rfl)
    · refine lv_if_eq (tgt := 40) hx hb dX0_pool_28 (by decide) (fun c_12 => ?_) (fun c_12 => ?_)
      · have hw := x_t hw c_12
        refine lv_iconst (v := 0) hx hb dX0_pool_40 (by decide) ?_
        exact hJ_10 0 hw ls _ _ hR hS (lv_sub hl [0, 1, 3] rfl)
      · have hw := x_f hw c_12
        refine lv_aload_n hx hb dX0_pool_31 rfl (lv_at hl 0 rfl) ?_
        refine lv_iload_n hx hb dX0_pool_32 rfl (lv_at hl 3 rfl) ?_
        refine lv_iload_n hx hb dX0_pool_33 rfl (lv_at hl 1 rfl) ?_
        obtain ⟨ha, hw⟩ := hw
        refine x_ci (va_runV (As := [.int x3_4, .int x1]) (rest := [.int x2_3]) ⟨hx, hb, hml, hown, hts⟩ (mt_X0_crew l hw) (cwV 2 hts (lw_V q827 q829 qs29 q64 q830) rfl rfl rfl hd_X0_crew ⟨Nat.le_of_ble_eq_true rfl, Nat.le_of_ble_eq_true rfl⟩) ⟨x_Pc_blind, hR.recv hK (ci := 0) rfl (by decide) ha, x_Pc_pre hR hz hS hK⟩ rfl rfl hl.1 rfl (lv_room (Nat.le_of_ble_eq_true rfl)) dX0_pool_34 ⟨Nat.le_refl _, Nat.le_refl _⟩) hS (fun r_13 S_14 H locs hp hR hS => ?_)
        have hw := hp.2
        rw [hp.1] at hR
        refine lv_goto (tgt := 41) hx hb dX0_pool_37 (by decide) ?_
        exact hJ_10 r_13 hw ls _ _ hR hS (lv_sub hl [0, 1, 3] rfl)
def w_X0_takenFor (S : xH) (o : Nat) (x1 : Int32) (x2 : Int32) (Q : Int32 → Prop) : Prop := xT S o = 1 ∧ w_X0_pool S o 0 (fun (r_1 : Int32) => nm (-r_1) (fun x3_3 : Int32 => xT S o = 1 ∧ w_X0_pool S o 1 (fun (r_4 : Int32) => nm (-r_4) (fun x4_6 : Int32 => lf5 (fun L_12 (x3_7 : Int32) (x4_8 : Int32) (x5_9 : Int32) (x6_10 : Int32) (x7_11 : Int32) => xT S o = 1 ∧ wif ((xI S 65 o) ≤ x7_11) (nm (if 0 < (if x3_7 < x4_8 then x4_8 else x3_7) then (if x3_7 < x4_8 then x4_8 else x3_7) else 0) (fun x7_14 : Int32 => wif (x1 = 0) (Q 0) (wif (x5_9 < x7_14) (Q (-9)) (wif (x4_8 ≤ x6_10) (Q x7_14) (Q (-9)))))) (jn2 (fun (x3_18 : Int32) (x4_19 : Int32) => xT S o = 1 ∧ w_X0_isHomeShip S o (10 + x7_11) 1 (fun (r_21 : Int32) => jn2 (fun (x5_23 : Int32) (x6_24 : Int32) => L_12 x3_18 x4_19 x5_23 x6_24 (x7_11 + 1)) (fun J_25 => wif (r_21 = 0) (J_25 x5_9 x6_10) (xT S o = 1 ∧ w_X0_spareOf S o x7_11 x2 (fun (r_27 : Int32) => nm (x5_9 + r_27) (fun x5_29 : Int32 => xT S o = 1 ∧ w_X0_crew S o x7_11 1 (fun (r_30 : Int32) => nm (x6_10 + (if r_30 < r_27 then r_30 else r_27)) (fun x6_32 : Int32 => J_25 x5_29 x6_32)))))))) (fun J_20 => wif (((x1 >>> (x7_11 &&& 31)) &&& 1) = 1) (xT S o = 1 ∧ ∃ b_34, (xR S 64 o) = some b_34 ∧ xT S b_34 = 107 ∧ vp_in x7_11 (xL S b_34) ∧ ∃ b_36, (xQ S b_34 (Int32.toNatClampNeg x7_11)) = some b_36 ∧ xT S b_36 = 19 ∧ nm (x3_7 + (xI S 951 b_36)) (fun x3_38 : Int32 => xT S o = 1 ∧ ∃ b_39, (xR S 64 o) = some b_39 ∧ xT S b_39 = 107 ∧ vp_in x7_11 (xL S b_39) ∧ ∃ b_41, (xQ S b_39 (Int32.toNatClampNeg x7_11)) = some b_41 ∧ xT S b_41 = 19 ∧ nm (x4_8 + (xI S 952 b_41)) (fun x4_43 : Int32 => J_20 x3_38 x4_43))) (J_20 x3_7 x4_8)))) x3_3 x4_6 0 0 0))))
theorem hd_X0_takenFor : yX0_takenFor.cls = "PressedMen" ∧ yX0_takenFor.cls ≠ "java/lang/invoke/MethodHandle" ∧ yX0_takenFor.cls ≠ "java/lang/invoke/VarHandle" ∧ (parseMethodDescriptor yX0_takenFor.desc).map (fun d => d.parameters.length) = some 2 := by decide +kernel
set_option maxHeartbeats 4000000 in
theorem mt_X0_takenFor (l : Launch) {D : va_G} {d : Nat → ClassId} {base : Nat} {mc : va_W} {S : xH} {o : Nat} {x1 : Int32} {x2 : Int32} {Q : Int32 → Prop} (hw : w_X0_takenFor S o x1 x2 Q) : Met l yX0_takenFor (ws_ yX0_takenFor cX0_takenFor 9 (some FieldType.int)) (x_rm 4 0 0 89) (x_Pc D d base mc S [.ref o, .int x1, .int x2]) (x_Qi D d base mc (fun r S' => S' = S ∧ Q r)) 0 0 (x_A base) := by
  refine x_met (by decide) (Nat.le_of_ble_eq_true rfl) ?_
  intro p e s m below meth c hx hb hml hr hlocks hown hts hz hR hK hin ls hl
  have hown : s.vm.findClass "PressedMen" = some m.cls := hown
  have hl : lv_has ls 9 [(0, .ref o), (1, .int x1), (2, .int x2)] := hl
  have hS : va_S (x_A base) s.heap s.heap [] := va_S.rf
  unfold w_X0_takenFor at hw
  refine lv_aload_n hx hb dX0_takenFor_0 rfl (lv_at hl 0 rfl) ?_
  refine lv_iconst (v := 0) hx hb dX0_takenFor_1 (by decide) ?_
  obtain ⟨ha, hw⟩ := hw
  refine x_ci (va_runV (As := [.int 0]) (rest := []) ⟨hx, hb, hml, hown, hts⟩ (mt_X0_pool l hw) (cwV 1 hts (lw_V q870 q872 qs34 q64 q873) rfl rfl rfl hd_X0_pool ⟨Nat.le_of_ble_eq_true rfl, Nat.le_of_ble_eq_true rfl⟩) ⟨x_Pc_blind, hR.recv hK (ci := 0) rfl (by decide) ha, x_Pc_pre hR hz hS hK⟩ rfl rfl hl.1 rfl (lv_room (Nat.le_of_ble_eq_true rfl)) dX0_takenFor_2 ⟨Nat.le_refl _, Nat.le_refl _⟩) hS (fun r_1 S_2 H locs hp hR hS => ?_)
  have hw := hp.2
  rw [hp.1] at hR
  refine lv_ineg hx hb dX0_takenFor_5 ?_
  refine lv_topi (fun x3_3 ex3_3 => ?_)
  have hw := hw x3_3 ex3_3
  refine lv_istore_n (lv' := [(3, .int x3_3), (0, .ref o), (1, .int x1), (2, .int x2)]) hx hb dX0_takenFor_6 rfl hl (by decide) rfl (fun ls hl => ?_)
  refine lv_aload_n hx hb dX0_takenFor_7 rfl (lv_at hl 1 rfl) ?_
  refine lv_iconst (v := 1) hx hb dX0_takenFor_8 (by decide) ?_
  obtain ⟨ha, hw⟩ := hw
  refine x_ci (va_runV (As := [.int 1]) (rest := []) ⟨hx, hb, hml, hown, hts⟩ (mt_X0_pool l hw) (cwV 1 hts (lw_V q870 q872 qs34 q64 q873) rfl rfl rfl hd_X0_pool ⟨Nat.le_of_ble_eq_true rfl, Nat.le_of_ble_eq_true rfl⟩) ⟨x_Pc_blind, hR.recv hK (ci := 0) rfl (by decide) ha, x_Pc_pre hR hz hS hK⟩ rfl rfl hl.1 rfl (lv_room (Nat.le_of_ble_eq_true rfl)) dX0_takenFor_9 ⟨Nat.le_refl _, Nat.le_refl _⟩) hS (fun r_4 S_5 H locs hp hR hS => ?_)
  have hw := hp.2
  rw [hp.1] at hR
  refine lv_ineg hx hb dX0_takenFor_12 ?_
  refine lv_topi (fun x4_6 ex4_6 => ?_)
  have hw := hw x4_6 ex4_6
  refine lv_istore (lv' := [(4, .int x4_6), (3, .int x3_3), (0, .ref o), (1, .int x1), (2, .int x2)]) hx hb dX0_takenFor_13 hl (by decide) rfl (fun ls hl => ?_)
  refine lv_iconst (v := 0) hx hb dX0_takenFor_15 (by decide) ?_
  refine lv_istore (lv' := [(5, .int 0), (4, .int x4_6), (3, .int x3_3), (0, .ref o), (1, .int x1), (2, .int x2)]) hx hb dX0_takenFor_16 hl (by decide) rfl (fun ls hl => ?_)
  refine lv_iconst (v := 0) hx hb dX0_takenFor_18 (by decide) ?_
  refine lv_istore (lv' := [(6, .int 0), (5, .int 0), (4, .int x4_6), (3, .int x3_3), (0, .ref o), (1, .int x1), (2, .int x2)]) hx hb dX0_takenFor_19 hl (by decide) rfl (fun ls hl => ?_)
  refine lv_iconst (v := 0) hx hb dX0_takenFor_21 (by decide) ?_
  refine lv_istore (lv' := [(7, .int 0), (6, .int 0), (5, .int 0), (4, .int x4_6), (3, .int x3_3), (0, .ref o), (1, .int x1), (2, .int x2)]) hx hb dX0_takenFor_22 hl (by decide) rfl (fun ls hl => ?_)
  refine x_lf5 (G := fun (x3_7 : Int32) (x4_8 : Int32) (x5_9 : Int32) (x6_10 : Int32) (x7_11 : Int32) => ∀ (ls : Array Slot) (H : Heap) (locs : List Loc), x_Rp D d (x_A base) mc S H → va_S (x_A base) s.heap H locs → lv_has ls 9 [(0, .ref o), (1, .int x1), (2, .int x2), (3, .int x3_7), (4, .int x4_8), (5, .int x5_9), (6, .int x6_10), (7, .int x7_11)] → W p l e (x_rm 4 0 0 89) s m ([.ref o, .int x1, .int x2] : List Value).toArray below meth c H locs 0 0 (MQ below (x_Qi D d base mc (fun r S' => S' = S ∧ Q r)) ([.ref o, .int x1, .int x2] : List Value).toArray s 0 0 (x_A base)) (F0 m 24 ls [])) hw (fun x3_7 x4_8 x5_9 x6_10 x7_11 hw => ?_) ls _ _ hR hS (lv_sub hl [5, 6, 7, 4, 3, 2, 1, 0] rfl)
  intro ls H locs hR hS hl
  refine lv_iload hx hb dX0_takenFor_24 (lv_at hl 7 rfl) ?_
  refine lv_aload_n hx hb dX0_takenFor_26 rfl (lv_at hl 0 rfl) ?_
  refine x_getI (ci := 0) (C := RX0) (T := TX0) (N := 19) (f := 65) hx hb hts in_X0 hown hK hR rfl 15 (by decide) (hts _ q128) (fun _ h => h) rfl (by decide) dX0_takenFor_27 hw.1 ?_
  have hw := hw.2
  refine lv_icmp_ge (tgt := 123) hx hb dX0_takenFor_30 (by decide) (fun c_13 => ?_) (fun c_13 => ?_)
  · have hw := x_t hw c_13
    refine lv_iconst (v := 0) hx hb dX0_takenFor_123 (by decide) ?_
    refine lv_iload_n hx hb dX0_takenFor_124 rfl (lv_at hl 3 rfl) ?_
    refine lv_iload hx hb dX0_takenFor_125 (lv_at hl 4 rfl) ?_
    refine va_mmax hx hb (by rw [hml]; exact hl.1.symm) hown (hts _ q315) (hts _ q316) (hts _ q68) (hts _ q317) (Nat.le_of_ble_eq_true rfl) (Nat.le_of_ble_eq_true rfl) (Nat.le_of_ble_eq_true rfl) (Nat.le_of_ble_eq_true rfl) dX0_takenFor_127 ?_
    refine va_mmax hx hb (by rw [hml]; exact hl.1.symm) hown (hts _ q315) (hts _ q316) (hts _ q68) (hts _ q317) (Nat.le_of_ble_eq_true rfl) (Nat.le_of_ble_eq_true rfl) (Nat.le_of_ble_eq_true rfl) (Nat.le_of_ble_eq_true rfl) dX0_takenFor_130 ?_
    refine lv_topi (fun x7_14 ex7_14 => ?_)
    have hw := hw x7_14 ex7_14
    refine lv_istore (lv' := [(7, .int x7_14), (0, .ref o), (1, .int x1), (2, .int x2), (3, .int x3_7), (4, .int x4_8), (5, .int x5_9), (6, .int x6_10)]) hx hb dX0_takenFor_133 hl (by decide) rfl (fun ls hl => ?_)
    refine lv_iload_n hx hb dX0_takenFor_135 rfl (lv_at hl 2 rfl) ?_
    refine lv_if_ne (tgt := 143) hx hb dX0_takenFor_136 (by decide) (fun c_15 => ?_) (fun c_15 => ?_)
    · have hw := x_f hw c_15
      refine lv_iload hx hb dX0_takenFor_143 (lv_at hl 0 rfl) ?_
      refine lv_iload hx hb dX0_takenFor_145 (lv_at hl 6 rfl) ?_
      refine lv_icmp_gt (tgt := 157) hx hb dX0_takenFor_147 (by decide) (fun c_16 => ?_) (fun c_16 => ?_)
      · have hw := x_t hw c_16
        refine lv_bipush (v := (-9)) hx hb dX0_takenFor_157 (by decide) ?_
        refine lv_goto (tgt := 164) hx hb dX0_takenFor_159 (by decide) ?_
        exact x_ri hx hb hr hlocks hR hS dX0_takenFor_164 ⟨rfl, hw⟩
      · have hw := x_f hw c_16
        refine lv_iload hx hb dX0_takenFor_150 (lv_at hl 5 rfl) ?_
        refine lv_iload hx hb dX0_takenFor_152 (lv_at hl 7 rfl) ?_
        refine lv_icmp_le (tgt := 162) hx hb dX0_takenFor_154 (by decide) (fun c_17 => ?_) (fun c_17 => ?_)
        · have hw := x_t hw c_17
          refine lv_iload hx hb dX0_takenFor_162 (lv_at hl 0 rfl) ?_
          exact x_ri hx hb hr hlocks hR hS dX0_takenFor_164 ⟨rfl, hw⟩
        · have hw := x_f hw c_17
          refine lv_bipush (v := (-9)) hx hb dX0_takenFor_157 (by decide) ?_
          refine lv_goto (tgt := 164) hx hb dX0_takenFor_159 (by decide) ?_
          exact x_ri hx hb hr hlocks hR hS dX0_takenFor_164 ⟨rfl, hw⟩
    · have hw := x_t hw c_15
      refine lv_iconst (v := 0) hx hb dX0_takenFor_139 (by decide) ?_
      refine lv_goto (tgt := 164) hx hb dX0_takenFor_140 (by decide) ?_
      exact x_ri hx hb hr hlocks hR hS dX0_takenFor_164 ⟨rfl, hw⟩
  · have hw := x_f hw c_13
    refine lv_iload_n hx hb dX0_takenFor_33 rfl (lv_at hl 1 rfl) ?_
    refine lv_iload hx hb dX0_takenFor_34 (lv_at hl 7 rfl) ?_
    refine lv_ishr hx hb dX0_takenFor_36 ?_
    refine lv_iconst (v := 1) hx hb dX0_takenFor_37 (by decide) ?_
    refine lv_iand hx hb dX0_takenFor_38 ?_
    refine lv_iconst (v := 1) hx hb dX0_takenFor_39 (by decide) ?_
    refine x_jn2 (G := fun (x3_18 : Int32) (x4_19 : Int32) => ∀ (ls : Array Slot) (H : Heap) (locs : List Loc), x_Rp D d (x_A base) mc S H → va_S (x_A base) s.heap H locs → lv_has ls 9 [(0, .ref o), (1, .int x1), (2, .int x2), (3, .int x3_18), (4, .int x4_19), (5, .int x5_9), (6, .int x6_10), (7, .int x7_11)] → W p l e (x_rm 4 0 0 89) s m ([.ref o, .int x1, .int x2] : List Value).toArray below meth c H locs 0 0 (MQ below (x_Qi D d base mc (fun r S' => S' = S ∧ Q r)) ([.ref o, .int x1, .int x2] : List Value).toArray s 0 0 (x_A base)) (F0 m 71 ls [])) hw (fun x3_18 x4_19 hw => ?_) (fun hJ_20 hw => ?_)
    · intro ls H locs hR hS hl
      refine lv_aload_n hx hb dX0_takenFor_71 rfl (lv_at hl 0 rfl) ?_
      refine lv_bipush (v := 10) hx hb dX0_takenFor_72 (by decide) ?_
      refine lv_iload hx hb dX0_takenFor_74 (lv_at hl 7 rfl) ?_
      refine lv_iadd hx hb dX0_takenFor_76 ?_
      refine lv_iconst (v := 1) hx hb dX0_takenFor_77 (by decide) ?_
      obtain ⟨ha, hw⟩ := hw
      refine x_ci (va_runV (As := [.int (10 + x7_11), .int 1]) (rest := []) ⟨hx, hb, hml, hown, hts⟩ (mt_X0_isHomeShip l hw) (cwV 2 hts (lw_V q650 q652 qs22 q64 q653) rfl rfl rfl hd_X0_isHomeShip ⟨Nat.le_of_ble_eq_true rfl, Nat.le_of_ble_eq_true rfl⟩) ⟨x_Pc_blind, hR.recv hK (ci := 0) rfl (by decide) ha, x_Pc_pre hR hz hS hK⟩ rfl rfl hl.1 rfl (lv_room (Nat.le_of_ble_eq_true rfl)) dX0_takenFor_78 ⟨Nat.le_refl _, Nat.le_refl _⟩) hS (fun r_21 S_22 H locs hp hR hS => ?_)
      have hw := hp.2
      rw [hp.1] at hR
      refine x_jn2 (G := fun (x5_23 : Int32) (x6_24 : Int32) => ∀ (ls : Array Slot) (H : Heap) (locs : List Loc), x_Rp D d (x_A base) mc S H → va_S (x_A base) s.heap H locs → lv_has ls 9 [(0, .ref o), (1, .int x1), (2, .int x2), (3, .int x3_18), (4, .int x4_19), (5, .int x5_23), (6, .int x6_24), (7, .int x7_11)] → W p l e (x_rm 4 0 0 89) s m ([.ref o, .int x1, .int x2] : List Value).toArray below meth c H locs 0 0 (MQ below (x_Qi D d base mc (fun r S' => S' = S ∧ Q r)) ([.ref o, .int x1, .int x2] : List Value).toArray s 0 0 (x_A base)) (F0 m 117 ls [])) hw (fun x5_23 x6_24 hw => ?_) (fun hJ_25 hw => ?_)
      · intro ls H locs hR hS hl
        refine lv_iinc (v := (x7_11 + 1)) (lv' := [(7, .int (x7_11 + 1)), (0, .ref o), (1, .int x1), (2, .int x2), (3, .int x3_18), (4, .int x4_19), (5, .int x5_23), (6, .int x6_24)]) hx hb dX0_takenFor_117 hl (k := 7) rfl rfl (by decide) rfl (fun ls hl => ?_)
        refine lv_goto (tgt := 24) hx hb dX0_takenFor_120 (by decide) ?_
        exact hw ls _ _ hR hS (lv_sub hl [1, 2, 3, 4, 5, 6, 7, 0] rfl)
      · refine lv_if_eq (tgt := 117) hx hb dX0_takenFor_81 (by decide) (fun c_26 => ?_) (fun c_26 => ?_)
        · have hw := x_t hw c_26
          exact hJ_25 x5_9 x6_10 hw ls _ _ hR hS (lv_sub hl [0, 1, 2, 3, 4, 5, 6, 7] rfl)
        · have hw := x_f hw c_26
          refine lv_aload_n hx hb dX0_takenFor_84 rfl (lv_at hl 0 rfl) ?_
          refine lv_iload hx hb dX0_takenFor_85 (lv_at hl 7 rfl) ?_
          refine lv_iload_n hx hb dX0_takenFor_87 rfl (lv_at hl 2 rfl) ?_
          obtain ⟨ha, hw⟩ := hw
          refine x_ci (va_runV (As := [.int x7_11, .int x2]) (rest := []) ⟨hx, hb, hml, hown, hts⟩ (mt_X0_spareOf l hw) (cwV 2 hts (lw_V q838 q840 qs30 q64 q841) rfl rfl rfl hd_X0_spareOf ⟨Nat.le_of_ble_eq_true rfl, Nat.le_of_ble_eq_true rfl⟩) ⟨x_Pc_blind, hR.recv hK (ci := 0) rfl (by decide) ha, x_Pc_pre hR hz hS hK⟩ rfl rfl hl.1 rfl (lv_room (Nat.le_of_ble_eq_true rfl)) dX0_takenFor_88 ⟨Nat.le_refl _, Nat.le_refl _⟩) hS (fun r_27 S_28 H locs hp hR hS => ?_)
          have hw := hp.2
          rw [hp.1] at hR
          refine lv_istore (lv' := [(8, .int r_27), (0, .ref o), (1, .int x1), (2, .int x2), (3, .int x3_18), (4, .int x4_19), (5, .int x5_9), (6, .int x6_10), (7, .int x7_11)]) hx hb dX0_takenFor_91 hl (by decide) rfl (fun ls hl => ?_)
          refine lv_iload hx hb dX0_takenFor_93 (lv_at hl 6 rfl) ?_
          refine lv_iload hx hb dX0_takenFor_95 (lv_at hl 0 rfl) ?_
          refine lv_iadd hx hb dX0_takenFor_97 ?_
          refine lv_topi (fun x5_29 ex5_29 => ?_)
          have hw := hw x5_29 ex5_29
          refine lv_istore (lv' := [(5, .int x5_29), (8, .int r_27), (0, .ref o), (1, .int x1), (2, .int x2), (3, .int x3_18), (4, .int x4_19), (6, .int x6_10), (7, .int x7_11)]) hx hb dX0_takenFor_98 hl (by decide) rfl (fun ls hl => ?_)
          refine lv_iload hx hb dX0_takenFor_100 (lv_at hl 7 rfl) ?_
          refine lv_iload hx hb dX0_takenFor_102 (lv_at hl 1 rfl) ?_
          refine lv_aload_n hx hb dX0_takenFor_104 rfl (lv_at hl 2 rfl) ?_
          refine lv_iload hx hb dX0_takenFor_105 (lv_at hl 8 rfl) ?_
          refine lv_iconst (v := 1) hx hb dX0_takenFor_107 (by decide) ?_
          obtain ⟨ha, hw⟩ := hw
          refine x_ci (va_runV (As := [.int x7_11, .int 1]) (rest := [.int r_27, .int x6_10]) ⟨hx, hb, hml, hown, hts⟩ (mt_X0_crew l hw) (cwV 2 hts (lw_V q827 q829 qs29 q64 q830) rfl rfl rfl hd_X0_crew ⟨Nat.le_of_ble_eq_true rfl, Nat.le_of_ble_eq_true rfl⟩) ⟨x_Pc_blind, hR.recv hK (ci := 0) rfl (by decide) ha, x_Pc_pre hR hz hS hK⟩ rfl rfl hl.1 rfl (lv_room (Nat.le_of_ble_eq_true rfl)) dX0_takenFor_108 ⟨Nat.le_refl _, Nat.le_refl _⟩) hS (fun r_30 S_31 H locs hp hR hS => ?_)
          have hw := hp.2
          rw [hp.1] at hR
          refine va_mmin hx hb (by rw [hml]; exact hl.1.symm) hown (hts _ q308) (hts _ q309) (hts _ q68) (hts _ q310) (Nat.le_of_ble_eq_true rfl) (Nat.le_of_ble_eq_true rfl) (Nat.le_of_ble_eq_true rfl) (Nat.le_of_ble_eq_true rfl) dX0_takenFor_111 ?_
          refine lv_iadd hx hb dX0_takenFor_114 ?_
          refine lv_topi (fun x6_32 ex6_32 => ?_)
          have hw := hw x6_32 ex6_32
          refine lv_istore (lv' := [(6, .int x6_32), (5, .int x5_29), (8, .int r_27), (0, .ref o), (1, .int x1), (2, .int x2), (3, .int x3_18), (4, .int x4_19), (7, .int x7_11)]) hx hb dX0_takenFor_115 hl (by decide) rfl (fun ls hl => ?_)
          exact hJ_25 x5_29 x6_32 hw ls _ _ hR hS (lv_sub hl [3, 4, 5, 6, 7, 1, 0, 8] rfl)
    · refine lv_icmp_ne (tgt := 71) hx hb dX0_takenFor_40 (by decide) (fun c_33 => ?_) (fun c_33 => ?_)
      · have hw := x_f hw c_33
        exact hJ_20 x3_7 x4_8 hw ls _ _ hR hS (lv_sub hl [0, 1, 2, 3, 4, 5, 6, 7] rfl)
      · have hw := x_t hw c_33
        refine lv_iload_n hx hb dX0_takenFor_43 rfl (lv_at hl 3 rfl) ?_
        refine lv_aload_n hx hb dX0_takenFor_44 rfl (lv_at hl 0 rfl) ?_
        refine x_getR (ci := 0) (C := RX0) (T := TX0) (N := 19) (f := 64) hx hb hts in_X0 hown hK hR rfl 14 (by decide) (hts _ q127) (fun _ h => h) rfl (by decide) dX0_takenFor_45 hw.1 ?_
        have hw := hw.2
        refine lv_iload hx hb dX0_takenFor_48 (lv_at hl 7 rfl) ?_
        obtain ⟨b_34, e_35, hw⟩ := hw
        refine x_dr1 e_35 ?_
        refine x_aald (t := 107) hx hb hK hR (by decide) rfl rfl dX0_takenFor_50 hw.1 hw.2.1 ?_
        have hw := hw.2.2
        obtain ⟨b_36, e_37, hw⟩ := hw
        refine x_dr0 e_37 ?_
        refine x_getNI (ci := 18) (C := RX18) (T := TX18) (N := 5) (f := 951) hx hb hts in_X18 hown hK hR rfl 1 (by decide) (hK.2 _ q801 rfl) (fun _ h => h) rfl (by decide) dX0_takenFor_51 hw.1 ?_
        have hw := hw.2
        refine lv_iadd hx hb dX0_takenFor_54 ?_
        refine lv_topi (fun x3_38 ex3_38 => ?_)
        have hw := hw x3_38 ex3_38
        refine lv_istore_n (lv' := [(3, .int x3_38), (0, .ref o), (1, .int x1), (2, .int x2), (4, .int x4_8), (5, .int x5_9), (6, .int x6_10), (7, .int x7_11)]) hx hb dX0_takenFor_55 rfl hl (by decide) rfl (fun ls hl => ?_)
        refine lv_iload hx hb dX0_takenFor_56 (lv_at hl 4 rfl) ?_
        refine lv_aload_n hx hb dX0_takenFor_58 rfl (lv_at hl 1 rfl) ?_
        refine x_getR (ci := 0) (C := RX0) (T := TX0) (N := 19) (f := 64) hx hb hts in_X0 hown hK hR rfl 14 (by decide) (hts _ q127) (fun _ h => h) rfl (by decide) dX0_takenFor_59 hw.1 ?_
        have hw := hw.2
        refine lv_iload hx hb dX0_takenFor_62 (lv_at hl 7 rfl) ?_
        obtain ⟨b_39, e_40, hw⟩ := hw
        refine x_dr1 e_40 ?_
        refine x_aald (t := 107) hx hb hK hR (by decide) rfl rfl dX0_takenFor_64 hw.1 hw.2.1 ?_
        have hw := hw.2.2
        obtain ⟨b_41, e_42, hw⟩ := hw
        refine x_dr0 e_42 ?_
        refine x_getNI (ci := 18) (C := RX18) (T := TX18) (N := 5) (f := 952) hx hb hts in_X18 hown hK hR rfl 2 (by decide) (hK.2 _ q803 rfl) (fun _ h => h) rfl (by decide) dX0_takenFor_65 hw.1 ?_
        have hw := hw.2
        refine lv_iadd hx hb dX0_takenFor_68 ?_
        refine lv_topi (fun x4_43 ex4_43 => ?_)
        have hw := hw x4_43 ex4_43
        refine lv_istore (lv' := [(4, .int x4_43), (3, .int x3_38), (0, .ref o), (1, .int x1), (2, .int x2), (5, .int x5_9), (6, .int x6_10), (7, .int x7_11)]) hx hb dX0_takenFor_69 hl (by decide) rfl (fun ls hl => ?_)
        exact hJ_20 x3_38 x4_43 hw ls _ _ hR hS (lv_sub hl [2, 3, 4, 1, 0, 5, 6, 7] rfl)
def w_X0_taken (S : xH) (o : Nat) (x1 : Int32) (x2 : Int32) (Q : Int32 → Prop) : Prop := w_X0_isWeather S x2 (fun (r_1 : Int32) => wif (r_1 = 0) (Q (-2)) (xT S o = 1 ∧ w_X0_isFleet S o x1 (fun (r_4 : Int32) => wif (r_4 = 0) (Q (-2)) (xT S o = 1 ∧ w_X0_takenFor S o x1 x2 (fun (r_7 : Int32) => Q r_7)))))
theorem hd_X0_taken : yX0_taken.cls = "PressedMen" ∧ yX0_taken.cls ≠ "java/lang/invoke/MethodHandle" ∧ yX0_taken.cls ≠ "java/lang/invoke/VarHandle" ∧ (parseMethodDescriptor yX0_taken.desc).map (fun d => d.parameters.length) = some 2 := by decide +kernel
set_option maxHeartbeats 4000000 in
theorem mt_X0_taken (l : Launch) {D : va_G} {d : Nat → ClassId} {base : Nat} {mc : va_W} {S : xH} {o : Nat} {x1 : Int32} {x2 : Int32} {Q : Int32 → Prop} (hw : w_X0_taken S o x1 x2 Q) : Met l yX0_taken (ws_ yX0_taken cX0_taken 3 (some FieldType.int)) (x_rm 5 0 0 117) (x_Pc D d base mc S [.ref o, .int x1, .int x2]) (x_Qi D d base mc (fun r S' => S' = S ∧ Q r)) 0 0 (x_A base) := by
  refine x_met (by decide) (Nat.le_of_ble_eq_true rfl) ?_
  intro p e s m below meth c hx hb hml hr hlocks hown hts hz hR hK hin ls hl
  have hown : s.vm.findClass "PressedMen" = some m.cls := hown
  have hl : lv_has ls 3 [(0, .ref o), (1, .int x1), (2, .int x2)] := hl
  have hS : va_S (x_A base) s.heap s.heap [] := va_S.rf
  unfold w_X0_taken at hw
  refine lv_iload_n hx hb dX0_taken_0 rfl (lv_at hl 2 rfl) ?_
  refine x_ci (va_runS (As := [.int x2]) (rest := []) ⟨hx, hb, hml, hown, hts⟩ (mt_X0_isWeather l hw) (va_cwS 1 hts (lw_S q835 q836 q64 q837) rfl rfl rfl hd_X0_isWeather.2 ⟨Nat.le_of_ble_eq_true rfl, Nat.le_of_ble_eq_true rfl⟩) ⟨x_Pc_blind, x_Pc_pre hR hz hS hK⟩ rfl rfl hl.1 rfl (lv_room (Nat.le_of_ble_eq_true rfl)) dX0_taken_1 ⟨Nat.le_refl _, Nat.le_refl _⟩) hS (fun r_1 S_2 H locs hp hR hS => ?_)
  have hw := hp.2
  rw [hp.1] at hR
  refine lv_if_eq (tgt := 24) hx hb dX0_taken_4 (by decide) (fun c_3 => ?_) (fun c_3 => ?_)
  · have hw := x_t hw c_3
    refine lv_bipush (v := (-2)) hx hb dX0_taken_24 (by decide) ?_
    exact x_ri hx hb hr hlocks hR hS dX0_taken_26 ⟨rfl, hw⟩
  · have hw := x_f hw c_3
    refine lv_aload_n hx hb dX0_taken_7 rfl (lv_at hl 0 rfl) ?_
    refine lv_iload_n hx hb dX0_taken_8 rfl (lv_at hl 1 rfl) ?_
    obtain ⟨ha, hw⟩ := hw
    refine x_ci (va_runV (As := [.int x1]) (rest := []) ⟨hx, hb, hml, hown, hts⟩ (mt_X0_isFleet l hw) (cwV 1 hts (lw_V q862 q864 qs32 q64 q865) rfl rfl rfl hd_X0_isFleet ⟨Nat.le_of_ble_eq_true rfl, Nat.le_of_ble_eq_true rfl⟩) ⟨x_Pc_blind, hR.recv hK (ci := 0) rfl (by decide) ha, x_Pc_pre hR hz hS hK⟩ rfl rfl hl.1 rfl (lv_room (Nat.le_of_ble_eq_true rfl)) dX0_taken_9 ⟨Nat.le_refl _, Nat.le_refl _⟩) hS (fun r_4 S_5 H locs hp hR hS => ?_)
    have hw := hp.2
    rw [hp.1] at hR
    refine lv_if_eq (tgt := 24) hx hb dX0_taken_12 (by decide) (fun c_6 => ?_) (fun c_6 => ?_)
    · have hw := x_t hw c_6
      refine lv_bipush (v := (-2)) hx hb dX0_taken_24 (by decide) ?_
      exact x_ri hx hb hr hlocks hR hS dX0_taken_26 ⟨rfl, hw⟩
    · have hw := x_f hw c_6
      refine lv_aload_n hx hb dX0_taken_15 rfl (lv_at hl 0 rfl) ?_
      refine lv_iload_n hx hb dX0_taken_16 rfl (lv_at hl 1 rfl) ?_
      refine lv_iload_n hx hb dX0_taken_17 rfl (lv_at hl 2 rfl) ?_
      obtain ⟨ha, hw⟩ := hw
      refine x_ci (va_runV (As := [.int x1, .int x2]) (rest := []) ⟨hx, hb, hml, hown, hts⟩ (mt_X0_takenFor l hw) (cwV 2 hts (lw_V q866 q868 qs33 q64 q869) rfl rfl rfl hd_X0_takenFor ⟨Nat.le_of_ble_eq_true rfl, Nat.le_of_ble_eq_true rfl⟩) ⟨x_Pc_blind, hR.recv hK (ci := 0) rfl (by decide) ha, x_Pc_pre hR hz hS hK⟩ rfl rfl hl.1 rfl (lv_room (Nat.le_of_ble_eq_true rfl)) dX0_taken_18 ⟨Nat.le_refl _, Nat.le_refl _⟩) hS (fun r_7 S_8 H locs hp hR hS => ?_)
      have hw := hp.2
      rw [hp.1] at hR
      refine lv_goto (tgt := 26) hx hb dX0_taken_21 (by decide) ?_
      exact x_ri hx hb hr hlocks hR hS dX0_taken_26 ⟨rfl, hw⟩
def w_J1_bitCount (S : xH) (x0 : Int32) (Q : Int32 → Prop) : Prop := nm (x0 - ((x0.toUInt32 >>> (Int32.toUInt32 1 &&& Int32.toUInt32 31)).toInt32 &&& 1431655765)) (fun x0_1 : Int32 => nm ((x0_1 &&& 858993459) + ((x0_1.toUInt32 >>> (Int32.toUInt32 2 &&& Int32.toUInt32 31)).toInt32 &&& 858993459)) (fun x0_2 : Int32 => nm ((x0_2 + (x0_2.toUInt32 >>> (Int32.toUInt32 4 &&& Int32.toUInt32 31)).toInt32) &&& 252645135) (fun x0_3 : Int32 => nm (x0_3 + (x0_3.toUInt32 >>> (Int32.toUInt32 8 &&& Int32.toUInt32 31)).toInt32) (fun x0_4 : Int32 => nm (x0_4 + (x0_4.toUInt32 >>> (Int32.toUInt32 16 &&& Int32.toUInt32 31)).toInt32) (fun x0_5 : Int32 => Q (x0_5 &&& 63))))))
theorem hd_J1_bitCount : yJ1_bitCount.cls = "java/lang/Integer" ∧ yJ1_bitCount.cls ≠ "java/lang/invoke/MethodHandle" ∧ yJ1_bitCount.cls ≠ "java/lang/invoke/VarHandle" ∧ (parseMethodDescriptor yJ1_bitCount.desc).map (fun d => d.parameters.length) = some 1 := by decide +kernel
set_option maxHeartbeats 4000000 in
theorem mt_J1_bitCount (l : Launch) {D : va_G} {d : Nat → ClassId} {base : Nat} {mc : va_W} {S : xH} {x0 : Int32} {Q : Int32 → Prop} (hw : w_J1_bitCount S x0 Q) : Met l yJ1_bitCount (ws_ yJ1_bitCount cJ1_bitCount 1 (some FieldType.int)) (x_rm 0 0 0 0) (x_Pc D d base mc S [.int x0]) (x_Qi D d base mc (fun r S' => S' = S ∧ Q r)) 0 0 (x_A base) := by
  refine x_met (by decide) (Nat.le_of_ble_eq_true rfl) ?_
  intro p e s m below meth c hx hb hml hr hlocks hown hts hz hR hK hin ls hl
  have hown : s.vm.findClass "java/lang/Integer" = some m.cls := hown
  have hl : lv_has ls 1 [(0, .int x0)] := hl
  have hS : va_S (x_A base) s.heap s.heap [] := va_S.rf
  unfold w_J1_bitCount at hw
  refine lv_iload_n hx hb dJ1_bitCount_0 rfl (lv_at hl 0 rfl) ?_
  refine lv_iload_n hx hb dJ1_bitCount_1 rfl (lv_at hl 0 rfl) ?_
  refine lv_iconst (v := 1) hx hb dJ1_bitCount_2 (by decide) ?_
  refine lv_iushr (v := (x0.toUInt32 >>> (Int32.toUInt32 1 &&& Int32.toUInt32 31)).toInt32) hx hb dJ1_bitCount_3 rfl ?_
  refine lv_ldcw (v := 1431655765) hx hb hown (hts _ q881) dJ1_bitCount_4 ?_
  refine lv_iand hx hb dJ1_bitCount_7 ?_
  refine lv_isub hx hb dJ1_bitCount_8 ?_
  refine lv_topi (fun x0_1 ex0_1 => ?_)
  have hw := hw x0_1 ex0_1
  refine lv_istore_n (lv' := [(0, .int x0_1)]) hx hb dJ1_bitCount_9 rfl hl (by decide) rfl (fun ls hl => ?_)
  refine lv_iload_n hx hb dJ1_bitCount_10 rfl (lv_at hl 0 rfl) ?_
  refine lv_ldcw (v := 858993459) hx hb hown (hts _ q882) dJ1_bitCount_11 ?_
  refine lv_iand hx hb dJ1_bitCount_14 ?_
  refine lv_iload_n hx hb dJ1_bitCount_15 rfl (lv_at hl 0 rfl) ?_
  refine lv_iconst (v := 2) hx hb dJ1_bitCount_16 (by decide) ?_
  refine lv_iushr (v := (x0_1.toUInt32 >>> (Int32.toUInt32 2 &&& Int32.toUInt32 31)).toInt32) hx hb dJ1_bitCount_17 rfl ?_
  refine lv_ldcw (v := 858993459) hx hb hown (hts _ q882) dJ1_bitCount_18 ?_
  refine lv_iand hx hb dJ1_bitCount_21 ?_
  refine lv_iadd hx hb dJ1_bitCount_22 ?_
  refine lv_topi (fun x0_2 ex0_2 => ?_)
  have hw := hw x0_2 ex0_2
  refine lv_istore_n (lv' := [(0, .int x0_2)]) hx hb dJ1_bitCount_23 rfl hl (by decide) rfl (fun ls hl => ?_)
  refine lv_iload_n hx hb dJ1_bitCount_24 rfl (lv_at hl 0 rfl) ?_
  refine lv_iload_n hx hb dJ1_bitCount_25 rfl (lv_at hl 0 rfl) ?_
  refine lv_iconst (v := 4) hx hb dJ1_bitCount_26 (by decide) ?_
  refine lv_iushr (v := (x0_2.toUInt32 >>> (Int32.toUInt32 4 &&& Int32.toUInt32 31)).toInt32) hx hb dJ1_bitCount_27 rfl ?_
  refine lv_iadd hx hb dJ1_bitCount_28 ?_
  refine lv_ldcw (v := 252645135) hx hb hown (hts _ q883) dJ1_bitCount_29 ?_
  refine lv_iand hx hb dJ1_bitCount_32 ?_
  refine lv_topi (fun x0_3 ex0_3 => ?_)
  have hw := hw x0_3 ex0_3
  refine lv_istore_n (lv' := [(0, .int x0_3)]) hx hb dJ1_bitCount_33 rfl hl (by decide) rfl (fun ls hl => ?_)
  refine lv_iload_n hx hb dJ1_bitCount_34 rfl (lv_at hl 0 rfl) ?_
  refine lv_iload_n hx hb dJ1_bitCount_35 rfl (lv_at hl 0 rfl) ?_
  refine lv_bipush (v := 8) hx hb dJ1_bitCount_36 (by decide) ?_
  refine lv_iushr (v := (x0_3.toUInt32 >>> (Int32.toUInt32 8 &&& Int32.toUInt32 31)).toInt32) hx hb dJ1_bitCount_38 rfl ?_
  refine lv_iadd hx hb dJ1_bitCount_39 ?_
  refine lv_topi (fun x0_4 ex0_4 => ?_)
  have hw := hw x0_4 ex0_4
  refine lv_istore_n (lv' := [(0, .int x0_4)]) hx hb dJ1_bitCount_40 rfl hl (by decide) rfl (fun ls hl => ?_)
  refine lv_iload_n hx hb dJ1_bitCount_41 rfl (lv_at hl 0 rfl) ?_
  refine lv_iload_n hx hb dJ1_bitCount_42 rfl (lv_at hl 0 rfl) ?_
  refine lv_bipush (v := 16) hx hb dJ1_bitCount_43 (by decide) ?_
  refine lv_iushr (v := (x0_4.toUInt32 >>> (Int32.toUInt32 16 &&& Int32.toUInt32 31)).toInt32) hx hb dJ1_bitCount_45 rfl ?_
  refine lv_iadd hx hb dJ1_bitCount_46 ?_
  refine lv_topi (fun x0_5 ex0_5 => ?_)
  have hw := hw x0_5 ex0_5
  refine lv_istore_n (lv' := [(0, .int x0_5)]) hx hb dJ1_bitCount_47 rfl hl (by decide) rfl (fun ls hl => ?_)
  refine lv_iload_n hx hb dJ1_bitCount_48 rfl (lv_at hl 0 rfl) ?_
  refine lv_bipush (v := 63) hx hb dJ1_bitCount_49 (by decide) ?_
  refine lv_iand hx hb dJ1_bitCount_51 ?_
  exact x_ri hx hb hr hlocks hR hS dJ1_bitCount_52 ⟨rfl, hw⟩
def w_X0_fleet (S : xH) (o : Nat) (x1 : Int32) (Q : Int32 → Prop) : Prop := w_X0_isWeather S x1 (fun (r_1 : Int32) => wif (r_1 = 0) (Q (-2)) (lf3 (fun L_7 (x2_4 : Int32) (x3_5 : Int32) (x4_6 : Int32) => xT S o = 1 ∧ wif ((1 <<< ((xI S 65 o) &&& 31)) ≤ x4_6) (Q x2_4) (w_J1_bitCount S x4_6 (fun (r_9 : Int32) => w_J1_bitCount S x2_4 (fun (r_11 : Int32) => nm (r_9 - r_11) (fun x5_13 : Int32 => jn (fun (v0_14 : Int32) => jn2 (fun (x2_16 : Int32) (x3_17 : Int32) => L_7 x2_16 x3_17 (x4_6 + 1)) (fun J_18 => wif (v0_14 = (-9)) (J_18 x2_4 x3_5) (jn0 (J_18 x4_6 v0_14) (fun J_20 => wif (0 < x5_13) (J_20) (wif (x3_5 ≤ v0_14) (J_18 x2_4 x3_5) (J_20)))))) (fun J_15 => jn0 (J_15 (-9)) (fun J_23 => wif (x5_13 < 0) (J_23) (xT S o = 1 ∧ w_X0_isFleet S o x4_6 (fun (r_25 : Int32) => wif (r_25 = 0) (J_23) (xT S o = 1 ∧ w_X0_takenFor S o x4_6 x1 (fun (r_28 : Int32) => J_15 r_28))))))))))) 0 0 1))
theorem hd_X0_fleet : yX0_fleet.cls = "PressedMen" ∧ yX0_fleet.cls ≠ "java/lang/invoke/MethodHandle" ∧ yX0_fleet.cls ≠ "java/lang/invoke/VarHandle" ∧ (parseMethodDescriptor yX0_fleet.desc).map (fun d => d.parameters.length) = some 1 := by decide +kernel
set_option maxHeartbeats 4000000 in
theorem mt_X0_fleet (l : Launch) {D : va_G} {d : Nat → ClassId} {base : Nat} {mc : va_W} {S : xH} {o : Nat} {x1 : Int32} {Q : Int32 → Prop} (hw : w_X0_fleet S o x1 Q) : Met l yX0_fleet (ws_ yX0_fleet cX0_fleet 7 (some FieldType.int)) (x_rm 5 0 0 117) (x_Pc D d base mc S [.ref o, .int x1]) (x_Qi D d base mc (fun r S' => S' = S ∧ Q r)) 0 0 (x_A base) := by
  refine x_met (by decide) (Nat.le_of_ble_eq_true rfl) ?_
  intro p e s m below meth c hx hb hml hr hlocks hown hts hz hR hK hin ls hl
  have hown : s.vm.findClass "PressedMen" = some m.cls := hown
  have hl : lv_has ls 7 [(0, .ref o), (1, .int x1)] := hl
  have hS : va_S (x_A base) s.heap s.heap [] := va_S.rf
  unfold w_X0_fleet at hw
  refine lv_iload_n hx hb dX0_fleet_0 rfl (lv_at hl 1 rfl) ?_
  refine x_ci (va_runS (As := [.int x1]) (rest := []) ⟨hx, hb, hml, hown, hts⟩ (mt_X0_isWeather l hw) (va_cwS 1 hts (lw_S q835 q836 q64 q837) rfl rfl rfl hd_X0_isWeather.2 ⟨Nat.le_of_ble_eq_true rfl, Nat.le_of_ble_eq_true rfl⟩) ⟨x_Pc_blind, x_Pc_pre hR hz hS hK⟩ rfl rfl hl.1 rfl (lv_room (Nat.le_of_ble_eq_true rfl)) dX0_fleet_1 ⟨Nat.le_refl _, Nat.le_refl _⟩) hS (fun r_1 S_2 H locs hp hR hS => ?_)
  have hw := hp.2
  rw [hp.1] at hR
  refine lv_if_ne (tgt := 10) hx hb dX0_fleet_4 (by decide) (fun c_3 => ?_) (fun c_3 => ?_)
  · have hw := x_f hw c_3
    refine lv_iconst (v := 0) hx hb dX0_fleet_10 (by decide) ?_
    refine lv_istore_n (lv' := [(2, .int 0), (0, .ref o), (1, .int x1)]) hx hb dX0_fleet_11 rfl hl (by decide) rfl (fun ls hl => ?_)
    refine lv_iconst (v := 0) hx hb dX0_fleet_12 (by decide) ?_
    refine lv_istore_n (lv' := [(3, .int 0), (2, .int 0), (0, .ref o), (1, .int x1)]) hx hb dX0_fleet_13 rfl hl (by decide) rfl (fun ls hl => ?_)
    refine lv_iconst (v := 1) hx hb dX0_fleet_14 (by decide) ?_
    refine lv_istore (lv' := [(4, .int 1), (3, .int 0), (2, .int 0), (0, .ref o), (1, .int x1)]) hx hb dX0_fleet_15 hl (by decide) rfl (fun ls hl => ?_)
    refine x_lf3 (G := fun (x2_4 : Int32) (x3_5 : Int32) (x4_6 : Int32) => ∀ (ls : Array Slot) (H : Heap) (locs : List Loc), x_Rp D d (x_A base) mc S H → va_S (x_A base) s.heap H locs → lv_has ls 7 [(0, .ref o), (1, .int x1), (2, .int x2_4), (3, .int x3_5), (4, .int x4_6)] → W p l e (x_rm 5 0 0 117) s m ([.ref o, .int x1] : List Value).toArray below meth c H locs 0 0 (MQ below (x_Qi D d base mc (fun r S' => S' = S ∧ Q r)) ([.ref o, .int x1] : List Value).toArray s 0 0 (x_A base)) (F0 m 17 ls [])) hw (fun x2_4 x3_5 x4_6 hw => ?_) ls _ _ hR hS (lv_sub hl [3, 4, 2, 1, 0] rfl)
    intro ls H locs hR hS hl
    refine lv_iload hx hb dX0_fleet_17 (lv_at hl 4 rfl) ?_
    refine lv_iconst (v := 1) hx hb dX0_fleet_19 (by decide) ?_
    refine lv_aload_n hx hb dX0_fleet_20 rfl (lv_at hl 0 rfl) ?_
    refine x_getI (ci := 0) (C := RX0) (T := TX0) (N := 19) (f := 65) hx hb hts in_X0 hown hK hR rfl 15 (by decide) (hts _ q128) (fun _ h => h) rfl (by decide) dX0_fleet_21 hw.1 ?_
    have hw := hw.2
    refine lv_ishl hx hb dX0_fleet_24 ?_
    refine lv_icmp_ge (tgt := 98) hx hb dX0_fleet_25 (by decide) (fun c_8 => ?_) (fun c_8 => ?_)
    · have hw := x_t hw c_8
      refine lv_iload_n hx hb dX0_fleet_98 rfl (lv_at hl 2 rfl) ?_
      exact x_ri hx hb hr hlocks hR hS dX0_fleet_99 ⟨rfl, hw⟩
    · have hw := x_f hw c_8
      refine lv_iload hx hb dX0_fleet_28 (lv_at hl 4 rfl) ?_
      refine x_ci (va_runS (As := [.int x4_6]) (rest := []) ⟨hx, hb, hml, hown, hts⟩ (mt_J1_bitCount l hw) (va_cwS 1 hts (lw_S q878 q879 q85 q880) rfl rfl rfl hd_J1_bitCount.2 ⟨Nat.le_of_ble_eq_true rfl, Nat.le_of_ble_eq_true rfl⟩) ⟨x_Pc_blind, x_Pc_pre hR hz hS hK⟩ rfl rfl hl.1 rfl (lv_room (Nat.le_of_ble_eq_true rfl)) dX0_fleet_30 ⟨Nat.le_refl _, Nat.le_refl _⟩) hS (fun r_9 S_10 H locs hp hR hS => ?_)
      have hw := hp.2
      rw [hp.1] at hR
      refine lv_iload_n hx hb dX0_fleet_33 rfl (lv_at hl 2 rfl) ?_
      refine x_ci (va_runS (As := [.int x2_4]) (rest := [.int r_9]) ⟨hx, hb, hml, hown, hts⟩ (mt_J1_bitCount l hw) (va_cwS 1 hts (lw_S q878 q879 q85 q880) rfl rfl rfl hd_J1_bitCount.2 ⟨Nat.le_of_ble_eq_true rfl, Nat.le_of_ble_eq_true rfl⟩) ⟨x_Pc_blind, x_Pc_pre hR hz hS hK⟩ rfl rfl hl.1 rfl (lv_room (Nat.le_of_ble_eq_true rfl)) dX0_fleet_34 ⟨Nat.le_refl _, Nat.le_refl _⟩) hS (fun r_11 S_12 H locs hp hR hS => ?_)
      have hw := hp.2
      rw [hp.1] at hR
      refine lv_isub hx hb dX0_fleet_37 ?_
      refine lv_topi (fun x5_13 ex5_13 => ?_)
      have hw := hw x5_13 ex5_13
      refine lv_istore (lv' := [(5, .int x5_13), (0, .ref o), (1, .int x1), (2, .int x2_4), (3, .int x3_5), (4, .int x4_6)]) hx hb dX0_fleet_38 hl (by decide) rfl (fun ls hl => ?_)
      refine lv_iload hx hb dX0_fleet_40 (lv_at hl 0 rfl) ?_
      refine x_jn (G := fun (v0_14 : Int32) => ∀ (ls : Array Slot) (H : Heap) (locs : List Loc), x_Rp D d (x_A base) mc S H → va_S (x_A base) s.heap H locs → lv_has ls 7 [(0, .ref o), (1, .int x1), (2, .int x2_4), (3, .int x3_5), (4, .int x4_6), (5, .int x5_13)] → W p l e (x_rm 5 0 0 117) s m ([.ref o, .int x1] : List Value).toArray below meth c H locs 0 0 (MQ below (x_Qi D d base mc (fun r S' => S' = S ∧ Q r)) ([.ref o, .int x1] : List Value).toArray s 0 0 (x_A base)) (F0 m 66 ls [.int v0_14])) hw (fun v0_14 hw => ?_) (fun hJ_15 hw => ?_)
      · intro ls H locs hR hS hl
        refine lv_istore (lv' := [(6, .int v0_14), (0, .ref o), (1, .int x1), (2, .int x2_4), (3, .int x3_5), (4, .int x4_6), (5, .int x5_13)]) hx hb dX0_fleet_66 hl (by decide) rfl (fun ls hl => ?_)
        refine lv_iload hx hb dX0_fleet_68 (lv_at hl 0 rfl) ?_
        refine lv_bipush (v := (-9)) hx hb dX0_fleet_70 (by decide) ?_
        refine x_jn2 (G := fun (x2_16 : Int32) (x3_17 : Int32) => ∀ (ls : Array Slot) (H : Heap) (locs : List Loc), x_Rp D d (x_A base) mc S H → va_S (x_A base) s.heap H locs → lv_has ls 7 [(0, .ref o), (1, .int x1), (2, .int x2_16), (3, .int x3_17), (4, .int x4_6)] → W p l e (x_rm 5 0 0 117) s m ([.ref o, .int x1] : List Value).toArray below meth c H locs 0 0 (MQ below (x_Qi D d base mc (fun r S' => S' = S ∧ Q r)) ([.ref o, .int x1] : List Value).toArray s 0 0 (x_A base)) (F0 m 92 ls [])) hw (fun x2_16 x3_17 hw => ?_) (fun hJ_18 hw => ?_)
        · intro ls H locs hR hS hl
          refine lv_iinc (v := (x4_6 + 1)) (lv' := [(4, .int (x4_6 + 1)), (0, .ref o), (1, .int x1), (2, .int x2_16), (3, .int x3_17)]) hx hb dX0_fleet_92 hl (k := 4) rfl rfl (by decide) rfl (fun ls hl => ?_)
          refine lv_goto (tgt := 17) hx hb dX0_fleet_95 (by decide) ?_
          exact hw ls _ _ hR hS (lv_sub hl [1, 2, 3, 4, 0] rfl)
        · refine lv_icmp_eq (tgt := 92) hx hb dX0_fleet_72 (by decide) (fun c_19 => ?_) (fun c_19 => ?_)
          · have hw := x_t hw c_19
            exact hJ_18 x2_4 x3_5 hw ls _ _ hR hS (lv_sub hl [1, 2, 3, 4, 5] rfl)
          · have hw := x_f hw c_19
            refine lv_iload hx hb dX0_fleet_75 (lv_at hl 6 rfl) ?_
            refine x_jn0 (G := ∀ (ls : Array Slot) (H : Heap) (locs : List Loc), x_Rp D d (x_A base) mc S H → va_S (x_A base) s.heap H locs → lv_has ls 7 [(0, .ref o), (1, .int x1), (4, .int x4_6), (6, .int v0_14)] → W p l e (x_rm 5 0 0 117) s m ([.ref o, .int x1] : List Value).toArray below meth c H locs 0 0 (MQ below (x_Qi D d base mc (fun r S' => S' = S ∧ Q r)) ([.ref o, .int x1] : List Value).toArray s 0 0 (x_A base)) (F0 m 86 ls [])) hw (fun hw => ?_) (fun hJ_20 hw => ?_)
            · intro ls H locs hR hS hl
              refine lv_iload hx hb dX0_fleet_86 (lv_at hl 2 rfl) ?_
              refine lv_istore_n (lv' := [(2, .int x4_6), (0, .ref o), (1, .int x1), (4, .int x4_6), (6, .int v0_14)]) hx hb dX0_fleet_88 rfl hl (by decide) rfl (fun ls hl => ?_)
              refine lv_iload hx hb dX0_fleet_89 (lv_at hl 4 rfl) ?_
              refine lv_istore_n (lv' := [(3, .int v0_14), (2, .int x4_6), (0, .ref o), (1, .int x1), (4, .int x4_6), (6, .int v0_14)]) hx hb dX0_fleet_91 rfl hl (by decide) rfl (fun ls hl => ?_)
              exact hJ_18 x4_6 v0_14 hw ls _ _ hR hS (lv_sub hl [2, 3, 1, 0, 4] rfl)
            · refine lv_if_gt (tgt := 86) hx hb dX0_fleet_77 (by decide) (fun c_21 => ?_) (fun c_21 => ?_)
              · have hw := x_t hw c_21
                exact hJ_20  hw ls _ _ hR hS (lv_sub hl [1, 2, 5, 0] rfl)
              · have hw := x_f hw c_21
                refine lv_iload hx hb dX0_fleet_80 (lv_at hl 0 rfl) ?_
                refine lv_iload_n hx hb dX0_fleet_82 rfl (lv_at hl 4 rfl) ?_
                refine lv_icmp_ge (tgt := 92) hx hb dX0_fleet_83 (by decide) (fun c_22 => ?_) (fun c_22 => ?_)
                · have hw := x_t hw c_22
                  exact hJ_18 x2_4 x3_5 hw ls _ _ hR hS (lv_sub hl [1, 2, 3, 4, 5] rfl)
                · have hw := x_f hw c_22
                  exact hJ_20  hw ls _ _ hR hS (lv_sub hl [1, 2, 5, 0] rfl)
      · refine x_jn0 (G := ∀ (ls : Array Slot) (H : Heap) (locs : List Loc), x_Rp D d (x_A base) mc S H → va_S (x_A base) s.heap H locs → lv_has ls 7 [(0, .ref o), (1, .int x1), (2, .int x2_4), (3, .int x3_5), (4, .int x4_6), (5, .int x5_13)] → W p l e (x_rm 5 0 0 117) s m ([.ref o, .int x1] : List Value).toArray below meth c H locs 0 0 (MQ below (x_Qi D d base mc (fun r S' => S' = S ∧ Q r)) ([.ref o, .int x1] : List Value).toArray s 0 0 (x_A base)) (F0 m 54 ls [])) hw (fun hw => ?_) (fun hJ_23 hw => ?_)
        · intro ls H locs hR hS hl
          refine lv_bipush (v := (-9)) hx hb dX0_fleet_54 (by decide) ?_
          refine lv_goto (tgt := 66) hx hb dX0_fleet_56 (by decide) ?_
          exact hJ_15 (-9) hw ls _ _ hR hS (lv_sub hl [0, 1, 2, 3, 4, 5] rfl)
        · refine lv_if_lt (tgt := 54) hx hb dX0_fleet_42 (by decide) (fun c_24 => ?_) (fun c_24 => ?_)
          · have hw := x_t hw c_24
            exact hJ_23  hw ls _ _ hR hS (lv_sub hl [1, 2, 3, 4, 5, 0] rfl)
          · have hw := x_f hw c_24
            refine lv_aload_n hx hb dX0_fleet_45 rfl (lv_at hl 1 rfl) ?_
            refine lv_iload hx hb dX0_fleet_46 (lv_at hl 5 rfl) ?_
            obtain ⟨ha, hw⟩ := hw
            refine x_ci (va_runV (As := [.int x4_6]) (rest := []) ⟨hx, hb, hml, hown, hts⟩ (mt_X0_isFleet l hw) (cwV 1 hts (lw_V q862 q864 qs32 q64 q865) rfl rfl rfl hd_X0_isFleet ⟨Nat.le_of_ble_eq_true rfl, Nat.le_of_ble_eq_true rfl⟩) ⟨x_Pc_blind, hR.recv hK (ci := 0) rfl (by decide) ha, x_Pc_pre hR hz hS hK⟩ rfl rfl hl.1 rfl (lv_room (Nat.le_of_ble_eq_true rfl)) dX0_fleet_48 ⟨Nat.le_refl _, Nat.le_refl _⟩) hS (fun r_25 S_26 H locs hp hR hS => ?_)
            have hw := hp.2
            rw [hp.1] at hR
            refine lv_if_ne (tgt := 59) hx hb dX0_fleet_51 (by decide) (fun c_27 => ?_) (fun c_27 => ?_)
            · have hw := x_f hw c_27
              refine lv_aload_n hx hb dX0_fleet_59 rfl (lv_at hl 1 rfl) ?_
              refine lv_iload hx hb dX0_fleet_60 (lv_at hl 5 rfl) ?_
              refine lv_iload_n hx hb dX0_fleet_62 rfl (lv_at hl 2 rfl) ?_
              obtain ⟨ha, hw⟩ := hw
              refine x_ci (va_runV (As := [.int x4_6, .int x1]) (rest := []) ⟨hx, hb, hml, hown, hts⟩ (mt_X0_takenFor l hw) (cwV 2 hts (lw_V q866 q868 qs33 q64 q869) rfl rfl rfl hd_X0_takenFor ⟨Nat.le_of_ble_eq_true rfl, Nat.le_of_ble_eq_true rfl⟩) ⟨x_Pc_blind, hR.recv hK (ci := 0) rfl (by decide) ha, x_Pc_pre hR hz hS hK⟩ rfl rfl hl.1 rfl (lv_room (Nat.le_of_ble_eq_true rfl)) dX0_fleet_63 ⟨Nat.le_refl _, Nat.le_refl _⟩) hS (fun r_28 S_29 H locs hp hR hS => ?_)
              have hw := hp.2
              rw [hp.1] at hR
              exact hJ_15 r_28 hw ls _ _ hR hS (lv_sub hl [1, 2, 3, 4, 5, 0] rfl)
            · have hw := x_t hw c_27
              exact hJ_23  hw ls _ _ hR hS (lv_sub hl [1, 2, 3, 4, 5, 0] rfl)
  · have hw := x_t hw c_3
    refine lv_bipush (v := (-2)) hx hb dX0_fleet_7 (by decide) ?_
    exact x_ri hx hb hr hlocks hR hS dX0_fleet_9 ⟨rfl, hw⟩
def w_X0_sail (S : xH) (o : Nat) (x1 : Int32) (Q : Int32 → xH → Prop) : Prop := xT S o = 1 ∧ w_X0_isShip S o x1 (fun (r_1 : Int32) => wif (r_1 = 0) (Q (-1) S) (xT S o = 1 ∧ ∃ b_4, (xR S 64 o) = some b_4 ∧ xT S b_4 = 107 ∧ vp_in x1 (xL S b_4) ∧ ∃ b_6, (xQ S b_4 (Int32.toNatClampNeg x1)) = some b_6 ∧ xT S b_6 = 19 ∧ wif ((xI S 954 b_6) = 0) (Q (-3) S) (xT S o = 1 ∧ w_X0_crew S o x1 0 (fun (r_9 : Int32) => xT S b_6 = 19 ∧ wif (r_9 < (xI S 951 b_6)) (Q (-3) S) (xT S o = 1 ∧ w_X0_crew S o x1 1 (fun (r_12 : Int32) => xT S b_6 = 19 ∧ wif ((xI S 952 b_6) ≤ r_12) (xT S b_6 = 19 ∧ nm (sI S 954 b_6 0) (fun S_15 : xH => xT S_15 o = 1 ∧ w_X0_crew S_15 o x1 0 (fun (r_16 : Int32) => Q r_16 S_15))) (Q (-3) S)))))))
theorem hd_X0_sail : yX0_sail.cls = "PressedMen" ∧ yX0_sail.cls ≠ "java/lang/invoke/MethodHandle" ∧ yX0_sail.cls ≠ "java/lang/invoke/VarHandle" ∧ (parseMethodDescriptor yX0_sail.desc).map (fun d => d.parameters.length) = some 1 := by decide +kernel
set_option maxHeartbeats 4000000 in
theorem mt_X0_sail (l : Launch) {D : va_G} {d : Nat → ClassId} {base : Nat} {mc : va_W} {S : xH} {o : Nat} {x1 : Int32} {Q : Int32 → xH → Prop} (hw : w_X0_sail S o x1 Q) : Met l yX0_sail (ws_ yX0_sail cX0_sail 3 (some FieldType.int)) (x_rm 3 0 0 66) (x_Pc D d base mc S [.ref o, .int x1]) (x_Qi D d base mc (fun r S' => Q r S')) 0 0 (x_A base) := by
  refine x_met (by decide) (Nat.le_of_ble_eq_true rfl) ?_
  intro p e s m below meth c hx hb hml hr hlocks hown hts hz hR hK hin ls hl
  have hown : s.vm.findClass "PressedMen" = some m.cls := hown
  have hl : lv_has ls 3 [(0, .ref o), (1, .int x1)] := hl
  have hS : va_S (x_A base) s.heap s.heap [] := va_S.rf
  unfold w_X0_sail at hw
  refine lv_aload_n hx hb dX0_sail_0 rfl (lv_at hl 0 rfl) ?_
  refine lv_iload_n hx hb dX0_sail_1 rfl (lv_at hl 1 rfl) ?_
  obtain ⟨ha, hw⟩ := hw
  refine x_ci (va_runV (As := [.int x1]) (rest := []) ⟨hx, hb, hml, hown, hts⟩ (mt_X0_isShip l hw) (cwV 1 hts (lw_V q823 q825 qs28 q64 q826) rfl rfl rfl hd_X0_isShip ⟨Nat.le_of_ble_eq_true rfl, Nat.le_of_ble_eq_true rfl⟩) ⟨x_Pc_blind, hR.recv hK (ci := 0) rfl (by decide) ha, x_Pc_pre hR hz hS hK⟩ rfl rfl hl.1 rfl (lv_room (Nat.le_of_ble_eq_true rfl)) dX0_sail_2 ⟨Nat.le_refl _, Nat.le_refl _⟩) hS (fun r_1 S_2 H locs hp hR hS => ?_)
  have hw := hp.2
  rw [hp.1] at hR
  refine lv_if_ne (tgt := 10) hx hb dX0_sail_5 (by decide) (fun c_3 => ?_) (fun c_3 => ?_)
  · have hw := x_f hw c_3
    refine lv_aload_n hx hb dX0_sail_10 rfl (lv_at hl 0 rfl) ?_
    refine x_getR (ci := 0) (C := RX0) (T := TX0) (N := 19) (f := 64) hx hb hts in_X0 hown hK hR rfl 14 (by decide) (hts _ q127) (fun _ h => h) rfl (by decide) dX0_sail_11 hw.1 ?_
    have hw := hw.2
    refine lv_iload_n hx hb dX0_sail_14 rfl (lv_at hl 1 rfl) ?_
    obtain ⟨b_4, e_5, hw⟩ := hw
    refine x_dr1 e_5 ?_
    refine x_aald (t := 107) hx hb hK hR (by decide) rfl rfl dX0_sail_15 hw.1 hw.2.1 ?_
    have hw := hw.2.2
    obtain ⟨b_6, e_7, hw⟩ := hw
    refine x_dr0 e_7 ?_
    refine lv_astore_n (lv' := [(2, .ref b_6), (0, .ref o), (1, .int x1)]) hx hb dX0_sail_16 rfl hl (by decide) rfl (fun ls hl => ?_)
    refine lv_aload_n hx hb dX0_sail_17 rfl (lv_at hl 0 rfl) ?_
    refine x_getNI (ci := 18) (C := RX18) (T := TX18) (N := 5) (f := 954) hx hb hts in_X18 hown hK hR rfl 4 (by decide) (hK.2 _ q807 rfl) (fun _ h => h) rfl (by decide) dX0_sail_18 hw.1 ?_
    have hw := hw.2
    refine lv_if_eq (tgt := 50) hx hb dX0_sail_21 (by decide) (fun c_8 => ?_) (fun c_8 => ?_)
    · have hw := x_t hw c_8
      refine lv_bipush (v := (-3)) hx hb dX0_sail_50 (by decide) ?_
      exact x_ri hx hb hr hlocks hR hS dX0_sail_52 hw
    · have hw := x_f hw c_8
      refine lv_aload_n hx hb dX0_sail_24 rfl (lv_at hl 1 rfl) ?_
      refine lv_iload_n hx hb dX0_sail_25 rfl (lv_at hl 2 rfl) ?_
      refine lv_iconst (v := 0) hx hb dX0_sail_26 (by decide) ?_
      obtain ⟨ha, hw⟩ := hw
      refine x_ci (va_runV (As := [.int x1, .int 0]) (rest := []) ⟨hx, hb, hml, hown, hts⟩ (mt_X0_crew l hw) (cwV 2 hts (lw_V q827 q829 qs29 q64 q830) rfl rfl rfl hd_X0_crew ⟨Nat.le_of_ble_eq_true rfl, Nat.le_of_ble_eq_true rfl⟩) ⟨x_Pc_blind, hR.recv hK (ci := 0) rfl (by decide) ha, x_Pc_pre hR hz hS hK⟩ rfl rfl hl.1 rfl (lv_room (Nat.le_of_ble_eq_true rfl)) dX0_sail_27 ⟨Nat.le_refl _, Nat.le_refl _⟩) hS (fun r_9 S_10 H locs hp hR hS => ?_)
      have hw := hp.2
      rw [hp.1] at hR
      refine lv_aload_n hx hb dX0_sail_30 rfl (lv_at hl 0 rfl) ?_
      refine x_getNI (ci := 18) (C := RX18) (T := TX18) (N := 5) (f := 951) hx hb hts in_X18 hown hK hR rfl 1 (by decide) (hK.2 _ q801 rfl) (fun _ h => h) rfl (by decide) dX0_sail_31 hw.1 ?_
      have hw := hw.2
      refine lv_icmp_lt (tgt := 50) hx hb dX0_sail_34 (by decide) (fun c_11 => ?_) (fun c_11 => ?_)
      · have hw := x_t hw c_11
        refine lv_bipush (v := (-3)) hx hb dX0_sail_50 (by decide) ?_
        exact x_ri hx hb hr hlocks hR hS dX0_sail_52 hw
      · have hw := x_f hw c_11
        refine lv_aload_n hx hb dX0_sail_37 rfl (lv_at hl 1 rfl) ?_
        refine lv_iload_n hx hb dX0_sail_38 rfl (lv_at hl 2 rfl) ?_
        refine lv_iconst (v := 1) hx hb dX0_sail_39 (by decide) ?_
        obtain ⟨ha, hw⟩ := hw
        refine x_ci (va_runV (As := [.int x1, .int 1]) (rest := []) ⟨hx, hb, hml, hown, hts⟩ (mt_X0_crew l hw) (cwV 2 hts (lw_V q827 q829 qs29 q64 q830) rfl rfl rfl hd_X0_crew ⟨Nat.le_of_ble_eq_true rfl, Nat.le_of_ble_eq_true rfl⟩) ⟨x_Pc_blind, hR.recv hK (ci := 0) rfl (by decide) ha, x_Pc_pre hR hz hS hK⟩ rfl rfl hl.1 rfl (lv_room (Nat.le_of_ble_eq_true rfl)) dX0_sail_40 ⟨Nat.le_refl _, Nat.le_refl _⟩) hS (fun r_12 S_13 H locs hp hR hS => ?_)
        have hw := hp.2
        rw [hp.1] at hR
        refine lv_aload_n hx hb dX0_sail_43 rfl (lv_at hl 0 rfl) ?_
        refine x_getNI (ci := 18) (C := RX18) (T := TX18) (N := 5) (f := 952) hx hb hts in_X18 hown hK hR rfl 2 (by decide) (hK.2 _ q803 rfl) (fun _ h => h) rfl (by decide) dX0_sail_44 hw.1 ?_
        have hw := hw.2
        refine lv_icmp_ge (tgt := 53) hx hb dX0_sail_47 (by decide) (fun c_14 => ?_) (fun c_14 => ?_)
        · have hw := x_t hw c_14
          refine lv_aload_n hx hb dX0_sail_53 rfl (lv_at hl 0 rfl) ?_
          refine lv_iconst (v := 0) hx hb dX0_sail_54 (by decide) ?_
          refine x_putNI (ci := 18) (C := RX18) (T := TX18) (N := 5) (f := 954) hx hb hts in_X18 tyX18 tyX18_ok nmX18 hown hK hR hS rfl 4 (by decide) (hK.2 _ q807 rfl) (fun _ h => h) rfl rfl (by decide) (x_B.n (Or.inl rfl)) (x_B.f (Or.inl rfl)) dX0_sail_55 hw.1 (fun H locs hR hS => ?_)
          have hw := hw.2
          obtain ⟨S_15, eS_15⟩ : ∃ z, z = (sI S 954 b_6 0) := ⟨_, rfl⟩
          rw [← eS_15] at hR
          have hw := hw S_15 eS_15
          refine lv_aload_n hx hb dX0_sail_58 rfl (lv_at hl 1 rfl) ?_
          refine lv_iload_n hx hb dX0_sail_59 rfl (lv_at hl 2 rfl) ?_
          refine lv_iconst (v := 0) hx hb dX0_sail_60 (by decide) ?_
          obtain ⟨ha, hw⟩ := hw
          refine x_ci (va_runV (As := [.int x1, .int 0]) (rest := []) ⟨hx, hb, hml, hown, hts⟩ (mt_X0_crew l hw) (cwV 2 hts (lw_V q827 q829 qs29 q64 q830) rfl rfl rfl hd_X0_crew ⟨Nat.le_of_ble_eq_true rfl, Nat.le_of_ble_eq_true rfl⟩) ⟨x_Pc_blind, hR.recv hK (ci := 0) rfl (by decide) ha, x_Pc_pre hR hz hS hK⟩ rfl rfl hl.1 rfl (lv_room (Nat.le_of_ble_eq_true rfl)) dX0_sail_61 ⟨Nat.le_refl _, Nat.le_refl _⟩) hS (fun r_16 S_17 H locs hp hR hS => ?_)
          have hw := hp.2
          rw [hp.1] at hR
          exact x_ri hx hb hr hlocks hR hS dX0_sail_64 hw
        · have hw := x_f hw c_14
          refine lv_bipush (v := (-3)) hx hb dX0_sail_50 (by decide) ?_
          exact x_ri hx hb hr hlocks hR hS dX0_sail_52 hw
  · have hw := x_t hw c_3
    refine lv_iconst (v := (-1)) hx hb dX0_sail_8 (by decide) ?_
    exact x_ri hx hb hr hlocks hR hS dX0_sail_9 hw
def w_X0_comeHome (S : xH) (o : Nat) (x1 : Int32) (Q : Int32 → xH → Prop) : Prop := xT S o = 1 ∧ w_X0_isShip S o x1 (fun (r_1 : Int32) => wif (r_1 = 0) (Q (-1) S) (xT S o = 1 ∧ ∃ b_4, (xR S 64 o) = some b_4 ∧ xT S b_4 = 107 ∧ vp_in x1 (xL S b_4) ∧ ∃ b_6, (xQ S b_4 (Int32.toNatClampNeg x1)) = some b_6 ∧ xT S b_6 = 19 ∧ wif ((xI S 954 b_6) = 0) (xT S o = 1 ∧ ∃ b_9, (xR S 64 o) = some b_9 ∧ xT S b_9 = 107 ∧ vp_in x1 (xL S b_9) ∧ ∃ b_11, (xQ S b_9 (Int32.toNatClampNeg x1)) = some b_11 ∧ xT S b_11 = 19 ∧ nm (sI S 954 b_11 1) (fun S_13 : xH => xT S_13 o = 1 ∧ w_X0_crew S_13 o x1 0 (fun (r_14 : Int32) => Q r_14 S_13))) (Q (-3) S)))
theorem hd_X0_comeHome : yX0_comeHome.cls = "PressedMen" ∧ yX0_comeHome.cls ≠ "java/lang/invoke/MethodHandle" ∧ yX0_comeHome.cls ≠ "java/lang/invoke/VarHandle" ∧ (parseMethodDescriptor yX0_comeHome.desc).map (fun d => d.parameters.length) = some 1 := by decide +kernel
set_option maxHeartbeats 4000000 in
theorem mt_X0_comeHome (l : Launch) {D : va_G} {d : Nat → ClassId} {base : Nat} {mc : va_W} {S : xH} {o : Nat} {x1 : Int32} {Q : Int32 → xH → Prop} (hw : w_X0_comeHome S o x1 Q) : Met l yX0_comeHome (ws_ yX0_comeHome cX0_comeHome 2 (some FieldType.int)) (x_rm 3 0 0 66) (x_Pc D d base mc S [.ref o, .int x1]) (x_Qi D d base mc (fun r S' => Q r S')) 0 0 (x_A base) := by
  refine x_met (by decide) (Nat.le_of_ble_eq_true rfl) ?_
  intro p e s m below meth c hx hb hml hr hlocks hown hts hz hR hK hin ls hl
  have hown : s.vm.findClass "PressedMen" = some m.cls := hown
  have hl : lv_has ls 2 [(0, .ref o), (1, .int x1)] := hl
  have hS : va_S (x_A base) s.heap s.heap [] := va_S.rf
  unfold w_X0_comeHome at hw
  refine lv_aload_n hx hb dX0_comeHome_0 rfl (lv_at hl 0 rfl) ?_
  refine lv_iload_n hx hb dX0_comeHome_1 rfl (lv_at hl 1 rfl) ?_
  obtain ⟨ha, hw⟩ := hw
  refine x_ci (va_runV (As := [.int x1]) (rest := []) ⟨hx, hb, hml, hown, hts⟩ (mt_X0_isShip l hw) (cwV 1 hts (lw_V q823 q825 qs28 q64 q826) rfl rfl rfl hd_X0_isShip ⟨Nat.le_of_ble_eq_true rfl, Nat.le_of_ble_eq_true rfl⟩) ⟨x_Pc_blind, hR.recv hK (ci := 0) rfl (by decide) ha, x_Pc_pre hR hz hS hK⟩ rfl rfl hl.1 rfl (lv_room (Nat.le_of_ble_eq_true rfl)) dX0_comeHome_2 ⟨Nat.le_refl _, Nat.le_refl _⟩) hS (fun r_1 S_2 H locs hp hR hS => ?_)
  have hw := hp.2
  rw [hp.1] at hR
  refine lv_if_ne (tgt := 10) hx hb dX0_comeHome_5 (by decide) (fun c_3 => ?_) (fun c_3 => ?_)
  · have hw := x_f hw c_3
    refine lv_aload_n hx hb dX0_comeHome_10 rfl (lv_at hl 0 rfl) ?_
    refine x_getR (ci := 0) (C := RX0) (T := TX0) (N := 19) (f := 64) hx hb hts in_X0 hown hK hR rfl 14 (by decide) (hts _ q127) (fun _ h => h) rfl (by decide) dX0_comeHome_11 hw.1 ?_
    have hw := hw.2
    refine lv_iload_n hx hb dX0_comeHome_14 rfl (lv_at hl 1 rfl) ?_
    obtain ⟨b_4, e_5, hw⟩ := hw
    refine x_dr1 e_5 ?_
    refine x_aald (t := 107) hx hb hK hR (by decide) rfl rfl dX0_comeHome_15 hw.1 hw.2.1 ?_
    have hw := hw.2.2
    obtain ⟨b_6, e_7, hw⟩ := hw
    refine x_dr0 e_7 ?_
    refine x_getNI (ci := 18) (C := RX18) (T := TX18) (N := 5) (f := 954) hx hb hts in_X18 hown hK hR rfl 4 (by decide) (hK.2 _ q807 rfl) (fun _ h => h) rfl (by decide) dX0_comeHome_16 hw.1 ?_
    have hw := hw.2
    refine lv_if_eq (tgt := 25) hx hb dX0_comeHome_19 (by decide) (fun c_8 => ?_) (fun c_8 => ?_)
    · have hw := x_t hw c_8
      refine lv_aload_n hx hb dX0_comeHome_25 rfl (lv_at hl 0 rfl) ?_
      refine x_getR (ci := 0) (C := RX0) (T := TX0) (N := 19) (f := 64) hx hb hts in_X0 hown hK hR rfl 14 (by decide) (hts _ q127) (fun _ h => h) rfl (by decide) dX0_comeHome_26 hw.1 ?_
      have hw := hw.2
      refine lv_iload_n hx hb dX0_comeHome_29 rfl (lv_at hl 1 rfl) ?_
      obtain ⟨b_9, e_10, hw⟩ := hw
      refine x_dr1 e_10 ?_
      refine x_aald (t := 107) hx hb hK hR (by decide) rfl rfl dX0_comeHome_30 hw.1 hw.2.1 ?_
      have hw := hw.2.2
      refine lv_iconst (v := 1) hx hb dX0_comeHome_31 (by decide) ?_
      obtain ⟨b_11, e_12, hw⟩ := hw
      refine x_dr1 e_12 ?_
      refine x_putNI (ci := 18) (C := RX18) (T := TX18) (N := 5) (f := 954) hx hb hts in_X18 tyX18 tyX18_ok nmX18 hown hK hR hS rfl 4 (by decide) (hK.2 _ q807 rfl) (fun _ h => h) rfl rfl (by decide) (x_B.n (Or.inr rfl)) (x_B.f (Or.inr rfl)) dX0_comeHome_32 hw.1 (fun H locs hR hS => ?_)
      have hw := hw.2
      obtain ⟨S_13, eS_13⟩ : ∃ z, z = (sI S 954 b_11 1) := ⟨_, rfl⟩
      rw [← eS_13] at hR
      have hw := hw S_13 eS_13
      refine lv_aload_n hx hb dX0_comeHome_35 rfl (lv_at hl 0 rfl) ?_
      refine lv_iload_n hx hb dX0_comeHome_36 rfl (lv_at hl 1 rfl) ?_
      refine lv_iconst (v := 0) hx hb dX0_comeHome_37 (by decide) ?_
      obtain ⟨ha, hw⟩ := hw
      refine x_ci (va_runV (As := [.int x1, .int 0]) (rest := []) ⟨hx, hb, hml, hown, hts⟩ (mt_X0_crew l hw) (cwV 2 hts (lw_V q827 q829 qs29 q64 q830) rfl rfl rfl hd_X0_crew ⟨Nat.le_of_ble_eq_true rfl, Nat.le_of_ble_eq_true rfl⟩) ⟨x_Pc_blind, hR.recv hK (ci := 0) rfl (by decide) ha, x_Pc_pre hR hz hS hK⟩ rfl rfl hl.1 rfl (lv_room (Nat.le_of_ble_eq_true rfl)) dX0_comeHome_38 ⟨Nat.le_refl _, Nat.le_refl _⟩) hS (fun r_14 S_15 H locs hp hR hS => ?_)
      have hw := hp.2
      rw [hp.1] at hR
      exact x_ri hx hb hr hlocks hR hS dX0_comeHome_41 hw
    · have hw := x_f hw c_8
      refine lv_bipush (v := (-3)) hx hb dX0_comeHome_22 (by decide) ?_
      exact x_ri hx hb hr hlocks hR hS dX0_comeHome_24 hw
  · have hw := x_t hw c_3
    refine lv_iconst (v := (-1)) hx hb dX0_comeHome_8 (by decide) ?_
    exact x_ri hx hb hr hlocks hR hS dX0_comeHome_9 hw
def w_X19_init (S : xH) (o : Nat) (x1 : Nat) (x2 : Nat) (x3 : Int32) (Q : xH → Prop) : Prop := xT S o = 20 ∧ nm (sR S 1005 o (some x1)) (fun S_1 : xH => xT S_1 o = 20 ∧ nm (sI S_1 1002 o (-9)) (fun S_2 : xH => xT S_2 o = 20 ∧ nm (sR S_2 1000 o (some x2)) (fun S_3 : xH => xT S_3 o = 20 ∧ nm (sI S_3 1001 o x3) (fun S_4 : xH => Q S_4))))
theorem hd_X19_init : yX19_init.cls = "PressedMen$Ticket" ∧ yX19_init.cls ≠ "java/lang/invoke/MethodHandle" ∧ yX19_init.cls ≠ "java/lang/invoke/VarHandle" ∧ (parseMethodDescriptor yX19_init.desc).map (fun d => d.parameters.length) = some 3 := by decide +kernel
set_option maxHeartbeats 4000000 in
theorem mt_X19_init (l : Launch) {D : va_G} {d : Nat → ClassId} {base : Nat} {mc : va_W} {S : xH} {o : Nat} {x1 : Nat} {x2 : Nat} {x3 : Int32} {Q : xH → Prop} (hw : w_X19_init S o x1 x2 x3 Q) : Met l yX19_init (ws_ yX19_init cX19_init 4 none) (x_rm 1 0 0 28) (x_Pc D d base mc S [.ref o, .ref x1, .ref x2, .int x3]) (x_Qv D d base mc (fun S' => Q S')) 0 0 (x_A base) := by
  refine x_met (by decide) (Nat.le_of_ble_eq_true rfl) ?_
  intro p e s m below meth c hx hb hml hr hlocks hown hts hz hR hK hin ls hl
  have hown : s.vm.findClass "PressedMen$Ticket" = some m.cls := hown
  have hl : lv_has ls 4 [(0, .ref o), (1, .ref x1), (2, .ref x2), (3, .int x3)] := hl
  have hS : va_S (x_A base) s.heap s.heap [] := va_S.rf
  unfold w_X19_init at hw
  refine lv_aload_n hx hb dX19_init_0 rfl (lv_at hl 0 rfl) ?_
  refine lv_aload_n hx hb dX19_init_1 rfl (lv_at hl 1 rfl) ?_
  refine x_putFR (ci := 19) (C := RX19) (T := TX19) (N := 6) (f := 1005) (r := (some x1)) hx hb hts in_X19 tyX19 tyX19_ok nmX19 hown hK hR hS rfl 5 (by decide) (hts _ q909) (fun _ h => h) rfl hin rfl rfl (by decide) (x_rn _ _) (x_rf _ _) dX19_init_2 hw.1 (fun H locs hR hS => ?_)
  have hw := hw.2
  obtain ⟨S_1, eS_1⟩ : ∃ z, z = (sR S 1005 o (some x1)) := ⟨_, rfl⟩
  rw [← eS_1] at hR
  have hw := hw S_1 eS_1
  refine lv_aload_n hx hb dX19_init_5 rfl (lv_at hl 0 rfl) ?_
  refine W.objInit hx hb hown (hts _ q900) (hts _ q93) (hts _ q94) rfl (by rw [hml]; exact hl.1) rfl dX19_init_6 (Nat.le_of_ble_eq_true rfl) (Nat.le_of_ble_eq_true rfl) ?_
  refine W.eq (g2 := F0 m 9 ls []) rfl ?_
  refine lv_aload_n hx hb dX19_init_9 rfl (lv_at hl 0 rfl) ?_
  refine lv_bipush (v := (-9)) hx hb dX19_init_10 (by decide) ?_
  refine x_putI (ci := 19) (C := RX19) (T := TX19) (N := 6) (f := 1002) hx hb hts in_X19 tyX19 tyX19_ok nmX19 hown hK hR hS rfl 2 (by decide) (hts _ q905) (fun _ h => h) rfl rfl (by decide) rfl rfl dX19_init_12 hw.1 (fun H locs hR hS => ?_)
  have hw := hw.2
  obtain ⟨S_2, eS_2⟩ : ∃ z, z = (sI S_1 1002 o (-9)) := ⟨_, rfl⟩
  rw [← eS_2] at hR
  have hw := hw S_2 eS_2
  refine lv_aload_n hx hb dX19_init_15 rfl (lv_at hl 0 rfl) ?_
  refine lv_aload_n hx hb dX19_init_16 rfl (lv_at hl 2 rfl) ?_
  refine x_putFR (ci := 19) (C := RX19) (T := TX19) (N := 6) (f := 1000) (r := (some x2)) hx hb hts in_X19 tyX19 tyX19_ok nmX19 hown hK hR hS rfl 0 (by decide) (hts _ q901) (fun _ h => h) rfl hin rfl rfl (by decide) (x_rn _ _) (x_rf _ _) dX19_init_17 hw.1 (fun H locs hR hS => ?_)
  have hw := hw.2
  obtain ⟨S_3, eS_3⟩ : ∃ z, z = (sR S_2 1000 o (some x2)) := ⟨_, rfl⟩
  rw [← eS_3] at hR
  have hw := hw S_3 eS_3
  refine lv_aload_n hx hb dX19_init_20 rfl (lv_at hl 0 rfl) ?_
  refine lv_iload_n hx hb dX19_init_21 rfl (lv_at hl 3 rfl) ?_
  refine x_putFI (ci := 19) (C := RX19) (T := TX19) (N := 6) (f := 1001) hx hb hts in_X19 tyX19 tyX19_ok nmX19 hown hK hR hS rfl 1 (by decide) (hts _ q903) (fun _ h => h) rfl hin rfl rfl (by decide) rfl rfl dX19_init_22 hw.1 (fun H locs hR hS => ?_)
  have hw := hw.2
  obtain ⟨S_4, eS_4⟩ : ∃ z, z = (sI S_3 1001 o x3) := ⟨_, rfl⟩
  rw [← eS_4] at hR
  have hw := hw S_4 eS_4
  exact x_rv hx hb hr hlocks hR hS dX19_init_25 hw
