set_option maxRecDepth 100000
def w_X0_init (k n : Nat) (S : xH) (o : Nat) (Q : xH → Prop) : Prop := xT S o = 1 ∧ nm (sI S 50 o 4) (fun S_1 : xH => 9 ≤ k ∧ 72 ≤ n ∧ ∀ (a_2 : Nat) (g_3 : Nat → Nat), xMZ S_1 a_2 g_3 → nm (sMZ S_1 a_2 g_3) (fun S_4 : xH => xT S_4 o = 1 ∧ nm (sR S_4 51 o (some a_2)) (fun S_5 : xH => 1 ≤ (k - 9) ∧ 40 ≤ (n - 72) ∧ ∀ a_6, xT S_5 a_6 = 0 → nm (sV S_5 a_6 103 40) (fun S_7 : xH => xT S_7 o = 1 ∧ nm (sR S_7 52 o (some a_6)) (fun S_8 : xH => xT S_8 o = 1 ∧ nm (sI S_8 55 o 10) (fun S_9 : xH => xT S_9 o = 1 ∧ nm (sI S_9 56 o 50) (fun S_10 : xH => 1 ≤ ((k - 9) - 1) ∧ 60 ≤ ((n - 72) - 40) ∧ ∀ a_11, xT S_10 a_11 = 0 → nm (sV S_10 a_11 104 60) (fun S_12 : xH => xT S_12 o = 1 ∧ nm (sR S_12 57 o (some a_11)) (fun S_13 : xH => 1 ≤ (((k - 9) - 1) - 1) ∧ 8 ≤ (((n - 72) - 40) - 60) ∧ ∀ a_14, xT S_13 a_14 = 0 → nm (sV S_13 a_14 105 8) (fun S_15 : xH => xT S_15 o = 1 ∧ nm (sR S_15 59 o (some a_14)) (fun S_16 : xH => 1 ≤ ((((k - 9) - 1) - 1) - 1) ∧ 60 ≤ ((((n - 72) - 40) - 60) - 8) ∧ ∀ a_17, xT S_16 a_17 = 0 → nm (sV S_16 a_17 106 60) (fun S_18 : xH => xT S_18 o = 1 ∧ nm (sR S_18 61 o (some a_17)) (fun S_19 : xH => 1 ≤ (((((k - 9) - 1) - 1) - 1) - 1) ∧ 10 ≤ (((((n - 72) - 40) - 60) - 8) - 60) ∧ ∀ a_20, xT S_19 a_20 = 0 → nm (sV S_19 a_20 107 10) (fun S_21 : xH => xT S_21 o = 1 ∧ nm (sR S_21 64 o (some a_20)) (fun S_22 : xH => 1 ≤ ((((((k - 9) - 1) - 1) - 1) - 1) - 1) ∧ 40 ≤ ((((((n - 72) - 40) - 60) - 8) - 60) - 10) ∧ ∀ a_23, xT S_22 a_23 = 0 → nm (sV S_22 a_23 108 40) (fun S_24 : xH => xT S_24 o = 1 ∧ nm (sR S_24 66 o (some a_23)) (fun S_25 : xH => 1 ≤ (((((((k - 9) - 1) - 1) - 1) - 1) - 1) - 1) ∧ 10 ≤ (((((((n - 72) - 40) - 60) - 8) - 60) - 10) - 40) ∧ ∀ a_26, xT S_25 a_26 = 0 → nm (sV S_25 a_26 101 10) (fun S_27 : xH => xT S_27 o = 1 ∧ nm (sR S_27 68 o (some a_26)) (fun S_28 : xH => Q S_28)))))))))))))))))))
theorem hd_X0_init : yX0_init.cls = "PressedMen" ∧ yX0_init.cls ≠ "java/lang/invoke/MethodHandle" ∧ yX0_init.cls ≠ "java/lang/invoke/VarHandle" ∧ (parseMethodDescriptor yX0_init.desc).map (fun d => d.parameters.length) = some 0 := by decide +kernel
set_option maxHeartbeats 4000000 in
theorem mt_X0_init (l : Launch) {D : va_G} {d : Nat → ClassId} {base : Nat} {mc : va_W} {S : xH} {k n : Nat} {o : Nat} {Q : xH → Prop} (hw : w_X0_init k n S o Q) : Met l yX0_init (ws_ yX0_init cX0_init 1 none) (x_rm 1 k n 28) (x_Pc D d base mc S [.ref o]) (x_Qv D d base mc (fun S' => Q S')) k n (x_A base) := by
  refine x_met (by decide) (Nat.le_of_ble_eq_true rfl) ?_
  intro p e s m below meth c hx hb hml hr hlocks hown hts hz hR hK hin ls hl
  have hown : s.vm.findClass "PressedMen" = some m.cls := hown
  have hl : lv_has ls 1 [(0, .ref o)] := hl
  have hS : va_S (x_A base) s.heap s.heap [] := va_S.rf
  have hA : ∀ q : Nat, s.heap.size ≤ q → x_A base q := fun q h => Nat.le_trans hz h
  have hc : 0 + k ≤ k := by omega
  have hs : 0 + n ≤ n := by omega
  unfold w_X0_init at hw
  refine lv_aload_n hx hb dX0_init_0 rfl (lv_at hl 0 rfl) ?_
  refine W.objInit hx hb hown (hts _ q92) (hts _ q93) (hts _ q94) rfl (by rw [hml]; exact hl.1) rfl dX0_init_1 (Nat.le_of_ble_eq_true rfl) (Nat.le_of_ble_eq_true rfl) ?_
  refine W.eq (g2 := F0 m 4 ls []) rfl ?_
  refine lv_aload_n hx hb dX0_init_4 rfl (lv_at hl 0 rfl) ?_
  refine lv_iconst (v := 4) hx hb dX0_init_5 (by decide) ?_
  refine x_putI (ci := 0) (C := RX0) (T := TX0) (N := 19) (f := 50) hx hb hts in_X0 tyX0 tyX0_ok nmX0 hown hK hR hS rfl 0 (by decide) (hts _ q110) (fun _ h => h) rfl rfl (by decide) rfl rfl dX0_init_6 hw.1 (fun H locs hR hS => ?_)
  have hw := hw.2
  obtain ⟨S_1, eS_1⟩ : ∃ z, z = (sI S 50 o 4) := ⟨_, rfl⟩
  rw [← eS_1] at hR
  have hw := hw S_1 eS_1
  refine lv_aload_n hx hb dX0_init_9 rfl (lv_at hl 0 rfl) ?_
  refine lv_bipush (v := 8) hx hb dX0_init_10 (by decide) ?_
  refine lv_bipush (v := 8) hx hb dX0_init_12 (by decide) ?_
  obtain ⟨h1, h2, hw⟩ := hw
  refine x_multi hx hb hown (hts _ q95) (hK.2 _ q96 rfl) hK hR hS hA dX0_init_14 (by show _ ≤ k; omega) (by show _ ≤ n; omega) (fun a_2 g_3 H hf hR hS => ?_)
  have hw := hw a_2 g_3 hf
  have hc : (0 + 9) + (k - 9) ≤ k := by omega
  have hs : (0 + 72) + (n - 72) ≤ n := by omega
  obtain ⟨S_4, eS_4⟩ : ∃ z, z = (sMZ S_1 a_2 g_3) := ⟨_, rfl⟩
  rw [← eS_4] at hR
  have hw := hw S_4 eS_4
  refine x_putFR (ci := 0) (C := RX0) (T := TX0) (N := 19) (f := 51) (r := (some a_2)) hx hb hts in_X0 tyX0 tyX0_ok nmX0 hown hK hR hS rfl 1 (by decide) (hts _ q112) (fun _ h => h) rfl hin rfl rfl (by decide) (x_rnA _ _) (x_rfA _ _) dX0_init_18 hw.1 (fun H locs hR hS => ?_)
  have hw := hw.2
  obtain ⟨S_5, eS_5⟩ : ∃ z, z = (sR S_4 51 o (some a_2)) := ⟨_, rfl⟩
  rw [← eS_5] at hR
  have hw := hw S_5 eS_5
  refine lv_aload_n hx hb dX0_init_21 rfl (lv_at hl 0 rfl) ?_
  refine lv_bipush (v := 40) hx hb dX0_init_22 (by decide) ?_
  obtain ⟨h1, h2, hw⟩ := hw
  refine x_newq (t := 103) (N' := 40) hx hb (by decide) rfl hown (hts _ q97) (hK.2 _ q98 rfl) hK hR hS hA dX0_init_24 (by decide) (by decide) (by decide) (by show _ ≤ k; omega) (by show _ ≤ n; omega) (fun a_6 H hf hR hS => ?_)
  have hw := hw a_6 hf
  have hc : ((0 + 9) + 1) + ((k - 9) - 1) ≤ k := by omega
  have hs : ((0 + 72) + 40) + ((n - 72) - 40) ≤ n := by omega
  obtain ⟨S_7, eS_7⟩ : ∃ z, z = (sV S_5 a_6 103 40) := ⟨_, rfl⟩
  rw [← eS_7] at hR
  have hw := hw S_7 eS_7
  refine x_putFR (ci := 0) (C := RX0) (T := TX0) (N := 19) (f := 52) (r := (some a_6)) hx hb hts in_X0 tyX0 tyX0_ok nmX0 hown hK hR hS rfl 2 (by decide) (hts _ q114) (fun _ h => h) rfl hin rfl rfl (by decide) (x_rnA _ _) (x_rfA _ _) dX0_init_27 hw.1 (fun H locs hR hS => ?_)
  have hw := hw.2
  obtain ⟨S_8, eS_8⟩ : ∃ z, z = (sR S_7 52 o (some a_6)) := ⟨_, rfl⟩
  rw [← eS_8] at hR
  have hw := hw S_8 eS_8
  refine lv_aload_n hx hb dX0_init_30 rfl (lv_at hl 0 rfl) ?_
  refine lv_bipush (v := 10) hx hb dX0_init_31 (by decide) ?_
  refine x_putI (ci := 0) (C := RX0) (T := TX0) (N := 19) (f := 55) hx hb hts in_X0 tyX0 tyX0_ok nmX0 hown hK hR hS rfl 5 (by decide) (hts _ q118) (fun _ h => h) rfl rfl (by decide) rfl rfl dX0_init_33 hw.1 (fun H locs hR hS => ?_)
  have hw := hw.2
  obtain ⟨S_9, eS_9⟩ : ∃ z, z = (sI S_8 55 o 10) := ⟨_, rfl⟩
  rw [← eS_9] at hR
  have hw := hw S_9 eS_9
  refine lv_aload_n hx hb dX0_init_36 rfl (lv_at hl 0 rfl) ?_
  refine lv_bipush (v := 50) hx hb dX0_init_37 (by decide) ?_
  refine x_putI (ci := 0) (C := RX0) (T := TX0) (N := 19) (f := 56) hx hb hts in_X0 tyX0 tyX0_ok nmX0 hown hK hR hS rfl 6 (by decide) (hts _ q119) (fun _ h => h) rfl rfl (by decide) rfl rfl dX0_init_39 hw.1 (fun H locs hR hS => ?_)
  have hw := hw.2
  obtain ⟨S_10, eS_10⟩ : ∃ z, z = (sI S_9 56 o 50) := ⟨_, rfl⟩
  rw [← eS_10] at hR
  have hw := hw S_10 eS_10
  refine lv_aload_n hx hb dX0_init_42 rfl (lv_at hl 0 rfl) ?_
  refine lv_bipush (v := 60) hx hb dX0_init_43 (by decide) ?_
  obtain ⟨h1, h2, hw⟩ := hw
  refine x_newq (t := 104) (N' := 60) hx hb (by decide) rfl hown (hts _ q99) (hK.2 _ q100 rfl) hK hR hS hA dX0_init_45 (by decide) (by decide) (by decide) (by show _ ≤ k; omega) (by show _ ≤ n; omega) (fun a_11 H hf hR hS => ?_)
  have hw := hw a_11 hf
  have hc : (((0 + 9) + 1) + 1) + (((k - 9) - 1) - 1) ≤ k := by omega
  have hs : (((0 + 72) + 40) + 60) + (((n - 72) - 40) - 60) ≤ n := by omega
  obtain ⟨S_12, eS_12⟩ : ∃ z, z = (sV S_10 a_11 104 60) := ⟨_, rfl⟩
  rw [← eS_12] at hR
  have hw := hw S_12 eS_12
  refine x_putFR (ci := 0) (C := RX0) (T := TX0) (N := 19) (f := 57) (r := (some a_11)) hx hb hts in_X0 tyX0 tyX0_ok nmX0 hown hK hR hS rfl 7 (by decide) (hts _ q120) (fun _ h => h) rfl hin rfl rfl (by decide) (x_rnA _ _) (x_rfA _ _) dX0_init_48 hw.1 (fun H locs hR hS => ?_)
  have hw := hw.2
  obtain ⟨S_13, eS_13⟩ : ∃ z, z = (sR S_12 57 o (some a_11)) := ⟨_, rfl⟩
  rw [← eS_13] at hR
  have hw := hw S_13 eS_13
  refine lv_aload_n hx hb dX0_init_51 rfl (lv_at hl 0 rfl) ?_
  refine lv_bipush (v := 8) hx hb dX0_init_52 (by decide) ?_
  obtain ⟨h1, h2, hw⟩ := hw
  refine x_newq (t := 105) (N' := 8) hx hb (by decide) rfl hown (hts _ q101) (hK.2 _ q102 rfl) hK hR hS hA dX0_init_54 (by decide) (by decide) (by decide) (by show _ ≤ k; omega) (by show _ ≤ n; omega) (fun a_14 H hf hR hS => ?_)
  have hw := hw a_14 hf
  have hc : ((((0 + 9) + 1) + 1) + 1) + ((((k - 9) - 1) - 1) - 1) ≤ k := by omega
  have hs : ((((0 + 72) + 40) + 60) + 8) + ((((n - 72) - 40) - 60) - 8) ≤ n := by omega
  obtain ⟨S_15, eS_15⟩ : ∃ z, z = (sV S_13 a_14 105 8) := ⟨_, rfl⟩
  rw [← eS_15] at hR
  have hw := hw S_15 eS_15
  refine x_putFR (ci := 0) (C := RX0) (T := TX0) (N := 19) (f := 59) (r := (some a_14)) hx hb hts in_X0 tyX0 tyX0_ok nmX0 hown hK hR hS rfl 9 (by decide) (hts _ q122) (fun _ h => h) rfl hin rfl rfl (by decide) (x_rnA _ _) (x_rfA _ _) dX0_init_57 hw.1 (fun H locs hR hS => ?_)
  have hw := hw.2
  obtain ⟨S_16, eS_16⟩ : ∃ z, z = (sR S_15 59 o (some a_14)) := ⟨_, rfl⟩
  rw [← eS_16] at hR
  have hw := hw S_16 eS_16
  refine lv_aload_n hx hb dX0_init_60 rfl (lv_at hl 0 rfl) ?_
  refine lv_bipush (v := 60) hx hb dX0_init_61 (by decide) ?_
  obtain ⟨h1, h2, hw⟩ := hw
  refine x_newq (t := 106) (N' := 60) hx hb (by decide) rfl hown (hts _ q103) (hK.2 _ q104 rfl) hK hR hS hA dX0_init_63 (by decide) (by decide) (by decide) (by show _ ≤ k; omega) (by show _ ≤ n; omega) (fun a_17 H hf hR hS => ?_)
  have hw := hw a_17 hf
  have hc : (((((0 + 9) + 1) + 1) + 1) + 1) + (((((k - 9) - 1) - 1) - 1) - 1) ≤ k := by omega
  have hs : (((((0 + 72) + 40) + 60) + 8) + 60) + (((((n - 72) - 40) - 60) - 8) - 60) ≤ n := by omega
  obtain ⟨S_18, eS_18⟩ : ∃ z, z = (sV S_16 a_17 106 60) := ⟨_, rfl⟩
  rw [← eS_18] at hR
  have hw := hw S_18 eS_18
  refine x_putFR (ci := 0) (C := RX0) (T := TX0) (N := 19) (f := 61) (r := (some a_17)) hx hb hts in_X0 tyX0 tyX0_ok nmX0 hown hK hR hS rfl 11 (by decide) (hts _ q124) (fun _ h => h) rfl hin rfl rfl (by decide) (x_rnA _ _) (x_rfA _ _) dX0_init_66 hw.1 (fun H locs hR hS => ?_)
  have hw := hw.2
  obtain ⟨S_19, eS_19⟩ : ∃ z, z = (sR S_18 61 o (some a_17)) := ⟨_, rfl⟩
  rw [← eS_19] at hR
  have hw := hw S_19 eS_19
  refine lv_aload_n hx hb dX0_init_69 rfl (lv_at hl 0 rfl) ?_
  refine lv_bipush (v := 10) hx hb dX0_init_70 (by decide) ?_
  obtain ⟨h1, h2, hw⟩ := hw
  refine x_newq (t := 107) (N' := 10) hx hb (by decide) rfl hown (hts _ q105) (hK.2 _ q106 rfl) hK hR hS hA dX0_init_72 (by decide) (by decide) (by decide) (by show _ ≤ k; omega) (by show _ ≤ n; omega) (fun a_20 H hf hR hS => ?_)
  have hw := hw a_20 hf
  have hc : ((((((0 + 9) + 1) + 1) + 1) + 1) + 1) + ((((((k - 9) - 1) - 1) - 1) - 1) - 1) ≤ k := by omega
  have hs : ((((((0 + 72) + 40) + 60) + 8) + 60) + 10) + ((((((n - 72) - 40) - 60) - 8) - 60) - 10) ≤ n := by omega
  obtain ⟨S_21, eS_21⟩ : ∃ z, z = (sV S_19 a_20 107 10) := ⟨_, rfl⟩
  rw [← eS_21] at hR
  have hw := hw S_21 eS_21
  refine x_putFR (ci := 0) (C := RX0) (T := TX0) (N := 19) (f := 64) (r := (some a_20)) hx hb hts in_X0 tyX0 tyX0_ok nmX0 hown hK hR hS rfl 14 (by decide) (hts _ q127) (fun _ h => h) rfl hin rfl rfl (by decide) (x_rnA _ _) (x_rfA _ _) dX0_init_75 hw.1 (fun H locs hR hS => ?_)
  have hw := hw.2
  obtain ⟨S_22, eS_22⟩ : ∃ z, z = (sR S_21 64 o (some a_20)) := ⟨_, rfl⟩
  rw [← eS_22] at hR
  have hw := hw S_22 eS_22
  refine lv_aload_n hx hb dX0_init_78 rfl (lv_at hl 0 rfl) ?_
  refine lv_bipush (v := 40) hx hb dX0_init_79 (by decide) ?_
  obtain ⟨h1, h2, hw⟩ := hw
  refine x_newq (t := 108) (N' := 40) hx hb (by decide) rfl hown (hts _ q107) (hK.2 _ q108 rfl) hK hR hS hA dX0_init_81 (by decide) (by decide) (by decide) (by show _ ≤ k; omega) (by show _ ≤ n; omega) (fun a_23 H hf hR hS => ?_)
  have hw := hw a_23 hf
  have hc : (((((((0 + 9) + 1) + 1) + 1) + 1) + 1) + 1) + (((((((k - 9) - 1) - 1) - 1) - 1) - 1) - 1) ≤ k := by omega
  have hs : (((((((0 + 72) + 40) + 60) + 8) + 60) + 10) + 40) + (((((((n - 72) - 40) - 60) - 8) - 60) - 10) - 40) ≤ n := by omega
  obtain ⟨S_24, eS_24⟩ : ∃ z, z = (sV S_22 a_23 108 40) := ⟨_, rfl⟩
  rw [← eS_24] at hR
  have hw := hw S_24 eS_24
  refine x_putFR (ci := 0) (C := RX0) (T := TX0) (N := 19) (f := 66) (r := (some a_23)) hx hb hts in_X0 tyX0 tyX0_ok nmX0 hown hK hR hS rfl 16 (by decide) (hts _ q129) (fun _ h => h) rfl hin rfl rfl (by decide) (x_rnA _ _) (x_rfA _ _) dX0_init_84 hw.1 (fun H locs hR hS => ?_)
  have hw := hw.2
  obtain ⟨S_25, eS_25⟩ : ∃ z, z = (sR S_24 66 o (some a_23)) := ⟨_, rfl⟩
  rw [← eS_25] at hR
  have hw := hw S_25 eS_25
  refine lv_aload_n hx hb dX0_init_87 rfl (lv_at hl 0 rfl) ?_
  refine lv_bipush (v := 10) hx hb dX0_init_88 (by decide) ?_
  obtain ⟨h1, h2, hw⟩ := hw
  refine x_newa (atype := .int) (t := 101) (N' := 10) hx hb rfl (by decide) (by decide) rfl rfl (fun _ => rfl) (hts _ q173) hK hR hS hA dX0_init_90 (by decide) (by decide) (by decide) (by show _ ≤ k; omega) (by show _ ≤ n; omega) (fun a_26 H hf hR hS => ?_)
  have hw := hw a_26 hf
  have hc : ((((((((0 + 9) + 1) + 1) + 1) + 1) + 1) + 1) + 1) + ((((((((k - 9) - 1) - 1) - 1) - 1) - 1) - 1) - 1) ≤ k := by omega
  have hs : ((((((((0 + 72) + 40) + 60) + 8) + 60) + 10) + 40) + 10) + ((((((((n - 72) - 40) - 60) - 8) - 60) - 10) - 40) - 10) ≤ n := by omega
  obtain ⟨S_27, eS_27⟩ : ∃ z, z = (sV S_25 a_26 101 10) := ⟨_, rfl⟩
  rw [← eS_27] at hR
  have hw := hw S_27 eS_27
  refine x_putFR (ci := 0) (C := RX0) (T := TX0) (N := 19) (f := 68) (r := (some a_26)) hx hb hts in_X0 tyX0 tyX0_ok nmX0 hown hK hR hS rfl 18 (by decide) (hts _ q132) (fun _ h => h) rfl hin rfl rfl (by decide) (x_rnA _ _) (x_rfA _ _) dX0_init_92 hw.1 (fun H locs hR hS => ?_)
  have hw := hw.2
  obtain ⟨S_28, eS_28⟩ : ∃ z, z = (sR S_27 68 o (some a_26)) := ⟨_, rfl⟩
  rw [← eS_28] at hR
  have hw := hw S_28 eS_28
  refine W.widen (k := k) (n := n) (by omega) (by omega) ?_
  exact x_rv hx hb hr hlocks hR hS dX0_init_95 hw
def w_X0_isIn (S : xH) (x0 : Int32) (x1 : Int32) (x2 : Int32) (Q : Int32 → Prop) : Prop := wif (x0 < x1) (Q 0) (wif (x2 < x0) (Q 0) (Q 1))
theorem hd_X0_isIn : yX0_isIn.cls = "PressedMen" ∧ yX0_isIn.cls ≠ "java/lang/invoke/MethodHandle" ∧ yX0_isIn.cls ≠ "java/lang/invoke/VarHandle" ∧ (parseMethodDescriptor yX0_isIn.desc).map (fun d => d.parameters.length) = some 3 := by decide +kernel
set_option maxHeartbeats 4000000 in
theorem mt_X0_isIn (l : Launch) {D : va_G} {d : Nat → ClassId} {base : Nat} {mc : va_W} {S : xH} {x0 : Int32} {x1 : Int32} {x2 : Int32} {Q : Int32 → Prop} (hw : w_X0_isIn S x0 x1 x2 Q) : Met l yX0_isIn (ws_ yX0_isIn cX0_isIn 3 (some FieldType.boolean)) (x_rm 0 0 0 0) (x_Pc D d base mc S [.int x0, .int x1, .int x2]) (x_Qi D d base mc (fun r S' => S' = S ∧ Q r)) 0 0 (x_A base) := by
  refine x_met (by decide) (Nat.le_of_ble_eq_true rfl) ?_
  intro p e s m below meth c hx hb hml hr hlocks hown hts hz hR hK hin ls hl
  have hown : s.vm.findClass "PressedMen" = some m.cls := hown
  have hl : lv_has ls 3 [(0, .int x0), (1, .int x1), (2, .int x2)] := hl
  have hS : va_S (x_A base) s.heap s.heap [] := va_S.rf
  unfold w_X0_isIn at hw
  refine lv_iload_n hx hb dX0_isIn_0 rfl (lv_at hl 0 rfl) ?_
  refine lv_iload_n hx hb dX0_isIn_1 rfl (lv_at hl 1 rfl) ?_
  refine lv_icmp_lt (tgt := 14) hx hb dX0_isIn_2 (by decide) (fun c_1 => ?_) (fun c_1 => ?_)
  · have hw := x_t hw c_1
    refine lv_iconst (v := 0) hx hb dX0_isIn_14 (by decide) ?_
    exact x_rz hx hb hr hlocks hR hS dX0_isIn_15 (Or.inl rfl) ⟨rfl, hw⟩
  · have hw := x_f hw c_1
    refine lv_iload_n hx hb dX0_isIn_5 rfl (lv_at hl 0 rfl) ?_
    refine lv_iload_n hx hb dX0_isIn_6 rfl (lv_at hl 2 rfl) ?_
    refine lv_icmp_gt (tgt := 14) hx hb dX0_isIn_7 (by decide) (fun c_2 => ?_) (fun c_2 => ?_)
    · have hw := x_t hw c_2
      refine lv_iconst (v := 0) hx hb dX0_isIn_14 (by decide) ?_
      exact x_rz hx hb hr hlocks hR hS dX0_isIn_15 (Or.inl rfl) ⟨rfl, hw⟩
    · have hw := x_f hw c_2
      refine lv_iconst (v := 1) hx hb dX0_isIn_10 (by decide) ?_
      refine lv_goto (tgt := 15) hx hb dX0_isIn_11 (by decide) ?_
      exact x_rz hx hb hr hlocks hR hS dX0_isIn_15 (Or.inr rfl) ⟨rfl, hw⟩
def w_X0_isStreet (S : xH) (o : Nat) (x1 : Int32) (Q : Int32 → Prop) : Prop := xT S o = 1 ∧ w_X0_isIn S x1 0 ((xI S 50 o) - 1) (fun (r_1 : Int32) => x_B r_1 ∧ Q r_1)
theorem hd_X0_isStreet : yX0_isStreet.cls = "PressedMen" ∧ yX0_isStreet.cls ≠ "java/lang/invoke/MethodHandle" ∧ yX0_isStreet.cls ≠ "java/lang/invoke/VarHandle" ∧ (parseMethodDescriptor yX0_isStreet.desc).map (fun d => d.parameters.length) = some 1 := by decide +kernel
set_option maxHeartbeats 4000000 in
theorem mt_X0_isStreet (l : Launch) {D : va_G} {d : Nat → ClassId} {base : Nat} {mc : va_W} {S : xH} {o : Nat} {x1 : Int32} {Q : Int32 → Prop} (hw : w_X0_isStreet S o x1 Q) : Met l yX0_isStreet (ws_ yX0_isStreet cX0_isStreet 2 (some FieldType.boolean)) (x_rm 1 0 0 22) (x_Pc D d base mc S [.ref o, .int x1]) (x_Qi D d base mc (fun r S' => S' = S ∧ Q r)) 0 0 (x_A base) := by
  refine x_met (by decide) (Nat.le_of_ble_eq_true rfl) ?_
  intro p e s m below meth c hx hb hml hr hlocks hown hts hz hR hK hin ls hl
  have hown : s.vm.findClass "PressedMen" = some m.cls := hown
  have hl : lv_has ls 2 [(0, .ref o), (1, .int x1)] := hl
  have hS : va_S (x_A base) s.heap s.heap [] := va_S.rf
  unfold w_X0_isStreet at hw
  refine lv_iload_n hx hb dX0_isStreet_0 rfl (lv_at hl 1 rfl) ?_
  refine lv_iconst (v := 0) hx hb dX0_isStreet_1 (by decide) ?_
  refine lv_aload_n hx hb dX0_isStreet_2 rfl (lv_at hl 0 rfl) ?_
  refine x_getI (ci := 0) (C := RX0) (T := TX0) (N := 19) (f := 50) hx hb hts in_X0 hown hK hR rfl 0 (by decide) (hts _ q110) (fun _ h => h) rfl (by decide) dX0_isStreet_3 hw.1 ?_
  have hw := hw.2
  refine lv_iconst (v := 1) hx hb dX0_isStreet_6 (by decide) ?_
  refine lv_isub hx hb dX0_isStreet_7 ?_
  refine x_ci (va_runS (As := [.int x1, .int 0, .int ((xI S 50 o) - 1)]) (rest := []) ⟨hx, hb, hml, hown, hts⟩ (mt_X0_isIn l hw) (va_cwS 3 hts (lw_S q178 q179 q64 q180) rfl rfl rfl hd_X0_isIn.2 ⟨Nat.le_of_ble_eq_true rfl, Nat.le_of_ble_eq_true rfl⟩) ⟨x_Pc_blind, x_Pc_pre hR hz hS hK⟩ rfl rfl hl.1 rfl (lv_room (Nat.le_of_ble_eq_true rfl)) dX0_isStreet_8 ⟨Nat.le_refl _, Nat.le_refl _⟩) hS (fun r_1 S_2 H locs hp hR hS => ?_)
  have hw := hp.2
  rw [hp.1] at hR
  exact x_rz hx hb hr hlocks hR hS dX0_isStreet_11 hw.1 ⟨rfl, hw.2⟩
def w_X0_streets (S : xH) (o : Nat) (x1 : Int32) (Q : Int32 → xH → Prop) : Prop := w_X0_isIn S x1 1 8 (fun (r_1 : Int32) => wif (r_1 = 0) (Q (-2) S) (xT S o = 1 ∧ wif ((xI S 53 o) ≤ 0) (xT S o = 1 ∧ nm (xI S 50 o) (fun x2_5 : Int32 => xT S o = 1 ∧ nm (sI S 50 o x1) (fun S_6 : xH => lf2 (fun L_9 (x3_7 : Int32) (S_8 : xH) => wif (64 ≤ x3_7) (Q x2_5 S_8) (xT S_8 o = 1 ∧ ∃ b_11, (xR S_8 51 o) = some b_11 ∧ xT S_8 b_11 = 109 ∧ vp_in (x3_7 / 8) (xL S_8 b_11) ∧ ∃ b_13, (xQ S_8 b_11 (Int32.toNatClampNeg (x3_7 / 8))) = some b_13 ∧ xT S_8 b_13 = 102 ∧ vp_in (x3_7 - x3_7 / 8 * 8) (xL S_8 b_13) ∧ xT S_8 o = 1 ∧ w_X0_isStreet S_8 o (x3_7 / 8) (fun (r_15 : Int32) => jn (fun (v3_17 : Int32) => xT S_8 b_13 = 102 ∧ vp_in (x3_7 - x3_7 / 8 * 8) (xL S_8 b_13) ∧ x_B ((xA S_8 b_13 (Int32.toNatClampNeg (x3_7 - x3_7 / 8 * 8))) &&& v3_17) ∧ nm (sA S_8 b_13 (Int32.toNatClampNeg (x3_7 - x3_7 / 8 * 8)) ((xA S_8 b_13 (Int32.toNatClampNeg (x3_7 - x3_7 / 8 * 8))) &&& v3_17)) (fun S_19 : xH => L_9 (x3_7 + 1) S_19)) (fun J_18 => jn0 (J_18 0) (fun J_20 => wif (r_15 = 0) (J_20) (xT S_8 o = 1 ∧ w_X0_isStreet S_8 o (x3_7 - x3_7 / 8 * 8) (fun (r_22 : Int32) => wif (r_22 = 0) (J_20) (J_18 1)))))))) 0 S_6))) (Q (-3) S)))
theorem hd_X0_streets : yX0_streets.cls = "PressedMen" ∧ yX0_streets.cls ≠ "java/lang/invoke/MethodHandle" ∧ yX0_streets.cls ≠ "java/lang/invoke/VarHandle" ∧ (parseMethodDescriptor yX0_streets.desc).map (fun d => d.parameters.length) = some 1 := by decide +kernel
set_option maxHeartbeats 4000000 in
theorem mt_X0_streets (l : Launch) {D : va_G} {d : Nat → ClassId} {base : Nat} {mc : va_W} {S : xH} {o : Nat} {x1 : Int32} {Q : Int32 → xH → Prop} (hw : w_X0_streets S o x1 Q) : Met l yX0_streets (ws_ yX0_streets cX0_streets 4 (some FieldType.int)) (x_rm 2 0 0 43) (x_Pc D d base mc S [.ref o, .int x1]) (x_Qi D d base mc (fun r S' => Q r S')) 0 0 (x_A base) := by
  refine x_met (by decide) (Nat.le_of_ble_eq_true rfl) ?_
  intro p e s m below meth c hx hb hml hr hlocks hown hts hz hR hK hin ls hl
  have hown : s.vm.findClass "PressedMen" = some m.cls := hown
  have hl : lv_has ls 4 [(0, .ref o), (1, .int x1)] := hl
  have hS : va_S (x_A base) s.heap s.heap [] := va_S.rf
  unfold w_X0_streets at hw
  refine lv_iload_n hx hb dX0_streets_0 rfl (lv_at hl 1 rfl) ?_
  refine lv_iconst (v := 1) hx hb dX0_streets_1 (by decide) ?_
  refine lv_bipush (v := 8) hx hb dX0_streets_2 (by decide) ?_
  refine x_ci (va_runS (As := [.int x1, .int 1, .int 8]) (rest := []) ⟨hx, hb, hml, hown, hts⟩ (mt_X0_isIn l hw) (va_cwS 3 hts (lw_S q178 q179 q64 q180) rfl rfl rfl hd_X0_isIn.2 ⟨Nat.le_of_ble_eq_true rfl, Nat.le_of_ble_eq_true rfl⟩) ⟨x_Pc_blind, x_Pc_pre hR hz hS hK⟩ rfl rfl hl.1 rfl (lv_room (Nat.le_of_ble_eq_true rfl)) dX0_streets_4 ⟨Nat.le_refl _, Nat.le_refl _⟩) hS (fun r_1 S_2 H locs hp hR hS => ?_)
  have hw := hp.2
  rw [hp.1] at hR
  refine lv_if_ne (tgt := 13) hx hb dX0_streets_7 (by decide) (fun c_3 => ?_) (fun c_3 => ?_)
  · have hw := x_f hw c_3
    refine lv_aload_n hx hb dX0_streets_13 rfl (lv_at hl 0 rfl) ?_
    refine x_getI (ci := 0) (C := RX0) (T := TX0) (N := 19) (f := 53) hx hb hts in_X0 hown hK hR rfl 3 (by decide) (hts _ q116) (fun _ h => h) rfl (by decide) dX0_streets_14 hw.1 ?_
    have hw := hw.2
    refine lv_if_le (tgt := 23) hx hb dX0_streets_17 (by decide) (fun c_4 => ?_) (fun c_4 => ?_)
    · have hw := x_t hw c_4
      refine lv_aload_n hx hb dX0_streets_23 rfl (lv_at hl 0 rfl) ?_
      refine x_getI (ci := 0) (C := RX0) (T := TX0) (N := 19) (f := 50) hx hb hts in_X0 hown hK hR rfl 0 (by decide) (hts _ q110) (fun _ h => h) rfl (by decide) dX0_streets_24 hw.1 ?_
      have hw := hw.2
      refine lv_topi (fun x2_5 ex2_5 => ?_)
      have hw := hw x2_5 ex2_5
      refine lv_istore_n (lv' := [(2, .int x2_5), (0, .ref o), (1, .int x1)]) hx hb dX0_streets_27 rfl hl (by decide) rfl (fun ls hl => ?_)
      refine lv_aload_n hx hb dX0_streets_28 rfl (lv_at hl 1 rfl) ?_
      refine lv_iload_n hx hb dX0_streets_29 rfl (lv_at hl 2 rfl) ?_
      refine x_putI (ci := 0) (C := RX0) (T := TX0) (N := 19) (f := 50) hx hb hts in_X0 tyX0 tyX0_ok nmX0 hown hK hR hS rfl 0 (by decide) (hts _ q110) (fun _ h => h) rfl rfl (by decide) rfl rfl dX0_streets_30 hw.1 (fun H locs hR hS => ?_)
      have hw := hw.2
      obtain ⟨S_6, eS_6⟩ : ∃ z, z = (sI S 50 o x1) := ⟨_, rfl⟩
      rw [← eS_6] at hR
      have hw := hw S_6 eS_6
      refine lv_iconst (v := 0) hx hb dX0_streets_33 (by decide) ?_
      refine lv_istore_n (lv' := [(3, .int 0), (2, .int x2_5), (0, .ref o), (1, .int x1)]) hx hb dX0_streets_34 rfl hl (by decide) rfl (fun ls hl => ?_)
      refine x_lf2 (G := fun (x3_7 : Int32) (S_8 : xH) => ∀ (ls : Array Slot) (H : Heap) (locs : List Loc), x_Rp D d (x_A base) mc S_8 H → va_S (x_A base) s.heap H locs → lv_has ls 4 [(0, .ref o), (2, .int x2_5), (3, .int x3_7)] → W p l e (x_rm 2 0 0 43) s m ([.ref o, .int x1] : List Value).toArray below meth c H locs 0 0 (MQ below (x_Qi D d base mc (fun r S' => Q r S')) ([.ref o, .int x1] : List Value).toArray s 0 0 (x_A base)) (F0 m 35 ls [])) hw (fun x3_7 S_8 hw => ?_) ls _ _ hR hS (lv_sub hl [2, 1, 0] rfl)
      intro ls H locs hR hS hl
      refine lv_iload_n hx hb dX0_streets_35 rfl (lv_at hl 2 rfl) ?_
      refine lv_bipush (v := 64) hx hb dX0_streets_36 (by decide) ?_
      refine lv_icmp_ge (tgt := 91) hx hb dX0_streets_38 (by decide) (fun c_10 => ?_) (fun c_10 => ?_)
      · have hw := x_t hw c_10
        refine lv_iload_n hx hb dX0_streets_91 rfl (lv_at hl 1 rfl) ?_
        exact x_ri hx hb hr hlocks hR hS dX0_streets_92 hw
      · have hw := x_f hw c_10
        refine lv_aload_n hx hb dX0_streets_41 rfl (lv_at hl 0 rfl) ?_
        refine x_getR (ci := 0) (C := RX0) (T := TX0) (N := 19) (f := 51) hx hb hts in_X0 hown hK hR rfl 1 (by decide) (hts _ q112) (fun _ h => h) rfl (by decide) dX0_streets_42 hw.1 ?_
        have hw := hw.2
        refine lv_iload_n hx hb dX0_streets_45 rfl (lv_at hl 2 rfl) ?_
        refine lv_bipush (v := 8) hx hb dX0_streets_46 (by decide) ?_
        refine lv_idiv hx hb dX0_streets_48 (by decide) ?_
        obtain ⟨b_11, e_12, hw⟩ := hw
        refine x_dr1 e_12 ?_
        refine x_aald (t := 109) hx hb hK hR (by decide) rfl rfl dX0_streets_49 hw.1 hw.2.1 ?_
        have hw := hw.2.2
        refine lv_iload_n hx hb dX0_streets_50 rfl (lv_at hl 2 rfl) ?_
        refine lv_bipush (v := 8) hx hb dX0_streets_51 (by decide) ?_
        refine lv_irem hx hb dX0_streets_53 (by decide) ?_
        obtain ⟨b_13, e_14, hw⟩ := hw
        refine x_dr1 e_14 ?_
        refine lv_dup2_11 hx hb dX0_streets_54 rfl rfl ?_
        refine x_zald hx hb hK hR dX0_streets_55 hw.1 hw.2.1 ?_
        have hw := hw.2.2
        refine lv_aload_n hx hb dX0_streets_56 rfl (lv_at hl 0 rfl) ?_
        refine lv_iload_n hx hb dX0_streets_57 rfl (lv_at hl 2 rfl) ?_
        refine lv_bipush (v := 8) hx hb dX0_streets_58 (by decide) ?_
        refine lv_idiv hx hb dX0_streets_60 (by decide) ?_
        obtain ⟨ha, hw⟩ := hw
        refine x_ci (va_runV (As := [.int (x3_7 / 8)]) (rest := [.int (xA S_8 b_13 (Int32.toNatClampNeg (x3_7 - x3_7 / 8 * 8))), .int (x3_7 - x3_7 / 8 * 8), .ref b_13]) ⟨hx, hb, hml, hown, hts⟩ (mt_X0_isStreet l hw) (cwV 1 hts (lw_V q181 q183 qs0 q64 q184) rfl rfl rfl hd_X0_isStreet ⟨Nat.le_of_ble_eq_true rfl, Nat.le_of_ble_eq_true rfl⟩) ⟨x_Pc_blind, hR.recv hK (ci := 0) rfl (by decide) ha, x_Pc_pre hR hz hS hK⟩ rfl rfl hl.1 rfl (lv_room (Nat.le_of_ble_eq_true rfl)) dX0_streets_61 ⟨Nat.le_refl _, Nat.le_refl _⟩) hS (fun r_15 S_16 H locs hp hR hS => ?_)
        have hw := hp.2
        rw [hp.1] at hR
        refine x_jn (G := fun (v3_17 : Int32) => ∀ (ls : Array Slot) (H : Heap) (locs : List Loc), x_Rp D d (x_A base) mc S_8 H → va_S (x_A base) s.heap H locs → lv_has ls 4 [(0, .ref o), (2, .int x2_5), (3, .int x3_7)] → W p l e (x_rm 2 0 0 43) s m ([.ref o, .int x1] : List Value).toArray below meth c H locs 0 0 (MQ below (x_Qi D d base mc (fun r S' => Q r S')) ([.ref o, .int x1] : List Value).toArray s 0 0 (x_A base)) (F0 m 83 ls [.int v3_17, .int (xA S_8 b_13 (Int32.toNatClampNeg (x3_7 - x3_7 / 8 * 8))), .int (x3_7 - x3_7 / 8 * 8), .ref b_13])) hw (fun v3_17 hw => ?_) (fun hJ_18 hw => ?_)
        · intro ls H locs hR hS hl
          refine lv_iand hx hb dX0_streets_83 ?_
          refine x_zast hx hb hK hR hS dX0_streets_84 hw.1 hw.2.1 hw.2.2.1 (fun H locs hR hS => ?_)
          have hw := hw.2.2.2
          obtain ⟨S_19, eS_19⟩ : ∃ z, z = (sA S_8 b_13 (Int32.toNatClampNeg (x3_7 - x3_7 / 8 * 8)) ((xA S_8 b_13 (Int32.toNatClampNeg (x3_7 - x3_7 / 8 * 8))) &&& v3_17)) := ⟨_, rfl⟩
          rw [← eS_19] at hR
          have hw := hw S_19 eS_19
          refine lv_iinc (v := (x3_7 + 1)) (lv' := [(3, .int (x3_7 + 1)), (0, .ref o), (2, .int x2_5)]) hx hb dX0_streets_85 hl (k := 2) rfl rfl (by decide) rfl (fun ls hl => ?_)
          refine lv_goto (tgt := 35) hx hb dX0_streets_88 (by decide) ?_
          exact hw ls _ _ hR hS (lv_sub hl [1, 2, 0] rfl)
        · refine x_jn0 (G := ∀ (ls : Array Slot) (H : Heap) (locs : List Loc), x_Rp D d (x_A base) mc S_8 H → va_S (x_A base) s.heap H locs → lv_has ls 4 [(0, .ref o), (2, .int x2_5), (3, .int x3_7)] → W p l e (x_rm 2 0 0 43) s m ([.ref o, .int x1] : List Value).toArray below meth c H locs 0 0 (MQ below (x_Qi D d base mc (fun r S' => Q r S')) ([.ref o, .int x1] : List Value).toArray s 0 0 (x_A base)) (F0 m 82 ls [.int (xA S_8 b_13 (Int32.toNatClampNeg (x3_7 - x3_7 / 8 * 8))), .int (x3_7 - x3_7 / 8 * 8), .ref b_13])) hw (fun hw => ?_) (fun hJ_20 hw => ?_)
          · intro ls H locs hR hS hl
            refine lv_iconst (v := 0) hx hb dX0_streets_82 (by decide) ?_
            exact hJ_18 0 hw ls _ _ hR hS (lv_sub hl [0, 1, 2] rfl)
          · refine lv_if_eq (tgt := 82) hx hb dX0_streets_64 (by decide) (fun c_21 => ?_) (fun c_21 => ?_)
            · have hw := x_t hw c_21
              exact hJ_20  hw ls _ _ hR hS (lv_sub hl [0, 1, 2] rfl)
            · have hw := x_f hw c_21
              refine lv_aload_n hx hb dX0_streets_67 rfl (lv_at hl 0 rfl) ?_
              refine lv_iload_n hx hb dX0_streets_68 rfl (lv_at hl 2 rfl) ?_
              refine lv_bipush (v := 8) hx hb dX0_streets_69 (by decide) ?_
              refine lv_irem hx hb dX0_streets_71 (by decide) ?_
              obtain ⟨ha, hw⟩ := hw
              refine x_ci (va_runV (As := [.int (x3_7 - x3_7 / 8 * 8)]) (rest := [.int (xA S_8 b_13 (Int32.toNatClampNeg (x3_7 - x3_7 / 8 * 8))), .int (x3_7 - x3_7 / 8 * 8), .ref b_13]) ⟨hx, hb, hml, hown, hts⟩ (mt_X0_isStreet l hw) (cwV 1 hts (lw_V q181 q183 qs0 q64 q184) rfl rfl rfl hd_X0_isStreet ⟨Nat.le_of_ble_eq_true rfl, Nat.le_of_ble_eq_true rfl⟩) ⟨x_Pc_blind, hR.recv hK (ci := 0) rfl (by decide) ha, x_Pc_pre hR hz hS hK⟩ rfl rfl hl.1 rfl (lv_room (Nat.le_of_ble_eq_true rfl)) dX0_streets_72 ⟨Nat.le_refl _, Nat.le_refl _⟩) hS (fun r_22 S_23 H locs hp hR hS => ?_)
              have hw := hp.2
              rw [hp.1] at hR
              refine lv_if_eq (tgt := 82) hx hb dX0_streets_75 (by decide) (fun c_24 => ?_) (fun c_24 => ?_)
              · have hw := x_t hw c_24
                exact hJ_20  hw ls _ _ hR hS (lv_sub hl [0, 1, 2] rfl)
              · have hw := x_f hw c_24
                refine lv_iconst (v := 1) hx hb dX0_streets_78 (by decide) ?_
                refine lv_goto (tgt := 83) hx hb dX0_streets_79 (by decide) ?_
                exact hJ_18 1 hw ls _ _ hR hS (lv_sub hl [0, 1, 2] rfl)
    · have hw := x_f hw c_4
      refine lv_bipush (v := (-3)) hx hb dX0_streets_20 (by decide) ?_
      exact x_ri hx hb hr hlocks hR hS dX0_streets_22 hw
  · have hw := x_t hw c_3
    refine lv_bipush (v := (-2)) hx hb dX0_streets_10 (by decide) ?_
    exact x_ri hx hb hr hlocks hR hS dX0_streets_12 hw
def w_X0_way (S : xH) (o : Nat) (x1 : Int32) (x2 : Int32) (x3 : Int32) (Q : Int32 → xH → Prop) : Prop := xT S o = 1 ∧ w_X0_isStreet S o x1 (fun (r_1 : Int32) => wif (r_1 = 0) (Q (-1) S) (xT S o = 1 ∧ w_X0_isStreet S o x2 (fun (r_4 : Int32) => wif (r_4 = 0) (Q (-1) S) (wif (x1 = x2) (Q (-2) S) (xT S o = 1 ∧ ∃ b_8, (xR S 51 o) = some b_8 ∧ xT S b_8 = 109 ∧ vp_in x1 (xL S b_8) ∧ ∃ b_10, (xQ S b_8 (Int32.toNatClampNeg x1)) = some b_10 ∧ xT S b_10 = 102 ∧ vp_in x2 (xL S b_10) ∧ jn (fun (v0_12 : Int32) => xT S o = 1 ∧ ∃ b_14, (xR S 51 o) = some b_14 ∧ xT S b_14 = 109 ∧ vp_in x1 (xL S b_14) ∧ ∃ b_16, (xQ S b_14 (Int32.toNatClampNeg x1)) = some b_16 ∧ xT S b_16 = 102 ∧ vp_in x2 (xL S b_16) ∧ x_B x3 ∧ nm (sA S b_16 (Int32.toNatClampNeg x2) x3) (fun S_18 : xH => xT S_18 o = 1 ∧ ∃ b_19, (xR S_18 51 o) = some b_19 ∧ xT S_18 b_19 = 109 ∧ vp_in x2 (xL S_18 b_19) ∧ ∃ b_21, (xQ S_18 b_19 (Int32.toNatClampNeg x2)) = some b_21 ∧ xT S_18 b_21 = 102 ∧ vp_in x1 (xL S_18 b_21) ∧ x_B x3 ∧ nm (sA S_18 b_21 (Int32.toNatClampNeg x1) x3) (fun S_23 : xH => Q v0_12 S_23))) (fun J_13 => wif ((xA S b_10 (Int32.toNatClampNeg x2)) = 0) (J_13 0) (J_13 1)))))))
theorem hd_X0_way : yX0_way.cls = "PressedMen" ∧ yX0_way.cls ≠ "java/lang/invoke/MethodHandle" ∧ yX0_way.cls ≠ "java/lang/invoke/VarHandle" ∧ (parseMethodDescriptor yX0_way.desc).map (fun d => d.parameters.length) = some 3 := by decide +kernel
set_option maxHeartbeats 4000000 in
theorem mt_X0_way (l : Launch) {D : va_G} {d : Nat → ClassId} {base : Nat} {mc : va_W} {S : xH} {o : Nat} {x1 : Int32} {x2 : Int32} {x3 : Int32} {Q : Int32 → xH → Prop} (hw : w_X0_way S o x1 x2 x3 Q) : Met l yX0_way (ws_ yX0_way cX0_way 5 (some FieldType.int)) (x_rm 2 0 0 43) (x_Pc D d base mc S [.ref o, .int x1, .int x2, .int x3]) (x_Qi D d base mc (fun r S' => Q r S')) 0 0 (x_A base) := by
  refine x_met (by decide) (Nat.le_of_ble_eq_true rfl) ?_
  intro p e s m below meth c hx hb hml hr hlocks hown hts hz hR hK hin ls hl
  have hown : s.vm.findClass "PressedMen" = some m.cls := hown
  have hl : lv_has ls 5 [(0, .ref o), (1, .int x1), (2, .int x2), (3, .int x3)] := hl
  have hS : va_S (x_A base) s.heap s.heap [] := va_S.rf
  unfold w_X0_way at hw
  refine lv_aload_n hx hb dX0_way_0 rfl (lv_at hl 0 rfl) ?_
  refine lv_iload_n hx hb dX0_way_1 rfl (lv_at hl 1 rfl) ?_
  obtain ⟨ha, hw⟩ := hw
  refine x_ci (va_runV (As := [.int x1]) (rest := []) ⟨hx, hb, hml, hown, hts⟩ (mt_X0_isStreet l hw) (cwV 1 hts (lw_V q181 q183 qs0 q64 q184) rfl rfl rfl hd_X0_isStreet ⟨Nat.le_of_ble_eq_true rfl, Nat.le_of_ble_eq_true rfl⟩) ⟨x_Pc_blind, hR.recv hK (ci := 0) rfl (by decide) ha, x_Pc_pre hR hz hS hK⟩ rfl rfl hl.1 rfl (lv_room (Nat.le_of_ble_eq_true rfl)) dX0_way_2 ⟨Nat.le_refl _, Nat.le_refl _⟩) hS (fun r_1 S_2 H locs hp hR hS => ?_)
  have hw := hp.2
  rw [hp.1] at hR
  refine lv_if_eq (tgt := 16) hx hb dX0_way_5 (by decide) (fun c_3 => ?_) (fun c_3 => ?_)
  · have hw := x_t hw c_3
    refine lv_iconst (v := (-1)) hx hb dX0_way_16 (by decide) ?_
    exact x_ri hx hb hr hlocks hR hS dX0_way_17 hw
  · have hw := x_f hw c_3
    refine lv_aload_n hx hb dX0_way_8 rfl (lv_at hl 0 rfl) ?_
    refine lv_iload_n hx hb dX0_way_9 rfl (lv_at hl 2 rfl) ?_
    obtain ⟨ha, hw⟩ := hw
    refine x_ci (va_runV (As := [.int x2]) (rest := []) ⟨hx, hb, hml, hown, hts⟩ (mt_X0_isStreet l hw) (cwV 1 hts (lw_V q181 q183 qs0 q64 q184) rfl rfl rfl hd_X0_isStreet ⟨Nat.le_of_ble_eq_true rfl, Nat.le_of_ble_eq_true rfl⟩) ⟨x_Pc_blind, hR.recv hK (ci := 0) rfl (by decide) ha, x_Pc_pre hR hz hS hK⟩ rfl rfl hl.1 rfl (lv_room (Nat.le_of_ble_eq_true rfl)) dX0_way_10 ⟨Nat.le_refl _, Nat.le_refl _⟩) hS (fun r_4 S_5 H locs hp hR hS => ?_)
    have hw := hp.2
    rw [hp.1] at hR
    refine lv_if_ne (tgt := 18) hx hb dX0_way_13 (by decide) (fun c_6 => ?_) (fun c_6 => ?_)
    · have hw := x_f hw c_6
      refine lv_iload_n hx hb dX0_way_18 rfl (lv_at hl 1 rfl) ?_
      refine lv_iload_n hx hb dX0_way_19 rfl (lv_at hl 2 rfl) ?_
      refine lv_icmp_ne (tgt := 26) hx hb dX0_way_20 (by decide) (fun c_7 => ?_) (fun c_7 => ?_)
      · have hw := x_f hw c_7
        refine lv_aload_n hx hb dX0_way_26 rfl (lv_at hl 0 rfl) ?_
        refine x_getR (ci := 0) (C := RX0) (T := TX0) (N := 19) (f := 51) hx hb hts in_X0 hown hK hR rfl 1 (by decide) (hts _ q112) (fun _ h => h) rfl (by decide) dX0_way_27 hw.1 ?_
        have hw := hw.2
        refine lv_iload_n hx hb dX0_way_30 rfl (lv_at hl 1 rfl) ?_
        obtain ⟨b_8, e_9, hw⟩ := hw
        refine x_dr1 e_9 ?_
        refine x_aald (t := 109) hx hb hK hR (by decide) rfl rfl dX0_way_31 hw.1 hw.2.1 ?_
        have hw := hw.2.2
        refine lv_iload_n hx hb dX0_way_32 rfl (lv_at hl 2 rfl) ?_
        obtain ⟨b_10, e_11, hw⟩ := hw
        refine x_dr1 e_11 ?_
        refine x_zald hx hb hK hR dX0_way_33 hw.1 hw.2.1 ?_
        have hw := hw.2.2
        refine x_jn (G := fun (v0_12 : Int32) => ∀ (ls : Array Slot) (H : Heap) (locs : List Loc), x_Rp D d (x_A base) mc S H → va_S (x_A base) s.heap H locs → lv_has ls 5 [(0, .ref o), (1, .int x1), (2, .int x2), (3, .int x3)] → W p l e (x_rm 2 0 0 43) s m ([.ref o, .int x1, .int x2, .int x3] : List Value).toArray below meth c H locs 0 0 (MQ below (x_Qi D d base mc (fun r S' => Q r S')) ([.ref o, .int x1, .int x2, .int x3] : List Value).toArray s 0 0 (x_A base)) (F0 m 42 ls [.int v0_12])) hw (fun v0_12 hw => ?_) (fun hJ_13 hw => ?_)
        · intro ls H locs hR hS hl
          refine lv_istore (lv' := [(4, .int v0_12), (0, .ref o), (1, .int x1), (2, .int x2), (3, .int x3)]) hx hb dX0_way_42 hl (by decide) rfl (fun ls hl => ?_)
          refine lv_aload_n hx hb dX0_way_44 rfl (lv_at hl 1 rfl) ?_
          refine x_getR (ci := 0) (C := RX0) (T := TX0) (N := 19) (f := 51) hx hb hts in_X0 hown hK hR rfl 1 (by decide) (hts _ q112) (fun _ h => h) rfl (by decide) dX0_way_45 hw.1 ?_
          have hw := hw.2
          refine lv_iload_n hx hb dX0_way_48 rfl (lv_at hl 2 rfl) ?_
          obtain ⟨b_14, e_15, hw⟩ := hw
          refine x_dr1 e_15 ?_
          refine x_aald (t := 109) hx hb hK hR (by decide) rfl rfl dX0_way_49 hw.1 hw.2.1 ?_
          have hw := hw.2.2
          refine lv_iload_n hx hb dX0_way_50 rfl (lv_at hl 3 rfl) ?_
          refine lv_iload_n hx hb dX0_way_51 rfl (lv_at hl 4 rfl) ?_
          obtain ⟨b_16, e_17, hw⟩ := hw
          refine x_dr2 e_17 ?_
          refine x_zast hx hb hK hR hS dX0_way_52 hw.1 hw.2.1 hw.2.2.1 (fun H locs hR hS => ?_)
          have hw := hw.2.2.2
          obtain ⟨S_18, eS_18⟩ : ∃ z, z = (sA S b_16 (Int32.toNatClampNeg x2) x3) := ⟨_, rfl⟩
          rw [← eS_18] at hR
          have hw := hw S_18 eS_18
          refine lv_aload_n hx hb dX0_way_53 rfl (lv_at hl 1 rfl) ?_
          refine x_getR (ci := 0) (C := RX0) (T := TX0) (N := 19) (f := 51) hx hb hts in_X0 hown hK hR rfl 1 (by decide) (hts _ q112) (fun _ h => h) rfl (by decide) dX0_way_54 hw.1 ?_
          have hw := hw.2
          refine lv_iload_n hx hb dX0_way_57 rfl (lv_at hl 3 rfl) ?_
          obtain ⟨b_19, e_20, hw⟩ := hw
          refine x_dr1 e_20 ?_
          refine x_aald (t := 109) hx hb hK hR (by decide) rfl rfl dX0_way_58 hw.1 hw.2.1 ?_
          have hw := hw.2.2
          refine lv_iload_n hx hb dX0_way_59 rfl (lv_at hl 2 rfl) ?_
          refine lv_iload_n hx hb dX0_way_60 rfl (lv_at hl 4 rfl) ?_
          obtain ⟨b_21, e_22, hw⟩ := hw
          refine x_dr2 e_22 ?_
          refine x_zast hx hb hK hR hS dX0_way_61 hw.1 hw.2.1 hw.2.2.1 (fun H locs hR hS => ?_)
          have hw := hw.2.2.2
          obtain ⟨S_23, eS_23⟩ : ∃ z, z = (sA S_18 b_21 (Int32.toNatClampNeg x1) x3) := ⟨_, rfl⟩
          rw [← eS_23] at hR
          have hw := hw S_23 eS_23
          refine lv_iload hx hb dX0_way_62 (lv_at hl 0 rfl) ?_
          exact x_ri hx hb hr hlocks hR hS dX0_way_64 hw
        · refine lv_if_eq (tgt := 41) hx hb dX0_way_34 (by decide) (fun c_24 => ?_) (fun c_24 => ?_)
          · have hw := x_t hw c_24
            refine lv_iconst (v := 0) hx hb dX0_way_41 (by decide) ?_
            exact hJ_13 0 hw ls _ _ hR hS (lv_sub hl [0, 1, 2, 3] rfl)
          · have hw := x_f hw c_24
            refine lv_iconst (v := 1) hx hb dX0_way_37 (by decide) ?_
            refine lv_goto (tgt := 42) hx hb dX0_way_38 (by decide) ?_
            exact hJ_13 1 hw ls _ _ hR hS (lv_sub hl [0, 1, 2, 3] rfl)
      · have hw := x_t hw c_7
        refine lv_bipush (v := (-2)) hx hb dX0_way_23 (by decide) ?_
        exact x_ri hx hb hr hlocks hR hS dX0_way_25 hw
    · have hw := x_t hw c_6
      refine lv_iconst (v := (-1)) hx hb dX0_way_16 (by decide) ?_
      exact x_ri hx hb hr hlocks hR hS dX0_way_17 hw
def w_X0_farFrom (k n : Nat) (S : xH) (o : Nat) (x1 : Int32) (Q : Option Nat → xH → Prop) : Prop := 1 ≤ k ∧ 8 ≤ n ∧ ∀ a_1, xT S a_1 = 0 → nm (sV S a_1 101 8) (fun S_2 : xH => lf2 (fun L_5 (x3_3 : Int32) (S_4 : xH) => wif (8 ≤ x3_3) (lf2 (fun L_9 (x3_7 : Int32) (S_8 : xH) => xT S_8 o = 1 ∧ wif ((xI S_8 50 o) ≤ x3_7) (Q (some a_1) S_8) (lf2 (fun L_13 (x4_11 : Int32) (S_12 : xH) => xT S_12 o = 1 ∧ wif ((xI S_12 50 o) ≤ x4_11) (L_9 (x3_7 + 1) S_12) (lf2 (fun L_17 (x5_15 : Int32) (S_16 : xH) => xT S_16 o = 1 ∧ jn0 (L_13 (x4_11 + 1) S_16) (fun J_18 => wif ((xI S_16 50 o) ≤ x5_15) (J_18) (xT S_16 a_1 = 101 ∧ vp_in x4_11 (xL S_16 a_1) ∧ wif ((xA S_16 a_1 (Int32.toNatClampNeg x4_11)) = x3_7) (xT S_16 o = 1 ∧ ∃ b_21, (xR S_16 51 o) = some b_21 ∧ xT S_16 b_21 = 109 ∧ vp_in x4_11 (xL S_16 b_21) ∧ ∃ b_23, (xQ S_16 b_21 (Int32.toNatClampNeg x4_11)) = some b_23 ∧ xT S_16 b_23 = 102 ∧ vp_in x5_15 (xL S_16 b_23) ∧ jn (fun (v2_25 : Int32) => xT S_16 a_1 = 101 ∧ vp_in x5_15 (xL S_16 a_1) ∧ nm (sA S_16 a_1 (Int32.toNatClampNeg x5_15) v2_25) (fun S_27 : xH => L_17 (x5_15 + 1) S_27)) (fun J_26 => jn0 (xT S_16 a_1 = 101 ∧ vp_in x5_15 (xL S_16 a_1) ∧ J_26 (xA S_16 a_1 (Int32.toNatClampNeg x5_15))) (fun J_28 => wif ((xA S_16 b_23 (Int32.toNatClampNeg x5_15)) = 0) (J_28) (xT S_16 a_1 = 101 ∧ vp_in x5_15 (xL S_16 a_1) ∧ wif ((xA S_16 a_1 (Int32.toNatClampNeg x5_15)) = (-9)) (J_26 (x3_7 + 1)) (J_28))))) (J_18)))) 0 S_12)) 0 S_8)) 0 S_4) (jn (fun (v2_31 : Int32) => xT S_4 a_1 = 101 ∧ vp_in x3_3 (xL S_4 a_1) ∧ nm (sA S_4 a_1 (Int32.toNatClampNeg x3_3) v2_31) (fun S_33 : xH => L_5 (x3_3 + 1) S_33)) (fun J_32 => wif (x3_3 = x1) (J_32 0) (J_32 (-9))))) 0 S_2)
theorem hd_X0_farFrom : yX0_farFrom.cls = "PressedMen" ∧ yX0_farFrom.cls ≠ "java/lang/invoke/MethodHandle" ∧ yX0_farFrom.cls ≠ "java/lang/invoke/VarHandle" ∧ (parseMethodDescriptor yX0_farFrom.desc).map (fun d => d.parameters.length) = some 1 := by decide +kernel
set_option maxHeartbeats 4000000 in
theorem mt_X0_farFrom (l : Launch) {D : va_G} {d : Nat → ClassId} {base : Nat} {mc : va_W} {S : xH} {k n : Nat} {o : Nat} {x1 : Int32} {Q : Option Nat → xH → Prop} (hw : w_X0_farFrom k n S o x1 Q) : Met l yX0_farFrom (ws_ yX0_farFrom cX0_farFrom 6 (some (FieldType.array FieldType.int))) (x_rm 0 k n 0) (x_Pc D d base mc S [.ref o, .int x1]) (x_Qq D d base mc (fun r S' => Q r S')) k n (x_A base) := by
  refine x_met (by decide) (Nat.le_of_ble_eq_true rfl) ?_
  intro p e s m below meth c hx hb hml hr hlocks hown hts hz hR hK hin ls hl
  have hown : s.vm.findClass "PressedMen" = some m.cls := hown
  have hl : lv_has ls 6 [(0, .ref o), (1, .int x1)] := hl
  have hS : va_S (x_A base) s.heap s.heap [] := va_S.rf
  have hA : ∀ q : Nat, s.heap.size ≤ q → x_A base q := fun q h => Nat.le_trans hz h
  have hc : 0 + k ≤ k := by omega
  have hs : 0 + n ≤ n := by omega
  unfold w_X0_farFrom at hw
  refine lv_bipush (v := 8) hx hb dX0_farFrom_0 (by decide) ?_
  obtain ⟨h1, h2, hw⟩ := hw
  refine x_newa (atype := .int) (t := 101) (N' := 8) hx hb rfl (by decide) (by decide) rfl rfl (fun _ => rfl) (hts _ q173) hK hR hS hA dX0_farFrom_2 (by decide) (by decide) (by decide) (by show _ ≤ k; omega) (by show _ ≤ n; omega) (fun a_1 H hf hR hS => ?_)
  have hw := hw a_1 hf
  have hc : (0 + 1) + (k - 1) ≤ k := by omega
  have hs : (0 + 8) + (n - 8) ≤ n := by omega
  obtain ⟨S_2, eS_2⟩ : ∃ z, z = (sV S a_1 101 8) := ⟨_, rfl⟩
  rw [← eS_2] at hR
  have hw := hw S_2 eS_2
  refine lv_astore_n (lv' := [(2, .ref a_1), (0, .ref o), (1, .int x1)]) hx hb dX0_farFrom_4 rfl hl (by decide) rfl (fun ls hl => ?_)
  refine lv_iconst (v := 0) hx hb dX0_farFrom_5 (by decide) ?_
  refine lv_istore_n (lv' := [(3, .int 0), (2, .ref a_1), (0, .ref o), (1, .int x1)]) hx hb dX0_farFrom_6 rfl hl (by decide) rfl (fun ls hl => ?_)
  refine x_lf2 (G := fun (x3_3 : Int32) (S_4 : xH) => ∀ (ls : Array Slot) (H : Heap) (locs : List Loc) (cK nK : Nat), cK + (k - 1) ≤ k → nK + (n - 8) ≤ n → x_Rp D d (x_A base) mc S_4 H → va_S (x_A base) s.heap H locs → lv_has ls 6 [(0, .ref o), (1, .int x1), (2, .ref a_1), (3, .int x3_3)] → W p l e (x_rm 0 k n 0) s m ([.ref o, .int x1] : List Value).toArray below meth c H locs cK nK (MQ below (x_Qq D d base mc (fun r S' => Q r S')) ([.ref o, .int x1] : List Value).toArray s k n (x_A base)) (F0 m 7 ls [])) hw (fun x3_3 S_4 hw => ?_) ls _ _ _ _ hc hs hR hS (lv_sub hl [2, 3, 1, 0] rfl)
  intro ls H locs cK nK hc hs hR hS hl
  refine lv_iload_n hx hb dX0_farFrom_7 rfl (lv_at hl 3 rfl) ?_
  refine lv_bipush (v := 8) hx hb dX0_farFrom_8 (by decide) ?_
  refine lv_icmp_ge (tgt := 33) hx hb dX0_farFrom_10 (by decide) (fun c_6 => ?_) (fun c_6 => ?_)
  · have hw := x_t hw c_6
    refine lv_iconst (v := 0) hx hb dX0_farFrom_33 (by decide) ?_
    refine lv_istore_n (lv' := [(3, .int 0), (0, .ref o), (1, .int x1), (2, .ref a_1)]) hx hb dX0_farFrom_34 rfl hl (by decide) rfl (fun ls hl => ?_)
    refine x_lf2 (G := fun (x3_7 : Int32) (S_8 : xH) => ∀ (ls : Array Slot) (H : Heap) (locs : List Loc) (cK nK : Nat), cK + (k - 1) ≤ k → nK + (n - 8) ≤ n → x_Rp D d (x_A base) mc S_8 H → va_S (x_A base) s.heap H locs → lv_has ls 6 [(0, .ref o), (2, .ref a_1), (3, .int x3_7)] → W p l e (x_rm 0 k n 0) s m ([.ref o, .int x1] : List Value).toArray below meth c H locs cK nK (MQ below (x_Qq D d base mc (fun r S' => Q r S')) ([.ref o, .int x1] : List Value).toArray s k n (x_A base)) (F0 m 35 ls [])) hw (fun x3_7 S_8 hw => ?_) ls _ _ _ _ hc hs hR hS (lv_sub hl [1, 3, 0] rfl)
    intro ls H locs cK nK hc hs hR hS hl
    refine lv_iload_n hx hb dX0_farFrom_35 rfl (lv_at hl 2 rfl) ?_
    refine lv_aload_n hx hb dX0_farFrom_36 rfl (lv_at hl 0 rfl) ?_
    refine x_getI (ci := 0) (C := RX0) (T := TX0) (N := 19) (f := 50) hx hb hts in_X0 hown hK hR rfl 0 (by decide) (hts _ q110) (fun _ h => h) rfl (by decide) dX0_farFrom_37 hw.1 ?_
    have hw := hw.2
    refine lv_icmp_ge (tgt := 129) hx hb dX0_farFrom_40 (by decide) (fun c_10 => ?_) (fun c_10 => ?_)
    · have hw := x_t hw c_10
      refine lv_aload_n hx hb dX0_farFrom_129 rfl (lv_at hl 1 rfl) ?_
      refine W.widen (k := k) (n := n) (by omega) (by omega) ?_
      exact x_rq (r := (some a_1)) hx hb hr (Or.inr ⟨_, rfl⟩) hlocks hR hS dX0_farFrom_130 hw
    · have hw := x_f hw c_10
      refine lv_iconst (v := 0) hx hb dX0_farFrom_43 (by decide) ?_
      refine lv_istore (lv' := [(4, .int 0), (0, .ref o), (2, .ref a_1), (3, .int x3_7)]) hx hb dX0_farFrom_44 hl (by decide) rfl (fun ls hl => ?_)
      refine x_lf2 (G := fun (x4_11 : Int32) (S_12 : xH) => ∀ (ls : Array Slot) (H : Heap) (locs : List Loc) (cK nK : Nat), cK + (k - 1) ≤ k → nK + (n - 8) ≤ n → x_Rp D d (x_A base) mc S_12 H → va_S (x_A base) s.heap H locs → lv_has ls 6 [(0, .ref o), (2, .ref a_1), (3, .int x3_7), (4, .int x4_11)] → W p l e (x_rm 0 k n 0) s m ([.ref o, .int x1] : List Value).toArray below meth c H locs cK nK (MQ below (x_Qq D d base mc (fun r S' => Q r S')) ([.ref o, .int x1] : List Value).toArray s k n (x_A base)) (F0 m 46 ls [])) hw (fun x4_11 S_12 hw => ?_) ls _ _ _ _ hc hs hR hS (lv_sub hl [1, 2, 3, 0] rfl)
      intro ls H locs cK nK hc hs hR hS hl
      refine lv_iload hx hb dX0_farFrom_46 (lv_at hl 3 rfl) ?_
      refine lv_aload_n hx hb dX0_farFrom_48 rfl (lv_at hl 0 rfl) ?_
      refine x_getI (ci := 0) (C := RX0) (T := TX0) (N := 19) (f := 50) hx hb hts in_X0 hown hK hR rfl 0 (by decide) (hts _ q110) (fun _ h => h) rfl (by decide) dX0_farFrom_49 hw.1 ?_
      have hw := hw.2
      refine lv_icmp_ge (tgt := 123) hx hb dX0_farFrom_52 (by decide) (fun c_14 => ?_) (fun c_14 => ?_)
      · have hw := x_t hw c_14
        refine lv_iinc (v := (x3_7 + 1)) (lv' := [(3, .int (x3_7 + 1)), (0, .ref o), (2, .ref a_1), (4, .int x4_11)]) hx hb dX0_farFrom_123 hl (k := 2) rfl rfl (by decide) rfl (fun ls hl => ?_)
        refine lv_goto (tgt := 35) hx hb dX0_farFrom_126 (by decide) ?_
        exact hw ls _ _ _ _ hc hs hR hS (lv_sub hl [1, 2, 0] rfl)
      · have hw := x_f hw c_14
        refine lv_iconst (v := 0) hx hb dX0_farFrom_55 (by decide) ?_
        refine lv_istore (lv' := [(5, .int 0), (0, .ref o), (2, .ref a_1), (3, .int x3_7), (4, .int x4_11)]) hx hb dX0_farFrom_56 hl (by decide) rfl (fun ls hl => ?_)
        refine x_lf2 (G := fun (x5_15 : Int32) (S_16 : xH) => ∀ (ls : Array Slot) (H : Heap) (locs : List Loc) (cK nK : Nat), cK + (k - 1) ≤ k → nK + (n - 8) ≤ n → x_Rp D d (x_A base) mc S_16 H → va_S (x_A base) s.heap H locs → lv_has ls 6 [(0, .ref o), (2, .ref a_1), (3, .int x3_7), (4, .int x4_11), (5, .int x5_15)] → W p l e (x_rm 0 k n 0) s m ([.ref o, .int x1] : List Value).toArray below meth c H locs cK nK (MQ below (x_Qq D d base mc (fun r S' => Q r S')) ([.ref o, .int x1] : List Value).toArray s k n (x_A base)) (F0 m 58 ls [])) hw (fun x5_15 S_16 hw => ?_) ls _ _ _ _ hc hs hR hS (lv_sub hl [1, 2, 3, 4, 0] rfl)
        intro ls H locs cK nK hc hs hR hS hl
        refine lv_iload hx hb dX0_farFrom_58 (lv_at hl 4 rfl) ?_
        refine lv_aload_n hx hb dX0_farFrom_60 rfl (lv_at hl 0 rfl) ?_
        refine x_getI (ci := 0) (C := RX0) (T := TX0) (N := 19) (f := 50) hx hb hts in_X0 hown hK hR rfl 0 (by decide) (hts _ q110) (fun _ h => h) rfl (by decide) dX0_farFrom_61 hw.1 ?_
        have hw := hw.2
        refine x_jn0 (G := ∀ (ls : Array Slot) (H : Heap) (locs : List Loc) (cK nK : Nat), cK + (k - 1) ≤ k → nK + (n - 8) ≤ n → x_Rp D d (x_A base) mc S_16 H → va_S (x_A base) s.heap H locs → lv_has ls 6 [(0, .ref o), (2, .ref a_1), (3, .int x3_7), (4, .int x4_11)] → W p l e (x_rm 0 k n 0) s m ([.ref o, .int x1] : List Value).toArray below meth c H locs cK nK (MQ below (x_Qq D d base mc (fun r S' => Q r S')) ([.ref o, .int x1] : List Value).toArray s k n (x_A base)) (F0 m 117 ls [])) hw (fun hw => ?_) (fun hJ_18 hw => ?_)
        · intro ls H locs cK nK hc hs hR hS hl
          refine lv_iinc (v := (x4_11 + 1)) (lv' := [(4, .int (x4_11 + 1)), (0, .ref o), (2, .ref a_1), (3, .int x3_7)]) hx hb dX0_farFrom_117 hl (k := 3) rfl rfl (by decide) rfl (fun ls hl => ?_)
          refine lv_goto (tgt := 46) hx hb dX0_farFrom_120 (by decide) ?_
          exact hw ls _ _ _ _ hc hs hR hS (lv_sub hl [1, 2, 3, 0] rfl)
        · refine lv_icmp_ge (tgt := 117) hx hb dX0_farFrom_64 (by decide) (fun c_19 => ?_) (fun c_19 => ?_)
          · have hw := x_t hw c_19
            exact hJ_18  hw ls _ _ _ _ hc hs hR hS (lv_sub hl [0, 1, 2, 3] rfl)
          · have hw := x_f hw c_19
            refine lv_aload_n hx hb dX0_farFrom_67 rfl (lv_at hl 1 rfl) ?_
            refine lv_iload hx hb dX0_farFrom_68 (lv_at hl 3 rfl) ?_
            refine x_iald hx hb hK hR dX0_farFrom_70 hw.1 hw.2.1 ?_
            have hw := hw.2.2
            refine lv_iload_n hx hb dX0_farFrom_71 rfl (lv_at hl 2 rfl) ?_
            refine lv_icmp_ne (tgt := 117) hx hb dX0_farFrom_72 (by decide) (fun c_20 => ?_) (fun c_20 => ?_)
            · have hw := x_f hw c_20
              exact hJ_18  hw ls _ _ _ _ hc hs hR hS (lv_sub hl [0, 1, 2, 3] rfl)
            · have hw := x_t hw c_20
              refine lv_aload_n hx hb dX0_farFrom_75 rfl (lv_at hl 1 rfl) ?_
              refine lv_iload hx hb dX0_farFrom_76 (lv_at hl 4 rfl) ?_
              refine lv_aload_n hx hb dX0_farFrom_78 rfl (lv_at hl 0 rfl) ?_
              refine x_getR (ci := 0) (C := RX0) (T := TX0) (N := 19) (f := 51) hx hb hts in_X0 hown hK hR rfl 1 (by decide) (hts _ q112) (fun _ h => h) rfl (by decide) dX0_farFrom_79 hw.1 ?_
              have hw := hw.2
              refine lv_iload hx hb dX0_farFrom_82 (lv_at hl 3 rfl) ?_
              obtain ⟨b_21, e_22, hw⟩ := hw
              refine x_dr1 e_22 ?_
              refine x_aald (t := 109) hx hb hK hR (by decide) rfl rfl dX0_farFrom_84 hw.1 hw.2.1 ?_
              have hw := hw.2.2
              refine lv_iload hx hb dX0_farFrom_85 (lv_at hl 4 rfl) ?_
              obtain ⟨b_23, e_24, hw⟩ := hw
              refine x_dr1 e_24 ?_
              refine x_zald hx hb hK hR dX0_farFrom_87 hw.1 hw.2.1 ?_
              have hw := hw.2.2
              refine x_jn (G := fun (v2_25 : Int32) => ∀ (ls : Array Slot) (H : Heap) (locs : List Loc) (cK nK : Nat), cK + (k - 1) ≤ k → nK + (n - 8) ≤ n → x_Rp D d (x_A base) mc S_16 H → va_S (x_A base) s.heap H locs → lv_has ls 6 [(0, .ref o), (2, .ref a_1), (3, .int x3_7), (4, .int x4_11), (5, .int x5_15)] → W p l e (x_rm 0 k n 0) s m ([.ref o, .int x1] : List Value).toArray below meth c H locs cK nK (MQ below (x_Qq D d base mc (fun r S' => Q r S')) ([.ref o, .int x1] : List Value).toArray s k n (x_A base)) (F0 m 110 ls [.int v2_25, .int x5_15, .ref a_1])) hw (fun v2_25 hw => ?_) (fun hJ_26 hw => ?_)
              · intro ls H locs cK nK hc hs hR hS hl
                refine x_iast hx hb hK hR hS dX0_farFrom_110 hw.1 hw.2.1 (fun H locs hR hS => ?_)
                have hw := hw.2.2
                obtain ⟨S_27, eS_27⟩ : ∃ z, z = (sA S_16 a_1 (Int32.toNatClampNeg x5_15) v2_25) := ⟨_, rfl⟩
                rw [← eS_27] at hR
                have hw := hw S_27 eS_27
                refine lv_iinc (v := (x5_15 + 1)) (lv' := [(5, .int (x5_15 + 1)), (0, .ref o), (2, .ref a_1), (3, .int x3_7), (4, .int x4_11)]) hx hb dX0_farFrom_111 hl (k := 4) rfl rfl (by decide) rfl (fun ls hl => ?_)
                refine lv_goto (tgt := 58) hx hb dX0_farFrom_114 (by decide) ?_
                exact hw ls _ _ _ _ hc hs hR hS (lv_sub hl [1, 2, 3, 4, 0] rfl)
              · refine x_jn0 (G := ∀ (ls : Array Slot) (H : Heap) (locs : List Loc) (cK nK : Nat), cK + (k - 1) ≤ k → nK + (n - 8) ≤ n → x_Rp D d (x_A base) mc S_16 H → va_S (x_A base) s.heap H locs → lv_has ls 6 [(0, .ref o), (2, .ref a_1), (3, .int x3_7), (4, .int x4_11), (5, .int x5_15)] → W p l e (x_rm 0 k n 0) s m ([.ref o, .int x1] : List Value).toArray below meth c H locs cK nK (MQ below (x_Qq D d base mc (fun r S' => Q r S')) ([.ref o, .int x1] : List Value).toArray s k n (x_A base)) (F0 m 106 ls [.int x5_15, .ref a_1])) hw (fun hw => ?_) (fun hJ_28 hw => ?_)
                · intro ls H locs cK nK hc hs hR hS hl
                  refine lv_aload_n hx hb dX0_farFrom_106 rfl (lv_at hl 1 rfl) ?_
                  refine lv_iload hx hb dX0_farFrom_107 (lv_at hl 4 rfl) ?_
                  refine x_iald hx hb hK hR dX0_farFrom_109 hw.1 hw.2.1 ?_
                  have hw := hw.2.2
                  exact hJ_26 (xA S_16 a_1 (Int32.toNatClampNeg x5_15)) hw ls _ _ _ _ hc hs hR hS (lv_sub hl [0, 1, 2, 3, 4] rfl)
                · refine lv_if_eq (tgt := 106) hx hb dX0_farFrom_88 (by decide) (fun c_29 => ?_) (fun c_29 => ?_)
                  · have hw := x_t hw c_29
                    exact hJ_28  hw ls _ _ _ _ hc hs hR hS (lv_sub hl [0, 1, 2, 3, 4] rfl)
                  · have hw := x_f hw c_29
                    refine lv_aload_n hx hb dX0_farFrom_91 rfl (lv_at hl 1 rfl) ?_
                    refine lv_iload hx hb dX0_farFrom_92 (lv_at hl 4 rfl) ?_
                    refine x_iald hx hb hK hR dX0_farFrom_94 hw.1 hw.2.1 ?_
                    have hw := hw.2.2
                    refine lv_bipush (v := (-9)) hx hb dX0_farFrom_95 (by decide) ?_
                    refine lv_icmp_ne (tgt := 106) hx hb dX0_farFrom_97 (by decide) (fun c_30 => ?_) (fun c_30 => ?_)
                    · have hw := x_f hw c_30
                      exact hJ_28  hw ls _ _ _ _ hc hs hR hS (lv_sub hl [0, 1, 2, 3, 4] rfl)
                    · have hw := x_t hw c_30
                      refine lv_iload_n hx hb dX0_farFrom_100 rfl (lv_at hl 2 rfl) ?_
                      refine lv_iconst (v := 1) hx hb dX0_farFrom_101 (by decide) ?_
                      refine lv_iadd hx hb dX0_farFrom_102 ?_
                      refine lv_goto (tgt := 110) hx hb dX0_farFrom_103 (by decide) ?_
                      exact hJ_26 (x3_7 + 1) hw ls _ _ _ _ hc hs hR hS (lv_sub hl [0, 1, 2, 3, 4] rfl)
  · have hw := x_f hw c_6
    refine lv_aload_n hx hb dX0_farFrom_13 rfl (lv_at hl 2 rfl) ?_
    refine lv_iload_n hx hb dX0_farFrom_14 rfl (lv_at hl 3 rfl) ?_
    refine lv_iload_n hx hb dX0_farFrom_15 rfl (lv_at hl 3 rfl) ?_
    refine lv_iload_n hx hb dX0_farFrom_16 rfl (lv_at hl 1 rfl) ?_
    refine x_jn (G := fun (v2_31 : Int32) => ∀ (ls : Array Slot) (H : Heap) (locs : List Loc) (cK nK : Nat), cK + (k - 1) ≤ k → nK + (n - 8) ≤ n → x_Rp D d (x_A base) mc S_4 H → va_S (x_A base) s.heap H locs → lv_has ls 6 [(0, .ref o), (1, .int x1), (2, .ref a_1), (3, .int x3_3)] → W p l e (x_rm 0 k n 0) s m ([.ref o, .int x1] : List Value).toArray below meth c H locs cK nK (MQ below (x_Qq D d base mc (fun r S' => Q r S')) ([.ref o, .int x1] : List Value).toArray s k n (x_A base)) (F0 m 26 ls [.int v2_31, .int x3_3, .ref a_1])) hw (fun v2_31 hw => ?_) (fun hJ_32 hw => ?_)
    · intro ls H locs cK nK hc hs hR hS hl
      refine x_iast hx hb hK hR hS dX0_farFrom_26 hw.1 hw.2.1 (fun H locs hR hS => ?_)
      have hw := hw.2.2
      obtain ⟨S_33, eS_33⟩ : ∃ z, z = (sA S_4 a_1 (Int32.toNatClampNeg x3_3) v2_31) := ⟨_, rfl⟩
      rw [← eS_33] at hR
      have hw := hw S_33 eS_33
      refine lv_iinc (v := (x3_3 + 1)) (lv' := [(3, .int (x3_3 + 1)), (0, .ref o), (1, .int x1), (2, .ref a_1)]) hx hb dX0_farFrom_27 hl (k := 3) rfl rfl (by decide) rfl (fun ls hl => ?_)
      refine lv_goto (tgt := 7) hx hb dX0_farFrom_30 (by decide) ?_
      exact hw ls _ _ _ _ hc hs hR hS (lv_sub hl [1, 2, 3, 0] rfl)
    · refine lv_icmp_ne (tgt := 24) hx hb dX0_farFrom_17 (by decide) (fun c_34 => ?_) (fun c_34 => ?_)
      · have hw := x_f hw c_34
        refine lv_bipush (v := (-9)) hx hb dX0_farFrom_24 (by decide) ?_
        exact hJ_32 (-9) hw ls _ _ _ _ hc hs hR hS (lv_sub hl [0, 1, 2, 3] rfl)
      · have hw := x_t hw c_34
        refine lv_iconst (v := 0) hx hb dX0_farFrom_20 (by decide) ?_
        refine lv_goto (tgt := 26) hx hb dX0_farFrom_21 (by decide) ?_
        exact hJ_32 0 hw ls _ _ _ _ hc hs hR hS (lv_sub hl [0, 1, 2, 3] rfl)
def w_X0_far (k n : Nat) (S : xH) (o : Nat) (x1 : Int32) (x2 : Int32) (Q : Int32 → xH → Prop) : Prop := xT S o = 1 ∧ w_X0_isStreet S o x1 (fun (r_1 : Int32) => wif (r_1 = 0) (Q (-1) S) (xT S o = 1 ∧ w_X0_isStreet S o x2 (fun (r_4 : Int32) => wif (r_4 = 0) (Q (-1) S) (xT S o = 1 ∧ ∃ k_7 n_8, k_7 ≤ k ∧ n_8 ≤ n ∧ w_X0_farFrom k_7 n_8 S o x1 (fun (r_9 : Option Nat) (S_10 : xH) => ∃ b_11, r_9 = some b_11 ∧ xT S_10 b_11 = 101 ∧ vp_in x2 (xL S_10 b_11) ∧ Q (xA S_10 b_11 (Int32.toNatClampNeg x2)) S_10)))))
theorem hd_X0_far : yX0_far.cls = "PressedMen" ∧ yX0_far.cls ≠ "java/lang/invoke/MethodHandle" ∧ yX0_far.cls ≠ "java/lang/invoke/VarHandle" ∧ (parseMethodDescriptor yX0_far.desc).map (fun d => d.parameters.length) = some 2 := by decide +kernel
set_option maxHeartbeats 4000000 in
theorem mt_X0_far (l : Launch) {D : va_G} {d : Nat → ClassId} {base : Nat} {mc : va_W} {S : xH} {k n : Nat} {o : Nat} {x1 : Int32} {x2 : Int32} {Q : Int32 → xH → Prop} (hw : w_X0_far k n S o x1 x2 Q) : Met l yX0_far (ws_ yX0_far cX0_far 3 (some FieldType.int)) (x_rm 2 k n 43) (x_Pc D d base mc S [.ref o, .int x1, .int x2]) (x_Qi D d base mc (fun r S' => Q r S')) k n (x_A base) := by
  refine x_met (by decide) (Nat.le_of_ble_eq_true rfl) ?_
  intro p e s m below meth c hx hb hml hr hlocks hown hts hz hR hK hin ls hl
  have hown : s.vm.findClass "PressedMen" = some m.cls := hown
  have hl : lv_has ls 3 [(0, .ref o), (1, .int x1), (2, .int x2)] := hl
  have hS : va_S (x_A base) s.heap s.heap [] := va_S.rf
  have hA : ∀ q : Nat, s.heap.size ≤ q → x_A base q := fun q h => Nat.le_trans hz h
  have hc : 0 + k ≤ k := by omega
  have hs : 0 + n ≤ n := by omega
  unfold w_X0_far at hw
  refine lv_aload_n hx hb dX0_far_0 rfl (lv_at hl 0 rfl) ?_
  refine lv_iload_n hx hb dX0_far_1 rfl (lv_at hl 1 rfl) ?_
  obtain ⟨ha, hw⟩ := hw
  refine x_ci (va_runV (As := [.int x1]) (rest := []) ⟨hx, hb, hml, hown, hts⟩ (mt_X0_isStreet l hw) (cwV 1 hts (lw_V q181 q183 qs0 q64 q184) rfl rfl rfl hd_X0_isStreet ⟨Nat.le_of_ble_eq_true rfl, Nat.le_of_ble_eq_true rfl⟩) ⟨x_Pc_blind, hR.recv hK (ci := 0) rfl (by decide) ha, x_Pc_pre hR hz hS hK⟩ rfl rfl hl.1 rfl (lv_room (Nat.le_of_ble_eq_true rfl)) dX0_far_2 ⟨by show _ ≤ k; omega, by show _ ≤ n; omega⟩) hS (fun r_1 S_2 H locs hp hR hS => ?_)
  have hw := hp.2
  rw [hp.1] at hR
  refine lv_if_eq (tgt := 26) hx hb dX0_far_5 (by decide) (fun c_3 => ?_) (fun c_3 => ?_)
  · have hw := x_t hw c_3
    refine lv_iconst (v := (-1)) hx hb dX0_far_26 (by decide) ?_
    refine W.widen (k := k) (n := n) (by omega) (by omega) ?_
    exact x_ri hx hb hr hlocks hR hS dX0_far_27 hw
  · have hw := x_f hw c_3
    refine lv_aload_n hx hb dX0_far_8 rfl (lv_at hl 0 rfl) ?_
    refine lv_iload_n hx hb dX0_far_9 rfl (lv_at hl 2 rfl) ?_
    obtain ⟨ha, hw⟩ := hw
    refine x_ci (va_runV (As := [.int x2]) (rest := []) ⟨hx, hb, hml, hown, hts⟩ (mt_X0_isStreet l hw) (cwV 1 hts (lw_V q181 q183 qs0 q64 q184) rfl rfl rfl hd_X0_isStreet ⟨Nat.le_of_ble_eq_true rfl, Nat.le_of_ble_eq_true rfl⟩) ⟨x_Pc_blind, hR.recv hK (ci := 0) rfl (by decide) ha, x_Pc_pre hR hz hS hK⟩ rfl rfl hl.1 rfl (lv_room (Nat.le_of_ble_eq_true rfl)) dX0_far_10 ⟨by show _ ≤ k; omega, by show _ ≤ n; omega⟩) hS (fun r_4 S_5 H locs hp hR hS => ?_)
    have hw := hp.2
    rw [hp.1] at hR
    refine lv_if_eq (tgt := 26) hx hb dX0_far_13 (by decide) (fun c_6 => ?_) (fun c_6 => ?_)
    · have hw := x_t hw c_6
      refine lv_iconst (v := (-1)) hx hb dX0_far_26 (by decide) ?_
      refine W.widen (k := k) (n := n) (by omega) (by omega) ?_
      exact x_ri hx hb hr hlocks hR hS dX0_far_27 hw
    · have hw := x_f hw c_6
      refine lv_aload_n hx hb dX0_far_16 rfl (lv_at hl 0 rfl) ?_
      refine lv_iload_n hx hb dX0_far_17 rfl (lv_at hl 1 rfl) ?_
      obtain ⟨ha, hw⟩ := hw
      obtain ⟨k_7, n_8, h1, h2, hw⟩ := hw
      refine x_cq (va_runV (As := [.int x1]) (rest := []) ⟨hx, hb, hml, hown, hts⟩ (mt_X0_farFrom l hw) (cwV 1 hts (lw_V q193 q195 qs1 q64 q196) rfl rfl rfl hd_X0_farFrom ⟨Nat.le_of_ble_eq_true rfl, Nat.le_of_ble_eq_true rfl⟩) ⟨x_Pc_blind, hR.recv hK (ci := 0) rfl (by decide) ha, x_Pc_pre hR hz hS hK⟩ rfl rfl hl.1 rfl (lv_room (Nat.le_of_ble_eq_true rfl)) dX0_far_18 ⟨by show _ ≤ k; omega, by show _ ≤ n; omega⟩) hS (fun r_9 S_10 H locs hp hR hS => ?_)
      have hw := hp
      have hc : (0 + k_7) + (k - k_7) ≤ k := by omega
      have hs : (0 + n_8) + (n - n_8) ≤ n := by omega
      refine lv_iload_n hx hb dX0_far_21 rfl (lv_at hl 2 rfl) ?_
      obtain ⟨b_11, e_12, hw⟩ := hw
      refine x_dr1 e_12 ?_
      refine x_iald hx hb hK hR dX0_far_22 hw.1 hw.2.1 ?_
      have hw := hw.2.2
      refine lv_goto (tgt := 27) hx hb dX0_far_23 (by decide) ?_
      refine W.widen (k := k) (n := n) (by omega) (by omega) ?_
      exact x_ri hx hb hr hlocks hR hS dX0_far_27 hw
def w_X3_init (S : xH) (o : Nat) (x1 : Int32) (x2 : Int32) (x3 : Option Nat) (Q : xH → Prop) : Prop := xT S o = 4 ∧ nm (sI S 200 o x1) (fun S_1 : xH => xT S_1 o = 4 ∧ nm (sI S_1 201 o x2) (fun S_2 : xH => xT S_2 o = 4 ∧ nm (sR S_2 202 o x3) (fun S_3 : xH => Q S_3)))
theorem hd_X3_init : yX3_init.cls = "PressedMen$Stay" ∧ yX3_init.cls ≠ "java/lang/invoke/MethodHandle" ∧ yX3_init.cls ≠ "java/lang/invoke/VarHandle" ∧ (parseMethodDescriptor yX3_init.desc).map (fun d => d.parameters.length) = some 3 := by decide +kernel
set_option maxHeartbeats 4000000 in
theorem mt_X3_init (l : Launch) {D : va_G} {d : Nat → ClassId} {base : Nat} {mc : va_W} {S : xH} {o : Nat} {x1 : Int32} {x2 : Int32} {x3 : Option Nat} {Q : xH → Prop} (hw : w_X3_init S o x1 x2 x3 Q) : Met l yX3_init (ws_ yX3_init cX3_init 4 none) (x_rm 1 0 0 28) (x_Pc D d base mc S [.ref o, .int x1, .int x2, va_rf x3]) (x_Qv D d base mc (fun S' => Q S')) 0 0 (x_A base) := by
  refine x_met (by decide) (by cases x3 <;> exact Nat.le_of_ble_eq_true rfl) ?_
  intro p e s m below meth c hx hb hml hr hlocks hown hts hz hR hK hin ls hl
  have hown : s.vm.findClass "PressedMen$Stay" = some m.cls := hown
  have hl : lv_has ls 4 [(0, .ref o), (1, .int x1), (2, .int x2), (3, va_rf x3)] := by cases x3 <;> exact hl
  have hS : va_S (x_A base) s.heap s.heap [] := va_S.rf
  unfold w_X3_init at hw
  refine lv_aload_n hx hb dX3_init_0 rfl (lv_at hl 0 rfl) ?_
  refine W.objInit hx hb hown (hts _ q211) (hts _ q93) (hts _ q94) rfl (by rw [hml]; exact hl.1) rfl dX3_init_1 (Nat.le_of_ble_eq_true rfl) (Nat.le_of_ble_eq_true rfl) ?_
  refine W.eq (g2 := F0 m 4 ls []) rfl ?_
  refine lv_aload_n hx hb dX3_init_4 rfl (lv_at hl 0 rfl) ?_
  refine lv_iload_n hx hb dX3_init_5 rfl (lv_at hl 1 rfl) ?_
  refine x_putFI (ci := 3) (C := RX3) (T := TX3) (N := 3) (f := 200) hx hb hts in_X3 tyX3 tyX3_ok nmX3 hown hK hR hS rfl 0 (by decide) (hts _ q212) (fun _ h => h) rfl hin rfl rfl (by decide) rfl rfl dX3_init_6 hw.1 (fun H locs hR hS => ?_)
  have hw := hw.2
  obtain ⟨S_1, eS_1⟩ : ∃ z, z = (sI S 200 o x1) := ⟨_, rfl⟩
  rw [← eS_1] at hR
  have hw := hw S_1 eS_1
  refine lv_aload_n hx hb dX3_init_9 rfl (lv_at hl 0 rfl) ?_
  refine lv_iload_n hx hb dX3_init_10 rfl (lv_at hl 2 rfl) ?_
  refine x_putFI (ci := 3) (C := RX3) (T := TX3) (N := 3) (f := 201) hx hb hts in_X3 tyX3 tyX3_ok nmX3 hown hK hR hS rfl 1 (by decide) (hts _ q215) (fun _ h => h) rfl hin rfl rfl (by decide) rfl rfl dX3_init_11 hw.1 (fun H locs hR hS => ?_)
  have hw := hw.2
  obtain ⟨S_2, eS_2⟩ : ∃ z, z = (sI S_1 201 o x2) := ⟨_, rfl⟩
  rw [← eS_2] at hR
  have hw := hw S_2 eS_2
  refine lv_aload_n hx hb dX3_init_14 rfl (lv_at hl 0 rfl) ?_
  refine x_aload_n hx hb dX3_init_15 rfl (lv_at hl 3 rfl) ?_
  refine x_putFR (ci := 3) (C := RX3) (T := TX3) (N := 3) (f := 202) (r := x3) hx hb hts in_X3 tyX3 tyX3_ok nmX3 hown hK hR hS rfl 2 (by decide) (hts _ q218) (fun _ h => h) rfl hin rfl rfl (by decide) (x_rn _ _) (x_rf _ _) dX3_init_16 hw.1 (fun H locs hR hS => ?_)
  have hw := hw.2
  obtain ⟨S_3, eS_3⟩ : ∃ z, z = (sR S_2 202 o x3) := ⟨_, rfl⟩
  rw [← eS_3] at hR
  have hw := hw S_3 eS_3
  exact x_rv hx hb hr hlocks hR hS dX3_init_19 hw
def w_X2_init (k n : Nat) (S : xH) (o : Nat) (x1 : Nat) (Q : xH → Prop) : Prop := xT S o = 3 ∧ nm (sR S 150 o (some x1)) (fun S_1 : xH => 1 ≤ k ∧ 3 ≤ n ∧ ∀ a_2, xT S_1 a_2 = 0 → nm (sN S_1 a_2 4) (fun S_3 : xH => xT S_3 x1 = 101 ∧ vp_in 6 (xL S_3 x1) ∧ w_X3_init S_3 a_2 (-1) (xA S_3 x1 (Int32.toNatClampNeg 6)) none (fun (S_4 : xH) => xT S_4 o = 3 ∧ nm (sR S_4 152 o (some a_2)) (fun S_5 : xH => Q S_5))))
theorem hd_X2_init : yX2_init.cls = "PressedMen$Man" ∧ yX2_init.cls ≠ "java/lang/invoke/MethodHandle" ∧ yX2_init.cls ≠ "java/lang/invoke/VarHandle" ∧ (parseMethodDescriptor yX2_init.desc).map (fun d => d.parameters.length) = some 1 := by decide +kernel
set_option maxHeartbeats 4000000 in
theorem mt_X2_init (l : Launch) {D : va_G} {d : Nat → ClassId} {base : Nat} {mc : va_W} {S : xH} {k n : Nat} {o : Nat} {x1 : Nat} {Q : xH → Prop} (hw : w_X2_init k n S o x1 Q) : Met l yX2_init (ws_ yX2_init cX2_init 2 none) (x_rm 2 k n 51) (x_Pc D d base mc S [.ref o, .ref x1]) (x_Qv D d base mc (fun S' => Q S')) k n (x_A base) := by
  refine x_met (by decide) (Nat.le_of_ble_eq_true rfl) ?_
  intro p e s m below meth c hx hb hml hr hlocks hown hts hz hR hK hin ls hl
  have hown : s.vm.findClass "PressedMen$Man" = some m.cls := hown
  have hl : lv_has ls 2 [(0, .ref o), (1, .ref x1)] := hl
  have hS : va_S (x_A base) s.heap s.heap [] := va_S.rf
  have hA : ∀ q : Nat, s.heap.size ≤ q → x_A base q := fun q h => Nat.le_trans hz h
  have hc : 0 + k ≤ k := by omega
  have hs : 0 + n ≤ n := by omega
  unfold w_X2_init at hw
  refine lv_aload_n hx hb dX2_init_0 rfl (lv_at hl 0 rfl) ?_
  refine W.objInit hx hb hown (hts _ q205) (hts _ q93) (hts _ q94) rfl (by rw [hml]; exact hl.1) rfl dX2_init_1 (Nat.le_of_ble_eq_true rfl) (Nat.le_of_ble_eq_true rfl) ?_
  refine W.eq (g2 := F0 m 4 ls []) rfl ?_
  refine lv_aload_n hx hb dX2_init_4 rfl (lv_at hl 0 rfl) ?_
  refine lv_aload_n hx hb dX2_init_5 rfl (lv_at hl 1 rfl) ?_
  refine x_putFR (ci := 2) (C := RX2) (T := TX2) (N := 5) (f := 150) (r := (some x1)) hx hb hts in_X2 tyX2 tyX2_ok nmX2 hown hK hR hS rfl 0 (by decide) (hts _ q227) (fun _ h => h) rfl hin rfl rfl (by decide) (x_rnA _ _) (x_rfA _ _) dX2_init_6 hw.1 (fun H locs hR hS => ?_)
  have hw := hw.2
  obtain ⟨S_1, eS_1⟩ : ∃ z, z = (sR S 150 o (some x1)) := ⟨_, rfl⟩
  rw [← eS_1] at hR
  have hw := hw S_1 eS_1
  refine lv_aload_n hx hb dX2_init_9 rfl (lv_at hl 0 rfl) ?_
  obtain ⟨h1, h2, hw⟩ := hw
  refine x_new (ci := 3) (C := RX3) (T := TX3) (N := 3) hx hb hts in_X3 tyX3 tyX3_ok hown (hts _ q206) (hts _ q207) (hts _ q67) hK hR hS hA rfl (by decide) dfX3 dX2_init_10 (by show _ ≤ k; omega) (by show _ ≤ n; omega) (fun a_2 H hf hR hS => ?_)
  have hw := hw a_2 hf
  have hc : (0 + 1) + (k - 1) ≤ k := by omega
  have hs : (0 + 3) + (n - 3) ≤ n := by omega
  obtain ⟨S_3, eS_3⟩ : ∃ z, z = (sN S_1 a_2 4) := ⟨_, rfl⟩
  rw [← eS_3] at hR
  have hw := hw S_3 eS_3
  refine lv_dup hx hb dX2_init_13 rfl ?_
  refine lv_iconst (v := (-1)) hx hb dX2_init_14 (by decide) ?_
  refine lv_aload_n hx hb dX2_init_15 rfl (lv_at hl 1 rfl) ?_
  refine lv_bipush (v := 6) hx hb dX2_init_16 (by decide) ?_
  refine x_iald hx hb hK hR dX2_init_18 hw.1 hw.2.1 ?_
  have hw := hw.2.2
  refine lv_null hx hb dX2_init_19 ?_
  refine x_cv (va_runI (As := [.int (-1), .int (xA S_3 x1 (Int32.toNatClampNeg 6)), va_rf none]) (rest := [.ref a_2, .ref o]) ⟨hx, hb, hml, hown, hts⟩ (mt_X3_init l hw) (cwI 3 hts (lw_meth q210) rfl rfl rfl (hts _ q67) (hts _ q208) (hts _ q209) rfl hd_X3_init.2 ⟨Nat.le_of_ble_eq_true rfl, Nat.le_of_ble_eq_true rfl⟩) ⟨x_Pc_blind, x_Pc_pre hR hz hS hK⟩ rfl rfl hl.1 rfl (lv_room (Nat.le_of_ble_eq_true rfl)) dX2_init_20 ⟨by show _ ≤ k; omega, by show _ ≤ n; omega⟩) hS (fun S_4 H locs hp hR hS => ?_)
  have hw := hp
  refine x_putR (ci := 2) (C := RX2) (T := TX2) (N := 5) (f := 152) (r := (some a_2)) hx hb hts in_X2 tyX2 tyX2_ok nmX2 hown hK hR hS rfl 2 (by decide) (hts _ q232) (fun _ h => h) rfl rfl (by decide) (x_rn _ _) (x_rf _ _) dX2_init_23 hw.1 (fun H locs hR hS => ?_)
  have hw := hw.2
  obtain ⟨S_5, eS_5⟩ : ∃ z, z = (sR S_4 152 o (some a_2)) := ⟨_, rfl⟩
  rw [← eS_5] at hR
  have hw := hw S_5 eS_5
  refine W.widen (k := k) (n := n) (by omega) (by omega) ?_
  exact x_rv hx hb hr hlocks hR hS dX2_init_26 hw
def w_X0_man (k n : Nat) (S : xH) (o : Nat) (x1 : Int32) (x2 : Int32) (x3 : Int32) (x4 : Int32) (x5 : Int32) (x6 : Int32) (x7 : Int32) (Q : Int32 → xH → Prop) : Prop := xT S o = 1 ∧ w_X0_isStreet S o x7 (fun (r_1 : Int32) => wif (r_1 = 0) (Q (-1) S) (w_X0_isIn S x1 10 60 (fun (r_4 : Int32) => wif (r_4 = 0) (Q (-2) S) (w_X0_isIn S x2 0 3 (fun (r_7 : Int32) => wif (r_7 = 0) (Q (-2) S) (w_X0_isIn S x3 0 3 (fun (r_10 : Int32) => wif (r_10 = 0) (Q (-2) S) (w_X0_isIn S x4 50 80 (fun (r_13 : Int32) => wif (r_13 = 0) (Q (-2) S) (w_X0_isIn S x5 0 5 (fun (r_16 : Int32) => wif (r_16 = 0) (Q (-2) S) (w_X0_isIn S x6 0 40 (fun (r_19 : Int32) => wif (r_19 = 0) (Q (-2) S) (xT S o = 1 ∧ wif ((xI S 53 o) = 40) (Q (-4) S) (1 ≤ k ∧ 7 ≤ n ∧ ∀ a_23, xT S a_23 = 0 → nm (sV S a_23 101 7) (fun S_24 : xH => xT S_24 a_23 = 101 ∧ vp_in 0 (xL S_24 a_23) ∧ nm (sA S_24 a_23 (Int32.toNatClampNeg 0) x1) (fun S_25 : xH => xT S_25 a_23 = 101 ∧ vp_in 1 (xL S_25 a_23) ∧ nm (sA S_25 a_23 (Int32.toNatClampNeg 1) x2) (fun S_26 : xH => xT S_26 a_23 = 101 ∧ vp_in 2 (xL S_26 a_23) ∧ nm (sA S_26 a_23 (Int32.toNatClampNeg 2) x3) (fun S_27 : xH => xT S_27 a_23 = 101 ∧ vp_in 3 (xL S_27 a_23) ∧ nm (sA S_27 a_23 (Int32.toNatClampNeg 3) x4) (fun S_28 : xH => xT S_28 a_23 = 101 ∧ vp_in 4 (xL S_28 a_23) ∧ nm (sA S_28 a_23 (Int32.toNatClampNeg 4) x5) (fun S_29 : xH => xT S_29 a_23 = 101 ∧ vp_in 5 (xL S_29 a_23) ∧ nm (sA S_29 a_23 (Int32.toNatClampNeg 5) x6) (fun S_30 : xH => xT S_30 a_23 = 101 ∧ vp_in 6 (xL S_30 a_23) ∧ nm (sA S_30 a_23 (Int32.toNatClampNeg 6) x7) (fun S_31 : xH => xT S_31 o = 1 ∧ xT S_31 o = 1 ∧ 1 ≤ (k - 1) ∧ 5 ≤ (n - 7) ∧ ∀ a_32, xT S_31 a_32 = 0 → nm (sN S_31 a_32 3) (fun S_33 : xH => ∃ k_34 n_35, k_34 ≤ ((k - 1) - 1) ∧ n_35 ≤ ((n - 7) - 5) ∧ w_X2_init k_34 n_35 S_33 a_32 a_23 (fun (S_36 : xH) => ∃ b_37, (xR S_31 52 o) = some b_37 ∧ xT S_36 b_37 = 103 ∧ vp_in (xI S_31 53 o) (xL S_36 b_37) ∧ xT S_36 a_32 = 3 ∧ nm (sQ S_36 b_37 (Int32.toNatClampNeg (xI S_31 53 o)) (some a_32)) (fun S_39 : xH => xT S_39 o = 1 ∧ xT S_39 o = 1 ∧ nm (sI S_39 53 o ((xI S_39 53 o) + 1)) (fun S_40 : xH => xT S_40 o = 1 ∧ Q ((xI S_40 53 o) - 1) S_40)))))))))))))))))))))))))))
theorem hd_X0_man : yX0_man.cls = "PressedMen" ∧ yX0_man.cls ≠ "java/lang/invoke/MethodHandle" ∧ yX0_man.cls ≠ "java/lang/invoke/VarHandle" ∧ (parseMethodDescriptor yX0_man.desc).map (fun d => d.parameters.length) = some 7 := by decide +kernel
set_option maxHeartbeats 4000000 in
theorem mt_X0_man (l : Launch) {D : va_G} {d : Nat → ClassId} {base : Nat} {mc : va_W} {S : xH} {k n : Nat} {o : Nat} {x1 : Int32} {x2 : Int32} {x3 : Int32} {x4 : Int32} {x5 : Int32} {x6 : Int32} {x7 : Int32} {Q : Int32 → xH → Prop} (hw : w_X0_man k n S o x1 x2 x3 x4 x5 x6 x7 Q) : Met l yX0_man (ws_ yX0_man cX0_man 9 (some FieldType.int)) (x_rm 3 k n 72) (x_Pc D d base mc S [.ref o, .int x1, .int x2, .int x3, .int x4, .int x5, .int x6, .int x7]) (x_Qi D d base mc (fun r S' => Q r S')) k n (x_A base) := by
  refine x_met (by decide) (Nat.le_of_ble_eq_true rfl) ?_
  intro p e s m below meth c hx hb hml hr hlocks hown hts hz hR hK hin ls hl
  have hown : s.vm.findClass "PressedMen" = some m.cls := hown
  have hl : lv_has ls 9 [(0, .ref o), (1, .int x1), (2, .int x2), (3, .int x3), (4, .int x4), (5, .int x5), (6, .int x6), (7, .int x7)] := hl
  have hS : va_S (x_A base) s.heap s.heap [] := va_S.rf
  have hA : ∀ q : Nat, s.heap.size ≤ q → x_A base q := fun q h => Nat.le_trans hz h
  have hc : 0 + k ≤ k := by omega
  have hs : 0 + n ≤ n := by omega
  unfold w_X0_man at hw
  refine lv_aload_n hx hb dX0_man_0 rfl (lv_at hl 0 rfl) ?_
  refine lv_iload hx hb dX0_man_1 (lv_at hl 7 rfl) ?_
  obtain ⟨ha, hw⟩ := hw
  refine x_ci (va_runV (As := [.int x7]) (rest := []) ⟨hx, hb, hml, hown, hts⟩ (mt_X0_isStreet l hw) (cwV 1 hts (lw_V q181 q183 qs0 q64 q184) rfl rfl rfl hd_X0_isStreet ⟨Nat.le_of_ble_eq_true rfl, Nat.le_of_ble_eq_true rfl⟩) ⟨x_Pc_blind, hR.recv hK (ci := 0) rfl (by decide) ha, x_Pc_pre hR hz hS hK⟩ rfl rfl hl.1 rfl (lv_room (Nat.le_of_ble_eq_true rfl)) dX0_man_3 ⟨by show _ ≤ k; omega, by show _ ≤ n; omega⟩) hS (fun r_1 S_2 H locs hp hR hS => ?_)
  have hw := hp.2
  rw [hp.1] at hR
  refine lv_if_ne (tgt := 11) hx hb dX0_man_6 (by decide) (fun c_3 => ?_) (fun c_3 => ?_)
  · have hw := x_f hw c_3
    refine lv_iload_n hx hb dX0_man_11 rfl (lv_at hl 1 rfl) ?_
    refine lv_bipush (v := 10) hx hb dX0_man_12 (by decide) ?_
    refine lv_bipush (v := 60) hx hb dX0_man_14 (by decide) ?_
    refine x_ci (va_runS (As := [.int x1, .int 10, .int 60]) (rest := []) ⟨hx, hb, hml, hown, hts⟩ (mt_X0_isIn l hw) (va_cwS 3 hts (lw_S q178 q179 q64 q180) rfl rfl rfl hd_X0_isIn.2 ⟨Nat.le_of_ble_eq_true rfl, Nat.le_of_ble_eq_true rfl⟩) ⟨x_Pc_blind, x_Pc_pre hR hz hS hK⟩ rfl rfl hl.1 rfl (lv_room (Nat.le_of_ble_eq_true rfl)) dX0_man_16 ⟨by show _ ≤ k; omega, by show _ ≤ n; omega⟩) hS (fun r_4 S_5 H locs hp hR hS => ?_)
    have hw := hp.2
    rw [hp.1] at hR
    refine lv_if_eq (tgt := 73) hx hb dX0_man_19 (by decide) (fun c_6 => ?_) (fun c_6 => ?_)
    · have hw := x_t hw c_6
      refine lv_bipush (v := (-2)) hx hb dX0_man_73 (by decide) ?_
      refine W.widen (k := k) (n := n) (by omega) (by omega) ?_
      exact x_ri hx hb hr hlocks hR hS dX0_man_75 hw
    · have hw := x_f hw c_6
      refine lv_iload_n hx hb dX0_man_22 rfl (lv_at hl 2 rfl) ?_
      refine lv_iconst (v := 0) hx hb dX0_man_23 (by decide) ?_
      refine lv_iconst (v := 3) hx hb dX0_man_24 (by decide) ?_
      refine x_ci (va_runS (As := [.int x2, .int 0, .int 3]) (rest := []) ⟨hx, hb, hml, hown, hts⟩ (mt_X0_isIn l hw) (va_cwS 3 hts (lw_S q178 q179 q64 q180) rfl rfl rfl hd_X0_isIn.2 ⟨Nat.le_of_ble_eq_true rfl, Nat.le_of_ble_eq_true rfl⟩) ⟨x_Pc_blind, x_Pc_pre hR hz hS hK⟩ rfl rfl hl.1 rfl (lv_room (Nat.le_of_ble_eq_true rfl)) dX0_man_25 ⟨by show _ ≤ k; omega, by show _ ≤ n; omega⟩) hS (fun r_7 S_8 H locs hp hR hS => ?_)
      have hw := hp.2
      rw [hp.1] at hR
      refine lv_if_eq (tgt := 73) hx hb dX0_man_28 (by decide) (fun c_9 => ?_) (fun c_9 => ?_)
      · have hw := x_t hw c_9
        refine lv_bipush (v := (-2)) hx hb dX0_man_73 (by decide) ?_
        refine W.widen (k := k) (n := n) (by omega) (by omega) ?_
        exact x_ri hx hb hr hlocks hR hS dX0_man_75 hw
      · have hw := x_f hw c_9
        refine lv_iload_n hx hb dX0_man_31 rfl (lv_at hl 3 rfl) ?_
        refine lv_iconst (v := 0) hx hb dX0_man_32 (by decide) ?_
        refine lv_iconst (v := 3) hx hb dX0_man_33 (by decide) ?_
        refine x_ci (va_runS (As := [.int x3, .int 0, .int 3]) (rest := []) ⟨hx, hb, hml, hown, hts⟩ (mt_X0_isIn l hw) (va_cwS 3 hts (lw_S q178 q179 q64 q180) rfl rfl rfl hd_X0_isIn.2 ⟨Nat.le_of_ble_eq_true rfl, Nat.le_of_ble_eq_true rfl⟩) ⟨x_Pc_blind, x_Pc_pre hR hz hS hK⟩ rfl rfl hl.1 rfl (lv_room (Nat.le_of_ble_eq_true rfl)) dX0_man_34 ⟨by show _ ≤ k; omega, by show _ ≤ n; omega⟩) hS (fun r_10 S_11 H locs hp hR hS => ?_)
        have hw := hp.2
        rw [hp.1] at hR
        refine lv_if_eq (tgt := 73) hx hb dX0_man_37 (by decide) (fun c_12 => ?_) (fun c_12 => ?_)
        · have hw := x_t hw c_12
          refine lv_bipush (v := (-2)) hx hb dX0_man_73 (by decide) ?_
          refine W.widen (k := k) (n := n) (by omega) (by omega) ?_
          exact x_ri hx hb hr hlocks hR hS dX0_man_75 hw
        · have hw := x_f hw c_12
          refine lv_iload hx hb dX0_man_40 (lv_at hl 4 rfl) ?_
          refine lv_bipush (v := 50) hx hb dX0_man_42 (by decide) ?_
          refine lv_bipush (v := 80) hx hb dX0_man_44 (by decide) ?_
          refine x_ci (va_runS (As := [.int x4, .int 50, .int 80]) (rest := []) ⟨hx, hb, hml, hown, hts⟩ (mt_X0_isIn l hw) (va_cwS 3 hts (lw_S q178 q179 q64 q180) rfl rfl rfl hd_X0_isIn.2 ⟨Nat.le_of_ble_eq_true rfl, Nat.le_of_ble_eq_true rfl⟩) ⟨x_Pc_blind, x_Pc_pre hR hz hS hK⟩ rfl rfl hl.1 rfl (lv_room (Nat.le_of_ble_eq_true rfl)) dX0_man_46 ⟨by show _ ≤ k; omega, by show _ ≤ n; omega⟩) hS (fun r_13 S_14 H locs hp hR hS => ?_)
          have hw := hp.2
          rw [hp.1] at hR
          refine lv_if_eq (tgt := 73) hx hb dX0_man_49 (by decide) (fun c_15 => ?_) (fun c_15 => ?_)
          · have hw := x_t hw c_15
            refine lv_bipush (v := (-2)) hx hb dX0_man_73 (by decide) ?_
            refine W.widen (k := k) (n := n) (by omega) (by omega) ?_
            exact x_ri hx hb hr hlocks hR hS dX0_man_75 hw
          · have hw := x_f hw c_15
            refine lv_iload hx hb dX0_man_52 (lv_at hl 5 rfl) ?_
            refine lv_iconst (v := 0) hx hb dX0_man_54 (by decide) ?_
            refine lv_iconst (v := 5) hx hb dX0_man_55 (by decide) ?_
            refine x_ci (va_runS (As := [.int x5, .int 0, .int 5]) (rest := []) ⟨hx, hb, hml, hown, hts⟩ (mt_X0_isIn l hw) (va_cwS 3 hts (lw_S q178 q179 q64 q180) rfl rfl rfl hd_X0_isIn.2 ⟨Nat.le_of_ble_eq_true rfl, Nat.le_of_ble_eq_true rfl⟩) ⟨x_Pc_blind, x_Pc_pre hR hz hS hK⟩ rfl rfl hl.1 rfl (lv_room (Nat.le_of_ble_eq_true rfl)) dX0_man_56 ⟨by show _ ≤ k; omega, by show _ ≤ n; omega⟩) hS (fun r_16 S_17 H locs hp hR hS => ?_)
            have hw := hp.2
            rw [hp.1] at hR
            refine lv_if_eq (tgt := 73) hx hb dX0_man_59 (by decide) (fun c_18 => ?_) (fun c_18 => ?_)
            · have hw := x_t hw c_18
              refine lv_bipush (v := (-2)) hx hb dX0_man_73 (by decide) ?_
              refine W.widen (k := k) (n := n) (by omega) (by omega) ?_
              exact x_ri hx hb hr hlocks hR hS dX0_man_75 hw
            · have hw := x_f hw c_18
              refine lv_iload hx hb dX0_man_62 (lv_at hl 6 rfl) ?_
              refine lv_iconst (v := 0) hx hb dX0_man_64 (by decide) ?_
              refine lv_bipush (v := 40) hx hb dX0_man_65 (by decide) ?_
              refine x_ci (va_runS (As := [.int x6, .int 0, .int 40]) (rest := []) ⟨hx, hb, hml, hown, hts⟩ (mt_X0_isIn l hw) (va_cwS 3 hts (lw_S q178 q179 q64 q180) rfl rfl rfl hd_X0_isIn.2 ⟨Nat.le_of_ble_eq_true rfl, Nat.le_of_ble_eq_true rfl⟩) ⟨x_Pc_blind, x_Pc_pre hR hz hS hK⟩ rfl rfl hl.1 rfl (lv_room (Nat.le_of_ble_eq_true rfl)) dX0_man_67 ⟨by show _ ≤ k; omega, by show _ ≤ n; omega⟩) hS (fun r_19 S_20 H locs hp hR hS => ?_)
              have hw := hp.2
              rw [hp.1] at hR
              refine lv_if_ne (tgt := 76) hx hb dX0_man_70 (by decide) (fun c_21 => ?_) (fun c_21 => ?_)
              · have hw := x_f hw c_21
                refine lv_aload_n hx hb dX0_man_76 rfl (lv_at hl 0 rfl) ?_
                refine x_getI (ci := 0) (C := RX0) (T := TX0) (N := 19) (f := 53) hx hb hts in_X0 hown hK hR rfl 3 (by decide) (hts _ q116) (fun _ h => h) rfl (by decide) dX0_man_77 hw.1 ?_
                have hw := hw.2
                refine lv_bipush (v := 40) hx hb dX0_man_80 (by decide) ?_
                refine lv_icmp_ne (tgt := 88) hx hb dX0_man_82 (by decide) (fun c_22 => ?_) (fun c_22 => ?_)
                · have hw := x_f hw c_22
                  refine lv_bipush (v := 7) hx hb dX0_man_88 (by decide) ?_
                  obtain ⟨h1, h2, hw⟩ := hw
                  refine x_newa (atype := .int) (t := 101) (N' := 7) hx hb rfl (by decide) (by decide) rfl rfl (fun _ => rfl) (hts _ q173) hK hR hS hA dX0_man_90 (by decide) (by decide) (by decide) (by show _ ≤ k; omega) (by show _ ≤ n; omega) (fun a_23 H hf hR hS => ?_)
                  have hw := hw a_23 hf
                  have hc : (0 + 1) + (k - 1) ≤ k := by omega
                  have hs : (0 + 7) + (n - 7) ≤ n := by omega
                  obtain ⟨S_24, eS_24⟩ : ∃ z, z = (sV S a_23 101 7) := ⟨_, rfl⟩
                  rw [← eS_24] at hR
                  have hw := hw S_24 eS_24
                  refine lv_dup hx hb dX0_man_92 rfl ?_
                  refine lv_iconst (v := 0) hx hb dX0_man_93 (by decide) ?_
                  refine lv_iload_n hx hb dX0_man_94 rfl (lv_at hl 1 rfl) ?_
                  refine x_iast hx hb hK hR hS dX0_man_95 hw.1 hw.2.1 (fun H locs hR hS => ?_)
                  have hw := hw.2.2
                  obtain ⟨S_25, eS_25⟩ : ∃ z, z = (sA S_24 a_23 (Int32.toNatClampNeg 0) x1) := ⟨_, rfl⟩
                  rw [← eS_25] at hR
                  have hw := hw S_25 eS_25
                  refine lv_dup hx hb dX0_man_96 rfl ?_
                  refine lv_iconst (v := 1) hx hb dX0_man_97 (by decide) ?_
                  refine lv_iload_n hx hb dX0_man_98 rfl (lv_at hl 2 rfl) ?_
                  refine x_iast hx hb hK hR hS dX0_man_99 hw.1 hw.2.1 (fun H locs hR hS => ?_)
                  have hw := hw.2.2
                  obtain ⟨S_26, eS_26⟩ : ∃ z, z = (sA S_25 a_23 (Int32.toNatClampNeg 1) x2) := ⟨_, rfl⟩
                  rw [← eS_26] at hR
                  have hw := hw S_26 eS_26
                  refine lv_dup hx hb dX0_man_100 rfl ?_
                  refine lv_iconst (v := 2) hx hb dX0_man_101 (by decide) ?_
                  refine lv_iload_n hx hb dX0_man_102 rfl (lv_at hl 3 rfl) ?_
                  refine x_iast hx hb hK hR hS dX0_man_103 hw.1 hw.2.1 (fun H locs hR hS => ?_)
                  have hw := hw.2.2
                  obtain ⟨S_27, eS_27⟩ : ∃ z, z = (sA S_26 a_23 (Int32.toNatClampNeg 2) x3) := ⟨_, rfl⟩
                  rw [← eS_27] at hR
                  have hw := hw S_27 eS_27
                  refine lv_dup hx hb dX0_man_104 rfl ?_
                  refine lv_iconst (v := 3) hx hb dX0_man_105 (by decide) ?_
                  refine lv_iload hx hb dX0_man_106 (lv_at hl 4 rfl) ?_
                  refine x_iast hx hb hK hR hS dX0_man_108 hw.1 hw.2.1 (fun H locs hR hS => ?_)
                  have hw := hw.2.2
                  obtain ⟨S_28, eS_28⟩ : ∃ z, z = (sA S_27 a_23 (Int32.toNatClampNeg 3) x4) := ⟨_, rfl⟩
                  rw [← eS_28] at hR
                  have hw := hw S_28 eS_28
                  refine lv_dup hx hb dX0_man_109 rfl ?_
                  refine lv_iconst (v := 4) hx hb dX0_man_110 (by decide) ?_
                  refine lv_iload hx hb dX0_man_111 (lv_at hl 5 rfl) ?_
                  refine x_iast hx hb hK hR hS dX0_man_113 hw.1 hw.2.1 (fun H locs hR hS => ?_)
                  have hw := hw.2.2
                  obtain ⟨S_29, eS_29⟩ : ∃ z, z = (sA S_28 a_23 (Int32.toNatClampNeg 4) x5) := ⟨_, rfl⟩
                  rw [← eS_29] at hR
                  have hw := hw S_29 eS_29
                  refine lv_dup hx hb dX0_man_114 rfl ?_
                  refine lv_iconst (v := 5) hx hb dX0_man_115 (by decide) ?_
                  refine lv_iload hx hb dX0_man_116 (lv_at hl 6 rfl) ?_
                  refine x_iast hx hb hK hR hS dX0_man_118 hw.1 hw.2.1 (fun H locs hR hS => ?_)
                  have hw := hw.2.2
                  obtain ⟨S_30, eS_30⟩ : ∃ z, z = (sA S_29 a_23 (Int32.toNatClampNeg 5) x6) := ⟨_, rfl⟩
                  rw [← eS_30] at hR
                  have hw := hw S_30 eS_30
                  refine lv_dup hx hb dX0_man_119 rfl ?_
                  refine lv_bipush (v := 6) hx hb dX0_man_120 (by decide) ?_
                  refine lv_iload hx hb dX0_man_122 (lv_at hl 7 rfl) ?_
                  refine x_iast hx hb hK hR hS dX0_man_124 hw.1 hw.2.1 (fun H locs hR hS => ?_)
                  have hw := hw.2.2
                  obtain ⟨S_31, eS_31⟩ : ∃ z, z = (sA S_30 a_23 (Int32.toNatClampNeg 6) x7) := ⟨_, rfl⟩
                  rw [← eS_31] at hR
                  have hw := hw S_31 eS_31
                  refine lv_astore (lv' := [(8, .ref a_23), (0, .ref o), (1, .int x1), (2, .int x2), (3, .int x3), (4, .int x4), (5, .int x5), (6, .int x6), (7, .int x7)]) hx hb dX0_man_125 hl (by decide) rfl (fun ls hl => ?_)
                  refine lv_aload_n hx hb dX0_man_127 rfl (lv_at hl 1 rfl) ?_
                  refine x_getR (ci := 0) (C := RX0) (T := TX0) (N := 19) (f := 52) hx hb hts in_X0 hown hK hR rfl 2 (by decide) (hts _ q114) (fun _ h => h) rfl (by decide) dX0_man_128 hw.1 ?_
                  have hw := hw.2
                  refine lv_aload_n hx hb dX0_man_131 rfl (lv_at hl 1 rfl) ?_
                  refine x_getI (ci := 0) (C := RX0) (T := TX0) (N := 19) (f := 53) hx hb hts in_X0 hown hK hR rfl 3 (by decide) (hts _ q116) (fun _ h => h) rfl (by decide) dX0_man_132 hw.1 ?_
                  have hw := hw.2
                  obtain ⟨h1, h2, hw⟩ := hw
                  refine x_new (ci := 2) (C := RX2) (T := TX2) (N := 5) hx hb hts in_X2 tyX2 tyX2_ok hown (hts _ q97) (hts _ q201) (hts _ q66) hK hR hS hA rfl (by decide) dfX2 dX0_man_135 (by show _ ≤ k; omega) (by show _ ≤ n; omega) (fun a_32 H hf hR hS => ?_)
                  have hw := hw a_32 hf
                  have hc : ((0 + 1) + 1) + ((k - 1) - 1) ≤ k := by omega
                  have hs : ((0 + 7) + 5) + ((n - 7) - 5) ≤ n := by omega
                  obtain ⟨S_33, eS_33⟩ : ∃ z, z = (sN S_31 a_32 3) := ⟨_, rfl⟩
                  rw [← eS_33] at hR
                  have hw := hw S_33 eS_33
                  refine lv_dup hx hb dX0_man_138 rfl ?_
                  refine lv_aload hx hb dX0_man_139 (lv_at hl 0 rfl) ?_
                  obtain ⟨k_34, n_35, h1, h2, hw⟩ := hw
                  refine x_cv (va_runI (As := [.ref a_23]) (rest := [.ref a_32, .int (xI S_31 53 o), va_rf (xR S_31 52 o)]) ⟨hx, hb, hml, hown, hts⟩ (mt_X2_init l hw) (cwI 1 hts (lw_meth q204) rfl rfl rfl (hts _ q66) (hts _ q202) (hts _ q203) rfl hd_X2_init.2 ⟨Nat.le_of_ble_eq_true rfl, Nat.le_of_ble_eq_true rfl⟩) ⟨x_Pc_blind, x_Pc_pre hR hz hS hK⟩ rfl rfl hl.1 rfl (lv_room (by simp only [List.map_cons, List.map_nil, x_cat]; exact Nat.le_of_ble_eq_true rfl)) dX0_man_141 ⟨by show _ ≤ k; omega, by show _ ≤ n; omega⟩) hS (fun S_36 H locs hp hR hS => ?_)
                  have hw := hp
                  have hc : (((0 + 1) + 1) + k_34) + (((k - 1) - 1) - k_34) ≤ k := by omega
                  have hs : (((0 + 7) + 5) + n_35) + (((n - 7) - 5) - n_35) ≤ n := by omega
                  obtain ⟨b_37, e_38, hw⟩ := hw
                  refine x_dr2 e_38 ?_
                  refine x_aast (t := 103) (ci := 2) hx hb hK hR hS (by decide) rfl (by decide) rfl dX0_man_144 hw.1 hw.2.1 hw.2.2.1 (fun H locs hR hS => ?_)
                  have hw := hw.2.2.2
                  obtain ⟨S_39, eS_39⟩ : ∃ z, z = (sQ S_36 b_37 (Int32.toNatClampNeg (xI S_31 53 o)) (some a_32)) := ⟨_, rfl⟩
                  rw [← eS_39] at hR
                  have hw := hw S_39 eS_39
                  refine lv_aload_n hx hb dX0_man_145 rfl (lv_at hl 1 rfl) ?_
                  refine lv_dup hx hb dX0_man_146 rfl ?_
                  refine x_getI (ci := 0) (C := RX0) (T := TX0) (N := 19) (f := 53) hx hb hts in_X0 hown hK hR rfl 3 (by decide) (hts _ q116) (fun _ h => h) rfl (by decide) dX0_man_147 hw.1 ?_
                  have hw := hw.2
                  refine lv_iconst (v := 1) hx hb dX0_man_150 (by decide) ?_
                  refine lv_iadd hx hb dX0_man_151 ?_
                  refine x_putI (ci := 0) (C := RX0) (T := TX0) (N := 19) (f := 53) hx hb hts in_X0 tyX0 tyX0_ok nmX0 hown hK hR hS rfl 3 (by decide) (hts _ q116) (fun _ h => h) rfl rfl (by decide) rfl rfl dX0_man_152 hw.1 (fun H locs hR hS => ?_)
                  have hw := hw.2
                  obtain ⟨S_40, eS_40⟩ : ∃ z, z = (sI S_39 53 o ((xI S_39 53 o) + 1)) := ⟨_, rfl⟩
                  rw [← eS_40] at hR
                  have hw := hw S_40 eS_40
                  refine lv_aload_n hx hb dX0_man_155 rfl (lv_at hl 1 rfl) ?_
                  refine x_getI (ci := 0) (C := RX0) (T := TX0) (N := 19) (f := 53) hx hb hts in_X0 hown hK hR rfl 3 (by decide) (hts _ q116) (fun _ h => h) rfl (by decide) dX0_man_156 hw.1 ?_
                  have hw := hw.2
                  refine lv_iconst (v := 1) hx hb dX0_man_159 (by decide) ?_
                  refine lv_isub hx hb dX0_man_160 ?_
                  refine W.widen (k := k) (n := n) (by omega) (by omega) ?_
                  exact x_ri hx hb hr hlocks hR hS dX0_man_161 hw
                · have hw := x_t hw c_22
                  refine lv_bipush (v := (-4)) hx hb dX0_man_85 (by decide) ?_
                  refine W.widen (k := k) (n := n) (by omega) (by omega) ?_
                  exact x_ri hx hb hr hlocks hR hS dX0_man_87 hw
              · have hw := x_t hw c_21
                refine lv_bipush (v := (-2)) hx hb dX0_man_73 (by decide) ?_
                refine W.widen (k := k) (n := n) (by omega) (by omega) ?_
                exact x_ri hx hb hr hlocks hR hS dX0_man_75 hw
  · have hw := x_t hw c_3
    refine lv_iconst (v := (-1)) hx hb dX0_man_9 (by decide) ?_
    refine W.widen (k := k) (n := n) (by omega) (by omega) ?_
    exact x_ri hx hb hr hlocks hR hS dX0_man_10 hw
def w_X0_isMan (S : xH) (o : Nat) (x1 : Int32) (Q : Int32 → Prop) : Prop := xT S o = 1 ∧ w_X0_isIn S x1 0 ((xI S 53 o) - 1) (fun (r_1 : Int32) => x_B r_1 ∧ Q r_1)
theorem hd_X0_isMan : yX0_isMan.cls = "PressedMen" ∧ yX0_isMan.cls ≠ "java/lang/invoke/MethodHandle" ∧ yX0_isMan.cls ≠ "java/lang/invoke/VarHandle" ∧ (parseMethodDescriptor yX0_isMan.desc).map (fun d => d.parameters.length) = some 1 := by decide +kernel
set_option maxHeartbeats 4000000 in
theorem mt_X0_isMan (l : Launch) {D : va_G} {d : Nat → ClassId} {base : Nat} {mc : va_W} {S : xH} {o : Nat} {x1 : Int32} {Q : Int32 → Prop} (hw : w_X0_isMan S o x1 Q) : Met l yX0_isMan (ws_ yX0_isMan cX0_isMan 2 (some FieldType.boolean)) (x_rm 1 0 0 22) (x_Pc D d base mc S [.ref o, .int x1]) (x_Qi D d base mc (fun r S' => S' = S ∧ Q r)) 0 0 (x_A base) := by
  refine x_met (by decide) (Nat.le_of_ble_eq_true rfl) ?_
  intro p e s m below meth c hx hb hml hr hlocks hown hts hz hR hK hin ls hl
  have hown : s.vm.findClass "PressedMen" = some m.cls := hown
  have hl : lv_has ls 2 [(0, .ref o), (1, .int x1)] := hl
  have hS : va_S (x_A base) s.heap s.heap [] := va_S.rf
  unfold w_X0_isMan at hw
  refine lv_iload_n hx hb dX0_isMan_0 rfl (lv_at hl 1 rfl) ?_
  refine lv_iconst (v := 0) hx hb dX0_isMan_1 (by decide) ?_
  refine lv_aload_n hx hb dX0_isMan_2 rfl (lv_at hl 0 rfl) ?_
  refine x_getI (ci := 0) (C := RX0) (T := TX0) (N := 19) (f := 53) hx hb hts in_X0 hown hK hR rfl 3 (by decide) (hts _ q116) (fun _ h => h) rfl (by decide) dX0_isMan_3 hw.1 ?_
  have hw := hw.2
  refine lv_iconst (v := 1) hx hb dX0_isMan_6 (by decide) ?_
  refine lv_isub hx hb dX0_isMan_7 ?_
  refine x_ci (va_runS (As := [.int x1, .int 0, .int ((xI S 53 o) - 1)]) (rest := []) ⟨hx, hb, hml, hown, hts⟩ (mt_X0_isIn l hw) (va_cwS 3 hts (lw_S q178 q179 q64 q180) rfl rfl rfl hd_X0_isIn.2 ⟨Nat.le_of_ble_eq_true rfl, Nat.le_of_ble_eq_true rfl⟩) ⟨x_Pc_blind, x_Pc_pre hR hz hS hK⟩ rfl rfl hl.1 rfl (lv_room (Nat.le_of_ble_eq_true rfl)) dX0_isMan_8 ⟨Nat.le_refl _, Nat.le_refl _⟩) hS (fun r_1 S_2 H locs hp hR hS => ?_)
  have hw := hp.2
  rw [hp.1] at hR
  exact x_rz hx hb hr hlocks hR hS dX0_isMan_11 hw.1 ⟨rfl, hw.2⟩
def w_X0_about (S : xH) (o : Nat) (x1 : Int32) (x2 : Int32) (Q : Int32 → Prop) : Prop := xT S o = 1 ∧ w_X0_isMan S o x1 (fun (r_1 : Int32) => wif (r_1 = 0) (Q (-1)) (wif (x2 = 7) (xT S o = 1 ∧ ∃ b_14, (xR S 52 o) = some b_14 ∧ xT S b_14 = 103 ∧ vp_in x1 (xL S b_14) ∧ ∃ b_16, (xQ S b_14 (Int32.toNatClampNeg x1)) = some b_16 ∧ xT S b_16 = 3 ∧ wif ((xI S 151 b_16) = 0) (Q 0) (Q 1)) (w_X0_isIn S x2 0 6 (fun (r_5 : Int32) => wif (r_5 = 0) (Q (-2)) (xT S o = 1 ∧ ∃ b_8, (xR S 52 o) = some b_8 ∧ xT S b_8 = 103 ∧ vp_in x1 (xL S b_8) ∧ ∃ b_10, (xQ S b_8 (Int32.toNatClampNeg x1)) = some b_10 ∧ xT S b_10 = 3 ∧ ∃ b_12, (xR S 150 b_10) = some b_12 ∧ xT S b_12 = 101 ∧ vp_in x2 (xL S b_12) ∧ Q (xA S b_12 (Int32.toNatClampNeg x2)))))))
theorem hd_X0_about : yX0_about.cls = "PressedMen" ∧ yX0_about.cls ≠ "java/lang/invoke/MethodHandle" ∧ yX0_about.cls ≠ "java/lang/invoke/VarHandle" ∧ (parseMethodDescriptor yX0_about.desc).map (fun d => d.parameters.length) = some 2 := by decide +kernel
set_option maxHeartbeats 4000000 in
theorem mt_X0_about (l : Launch) {D : va_G} {d : Nat → ClassId} {base : Nat} {mc : va_W} {S : xH} {o : Nat} {x1 : Int32} {x2 : Int32} {Q : Int32 → Prop} (hw : w_X0_about S o x1 x2 Q) : Met l yX0_about (ws_ yX0_about cX0_about 3 (some FieldType.int)) (x_rm 2 0 0 43) (x_Pc D d base mc S [.ref o, .int x1, .int x2]) (x_Qi D d base mc (fun r S' => S' = S ∧ Q r)) 0 0 (x_A base) := by
  refine x_met (by decide) (Nat.le_of_ble_eq_true rfl) ?_
  intro p e s m below meth c hx hb hml hr hlocks hown hts hz hR hK hin ls hl
  have hown : s.vm.findClass "PressedMen" = some m.cls := hown
  have hl : lv_has ls 3 [(0, .ref o), (1, .int x1), (2, .int x2)] := hl
  have hS : va_S (x_A base) s.heap s.heap [] := va_S.rf
  unfold w_X0_about at hw
  refine lv_aload_n hx hb dX0_about_0 rfl (lv_at hl 0 rfl) ?_
  refine lv_iload_n hx hb dX0_about_1 rfl (lv_at hl 1 rfl) ?_
  obtain ⟨ha, hw⟩ := hw
  refine x_ci (va_runV (As := [.int x1]) (rest := []) ⟨hx, hb, hml, hown, hts⟩ (mt_X0_isMan l hw) (cwV 1 hts (lw_V q252 q254 qs2 q64 q255) rfl rfl rfl hd_X0_isMan ⟨Nat.le_of_ble_eq_true rfl, Nat.le_of_ble_eq_true rfl⟩) ⟨x_Pc_blind, hR.recv hK (ci := 0) rfl (by decide) ha, x_Pc_pre hR hz hS hK⟩ rfl rfl hl.1 rfl (lv_room (Nat.le_of_ble_eq_true rfl)) dX0_about_2 ⟨Nat.le_refl _, Nat.le_refl _⟩) hS (fun r_1 S_2 H locs hp hR hS => ?_)
  have hw := hp.2
  rw [hp.1] at hR
  refine lv_if_ne (tgt := 10) hx hb dX0_about_5 (by decide) (fun c_3 => ?_) (fun c_3 => ?_)
  · have hw := x_f hw c_3
    refine lv_iload_n hx hb dX0_about_10 rfl (lv_at hl 2 rfl) ?_
    refine lv_bipush (v := 7) hx hb dX0_about_11 (by decide) ?_
    refine lv_icmp_ne (tgt := 34) hx hb dX0_about_13 (by decide) (fun c_4 => ?_) (fun c_4 => ?_)
    · have hw := x_f hw c_4
      refine lv_iload_n hx hb dX0_about_34 rfl (lv_at hl 2 rfl) ?_
      refine lv_iconst (v := 0) hx hb dX0_about_35 (by decide) ?_
      refine lv_bipush (v := 6) hx hb dX0_about_36 (by decide) ?_
      refine x_ci (va_runS (As := [.int x2, .int 0, .int 6]) (rest := []) ⟨hx, hb, hml, hown, hts⟩ (mt_X0_isIn l hw) (va_cwS 3 hts (lw_S q178 q179 q64 q180) rfl rfl rfl hd_X0_isIn.2 ⟨Nat.le_of_ble_eq_true rfl, Nat.le_of_ble_eq_true rfl⟩) ⟨x_Pc_blind, x_Pc_pre hR hz hS hK⟩ rfl rfl hl.1 rfl (lv_room (Nat.le_of_ble_eq_true rfl)) dX0_about_38 ⟨Nat.le_refl _, Nat.le_refl _⟩) hS (fun r_5 S_6 H locs hp hR hS => ?_)
      have hw := hp.2
      rw [hp.1] at hR
      refine lv_if_eq (tgt := 58) hx hb dX0_about_41 (by decide) (fun c_7 => ?_) (fun c_7 => ?_)
      · have hw := x_t hw c_7
        refine lv_bipush (v := (-2)) hx hb dX0_about_58 (by decide) ?_
        exact x_ri hx hb hr hlocks hR hS dX0_about_60 ⟨rfl, hw⟩
      · have hw := x_f hw c_7
        refine lv_aload_n hx hb dX0_about_44 rfl (lv_at hl 0 rfl) ?_
        refine x_getR (ci := 0) (C := RX0) (T := TX0) (N := 19) (f := 52) hx hb hts in_X0 hown hK hR rfl 2 (by decide) (hts _ q114) (fun _ h => h) rfl (by decide) dX0_about_45 hw.1 ?_
        have hw := hw.2
        refine lv_iload_n hx hb dX0_about_48 rfl (lv_at hl 1 rfl) ?_
        obtain ⟨b_8, e_9, hw⟩ := hw
        refine x_dr1 e_9 ?_
        refine x_aald (t := 103) hx hb hK hR (by decide) rfl rfl dX0_about_49 hw.1 hw.2.1 ?_
        have hw := hw.2.2
        obtain ⟨b_10, e_11, hw⟩ := hw
        refine x_dr0 e_11 ?_
        refine x_getNR (ci := 2) (C := RX2) (T := TX2) (N := 5) (f := 150) hx hb hts in_X2 hown hK hR rfl 0 (by decide) (hK.2 _ q230 rfl) (fun _ h => h) rfl (by decide) dX0_about_50 hw.1 ?_
        have hw := hw.2
        refine lv_iload_n hx hb dX0_about_53 rfl (lv_at hl 2 rfl) ?_
        obtain ⟨b_12, e_13, hw⟩ := hw
        refine x_dr1 e_13 ?_
        refine x_iald hx hb hK hR dX0_about_54 hw.1 hw.2.1 ?_
        have hw := hw.2.2
        refine lv_goto (tgt := 60) hx hb dX0_about_55 (by decide) ?_
        exact x_ri hx hb hr hlocks hR hS dX0_about_60 ⟨rfl, hw⟩
    · have hw := x_t hw c_4
      refine lv_aload_n hx hb dX0_about_16 rfl (lv_at hl 0 rfl) ?_
      refine x_getR (ci := 0) (C := RX0) (T := TX0) (N := 19) (f := 52) hx hb hts in_X0 hown hK hR rfl 2 (by decide) (hts _ q114) (fun _ h => h) rfl (by decide) dX0_about_17 hw.1 ?_
      have hw := hw.2
      refine lv_iload_n hx hb dX0_about_20 rfl (lv_at hl 1 rfl) ?_
      obtain ⟨b_14, e_15, hw⟩ := hw
      refine x_dr1 e_15 ?_
      refine x_aald (t := 103) hx hb hK hR (by decide) rfl rfl dX0_about_21 hw.1 hw.2.1 ?_
      have hw := hw.2.2
      obtain ⟨b_16, e_17, hw⟩ := hw
      refine x_dr0 e_17 ?_
      refine x_getNI (ci := 2) (C := RX2) (T := TX2) (N := 5) (f := 151) hx hb hts in_X2 hown hK hR rfl 1 (by decide) (hK.2 _ q231 rfl) (fun _ h => h) rfl (by decide) dX0_about_22 hw.1 ?_
      have hw := hw.2
      refine lv_if_eq (tgt := 32) hx hb dX0_about_25 (by decide) (fun c_18 => ?_) (fun c_18 => ?_)
      · have hw := x_t hw c_18
        refine lv_iconst (v := 0) hx hb dX0_about_32 (by decide) ?_
        exact x_ri hx hb hr hlocks hR hS dX0_about_33 ⟨rfl, hw⟩
      · have hw := x_f hw c_18
        refine lv_iconst (v := 1) hx hb dX0_about_28 (by decide) ?_
        refine lv_goto (tgt := 33) hx hb dX0_about_29 (by decide) ?_
        exact x_ri hx hb hr hlocks hR hS dX0_about_33 ⟨rfl, hw⟩
  · have hw := x_t hw c_3
    refine lv_iconst (v := (-1)) hx hb dX0_about_8 (by decide) ?_
    exact x_ri hx hb hr hlocks hR hS dX0_about_9 ⟨rfl, hw⟩
def w_X0_shy (S : xH) (o : Nat) (x1 : Int32) (x2 : Int32) (Q : Int32 → xH → Prop) : Prop := xT S o = 1 ∧ w_X0_isMan S o x1 (fun (r_1 : Int32) => wif (r_1 = 0) (Q (-1) S) (xT S o = 1 ∧ ∃ b_4, (xR S 52 o) = some b_4 ∧ xT S b_4 = 103 ∧ vp_in x1 (xL S b_4) ∧ ∃ b_6, (xQ S b_4 (Int32.toNatClampNeg x1)) = some b_6 ∧ xT S b_6 = 3 ∧ jn (fun (v0_8 : Int32) => xT S o = 1 ∧ ∃ b_10, (xR S 52 o) = some b_10 ∧ xT S b_10 = 103 ∧ vp_in x1 (xL S b_10) ∧ ∃ b_12, (xQ S b_10 (Int32.toNatClampNeg x1)) = some b_12 ∧ xT S b_12 = 3 ∧ x_B x2 ∧ nm (sI S 151 b_12 x2) (fun S_14 : xH => Q v0_8 S_14)) (fun J_9 => wif ((xI S 151 b_6) = 0) (J_9 0) (J_9 1))))
theorem hd_X0_shy : yX0_shy.cls = "PressedMen" ∧ yX0_shy.cls ≠ "java/lang/invoke/MethodHandle" ∧ yX0_shy.cls ≠ "java/lang/invoke/VarHandle" ∧ (parseMethodDescriptor yX0_shy.desc).map (fun d => d.parameters.length) = some 2 := by decide +kernel
set_option maxHeartbeats 4000000 in
theorem mt_X0_shy (l : Launch) {D : va_G} {d : Nat → ClassId} {base : Nat} {mc : va_W} {S : xH} {o : Nat} {x1 : Int32} {x2 : Int32} {Q : Int32 → xH → Prop} (hw : w_X0_shy S o x1 x2 Q) : Met l yX0_shy (ws_ yX0_shy cX0_shy 4 (some FieldType.int)) (x_rm 2 0 0 43) (x_Pc D d base mc S [.ref o, .int x1, .int x2]) (x_Qi D d base mc (fun r S' => Q r S')) 0 0 (x_A base) := by
  refine x_met (by decide) (Nat.le_of_ble_eq_true rfl) ?_
  intro p e s m below meth c hx hb hml hr hlocks hown hts hz hR hK hin ls hl
  have hown : s.vm.findClass "PressedMen" = some m.cls := hown
  have hl : lv_has ls 4 [(0, .ref o), (1, .int x1), (2, .int x2)] := hl
  have hS : va_S (x_A base) s.heap s.heap [] := va_S.rf
  unfold w_X0_shy at hw
  refine lv_aload_n hx hb dX0_shy_0 rfl (lv_at hl 0 rfl) ?_
  refine lv_iload_n hx hb dX0_shy_1 rfl (lv_at hl 1 rfl) ?_
  obtain ⟨ha, hw⟩ := hw
  refine x_ci (va_runV (As := [.int x1]) (rest := []) ⟨hx, hb, hml, hown, hts⟩ (mt_X0_isMan l hw) (cwV 1 hts (lw_V q252 q254 qs2 q64 q255) rfl rfl rfl hd_X0_isMan ⟨Nat.le_of_ble_eq_true rfl, Nat.le_of_ble_eq_true rfl⟩) ⟨x_Pc_blind, hR.recv hK (ci := 0) rfl (by decide) ha, x_Pc_pre hR hz hS hK⟩ rfl rfl hl.1 rfl (lv_room (Nat.le_of_ble_eq_true rfl)) dX0_shy_2 ⟨Nat.le_refl _, Nat.le_refl _⟩) hS (fun r_1 S_2 H locs hp hR hS => ?_)
  have hw := hp.2
  rw [hp.1] at hR
  refine lv_if_ne (tgt := 10) hx hb dX0_shy_5 (by decide) (fun c_3 => ?_) (fun c_3 => ?_)
  · have hw := x_f hw c_3
    refine lv_aload_n hx hb dX0_shy_10 rfl (lv_at hl 0 rfl) ?_
    refine x_getR (ci := 0) (C := RX0) (T := TX0) (N := 19) (f := 52) hx hb hts in_X0 hown hK hR rfl 2 (by decide) (hts _ q114) (fun _ h => h) rfl (by decide) dX0_shy_11 hw.1 ?_
    have hw := hw.2
    refine lv_iload_n hx hb dX0_shy_14 rfl (lv_at hl 1 rfl) ?_
    obtain ⟨b_4, e_5, hw⟩ := hw
    refine x_dr1 e_5 ?_
    refine x_aald (t := 103) hx hb hK hR (by decide) rfl rfl dX0_shy_15 hw.1 hw.2.1 ?_
    have hw := hw.2.2
    obtain ⟨b_6, e_7, hw⟩ := hw
    refine x_dr0 e_7 ?_
    refine x_getNI (ci := 2) (C := RX2) (T := TX2) (N := 5) (f := 151) hx hb hts in_X2 hown hK hR rfl 1 (by decide) (hK.2 _ q231 rfl) (fun _ h => h) rfl (by decide) dX0_shy_16 hw.1 ?_
    have hw := hw.2
    refine x_jn (G := fun (v0_8 : Int32) => ∀ (ls : Array Slot) (H : Heap) (locs : List Loc), x_Rp D d (x_A base) mc S H → va_S (x_A base) s.heap H locs → lv_has ls 4 [(0, .ref o), (1, .int x1), (2, .int x2)] → W p l e (x_rm 2 0 0 43) s m ([.ref o, .int x1, .int x2] : List Value).toArray below meth c H locs 0 0 (MQ below (x_Qi D d base mc (fun r S' => Q r S')) ([.ref o, .int x1, .int x2] : List Value).toArray s 0 0 (x_A base)) (F0 m 27 ls [.int v0_8])) hw (fun v0_8 hw => ?_) (fun hJ_9 hw => ?_)
    · intro ls H locs hR hS hl
      refine lv_istore_n (lv' := [(3, .int v0_8), (0, .ref o), (1, .int x1), (2, .int x2)]) hx hb dX0_shy_27 rfl hl (by decide) rfl (fun ls hl => ?_)
      refine lv_aload_n hx hb dX0_shy_28 rfl (lv_at hl 1 rfl) ?_
      refine x_getR (ci := 0) (C := RX0) (T := TX0) (N := 19) (f := 52) hx hb hts in_X0 hown hK hR rfl 2 (by decide) (hts _ q114) (fun _ h => h) rfl (by decide) dX0_shy_29 hw.1 ?_
      have hw := hw.2
      refine lv_iload_n hx hb dX0_shy_32 rfl (lv_at hl 2 rfl) ?_
      obtain ⟨b_10, e_11, hw⟩ := hw
      refine x_dr1 e_11 ?_
      refine x_aald (t := 103) hx hb hK hR (by decide) rfl rfl dX0_shy_33 hw.1 hw.2.1 ?_
      have hw := hw.2.2
      refine lv_iload_n hx hb dX0_shy_34 rfl (lv_at hl 3 rfl) ?_
      obtain ⟨b_12, e_13, hw⟩ := hw
      refine x_dr1 e_13 ?_
      refine x_putNI (ci := 2) (C := RX2) (T := TX2) (N := 5) (f := 151) hx hb hts in_X2 tyX2 tyX2_ok nmX2 hown hK hR hS rfl 1 (by decide) (hK.2 _ q231 rfl) (fun _ h => h) rfl rfl (by decide) (x_B.n hw.2.1) (x_B.f hw.2.1) dX0_shy_35 hw.1 (fun H locs hR hS => ?_)
      have hw := hw.2.2
      obtain ⟨S_14, eS_14⟩ : ∃ z, z = (sI S 151 b_12 x2) := ⟨_, rfl⟩
      rw [← eS_14] at hR
      have hw := hw S_14 eS_14
      refine lv_iload_n hx hb dX0_shy_38 rfl (lv_at hl 0 rfl) ?_
      exact x_ri hx hb hr hlocks hR hS dX0_shy_39 hw
    · refine lv_if_eq (tgt := 26) hx hb dX0_shy_19 (by decide) (fun c_15 => ?_) (fun c_15 => ?_)
      · have hw := x_t hw c_15
        refine lv_iconst (v := 0) hx hb dX0_shy_26 (by decide) ?_
        exact hJ_9 0 hw ls _ _ hR hS (lv_sub hl [0, 1, 2] rfl)
      · have hw := x_f hw c_15
        refine lv_iconst (v := 1) hx hb dX0_shy_22 (by decide) ?_
        refine lv_goto (tgt := 27) hx hb dX0_shy_23 (by decide) ?_
        exact hJ_9 1 hw ls _ _ hR hS (lv_sub hl [0, 1, 2] rfl)
  · have hw := x_t hw c_3
    refine lv_iconst (v := (-1)) hx hb dX0_shy_8 (by decide) ?_
    exact x_ri hx hb hr hlocks hR hS dX0_shy_9 hw
def w_X2_asOf (S : xH) (o : Nat) (x1 : Int32) (Q : Option Nat → Prop) : Prop := xT S o = 3 ∧ ∃ b_1, (xR S 152 o) = some b_1 ∧ lf1 (fun L_4 (x2_3 : Nat) => xT S x2_3 = 4 ∧ wif ((xI S 200 x2_3) ≤ x1) (Q (some x2_3)) (xT S x2_3 = 4 ∧ ∃ b_6, (xR S 202 x2_3) = some b_6 ∧ L_4 b_6)) b_1
theorem hd_X2_asOf : yX2_asOf.cls = "PressedMen$Man" ∧ yX2_asOf.cls ≠ "java/lang/invoke/MethodHandle" ∧ yX2_asOf.cls ≠ "java/lang/invoke/VarHandle" ∧ (parseMethodDescriptor yX2_asOf.desc).map (fun d => d.parameters.length) = some 1 := by decide +kernel
set_option maxHeartbeats 4000000 in
theorem mt_X2_asOf (l : Launch) {D : va_G} {d : Nat → ClassId} {base : Nat} {mc : va_W} {S : xH} {o : Nat} {x1 : Int32} {Q : Option Nat → Prop} (hw : w_X2_asOf S o x1 Q) : Met l yX2_asOf (ws_ yX2_asOf cX2_asOf 3 (some (FieldType.object "PressedMen$Stay"))) (x_rm 0 0 0 0) (x_Pc D d base mc S [.ref o, .int x1]) (x_Qq D d base mc (fun r S' => S' = S ∧ Q r)) 0 0 (x_A base) := by
  refine x_met (by decide) (Nat.le_of_ble_eq_true rfl) ?_
  intro p e s m below meth c hx hb hml hr hlocks hown hts hz hR hK hin ls hl
  have hown : s.vm.findClass "PressedMen$Man" = some m.cls := hown
  have hl : lv_has ls 3 [(0, .ref o), (1, .int x1)] := hl
  have hS : va_S (x_A base) s.heap s.heap [] := va_S.rf
  unfold w_X2_asOf at hw
  refine lv_aload_n hx hb dX2_asOf_0 rfl (lv_at hl 0 rfl) ?_
  refine x_getR (ci := 2) (C := RX2) (T := TX2) (N := 5) (f := 152) hx hb hts in_X2 hown hK hR rfl 2 (by decide) (hts _ q232) (fun _ h => h) rfl (by decide) dX2_asOf_1 hw.1 ?_
  have hw := hw.2
  obtain ⟨b_1, e_2, hw⟩ := hw
  refine x_dr0 e_2 ?_
  refine lv_astore_n (lv' := [(2, .ref b_1), (0, .ref o), (1, .int x1)]) hx hb dX2_asOf_4 rfl hl (by decide) rfl (fun ls hl => ?_)
  refine x_lf1 (G := fun (x2_3 : Nat) => ∀ (ls : Array Slot) (H : Heap) (locs : List Loc), x_Rp D d (x_A base) mc S H → va_S (x_A base) s.heap H locs → lv_has ls 3 [(1, .int x1), (2, .ref x2_3)] → W p l e (x_rm 0 0 0 0) s m ([.ref o, .int x1] : List Value).toArray below meth c H locs 0 0 (MQ below (x_Qq D d base mc (fun r S' => S' = S ∧ Q r)) ([.ref o, .int x1] : List Value).toArray s 0 0 (x_A base)) (F0 m 5 ls [])) hw (fun x2_3 hw => ?_) ls _ _ hR hS (lv_sub hl [2, 0] rfl)
  intro ls H locs hR hS hl
  refine lv_aload_n hx hb dX2_asOf_5 rfl (lv_at hl 1 rfl) ?_
  refine x_getNI (ci := 3) (C := RX3) (T := TX3) (N := 3) (f := 200) hx hb hts in_X3 hown hK hR rfl 0 (by decide) (hK.2 _ q213 rfl) (fun _ h => h) rfl (by decide) dX2_asOf_6 hw.1 ?_
  have hw := hw.2
  refine lv_iload_n hx hb dX2_asOf_9 rfl (lv_at hl 0 rfl) ?_
  refine lv_icmp_le (tgt := 21) hx hb dX2_asOf_10 (by decide) (fun c_5 => ?_) (fun c_5 => ?_)
  · have hw := x_t hw c_5
    refine lv_aload_n hx hb dX2_asOf_21 rfl (lv_at hl 1 rfl) ?_
    exact x_rq (r := (some x2_3)) hx hb hr (Or.inl ⟨_, rfl⟩) hlocks hR hS dX2_asOf_22 ⟨rfl, hw⟩
  · have hw := x_f hw c_5
    refine lv_aload_n hx hb dX2_asOf_13 rfl (lv_at hl 1 rfl) ?_
    refine x_getNR (ci := 3) (C := RX3) (T := TX3) (N := 3) (f := 202) hx hb hts in_X3 hown hK hR rfl 2 (by decide) (hK.2 _ q219 rfl) (fun _ h => h) rfl (by decide) dX2_asOf_14 hw.1 ?_
    have hw := hw.2
    obtain ⟨b_6, e_7, hw⟩ := hw
    refine x_dr0 e_7 ?_
    refine lv_astore_n (lv' := [(2, .ref b_6), (1, .int x1)]) hx hb dX2_asOf_17 rfl hl (by decide) rfl (fun ls hl => ?_)
    refine lv_goto (tgt := 5) hx hb dX2_asOf_18 (by decide) ?_
    exact hw ls _ _ hR hS (lv_sub hl [1, 0] rfl)
def w_X0_where (S : xH) (o : Nat) (x1 : Int32) (x2 : Int32) (Q : Int32 → Prop) : Prop := xT S o = 1 ∧ w_X0_isMan S o x1 (fun (r_1 : Int32) => wif (r_1 = 0) (Q (-1)) (xT S o = 1 ∧ w_X0_isIn S x2 0 (xI S 54 o) (fun (r_4 : Int32) => wif (r_4 = 0) (Q (-2)) (xT S o = 1 ∧ ∃ b_7, (xR S 52 o) = some b_7 ∧ xT S b_7 = 103 ∧ vp_in x1 (xL S b_7) ∧ ∃ b_9, (xQ S b_7 (Int32.toNatClampNeg x1)) = some b_9 ∧ xT S b_9 = 3 ∧ w_X2_asOf S b_9 x2 (fun (r_11 : Option Nat) => ∃ b_13, r_11 = some b_13 ∧ xT S b_13 = 4 ∧ Q (xI S 201 b_13))))))
theorem hd_X0_where : yX0_where.cls = "PressedMen" ∧ yX0_where.cls ≠ "java/lang/invoke/MethodHandle" ∧ yX0_where.cls ≠ "java/lang/invoke/VarHandle" ∧ (parseMethodDescriptor yX0_where.desc).map (fun d => d.parameters.length) = some 2 := by decide +kernel
set_option maxHeartbeats 4000000 in
theorem mt_X0_where (l : Launch) {D : va_G} {d : Nat → ClassId} {base : Nat} {mc : va_W} {S : xH} {o : Nat} {x1 : Int32} {x2 : Int32} {Q : Int32 → Prop} (hw : w_X0_where S o x1 x2 Q) : Met l yX0_where (ws_ yX0_where cX0_where 3 (some FieldType.int)) (x_rm 2 0 0 43) (x_Pc D d base mc S [.ref o, .int x1, .int x2]) (x_Qi D d base mc (fun r S' => S' = S ∧ Q r)) 0 0 (x_A base) := by
  refine x_met (by decide) (Nat.le_of_ble_eq_true rfl) ?_
  intro p e s m below meth c hx hb hml hr hlocks hown hts hz hR hK hin ls hl
  have hown : s.vm.findClass "PressedMen" = some m.cls := hown
  have hl : lv_has ls 3 [(0, .ref o), (1, .int x1), (2, .int x2)] := hl
  have hS : va_S (x_A base) s.heap s.heap [] := va_S.rf
  unfold w_X0_where at hw
  refine lv_aload_n hx hb dX0_where_0 rfl (lv_at hl 0 rfl) ?_
  refine lv_iload_n hx hb dX0_where_1 rfl (lv_at hl 1 rfl) ?_
  obtain ⟨ha, hw⟩ := hw
  refine x_ci (va_runV (As := [.int x1]) (rest := []) ⟨hx, hb, hml, hown, hts⟩ (mt_X0_isMan l hw) (cwV 1 hts (lw_V q252 q254 qs2 q64 q255) rfl rfl rfl hd_X0_isMan ⟨Nat.le_of_ble_eq_true rfl, Nat.le_of_ble_eq_true rfl⟩) ⟨x_Pc_blind, hR.recv hK (ci := 0) rfl (by decide) ha, x_Pc_pre hR hz hS hK⟩ rfl rfl hl.1 rfl (lv_room (Nat.le_of_ble_eq_true rfl)) dX0_where_2 ⟨Nat.le_refl _, Nat.le_refl _⟩) hS (fun r_1 S_2 H locs hp hR hS => ?_)
  have hw := hp.2
  rw [hp.1] at hR
  refine lv_if_ne (tgt := 10) hx hb dX0_where_5 (by decide) (fun c_3 => ?_) (fun c_3 => ?_)
  · have hw := x_f hw c_3
    refine lv_iload_n hx hb dX0_where_10 rfl (lv_at hl 2 rfl) ?_
    refine lv_iconst (v := 0) hx hb dX0_where_11 (by decide) ?_
    refine lv_aload_n hx hb dX0_where_12 rfl (lv_at hl 0 rfl) ?_
    refine x_getI (ci := 0) (C := RX0) (T := TX0) (N := 19) (f := 54) hx hb hts in_X0 hown hK hR rfl 4 (by decide) (hts _ q117) (fun _ h => h) rfl (by decide) dX0_where_13 hw.1 ?_
    have hw := hw.2
    refine x_ci (va_runS (As := [.int x2, .int 0, .int (xI S 54 o)]) (rest := []) ⟨hx, hb, hml, hown, hts⟩ (mt_X0_isIn l hw) (va_cwS 3 hts (lw_S q178 q179 q64 q180) rfl rfl rfl hd_X0_isIn.2 ⟨Nat.le_of_ble_eq_true rfl, Nat.le_of_ble_eq_true rfl⟩) ⟨x_Pc_blind, x_Pc_pre hR hz hS hK⟩ rfl rfl hl.1 rfl (lv_room (Nat.le_of_ble_eq_true rfl)) dX0_where_16 ⟨Nat.le_refl _, Nat.le_refl _⟩) hS (fun r_4 S_5 H locs hp hR hS => ?_)
    have hw := hp.2
    rw [hp.1] at hR
    refine lv_if_eq (tgt := 38) hx hb dX0_where_19 (by decide) (fun c_6 => ?_) (fun c_6 => ?_)
    · have hw := x_t hw c_6
      refine lv_bipush (v := (-2)) hx hb dX0_where_38 (by decide) ?_
      exact x_ri hx hb hr hlocks hR hS dX0_where_40 ⟨rfl, hw⟩
    · have hw := x_f hw c_6
      refine lv_aload_n hx hb dX0_where_22 rfl (lv_at hl 0 rfl) ?_
      refine x_getR (ci := 0) (C := RX0) (T := TX0) (N := 19) (f := 52) hx hb hts in_X0 hown hK hR rfl 2 (by decide) (hts _ q114) (fun _ h => h) rfl (by decide) dX0_where_23 hw.1 ?_
      have hw := hw.2
      refine lv_iload_n hx hb dX0_where_26 rfl (lv_at hl 1 rfl) ?_
      obtain ⟨b_7, e_8, hw⟩ := hw
      refine x_dr1 e_8 ?_
      refine x_aald (t := 103) hx hb hK hR (by decide) rfl rfl dX0_where_27 hw.1 hw.2.1 ?_
      have hw := hw.2.2
      refine lv_iload_n hx hb dX0_where_28 rfl (lv_at hl 2 rfl) ?_
      obtain ⟨b_9, e_10, hw⟩ := hw
      refine x_dr1 e_10 ?_
      obtain ⟨ha, hw⟩ := hw
      refine x_cq (va_runV (As := [.int x2]) (rest := []) ⟨hx, hb, hml, hown, hts⟩ (mt_X2_asOf l hw) (cwV 1 hts (lw_V q264 q265 q266 q66 q267) rfl rfl rfl hd_X2_asOf ⟨Nat.le_of_ble_eq_true rfl, Nat.le_of_ble_eq_true rfl⟩) ⟨x_Pc_blind, hR.recv hK (ci := 2) rfl (by decide) ha, x_Pc_pre hR hz hS hK⟩ rfl rfl hl.1 rfl (lv_room (Nat.le_of_ble_eq_true rfl)) dX0_where_29 ⟨Nat.le_refl _, Nat.le_refl _⟩) hS (fun r_11 S_12 H locs hp hR hS => ?_)
      have hw := hp.2
      rw [hp.1] at hR
      obtain ⟨b_13, e_14, hw⟩ := hw
      refine x_dr0 e_14 ?_
      refine x_getNI (ci := 3) (C := RX3) (T := TX3) (N := 3) (f := 201) hx hb hts in_X3 hown hK hR rfl 1 (by decide) (hK.2 _ q217 rfl) (fun _ h => h) rfl (by decide) dX0_where_32 hw.1 ?_
      have hw := hw.2
      refine lv_goto (tgt := 40) hx hb dX0_where_35 (by decide) ?_
      exact x_ri hx hb hr hlocks hR hS dX0_where_40 ⟨rfl, hw⟩
  · have hw := x_t hw c_3
    refine lv_iconst (v := (-1)) hx hb dX0_where_8 (by decide) ?_
    exact x_ri hx hb hr hlocks hR hS dX0_where_9 ⟨rfl, hw⟩
def w_X2_place (S : xH) (o : Nat) (Q : Int32 → Prop) : Prop := xT S o = 3 ∧ ∃ b_1, (xR S 152 o) = some b_1 ∧ xT S b_1 = 4 ∧ Q (xI S 201 b_1)
theorem hd_X2_place : yX2_place.cls = "PressedMen$Man" ∧ yX2_place.cls ≠ "java/lang/invoke/MethodHandle" ∧ yX2_place.cls ≠ "java/lang/invoke/VarHandle" ∧ (parseMethodDescriptor yX2_place.desc).map (fun d => d.parameters.length) = some 0 := by decide +kernel
set_option maxHeartbeats 4000000 in
theorem mt_X2_place (l : Launch) {D : va_G} {d : Nat → ClassId} {base : Nat} {mc : va_W} {S : xH} {o : Nat} {Q : Int32 → Prop} (hw : w_X2_place S o Q) : Met l yX2_place (ws_ yX2_place cX2_place 1 (some FieldType.int)) (x_rm 0 0 0 0) (x_Pc D d base mc S [.ref o]) (x_Qi D d base mc (fun r S' => S' = S ∧ Q r)) 0 0 (x_A base) := by
  refine x_met (by decide) (Nat.le_of_ble_eq_true rfl) ?_
  intro p e s m below meth c hx hb hml hr hlocks hown hts hz hR hK hin ls hl
  have hown : s.vm.findClass "PressedMen$Man" = some m.cls := hown
  have hl : lv_has ls 1 [(0, .ref o)] := hl
  have hS : va_S (x_A base) s.heap s.heap [] := va_S.rf
  unfold w_X2_place at hw
  refine lv_aload_n hx hb dX2_place_0 rfl (lv_at hl 0 rfl) ?_
  refine x_getR (ci := 2) (C := RX2) (T := TX2) (N := 5) (f := 152) hx hb hts in_X2 hown hK hR rfl 2 (by decide) (hts _ q232) (fun _ h => h) rfl (by decide) dX2_place_1 hw.1 ?_
  have hw := hw.2
  obtain ⟨b_1, e_2, hw⟩ := hw
  refine x_dr0 e_2 ?_
  refine x_getNI (ci := 3) (C := RX3) (T := TX3) (N := 3) (f := 201) hx hb hts in_X3 hown hK hR rfl 1 (by decide) (hK.2 _ q216 rfl) (fun _ h => h) rfl (by decide) dX2_place_4 hw.1 ?_
  have hw := hw.2
  exact x_ri hx hb hr hlocks hR hS dX2_place_7 ⟨rfl, hw⟩
def w_X2_isSeaman (S : xH) (o : Nat) (Q : Int32 → Prop) : Prop := xT S o = 3 ∧ ∃ b_1, (xR S 150 o) = some b_1 ∧ xT S b_1 = 101 ∧ vp_in 5 (xL S b_1) ∧ wif ((xA S b_1 (Int32.toNatClampNeg 5)) < 3) (Q 0) (Q 1)
theorem hd_X2_isSeaman : yX2_isSeaman.cls = "PressedMen$Man" ∧ yX2_isSeaman.cls ≠ "java/lang/invoke/MethodHandle" ∧ yX2_isSeaman.cls ≠ "java/lang/invoke/VarHandle" ∧ (parseMethodDescriptor yX2_isSeaman.desc).map (fun d => d.parameters.length) = some 0 := by decide +kernel
set_option maxHeartbeats 4000000 in
theorem mt_X2_isSeaman (l : Launch) {D : va_G} {d : Nat → ClassId} {base : Nat} {mc : va_W} {S : xH} {o : Nat} {Q : Int32 → Prop} (hw : w_X2_isSeaman S o Q) : Met l yX2_isSeaman (ws_ yX2_isSeaman cX2_isSeaman 1 (some FieldType.boolean)) (x_rm 0 0 0 0) (x_Pc D d base mc S [.ref o]) (x_Qi D d base mc (fun r S' => S' = S ∧ Q r)) 0 0 (x_A base) := by
  refine x_met (by decide) (Nat.le_of_ble_eq_true rfl) ?_
  intro p e s m below meth c hx hb hml hr hlocks hown hts hz hR hK hin ls hl
  have hown : s.vm.findClass "PressedMen$Man" = some m.cls := hown
  have hl : lv_has ls 1 [(0, .ref o)] := hl
  have hS : va_S (x_A base) s.heap s.heap [] := va_S.rf
  unfold w_X2_isSeaman at hw
  refine lv_aload_n hx hb dX2_isSeaman_0 rfl (lv_at hl 0 rfl) ?_
  refine x_getR (ci := 2) (C := RX2) (T := TX2) (N := 5) (f := 150) hx hb hts in_X2 hown hK hR rfl 0 (by decide) (hts _ q227) (fun _ h => h) rfl (by decide) dX2_isSeaman_1 hw.1 ?_
  have hw := hw.2
  refine lv_iconst (v := 5) hx hb dX2_isSeaman_4 (by decide) ?_
  obtain ⟨b_1, e_2, hw⟩ := hw
  refine x_dr1 e_2 ?_
  refine x_iald hx hb hK hR dX2_isSeaman_5 hw.1 hw.2.1 ?_
  have hw := hw.2.2
  refine lv_iconst (v := 3) hx hb dX2_isSeaman_6 (by decide) ?_
  refine lv_icmp_lt (tgt := 14) hx hb dX2_isSeaman_7 (by decide) (fun c_3 => ?_) (fun c_3 => ?_)
  · have hw := x_t hw c_3
    refine lv_iconst (v := 0) hx hb dX2_isSeaman_14 (by decide) ?_
    exact x_rz hx hb hr hlocks hR hS dX2_isSeaman_15 (Or.inl rfl) ⟨rfl, hw⟩
  · have hw := x_f hw c_3
    refine lv_iconst (v := 1) hx hb dX2_isSeaman_10 (by decide) ?_
    refine lv_goto (tgt := 15) hx hb dX2_isSeaman_11 (by decide) ?_
    exact x_rz hx hb hr hlocks hR hS dX2_isSeaman_15 (Or.inr rfl) ⟨rfl, hw⟩
def w_X0_menAt (S : xH) (o : Nat) (x1 : Int32) (x2 : Int32) (Q : Int32 → Prop) : Prop := lf2 (fun L_3 (x3_1 : Int32) (x4_2 : Int32) => xT S o = 1 ∧ wif ((xI S 53 o) ≤ x4_2) (Q x3_1) (xT S o = 1 ∧ ∃ b_5, (xR S 52 o) = some b_5 ∧ xT S b_5 = 103 ∧ vp_in x4_2 (xL S b_5) ∧ ∃ b_7, (xQ S b_5 (Int32.toNatClampNeg x4_2)) = some b_7 ∧ xT S b_7 = 3 ∧ w_X2_place S b_7 (fun (r_9 : Int32) => jn (fun (v1_11 : Int32) => nm (x3_1 + v1_11) (fun x3_13 : Int32 => L_3 x3_13 (x4_2 + 1))) (fun J_12 => jn0 (J_12 0) (fun J_14 => wif (r_9 = x1) (jn0 (J_12 1) (fun J_16 => wif (x2 = 0) (J_16) (xT S o = 1 ∧ ∃ b_18, (xR S 52 o) = some b_18 ∧ xT S b_18 = 103 ∧ vp_in x4_2 (xL S b_18) ∧ ∃ b_20, (xQ S b_18 (Int32.toNatClampNeg x4_2)) = some b_20 ∧ xT S b_20 = 3 ∧ w_X2_isSeaman S b_20 (fun (r_22 : Int32) => wif (r_22 = 0) (J_14) (J_16))))) (J_14)))))) 0 0
theorem hd_X0_menAt : yX0_menAt.cls = "PressedMen" ∧ yX0_menAt.cls ≠ "java/lang/invoke/MethodHandle" ∧ yX0_menAt.cls ≠ "java/lang/invoke/VarHandle" ∧ (parseMethodDescriptor yX0_menAt.desc).map (fun d => d.parameters.length) = some 2 := by decide +kernel
set_option maxHeartbeats 4000000 in
theorem mt_X0_menAt (l : Launch) {D : va_G} {d : Nat → ClassId} {base : Nat} {mc : va_W} {S : xH} {o : Nat} {x1 : Int32} {x2 : Int32} {Q : Int32 → Prop} (hw : w_X0_menAt S o x1 x2 Q) : Met l yX0_menAt (ws_ yX0_menAt cX0_menAt 5 (some FieldType.int)) (x_rm 1 0 0 20) (x_Pc D d base mc S [.ref o, .int x1, .int x2]) (x_Qi D d base mc (fun r S' => S' = S ∧ Q r)) 0 0 (x_A base) := by
  refine x_met (by decide) (Nat.le_of_ble_eq_true rfl) ?_
  intro p e s m below meth c hx hb hml hr hlocks hown hts hz hR hK hin ls hl
  have hown : s.vm.findClass "PressedMen" = some m.cls := hown
  have hl : lv_has ls 5 [(0, .ref o), (1, .int x1), (2, .int x2)] := hl
  have hS : va_S (x_A base) s.heap s.heap [] := va_S.rf
  unfold w_X0_menAt at hw
  refine lv_iconst (v := 0) hx hb dX0_menAt_0 (by decide) ?_
  refine lv_istore_n (lv' := [(3, .int 0), (0, .ref o), (1, .int x1), (2, .int x2)]) hx hb dX0_menAt_1 rfl hl (by decide) rfl (fun ls hl => ?_)
  refine lv_iconst (v := 0) hx hb dX0_menAt_2 (by decide) ?_
  refine lv_istore (lv' := [(4, .int 0), (3, .int 0), (0, .ref o), (1, .int x1), (2, .int x2)]) hx hb dX0_menAt_3 hl (by decide) rfl (fun ls hl => ?_)
  refine x_lf2 (G := fun (x3_1 : Int32) (x4_2 : Int32) => ∀ (ls : Array Slot) (H : Heap) (locs : List Loc), x_Rp D d (x_A base) mc S H → va_S (x_A base) s.heap H locs → lv_has ls 5 [(0, .ref o), (1, .int x1), (2, .int x2), (3, .int x3_1), (4, .int x4_2)] → W p l e (x_rm 1 0 0 20) s m ([.ref o, .int x1, .int x2] : List Value).toArray below meth c H locs 0 0 (MQ below (x_Qi D d base mc (fun r S' => S' = S ∧ Q r)) ([.ref o, .int x1, .int x2] : List Value).toArray s 0 0 (x_A base)) (F0 m 5 ls [])) hw (fun x3_1 x4_2 hw => ?_) ls _ _ hR hS (lv_sub hl [2, 3, 4, 1, 0] rfl)
  intro ls H locs hR hS hl
  refine lv_iload hx hb dX0_menAt_5 (lv_at hl 4 rfl) ?_
  refine lv_aload_n hx hb dX0_menAt_7 rfl (lv_at hl 0 rfl) ?_
  refine x_getI (ci := 0) (C := RX0) (T := TX0) (N := 19) (f := 53) hx hb hts in_X0 hown hK hR rfl 3 (by decide) (hts _ q116) (fun _ h => h) rfl (by decide) dX0_menAt_8 hw.1 ?_
  have hw := hw.2
  refine lv_icmp_ge (tgt := 59) hx hb dX0_menAt_11 (by decide) (fun c_4 => ?_) (fun c_4 => ?_)
  · have hw := x_t hw c_4
    refine lv_iload_n hx hb dX0_menAt_59 rfl (lv_at hl 3 rfl) ?_
    exact x_ri hx hb hr hlocks hR hS dX0_menAt_60 ⟨rfl, hw⟩
  · have hw := x_f hw c_4
    refine lv_iload_n hx hb dX0_menAt_14 rfl (lv_at hl 3 rfl) ?_
    refine lv_aload_n hx hb dX0_menAt_15 rfl (lv_at hl 0 rfl) ?_
    refine x_getR (ci := 0) (C := RX0) (T := TX0) (N := 19) (f := 52) hx hb hts in_X0 hown hK hR rfl 2 (by decide) (hts _ q114) (fun _ h => h) rfl (by decide) dX0_menAt_16 hw.1 ?_
    have hw := hw.2
    refine lv_iload hx hb dX0_menAt_19 (lv_at hl 4 rfl) ?_
    obtain ⟨b_5, e_6, hw⟩ := hw
    refine x_dr1 e_6 ?_
    refine x_aald (t := 103) hx hb hK hR (by decide) rfl rfl dX0_menAt_21 hw.1 hw.2.1 ?_
    have hw := hw.2.2
    obtain ⟨b_7, e_8, hw⟩ := hw
    refine x_dr0 e_8 ?_
    obtain ⟨ha, hw⟩ := hw
    refine x_ci (va_runV (As := []) (rest := [.int x3_1]) ⟨hx, hb, hml, hown, hts⟩ (mt_X2_place l hw) (cwV 0 hts (lw_V q276 q277 q278 q66 q279) rfl rfl rfl hd_X2_place ⟨Nat.le_of_ble_eq_true rfl, Nat.le_of_ble_eq_true rfl⟩) ⟨x_Pc_blind, hR.recv hK (ci := 2) rfl (by decide) ha, x_Pc_pre hR hz hS hK⟩ rfl rfl hl.1 rfl (lv_room (Nat.le_of_ble_eq_true rfl)) dX0_menAt_22 ⟨Nat.le_refl _, Nat.le_refl _⟩) hS (fun r_9 S_10 H locs hp hR hS => ?_)
    have hw := hp.2
    rw [hp.1] at hR
    refine lv_iload_n hx hb dX0_menAt_25 rfl (lv_at hl 1 rfl) ?_
    refine x_jn (G := fun (v1_11 : Int32) => ∀ (ls : Array Slot) (H : Heap) (locs : List Loc), x_Rp D d (x_A base) mc S H → va_S (x_A base) s.heap H locs → lv_has ls 5 [(0, .ref o), (1, .int x1), (2, .int x2), (4, .int x4_2)] → W p l e (x_rm 1 0 0 20) s m ([.ref o, .int x1, .int x2] : List Value).toArray below meth c H locs 0 0 (MQ below (x_Qi D d base mc (fun r S' => S' = S ∧ Q r)) ([.ref o, .int x1, .int x2] : List Value).toArray s 0 0 (x_A base)) (F0 m 51 ls [.int v1_11, .int x3_1])) hw (fun v1_11 hw => ?_) (fun hJ_12 hw => ?_)
    · intro ls H locs hR hS hl
      refine lv_iadd hx hb dX0_menAt_51 ?_
      refine lv_topi (fun x3_13 ex3_13 => ?_)
      have hw := hw x3_13 ex3_13
      refine lv_istore_n (lv' := [(3, .int x3_13), (0, .ref o), (1, .int x1), (2, .int x2), (4, .int x4_2)]) hx hb dX0_menAt_52 rfl hl (by decide) rfl (fun ls hl => ?_)
      refine lv_iinc (v := (x4_2 + 1)) (lv' := [(4, .int (x4_2 + 1)), (3, .int x3_13), (0, .ref o), (1, .int x1), (2, .int x2)]) hx hb dX0_menAt_53 hl (k := 4) rfl rfl (by decide) rfl (fun ls hl => ?_)
      refine lv_goto (tgt := 5) hx hb dX0_menAt_56 (by decide) ?_
      exact hw ls _ _ hR hS (lv_sub hl [2, 3, 4, 1, 0] rfl)
    · refine x_jn0 (G := ∀ (ls : Array Slot) (H : Heap) (locs : List Loc), x_Rp D d (x_A base) mc S H → va_S (x_A base) s.heap H locs → lv_has ls 5 [(0, .ref o), (1, .int x1), (2, .int x2), (4, .int x4_2)] → W p l e (x_rm 1 0 0 20) s m ([.ref o, .int x1, .int x2] : List Value).toArray below meth c H locs 0 0 (MQ below (x_Qi D d base mc (fun r S' => S' = S ∧ Q r)) ([.ref o, .int x1, .int x2] : List Value).toArray s 0 0 (x_A base)) (F0 m 50 ls [.int x3_1])) hw (fun hw => ?_) (fun hJ_14 hw => ?_)
      · intro ls H locs hR hS hl
        refine lv_iconst (v := 0) hx hb dX0_menAt_50 (by decide) ?_
        exact hJ_12 0 hw ls _ _ hR hS (lv_sub hl [0, 1, 2, 3] rfl)
      · refine lv_icmp_ne (tgt := 50) hx hb dX0_menAt_26 (by decide) (fun c_15 => ?_) (fun c_15 => ?_)
        · have hw := x_f hw c_15
          exact hJ_14  hw ls _ _ hR hS (lv_sub hl [0, 1, 2, 4] rfl)
        · have hw := x_t hw c_15
          refine lv_iload_n hx hb dX0_menAt_29 rfl (lv_at hl 2 rfl) ?_
          refine x_jn0 (G := ∀ (ls : Array Slot) (H : Heap) (locs : List Loc), x_Rp D d (x_A base) mc S H → va_S (x_A base) s.heap H locs → lv_has ls 5 [(0, .ref o), (1, .int x1), (2, .int x2), (4, .int x4_2)] → W p l e (x_rm 1 0 0 20) s m ([.ref o, .int x1, .int x2] : List Value).toArray below meth c H locs 0 0 (MQ below (x_Qi D d base mc (fun r S' => S' = S ∧ Q r)) ([.ref o, .int x1, .int x2] : List Value).toArray s 0 0 (x_A base)) (F0 m 46 ls [.int x3_1])) hw (fun hw => ?_) (fun hJ_16 hw => ?_)
          · intro ls H locs hR hS hl
            refine lv_iconst (v := 1) hx hb dX0_menAt_46 (by decide) ?_
            refine lv_goto (tgt := 51) hx hb dX0_menAt_47 (by decide) ?_
            exact hJ_12 1 hw ls _ _ hR hS (lv_sub hl [0, 1, 2, 3] rfl)
          · refine lv_if_eq (tgt := 46) hx hb dX0_menAt_30 (by decide) (fun c_17 => ?_) (fun c_17 => ?_)
            · have hw := x_t hw c_17
              exact hJ_16  hw ls _ _ hR hS (lv_sub hl [0, 1, 2, 4] rfl)
            · have hw := x_f hw c_17
              refine lv_aload_n hx hb dX0_menAt_33 rfl (lv_at hl 0 rfl) ?_
              refine x_getR (ci := 0) (C := RX0) (T := TX0) (N := 19) (f := 52) hx hb hts in_X0 hown hK hR rfl 2 (by decide) (hts _ q114) (fun _ h => h) rfl (by decide) dX0_menAt_34 hw.1 ?_
              have hw := hw.2
              refine lv_iload hx hb dX0_menAt_37 (lv_at hl 4 rfl) ?_
              obtain ⟨b_18, e_19, hw⟩ := hw
              refine x_dr1 e_19 ?_
              refine x_aald (t := 103) hx hb hK hR (by decide) rfl rfl dX0_menAt_39 hw.1 hw.2.1 ?_
              have hw := hw.2.2
              obtain ⟨b_20, e_21, hw⟩ := hw
              refine x_dr0 e_21 ?_
              obtain ⟨ha, hw⟩ := hw
              refine x_ci (va_runV (As := []) (rest := [.int x3_1]) ⟨hx, hb, hml, hown, hts⟩ (mt_X2_isSeaman l hw) (cwV 0 hts (lw_V q280 q281 q282 q66 q283) rfl rfl rfl hd_X2_isSeaman ⟨Nat.le_of_ble_eq_true rfl, Nat.le_of_ble_eq_true rfl⟩) ⟨x_Pc_blind, hR.recv hK (ci := 2) rfl (by decide) ha, x_Pc_pre hR hz hS hK⟩ rfl rfl hl.1 rfl (lv_room (Nat.le_of_ble_eq_true rfl)) dX0_menAt_40 ⟨Nat.le_refl _, Nat.le_refl _⟩) hS (fun r_22 S_23 H locs hp hR hS => ?_)
              have hw := hp.2
              rw [hp.1] at hR
              refine lv_if_eq (tgt := 50) hx hb dX0_menAt_43 (by decide) (fun c_24 => ?_) (fun c_24 => ?_)
              · have hw := x_t hw c_24
                exact hJ_14  hw ls _ _ hR hS (lv_sub hl [0, 1, 2, 4] rfl)
              · have hw := x_f hw c_24
                exact hJ_16  hw ls _ _ hR hS (lv_sub hl [0, 1, 2, 4] rfl)
def w_X0_at (S : xH) (o : Nat) (x1 : Int32) (Q : Int32 → Prop) : Prop := xT S o = 1 ∧ w_X0_isStreet S o x1 (fun (r_1 : Int32) => jn (fun (v0_3 : Int32) => wif (v0_3 = 0) (Q (-2)) (xT S o = 1 ∧ w_X0_menAt S o x1 0 (fun (r_6 : Int32) => Q r_6))) (fun J_4 => jn0 (J_4 1) (fun J_8 => wif (r_1 = 0) (xT S o = 1 ∧ w_X0_isIn S x1 10 ((10 + (xI S 65 o)) - 1) (fun (r_10 : Int32) => wif (r_10 = 0) (w_X0_isIn S x1 20 23 (fun (r_13 : Int32) => wif (r_13 = 0) (J_4 0) (J_8))) (J_8))) (J_8))))
theorem hd_X0_at : yX0_at.cls = "PressedMen" ∧ yX0_at.cls ≠ "java/lang/invoke/MethodHandle" ∧ yX0_at.cls ≠ "java/lang/invoke/VarHandle" ∧ (parseMethodDescriptor yX0_at.desc).map (fun d => d.parameters.length) = some 1 := by decide +kernel
set_option maxHeartbeats 4000000 in
theorem mt_X0_at (l : Launch) {D : va_G} {d : Nat → ClassId} {base : Nat} {mc : va_W} {S : xH} {o : Nat} {x1 : Int32} {Q : Int32 → Prop} (hw : w_X0_at S o x1 Q) : Met l yX0_at (ws_ yX0_at cX0_at 3 (some FieldType.int)) (x_rm 2 0 0 44) (x_Pc D d base mc S [.ref o, .int x1]) (x_Qi D d base mc (fun r S' => S' = S ∧ Q r)) 0 0 (x_A base) := by
  refine x_met (by decide) (Nat.le_of_ble_eq_true rfl) ?_
  intro p e s m below meth c hx hb hml hr hlocks hown hts hz hR hK hin ls hl
  have hown : s.vm.findClass "PressedMen" = some m.cls := hown
  have hl : lv_has ls 3 [(0, .ref o), (1, .int x1)] := hl
  have hS : va_S (x_A base) s.heap s.heap [] := va_S.rf
  unfold w_X0_at at hw
  refine lv_aload_n hx hb dX0_at_0 rfl (lv_at hl 0 rfl) ?_
  refine lv_iload_n hx hb dX0_at_1 rfl (lv_at hl 1 rfl) ?_
  obtain ⟨ha, hw⟩ := hw
  refine x_ci (va_runV (As := [.int x1]) (rest := []) ⟨hx, hb, hml, hown, hts⟩ (mt_X0_isStreet l hw) (cwV 1 hts (lw_V q181 q183 qs0 q64 q184) rfl rfl rfl hd_X0_isStreet ⟨Nat.le_of_ble_eq_true rfl, Nat.le_of_ble_eq_true rfl⟩) ⟨x_Pc_blind, hR.recv hK (ci := 0) rfl (by decide) ha, x_Pc_pre hR hz hS hK⟩ rfl rfl hl.1 rfl (lv_room (Nat.le_of_ble_eq_true rfl)) dX0_at_2 ⟨Nat.le_refl _, Nat.le_refl _⟩) hS (fun r_1 S_2 H locs hp hR hS => ?_)
  have hw := hp.2
  rw [hp.1] at hR
  refine x_jn (G := fun (v0_3 : Int32) => ∀ (ls : Array Slot) (H : Heap) (locs : List Loc), x_Rp D d (x_A base) mc S H → va_S (x_A base) s.heap H locs → lv_has ls 3 [(0, .ref o), (1, .int x1)] → W p l e (x_rm 2 0 0 44) s m ([.ref o, .int x1] : List Value).toArray below meth c H locs 0 0 (MQ below (x_Qi D d base mc (fun r S' => S' = S ∧ Q r)) ([.ref o, .int x1] : List Value).toArray s 0 0 (x_A base)) (F0 m 42 ls [.int v0_3])) hw (fun v0_3 hw => ?_) (fun hJ_4 hw => ?_)
  · intro ls H locs hR hS hl
    refine lv_istore_n (lv' := [(2, .int v0_3), (0, .ref o), (1, .int x1)]) hx hb dX0_at_42 rfl hl (by decide) rfl (fun ls hl => ?_)
    refine lv_iload_n hx hb dX0_at_43 rfl (lv_at hl 0 rfl) ?_
    refine lv_if_eq (tgt := 56) hx hb dX0_at_44 (by decide) (fun c_5 => ?_) (fun c_5 => ?_)
    · have hw := x_t hw c_5
      refine lv_bipush (v := (-2)) hx hb dX0_at_56 (by decide) ?_
      exact x_ri hx hb hr hlocks hR hS dX0_at_58 ⟨rfl, hw⟩
    · have hw := x_f hw c_5
      refine lv_aload_n hx hb dX0_at_47 rfl (lv_at hl 1 rfl) ?_
      refine lv_iload_n hx hb dX0_at_48 rfl (lv_at hl 2 rfl) ?_
      refine lv_iconst (v := 0) hx hb dX0_at_49 (by decide) ?_
      obtain ⟨ha, hw⟩ := hw
      refine x_ci (va_runV (As := [.int x1, .int 0]) (rest := []) ⟨hx, hb, hml, hown, hts⟩ (mt_X0_menAt l hw) (cwV 2 hts (lw_V q272 q274 qs3 q64 q275) rfl rfl rfl hd_X0_menAt ⟨Nat.le_of_ble_eq_true rfl, Nat.le_of_ble_eq_true rfl⟩) ⟨x_Pc_blind, hR.recv hK (ci := 0) rfl (by decide) ha, x_Pc_pre hR hz hS hK⟩ rfl rfl hl.1 rfl (lv_room (Nat.le_of_ble_eq_true rfl)) dX0_at_50 ⟨Nat.le_refl _, Nat.le_refl _⟩) hS (fun r_6 S_7 H locs hp hR hS => ?_)
      have hw := hp.2
      rw [hp.1] at hR
      refine lv_goto (tgt := 58) hx hb dX0_at_53 (by decide) ?_
      exact x_ri hx hb hr hlocks hR hS dX0_at_58 ⟨rfl, hw⟩
  · refine x_jn0 (G := ∀ (ls : Array Slot) (H : Heap) (locs : List Loc), x_Rp D d (x_A base) mc S H → va_S (x_A base) s.heap H locs → lv_has ls 3 [(0, .ref o), (1, .int x1)] → W p l e (x_rm 2 0 0 44) s m ([.ref o, .int x1] : List Value).toArray below meth c H locs 0 0 (MQ below (x_Qi D d base mc (fun r S' => S' = S ∧ Q r)) ([.ref o, .int x1] : List Value).toArray s 0 0 (x_A base)) (F0 m 37 ls [])) hw (fun hw => ?_) (fun hJ_8 hw => ?_)
    · intro ls H locs hR hS hl
      refine lv_iconst (v := 1) hx hb dX0_at_37 (by decide) ?_
      refine lv_goto (tgt := 42) hx hb dX0_at_38 (by decide) ?_
      exact hJ_4 1 hw ls _ _ hR hS (lv_sub hl [0, 1] rfl)
    · refine lv_if_ne (tgt := 37) hx hb dX0_at_5 (by decide) (fun c_9 => ?_) (fun c_9 => ?_)
      · have hw := x_f hw c_9
        exact hJ_8  hw ls _ _ hR hS (lv_sub hl [0, 1] rfl)
      · have hw := x_t hw c_9
        refine lv_iload_n hx hb dX0_at_8 rfl (lv_at hl 1 rfl) ?_
        refine lv_bipush (v := 10) hx hb dX0_at_9 (by decide) ?_
        refine lv_bipush (v := 10) hx hb dX0_at_11 (by decide) ?_
        refine lv_aload_n hx hb dX0_at_13 rfl (lv_at hl 0 rfl) ?_
        refine x_getI (ci := 0) (C := RX0) (T := TX0) (N := 19) (f := 65) hx hb hts in_X0 hown hK hR rfl 15 (by decide) (hts _ q128) (fun _ h => h) rfl (by decide) dX0_at_14 hw.1 ?_
        have hw := hw.2
        refine lv_iadd hx hb dX0_at_17 ?_
        refine lv_iconst (v := 1) hx hb dX0_at_18 (by decide) ?_
        refine lv_isub hx hb dX0_at_19 ?_
        refine x_ci (va_runS (As := [.int x1, .int 10, .int ((10 + (xI S 65 o)) - 1)]) (rest := []) ⟨hx, hb, hml, hown, hts⟩ (mt_X0_isIn l hw) (va_cwS 3 hts (lw_S q178 q179 q64 q180) rfl rfl rfl hd_X0_isIn.2 ⟨Nat.le_of_ble_eq_true rfl, Nat.le_of_ble_eq_true rfl⟩) ⟨x_Pc_blind, x_Pc_pre hR hz hS hK⟩ rfl rfl hl.1 rfl (lv_room (Nat.le_of_ble_eq_true rfl)) dX0_at_20 ⟨Nat.le_refl _, Nat.le_refl _⟩) hS (fun r_10 S_11 H locs hp hR hS => ?_)
        have hw := hp.2
        rw [hp.1] at hR
        refine lv_if_ne (tgt := 37) hx hb dX0_at_23 (by decide) (fun c_12 => ?_) (fun c_12 => ?_)
        · have hw := x_f hw c_12
          exact hJ_8  hw ls _ _ hR hS (lv_sub hl [0, 1] rfl)
        · have hw := x_t hw c_12
          refine lv_iload_n hx hb dX0_at_26 rfl (lv_at hl 1 rfl) ?_
          refine lv_bipush (v := 20) hx hb dX0_at_27 (by decide) ?_
          refine lv_bipush (v := 23) hx hb dX0_at_29 (by decide) ?_
          refine x_ci (va_runS (As := [.int x1, .int 20, .int 23]) (rest := []) ⟨hx, hb, hml, hown, hts⟩ (mt_X0_isIn l hw) (va_cwS 3 hts (lw_S q178 q179 q64 q180) rfl rfl rfl hd_X0_isIn.2 ⟨Nat.le_of_ble_eq_true rfl, Nat.le_of_ble_eq_true rfl⟩) ⟨x_Pc_blind, x_Pc_pre hR hz hS hK⟩ rfl rfl hl.1 rfl (lv_room (Nat.le_of_ble_eq_true rfl)) dX0_at_31 ⟨Nat.le_refl _, Nat.le_refl _⟩) hS (fun r_13 S_14 H locs hp hR hS => ?_)
          have hw := hp.2
          rw [hp.1] at hR
          refine lv_if_eq (tgt := 41) hx hb dX0_at_34 (by decide) (fun c_15 => ?_) (fun c_15 => ?_)
          · have hw := x_t hw c_15
            refine lv_iconst (v := 0) hx hb dX0_at_41 (by decide) ?_
            exact hJ_4 0 hw ls _ _ hR hS (lv_sub hl [0, 1] rfl)
          · have hw := x_f hw c_15
            exact hJ_8  hw ls _ _ hR hS (lv_sub hl [0, 1] rfl)
def w_X0_tide (S : xH) (o : Nat) (Q : Int32 → Prop) : Prop := xT S o = 1 ∧ Q (xI S 54 o)
theorem hd_X0_tide : yX0_tide.cls = "PressedMen" ∧ yX0_tide.cls ≠ "java/lang/invoke/MethodHandle" ∧ yX0_tide.cls ≠ "java/lang/invoke/VarHandle" ∧ (parseMethodDescriptor yX0_tide.desc).map (fun d => d.parameters.length) = some 0 := by decide +kernel
set_option maxHeartbeats 4000000 in
theorem mt_X0_tide (l : Launch) {D : va_G} {d : Nat → ClassId} {base : Nat} {mc : va_W} {S : xH} {o : Nat} {Q : Int32 → Prop} (hw : w_X0_tide S o Q) : Met l yX0_tide (ws_ yX0_tide cX0_tide 1 (some FieldType.int)) (x_rm 0 0 0 0) (x_Pc D d base mc S [.ref o]) (x_Qi D d base mc (fun r S' => S' = S ∧ Q r)) 0 0 (x_A base) := by
  refine x_met (by decide) (Nat.le_of_ble_eq_true rfl) ?_
  intro p e s m below meth c hx hb hml hr hlocks hown hts hz hR hK hin ls hl
  have hown : s.vm.findClass "PressedMen" = some m.cls := hown
  have hl : lv_has ls 1 [(0, .ref o)] := hl
  have hS : va_S (x_A base) s.heap s.heap [] := va_S.rf
  unfold w_X0_tide at hw
  refine lv_aload_n hx hb dX0_tide_0 rfl (lv_at hl 0 rfl) ?_
  refine x_getI (ci := 0) (C := RX0) (T := TX0) (N := 19) (f := 54) hx hb hts in_X0 hown hK hR rfl 4 (by decide) (hts _ q117) (fun _ h => h) rfl (by decide) dX0_tide_1 hw.1 ?_
  have hw := hw.2
  exact x_ri hx hb hr hlocks hR hS dX0_tide_4 ⟨rfl, hw⟩
def w_X16_isInStreet (S : xH) (o : Nat) (Q : Int32 → Prop) : Prop := xT S o = 17 ∧ wif (10 ≤ (xI S 853 o)) (Q 0) (Q 1)
theorem hd_X16_isInStreet : yX16_isInStreet.cls = "PressedMen$Taking" ∧ yX16_isInStreet.cls ≠ "java/lang/invoke/MethodHandle" ∧ yX16_isInStreet.cls ≠ "java/lang/invoke/VarHandle" ∧ (parseMethodDescriptor yX16_isInStreet.desc).map (fun d => d.parameters.length) = some 0 := by decide +kernel
set_option maxHeartbeats 4000000 in
theorem mt_X16_isInStreet (l : Launch) {D : va_G} {d : Nat → ClassId} {base : Nat} {mc : va_W} {S : xH} {o : Nat} {Q : Int32 → Prop} (hw : w_X16_isInStreet S o Q) : Met l yX16_isInStreet (ws_ yX16_isInStreet cX16_isInStreet 1 (some FieldType.boolean)) (x_rm 0 0 0 0) (x_Pc D d base mc S [.ref o]) (x_Qi D d base mc (fun r S' => S' = S ∧ Q r)) 0 0 (x_A base) := by
  refine x_met (by decide) (Nat.le_of_ble_eq_true rfl) ?_
  intro p e s m below meth c hx hb hml hr hlocks hown hts hz hR hK hin ls hl
  have hown : s.vm.findClass "PressedMen$Taking" = some m.cls := hown
  have hl : lv_has ls 1 [(0, .ref o)] := hl
  have hS : va_S (x_A base) s.heap s.heap [] := va_S.rf
  unfold w_X16_isInStreet at hw
  refine lv_aload_n hx hb dX16_isInStreet_0 rfl (lv_at hl 0 rfl) ?_
  refine x_getI (ci := 16) (C := RX16) (T := TX16) (N := 6) (f := 853) hx hb hts in_X16 hown hK hR rfl 3 (by decide) (hts _ q665) (fun _ h => h) rfl (by decide) dX16_isInStreet_1 hw.1 ?_
  have hw := hw.2
  refine lv_bipush (v := 10) hx hb dX16_isInStreet_4 (by decide) ?_
  refine lv_icmp_ge (tgt := 13) hx hb dX16_isInStreet_6 (by decide) (fun c_1 => ?_) (fun c_1 => ?_)
  · have hw := x_t hw c_1
    refine lv_iconst (v := 0) hx hb dX16_isInStreet_13 (by decide) ?_
    exact x_rz hx hb hr hlocks hR hS dX16_isInStreet_14 (Or.inl rfl) ⟨rfl, hw⟩
  · have hw := x_f hw c_1
    refine lv_iconst (v := 1) hx hb dX16_isInStreet_9 (by decide) ?_
    refine lv_goto (tgt := 14) hx hb dX16_isInStreet_10 (by decide) ?_
    exact x_rz hx hb hr hlocks hR hS dX16_isInStreet_14 (Or.inr rfl) ⟨rfl, hw⟩
def w_X0_heardBy (k n : Nat) (S : xH) (o : Nat) (x1 : Int32) (Q : Int32 → xH → Prop) : Prop := xT S o = 1 ∧ ∃ k_1 n_2, k_1 ≤ k ∧ n_2 ≤ n ∧ w_X0_farFrom k_1 n_2 S o x1 (fun (r_3 : Option Nat) (S_4 : xH) => ∃ b_5, r_3 = some b_5 ∧ xT S_4 o = 1 ∧ nm (xI S_4 63 o) (fun x4_7 : Int32 => lf2 (fun L_10 (x2_8 : Int32) (x4_9 : Int32) => xT S_4 o = 1 ∧ wif ((xI S_4 62 o) ≤ x4_9) (Q x2_8 S_4) (xT S_4 o = 1 ∧ ∃ b_12, (xR S_4 61 o) = some b_12 ∧ xT S_4 b_12 = 106 ∧ vp_in x4_9 (xL S_4 b_12) ∧ ∃ b_14, (xQ S_4 b_12 (Int32.toNatClampNeg x4_9)) = some b_14 ∧ xT S_4 b_14 = 17 ∧ w_X16_isInStreet S_4 b_14 (fun (r_16 : Int32) => jn (fun (x2_18 : Int32) => L_10 x2_18 (x4_9 + 1)) (fun J_19 => wif (r_16 = 0) (J_19 x2_8) (xT S_4 b_14 = 17 ∧ xT S_4 b_5 = 101 ∧ vp_in (xI S_4 853 b_14) (xL S_4 b_5) ∧ wif ((xA S_4 b_5 (Int32.toNatClampNeg (xI S_4 853 b_14))) = (-9)) (J_19 x2_8) (xT S_4 b_14 = 17 ∧ xT S_4 b_14 = 17 ∧ xT S_4 b_5 = 101 ∧ vp_in (xI S_4 853 b_14) (xL S_4 b_5) ∧ nm ((xI S_4 850 b_14) + (xA S_4 b_5 (Int32.toNatClampNeg (xI S_4 853 b_14)))) (fun x6_22 : Int32 => jn (fun (v0_23 : Int32) => J_19 v0_23) (fun J_24 => wif (x2_8 = (-9)) (J_24 x6_22) (J_24 (if x6_22 < x2_8 then x6_22 else x2_8)))))))))) (-9) x4_7))
theorem hd_X0_heardBy : yX0_heardBy.cls = "PressedMen" ∧ yX0_heardBy.cls ≠ "java/lang/invoke/MethodHandle" ∧ yX0_heardBy.cls ≠ "java/lang/invoke/VarHandle" ∧ (parseMethodDescriptor yX0_heardBy.desc).map (fun d => d.parameters.length) = some 1 := by decide +kernel
set_option maxHeartbeats 4000000 in
theorem mt_X0_heardBy (l : Launch) {D : va_G} {d : Nat → ClassId} {base : Nat} {mc : va_W} {S : xH} {k n : Nat} {o : Nat} {x1 : Int32} {Q : Int32 → xH → Prop} (hw : w_X0_heardBy k n S o x1 Q) : Met l yX0_heardBy (ws_ yX0_heardBy cX0_heardBy 7 (some FieldType.int)) (x_rm 1 k n 29) (x_Pc D d base mc S [.ref o, .int x1]) (x_Qi D d base mc (fun r S' => Q r S')) k n (x_A base) := by
  refine x_met (by decide) (Nat.le_of_ble_eq_true rfl) ?_
  intro p e s m below meth c hx hb hml hr hlocks hown hts hz hR hK hin ls hl
  have hown : s.vm.findClass "PressedMen" = some m.cls := hown
  have hl : lv_has ls 7 [(0, .ref o), (1, .int x1)] := hl
  have hS : va_S (x_A base) s.heap s.heap [] := va_S.rf
  have hA : ∀ q : Nat, s.heap.size ≤ q → x_A base q := fun q h => Nat.le_trans hz h
  have hc : 0 + k ≤ k := by omega
  have hs : 0 + n ≤ n := by omega
  unfold w_X0_heardBy at hw
  refine lv_bipush (v := (-9)) hx hb dX0_heardBy_0 (by decide) ?_
  refine lv_istore_n (lv' := [(2, .int (-9)), (0, .ref o), (1, .int x1)]) hx hb dX0_heardBy_2 rfl hl (by decide) rfl (fun ls hl => ?_)
  refine lv_aload_n hx hb dX0_heardBy_3 rfl (lv_at hl 1 rfl) ?_
  refine lv_iload_n hx hb dX0_heardBy_4 rfl (lv_at hl 2 rfl) ?_
  obtain ⟨ha, hw⟩ := hw
  obtain ⟨k_1, n_2, h1, h2, hw⟩ := hw
  refine x_cq (va_runV (As := [.int x1]) (rest := []) ⟨hx, hb, hml, hown, hts⟩ (mt_X0_farFrom l hw) (cwV 1 hts (lw_V q193 q195 qs1 q64 q196) rfl rfl rfl hd_X0_farFrom ⟨Nat.le_of_ble_eq_true rfl, Nat.le_of_ble_eq_true rfl⟩) ⟨x_Pc_blind, hR.recv hK (ci := 0) rfl (by decide) ha, x_Pc_pre hR hz hS hK⟩ rfl rfl hl.1 rfl (lv_room (Nat.le_of_ble_eq_true rfl)) dX0_heardBy_5 ⟨by show _ ≤ k; omega, by show _ ≤ n; omega⟩) hS (fun r_3 S_4 H locs hp hR hS => ?_)
  have hw := hp
  have hc : (0 + k_1) + (k - k_1) ≤ k := by omega
  have hs : (0 + n_2) + (n - n_2) ≤ n := by omega
  obtain ⟨b_5, e_6, hw⟩ := hw
  refine x_dr0 e_6 ?_
  refine lv_astore_n (lv' := [(3, .ref b_5), (2, .int (-9)), (0, .ref o), (1, .int x1)]) hx hb dX0_heardBy_8 rfl hl (by decide) rfl (fun ls hl => ?_)
  refine lv_aload_n hx hb dX0_heardBy_9 rfl (lv_at hl 2 rfl) ?_
  refine x_getI (ci := 0) (C := RX0) (T := TX0) (N := 19) (f := 63) hx hb hts in_X0 hown hK hR rfl 13 (by decide) (hts _ q126) (fun _ h => h) rfl (by decide) dX0_heardBy_10 hw.1 ?_
  have hw := hw.2
  refine lv_topi (fun x4_7 ex4_7 => ?_)
  have hw := hw x4_7 ex4_7
  refine lv_istore (lv' := [(4, .int x4_7), (3, .ref b_5), (2, .int (-9)), (0, .ref o), (1, .int x1)]) hx hb dX0_heardBy_13 hl (by decide) rfl (fun ls hl => ?_)
  refine x_lf2 (G := fun (x2_8 : Int32) (x4_9 : Int32) => ∀ (ls : Array Slot) (H : Heap) (locs : List Loc) (cK nK : Nat), cK + (k - k_1) ≤ k → nK + (n - n_2) ≤ n → x_Rp D d (x_A base) mc S_4 H → va_S (x_A base) s.heap H locs → lv_has ls 7 [(0, .ref o), (2, .int x2_8), (3, .ref b_5), (4, .int x4_9)] → W p l e (x_rm 1 k n 29) s m ([.ref o, .int x1] : List Value).toArray below meth c H locs cK nK (MQ below (x_Qi D d base mc (fun r S' => Q r S')) ([.ref o, .int x1] : List Value).toArray s k n (x_A base)) (F0 m 15 ls [])) hw (fun x2_8 x4_9 hw => ?_) ls _ _ _ _ hc hs hR hS (lv_sub hl [3, 2, 1, 0] rfl)
  intro ls H locs cK nK hc hs hR hS hl
  refine lv_iload hx hb dX0_heardBy_15 (lv_at hl 3 rfl) ?_
  refine lv_aload_n hx hb dX0_heardBy_17 rfl (lv_at hl 0 rfl) ?_
  refine x_getI (ci := 0) (C := RX0) (T := TX0) (N := 19) (f := 62) hx hb hts in_X0 hown hK hR rfl 12 (by decide) (hts _ q125) (fun _ h => h) rfl (by decide) dX0_heardBy_18 hw.1 ?_
  have hw := hw.2
  refine lv_icmp_ge (tgt := 92) hx hb dX0_heardBy_21 (by decide) (fun c_11 => ?_) (fun c_11 => ?_)
  · have hw := x_t hw c_11
    refine lv_iload_n hx hb dX0_heardBy_92 rfl (lv_at hl 1 rfl) ?_
    refine W.widen (k := k) (n := n) (by omega) (by omega) ?_
    exact x_ri hx hb hr hlocks hR hS dX0_heardBy_93 hw
  · have hw := x_f hw c_11
    refine lv_aload_n hx hb dX0_heardBy_24 rfl (lv_at hl 0 rfl) ?_
    refine x_getR (ci := 0) (C := RX0) (T := TX0) (N := 19) (f := 61) hx hb hts in_X0 hown hK hR rfl 11 (by decide) (hts _ q124) (fun _ h => h) rfl (by decide) dX0_heardBy_25 hw.1 ?_
    have hw := hw.2
    refine lv_iload hx hb dX0_heardBy_28 (lv_at hl 3 rfl) ?_
    obtain ⟨b_12, e_13, hw⟩ := hw
    refine x_dr1 e_13 ?_
    refine x_aald (t := 106) hx hb hK hR (by decide) rfl rfl dX0_heardBy_30 hw.1 hw.2.1 ?_
    have hw := hw.2.2
    obtain ⟨b_14, e_15, hw⟩ := hw
    refine x_dr0 e_15 ?_
    refine lv_astore (lv' := [(5, .ref b_14), (0, .ref o), (2, .int x2_8), (3, .ref b_5), (4, .int x4_9)]) hx hb dX0_heardBy_31 hl (by decide) rfl (fun ls hl => ?_)
    refine lv_aload hx hb dX0_heardBy_33 (lv_at hl 0 rfl) ?_
    obtain ⟨ha, hw⟩ := hw
    refine x_ci (va_runV (As := []) (rest := []) ⟨hx, hb, hml, hown, hts⟩ (mt_X16_isInStreet l hw) (cwV 0 hts (lw_V q304 q305 q306 q81 q307) rfl rfl rfl hd_X16_isInStreet ⟨Nat.le_of_ble_eq_true rfl, Nat.le_of_ble_eq_true rfl⟩) ⟨x_Pc_blind, hR.recv hK (ci := 16) rfl (by decide) ha, x_Pc_pre hR hz hS hK⟩ rfl rfl hl.1 rfl (lv_room (Nat.le_of_ble_eq_true rfl)) dX0_heardBy_35 ⟨by show _ ≤ k; omega, by show _ ≤ n; omega⟩) hS (fun r_16 S_17 H locs hp hR hS => ?_)
    have hw := hp.2
    rw [hp.1] at hR
    refine x_jn (G := fun (x2_18 : Int32) => ∀ (ls : Array Slot) (H : Heap) (locs : List Loc) (cK nK : Nat), cK + (k - k_1) ≤ k → nK + (n - n_2) ≤ n → x_Rp D d (x_A base) mc S_4 H → va_S (x_A base) s.heap H locs → lv_has ls 7 [(0, .ref o), (2, .int x2_18), (3, .ref b_5), (4, .int x4_9)] → W p l e (x_rm 1 k n 29) s m ([.ref o, .int x1] : List Value).toArray below meth c H locs cK nK (MQ below (x_Qi D d base mc (fun r S' => Q r S')) ([.ref o, .int x1] : List Value).toArray s k n (x_A base)) (F0 m 86 ls [])) hw (fun x2_18 hw => ?_) (fun hJ_19 hw => ?_)
    · intro ls H locs cK nK hc hs hR hS hl
      refine lv_iinc (v := (x4_9 + 1)) (lv' := [(4, .int (x4_9 + 1)), (0, .ref o), (2, .int x2_18), (3, .ref b_5)]) hx hb dX0_heardBy_86 hl (k := 3) rfl rfl (by decide) rfl (fun ls hl => ?_)
      refine lv_goto (tgt := 15) hx hb dX0_heardBy_89 (by decide) ?_
      exact hw ls _ _ _ _ hc hs hR hS (lv_sub hl [1, 2, 3, 0] rfl)
    · refine lv_if_eq (tgt := 86) hx hb dX0_heardBy_38 (by decide) (fun c_20 => ?_) (fun c_20 => ?_)
      · have hw := x_t hw c_20
        exact hJ_19 x2_8 hw ls _ _ _ _ hc hs hR hS (lv_sub hl [1, 2, 3, 4] rfl)
      · have hw := x_f hw c_20
        refine lv_aload_n hx hb dX0_heardBy_41 rfl (lv_at hl 3 rfl) ?_
        refine lv_aload hx hb dX0_heardBy_42 (lv_at hl 0 rfl) ?_
        refine x_getNI (ci := 16) (C := RX16) (T := TX16) (N := 6) (f := 853) hx hb hts in_X16 hown hK hR rfl 3 (by decide) (hK.2 _ q666 rfl) (fun _ h => h) rfl (by decide) dX0_heardBy_44 hw.1 ?_
        have hw := hw.2
        refine x_iald hx hb hK hR dX0_heardBy_47 hw.1 hw.2.1 ?_
        have hw := hw.2.2
        refine lv_bipush (v := (-9)) hx hb dX0_heardBy_48 (by decide) ?_
        refine lv_icmp_eq (tgt := 86) hx hb dX0_heardBy_50 (by decide) (fun c_21 => ?_) (fun c_21 => ?_)
        · have hw := x_t hw c_21
          exact hJ_19 x2_8 hw ls _ _ _ _ hc hs hR hS (lv_sub hl [1, 2, 3, 4] rfl)
        · have hw := x_f hw c_21
          refine lv_aload hx hb dX0_heardBy_53 (lv_at hl 0 rfl) ?_
          refine x_getNI (ci := 16) (C := RX16) (T := TX16) (N := 6) (f := 850) hx hb hts in_X16 hown hK hR rfl 0 (by decide) (hK.2 _ q660 rfl) (fun _ h => h) rfl (by decide) dX0_heardBy_55 hw.1 ?_
          have hw := hw.2
          refine lv_aload_n hx hb dX0_heardBy_58 rfl (lv_at hl 3 rfl) ?_
          refine lv_aload hx hb dX0_heardBy_59 (lv_at hl 0 rfl) ?_
          refine x_getNI (ci := 16) (C := RX16) (T := TX16) (N := 6) (f := 853) hx hb hts in_X16 hown hK hR rfl 3 (by decide) (hK.2 _ q666 rfl) (fun _ h => h) rfl (by decide) dX0_heardBy_61 hw.1 ?_
          have hw := hw.2
          refine x_iald hx hb hK hR dX0_heardBy_64 hw.1 hw.2.1 ?_
          have hw := hw.2.2
          refine lv_iadd hx hb dX0_heardBy_65 ?_
          refine lv_topi (fun x6_22 ex6_22 => ?_)
          have hw := hw x6_22 ex6_22
          refine lv_istore (lv' := [(6, .int x6_22), (5, .ref b_14), (0, .ref o), (2, .int x2_8), (3, .ref b_5), (4, .int x4_9)]) hx hb dX0_heardBy_66 hl (by decide) rfl (fun ls hl => ?_)
          refine lv_iload_n hx hb dX0_heardBy_68 rfl (lv_at hl 3 rfl) ?_
          refine lv_bipush (v := (-9)) hx hb dX0_heardBy_69 (by decide) ?_
          refine x_jn (G := fun (v0_23 : Int32) => ∀ (ls : Array Slot) (H : Heap) (locs : List Loc) (cK nK : Nat), cK + (k - k_1) ≤ k → nK + (n - n_2) ≤ n → x_Rp D d (x_A base) mc S_4 H → va_S (x_A base) s.heap H locs → lv_has ls 7 [(0, .ref o), (3, .ref b_5), (4, .int x4_9)] → W p l e (x_rm 1 k n 29) s m ([.ref o, .int x1] : List Value).toArray below meth c H locs cK nK (MQ below (x_Qi D d base mc (fun r S' => Q r S')) ([.ref o, .int x1] : List Value).toArray s k n (x_A base)) (F0 m 85 ls [.int v0_23])) hw (fun v0_23 hw => ?_) (fun hJ_24 hw => ?_)
          · intro ls H locs cK nK hc hs hR hS hl
            refine lv_istore_n (lv' := [(2, .int v0_23), (0, .ref o), (3, .ref b_5), (4, .int x4_9)]) hx hb dX0_heardBy_85 rfl hl (by decide) rfl (fun ls hl => ?_)
            exact hJ_19 v0_23 hw ls _ _ _ _ hc hs hR hS (lv_sub hl [1, 0, 2, 3] rfl)
          · refine lv_icmp_ne (tgt := 79) hx hb dX0_heardBy_71 (by decide) (fun c_25 => ?_) (fun c_25 => ?_)
            · have hw := x_f hw c_25
              refine lv_iload_n hx hb dX0_heardBy_79 rfl (lv_at hl 3 rfl) ?_
              refine lv_iload hx hb dX0_heardBy_80 (lv_at hl 0 rfl) ?_
              refine va_mmin hx hb (by rw [hml]; exact hl.1.symm) hown (hts _ q308) (hts _ q309) (hts _ q68) (hts _ q310) (Nat.le_of_ble_eq_true rfl) (Nat.le_of_ble_eq_true rfl) (by show _ ≤ k; omega) (by show _ ≤ n; omega) dX0_heardBy_82 ?_
              exact hJ_24 (if x6_22 < x2_8 then x6_22 else x2_8) hw ls _ _ _ _ hc hs hR hS (lv_sub hl [2, 4, 5] rfl)
            · have hw := x_t hw c_25
              refine lv_iload hx hb dX0_heardBy_74 (lv_at hl 0 rfl) ?_
              refine lv_goto (tgt := 85) hx hb dX0_heardBy_76 (by decide) ?_
              exact hJ_24 x6_22 hw ls _ _ _ _ hc hs hR hS (lv_sub hl [2, 4, 5] rfl)
def w_X0_hasHeard (k n : Nat) (S : xH) (o : Nat) (x1 : Int32) (Q : Int32 → xH → Prop) : Prop := xT S o = 1 ∧ ∃ k_1 n_2, k_1 ≤ k ∧ n_2 ≤ n ∧ w_X0_heardBy k_1 n_2 S o x1 (fun (r_3 : Int32) (S_4 : xH) => wif (r_3 = (-9)) (Q 0 S_4) (xT S_4 o = 1 ∧ wif ((xI S_4 54 o) < r_3) (Q 0 S_4) (Q 1 S_4)))
theorem hd_X0_hasHeard : yX0_hasHeard.cls = "PressedMen" ∧ yX0_hasHeard.cls ≠ "java/lang/invoke/MethodHandle" ∧ yX0_hasHeard.cls ≠ "java/lang/invoke/VarHandle" ∧ (parseMethodDescriptor yX0_hasHeard.desc).map (fun d => d.parameters.length) = some 1 := by decide +kernel
set_option maxHeartbeats 4000000 in
theorem mt_X0_hasHeard (l : Launch) {D : va_G} {d : Nat → ClassId} {base : Nat} {mc : va_W} {S : xH} {k n : Nat} {o : Nat} {x1 : Int32} {Q : Int32 → xH → Prop} (hw : w_X0_hasHeard k n S o x1 Q) : Met l yX0_hasHeard (ws_ yX0_hasHeard cX0_hasHeard 3 (some FieldType.boolean)) (x_rm 2 k n 55) (x_Pc D d base mc S [.ref o, .int x1]) (x_Qi D d base mc (fun r S' => Q r S')) k n (x_A base) := by
  refine x_met (by decide) (Nat.le_of_ble_eq_true rfl) ?_
  intro p e s m below meth c hx hb hml hr hlocks hown hts hz hR hK hin ls hl
  have hown : s.vm.findClass "PressedMen" = some m.cls := hown
  have hl : lv_has ls 3 [(0, .ref o), (1, .int x1)] := hl
  have hS : va_S (x_A base) s.heap s.heap [] := va_S.rf
  have hA : ∀ q : Nat, s.heap.size ≤ q → x_A base q := fun q h => Nat.le_trans hz h
  have hc : 0 + k ≤ k := by omega
  have hs : 0 + n ≤ n := by omega
  unfold w_X0_hasHeard at hw
  refine lv_aload_n hx hb dX0_hasHeard_0 rfl (lv_at hl 0 rfl) ?_
  refine lv_iload_n hx hb dX0_hasHeard_1 rfl (lv_at hl 1 rfl) ?_
  obtain ⟨ha, hw⟩ := hw
  obtain ⟨k_1, n_2, h1, h2, hw⟩ := hw
  refine x_ci (va_runV (As := [.int x1]) (rest := []) ⟨hx, hb, hml, hown, hts⟩ (mt_X0_heardBy l hw) (cwV 1 hts (lw_V q300 q302 qs6 q64 q303) rfl rfl rfl hd_X0_heardBy ⟨Nat.le_of_ble_eq_true rfl, Nat.le_of_ble_eq_true rfl⟩) ⟨x_Pc_blind, hR.recv hK (ci := 0) rfl (by decide) ha, x_Pc_pre hR hz hS hK⟩ rfl rfl hl.1 rfl (lv_room (Nat.le_of_ble_eq_true rfl)) dX0_hasHeard_2 ⟨by show _ ≤ k; omega, by show _ ≤ n; omega⟩) hS (fun r_3 S_4 H locs hp hR hS => ?_)
  have hw := hp
  have hc : (0 + k_1) + (k - k_1) ≤ k := by omega
  have hs : (0 + n_2) + (n - n_2) ≤ n := by omega
  refine lv_istore_n (lv' := [(2, .int r_3), (0, .ref o), (1, .int x1)]) hx hb dX0_hasHeard_5 rfl hl (by decide) rfl (fun ls hl => ?_)
  refine lv_iload_n hx hb dX0_hasHeard_6 rfl (lv_at hl 0 rfl) ?_
  refine lv_bipush (v := (-9)) hx hb dX0_hasHeard_7 (by decide) ?_
  refine lv_icmp_eq (tgt := 24) hx hb dX0_hasHeard_9 (by decide) (fun c_5 => ?_) (fun c_5 => ?_)
  · have hw := x_t hw c_5
    refine lv_iconst (v := 0) hx hb dX0_hasHeard_24 (by decide) ?_
    refine W.widen (k := k) (n := n) (by omega) (by omega) ?_
    exact x_rz hx hb hr hlocks hR hS dX0_hasHeard_25 (Or.inl rfl) hw
  · have hw := x_f hw c_5
    refine lv_iload_n hx hb dX0_hasHeard_12 rfl (lv_at hl 0 rfl) ?_
    refine lv_aload_n hx hb dX0_hasHeard_13 rfl (lv_at hl 1 rfl) ?_
    refine x_getI (ci := 0) (C := RX0) (T := TX0) (N := 19) (f := 54) hx hb hts in_X0 hown hK hR rfl 4 (by decide) (hts _ q117) (fun _ h => h) rfl (by decide) dX0_hasHeard_14 hw.1 ?_
    have hw := hw.2
    refine lv_icmp_gt (tgt := 24) hx hb dX0_hasHeard_17 (by decide) (fun c_6 => ?_) (fun c_6 => ?_)
    · have hw := x_t hw c_6
      refine lv_iconst (v := 0) hx hb dX0_hasHeard_24 (by decide) ?_
      refine W.widen (k := k) (n := n) (by omega) (by omega) ?_
      exact x_rz hx hb hr hlocks hR hS dX0_hasHeard_25 (Or.inl rfl) hw
    · have hw := x_f hw c_6
      refine lv_iconst (v := 1) hx hb dX0_hasHeard_20 (by decide) ?_
      refine lv_goto (tgt := 25) hx hb dX0_hasHeard_21 (by decide) ?_
      refine W.widen (k := k) (n := n) (by omega) (by omega) ?_
      exact x_rz hx hb hr hlocks hR hS dX0_hasHeard_25 (Or.inr rfl) hw
def w_X2_go (k n : Nat) (S : xH) (o : Nat) (x1 : Int32) (x2 : Int32) (Q : xH → Prop) : Prop := 1 ≤ k ∧ 3 ≤ n ∧ ∀ a_1, xT S a_1 = 0 → nm (sN S a_1 4) (fun S_2 : xH => xT S_2 o = 3 ∧ w_X3_init S_2 a_1 x1 x2 (xR S_2 152 o) (fun (S_3 : xH) => xT S_3 o = 3 ∧ nm (sR S_3 152 o (some a_1)) (fun S_4 : xH => Q S_4)))
theorem hd_X2_go : yX2_go.cls = "PressedMen$Man" ∧ yX2_go.cls ≠ "java/lang/invoke/MethodHandle" ∧ yX2_go.cls ≠ "java/lang/invoke/VarHandle" ∧ (parseMethodDescriptor yX2_go.desc).map (fun d => d.parameters.length) = some 2 := by decide +kernel
set_option maxHeartbeats 4000000 in
theorem mt_X2_go (l : Launch) {D : va_G} {d : Nat → ClassId} {base : Nat} {mc : va_W} {S : xH} {k n : Nat} {o : Nat} {x1 : Int32} {x2 : Int32} {Q : xH → Prop} (hw : w_X2_go k n S o x1 x2 Q) : Met l yX2_go (ws_ yX2_go cX2_go 3 none) (x_rm 2 k n 51) (x_Pc D d base mc S [.ref o, .int x1, .int x2]) (x_Qv D d base mc (fun S' => Q S')) k n (x_A base) := by
  refine x_met (by decide) (Nat.le_of_ble_eq_true rfl) ?_
  intro p e s m below meth c hx hb hml hr hlocks hown hts hz hR hK hin ls hl
  have hown : s.vm.findClass "PressedMen$Man" = some m.cls := hown
  have hl : lv_has ls 3 [(0, .ref o), (1, .int x1), (2, .int x2)] := hl
  have hS : va_S (x_A base) s.heap s.heap [] := va_S.rf
  have hA : ∀ q : Nat, s.heap.size ≤ q → x_A base q := fun q h => Nat.le_trans hz h
  have hc : 0 + k ≤ k := by omega
  have hs : 0 + n ≤ n := by omega
  unfold w_X2_go at hw
  refine lv_aload_n hx hb dX2_go_0 rfl (lv_at hl 0 rfl) ?_
  obtain ⟨h1, h2, hw⟩ := hw
  refine x_new (ci := 3) (C := RX3) (T := TX3) (N := 3) hx hb hts in_X3 tyX3 tyX3_ok hown (hts _ q206) (hts _ q207) (hts _ q67) hK hR hS hA rfl (by decide) dfX3 dX2_go_1 (by show _ ≤ k; omega) (by show _ ≤ n; omega) (fun a_1 H hf hR hS => ?_)
  have hw := hw a_1 hf
  have hc : (0 + 1) + (k - 1) ≤ k := by omega
  have hs : (0 + 3) + (n - 3) ≤ n := by omega
  obtain ⟨S_2, eS_2⟩ : ∃ z, z = (sN S a_1 4) := ⟨_, rfl⟩
  rw [← eS_2] at hR
  have hw := hw S_2 eS_2
  refine lv_dup hx hb dX2_go_4 rfl ?_
  refine lv_iload_n hx hb dX2_go_5 rfl (lv_at hl 1 rfl) ?_
  refine lv_iload_n hx hb dX2_go_6 rfl (lv_at hl 2 rfl) ?_
  refine lv_aload_n hx hb dX2_go_7 rfl (lv_at hl 0 rfl) ?_
  refine x_getR (ci := 2) (C := RX2) (T := TX2) (N := 5) (f := 152) hx hb hts in_X2 hown hK hR rfl 2 (by decide) (hts _ q232) (fun _ h => h) rfl (by decide) dX2_go_8 hw.1 ?_
  have hw := hw.2
  refine x_cv (va_runI (As := [.int x1, .int x2, va_rf (xR S_2 152 o)]) (rest := [.ref a_1, .ref o]) ⟨hx, hb, hml, hown, hts⟩ (mt_X3_init l hw) (cwI 3 hts (lw_meth q210) rfl rfl rfl (hts _ q67) (hts _ q208) (hts _ q209) rfl hd_X3_init.2 ⟨Nat.le_of_ble_eq_true rfl, Nat.le_of_ble_eq_true rfl⟩) ⟨x_Pc_blind, x_Pc_pre hR hz hS hK⟩ rfl rfl hl.1 rfl (lv_room (Nat.le_of_ble_eq_true rfl)) dX2_go_11 ⟨by show _ ≤ k; omega, by show _ ≤ n; omega⟩) hS (fun S_3 H locs hp hR hS => ?_)
  have hw := hp
  refine x_putR (ci := 2) (C := RX2) (T := TX2) (N := 5) (f := 152) (r := (some a_1)) hx hb hts in_X2 tyX2 tyX2_ok nmX2 hown hK hR hS rfl 2 (by decide) (hts _ q232) (fun _ h => h) rfl rfl (by decide) (x_rn _ _) (x_rf _ _) dX2_go_14 hw.1 (fun H locs hR hS => ?_)
  have hw := hw.2
  obtain ⟨S_4, eS_4⟩ : ∃ z, z = (sR S_3 152 o (some a_1)) := ⟨_, rfl⟩
  rw [← eS_4] at hR
  have hw := hw S_4 eS_4
  refine W.widen (k := k) (n := n) (by omega) (by omega) ?_
  exact x_rv hx hb hr hlocks hR hS dX2_go_17 hw
def w_X2_home (S : xH) (o : Nat) (Q : Int32 → Prop) : Prop := xT S o = 3 ∧ ∃ b_1, (xR S 150 o) = some b_1 ∧ xT S b_1 = 101 ∧ vp_in 6 (xL S b_1) ∧ Q (xA S b_1 (Int32.toNatClampNeg 6))
theorem hd_X2_home : yX2_home.cls = "PressedMen$Man" ∧ yX2_home.cls ≠ "java/lang/invoke/MethodHandle" ∧ yX2_home.cls ≠ "java/lang/invoke/VarHandle" ∧ (parseMethodDescriptor yX2_home.desc).map (fun d => d.parameters.length) = some 0 := by decide +kernel
set_option maxHeartbeats 4000000 in
theorem mt_X2_home (l : Launch) {D : va_G} {d : Nat → ClassId} {base : Nat} {mc : va_W} {S : xH} {o : Nat} {Q : Int32 → Prop} (hw : w_X2_home S o Q) : Met l yX2_home (ws_ yX2_home cX2_home 1 (some FieldType.int)) (x_rm 0 0 0 0) (x_Pc D d base mc S [.ref o]) (x_Qi D d base mc (fun r S' => S' = S ∧ Q r)) 0 0 (x_A base) := by
  refine x_met (by decide) (Nat.le_of_ble_eq_true rfl) ?_
  intro p e s m below meth c hx hb hml hr hlocks hown hts hz hR hK hin ls hl
  have hown : s.vm.findClass "PressedMen$Man" = some m.cls := hown
  have hl : lv_has ls 1 [(0, .ref o)] := hl
  have hS : va_S (x_A base) s.heap s.heap [] := va_S.rf
  unfold w_X2_home at hw
  refine lv_aload_n hx hb dX2_home_0 rfl (lv_at hl 0 rfl) ?_
  refine x_getR (ci := 2) (C := RX2) (T := TX2) (N := 5) (f := 150) hx hb hts in_X2 hown hK hR rfl 0 (by decide) (hts _ q227) (fun _ h => h) rfl (by decide) dX2_home_1 hw.1 ?_
  have hw := hw.2
  refine lv_bipush (v := 6) hx hb dX2_home_4 (by decide) ?_
  obtain ⟨b_1, e_2, hw⟩ := hw
  refine x_dr1 e_2 ?_
  refine x_iald hx hb hK hR dX2_home_6 hw.1 hw.2.1 ?_
  have hw := hw.2.2
  exact x_ri hx hb hr hlocks hR hS dX2_home_7 ⟨rfl, hw⟩
def w_X0_goTide (k n : Nat) (S : xH) (o : Nat) (Q : xH → Prop) : Prop := xT S o = 1 ∧ xT S o = 1 ∧ nm (sI S 54 o ((xI S 54 o) + 1)) (fun S_1 : xH => lf4 (fun L_6 (x1_2 : Int32) (S_3 : xH) (k_4 : Nat) (n_5 : Nat) => xT S_3 o = 1 ∧ wif ((xI S_3 53 o) ≤ x1_2) (xT S_3 o = 1 ∧ w_X0_menAt S_3 o 20 0 (fun (r_8 : Int32) => xT S_3 o = 1 ∧ xT S_3 o = 1 ∧ nm (((if 0 < (r_8 - (xI S_3 55 o)) then (r_8 - (xI S_3 55 o)) else 0) * (xI S_3 56 o)) / 100) (fun x1_10 : Int32 => lf5 (fun L_16 (x1_11 : Int32) (x2_12 : Int32) (S_13 : xH) (k_14 : Nat) (n_15 : Nat) => xT S_13 o = 1 ∧ jn0 (lf4 (fun L_22 (x2_18 : Int32) (S_19 : xH) (k_20 : Nat) (n_21 : Nat) => xT S_19 o = 1 ∧ wif ((xI S_19 53 o) ≤ x2_18) (Q S_19) (xT S_19 o = 1 ∧ ∃ b_24, (xR S_19 52 o) = some b_24 ∧ xT S_19 b_24 = 103 ∧ vp_in x2_18 (xL S_19 b_24) ∧ ∃ b_26, (xQ S_19 b_24 (Int32.toNatClampNeg x2_18)) = some b_26 ∧ xT S_19 b_26 = 3 ∧ ∃ b_28, (xR S_19 152 b_26) = some b_28 ∧ xT S_19 b_28 = 4 ∧ jn3 (fun (S_30 : xH) (k_31 : Nat) (n_32 : Nat) => L_22 (x2_18 + 1) S_30 k_31 n_32) (fun J_33 => wif ((xI S_19 201 b_28) = 21) (xT S_19 b_28 = 4 ∧ xT S_19 o = 1 ∧ wif ((xI S_19 200 b_28) = ((xI S_19 54 o) - 10)) (xT S_19 o = 1 ∧ ∃ b_36, (xR S_19 52 o) = some b_36 ∧ xT S_19 b_36 = 103 ∧ vp_in x2_18 (xL S_19 b_36) ∧ xT S_19 o = 1 ∧ xT S_19 o = 1 ∧ ∃ b_38, (xR S_19 52 o) = some b_38 ∧ xT S_19 b_38 = 103 ∧ vp_in x2_18 (xL S_19 b_38) ∧ ∃ b_40, (xQ S_19 b_38 (Int32.toNatClampNeg x2_18)) = some b_40 ∧ xT S_19 b_40 = 3 ∧ w_X2_home S_19 b_40 (fun (r_42 : Int32) => ∃ b_44, (xQ S_19 b_36 (Int32.toNatClampNeg x2_18)) = some b_44 ∧ xT S_19 b_44 = 3 ∧ ∃ k_46 n_47, k_46 ≤ k_20 ∧ n_47 ≤ n_21 ∧ w_X2_go k_46 n_47 S_19 b_44 (xI S_19 54 o) r_42 (fun (S_48 : xH) => J_33 S_48 (k_20 - k_46) (n_21 - n_47)))) (J_33 S_19 k_20 n_21)) (J_33 S_19 k_20 n_21)))) 0 S_13 k_14 n_15) (fun J_17 => wif ((xI S_13 53 o) ≤ x2_12) (J_17) (wif (x1_11 ≤ 0) (J_17) (xT S_13 o = 1 ∧ ∃ b_51, (xR S_13 52 o) = some b_51 ∧ xT S_13 b_51 = 103 ∧ vp_in x2_12 (xL S_13 b_51) ∧ ∃ b_53, (xQ S_13 b_51 (Int32.toNatClampNeg x2_12)) = some b_53 ∧ xT S_13 b_53 = 3 ∧ w_X2_place S_13 b_53 (fun (r_55 : Int32) => jn4 (fun (x1_57 : Int32) (S_58 : xH) (k_59 : Nat) (n_60 : Nat) => L_16 x1_57 (x2_12 + 1) S_58 k_59 n_60) (fun J_61 => wif (r_55 = 20) (xT S_13 o = 1 ∧ ∃ b_63, (xR S_13 52 o) = some b_63 ∧ xT S_13 b_63 = 103 ∧ vp_in x2_12 (xL S_13 b_63) ∧ xT S_13 o = 1 ∧ ∃ b_65, (xQ S_13 b_63 (Int32.toNatClampNeg x2_12)) = some b_65 ∧ xT S_13 b_65 = 3 ∧ ∃ k_67 n_68, k_67 ≤ k_14 ∧ n_68 ≤ n_15 ∧ w_X2_go k_67 n_68 S_13 b_65 (xI S_13 54 o) 21 (fun (S_69 : xH) => J_61 (x1_11 + (-1)) S_69 (k_14 - k_67) (n_15 - n_68))) (J_61 x1_11 S_13 k_14 n_15))))))) x1_10 0 S_3 k_4 n_5))) (xT S_3 o = 1 ∧ ∃ b_70, (xR S_3 52 o) = some b_70 ∧ xT S_3 b_70 = 103 ∧ vp_in x1_2 (xL S_3 b_70) ∧ ∃ b_72, (xQ S_3 b_70 (Int32.toNatClampNeg x1_2)) = some b_72 ∧ xT S_3 b_72 = 3 ∧ jn3 (fun (S_74 : xH) (k_75 : Nat) (n_76 : Nat) => L_6 (x1_2 + 1) S_74 k_75 n_76) (fun J_77 => wif ((xI S_3 151 b_72) = 0) (J_77 S_3 k_4 n_5) (xT S_3 b_72 = 3 ∧ w_X2_place S_3 b_72 (fun (r_79 : Int32) => wif (10 ≤ r_79) (J_77 S_3 k_4 n_5) (xT S_3 b_72 = 3 ∧ w_X2_place S_3 b_72 (fun (r_82 : Int32) => xT S_3 o = 1 ∧ ∃ k_84 n_85, k_84 ≤ k_4 ∧ n_85 ≤ n_5 ∧ w_X0_hasHeard k_84 n_85 S_3 o r_82 (fun (r_86 : Int32) (S_87 : xH) => wif (r_86 = 0) (J_77 S_87 (k_4 - k_84) (n_5 - n_85)) (xT S_87 o = 1 ∧ xT S_87 b_72 = 3 ∧ ∃ k_89 n_90, k_89 ≤ (k_4 - k_84) ∧ n_90 ≤ (n_5 - n_85) ∧ w_X2_go k_89 n_90 S_87 b_72 (xI S_87 54 o) 22 (fun (S_91 : xH) => J_77 S_91 ((k_4 - k_84) - k_89) ((n_5 - n_85) - n_90))))))))))) 0 S_1 k n)
theorem hd_X0_goTide : yX0_goTide.cls = "PressedMen" ∧ yX0_goTide.cls ≠ "java/lang/invoke/MethodHandle" ∧ yX0_goTide.cls ≠ "java/lang/invoke/VarHandle" ∧ (parseMethodDescriptor yX0_goTide.desc).map (fun d => d.parameters.length) = some 0 := by decide +kernel
set_option maxHeartbeats 4000000 in
theorem mt_X0_goTide (l : Launch) {D : va_G} {d : Nat → ClassId} {base : Nat} {mc : va_W} {S : xH} {k n : Nat} {o : Nat} {Q : xH → Prop} (hw : w_X0_goTide k n S o Q) : Met l yX0_goTide (ws_ yX0_goTide cX0_goTide 4 none) (x_rm 3 k n 77) (x_Pc D d base mc S [.ref o]) (x_Qv D d base mc (fun S' => Q S')) k n (x_A base) := by
  refine x_met (by decide) (Nat.le_of_ble_eq_true rfl) ?_
  intro p e s m below meth c hx hb hml hr hlocks hown hts hz hR hK hin ls hl
  have hown : s.vm.findClass "PressedMen" = some m.cls := hown
  have hl : lv_has ls 4 [(0, .ref o)] := hl
  have hS : va_S (x_A base) s.heap s.heap [] := va_S.rf
  have hA : ∀ q : Nat, s.heap.size ≤ q → x_A base q := fun q h => Nat.le_trans hz h
  have hc : 0 + k ≤ k := by omega
  have hs : 0 + n ≤ n := by omega
  unfold w_X0_goTide at hw
  refine lv_aload_n hx hb dX0_goTide_0 rfl (lv_at hl 0 rfl) ?_
  refine lv_dup hx hb dX0_goTide_1 rfl ?_
  refine x_getI (ci := 0) (C := RX0) (T := TX0) (N := 19) (f := 54) hx hb hts in_X0 hown hK hR rfl 4 (by decide) (hts _ q117) (fun _ h => h) rfl (by decide) dX0_goTide_2 hw.1 ?_
  have hw := hw.2
  refine lv_iconst (v := 1) hx hb dX0_goTide_5 (by decide) ?_
  refine lv_iadd hx hb dX0_goTide_6 ?_
  refine x_putI (ci := 0) (C := RX0) (T := TX0) (N := 19) (f := 54) hx hb hts in_X0 tyX0 tyX0_ok nmX0 hown hK hR hS rfl 4 (by decide) (hts _ q117) (fun _ h => h) rfl rfl (by decide) rfl rfl dX0_goTide_7 hw.1 (fun H locs hR hS => ?_)
  have hw := hw.2
  obtain ⟨S_1, eS_1⟩ : ∃ z, z = (sI S 54 o ((xI S 54 o) + 1)) := ⟨_, rfl⟩
  rw [← eS_1] at hR
  have hw := hw S_1 eS_1
  refine lv_iconst (v := 0) hx hb dX0_goTide_10 (by decide) ?_
  refine lv_istore_n (lv' := [(1, .int 0), (0, .ref o)]) hx hb dX0_goTide_11 rfl hl (by decide) rfl (fun ls hl => ?_)
  refine x_lf4 (G := fun (x1_2 : Int32) (S_3 : xH) (k_4 : Nat) (n_5 : Nat) => ∀ (ls : Array Slot) (H : Heap) (locs : List Loc) (cK nK : Nat), cK + k_4 ≤ k → nK + n_5 ≤ n → x_Rp D d (x_A base) mc S_3 H → va_S (x_A base) s.heap H locs → lv_has ls 4 [(0, .ref o), (1, .int x1_2)] → W p l e (x_rm 3 k n 77) s m ([.ref o] : List Value).toArray below meth c H locs cK nK (MQ below (x_Qv D d base mc (fun S' => Q S')) ([.ref o] : List Value).toArray s k n (x_A base)) (F0 m 12 ls [])) hw (fun x1_2 S_3 k_4 n_5 hw => ?_) ls _ _ _ _ hc hs hR hS (lv_sub hl [1, 0] rfl)
  intro ls H locs cK nK hc hs hR hS hl
  refine lv_iload_n hx hb dX0_goTide_12 rfl (lv_at hl 1 rfl) ?_
  refine lv_aload_n hx hb dX0_goTide_13 rfl (lv_at hl 0 rfl) ?_
  refine x_getI (ci := 0) (C := RX0) (T := TX0) (N := 19) (f := 53) hx hb hts in_X0 hown hK hR rfl 3 (by decide) (hts _ q116) (fun _ h => h) rfl (by decide) dX0_goTide_14 hw.1 ?_
  have hw := hw.2
  refine lv_icmp_ge (tgt := 70) hx hb dX0_goTide_17 (by decide) (fun c_7 => ?_) (fun c_7 => ?_)
  · have hw := x_t hw c_7
    refine lv_iconst (v := 0) hx hb dX0_goTide_70 (by decide) ?_
    refine lv_aload_n hx hb dX0_goTide_71 rfl (lv_at hl 0 rfl) ?_
    refine lv_bipush (v := 20) hx hb dX0_goTide_72 (by decide) ?_
    refine lv_iconst (v := 0) hx hb dX0_goTide_74 (by decide) ?_
    obtain ⟨ha, hw⟩ := hw
    refine x_ci (va_runV (As := [.int 20, .int 0]) (rest := [.int 0]) ⟨hx, hb, hml, hown, hts⟩ (mt_X0_menAt l hw) (cwV 2 hts (lw_V q272 q274 qs3 q64 q275) rfl rfl rfl hd_X0_menAt ⟨Nat.le_of_ble_eq_true rfl, Nat.le_of_ble_eq_true rfl⟩) ⟨x_Pc_blind, hR.recv hK (ci := 0) rfl (by decide) ha, x_Pc_pre hR hz hS hK⟩ rfl rfl hl.1 rfl (lv_room (Nat.le_of_ble_eq_true rfl)) dX0_goTide_75 ⟨by show _ ≤ k; omega, by show _ ≤ n; omega⟩) hS (fun r_8 S_9 H locs hp hR hS => ?_)
    have hw := hp.2
    rw [hp.1] at hR
    refine lv_aload_n hx hb dX0_goTide_78 rfl (lv_at hl 0 rfl) ?_
    refine x_getI (ci := 0) (C := RX0) (T := TX0) (N := 19) (f := 55) hx hb hts in_X0 hown hK hR rfl 5 (by decide) (hts _ q118) (fun _ h => h) rfl (by decide) dX0_goTide_79 hw.1 ?_
    have hw := hw.2
    refine lv_isub hx hb dX0_goTide_82 ?_
    refine va_mmax hx hb (by rw [hml]; exact hl.1.symm) hown (hts _ q315) (hts _ q316) (hts _ q68) (hts _ q317) (Nat.le_of_ble_eq_true rfl) (Nat.le_of_ble_eq_true rfl) (by show _ ≤ k; omega) (by show _ ≤ n; omega) dX0_goTide_83 ?_
    refine lv_aload_n hx hb dX0_goTide_86 rfl (lv_at hl 0 rfl) ?_
    refine x_getI (ci := 0) (C := RX0) (T := TX0) (N := 19) (f := 56) hx hb hts in_X0 hown hK hR rfl 6 (by decide) (hts _ q119) (fun _ h => h) rfl (by decide) dX0_goTide_87 hw.1 ?_
    have hw := hw.2
    refine lv_imul hx hb dX0_goTide_90 ?_
    refine lv_bipush (v := 100) hx hb dX0_goTide_91 (by decide) ?_
    refine lv_idiv hx hb dX0_goTide_93 (by decide) ?_
    refine lv_topi (fun x1_10 ex1_10 => ?_)
    have hw := hw x1_10 ex1_10
    refine lv_istore_n (lv' := [(1, .int x1_10), (0, .ref o)]) hx hb dX0_goTide_94 rfl hl (by decide) rfl (fun ls hl => ?_)
    refine lv_iconst (v := 0) hx hb dX0_goTide_95 (by decide) ?_
    refine lv_istore_n (lv' := [(2, .int 0), (1, .int x1_10), (0, .ref o)]) hx hb dX0_goTide_96 rfl hl (by decide) rfl (fun ls hl => ?_)
    refine x_lf5 (G := fun (x1_11 : Int32) (x2_12 : Int32) (S_13 : xH) (k_14 : Nat) (n_15 : Nat) => ∀ (ls : Array Slot) (H : Heap) (locs : List Loc) (cK nK : Nat), cK + k_14 ≤ k → nK + n_15 ≤ n → x_Rp D d (x_A base) mc S_13 H → va_S (x_A base) s.heap H locs → lv_has ls 4 [(0, .ref o), (1, .int x1_11), (2, .int x2_12)] → W p l e (x_rm 3 k n 77) s m ([.ref o] : List Value).toArray below meth c H locs cK nK (MQ below (x_Qv D d base mc (fun S' => Q S')) ([.ref o] : List Value).toArray s k n (x_A base)) (F0 m 97 ls [])) hw (fun x1_11 x2_12 S_13 k_14 n_15 hw => ?_) ls _ _ _ _ hc hs hR hS (lv_sub hl [2, 1, 0] rfl)
    intro ls H locs cK nK hc hs hR hS hl
    refine lv_iload_n hx hb dX0_goTide_97 rfl (lv_at hl 2 rfl) ?_
    refine lv_aload_n hx hb dX0_goTide_98 rfl (lv_at hl 0 rfl) ?_
    refine x_getI (ci := 0) (C := RX0) (T := TX0) (N := 19) (f := 53) hx hb hts in_X0 hown hK hR rfl 3 (by decide) (hts _ q116) (fun _ h => h) rfl (by decide) dX0_goTide_99 hw.1 ?_
    have hw := hw.2
    refine x_jn0 (G := ∀ (ls : Array Slot) (H : Heap) (locs : List Loc) (cK nK : Nat), cK + k_14 ≤ k → nK + n_15 ≤ n → x_Rp D d (x_A base) mc S_13 H → va_S (x_A base) s.heap H locs → lv_has ls 4 [(0, .ref o)] → W p l e (x_rm 3 k n 77) s m ([.ref o] : List Value).toArray below meth c H locs cK nK (MQ below (x_Qv D d base mc (fun S' => Q S')) ([.ref o] : List Value).toArray s k n (x_A base)) (F0 m 147 ls [])) hw (fun hw => ?_) (fun hJ_17 hw => ?_)
    · intro ls H locs cK nK hc hs hR hS hl
      refine lv_iconst (v := 0) hx hb dX0_goTide_147 (by decide) ?_
      refine lv_istore_n (lv' := [(2, .int 0), (0, .ref o)]) hx hb dX0_goTide_148 rfl hl (by decide) rfl (fun ls hl => ?_)
      refine x_lf4 (G := fun (x2_18 : Int32) (S_19 : xH) (k_20 : Nat) (n_21 : Nat) => ∀ (ls : Array Slot) (H : Heap) (locs : List Loc) (cK nK : Nat), cK + k_20 ≤ k → nK + n_21 ≤ n → x_Rp D d (x_A base) mc S_19 H → va_S (x_A base) s.heap H locs → lv_has ls 4 [(0, .ref o), (2, .int x2_18)] → W p l e (x_rm 3 k n 77) s m ([.ref o] : List Value).toArray below meth c H locs cK nK (MQ below (x_Qv D d base mc (fun S' => Q S')) ([.ref o] : List Value).toArray s k n (x_A base)) (F0 m 149 ls [])) hw (fun x2_18 S_19 k_20 n_21 hw => ?_) ls _ _ _ _ hc hs hR hS (lv_sub hl [1, 0] rfl)
      intro ls H locs cK nK hc hs hR hS hl
      refine lv_iload_n hx hb dX0_goTide_149 rfl (lv_at hl 1 rfl) ?_
      refine lv_aload_n hx hb dX0_goTide_150 rfl (lv_at hl 0 rfl) ?_
      refine x_getI (ci := 0) (C := RX0) (T := TX0) (N := 19) (f := 53) hx hb hts in_X0 hown hK hR rfl 3 (by decide) (hts _ q116) (fun _ h => h) rfl (by decide) dX0_goTide_151 hw.1 ?_
      have hw := hw.2
      refine lv_icmp_ge (tgt := 218) hx hb dX0_goTide_154 (by decide) (fun c_23 => ?_) (fun c_23 => ?_)
      · have hw := x_t hw c_23
        refine W.widen (k := k) (n := n) (by omega) (by omega) ?_
        exact x_rv hx hb hr hlocks hR hS dX0_goTide_218 hw
      · have hw := x_f hw c_23
        refine lv_aload_n hx hb dX0_goTide_157 rfl (lv_at hl 0 rfl) ?_
        refine x_getR (ci := 0) (C := RX0) (T := TX0) (N := 19) (f := 52) hx hb hts in_X0 hown hK hR rfl 2 (by decide) (hts _ q114) (fun _ h => h) rfl (by decide) dX0_goTide_158 hw.1 ?_
        have hw := hw.2
        refine lv_iload_n hx hb dX0_goTide_161 rfl (lv_at hl 1 rfl) ?_
        obtain ⟨b_24, e_25, hw⟩ := hw
        refine x_dr1 e_25 ?_
        refine x_aald (t := 103) hx hb hK hR (by decide) rfl rfl dX0_goTide_162 hw.1 hw.2.1 ?_
        have hw := hw.2.2
        obtain ⟨b_26, e_27, hw⟩ := hw
        refine x_dr0 e_27 ?_
        refine x_getNR (ci := 2) (C := RX2) (T := TX2) (N := 5) (f := 152) hx hb hts in_X2 hown hK hR rfl 2 (by decide) (hK.2 _ q233 rfl) (fun _ h => h) rfl (by decide) dX0_goTide_163 hw.1 ?_
        have hw := hw.2
        obtain ⟨b_28, e_29, hw⟩ := hw
        refine x_dr0 e_29 ?_
        refine lv_astore_n (lv' := [(3, .ref b_28), (0, .ref o), (2, .int x2_18)]) hx hb dX0_goTide_166 rfl hl (by decide) rfl (fun ls hl => ?_)
        refine lv_aload_n hx hb dX0_goTide_167 rfl (lv_at hl 0 rfl) ?_
        refine x_getNI (ci := 3) (C := RX3) (T := TX3) (N := 3) (f := 201) hx hb hts in_X3 hown hK hR rfl 1 (by decide) (hK.2 _ q217 rfl) (fun _ h => h) rfl (by decide) dX0_goTide_168 hw.1 ?_
        have hw := hw.2
        refine lv_bipush (v := 21) hx hb dX0_goTide_171 (by decide) ?_
        refine x_jn3 (G := fun (S_30 : xH) (k_31 : Nat) (n_32 : Nat) => ∀ (ls : Array Slot) (H : Heap) (locs : List Loc) (cK nK : Nat), cK + k_31 ≤ k → nK + n_32 ≤ n → x_Rp D d (x_A base) mc S_30 H → va_S (x_A base) s.heap H locs → lv_has ls 4 [(0, .ref o), (2, .int x2_18)] → W p l e (x_rm 3 k n 77) s m ([.ref o] : List Value).toArray below meth c H locs cK nK (MQ below (x_Qv D d base mc (fun S' => Q S')) ([.ref o] : List Value).toArray s k n (x_A base)) (F0 m 212 ls [])) hw (fun S_30 k_31 n_32 hw => ?_) (fun hJ_33 hw => ?_)
        · intro ls H locs cK nK hc hs hR hS hl
          refine lv_iinc (v := (x2_18 + 1)) (lv' := [(2, .int (x2_18 + 1)), (0, .ref o)]) hx hb dX0_goTide_212 hl (k := 1) rfl rfl (by decide) rfl (fun ls hl => ?_)
          refine lv_goto (tgt := 149) hx hb dX0_goTide_215 (by decide) ?_
          exact hw ls _ _ _ _ hc hs hR hS (lv_sub hl [1, 0] rfl)
        · refine lv_icmp_ne (tgt := 212) hx hb dX0_goTide_173 (by decide) (fun c_34 => ?_) (fun c_34 => ?_)
          · have hw := x_f hw c_34
            exact hJ_33 S_19 k_20 n_21 hw ls _ _ _ _ hc hs hR hS (lv_sub hl [1, 2] rfl)
          · have hw := x_t hw c_34
            refine lv_aload_n hx hb dX0_goTide_176 rfl (lv_at hl 0 rfl) ?_
            refine x_getNI (ci := 3) (C := RX3) (T := TX3) (N := 3) (f := 200) hx hb hts in_X3 hown hK hR rfl 0 (by decide) (hK.2 _ q214 rfl) (fun _ h => h) rfl (by decide) dX0_goTide_177 hw.1 ?_
            have hw := hw.2
            refine lv_aload_n hx hb dX0_goTide_180 rfl (lv_at hl 1 rfl) ?_
            refine x_getI (ci := 0) (C := RX0) (T := TX0) (N := 19) (f := 54) hx hb hts in_X0 hown hK hR rfl 4 (by decide) (hts _ q117) (fun _ h => h) rfl (by decide) dX0_goTide_181 hw.1 ?_
            have hw := hw.2
            refine lv_bipush (v := 10) hx hb dX0_goTide_184 (by decide) ?_
            refine lv_isub hx hb dX0_goTide_186 ?_
            refine lv_icmp_ne (tgt := 212) hx hb dX0_goTide_187 (by decide) (fun c_35 => ?_) (fun c_35 => ?_)
            · have hw := x_f hw c_35
              exact hJ_33 S_19 k_20 n_21 hw ls _ _ _ _ hc hs hR hS (lv_sub hl [1, 2] rfl)
            · have hw := x_t hw c_35
              refine lv_aload_n hx hb dX0_goTide_190 rfl (lv_at hl 1 rfl) ?_
              refine x_getR (ci := 0) (C := RX0) (T := TX0) (N := 19) (f := 52) hx hb hts in_X0 hown hK hR rfl 2 (by decide) (hts _ q114) (fun _ h => h) rfl (by decide) dX0_goTide_191 hw.1 ?_
              have hw := hw.2
              refine lv_iload_n hx hb dX0_goTide_194 rfl (lv_at hl 2 rfl) ?_
              obtain ⟨b_36, e_37, hw⟩ := hw
              refine x_dr1 e_37 ?_
              refine x_aald (t := 103) hx hb hK hR (by decide) rfl rfl dX0_goTide_195 hw.1 hw.2.1 ?_
              have hw := hw.2.2
              refine lv_aload_n hx hb dX0_goTide_196 rfl (lv_at hl 1 rfl) ?_
              refine x_getI (ci := 0) (C := RX0) (T := TX0) (N := 19) (f := 54) hx hb hts in_X0 hown hK hR rfl 4 (by decide) (hts _ q117) (fun _ h => h) rfl (by decide) dX0_goTide_197 hw.1 ?_
              have hw := hw.2
              refine lv_aload_n hx hb dX0_goTide_200 rfl (lv_at hl 1 rfl) ?_
              refine x_getR (ci := 0) (C := RX0) (T := TX0) (N := 19) (f := 52) hx hb hts in_X0 hown hK hR rfl 2 (by decide) (hts _ q114) (fun _ h => h) rfl (by decide) dX0_goTide_201 hw.1 ?_
              have hw := hw.2
              refine lv_iload_n hx hb dX0_goTide_204 rfl (lv_at hl 2 rfl) ?_
              obtain ⟨b_38, e_39, hw⟩ := hw
              refine x_dr1 e_39 ?_
              refine x_aald (t := 103) hx hb hK hR (by decide) rfl rfl dX0_goTide_205 hw.1 hw.2.1 ?_
              have hw := hw.2.2
              obtain ⟨b_40, e_41, hw⟩ := hw
              refine x_dr0 e_41 ?_
              obtain ⟨ha, hw⟩ := hw
              refine x_ci (va_runV (As := []) (rest := [.int (xI S_19 54 o), va_rf (xQ S_19 b_36 (Int32.toNatClampNeg x2_18))]) ⟨hx, hb, hml, hown, hts⟩ (mt_X2_home l hw) (cwV 0 hts (lw_V q318 q319 q320 q66 q321) rfl rfl rfl hd_X2_home ⟨Nat.le_of_ble_eq_true rfl, Nat.le_of_ble_eq_true rfl⟩) ⟨x_Pc_blind, hR.recv hK (ci := 2) rfl (by decide) ha, x_Pc_pre hR hz hS hK⟩ rfl rfl hl.1 rfl (lv_room (by simp only [List.map_cons, List.map_nil, x_cat]; exact Nat.le_of_ble_eq_true rfl)) dX0_goTide_206 ⟨by show _ ≤ k; omega, by show _ ≤ n; omega⟩) hS (fun r_42 S_43 H locs hp hR hS => ?_)
              have hw := hp.2
              rw [hp.1] at hR
              obtain ⟨b_44, e_45, hw⟩ := hw
              refine x_dr2 e_45 ?_
              obtain ⟨ha, hw⟩ := hw
              obtain ⟨k_46, n_47, h1, h2, hw⟩ := hw
              refine x_cv (va_runV (As := [.int (xI S_19 54 o), .int r_42]) (rest := []) ⟨hx, hb, hml, hown, hts⟩ (mt_X2_go l hw) (cwV 2 hts (lw_V q311 q312 q313 q66 q314) rfl rfl rfl hd_X2_go ⟨Nat.le_of_ble_eq_true rfl, Nat.le_of_ble_eq_true rfl⟩) ⟨x_Pc_blind, hR.recv hK (ci := 2) rfl (by decide) ha, x_Pc_pre hR hz hS hK⟩ rfl rfl hl.1 rfl (lv_room (Nat.le_of_ble_eq_true rfl)) dX0_goTide_209 ⟨by show _ ≤ k; omega, by show _ ≤ n; omega⟩) hS (fun S_48 H locs hp hR hS => ?_)
              have hw := hp
              have hc : (cK + k_46) + (k_20 - k_46) ≤ k := by omega
              have hs : (nK + n_47) + (n_21 - n_47) ≤ n := by omega
              exact hJ_33 S_48 (k_20 - k_46) (n_21 - n_47) hw ls _ _ _ _ hc hs hR hS (lv_sub hl [1, 2] rfl)
    · refine lv_icmp_ge (tgt := 147) hx hb dX0_goTide_102 (by decide) (fun c_49 => ?_) (fun c_49 => ?_)
      · have hw := x_t hw c_49
        exact hJ_17  hw ls _ _ _ _ hc hs hR hS (lv_sub hl [0] rfl)
      · have hw := x_f hw c_49
        refine lv_iload_n hx hb dX0_goTide_105 rfl (lv_at hl 1 rfl) ?_
        refine lv_if_le (tgt := 147) hx hb dX0_goTide_106 (by decide) (fun c_50 => ?_) (fun c_50 => ?_)
        · have hw := x_t hw c_50
          exact hJ_17  hw ls _ _ _ _ hc hs hR hS (lv_sub hl [0] rfl)
        · have hw := x_f hw c_50
          refine lv_aload_n hx hb dX0_goTide_109 rfl (lv_at hl 0 rfl) ?_
          refine x_getR (ci := 0) (C := RX0) (T := TX0) (N := 19) (f := 52) hx hb hts in_X0 hown hK hR rfl 2 (by decide) (hts _ q114) (fun _ h => h) rfl (by decide) dX0_goTide_110 hw.1 ?_
          have hw := hw.2
          refine lv_iload_n hx hb dX0_goTide_113 rfl (lv_at hl 2 rfl) ?_
          obtain ⟨b_51, e_52, hw⟩ := hw
          refine x_dr1 e_52 ?_
          refine x_aald (t := 103) hx hb hK hR (by decide) rfl rfl dX0_goTide_114 hw.1 hw.2.1 ?_
          have hw := hw.2.2
          obtain ⟨b_53, e_54, hw⟩ := hw
          refine x_dr0 e_54 ?_
          obtain ⟨ha, hw⟩ := hw
          refine x_ci (va_runV (As := []) (rest := []) ⟨hx, hb, hml, hown, hts⟩ (mt_X2_place l hw) (cwV 0 hts (lw_V q276 q277 q278 q66 q279) rfl rfl rfl hd_X2_place ⟨Nat.le_of_ble_eq_true rfl, Nat.le_of_ble_eq_true rfl⟩) ⟨x_Pc_blind, hR.recv hK (ci := 2) rfl (by decide) ha, x_Pc_pre hR hz hS hK⟩ rfl rfl hl.1 rfl (lv_room (Nat.le_of_ble_eq_true rfl)) dX0_goTide_115 ⟨by show _ ≤ k; omega, by show _ ≤ n; omega⟩) hS (fun r_55 S_56 H locs hp hR hS => ?_)
          have hw := hp.2
          rw [hp.1] at hR
          refine lv_bipush (v := 20) hx hb dX0_goTide_118 (by decide) ?_
          refine x_jn4 (G := fun (x1_57 : Int32) (S_58 : xH) (k_59 : Nat) (n_60 : Nat) => ∀ (ls : Array Slot) (H : Heap) (locs : List Loc) (cK nK : Nat), cK + k_59 ≤ k → nK + n_60 ≤ n → x_Rp D d (x_A base) mc S_58 H → va_S (x_A base) s.heap H locs → lv_has ls 4 [(0, .ref o), (1, .int x1_57), (2, .int x2_12)] → W p l e (x_rm 3 k n 77) s m ([.ref o] : List Value).toArray below meth c H locs cK nK (MQ below (x_Qv D d base mc (fun S' => Q S')) ([.ref o] : List Value).toArray s k n (x_A base)) (F0 m 141 ls [])) hw (fun x1_57 S_58 k_59 n_60 hw => ?_) (fun hJ_61 hw => ?_)
          · intro ls H locs cK nK hc hs hR hS hl
            refine lv_iinc (v := (x2_12 + 1)) (lv' := [(2, .int (x2_12 + 1)), (0, .ref o), (1, .int x1_57)]) hx hb dX0_goTide_141 hl (k := 2) rfl rfl (by decide) rfl (fun ls hl => ?_)
            refine lv_goto (tgt := 97) hx hb dX0_goTide_144 (by decide) ?_
            exact hw ls _ _ _ _ hc hs hR hS (lv_sub hl [1, 2, 0] rfl)
          · refine lv_icmp_ne (tgt := 141) hx hb dX0_goTide_120 (by decide) (fun c_62 => ?_) (fun c_62 => ?_)
            · have hw := x_f hw c_62
              exact hJ_61 x1_11 S_13 k_14 n_15 hw ls _ _ _ _ hc hs hR hS (lv_sub hl [0, 1, 2] rfl)
            · have hw := x_t hw c_62
              refine lv_aload_n hx hb dX0_goTide_123 rfl (lv_at hl 0 rfl) ?_
              refine x_getR (ci := 0) (C := RX0) (T := TX0) (N := 19) (f := 52) hx hb hts in_X0 hown hK hR rfl 2 (by decide) (hts _ q114) (fun _ h => h) rfl (by decide) dX0_goTide_124 hw.1 ?_
              have hw := hw.2
              refine lv_iload_n hx hb dX0_goTide_127 rfl (lv_at hl 2 rfl) ?_
              obtain ⟨b_63, e_64, hw⟩ := hw
              refine x_dr1 e_64 ?_
              refine x_aald (t := 103) hx hb hK hR (by decide) rfl rfl dX0_goTide_128 hw.1 hw.2.1 ?_
              have hw := hw.2.2
              refine lv_aload_n hx hb dX0_goTide_129 rfl (lv_at hl 0 rfl) ?_
              refine x_getI (ci := 0) (C := RX0) (T := TX0) (N := 19) (f := 54) hx hb hts in_X0 hown hK hR rfl 4 (by decide) (hts _ q117) (fun _ h => h) rfl (by decide) dX0_goTide_130 hw.1 ?_
              have hw := hw.2
              refine lv_bipush (v := 21) hx hb dX0_goTide_133 (by decide) ?_
              obtain ⟨b_65, e_66, hw⟩ := hw
              refine x_dr2 e_66 ?_
              obtain ⟨ha, hw⟩ := hw
              obtain ⟨k_67, n_68, h1, h2, hw⟩ := hw
              refine x_cv (va_runV (As := [.int (xI S_13 54 o), .int 21]) (rest := []) ⟨hx, hb, hml, hown, hts⟩ (mt_X2_go l hw) (cwV 2 hts (lw_V q311 q312 q313 q66 q314) rfl rfl rfl hd_X2_go ⟨Nat.le_of_ble_eq_true rfl, Nat.le_of_ble_eq_true rfl⟩) ⟨x_Pc_blind, hR.recv hK (ci := 2) rfl (by decide) ha, x_Pc_pre hR hz hS hK⟩ rfl rfl hl.1 rfl (lv_room (Nat.le_of_ble_eq_true rfl)) dX0_goTide_135 ⟨by show _ ≤ k; omega, by show _ ≤ n; omega⟩) hS (fun S_69 H locs hp hR hS => ?_)
              have hw := hp
              have hc : (cK + k_67) + (k_14 - k_67) ≤ k := by omega
              have hs : (nK + n_68) + (n_15 - n_68) ≤ n := by omega
              refine lv_iinc (v := (x1_11 + (-1))) (lv' := [(1, .int (x1_11 + (-1))), (0, .ref o), (2, .int x2_12)]) hx hb dX0_goTide_138 hl (k := 1) rfl rfl (by decide) rfl (fun ls hl => ?_)
              exact hJ_61 (x1_11 + (-1)) S_69 (k_14 - k_67) (n_15 - n_68) hw ls _ _ _ _ hc hs hR hS (lv_sub hl [1, 0, 2] rfl)
  · have hw := x_f hw c_7
    refine lv_aload_n hx hb dX0_goTide_20 rfl (lv_at hl 0 rfl) ?_
    refine x_getR (ci := 0) (C := RX0) (T := TX0) (N := 19) (f := 52) hx hb hts in_X0 hown hK hR rfl 2 (by decide) (hts _ q114) (fun _ h => h) rfl (by decide) dX0_goTide_21 hw.1 ?_
    have hw := hw.2
    refine lv_iload_n hx hb dX0_goTide_24 rfl (lv_at hl 1 rfl) ?_
    obtain ⟨b_70, e_71, hw⟩ := hw
    refine x_dr1 e_71 ?_
    refine x_aald (t := 103) hx hb hK hR (by decide) rfl rfl dX0_goTide_25 hw.1 hw.2.1 ?_
    have hw := hw.2.2
    obtain ⟨b_72, e_73, hw⟩ := hw
    refine x_dr0 e_73 ?_
    refine lv_astore_n (lv' := [(2, .ref b_72), (0, .ref o), (1, .int x1_2)]) hx hb dX0_goTide_26 rfl hl (by decide) rfl (fun ls hl => ?_)
    refine lv_aload_n hx hb dX0_goTide_27 rfl (lv_at hl 0 rfl) ?_
    refine x_getNI (ci := 2) (C := RX2) (T := TX2) (N := 5) (f := 151) hx hb hts in_X2 hown hK hR rfl 1 (by decide) (hK.2 _ q231 rfl) (fun _ h => h) rfl (by decide) dX0_goTide_28 hw.1 ?_
    have hw := hw.2
    refine x_jn3 (G := fun (S_74 : xH) (k_75 : Nat) (n_76 : Nat) => ∀ (ls : Array Slot) (H : Heap) (locs : List Loc) (cK nK : Nat), cK + k_75 ≤ k → nK + n_76 ≤ n → x_Rp D d (x_A base) mc S_74 H → va_S (x_A base) s.heap H locs → lv_has ls 4 [(0, .ref o), (1, .int x1_2)] → W p l e (x_rm 3 k n 77) s m ([.ref o] : List Value).toArray below meth c H locs cK nK (MQ below (x_Qv D d base mc (fun S' => Q S')) ([.ref o] : List Value).toArray s k n (x_A base)) (F0 m 64 ls [])) hw (fun S_74 k_75 n_76 hw => ?_) (fun hJ_77 hw => ?_)
    · intro ls H locs cK nK hc hs hR hS hl
      refine lv_iinc (v := (x1_2 + 1)) (lv' := [(1, .int (x1_2 + 1)), (0, .ref o)]) hx hb dX0_goTide_64 hl (k := 1) rfl rfl (by decide) rfl (fun ls hl => ?_)
      refine lv_goto (tgt := 12) hx hb dX0_goTide_67 (by decide) ?_
      exact hw ls _ _ _ _ hc hs hR hS (lv_sub hl [1, 0] rfl)
    · refine lv_if_eq (tgt := 64) hx hb dX0_goTide_31 (by decide) (fun c_78 => ?_) (fun c_78 => ?_)
      · have hw := x_t hw c_78
        exact hJ_77 S_3 k_4 n_5 hw ls _ _ _ _ hc hs hR hS (lv_sub hl [1, 2] rfl)
      · have hw := x_f hw c_78
        refine lv_aload_n hx hb dX0_goTide_34 rfl (lv_at hl 0 rfl) ?_
        obtain ⟨ha, hw⟩ := hw
        refine x_ci (va_runV (As := []) (rest := []) ⟨hx, hb, hml, hown, hts⟩ (mt_X2_place l hw) (cwV 0 hts (lw_V q276 q277 q278 q66 q279) rfl rfl rfl hd_X2_place ⟨Nat.le_of_ble_eq_true rfl, Nat.le_of_ble_eq_true rfl⟩) ⟨x_Pc_blind, hR.recv hK (ci := 2) rfl (by decide) ha, x_Pc_pre hR hz hS hK⟩ rfl rfl hl.1 rfl (lv_room (Nat.le_of_ble_eq_true rfl)) dX0_goTide_35 ⟨by show _ ≤ k; omega, by show _ ≤ n; omega⟩) hS (fun r_79 S_80 H locs hp hR hS => ?_)
        have hw := hp.2
        rw [hp.1] at hR
        refine lv_bipush (v := 10) hx hb dX0_goTide_38 (by decide) ?_
        refine lv_icmp_ge (tgt := 64) hx hb dX0_goTide_40 (by decide) (fun c_81 => ?_) (fun c_81 => ?_)
        · have hw := x_t hw c_81
          exact hJ_77 S_3 k_4 n_5 hw ls _ _ _ _ hc hs hR hS (lv_sub hl [1, 2] rfl)
        · have hw := x_f hw c_81
          refine lv_aload_n hx hb dX0_goTide_43 rfl (lv_at hl 1 rfl) ?_
          refine lv_aload_n hx hb dX0_goTide_44 rfl (lv_at hl 0 rfl) ?_
          obtain ⟨ha, hw⟩ := hw
          refine x_ci (va_runV (As := []) (rest := [.ref o]) ⟨hx, hb, hml, hown, hts⟩ (mt_X2_place l hw) (cwV 0 hts (lw_V q276 q277 q278 q66 q279) rfl rfl rfl hd_X2_place ⟨Nat.le_of_ble_eq_true rfl, Nat.le_of_ble_eq_true rfl⟩) ⟨x_Pc_blind, hR.recv hK (ci := 2) rfl (by decide) ha, x_Pc_pre hR hz hS hK⟩ rfl rfl hl.1 rfl (lv_room (Nat.le_of_ble_eq_true rfl)) dX0_goTide_45 ⟨by show _ ≤ k; omega, by show _ ≤ n; omega⟩) hS (fun r_82 S_83 H locs hp hR hS => ?_)
          have hw := hp.2
          rw [hp.1] at hR
          obtain ⟨ha, hw⟩ := hw
          obtain ⟨k_84, n_85, h1, h2, hw⟩ := hw
          refine x_ci (va_runV (As := [.int r_82]) (rest := []) ⟨hx, hb, hml, hown, hts⟩ (mt_X0_hasHeard l hw) (cwV 1 hts (lw_V q296 q298 qs5 q64 q299) rfl rfl rfl hd_X0_hasHeard ⟨Nat.le_of_ble_eq_true rfl, Nat.le_of_ble_eq_true rfl⟩) ⟨x_Pc_blind, hR.recv hK (ci := 0) rfl (by decide) ha, x_Pc_pre hR hz hS hK⟩ rfl rfl hl.1 rfl (lv_room (Nat.le_of_ble_eq_true rfl)) dX0_goTide_48 ⟨by show _ ≤ k; omega, by show _ ≤ n; omega⟩) hS (fun r_86 S_87 H locs hp hR hS => ?_)
          have hw := hp
          have hc : (cK + k_84) + (k_4 - k_84) ≤ k := by omega
          have hs : (nK + n_85) + (n_5 - n_85) ≤ n := by omega
          refine lv_if_eq (tgt := 64) hx hb dX0_goTide_51 (by decide) (fun c_88 => ?_) (fun c_88 => ?_)
          · have hw := x_t hw c_88
            exact hJ_77 S_87 (k_4 - k_84) (n_5 - n_85) hw ls _ _ _ _ hc hs hR hS (lv_sub hl [1, 2] rfl)
          · have hw := x_f hw c_88
            refine lv_aload_n hx hb dX0_goTide_54 rfl (lv_at hl 0 rfl) ?_
            refine lv_aload_n hx hb dX0_goTide_55 rfl (lv_at hl 1 rfl) ?_
            refine x_getI (ci := 0) (C := RX0) (T := TX0) (N := 19) (f := 54) hx hb hts in_X0 hown hK hR rfl 4 (by decide) (hts _ q117) (fun _ h => h) rfl (by decide) dX0_goTide_56 hw.1 ?_
            have hw := hw.2
            refine lv_bipush (v := 22) hx hb dX0_goTide_59 (by decide) ?_
            obtain ⟨ha, hw⟩ := hw
            obtain ⟨k_89, n_90, h1, h2, hw⟩ := hw
            refine x_cv (va_runV (As := [.int (xI S_87 54 o), .int 22]) (rest := []) ⟨hx, hb, hml, hown, hts⟩ (mt_X2_go l hw) (cwV 2 hts (lw_V q311 q312 q313 q66 q314) rfl rfl rfl hd_X2_go ⟨Nat.le_of_ble_eq_true rfl, Nat.le_of_ble_eq_true rfl⟩) ⟨x_Pc_blind, hR.recv hK (ci := 2) rfl (by decide) ha, x_Pc_pre hR hz hS hK⟩ rfl rfl hl.1 rfl (lv_room (Nat.le_of_ble_eq_true rfl)) dX0_goTide_61 ⟨by show _ ≤ k; omega, by show _ ≤ n; omega⟩) hS (fun S_91 H locs hp hR hS => ?_)
            have hw := hp
            have hc : ((cK + k_84) + k_89) + ((k_4 - k_84) - k_89) ≤ k := by omega
            have hs : ((nK + n_85) + n_90) + ((n_5 - n_85) - n_90) ≤ n := by omega
            exact hJ_77 S_91 ((k_4 - k_84) - k_89) ((n_5 - n_85) - n_90) hw ls _ _ _ _ hc hs hR hS (lv_sub hl [1, 2] rfl)
def w_X0_pass (k n : Nat) (S : xH) (o : Nat) (x1 : Int32) (Q : Int32 → xH → Prop) : Prop := w_X0_isIn S x1 1 60 (fun (r_1 : Int32) => wif (r_1 = 0) (Q (-2) S) (xT S o = 1 ∧ wif (((xI S 54 o) + x1) ≤ 899) (lf4 (fun L_9 (x2_5 : Int32) (S_6 : xH) (k_7 : Nat) (n_8 : Nat) => wif (x1 ≤ x2_5) (xT S_6 o = 1 ∧ Q (xI S_6 54 o) S_6) (xT S_6 o = 1 ∧ ∃ k_11 n_12, k_11 ≤ k_7 ∧ n_12 ≤ n_8 ∧ w_X0_goTide k_11 n_12 S_6 o (fun (S_13 : xH) => L_9 (x2_5 + 1) S_13 (k_7 - k_11) (n_8 - n_12)))) 0 S k n) (Q (-4) S)))
theorem hd_X0_pass : yX0_pass.cls = "PressedMen" ∧ yX0_pass.cls ≠ "java/lang/invoke/MethodHandle" ∧ yX0_pass.cls ≠ "java/lang/invoke/VarHandle" ∧ (parseMethodDescriptor yX0_pass.desc).map (fun d => d.parameters.length) = some 1 := by decide +kernel
set_option maxHeartbeats 4000000 in
theorem mt_X0_pass (l : Launch) {D : va_G} {d : Nat → ClassId} {base : Nat} {mc : va_W} {S : xH} {k n : Nat} {o : Nat} {x1 : Int32} {Q : Int32 → xH → Prop} (hw : w_X0_pass k n S o x1 Q) : Met l yX0_pass (ws_ yX0_pass cX0_pass 3 (some FieldType.int)) (x_rm 4 k n 100) (x_Pc D d base mc S [.ref o, .int x1]) (x_Qi D d base mc (fun r S' => Q r S')) k n (x_A base) := by
  refine x_met (by decide) (Nat.le_of_ble_eq_true rfl) ?_
  intro p e s m below meth c hx hb hml hr hlocks hown hts hz hR hK hin ls hl
  have hown : s.vm.findClass "PressedMen" = some m.cls := hown
  have hl : lv_has ls 3 [(0, .ref o), (1, .int x1)] := hl
  have hS : va_S (x_A base) s.heap s.heap [] := va_S.rf
  have hA : ∀ q : Nat, s.heap.size ≤ q → x_A base q := fun q h => Nat.le_trans hz h
  have hc : 0 + k ≤ k := by omega
  have hs : 0 + n ≤ n := by omega
  unfold w_X0_pass at hw
  refine lv_iload_n hx hb dX0_pass_0 rfl (lv_at hl 1 rfl) ?_
  refine lv_iconst (v := 1) hx hb dX0_pass_1 (by decide) ?_
  refine lv_bipush (v := 60) hx hb dX0_pass_2 (by decide) ?_
  refine x_ci (va_runS (As := [.int x1, .int 1, .int 60]) (rest := []) ⟨hx, hb, hml, hown, hts⟩ (mt_X0_isIn l hw) (va_cwS 3 hts (lw_S q178 q179 q64 q180) rfl rfl rfl hd_X0_isIn.2 ⟨Nat.le_of_ble_eq_true rfl, Nat.le_of_ble_eq_true rfl⟩) ⟨x_Pc_blind, x_Pc_pre hR hz hS hK⟩ rfl rfl hl.1 rfl (lv_room (Nat.le_of_ble_eq_true rfl)) dX0_pass_4 ⟨by show _ ≤ k; omega, by show _ ≤ n; omega⟩) hS (fun r_1 S_2 H locs hp hR hS => ?_)
  have hw := hp.2
  rw [hp.1] at hR
  refine lv_if_ne (tgt := 13) hx hb dX0_pass_7 (by decide) (fun c_3 => ?_) (fun c_3 => ?_)
  · have hw := x_f hw c_3
    refine lv_aload_n hx hb dX0_pass_13 rfl (lv_at hl 0 rfl) ?_
    refine x_getI (ci := 0) (C := RX0) (T := TX0) (N := 19) (f := 54) hx hb hts in_X0 hown hK hR rfl 4 (by decide) (hts _ q117) (fun _ h => h) rfl (by decide) dX0_pass_14 hw.1 ?_
    have hw := hw.2
    refine lv_iload_n hx hb dX0_pass_17 rfl (lv_at hl 1 rfl) ?_
    refine lv_iadd hx hb dX0_pass_18 ?_
    refine lv_sipush (v := 899) hx hb dX0_pass_19 (by decide) ?_
    refine lv_icmp_le (tgt := 28) hx hb dX0_pass_22 (by decide) (fun c_4 => ?_) (fun c_4 => ?_)
    · have hw := x_t hw c_4
      refine lv_iconst (v := 0) hx hb dX0_pass_28 (by decide) ?_
      refine lv_istore_n (lv' := [(2, .int 0), (0, .ref o), (1, .int x1)]) hx hb dX0_pass_29 rfl hl (by decide) rfl (fun ls hl => ?_)
      refine x_lf4 (G := fun (x2_5 : Int32) (S_6 : xH) (k_7 : Nat) (n_8 : Nat) => ∀ (ls : Array Slot) (H : Heap) (locs : List Loc) (cK nK : Nat), cK + k_7 ≤ k → nK + n_8 ≤ n → x_Rp D d (x_A base) mc S_6 H → va_S (x_A base) s.heap H locs → lv_has ls 3 [(0, .ref o), (1, .int x1), (2, .int x2_5)] → W p l e (x_rm 4 k n 100) s m ([.ref o, .int x1] : List Value).toArray below meth c H locs cK nK (MQ below (x_Qi D d base mc (fun r S' => Q r S')) ([.ref o, .int x1] : List Value).toArray s k n (x_A base)) (F0 m 30 ls [])) hw (fun x2_5 S_6 k_7 n_8 hw => ?_) ls _ _ _ _ hc hs hR hS (lv_sub hl [1, 2, 0] rfl)
      intro ls H locs cK nK hc hs hR hS hl
      refine lv_iload_n hx hb dX0_pass_30 rfl (lv_at hl 2 rfl) ?_
      refine lv_iload_n hx hb dX0_pass_31 rfl (lv_at hl 1 rfl) ?_
      refine lv_icmp_ge (tgt := 45) hx hb dX0_pass_32 (by decide) (fun c_10 => ?_) (fun c_10 => ?_)
      · have hw := x_t hw c_10
        refine lv_aload_n hx hb dX0_pass_45 rfl (lv_at hl 0 rfl) ?_
        refine x_getI (ci := 0) (C := RX0) (T := TX0) (N := 19) (f := 54) hx hb hts in_X0 hown hK hR rfl 4 (by decide) (hts _ q117) (fun _ h => h) rfl (by decide) dX0_pass_46 hw.1 ?_
        have hw := hw.2
        refine W.widen (k := k) (n := n) (by omega) (by omega) ?_
        exact x_ri hx hb hr hlocks hR hS dX0_pass_49 hw
      · have hw := x_f hw c_10
        refine lv_aload_n hx hb dX0_pass_35 rfl (lv_at hl 0 rfl) ?_
        obtain ⟨ha, hw⟩ := hw
        obtain ⟨k_11, n_12, h1, h2, hw⟩ := hw
        refine x_cv (va_runV (As := []) (rest := []) ⟨hx, hb, hml, hown, hts⟩ (mt_X0_goTide l hw) (cwV 0 hts (lw_V q292 q294 qs4 q64 q295) rfl rfl rfl hd_X0_goTide ⟨Nat.le_of_ble_eq_true rfl, Nat.le_of_ble_eq_true rfl⟩) ⟨x_Pc_blind, hR.recv hK (ci := 0) rfl (by decide) ha, x_Pc_pre hR hz hS hK⟩ rfl rfl hl.1 rfl (lv_room (Nat.le_of_ble_eq_true rfl)) dX0_pass_36 ⟨by show _ ≤ k; omega, by show _ ≤ n; omega⟩) hS (fun S_13 H locs hp hR hS => ?_)
        have hw := hp
        have hc : (cK + k_11) + (k_7 - k_11) ≤ k := by omega
        have hs : (nK + n_12) + (n_8 - n_12) ≤ n := by omega
        refine lv_iinc (v := (x2_5 + 1)) (lv' := [(2, .int (x2_5 + 1)), (0, .ref o), (1, .int x1)]) hx hb dX0_pass_39 hl (k := 2) rfl rfl (by decide) rfl (fun ls hl => ?_)
        refine lv_goto (tgt := 30) hx hb dX0_pass_42 (by decide) ?_
        exact hw ls _ _ _ _ hc hs hR hS (lv_sub hl [1, 2, 0] rfl)
    · have hw := x_f hw c_4
      refine lv_bipush (v := (-4)) hx hb dX0_pass_25 (by decide) ?_
      refine W.widen (k := k) (n := n) (by omega) (by omega) ?_
      exact x_ri hx hb hr hlocks hR hS dX0_pass_27 hw
  · have hw := x_t hw c_3
    refine lv_bipush (v := (-2)) hx hb dX0_pass_10 (by decide) ?_
    refine W.widen (k := k) (n := n) (by omega) (by omega) ?_
    exact x_ri hx hb hr hlocks hR hS dX0_pass_12 hw
def w_X3_isAshore (S : xH) (o : Nat) (Q : Int32 → Prop) : Prop := xT S o = 4 ∧ wif ((xI S 201 o) < 10) (Q 1) (xT S o = 4 ∧ wif ((xI S 201 o) = 22) (Q 1) (Q 0))
theorem hd_X3_isAshore : yX3_isAshore.cls = "PressedMen$Stay" ∧ yX3_isAshore.cls ≠ "java/lang/invoke/MethodHandle" ∧ yX3_isAshore.cls ≠ "java/lang/invoke/VarHandle" ∧ (parseMethodDescriptor yX3_isAshore.desc).map (fun d => d.parameters.length) = some 0 := by decide +kernel
set_option maxHeartbeats 4000000 in
theorem mt_X3_isAshore (l : Launch) {D : va_G} {d : Nat → ClassId} {base : Nat} {mc : va_W} {S : xH} {o : Nat} {Q : Int32 → Prop} (hw : w_X3_isAshore S o Q) : Met l yX3_isAshore (ws_ yX3_isAshore cX3_isAshore 1 (some FieldType.boolean)) (x_rm 0 0 0 0) (x_Pc D d base mc S [.ref o]) (x_Qi D d base mc (fun r S' => S' = S ∧ Q r)) 0 0 (x_A base) := by
  refine x_met (by decide) (Nat.le_of_ble_eq_true rfl) ?_
  intro p e s m below meth c hx hb hml hr hlocks hown hts hz hR hK hin ls hl
  have hown : s.vm.findClass "PressedMen$Stay" = some m.cls := hown
  have hl : lv_has ls 1 [(0, .ref o)] := hl
  have hS : va_S (x_A base) s.heap s.heap [] := va_S.rf
  unfold w_X3_isAshore at hw
  refine lv_aload_n hx hb dX3_isAshore_0 rfl (lv_at hl 0 rfl) ?_
  refine x_getI (ci := 3) (C := RX3) (T := TX3) (N := 3) (f := 201) hx hb hts in_X3 hown hK hR rfl 1 (by decide) (hts _ q215) (fun _ h => h) rfl (by decide) dX3_isAshore_1 hw.1 ?_
  have hw := hw.2
  refine lv_bipush (v := 10) hx hb dX3_isAshore_4 (by decide) ?_
  refine lv_icmp_lt (tgt := 18) hx hb dX3_isAshore_6 (by decide) (fun c_1 => ?_) (fun c_1 => ?_)
  · have hw := x_t hw c_1
    refine lv_iconst (v := 1) hx hb dX3_isAshore_18 (by decide) ?_
    refine lv_goto (tgt := 23) hx hb dX3_isAshore_19 (by decide) ?_
    exact x_rz hx hb hr hlocks hR hS dX3_isAshore_23 (Or.inr rfl) ⟨rfl, hw⟩
  · have hw := x_f hw c_1
    refine lv_aload_n hx hb dX3_isAshore_9 rfl (lv_at hl 0 rfl) ?_
    refine x_getI (ci := 3) (C := RX3) (T := TX3) (N := 3) (f := 201) hx hb hts in_X3 hown hK hR rfl 1 (by decide) (hts _ q215) (fun _ h => h) rfl (by decide) dX3_isAshore_10 hw.1 ?_
    have hw := hw.2
    refine lv_bipush (v := 22) hx hb dX3_isAshore_13 (by decide) ?_
    refine lv_icmp_ne (tgt := 22) hx hb dX3_isAshore_15 (by decide) (fun c_2 => ?_) (fun c_2 => ?_)
    · have hw := x_f hw c_2
      refine lv_iconst (v := 0) hx hb dX3_isAshore_22 (by decide) ?_
      exact x_rz hx hb hr hlocks hR hS dX3_isAshore_23 (Or.inl rfl) ⟨rfl, hw⟩
    · have hw := x_t hw c_2
      refine lv_iconst (v := 1) hx hb dX3_isAshore_18 (by decide) ?_
      refine lv_goto (tgt := 23) hx hb dX3_isAshore_19 (by decide) ?_
      exact x_rz hx hb hr hlocks hR hS dX3_isAshore_23 (Or.inr rfl) ⟨rfl, hw⟩
def w_X0_send (k n : Nat) (S : xH) (o : Nat) (x1 : Nat) (x2 : Int32) (Q : Int32 → xH → Prop) : Prop := xT S x1 = 3 ∧ w_X2_place S x1 (fun (r_1 : Int32) => xT S o = 1 ∧ xT S x1 = 3 ∧ ∃ k_3 n_4, k_3 ≤ k ∧ n_4 ≤ n ∧ w_X2_go k_3 n_4 S x1 (xI S 54 o) x2 (fun (S_5 : xH) => Q r_1 S_5))
theorem hd_X0_send : yX0_send.cls = "PressedMen" ∧ yX0_send.cls ≠ "java/lang/invoke/MethodHandle" ∧ yX0_send.cls ≠ "java/lang/invoke/VarHandle" ∧ (parseMethodDescriptor yX0_send.desc).map (fun d => d.parameters.length) = some 2 := by decide +kernel
set_option maxHeartbeats 4000000 in
theorem mt_X0_send (l : Launch) {D : va_G} {d : Nat → ClassId} {base : Nat} {mc : va_W} {S : xH} {k n : Nat} {o : Nat} {x1 : Nat} {x2 : Int32} {Q : Int32 → xH → Prop} (hw : w_X0_send k n S o x1 x2 Q) : Met l yX0_send (ws_ yX0_send cX0_send 4 (some FieldType.int)) (x_rm 3 k n 73) (x_Pc D d base mc S [.ref o, .ref x1, .int x2]) (x_Qi D d base mc (fun r S' => Q r S')) k n (x_A base) := by
  refine x_met (by decide) (Nat.le_of_ble_eq_true rfl) ?_
  intro p e s m below meth c hx hb hml hr hlocks hown hts hz hR hK hin ls hl
  have hown : s.vm.findClass "PressedMen" = some m.cls := hown
  have hl : lv_has ls 4 [(0, .ref o), (1, .ref x1), (2, .int x2)] := hl
  have hS : va_S (x_A base) s.heap s.heap [] := va_S.rf
  have hA : ∀ q : Nat, s.heap.size ≤ q → x_A base q := fun q h => Nat.le_trans hz h
  have hc : 0 + k ≤ k := by omega
  have hs : 0 + n ≤ n := by omega
  unfold w_X0_send at hw
  refine lv_aload_n hx hb dX0_send_0 rfl (lv_at hl 1 rfl) ?_
  obtain ⟨ha, hw⟩ := hw
  refine x_ci (va_runV (As := []) (rest := []) ⟨hx, hb, hml, hown, hts⟩ (mt_X2_place l hw) (cwV 0 hts (lw_V q276 q277 q278 q66 q279) rfl rfl rfl hd_X2_place ⟨Nat.le_of_ble_eq_true rfl, Nat.le_of_ble_eq_true rfl⟩) ⟨x_Pc_blind, hR.recv hK (ci := 2) rfl (by decide) ha, x_Pc_pre hR hz hS hK⟩ rfl rfl hl.1 rfl (lv_room (Nat.le_of_ble_eq_true rfl)) dX0_send_1 ⟨by show _ ≤ k; omega, by show _ ≤ n; omega⟩) hS (fun r_1 S_2 H locs hp hR hS => ?_)
  have hw := hp.2
  rw [hp.1] at hR
  refine lv_istore_n (lv' := [(3, .int r_1), (0, .ref o), (1, .ref x1), (2, .int x2)]) hx hb dX0_send_4 rfl hl (by decide) rfl (fun ls hl => ?_)
  refine lv_aload_n hx hb dX0_send_5 rfl (lv_at hl 2 rfl) ?_
  refine lv_aload_n hx hb dX0_send_6 rfl (lv_at hl 1 rfl) ?_
  refine x_getI (ci := 0) (C := RX0) (T := TX0) (N := 19) (f := 54) hx hb hts in_X0 hown hK hR rfl 4 (by decide) (hts _ q117) (fun _ h => h) rfl (by decide) dX0_send_7 hw.1 ?_
  have hw := hw.2
  refine lv_iload_n hx hb dX0_send_10 rfl (lv_at hl 3 rfl) ?_
  obtain ⟨ha, hw⟩ := hw
  obtain ⟨k_3, n_4, h1, h2, hw⟩ := hw
  refine x_cv (va_runV (As := [.int (xI S 54 o), .int x2]) (rest := []) ⟨hx, hb, hml, hown, hts⟩ (mt_X2_go l hw) (cwV 2 hts (lw_V q311 q312 q313 q66 q314) rfl rfl rfl hd_X2_go ⟨Nat.le_of_ble_eq_true rfl, Nat.le_of_ble_eq_true rfl⟩) ⟨x_Pc_blind, hR.recv hK (ci := 2) rfl (by decide) ha, x_Pc_pre hR hz hS hK⟩ rfl rfl hl.1 rfl (lv_room (Nat.le_of_ble_eq_true rfl)) dX0_send_11 ⟨by show _ ≤ k; omega, by show _ ≤ n; omega⟩) hS (fun S_5 H locs hp hR hS => ?_)
  have hw := hp
  have hc : (0 + k_3) + (k - k_3) ≤ k := by omega
  have hs : (0 + n_4) + (n - n_4) ≤ n := by omega
  refine lv_iload_n hx hb dX0_send_14 rfl (lv_at hl 0 rfl) ?_
  refine W.widen (k := k) (n := n) (by omega) (by omega) ?_
  exact x_ri hx hb hr hlocks hR hS dX0_send_15 hw
def w_X0_walk (k n : Nat) (S : xH) (o : Nat) (x1 : Int32) (x2 : Int32) (Q : Int32 → xH → Prop) : Prop := xT S o = 1 ∧ w_X0_isMan S o x1 (fun (r_1 : Int32) => wif (r_1 = 0) (Q (-1) S) (xT S o = 1 ∧ w_X0_isStreet S o x2 (fun (r_4 : Int32) => wif (r_4 = 0) (Q (-1) S) (xT S o = 1 ∧ ∃ b_7, (xR S 52 o) = some b_7 ∧ xT S b_7 = 103 ∧ vp_in x1 (xL S b_7) ∧ ∃ b_9, (xQ S b_7 (Int32.toNatClampNeg x1)) = some b_9 ∧ xT S b_9 = 3 ∧ ∃ b_11, (xR S 152 b_9) = some b_11 ∧ xT S b_11 = 4 ∧ w_X3_isAshore S b_11 (fun (r_13 : Int32) => wif (r_13 = 0) (Q (-3) S) (xT S o = 1 ∧ ∃ b_16, (xR S 52 o) = some b_16 ∧ xT S b_16 = 103 ∧ vp_in x1 (xL S b_16) ∧ ∃ b_18, (xQ S b_16 (Int32.toNatClampNeg x1)) = some b_18 ∧ xT S o = 1 ∧ ∃ k_20 n_21, k_20 ≤ k ∧ n_21 ≤ n ∧ w_X0_send k_20 n_21 S o b_18 x2 (fun (r_22 : Int32) (S_23 : xH) => Q r_22 S_23)))))))
theorem hd_X0_walk : yX0_walk.cls = "PressedMen" ∧ yX0_walk.cls ≠ "java/lang/invoke/MethodHandle" ∧ yX0_walk.cls ≠ "java/lang/invoke/VarHandle" ∧ (parseMethodDescriptor yX0_walk.desc).map (fun d => d.parameters.length) = some 2 := by decide +kernel
set_option maxHeartbeats 4000000 in
theorem mt_X0_walk (l : Launch) {D : va_G} {d : Nat → ClassId} {base : Nat} {mc : va_W} {S : xH} {k n : Nat} {o : Nat} {x1 : Int32} {x2 : Int32} {Q : Int32 → xH → Prop} (hw : w_X0_walk k n S o x1 x2 Q) : Met l yX0_walk (ws_ yX0_walk cX0_walk 3 (some FieldType.int)) (x_rm 4 k n 96) (x_Pc D d base mc S [.ref o, .int x1, .int x2]) (x_Qi D d base mc (fun r S' => Q r S')) k n (x_A base) := by
  refine x_met (by decide) (Nat.le_of_ble_eq_true rfl) ?_
  intro p e s m below meth c hx hb hml hr hlocks hown hts hz hR hK hin ls hl
  have hown : s.vm.findClass "PressedMen" = some m.cls := hown
  have hl : lv_has ls 3 [(0, .ref o), (1, .int x1), (2, .int x2)] := hl
  have hS : va_S (x_A base) s.heap s.heap [] := va_S.rf
  have hA : ∀ q : Nat, s.heap.size ≤ q → x_A base q := fun q h => Nat.le_trans hz h
  have hc : 0 + k ≤ k := by omega
  have hs : 0 + n ≤ n := by omega
  unfold w_X0_walk at hw
  refine lv_aload_n hx hb dX0_walk_0 rfl (lv_at hl 0 rfl) ?_
  refine lv_iload_n hx hb dX0_walk_1 rfl (lv_at hl 1 rfl) ?_
  obtain ⟨ha, hw⟩ := hw
  refine x_ci (va_runV (As := [.int x1]) (rest := []) ⟨hx, hb, hml, hown, hts⟩ (mt_X0_isMan l hw) (cwV 1 hts (lw_V q252 q254 qs2 q64 q255) rfl rfl rfl hd_X0_isMan ⟨Nat.le_of_ble_eq_true rfl, Nat.le_of_ble_eq_true rfl⟩) ⟨x_Pc_blind, hR.recv hK (ci := 0) rfl (by decide) ha, x_Pc_pre hR hz hS hK⟩ rfl rfl hl.1 rfl (lv_room (Nat.le_of_ble_eq_true rfl)) dX0_walk_2 ⟨by show _ ≤ k; omega, by show _ ≤ n; omega⟩) hS (fun r_1 S_2 H locs hp hR hS => ?_)
  have hw := hp.2
  rw [hp.1] at hR
  refine lv_if_eq (tgt := 16) hx hb dX0_walk_5 (by decide) (fun c_3 => ?_) (fun c_3 => ?_)
  · have hw := x_t hw c_3
    refine lv_iconst (v := (-1)) hx hb dX0_walk_16 (by decide) ?_
    refine W.widen (k := k) (n := n) (by omega) (by omega) ?_
    exact x_ri hx hb hr hlocks hR hS dX0_walk_17 hw
  · have hw := x_f hw c_3
    refine lv_aload_n hx hb dX0_walk_8 rfl (lv_at hl 0 rfl) ?_
    refine lv_iload_n hx hb dX0_walk_9 rfl (lv_at hl 2 rfl) ?_
    obtain ⟨ha, hw⟩ := hw
    refine x_ci (va_runV (As := [.int x2]) (rest := []) ⟨hx, hb, hml, hown, hts⟩ (mt_X0_isStreet l hw) (cwV 1 hts (lw_V q181 q183 qs0 q64 q184) rfl rfl rfl hd_X0_isStreet ⟨Nat.le_of_ble_eq_true rfl, Nat.le_of_ble_eq_true rfl⟩) ⟨x_Pc_blind, hR.recv hK (ci := 0) rfl (by decide) ha, x_Pc_pre hR hz hS hK⟩ rfl rfl hl.1 rfl (lv_room (Nat.le_of_ble_eq_true rfl)) dX0_walk_10 ⟨by show _ ≤ k; omega, by show _ ≤ n; omega⟩) hS (fun r_4 S_5 H locs hp hR hS => ?_)
    have hw := hp.2
    rw [hp.1] at hR
    refine lv_if_ne (tgt := 18) hx hb dX0_walk_13 (by decide) (fun c_6 => ?_) (fun c_6 => ?_)
    · have hw := x_f hw c_6
      refine lv_aload_n hx hb dX0_walk_18 rfl (lv_at hl 0 rfl) ?_
      refine x_getR (ci := 0) (C := RX0) (T := TX0) (N := 19) (f := 52) hx hb hts in_X0 hown hK hR rfl 2 (by decide) (hts _ q114) (fun _ h => h) rfl (by decide) dX0_walk_19 hw.1 ?_
      have hw := hw.2
      refine lv_iload_n hx hb dX0_walk_22 rfl (lv_at hl 1 rfl) ?_
      obtain ⟨b_7, e_8, hw⟩ := hw
      refine x_dr1 e_8 ?_
      refine x_aald (t := 103) hx hb hK hR (by decide) rfl rfl dX0_walk_23 hw.1 hw.2.1 ?_
      have hw := hw.2.2
      obtain ⟨b_9, e_10, hw⟩ := hw
      refine x_dr0 e_10 ?_
      refine x_getNR (ci := 2) (C := RX2) (T := TX2) (N := 5) (f := 152) hx hb hts in_X2 hown hK hR rfl 2 (by decide) (hK.2 _ q233 rfl) (fun _ h => h) rfl (by decide) dX0_walk_24 hw.1 ?_
      have hw := hw.2
      obtain ⟨b_11, e_12, hw⟩ := hw
      refine x_dr0 e_12 ?_
      obtain ⟨ha, hw⟩ := hw
      refine x_ci (va_runV (As := []) (rest := []) ⟨hx, hb, hml, hown, hts⟩ (mt_X3_isAshore l hw) (cwV 0 hts (lw_V q326 q327 q328 q67 q329) rfl rfl rfl hd_X3_isAshore ⟨Nat.le_of_ble_eq_true rfl, Nat.le_of_ble_eq_true rfl⟩) ⟨x_Pc_blind, hR.recv hK (ci := 3) rfl (by decide) ha, x_Pc_pre hR hz hS hK⟩ rfl rfl hl.1 rfl (lv_room (Nat.le_of_ble_eq_true rfl)) dX0_walk_27 ⟨by show _ ≤ k; omega, by show _ ≤ n; omega⟩) hS (fun r_13 S_14 H locs hp hR hS => ?_)
      have hw := hp.2
      rw [hp.1] at hR
      refine lv_if_eq (tgt := 47) hx hb dX0_walk_30 (by decide) (fun c_15 => ?_) (fun c_15 => ?_)
      · have hw := x_t hw c_15
        refine lv_bipush (v := (-3)) hx hb dX0_walk_47 (by decide) ?_
        refine W.widen (k := k) (n := n) (by omega) (by omega) ?_
        exact x_ri hx hb hr hlocks hR hS dX0_walk_49 hw
      · have hw := x_f hw c_15
        refine lv_aload_n hx hb dX0_walk_33 rfl (lv_at hl 0 rfl) ?_
        refine lv_aload_n hx hb dX0_walk_34 rfl (lv_at hl 0 rfl) ?_
        refine x_getR (ci := 0) (C := RX0) (T := TX0) (N := 19) (f := 52) hx hb hts in_X0 hown hK hR rfl 2 (by decide) (hts _ q114) (fun _ h => h) rfl (by decide) dX0_walk_35 hw.1 ?_
        have hw := hw.2
        refine lv_iload_n hx hb dX0_walk_38 rfl (lv_at hl 1 rfl) ?_
        obtain ⟨b_16, e_17, hw⟩ := hw
        refine x_dr1 e_17 ?_
        refine x_aald (t := 103) hx hb hK hR (by decide) rfl rfl dX0_walk_39 hw.1 hw.2.1 ?_
        have hw := hw.2.2
        refine lv_iload_n hx hb dX0_walk_40 rfl (lv_at hl 2 rfl) ?_
        obtain ⟨b_18, e_19, hw⟩ := hw
        refine x_dr1 e_19 ?_
        obtain ⟨ha, hw⟩ := hw
        obtain ⟨k_20, n_21, h1, h2, hw⟩ := hw
        refine x_ci (va_runV (As := [.ref b_18, .int x2]) (rest := []) ⟨hx, hb, hml, hown, hts⟩ (mt_X0_send l hw) (cwV 2 hts (lw_V q330 q332 qs7 q64 q333) rfl rfl rfl hd_X0_send ⟨Nat.le_of_ble_eq_true rfl, Nat.le_of_ble_eq_true rfl⟩) ⟨x_Pc_blind, hR.recv hK (ci := 0) rfl (by decide) ha, x_Pc_pre hR hz hS hK⟩ rfl rfl hl.1 rfl (lv_room (Nat.le_of_ble_eq_true rfl)) dX0_walk_41 ⟨by show _ ≤ k; omega, by show _ ≤ n; omega⟩) hS (fun r_22 S_23 H locs hp hR hS => ?_)
        have hw := hp
        have hc : (0 + k_20) + (k - k_20) ≤ k := by omega
        have hs : (0 + n_21) + (n - n_21) ≤ n := by omega
        refine lv_goto (tgt := 49) hx hb dX0_walk_44 (by decide) ?_
        refine W.widen (k := k) (n := n) (by omega) (by omega) ?_
        exact x_ri hx hb hr hlocks hR hS dX0_walk_49 hw
    · have hw := x_t hw c_6
      refine lv_iconst (v := (-1)) hx hb dX0_walk_16 (by decide) ?_
      refine W.widen (k := k) (n := n) (by omega) (by omega) ?_
      exact x_ri hx hb hr hlocks hR hS dX0_walk_17 hw
def w_X0_run (k n : Nat) (S : xH) (o : Nat) (x1 : Int32) (Q : Int32 → xH → Prop) : Prop := xT S o = 1 ∧ w_X0_isMan S o x1 (fun (r_1 : Int32) => wif (r_1 = 0) (Q (-1) S) (xT S o = 1 ∧ ∃ b_4, (xR S 52 o) = some b_4 ∧ xT S b_4 = 103 ∧ vp_in x1 (xL S b_4) ∧ ∃ b_6, (xQ S b_4 (Int32.toNatClampNeg x1)) = some b_6 ∧ xT S b_6 = 3 ∧ w_X2_place S b_6 (fun (r_8 : Int32) => wif (r_8 = 23) (Q (-3) S) (xT S o = 1 ∧ ∃ b_11, (xR S 52 o) = some b_11 ∧ xT S b_11 = 103 ∧ vp_in x1 (xL S b_11) ∧ ∃ b_13, (xQ S b_11 (Int32.toNatClampNeg x1)) = some b_13 ∧ xT S o = 1 ∧ ∃ k_15 n_16, k_15 ≤ k ∧ n_16 ≤ n ∧ w_X0_send k_15 n_16 S o b_13 23 (fun (r_17 : Int32) (S_18 : xH) => Q r_17 S_18)))))
theorem hd_X0_run : yX0_run.cls = "PressedMen" ∧ yX0_run.cls ≠ "java/lang/invoke/MethodHandle" ∧ yX0_run.cls ≠ "java/lang/invoke/VarHandle" ∧ (parseMethodDescriptor yX0_run.desc).map (fun d => d.parameters.length) = some 1 := by decide +kernel
set_option maxHeartbeats 4000000 in
theorem mt_X0_run (l : Launch) {D : va_G} {d : Nat → ClassId} {base : Nat} {mc : va_W} {S : xH} {k n : Nat} {o : Nat} {x1 : Int32} {Q : Int32 → xH → Prop} (hw : w_X0_run k n S o x1 Q) : Met l yX0_run (ws_ yX0_run cX0_run 2 (some FieldType.int)) (x_rm 4 k n 96) (x_Pc D d base mc S [.ref o, .int x1]) (x_Qi D d base mc (fun r S' => Q r S')) k n (x_A base) := by
  refine x_met (by decide) (Nat.le_of_ble_eq_true rfl) ?_
  intro p e s m below meth c hx hb hml hr hlocks hown hts hz hR hK hin ls hl
  have hown : s.vm.findClass "PressedMen" = some m.cls := hown
  have hl : lv_has ls 2 [(0, .ref o), (1, .int x1)] := hl
  have hS : va_S (x_A base) s.heap s.heap [] := va_S.rf
  have hA : ∀ q : Nat, s.heap.size ≤ q → x_A base q := fun q h => Nat.le_trans hz h
  have hc : 0 + k ≤ k := by omega
  have hs : 0 + n ≤ n := by omega
  unfold w_X0_run at hw
  refine lv_aload_n hx hb dX0_run_0 rfl (lv_at hl 0 rfl) ?_
  refine lv_iload_n hx hb dX0_run_1 rfl (lv_at hl 1 rfl) ?_
  obtain ⟨ha, hw⟩ := hw
  refine x_ci (va_runV (As := [.int x1]) (rest := []) ⟨hx, hb, hml, hown, hts⟩ (mt_X0_isMan l hw) (cwV 1 hts (lw_V q252 q254 qs2 q64 q255) rfl rfl rfl hd_X0_isMan ⟨Nat.le_of_ble_eq_true rfl, Nat.le_of_ble_eq_true rfl⟩) ⟨x_Pc_blind, hR.recv hK (ci := 0) rfl (by decide) ha, x_Pc_pre hR hz hS hK⟩ rfl rfl hl.1 rfl (lv_room (Nat.le_of_ble_eq_true rfl)) dX0_run_2 ⟨by show _ ≤ k; omega, by show _ ≤ n; omega⟩) hS (fun r_1 S_2 H locs hp hR hS => ?_)
  have hw := hp.2
  rw [hp.1] at hR
  refine lv_if_ne (tgt := 10) hx hb dX0_run_5 (by decide) (fun c_3 => ?_) (fun c_3 => ?_)
  · have hw := x_f hw c_3
    refine lv_aload_n hx hb dX0_run_10 rfl (lv_at hl 0 rfl) ?_
    refine x_getR (ci := 0) (C := RX0) (T := TX0) (N := 19) (f := 52) hx hb hts in_X0 hown hK hR rfl 2 (by decide) (hts _ q114) (fun _ h => h) rfl (by decide) dX0_run_11 hw.1 ?_
    have hw := hw.2
    refine lv_iload_n hx hb dX0_run_14 rfl (lv_at hl 1 rfl) ?_
    obtain ⟨b_4, e_5, hw⟩ := hw
    refine x_dr1 e_5 ?_
    refine x_aald (t := 103) hx hb hK hR (by decide) rfl rfl dX0_run_15 hw.1 hw.2.1 ?_
    have hw := hw.2.2
    obtain ⟨b_6, e_7, hw⟩ := hw
    refine x_dr0 e_7 ?_
    obtain ⟨ha, hw⟩ := hw
    refine x_ci (va_runV (As := []) (rest := []) ⟨hx, hb, hml, hown, hts⟩ (mt_X2_place l hw) (cwV 0 hts (lw_V q276 q277 q278 q66 q279) rfl rfl rfl hd_X2_place ⟨Nat.le_of_ble_eq_true rfl, Nat.le_of_ble_eq_true rfl⟩) ⟨x_Pc_blind, hR.recv hK (ci := 2) rfl (by decide) ha, x_Pc_pre hR hz hS hK⟩ rfl rfl hl.1 rfl (lv_room (Nat.le_of_ble_eq_true rfl)) dX0_run_16 ⟨by show _ ≤ k; omega, by show _ ≤ n; omega⟩) hS (fun r_8 S_9 H locs hp hR hS => ?_)
    have hw := hp.2
    rw [hp.1] at hR
    refine lv_bipush (v := 23) hx hb dX0_run_19 (by decide) ?_
    refine lv_icmp_ne (tgt := 29) hx hb dX0_run_21 (by decide) (fun c_10 => ?_) (fun c_10 => ?_)
    · have hw := x_f hw c_10
      refine lv_aload_n hx hb dX0_run_29 rfl (lv_at hl 0 rfl) ?_
      refine lv_aload_n hx hb dX0_run_30 rfl (lv_at hl 0 rfl) ?_
      refine x_getR (ci := 0) (C := RX0) (T := TX0) (N := 19) (f := 52) hx hb hts in_X0 hown hK hR rfl 2 (by decide) (hts _ q114) (fun _ h => h) rfl (by decide) dX0_run_31 hw.1 ?_
      have hw := hw.2
      refine lv_iload_n hx hb dX0_run_34 rfl (lv_at hl 1 rfl) ?_
      obtain ⟨b_11, e_12, hw⟩ := hw
      refine x_dr1 e_12 ?_
      refine x_aald (t := 103) hx hb hK hR (by decide) rfl rfl dX0_run_35 hw.1 hw.2.1 ?_
      have hw := hw.2.2
      refine lv_bipush (v := 23) hx hb dX0_run_36 (by decide) ?_
      obtain ⟨b_13, e_14, hw⟩ := hw
      refine x_dr1 e_14 ?_
      obtain ⟨ha, hw⟩ := hw
      obtain ⟨k_15, n_16, h1, h2, hw⟩ := hw
      refine x_ci (va_runV (As := [.ref b_13, .int 23]) (rest := []) ⟨hx, hb, hml, hown, hts⟩ (mt_X0_send l hw) (cwV 2 hts (lw_V q330 q332 qs7 q64 q333) rfl rfl rfl hd_X0_send ⟨Nat.le_of_ble_eq_true rfl, Nat.le_of_ble_eq_true rfl⟩) ⟨x_Pc_blind, hR.recv hK (ci := 0) rfl (by decide) ha, x_Pc_pre hR hz hS hK⟩ rfl rfl hl.1 rfl (lv_room (Nat.le_of_ble_eq_true rfl)) dX0_run_38 ⟨by show _ ≤ k; omega, by show _ ≤ n; omega⟩) hS (fun r_17 S_18 H locs hp hR hS => ?_)
      have hw := hp
      have hc : (0 + k_15) + (k - k_15) ≤ k := by omega
      have hs : (0 + n_16) + (n - n_16) ≤ n := by omega
      refine W.widen (k := k) (n := n) (by omega) (by omega) ?_
      exact x_ri hx hb hr hlocks hR hS dX0_run_41 hw
    · have hw := x_t hw c_10
      refine lv_bipush (v := (-3)) hx hb dX0_run_24 (by decide) ?_
      refine lv_goto (tgt := 41) hx hb dX0_run_26 (by decide) ?_
      refine W.widen (k := k) (n := n) (by omega) (by omega) ?_
      exact x_ri hx hb hr hlocks hR hS dX0_run_41 hw
  · have hw := x_t hw c_3
    refine lv_iconst (v := (-1)) hx hb dX0_run_8 (by decide) ?_
    refine W.widen (k := k) (n := n) (by omega) (by omega) ?_
    exact x_ri hx hb hr hlocks hR hS dX0_run_9 hw
def w_X0_isMark (S : xH) (x0 : Int32) (Q : Int32 → Prop) : Prop := wif (x0 = (-9)) (Q 1) (w_X0_isIn S x0 0 3 (fun (r_2 : Int32) => wif (r_2 = 0) (Q 0) (Q 1)))
theorem hd_X0_isMark : yX0_isMark.cls = "PressedMen" ∧ yX0_isMark.cls ≠ "java/lang/invoke/MethodHandle" ∧ yX0_isMark.cls ≠ "java/lang/invoke/VarHandle" ∧ (parseMethodDescriptor yX0_isMark.desc).map (fun d => d.parameters.length) = some 1 := by decide +kernel
set_option maxHeartbeats 4000000 in
theorem mt_X0_isMark (l : Launch) {D : va_G} {d : Nat → ClassId} {base : Nat} {mc : va_W} {S : xH} {x0 : Int32} {Q : Int32 → Prop} (hw : w_X0_isMark S x0 Q) : Met l yX0_isMark (ws_ yX0_isMark cX0_isMark 1 (some FieldType.boolean)) (x_rm 1 0 0 22) (x_Pc D d base mc S [.int x0]) (x_Qi D d base mc (fun r S' => S' = S ∧ Q r)) 0 0 (x_A base) := by
  refine x_met (by decide) (Nat.le_of_ble_eq_true rfl) ?_
  intro p e s m below meth c hx hb hml hr hlocks hown hts hz hR hK hin ls hl
  have hown : s.vm.findClass "PressedMen" = some m.cls := hown
  have hl : lv_has ls 1 [(0, .int x0)] := hl
  have hS : va_S (x_A base) s.heap s.heap [] := va_S.rf
  unfold w_X0_isMark at hw
  refine lv_iload_n hx hb dX0_isMark_0 rfl (lv_at hl 0 rfl) ?_
  refine lv_bipush (v := (-9)) hx hb dX0_isMark_1 (by decide) ?_
  refine lv_icmp_eq (tgt := 15) hx hb dX0_isMark_3 (by decide) (fun c_1 => ?_) (fun c_1 => ?_)
  · have hw := x_t hw c_1
    refine lv_iconst (v := 1) hx hb dX0_isMark_15 (by decide) ?_
    refine lv_goto (tgt := 20) hx hb dX0_isMark_16 (by decide) ?_
    exact x_rz hx hb hr hlocks hR hS dX0_isMark_20 (Or.inr rfl) ⟨rfl, hw⟩
  · have hw := x_f hw c_1
    refine lv_iload_n hx hb dX0_isMark_6 rfl (lv_at hl 0 rfl) ?_
    refine lv_iconst (v := 0) hx hb dX0_isMark_7 (by decide) ?_
    refine lv_iconst (v := 3) hx hb dX0_isMark_8 (by decide) ?_
    refine x_ci (va_runS (As := [.int x0, .int 0, .int 3]) (rest := []) ⟨hx, hb, hml, hown, hts⟩ (mt_X0_isIn l hw) (va_cwS 3 hts (lw_S q178 q179 q64 q180) rfl rfl rfl hd_X0_isIn.2 ⟨Nat.le_of_ble_eq_true rfl, Nat.le_of_ble_eq_true rfl⟩) ⟨x_Pc_blind, x_Pc_pre hR hz hS hK⟩ rfl rfl hl.1 rfl (lv_room (Nat.le_of_ble_eq_true rfl)) dX0_isMark_9 ⟨Nat.le_refl _, Nat.le_refl _⟩) hS (fun r_2 S_3 H locs hp hR hS => ?_)
    have hw := hp.2
    rw [hp.1] at hR
    refine lv_if_eq (tgt := 19) hx hb dX0_isMark_12 (by decide) (fun c_4 => ?_) (fun c_4 => ?_)
    · have hw := x_t hw c_4
      refine lv_iconst (v := 0) hx hb dX0_isMark_19 (by decide) ?_
      exact x_rz hx hb hr hlocks hR hS dX0_isMark_20 (Or.inl rfl) ⟨rfl, hw⟩
    · have hw := x_f hw c_4
      refine lv_iconst (v := 1) hx hb dX0_isMark_15 (by decide) ?_
      refine lv_goto (tgt := 20) hx hb dX0_isMark_16 (by decide) ?_
      exact x_rz hx hb hr hlocks hR hS dX0_isMark_20 (Or.inr rfl) ⟨rfl, hw⟩
def w_X0_areIn (S : xH) (x0 : Int32) (x1 : Int32) (x2 : Int32) (Q : Int32 → Prop) : Prop := w_X0_isIn S x0 0 x1 (fun (r_1 : Int32) => wif (r_1 = 0) (Q 0) (wif (x2 < x1) (Q 0) (Q 1)))
theorem hd_X0_areIn : yX0_areIn.cls = "PressedMen" ∧ yX0_areIn.cls ≠ "java/lang/invoke/MethodHandle" ∧ yX0_areIn.cls ≠ "java/lang/invoke/VarHandle" ∧ (parseMethodDescriptor yX0_areIn.desc).map (fun d => d.parameters.length) = some 3 := by decide +kernel
set_option maxHeartbeats 4000000 in
theorem mt_X0_areIn (l : Launch) {D : va_G} {d : Nat → ClassId} {base : Nat} {mc : va_W} {S : xH} {x0 : Int32} {x1 : Int32} {x2 : Int32} {Q : Int32 → Prop} (hw : w_X0_areIn S x0 x1 x2 Q) : Met l yX0_areIn (ws_ yX0_areIn cX0_areIn 3 (some FieldType.boolean)) (x_rm 1 0 0 22) (x_Pc D d base mc S [.int x0, .int x1, .int x2]) (x_Qi D d base mc (fun r S' => S' = S ∧ Q r)) 0 0 (x_A base) := by
  refine x_met (by decide) (Nat.le_of_ble_eq_true rfl) ?_
  intro p e s m below meth c hx hb hml hr hlocks hown hts hz hR hK hin ls hl
  have hown : s.vm.findClass "PressedMen" = some m.cls := hown
  have hl : lv_has ls 3 [(0, .int x0), (1, .int x1), (2, .int x2)] := hl
  have hS : va_S (x_A base) s.heap s.heap [] := va_S.rf
  unfold w_X0_areIn at hw
  refine lv_iload_n hx hb dX0_areIn_0 rfl (lv_at hl 0 rfl) ?_
  refine lv_iconst (v := 0) hx hb dX0_areIn_1 (by decide) ?_
  refine lv_iload_n hx hb dX0_areIn_2 rfl (lv_at hl 1 rfl) ?_
  refine x_ci (va_runS (As := [.int x0, .int 0, .int x1]) (rest := []) ⟨hx, hb, hml, hown, hts⟩ (mt_X0_isIn l hw) (va_cwS 3 hts (lw_S q178 q179 q64 q180) rfl rfl rfl hd_X0_isIn.2 ⟨Nat.le_of_ble_eq_true rfl, Nat.le_of_ble_eq_true rfl⟩) ⟨x_Pc_blind, x_Pc_pre hR hz hS hK⟩ rfl rfl hl.1 rfl (lv_room (Nat.le_of_ble_eq_true rfl)) dX0_areIn_3 ⟨Nat.le_refl _, Nat.le_refl _⟩) hS (fun r_1 S_2 H locs hp hR hS => ?_)
  have hw := hp.2
  rw [hp.1] at hR
  refine lv_if_eq (tgt := 18) hx hb dX0_areIn_6 (by decide) (fun c_3 => ?_) (fun c_3 => ?_)
  · have hw := x_t hw c_3
    refine lv_iconst (v := 0) hx hb dX0_areIn_18 (by decide) ?_
    exact x_rz hx hb hr hlocks hR hS dX0_areIn_19 (Or.inl rfl) ⟨rfl, hw⟩
  · have hw := x_f hw c_3
    refine lv_iload_n hx hb dX0_areIn_9 rfl (lv_at hl 1 rfl) ?_
    refine lv_iload_n hx hb dX0_areIn_10 rfl (lv_at hl 2 rfl) ?_
    refine lv_icmp_gt (tgt := 18) hx hb dX0_areIn_11 (by decide) (fun c_4 => ?_) (fun c_4 => ?_)
    · have hw := x_t hw c_4
      refine lv_iconst (v := 0) hx hb dX0_areIn_18 (by decide) ?_
      exact x_rz hx hb hr hlocks hR hS dX0_areIn_19 (Or.inl rfl) ⟨rfl, hw⟩
    · have hw := x_f hw c_4
      refine lv_iconst (v := 1) hx hb dX0_areIn_14 (by decide) ?_
      refine lv_goto (tgt := 19) hx hb dX0_areIn_15 (by decide) ?_
      exact x_rz hx hb hr hlocks hR hS dX0_areIn_19 (Or.inr rfl) ⟨rfl, hw⟩
def w_X4_init (S : xH) (o : Nat) (x1 : Nat) (x2 : Int32) (x3 : Int32) (x4 : Nat) (Q : xH → Prop) : Prop := xT S o = 5 ∧ nm (sR S 250 o (some x1)) (fun S_1 : xH => xT S_1 o = 5 ∧ nm (sI S_1 251 o x2) (fun S_2 : xH => xT S_2 o = 5 ∧ nm (sI S_2 252 o x3) (fun S_3 : xH => xT S_3 o = 5 ∧ nm (sR S_3 253 o (some x4)) (fun S_4 : xH => Q S_4))))
theorem hd_X4_init : yX4_init.cls = "PressedMen$Paper" ∧ yX4_init.cls ≠ "java/lang/invoke/MethodHandle" ∧ yX4_init.cls ≠ "java/lang/invoke/VarHandle" ∧ (parseMethodDescriptor yX4_init.desc).map (fun d => d.parameters.length) = some 4 := by decide +kernel
set_option maxHeartbeats 4000000 in
theorem mt_X4_init (l : Launch) {D : va_G} {d : Nat → ClassId} {base : Nat} {mc : va_W} {S : xH} {o : Nat} {x1 : Nat} {x2 : Int32} {x3 : Int32} {x4 : Nat} {Q : xH → Prop} (hw : w_X4_init S o x1 x2 x3 x4 Q) : Met l yX4_init (ws_ yX4_init cX4_init 5 none) (x_rm 1 0 0 28) (x_Pc D d base mc S [.ref o, .ref x1, .int x2, .int x3, .ref x4]) (x_Qv D d base mc (fun S' => Q S')) 0 0 (x_A base) := by
  refine x_met (by decide) (Nat.le_of_ble_eq_true rfl) ?_
  intro p e s m below meth c hx hb hml hr hlocks hown hts hz hR hK hin ls hl
  have hown : s.vm.findClass "PressedMen$Paper" = some m.cls := hown
  have hl : lv_has ls 5 [(0, .ref o), (1, .ref x1), (2, .int x2), (3, .int x3), (4, .ref x4)] := hl
  have hS : va_S (x_A base) s.heap s.heap [] := va_S.rf
  unfold w_X4_init at hw
  refine lv_aload_n hx hb dX4_init_0 rfl (lv_at hl 0 rfl) ?_
  refine W.objInit hx hb hown (hts _ q352) (hts _ q93) (hts _ q94) rfl (by rw [hml]; exact hl.1) rfl dX4_init_1 (Nat.le_of_ble_eq_true rfl) (Nat.le_of_ble_eq_true rfl) ?_
  refine W.eq (g2 := F0 m 4 ls []) rfl ?_
  refine lv_aload_n hx hb dX4_init_4 rfl (lv_at hl 0 rfl) ?_
  refine lv_aload_n hx hb dX4_init_5 rfl (lv_at hl 1 rfl) ?_
  refine x_putFR (ci := 4) (C := RX4) (T := TX4) (N := 4) (f := 250) (r := (some x1)) hx hb hts in_X4 tyX4 tyX4_ok nmX4 hown hK hR hS rfl 0 (by decide) (hts _ q353) (fun _ h => h) rfl hin rfl rfl (by decide) (x_rn _ _) (x_rf _ _) dX4_init_6 hw.1 (fun H locs hR hS => ?_)
  have hw := hw.2
  obtain ⟨S_1, eS_1⟩ : ∃ z, z = (sR S 250 o (some x1)) := ⟨_, rfl⟩
  rw [← eS_1] at hR
  have hw := hw S_1 eS_1
  refine lv_aload_n hx hb dX4_init_9 rfl (lv_at hl 0 rfl) ?_
  refine lv_iload_n hx hb dX4_init_10 rfl (lv_at hl 2 rfl) ?_
  refine x_putFI (ci := 4) (C := RX4) (T := TX4) (N := 4) (f := 251) hx hb hts in_X4 tyX4 tyX4_ok nmX4 hown hK hR hS rfl 1 (by decide) (hts _ q355) (fun _ h => h) rfl hin rfl rfl (by decide) rfl rfl dX4_init_11 hw.1 (fun H locs hR hS => ?_)
  have hw := hw.2
  obtain ⟨S_2, eS_2⟩ : ∃ z, z = (sI S_1 251 o x2) := ⟨_, rfl⟩
  rw [← eS_2] at hR
  have hw := hw S_2 eS_2
  refine lv_aload_n hx hb dX4_init_14 rfl (lv_at hl 0 rfl) ?_
  refine lv_iload_n hx hb dX4_init_15 rfl (lv_at hl 3 rfl) ?_
  refine x_putFI (ci := 4) (C := RX4) (T := TX4) (N := 4) (f := 252) hx hb hts in_X4 tyX4 tyX4_ok nmX4 hown hK hR hS rfl 2 (by decide) (hts _ q356) (fun _ h => h) rfl hin rfl rfl (by decide) rfl rfl dX4_init_16 hw.1 (fun H locs hR hS => ?_)
  have hw := hw.2
  obtain ⟨S_3, eS_3⟩ : ∃ z, z = (sI S_2 252 o x3) := ⟨_, rfl⟩
  rw [← eS_3] at hR
  have hw := hw S_3 eS_3
  refine lv_aload_n hx hb dX4_init_19 rfl (lv_at hl 0 rfl) ?_
  refine lv_aload hx hb dX4_init_20 (lv_at hl 4 rfl) ?_
  refine x_putFR (ci := 4) (C := RX4) (T := TX4) (N := 4) (f := 253) (r := (some x4)) hx hb hts in_X4 tyX4 tyX4_ok nmX4 hown hK hR hS rfl 3 (by decide) (hts _ q357) (fun _ h => h) rfl hin rfl rfl (by decide) (x_rnA _ _) (x_rfA _ _) dX4_init_22 hw.1 (fun H locs hR hS => ?_)
  have hw := hw.2
  obtain ⟨S_4, eS_4⟩ : ∃ z, z = (sR S_3 253 o (some x4)) := ⟨_, rfl⟩
  rw [← eS_4] at hR
  have hw := hw S_4 eS_4
  exact x_rv hx hb hr hlocks hR hS dX4_init_25 hw
