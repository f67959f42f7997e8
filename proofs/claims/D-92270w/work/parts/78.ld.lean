set_option maxRecDepth 100000
/-! ===== the law's cases ===== -/
set_option maxHeartbeats 4000000 in
theorem lc_25 {p : Program} {l : Launch} {e : Env} {s : State} {m : MethodId} {below : List Frame} {meth : Method} {c : Code} {H : Heap} {locs : List Loc} {cells slots : Nat} {Q : State → Prop} {ls : Array Slot} {D : va_G} {d : Nat → ClassId} {b L : Nat} {xs : Nat → Int32} {o mo i : Nat} {Aa : Nat → Nat} {G : xG} {S : xH} {M : xM} (C0 : lw_At p s m meth c b L xs) (hK : x_KK D d s) (hR : x_Rp D d (x_A s.heap.size) (x_mc d mo Aa M) S H) (hI : Inv G S o M) (hS : va_S (x_A s.heap.size) s.heap H locs) (hl : lv_has ls 4 [(3, .int (nI i)), (2, .ref mo), (1, .ref o), (0, .ref b)]) (hL : L ≤ 640) (hi : i + 9 < L) (hc : cells + 10000 ≤ 1200000) (hs : slots + 42000 ≤ 5502250) (kk : ∀ (G : xG) (S : xH) (M : xM) (H : Heap) (locs : List Loc), x_Rp D d (x_A s.heap.size) (x_mc d mo Aa M) S H → Inv G S o M → va_S (x_A s.heap.size) s.heap H locs → W p l e room_1 s m #[Value.ref b] below meth c H locs (cells + 10000) (slots + 42000) Q (F0 m 1901 ls [])) : W p l e room_1 s m #[Value.ref b] below meth c H locs cells slots Q (F0 m 1133 ls []) := by
  obtain ⟨hx, hb, hr, hml, hown, hts0, hX, hbl, hlocks, hgv⟩ := id C0
  have hts : ∀ w ∈ lw_all, w.before #[Value.ref b] s = true := fun w h => hts0 w (lw_all_tbl h)
  have hw := e_wrongedMan (x := xs (i + 1)) (G := G) (S := S) (o := o) (M := M) hI
  refine lv_aload_n hx hb dL_law_1133 rfl (lv_at hl 2 rfl) ?_
  refine lc_ld (k := 1) C0 hS hl hL (by omega) dL_law_1134 dL_law_1135 dL_law_1136 (by decide) dL_law_1137 dL_law_1138 ?_
  refine x_ci (va_runV (As := [.int (xs (i + 1))]) (rest := []) ⟨hx, hb, hml, hown, hts⟩ (mt_X0_wrongedMan l hw) (cwV 1 hts (lw_V q696 q697 q698 q64 q699) rfl rfl rfl hd_X0_wrongedMan ⟨Nat.le_of_ble_eq_true rfl, Nat.le_of_ble_eq_true rfl⟩) ⟨x_Pc_blind, hR.recv hK (ci := 0) rfl (by decide) hI.O_t, x_Pc_pre hR (Nat.le_refl _) hS hK⟩ rfl rfl hl.1 rfl (lv_room (Nat.le_of_ble_eq_true rfl)) dL_law_1139 ⟨by show cells + 0 ≤ 1200000; omega, by show slots + 0 ≤ 5502250; omega⟩) hS (fun r S1 H1 locs1 hp hR1 hS1 => ?_)
  have hp1 := hp.2
  rw [hp.1] at hR1
  refine lv_aload_n hx hb dL_law_1142 rfl (lv_at hl 1 rfl) ?_
  refine lc_ld (k := 1) C0 hS1 hl hL (by omega) dL_law_1143 dL_law_1144 dL_law_1145 (by decide) dL_law_1146 dL_law_1147 ?_
  refine xm_ci (va_runV (As := [.int (xs (i + 1))]) (rest := [.int r]) ⟨hx, hb, hml, hown, hts⟩ (mt_X1_wrongedMan l hp1) (cwV 1 hts (lw_V q1294 q1295 q1296 q65 q1297) rfl rfl rfl hd_X1_wrongedMan ⟨Nat.le_of_ble_eq_true rfl, Nat.le_of_ble_eq_true rfl⟩) ⟨x_Pc_blind, xm_recv hR1 hK, x_Pc_pre hR1 (Nat.le_refl _) hS1 hK⟩ rfl rfl hl.1 rfl (lv_room (Nat.le_of_ble_eq_true rfl)) dL_law_1148 ⟨by show cells + 0 + 0 ≤ 1200000; omega, by show slots + 0 + 0 ≤ 5502250; omega⟩) hS1 (fun r' M2 H2 locs2 hp2 hR2 hS2 => ?_)
  obtain ⟨er, G2, hI2⟩ := hp2
  refine lv_icmp_eq (tgt := 1901) hx hb dL_law_1151 (by decide) (fun _ => ?_) (fun z => absurd er z)
  refine W.widen (k := cells + 10000) (n := slots + 42000) (by omega) (by omega) ?_
  exact kk _ _ _ _ _ hR2 hI2 hS2
set_option maxHeartbeats 4000000 in
theorem lc_26 {p : Program} {l : Launch} {e : Env} {s : State} {m : MethodId} {below : List Frame} {meth : Method} {c : Code} {H : Heap} {locs : List Loc} {cells slots : Nat} {Q : State → Prop} {ls : Array Slot} {D : va_G} {d : Nat → ClassId} {b L : Nat} {xs : Nat → Int32} {o mo i : Nat} {Aa : Nat → Nat} {G : xG} {S : xH} {M : xM} (C0 : lw_At p s m meth c b L xs) (hK : x_KK D d s) (hR : x_Rp D d (x_A s.heap.size) (x_mc d mo Aa M) S H) (hI : Inv G S o M) (hS : va_S (x_A s.heap.size) s.heap H locs) (hl : lv_has ls 4 [(3, .int (nI i)), (2, .ref mo), (1, .ref o), (0, .ref b)]) (hL : L ≤ 640) (hi : i + 9 < L) (hc : cells + 10000 ≤ 1200000) (hs : slots + 42000 ≤ 5502250) (kk : ∀ (G : xG) (S : xH) (M : xM) (H : Heap) (locs : List Loc), x_Rp D d (x_A s.heap.size) (x_mc d mo Aa M) S H → Inv G S o M → va_S (x_A s.heap.size) s.heap H locs → W p l e room_1 s m #[Value.ref b] below meth c H locs (cells + 10000) (slots + 42000) Q (F0 m 1901 ls [])) : W p l e room_1 s m #[Value.ref b] below meth c H locs cells slots Q (F0 m 1156 ls []) := by
  obtain ⟨hx, hb, hr, hml, hown, hts0, hX, hbl, hlocks, hgv⟩ := id C0
  have hts : ∀ w ∈ lw_all, w.before #[Value.ref b] s = true := fun w h => hts0 w (lw_all_tbl h)
  have hw := e_letGo (x := xs (i + 1)) (G := G) (S := S) (o := o) (M := M) (k := 1) (n := 3) hI (Nat.le_refl _) (Nat.le_refl _)
  refine lv_aload_n hx hb dL_law_1156 rfl (lv_at hl 2 rfl) ?_
  refine lc_ld (k := 1) C0 hS hl hL (by omega) dL_law_1157 dL_law_1158 dL_law_1159 (by decide) dL_law_1160 dL_law_1161 ?_
  refine x_ci (va_runV (As := [.int (xs (i + 1))]) (rest := []) ⟨hx, hb, hml, hown, hts⟩ (mt_X0_letGo l hw) (cwV 1 hts (lw_V q700 q701 q702 q64 q703) rfl rfl rfl hd_X0_letGo ⟨Nat.le_of_ble_eq_true rfl, Nat.le_of_ble_eq_true rfl⟩) ⟨x_Pc_blind, hR.recv hK (ci := 0) rfl (by decide) hI.O_t, x_Pc_pre hR (Nat.le_refl _) hS hK⟩ rfl rfl hl.1 rfl (lv_room (Nat.le_of_ble_eq_true rfl)) dL_law_1162 ⟨by show cells + 1 ≤ 1200000; omega, by show slots + 3 ≤ 5502250; omega⟩) hS (fun r S1 H1 locs1 hp hR1 hS1 => ?_)
  have hp1 := hp
  refine lv_aload_n hx hb dL_law_1165 rfl (lv_at hl 1 rfl) ?_
  refine lc_ld (k := 1) C0 hS1 hl hL (by omega) dL_law_1166 dL_law_1167 dL_law_1168 (by decide) dL_law_1169 dL_law_1170 ?_
  refine xm_ci (va_runV (As := [.int (xs (i + 1))]) (rest := [.int r]) ⟨hx, hb, hml, hown, hts⟩ (mt_X1_letGo l hp1) (cwV 1 hts (lw_V q1298 q1299 q1300 q65 q1301) rfl rfl rfl hd_X1_letGo ⟨Nat.le_of_ble_eq_true rfl, Nat.le_of_ble_eq_true rfl⟩) ⟨x_Pc_blind, xm_recv hR1 hK, x_Pc_pre hR1 (Nat.le_refl _) hS1 hK⟩ rfl rfl hl.1 rfl (lv_room (Nat.le_of_ble_eq_true rfl)) dL_law_1171 ⟨by show cells + 1 + 0 ≤ 1200000; omega, by show slots + 3 + 0 ≤ 5502250; omega⟩) hS1 (fun r' M2 H2 locs2 hp2 hR2 hS2 => ?_)
  obtain ⟨er, G2, hI2⟩ := hp2
  refine lv_icmp_eq (tgt := 1901) hx hb dL_law_1174 (by decide) (fun _ => ?_) (fun z => absurd er z)
  refine W.widen (k := cells + 10000) (n := slots + 42000) (by omega) (by omega) ?_
  exact kk _ _ _ _ _ hR2 hI2 hS2
set_option maxHeartbeats 4000000 in
theorem lc_27 {p : Program} {l : Launch} {e : Env} {s : State} {m : MethodId} {below : List Frame} {meth : Method} {c : Code} {H : Heap} {locs : List Loc} {cells slots : Nat} {Q : State → Prop} {ls : Array Slot} {D : va_G} {d : Nat → ClassId} {b L : Nat} {xs : Nat → Int32} {o mo i : Nat} {Aa : Nat → Nat} {G : xG} {S : xH} {M : xM} (C0 : lw_At p s m meth c b L xs) (hK : x_KK D d s) (hR : x_Rp D d (x_A s.heap.size) (x_mc d mo Aa M) S H) (hI : Inv G S o M) (hS : va_S (x_A s.heap.size) s.heap H locs) (hl : lv_has ls 4 [(3, .int (nI i)), (2, .ref mo), (1, .ref o), (0, .ref b)]) (hL : L ≤ 640) (hi : i + 9 < L) (hc : cells + 10000 ≤ 1200000) (hs : slots + 42000 ≤ 5502250) (kk : ∀ (G : xG) (S : xH) (M : xM) (H : Heap) (locs : List Loc), x_Rp D d (x_A s.heap.size) (x_mc d mo Aa M) S H → Inv G S o M → va_S (x_A s.heap.size) s.heap H locs → W p l e room_1 s m #[Value.ref b] below meth c H locs (cells + 10000) (slots + 42000) Q (F0 m 1901 ls [])) : W p l e room_1 s m #[Value.ref b] below meth c H locs cells slots Q (F0 m 1179 ls []) := by
  obtain ⟨hx, hb, hr, hml, hown, hts0, hX, hbl, hlocks, hgv⟩ := id C0
  have hts : ∀ w ∈ lw_all, w.before #[Value.ref b] s = true := fun w h => hts0 w (lw_all_tbl h)
  have hw := e_quiet (G := G) (S := S) (o := o) (M := M) hI
  refine lv_aload_n hx hb dL_law_1179 rfl (lv_at hl 2 rfl) ?_
  refine x_ci (va_runV (As := []) (rest := []) ⟨hx, hb, hml, hown, hts⟩ (mt_X0_quiet l hw) (cwV 0 hts (lw_V q704 q705 q706 q64 q707) rfl rfl rfl hd_X0_quiet ⟨Nat.le_of_ble_eq_true rfl, Nat.le_of_ble_eq_true rfl⟩) ⟨x_Pc_blind, hR.recv hK (ci := 0) rfl (by decide) hI.O_t, x_Pc_pre hR (Nat.le_refl _) hS hK⟩ rfl rfl hl.1 rfl (lv_room (Nat.le_of_ble_eq_true rfl)) dL_law_1180 ⟨by show cells + 0 ≤ 1200000; omega, by show slots + 0 ≤ 5502250; omega⟩) hS (fun r S1 H1 locs1 hp hR1 hS1 => ?_)
  have hp1 := hp
  refine lv_aload_n hx hb dL_law_1183 rfl (lv_at hl 1 rfl) ?_
  refine xm_ci (va_runV (As := []) (rest := [.int r]) ⟨hx, hb, hml, hown, hts⟩ (mt_X1_quiet l hp1) (cwV 0 hts (lw_V q1302 q1303 q1304 q65 q1305) rfl rfl rfl hd_X1_quiet ⟨Nat.le_of_ble_eq_true rfl, Nat.le_of_ble_eq_true rfl⟩) ⟨x_Pc_blind, xm_recv hR1 hK, x_Pc_pre hR1 (Nat.le_refl _) hS1 hK⟩ rfl rfl hl.1 rfl (lv_room (Nat.le_of_ble_eq_true rfl)) dL_law_1184 ⟨by show cells + 0 + 0 ≤ 1200000; omega, by show slots + 0 + 0 ≤ 5502250; omega⟩) hS1 (fun r' M2 H2 locs2 hp2 hR2 hS2 => ?_)
  obtain ⟨er, G2, hI2⟩ := hp2
  refine lv_icmp_eq (tgt := 1901) hx hb dL_law_1187 (by decide) (fun _ => ?_) (fun z => absurd er z)
  refine W.widen (k := cells + 10000) (n := slots + 42000) (by omega) (by omega) ?_
  exact kk _ _ _ _ _ hR2 hI2 hS2
set_option maxHeartbeats 4000000 in
theorem lc_28 {p : Program} {l : Launch} {e : Env} {s : State} {m : MethodId} {below : List Frame} {meth : Method} {c : Code} {H : Heap} {locs : List Loc} {cells slots : Nat} {Q : State → Prop} {ls : Array Slot} {D : va_G} {d : Nat → ClassId} {b L : Nat} {xs : Nat → Int32} {o mo i : Nat} {Aa : Nat → Nat} {G : xG} {S : xH} {M : xM} (C0 : lw_At p s m meth c b L xs) (hK : x_KK D d s) (hR : x_Rp D d (x_A s.heap.size) (x_mc d mo Aa M) S H) (hI : Inv G S o M) (hS : va_S (x_A s.heap.size) s.heap H locs) (hl : lv_has ls 4 [(3, .int (nI i)), (2, .ref mo), (1, .ref o), (0, .ref b)]) (hL : L ≤ 640) (hi : i + 9 < L) (hc : cells + 10000 ≤ 1200000) (hs : slots + 42000 ≤ 5502250) (kk : ∀ (G : xG) (S : xH) (M : xM) (H : Heap) (locs : List Loc), x_Rp D d (x_A s.heap.size) (x_mc d mo Aa M) S H → Inv G S o M → va_S (x_A s.heap.size) s.heap H locs → W p l e room_1 s m #[Value.ref b] below meth c H locs (cells + 10000) (slots + 42000) Q (F0 m 1901 ls [])) : W p l e room_1 s m #[Value.ref b] below meth c H locs cells slots Q (F0 m 1192 ls []) := by
  obtain ⟨hx, hb, hr, hml, hown, hts0, hX, hbl, hlocks, hgv⟩ := id C0
  have hts : ∀ w ∈ lw_all, w.before #[Value.ref b] s = true := fun w h => hts0 w (lw_all_tbl h)
  have hw := e_heard (x := xs (i + 1)) (G := G) (S := S) (o := o) (M := M) (k := 1) (n := 8) hI (Nat.le_refl _) (Nat.le_refl _)
  refine lv_aload_n hx hb dL_law_1192 rfl (lv_at hl 2 rfl) ?_
  refine lc_ld (k := 1) C0 hS hl hL (by omega) dL_law_1193 dL_law_1194 dL_law_1195 (by decide) dL_law_1196 dL_law_1197 ?_
  refine x_ci (va_runV (As := [.int (xs (i + 1))]) (rest := []) ⟨hx, hb, hml, hown, hts⟩ (mt_X0_heard l hw) (cwV 1 hts (lw_V q708 q709 q710 q64 q711) rfl rfl rfl hd_X0_heard ⟨Nat.le_of_ble_eq_true rfl, Nat.le_of_ble_eq_true rfl⟩) ⟨x_Pc_blind, hR.recv hK (ci := 0) rfl (by decide) hI.O_t, x_Pc_pre hR (Nat.le_refl _) hS hK⟩ rfl rfl hl.1 rfl (lv_room (Nat.le_of_ble_eq_true rfl)) dL_law_1198 ⟨by show cells + 1 ≤ 1200000; omega, by show slots + 8 ≤ 5502250; omega⟩) hS (fun r S1 H1 locs1 hp hR1 hS1 => ?_)
  have hp1 := hp
  refine lv_aload_n hx hb dL_law_1201 rfl (lv_at hl 1 rfl) ?_
  refine lc_ld (k := 1) C0 hS1 hl hL (by omega) dL_law_1202 dL_law_1203 dL_law_1204 (by decide) dL_law_1205 dL_law_1206 ?_
  refine xm_ci (va_runV (As := [.int (xs (i + 1))]) (rest := [.int r]) ⟨hx, hb, hml, hown, hts⟩ (mt_X1_heard l hp1) (cwV 1 hts (lw_V q1306 q1307 q1308 q65 q1309) rfl rfl rfl hd_X1_heard ⟨Nat.le_of_ble_eq_true rfl, Nat.le_of_ble_eq_true rfl⟩) ⟨x_Pc_blind, xm_recv hR1 hK, x_Pc_pre hR1 (Nat.le_refl _) hS1 hK⟩ rfl rfl hl.1 rfl (lv_room (Nat.le_of_ble_eq_true rfl)) dL_law_1207 ⟨by show cells + 1 + 0 ≤ 1200000; omega, by show slots + 8 + 0 ≤ 5502250; omega⟩) hS1 (fun r' M2 H2 locs2 hp2 hR2 hS2 => ?_)
  obtain ⟨er, G2, hI2⟩ := hp2
  refine lv_icmp_eq (tgt := 1901) hx hb dL_law_1210 (by decide) (fun _ => ?_) (fun z => absurd er z)
  refine W.widen (k := cells + 10000) (n := slots + 42000) (by omega) (by omega) ?_
  exact kk _ _ _ _ _ hR2 hI2 hS2
set_option maxHeartbeats 4000000 in
theorem lc_29 {p : Program} {l : Launch} {e : Env} {s : State} {m : MethodId} {below : List Frame} {meth : Method} {c : Code} {H : Heap} {locs : List Loc} {cells slots : Nat} {Q : State → Prop} {ls : Array Slot} {D : va_G} {d : Nat → ClassId} {b L : Nat} {xs : Nat → Int32} {o mo i : Nat} {Aa : Nat → Nat} {G : xG} {S : xH} {M : xM} (C0 : lw_At p s m meth c b L xs) (hK : x_KK D d s) (hR : x_Rp D d (x_A s.heap.size) (x_mc d mo Aa M) S H) (hI : Inv G S o M) (hS : va_S (x_A s.heap.size) s.heap H locs) (hl : lv_has ls 4 [(3, .int (nI i)), (2, .ref mo), (1, .ref o), (0, .ref b)]) (hL : L ≤ 640) (hi : i + 9 < L) (hc : cells + 10000 ≤ 1200000) (hs : slots + 42000 ≤ 5502250) (kk : ∀ (G : xG) (S : xH) (M : xM) (H : Heap) (locs : List Loc), x_Rp D d (x_A s.heap.size) (x_mc d mo Aa M) S H → Inv G S o M → va_S (x_A s.heap.size) s.heap H locs → W p l e room_1 s m #[Value.ref b] below meth c H locs (cells + 10000) (slots + 42000) Q (F0 m 1901 ls [])) : W p l e room_1 s m #[Value.ref b] below meth c H locs cells slots Q (F0 m 1215 ls []) := by
  obtain ⟨hx, hb, hr, hml, hown, hts0, hX, hbl, hlocks, hgv⟩ := id C0
  have hts : ∀ w ∈ lw_all, w.before #[Value.ref b] s = true := fun w h => hts0 w (lw_all_tbl h)
  have hw := e_tender (x := xs (i + 1)) (y := xs (i + 2)) (G := G) (S := S) (o := o) (M := M) hI
  refine lv_aload_n hx hb dL_law_1215 rfl (lv_at hl 2 rfl) ?_
  refine lc_ld (k := 1) C0 hS hl hL (by omega) dL_law_1216 dL_law_1217 dL_law_1218 (by decide) dL_law_1219 dL_law_1220 ?_
  refine lc_ld (k := 2) C0 hS hl hL (by omega) dL_law_1221 dL_law_1222 dL_law_1223 (by decide) dL_law_1224 dL_law_1225 ?_
  refine x_ci (va_runV (As := [.int (xs (i + 1)), .int (xs (i + 2))]) (rest := []) ⟨hx, hb, hml, hown, hts⟩ (mt_X0_tender l hw) (cwV 2 hts (lw_V q712 q713 q714 q64 q715) rfl rfl rfl hd_X0_tender ⟨Nat.le_of_ble_eq_true rfl, Nat.le_of_ble_eq_true rfl⟩) ⟨x_Pc_blind, hR.recv hK (ci := 0) rfl (by decide) hI.O_t, x_Pc_pre hR (Nat.le_refl _) hS hK⟩ rfl rfl hl.1 rfl (lv_room (Nat.le_of_ble_eq_true rfl)) dL_law_1226 ⟨by show cells + 0 ≤ 1200000; omega, by show slots + 0 ≤ 5502250; omega⟩) hS (fun r S1 H1 locs1 hp hR1 hS1 => ?_)
  have hp1 := hp
  refine lv_aload_n hx hb dL_law_1229 rfl (lv_at hl 1 rfl) ?_
  refine lc_ld (k := 1) C0 hS1 hl hL (by omega) dL_law_1230 dL_law_1231 dL_law_1232 (by decide) dL_law_1233 dL_law_1234 ?_
  refine lc_ld (k := 2) C0 hS1 hl hL (by omega) dL_law_1235 dL_law_1236 dL_law_1237 (by decide) dL_law_1238 dL_law_1239 ?_
  refine xm_ci (va_runV (As := [.int (xs (i + 1)), .int (xs (i + 2))]) (rest := [.int r]) ⟨hx, hb, hml, hown, hts⟩ (mt_X1_tender l hp1) (cwV 2 hts (lw_V q1310 q1311 q1312 q65 q1313) rfl rfl rfl hd_X1_tender ⟨Nat.le_of_ble_eq_true rfl, Nat.le_of_ble_eq_true rfl⟩) ⟨x_Pc_blind, xm_recv hR1 hK, x_Pc_pre hR1 (Nat.le_refl _) hS1 hK⟩ rfl rfl hl.1 rfl (lv_room (Nat.le_of_ble_eq_true rfl)) dL_law_1240 ⟨by show cells + 0 + 0 ≤ 1200000; omega, by show slots + 0 + 0 ≤ 5502250; omega⟩) hS1 (fun r' M2 H2 locs2 hp2 hR2 hS2 => ?_)
  obtain ⟨er, G2, hI2⟩ := hp2
  refine lv_icmp_eq (tgt := 1901) hx hb dL_law_1243 (by decide) (fun _ => ?_) (fun z => absurd er z)
  refine W.widen (k := cells + 10000) (n := slots + 42000) (by omega) (by omega) ?_
  exact kk _ _ _ _ _ hR2 hI2 hS2
set_option maxHeartbeats 4000000 in
theorem lc_30 {p : Program} {l : Launch} {e : Env} {s : State} {m : MethodId} {below : List Frame} {meth : Method} {c : Code} {H : Heap} {locs : List Loc} {cells slots : Nat} {Q : State → Prop} {ls : Array Slot} {D : va_G} {d : Nat → ClassId} {b L : Nat} {xs : Nat → Int32} {o mo i : Nat} {Aa : Nat → Nat} {G : xG} {S : xH} {M : xM} (C0 : lw_At p s m meth c b L xs) (hK : x_KK D d s) (hR : x_Rp D d (x_A s.heap.size) (x_mc d mo Aa M) S H) (hI : Inv G S o M) (hS : va_S (x_A s.heap.size) s.heap H locs) (hl : lv_has ls 4 [(3, .int (nI i)), (2, .ref mo), (1, .ref o), (0, .ref b)]) (hL : L ≤ 640) (hi : i + 9 < L) (hc : cells + 10000 ≤ 1200000) (hs : slots + 42000 ≤ 5502250) (kk : ∀ (G : xG) (S : xH) (M : xM) (H : Heap) (locs : List Loc), x_Rp D d (x_A s.heap.size) (x_mc d mo Aa M) S H → Inv G S o M → va_S (x_A s.heap.size) s.heap H locs → W p l e room_1 s m #[Value.ref b] below meth c H locs (cells + 10000) (slots + 42000) Q (F0 m 1901 ls [])) : W p l e room_1 s m #[Value.ref b] below meth c H locs cells slots Q (F0 m 1248 ls []) := by
  obtain ⟨hx, hb, hr, hml, hown, hts0, hX, hbl, hlocks, hgv⟩ := id C0
  have hts : ∀ w ∈ lw_all, w.before #[Value.ref b] s = true := fun w h => hts0 w (lw_all_tbl h)
  have hw := e_met (x := xs (i + 1)) (y := xs (i + 2)) (G := G) (S := S) (o := o) (M := M) (k := 554) (n := 1190) hI (Nat.le_refl _) (Nat.le_refl _)
  refine lv_aload_n hx hb dL_law_1248 rfl (lv_at hl 2 rfl) ?_
  refine lc_ld (k := 1) C0 hS hl hL (by omega) dL_law_1249 dL_law_1250 dL_law_1251 (by decide) dL_law_1252 dL_law_1253 ?_
  refine lc_ld (k := 2) C0 hS hl hL (by omega) dL_law_1254 dL_law_1255 dL_law_1256 (by decide) dL_law_1257 dL_law_1258 ?_
  refine x_ci (va_runV (As := [.int (xs (i + 1)), .int (xs (i + 2))]) (rest := []) ⟨hx, hb, hml, hown, hts⟩ (mt_X0_met l hw) (cwV 2 hts (lw_V q716 q717 q718 q64 q719) rfl rfl rfl hd_X0_met ⟨Nat.le_of_ble_eq_true rfl, Nat.le_of_ble_eq_true rfl⟩) ⟨x_Pc_blind, hR.recv hK (ci := 0) rfl (by decide) hI.O_t, x_Pc_pre hR (Nat.le_refl _) hS hK⟩ rfl rfl hl.1 rfl (lv_room (Nat.le_of_ble_eq_true rfl)) dL_law_1259 ⟨by show cells + 554 ≤ 1200000; omega, by show slots + 1190 ≤ 5502250; omega⟩) hS (fun r S1 H1 locs1 hp hR1 hS1 => ?_)
  have hp1 := hp
  refine lv_aload_n hx hb dL_law_1262 rfl (lv_at hl 1 rfl) ?_
  refine lc_ld (k := 1) C0 hS1 hl hL (by omega) dL_law_1263 dL_law_1264 dL_law_1265 (by decide) dL_law_1266 dL_law_1267 ?_
  refine lc_ld (k := 2) C0 hS1 hl hL (by omega) dL_law_1268 dL_law_1269 dL_law_1270 (by decide) dL_law_1271 dL_law_1272 ?_
  refine xm_ci (va_runV (As := [.int (xs (i + 1)), .int (xs (i + 2))]) (rest := [.int r]) ⟨hx, hb, hml, hown, hts⟩ (mt_X1_met l hp1) (cwV 2 hts (lw_V q1315 q1316 q1317 q65 q1318) rfl rfl rfl hd_X1_met ⟨Nat.le_of_ble_eq_true rfl, Nat.le_of_ble_eq_true rfl⟩) ⟨x_Pc_blind, xm_recv hR1 hK, x_Pc_pre hR1 (Nat.le_refl _) hS1 hK⟩ rfl rfl hl.1 rfl (lv_room (Nat.le_of_ble_eq_true rfl)) dL_law_1273 ⟨by show cells + 554 + 0 ≤ 1200000; omega, by show slots + 1190 + 0 ≤ 5502250; omega⟩) hS1 (fun r' M2 H2 locs2 hp2 hR2 hS2 => ?_)
  obtain ⟨er, G2, hI2⟩ := hp2
  refine lv_icmp_eq (tgt := 1901) hx hb dL_law_1276 (by decide) (fun _ => ?_) (fun z => absurd er z)
  refine W.widen (k := cells + 10000) (n := slots + 42000) (by omega) (by omega) ?_
  exact kk _ _ _ _ _ hR2 hI2 hS2
set_option maxHeartbeats 4000000 in
theorem lc_31 {p : Program} {l : Launch} {e : Env} {s : State} {m : MethodId} {below : List Frame} {meth : Method} {c : Code} {H : Heap} {locs : List Loc} {cells slots : Nat} {Q : State → Prop} {ls : Array Slot} {D : va_G} {d : Nat → ClassId} {b L : Nat} {xs : Nat → Int32} {o mo i : Nat} {Aa : Nat → Nat} {G : xG} {S : xH} {M : xM} (C0 : lw_At p s m meth c b L xs) (hK : x_KK D d s) (hR : x_Rp D d (x_A s.heap.size) (x_mc d mo Aa M) S H) (hI : Inv G S o M) (hS : va_S (x_A s.heap.size) s.heap H locs) (hl : lv_has ls 4 [(3, .int (nI i)), (2, .ref mo), (1, .ref o), (0, .ref b)]) (hL : L ≤ 640) (hi : i + 9 < L) (hc : cells + 10000 ≤ 1200000) (hs : slots + 42000 ≤ 5502250) (kk : ∀ (G : xG) (S : xH) (M : xM) (H : Heap) (locs : List Loc), x_Rp D d (x_A s.heap.size) (x_mc d mo Aa M) S H → Inv G S o M → va_S (x_A s.heap.size) s.heap H locs → W p l e room_1 s m #[Value.ref b] below meth c H locs (cells + 10000) (slots + 42000) Q (F0 m 1901 ls [])) : W p l e room_1 s m #[Value.ref b] below meth c H locs cells slots Q (F0 m 1281 ls []) := by
  obtain ⟨hx, hb, hr, hml, hown, hts0, hX, hbl, hlocks, hgv⟩ := id C0
  have hts : ∀ w ∈ lw_all, w.before #[Value.ref b] s = true := fun w h => hts0 w (lw_all_tbl h)
  have hw := e_laid (x := xs (i + 1)) (y := xs (i + 2)) (z := xs (i + 3)) (w := xs (i + 4)) (G := G) (S := S) (o := o) (M := M) (k := 554) (n := 1190) hI (Nat.le_refl _) (Nat.le_refl _)
  refine lv_aload_n hx hb dL_law_1281 rfl (lv_at hl 2 rfl) ?_
  refine lc_ld (k := 1) C0 hS hl hL (by omega) dL_law_1282 dL_law_1283 dL_law_1284 (by decide) dL_law_1285 dL_law_1286 ?_
  refine lc_ld (k := 2) C0 hS hl hL (by omega) dL_law_1287 dL_law_1288 dL_law_1289 (by decide) dL_law_1290 dL_law_1291 ?_
  refine lc_ld (k := 3) C0 hS hl hL (by omega) dL_law_1292 dL_law_1293 dL_law_1294 (by decide) dL_law_1295 dL_law_1296 ?_
  refine lc_ld (k := 4) C0 hS hl hL (by omega) dL_law_1297 dL_law_1298 dL_law_1299 (by decide) dL_law_1300 dL_law_1301 ?_
  refine x_ci (va_runV (As := [.int (xs (i + 1)), .int (xs (i + 2)), .int (xs (i + 3)), .int (xs (i + 4))]) (rest := []) ⟨hx, hb, hml, hown, hts⟩ (mt_X0_laid l hw) (cwV 4 hts (lw_V q785 q786 q787 q64 q788) rfl rfl rfl hd_X0_laid ⟨Nat.le_of_ble_eq_true rfl, Nat.le_of_ble_eq_true rfl⟩) ⟨x_Pc_blind, hR.recv hK (ci := 0) rfl (by decide) hI.O_t, x_Pc_pre hR (Nat.le_refl _) hS hK⟩ rfl rfl hl.1 rfl (lv_room (Nat.le_of_ble_eq_true rfl)) dL_law_1302 ⟨by show cells + 554 ≤ 1200000; omega, by show slots + 1190 ≤ 5502250; omega⟩) hS (fun r S1 H1 locs1 hp hR1 hS1 => ?_)
  have hp1 := hp
  refine lv_aload_n hx hb dL_law_1305 rfl (lv_at hl 1 rfl) ?_
  refine lc_ld (k := 1) C0 hS1 hl hL (by omega) dL_law_1306 dL_law_1307 dL_law_1308 (by decide) dL_law_1309 dL_law_1310 ?_
  refine lc_ld (k := 2) C0 hS1 hl hL (by omega) dL_law_1311 dL_law_1312 dL_law_1313 (by decide) dL_law_1314 dL_law_1315 ?_
  refine lc_ld (k := 3) C0 hS1 hl hL (by omega) dL_law_1316 dL_law_1317 dL_law_1318 (by decide) dL_law_1319 dL_law_1320 ?_
  refine lc_ld (k := 4) C0 hS1 hl hL (by omega) dL_law_1321 dL_law_1322 dL_law_1323 (by decide) dL_law_1324 dL_law_1325 ?_
  refine xm_ci (va_runV (As := [.int (xs (i + 1)), .int (xs (i + 2)), .int (xs (i + 3)), .int (xs (i + 4))]) (rest := [.int r]) ⟨hx, hb, hml, hown, hts⟩ (mt_X1_laid l hp1) (cwV 4 hts (lw_V q1331 q1332 q1333 q65 q1334) rfl rfl rfl hd_X1_laid ⟨Nat.le_of_ble_eq_true rfl, Nat.le_of_ble_eq_true rfl⟩) ⟨x_Pc_blind, xm_recv hR1 hK, x_Pc_pre hR1 (Nat.le_refl _) hS1 hK⟩ rfl rfl hl.1 rfl (lv_room (Nat.le_of_ble_eq_true rfl)) dL_law_1326 ⟨by show cells + 554 + 0 ≤ 1200000; omega, by show slots + 1190 + 0 ≤ 5502250; omega⟩) hS1 (fun r' M2 H2 locs2 hp2 hR2 hS2 => ?_)
  obtain ⟨er, G2, hI2⟩ := hp2
  refine lv_icmp_eq (tgt := 1901) hx hb dL_law_1329 (by decide) (fun _ => ?_) (fun z => absurd er z)
  refine W.widen (k := cells + 10000) (n := slots + 42000) (by omega) (by omega) ?_
  exact kk _ _ _ _ _ hR2 hI2 hS2
set_option maxHeartbeats 4000000 in
theorem lc_32 {p : Program} {l : Launch} {e : Env} {s : State} {m : MethodId} {below : List Frame} {meth : Method} {c : Code} {H : Heap} {locs : List Loc} {cells slots : Nat} {Q : State → Prop} {ls : Array Slot} {D : va_G} {d : Nat → ClassId} {b L : Nat} {xs : Nat → Int32} {o mo i : Nat} {Aa : Nat → Nat} {G : xG} {S : xH} {M : xM} (C0 : lw_At p s m meth c b L xs) (hK : x_KK D d s) (hR : x_Rp D d (x_A s.heap.size) (x_mc d mo Aa M) S H) (hI : Inv G S o M) (hS : va_S (x_A s.heap.size) s.heap H locs) (hl : lv_has ls 4 [(3, .int (nI i)), (2, .ref mo), (1, .ref o), (0, .ref b)]) (hL : L ≤ 640) (hi : i + 9 < L) (hc : cells + 10000 ≤ 1200000) (hs : slots + 42000 ≤ 5502250) (kk : ∀ (G : xG) (S : xH) (M : xM) (H : Heap) (locs : List Loc), x_Rp D d (x_A s.heap.size) (x_mc d mo Aa M) S H → Inv G S o M → va_S (x_A s.heap.size) s.heap H locs → W p l e room_1 s m #[Value.ref b] below meth c H locs (cells + 10000) (slots + 42000) Q (F0 m 1901 ls [])) : W p l e room_1 s m #[Value.ref b] below meth c H locs cells slots Q (F0 m 1334 ls []) := by
  obtain ⟨hx, hb, hr, hml, hown, hts0, hX, hbl, hlocks, hgv⟩ := id C0
  have hts : ∀ w ∈ lw_all, w.before #[Value.ref b] s = true := fun w h => hts0 w (lw_all_tbl h)
  have hw := e_ship (x := xs (i + 1)) (y := xs (i + 2)) (z := xs (i + 3)) (w := xs (i + 4)) (G := G) (S := S) (o := o) (M := M) (k := 1) (n := 5) hI (Nat.le_refl _) (Nat.le_refl _)
  refine lv_aload_n hx hb dL_law_1334 rfl (lv_at hl 2 rfl) ?_
  refine lc_ld (k := 1) C0 hS hl hL (by omega) dL_law_1335 dL_law_1336 dL_law_1337 (by decide) dL_law_1338 dL_law_1339 ?_
  refine lc_ld (k := 2) C0 hS hl hL (by omega) dL_law_1340 dL_law_1341 dL_law_1342 (by decide) dL_law_1343 dL_law_1344 ?_
  refine lc_ld (k := 3) C0 hS hl hL (by omega) dL_law_1345 dL_law_1346 dL_law_1347 (by decide) dL_law_1348 dL_law_1349 ?_
  refine lc_ld (k := 4) C0 hS hl hL (by omega) dL_law_1350 dL_law_1351 dL_law_1352 (by decide) dL_law_1353 dL_law_1354 ?_
  refine x_ci (va_runV (As := [.int (xs (i + 1)), .int (xs (i + 2)), .int (xs (i + 3)), .int (xs (i + 4))]) (rest := []) ⟨hx, hb, hml, hown, hts⟩ (mt_X0_ship l hw) (cwV 4 hts (lw_V q789 q790 q791 q64 q792) rfl rfl rfl hd_X0_ship ⟨Nat.le_of_ble_eq_true rfl, Nat.le_of_ble_eq_true rfl⟩) ⟨x_Pc_blind, hR.recv hK (ci := 0) rfl (by decide) hI.O_t, x_Pc_pre hR (Nat.le_refl _) hS hK⟩ rfl rfl hl.1 rfl (lv_room (Nat.le_of_ble_eq_true rfl)) dL_law_1355 ⟨by show cells + 1 ≤ 1200000; omega, by show slots + 5 ≤ 5502250; omega⟩) hS (fun r S1 H1 locs1 hp hR1 hS1 => ?_)
  have hp1 := hp
  refine lv_aload_n hx hb dL_law_1358 rfl (lv_at hl 1 rfl) ?_
  refine lc_ld (k := 1) C0 hS1 hl hL (by omega) dL_law_1359 dL_law_1360 dL_law_1361 (by decide) dL_law_1362 dL_law_1363 ?_
  refine lc_ld (k := 2) C0 hS1 hl hL (by omega) dL_law_1364 dL_law_1365 dL_law_1366 (by decide) dL_law_1367 dL_law_1368 ?_
  refine lc_ld (k := 3) C0 hS1 hl hL (by omega) dL_law_1369 dL_law_1370 dL_law_1371 (by decide) dL_law_1372 dL_law_1373 ?_
  refine lc_ld (k := 4) C0 hS1 hl hL (by omega) dL_law_1374 dL_law_1375 dL_law_1376 (by decide) dL_law_1377 dL_law_1378 ?_
  refine xm_ci (va_runV (As := [.int (xs (i + 1)), .int (xs (i + 2)), .int (xs (i + 3)), .int (xs (i + 4))]) (rest := [.int r]) ⟨hx, hb, hml, hown, hts⟩ (mt_X1_ship l hp1) (cwV 4 hts (lw_V q1335 q1336 q1337 q65 q1338) rfl rfl rfl hd_X1_ship ⟨Nat.le_of_ble_eq_true rfl, Nat.le_of_ble_eq_true rfl⟩) ⟨x_Pc_blind, xm_recv hR1 hK, x_Pc_pre hR1 (Nat.le_refl _) hS1 hK⟩ rfl rfl hl.1 rfl (lv_room (Nat.le_of_ble_eq_true rfl)) dL_law_1379 ⟨by show cells + 1 + 0 ≤ 1200000; omega, by show slots + 5 + 0 ≤ 5502250; omega⟩) hS1 (fun r' M2 H2 locs2 hp2 hR2 hS2 => ?_)
  obtain ⟨er, G2, hI2⟩ := hp2
  refine lv_icmp_eq (tgt := 1901) hx hb dL_law_1382 (by decide) (fun _ => ?_) (fun z => absurd er z)
  refine W.widen (k := cells + 10000) (n := slots + 42000) (by omega) (by omega) ?_
  exact kk _ _ _ _ _ hR2 hI2 hS2
set_option maxHeartbeats 4000000 in
theorem lc_33 {p : Program} {l : Launch} {e : Env} {s : State} {m : MethodId} {below : List Frame} {meth : Method} {c : Code} {H : Heap} {locs : List Loc} {cells slots : Nat} {Q : State → Prop} {ls : Array Slot} {D : va_G} {d : Nat → ClassId} {b L : Nat} {xs : Nat → Int32} {o mo i : Nat} {Aa : Nat → Nat} {G : xG} {S : xH} {M : xM} (C0 : lw_At p s m meth c b L xs) (hK : x_KK D d s) (hR : x_Rp D d (x_A s.heap.size) (x_mc d mo Aa M) S H) (hI : Inv G S o M) (hS : va_S (x_A s.heap.size) s.heap H locs) (hl : lv_has ls 4 [(3, .int (nI i)), (2, .ref mo), (1, .ref o), (0, .ref b)]) (hL : L ≤ 640) (hi : i + 9 < L) (hc : cells + 10000 ≤ 1200000) (hs : slots + 42000 ≤ 5502250) (kk : ∀ (G : xG) (S : xH) (M : xM) (H : Heap) (locs : List Loc), x_Rp D d (x_A s.heap.size) (x_mc d mo Aa M) S H → Inv G S o M → va_S (x_A s.heap.size) s.heap H locs → W p l e room_1 s m #[Value.ref b] below meth c H locs (cells + 10000) (slots + 42000) Q (F0 m 1901 ls [])) : W p l e room_1 s m #[Value.ref b] below meth c H locs cells slots Q (F0 m 1387 ls []) := by
  obtain ⟨hx, hb, hr, hml, hown, hts0, hX, hbl, hlocks, hgv⟩ := id C0
  have hts : ∀ w ∈ lw_all, w.before #[Value.ref b] s = true := fun w h => hts0 w (lw_all_tbl h)
  have hw := e_of (x := xs (i + 1)) (y := xs (i + 2)) (G := G) (S := S) (o := o) (M := M) hI
  refine lv_aload_n hx hb dL_law_1387 rfl (lv_at hl 2 rfl) ?_
  refine lc_ld (k := 1) C0 hS hl hL (by omega) dL_law_1388 dL_law_1389 dL_law_1390 (by decide) dL_law_1391 dL_law_1392 ?_
  refine lc_ld (k := 2) C0 hS hl hL (by omega) dL_law_1393 dL_law_1394 dL_law_1395 (by decide) dL_law_1396 dL_law_1397 ?_
  refine x_ci (va_runV (As := [.int (xs (i + 1)), .int (xs (i + 2))]) (rest := []) ⟨hx, hb, hml, hown, hts⟩ (mt_X0_of l hw) (cwV 2 hts (lw_V q819 q820 q821 q64 q822) rfl rfl rfl hd_X0_of ⟨Nat.le_of_ble_eq_true rfl, Nat.le_of_ble_eq_true rfl⟩) ⟨x_Pc_blind, hR.recv hK (ci := 0) rfl (by decide) hI.O_t, x_Pc_pre hR (Nat.le_refl _) hS hK⟩ rfl rfl hl.1 rfl (lv_room (Nat.le_of_ble_eq_true rfl)) dL_law_1398 ⟨by show cells + 0 ≤ 1200000; omega, by show slots + 0 ≤ 5502250; omega⟩) hS (fun r S1 H1 locs1 hp hR1 hS1 => ?_)
  have hp1 := hp.2
  rw [hp.1] at hR1
  refine lv_aload_n hx hb dL_law_1401 rfl (lv_at hl 1 rfl) ?_
  refine lc_ld (k := 1) C0 hS1 hl hL (by omega) dL_law_1402 dL_law_1403 dL_law_1404 (by decide) dL_law_1405 dL_law_1406 ?_
  refine lc_ld (k := 2) C0 hS1 hl hL (by omega) dL_law_1407 dL_law_1408 dL_law_1409 (by decide) dL_law_1410 dL_law_1411 ?_
  refine xm_ci (va_runV (As := [.int (xs (i + 1)), .int (xs (i + 2))]) (rest := [.int r]) ⟨hx, hb, hml, hown, hts⟩ (mt_X1_of l hp1) (cwV 2 hts (lw_V q1339 q1340 q1341 q65 q1342) rfl rfl rfl hd_X1_of ⟨Nat.le_of_ble_eq_true rfl, Nat.le_of_ble_eq_true rfl⟩) ⟨x_Pc_blind, xm_recv hR1 hK, x_Pc_pre hR1 (Nat.le_refl _) hS1 hK⟩ rfl rfl hl.1 rfl (lv_room (Nat.le_of_ble_eq_true rfl)) dL_law_1412 ⟨by show cells + 0 + 0 ≤ 1200000; omega, by show slots + 0 + 0 ≤ 5502250; omega⟩) hS1 (fun r' M2 H2 locs2 hp2 hR2 hS2 => ?_)
  obtain ⟨er, G2, hI2⟩ := hp2
  refine lv_icmp_eq (tgt := 1901) hx hb dL_law_1415 (by decide) (fun _ => ?_) (fun z => absurd er z)
  refine W.widen (k := cells + 10000) (n := slots + 42000) (by omega) (by omega) ?_
  exact kk _ _ _ _ _ hR2 hI2 hS2
set_option maxHeartbeats 4000000 in
theorem lc_34 {p : Program} {l : Launch} {e : Env} {s : State} {m : MethodId} {below : List Frame} {meth : Method} {c : Code} {H : Heap} {locs : List Loc} {cells slots : Nat} {Q : State → Prop} {ls : Array Slot} {D : va_G} {d : Nat → ClassId} {b L : Nat} {xs : Nat → Int32} {o mo i : Nat} {Aa : Nat → Nat} {G : xG} {S : xH} {M : xM} (C0 : lw_At p s m meth c b L xs) (hK : x_KK D d s) (hR : x_Rp D d (x_A s.heap.size) (x_mc d mo Aa M) S H) (hI : Inv G S o M) (hS : va_S (x_A s.heap.size) s.heap H locs) (hl : lv_has ls 4 [(3, .int (nI i)), (2, .ref mo), (1, .ref o), (0, .ref b)]) (hL : L ≤ 640) (hi : i + 9 < L) (hc : cells + 10000 ≤ 1200000) (hs : slots + 42000 ≤ 5502250) (kk : ∀ (G : xG) (S : xH) (M : xM) (H : Heap) (locs : List Loc), x_Rp D d (x_A s.heap.size) (x_mc d mo Aa M) S H → Inv G S o M → va_S (x_A s.heap.size) s.heap H locs → W p l e room_1 s m #[Value.ref b] below meth c H locs (cells + 10000) (slots + 42000) Q (F0 m 1901 ls [])) : W p l e room_1 s m #[Value.ref b] below meth c H locs cells slots Q (F0 m 1420 ls []) := by
  obtain ⟨hx, hb, hr, hml, hown, hts0, hX, hbl, hlocks, hgv⟩ := id C0
  have hts : ∀ w ∈ lw_all, w.before #[Value.ref b] s = true := fun w h => hts0 w (lw_all_tbl h)
  have hw := e_spare (x := xs (i + 1)) (y := xs (i + 2)) (G := G) (S := S) (o := o) (M := M) hI
  refine lv_aload_n hx hb dL_law_1420 rfl (lv_at hl 2 rfl) ?_
  refine lc_ld (k := 1) C0 hS hl hL (by omega) dL_law_1421 dL_law_1422 dL_law_1423 (by decide) dL_law_1424 dL_law_1425 ?_
  refine lc_ld (k := 2) C0 hS hl hL (by omega) dL_law_1426 dL_law_1427 dL_law_1428 (by decide) dL_law_1429 dL_law_1430 ?_
  refine x_ci (va_runV (As := [.int (xs (i + 1)), .int (xs (i + 2))]) (rest := []) ⟨hx, hb, hml, hown, hts⟩ (mt_X0_spare l hw) (cwV 2 hts (lw_V q831 q832 q833 q64 q834) rfl rfl rfl hd_X0_spare ⟨Nat.le_of_ble_eq_true rfl, Nat.le_of_ble_eq_true rfl⟩) ⟨x_Pc_blind, hR.recv hK (ci := 0) rfl (by decide) hI.O_t, x_Pc_pre hR (Nat.le_refl _) hS hK⟩ rfl rfl hl.1 rfl (lv_room (Nat.le_of_ble_eq_true rfl)) dL_law_1431 ⟨by show cells + 0 ≤ 1200000; omega, by show slots + 0 ≤ 5502250; omega⟩) hS (fun r S1 H1 locs1 hp hR1 hS1 => ?_)
  have hp1 := hp.2
  rw [hp.1] at hR1
  refine lv_aload_n hx hb dL_law_1434 rfl (lv_at hl 1 rfl) ?_
  refine lc_ld (k := 1) C0 hS1 hl hL (by omega) dL_law_1435 dL_law_1436 dL_law_1437 (by decide) dL_law_1438 dL_law_1439 ?_
  refine lc_ld (k := 2) C0 hS1 hl hL (by omega) dL_law_1440 dL_law_1441 dL_law_1442 (by decide) dL_law_1443 dL_law_1444 ?_
  refine xm_ci (va_runV (As := [.int (xs (i + 1)), .int (xs (i + 2))]) (rest := [.int r]) ⟨hx, hb, hml, hown, hts⟩ (mt_X1_spare l hp1) (cwV 2 hts (lw_V q1351 q1352 q1353 q65 q1354) rfl rfl rfl hd_X1_spare ⟨Nat.le_of_ble_eq_true rfl, Nat.le_of_ble_eq_true rfl⟩) ⟨x_Pc_blind, xm_recv hR1 hK, x_Pc_pre hR1 (Nat.le_refl _) hS1 hK⟩ rfl rfl hl.1 rfl (lv_room (Nat.le_of_ble_eq_true rfl)) dL_law_1445 ⟨by show cells + 0 + 0 ≤ 1200000; omega, by show slots + 0 + 0 ≤ 5502250; omega⟩) hS1 (fun r' M2 H2 locs2 hp2 hR2 hS2 => ?_)
  obtain ⟨er, G2, hI2⟩ := hp2
  refine lv_icmp_eq (tgt := 1901) hx hb dL_law_1448 (by decide) (fun _ => ?_) (fun z => absurd er z)
  refine W.widen (k := cells + 10000) (n := slots + 42000) (by omega) (by omega) ?_
  exact kk _ _ _ _ _ hR2 hI2 hS2
set_option maxHeartbeats 4000000 in
theorem lc_35 {p : Program} {l : Launch} {e : Env} {s : State} {m : MethodId} {below : List Frame} {meth : Method} {c : Code} {H : Heap} {locs : List Loc} {cells slots : Nat} {Q : State → Prop} {ls : Array Slot} {D : va_G} {d : Nat → ClassId} {b L : Nat} {xs : Nat → Int32} {o mo i : Nat} {Aa : Nat → Nat} {G : xG} {S : xH} {M : xM} (C0 : lw_At p s m meth c b L xs) (hK : x_KK D d s) (hR : x_Rp D d (x_A s.heap.size) (x_mc d mo Aa M) S H) (hI : Inv G S o M) (hS : va_S (x_A s.heap.size) s.heap H locs) (hl : lv_has ls 4 [(3, .int (nI i)), (2, .ref mo), (1, .ref o), (0, .ref b)]) (hL : L ≤ 640) (hi : i + 9 < L) (hc : cells + 10000 ≤ 1200000) (hs : slots + 42000 ≤ 5502250) (kk : ∀ (G : xG) (S : xH) (M : xM) (H : Heap) (locs : List Loc), x_Rp D d (x_A s.heap.size) (x_mc d mo Aa M) S H → Inv G S o M → va_S (x_A s.heap.size) s.heap H locs → W p l e room_1 s m #[Value.ref b] below meth c H locs (cells + 10000) (slots + 42000) Q (F0 m 1901 ls [])) : W p l e room_1 s m #[Value.ref b] below meth c H locs cells slots Q (F0 m 1453 ls []) := by
  obtain ⟨hx, hb, hr, hml, hown, hts0, hX, hbl, hlocks, hgv⟩ := id C0
  have hts : ∀ w ∈ lw_all, w.before #[Value.ref b] s = true := fun w h => hts0 w (lw_all_tbl h)
  have hw := e_board (x := xs (i + 1)) (y := xs (i + 2)) (G := G) (S := S) (o := o) (M := M) (k := 1) (n := 3) hI (Nat.le_refl _) (Nat.le_refl _)
  refine lv_aload_n hx hb dL_law_1453 rfl (lv_at hl 2 rfl) ?_
  refine lc_ld (k := 1) C0 hS hl hL (by omega) dL_law_1454 dL_law_1455 dL_law_1456 (by decide) dL_law_1457 dL_law_1458 ?_
  refine lc_ld (k := 2) C0 hS hl hL (by omega) dL_law_1459 dL_law_1460 dL_law_1461 (by decide) dL_law_1462 dL_law_1463 ?_
  refine x_ci (va_runV (As := [.int (xs (i + 1)), .int (xs (i + 2))]) (rest := []) ⟨hx, hb, hml, hown, hts⟩ (mt_X0_board l hw) (cwV 2 hts (lw_V q842 q843 q844 q64 q845) rfl rfl rfl hd_X0_board ⟨Nat.le_of_ble_eq_true rfl, Nat.le_of_ble_eq_true rfl⟩) ⟨x_Pc_blind, hR.recv hK (ci := 0) rfl (by decide) hI.O_t, x_Pc_pre hR (Nat.le_refl _) hS hK⟩ rfl rfl hl.1 rfl (lv_room (Nat.le_of_ble_eq_true rfl)) dL_law_1464 ⟨by show cells + 1 ≤ 1200000; omega, by show slots + 3 ≤ 5502250; omega⟩) hS (fun r S1 H1 locs1 hp hR1 hS1 => ?_)
  have hp1 := hp
  refine lv_aload_n hx hb dL_law_1467 rfl (lv_at hl 1 rfl) ?_
  refine lc_ld (k := 1) C0 hS1 hl hL (by omega) dL_law_1468 dL_law_1469 dL_law_1470 (by decide) dL_law_1471 dL_law_1472 ?_
  refine lc_ld (k := 2) C0 hS1 hl hL (by omega) dL_law_1473 dL_law_1474 dL_law_1475 (by decide) dL_law_1476 dL_law_1477 ?_
  refine xm_ci (va_runV (As := [.int (xs (i + 1)), .int (xs (i + 2))]) (rest := [.int r]) ⟨hx, hb, hml, hown, hts⟩ (mt_X1_board l hp1) (cwV 2 hts (lw_V q1362 q1363 q1364 q65 q1365) rfl rfl rfl hd_X1_board ⟨Nat.le_of_ble_eq_true rfl, Nat.le_of_ble_eq_true rfl⟩) ⟨x_Pc_blind, xm_recv hR1 hK, x_Pc_pre hR1 (Nat.le_refl _) hS1 hK⟩ rfl rfl hl.1 rfl (lv_room (Nat.le_of_ble_eq_true rfl)) dL_law_1478 ⟨by show cells + 1 + 0 ≤ 1200000; omega, by show slots + 3 + 0 ≤ 5502250; omega⟩) hS1 (fun r' M2 H2 locs2 hp2 hR2 hS2 => ?_)
  obtain ⟨er, G2, hI2⟩ := hp2
  refine lv_icmp_eq (tgt := 1901) hx hb dL_law_1481 (by decide) (fun _ => ?_) (fun z => absurd er z)
  refine W.widen (k := cells + 10000) (n := slots + 42000) (by omega) (by omega) ?_
  exact kk _ _ _ _ _ hR2 hI2 hS2
set_option maxHeartbeats 4000000 in
theorem lc_36 {p : Program} {l : Launch} {e : Env} {s : State} {m : MethodId} {below : List Frame} {meth : Method} {c : Code} {H : Heap} {locs : List Loc} {cells slots : Nat} {Q : State → Prop} {ls : Array Slot} {D : va_G} {d : Nat → ClassId} {b L : Nat} {xs : Nat → Int32} {o mo i : Nat} {Aa : Nat → Nat} {G : xG} {S : xH} {M : xM} (C0 : lw_At p s m meth c b L xs) (hK : x_KK D d s) (hR : x_Rp D d (x_A s.heap.size) (x_mc d mo Aa M) S H) (hI : Inv G S o M) (hS : va_S (x_A s.heap.size) s.heap H locs) (hl : lv_has ls 4 [(3, .int (nI i)), (2, .ref mo), (1, .ref o), (0, .ref b)]) (hL : L ≤ 640) (hi : i + 9 < L) (hc : cells + 10000 ≤ 1200000) (hs : slots + 42000 ≤ 5502250) (kk : ∀ (G : xG) (S : xH) (M : xM) (H : Heap) (locs : List Loc), x_Rp D d (x_A s.heap.size) (x_mc d mo Aa M) S H → Inv G S o M → va_S (x_A s.heap.size) s.heap H locs → W p l e room_1 s m #[Value.ref b] below meth c H locs (cells + 10000) (slots + 42000) Q (F0 m 1901 ls [])) : W p l e room_1 s m #[Value.ref b] below meth c H locs cells slots Q (F0 m 1486 ls []) := by
  obtain ⟨hx, hb, hr, hml, hown, hts0, hX, hbl, hlocks, hgv⟩ := id C0
  have hts : ∀ w ∈ lw_all, w.before #[Value.ref b] s = true := fun w h => hts0 w (lw_all_tbl h)
  have hw := e_turn (x := xs (i + 1)) (y := xs (i + 2)) (G := G) (S := S) (o := o) (M := M) (k := 1) (n := 3) hI (Nat.le_refl _) (Nat.le_refl _)
  refine lv_aload_n hx hb dL_law_1486 rfl (lv_at hl 2 rfl) ?_
  refine lc_ld (k := 1) C0 hS hl hL (by omega) dL_law_1487 dL_law_1488 dL_law_1489 (by decide) dL_law_1490 dL_law_1491 ?_
  refine lc_ld (k := 2) C0 hS hl hL (by omega) dL_law_1492 dL_law_1493 dL_law_1494 (by decide) dL_law_1495 dL_law_1496 ?_
  refine x_ci (va_runV (As := [.int (xs (i + 1)), .int (xs (i + 2))]) (rest := []) ⟨hx, hb, hml, hown, hts⟩ (mt_X0_turn l hw) (cwV 2 hts (lw_V q850 q851 q852 q64 q853) rfl rfl rfl hd_X0_turn ⟨Nat.le_of_ble_eq_true rfl, Nat.le_of_ble_eq_true rfl⟩) ⟨x_Pc_blind, hR.recv hK (ci := 0) rfl (by decide) hI.O_t, x_Pc_pre hR (Nat.le_refl _) hS hK⟩ rfl rfl hl.1 rfl (lv_room (Nat.le_of_ble_eq_true rfl)) dL_law_1497 ⟨by show cells + 1 ≤ 1200000; omega, by show slots + 3 ≤ 5502250; omega⟩) hS (fun r S1 H1 locs1 hp hR1 hS1 => ?_)
  have hp1 := hp
  refine lv_aload_n hx hb dL_law_1500 rfl (lv_at hl 1 rfl) ?_
  refine lc_ld (k := 1) C0 hS1 hl hL (by omega) dL_law_1501 dL_law_1502 dL_law_1503 (by decide) dL_law_1504 dL_law_1505 ?_
  refine lc_ld (k := 2) C0 hS1 hl hL (by omega) dL_law_1506 dL_law_1507 dL_law_1508 (by decide) dL_law_1509 dL_law_1510 ?_
  refine xm_ci (va_runV (As := [.int (xs (i + 1)), .int (xs (i + 2))]) (rest := [.int r]) ⟨hx, hb, hml, hown, hts⟩ (mt_X1_turn l hp1) (cwV 2 hts (lw_V q1366 q1367 q1368 q65 q1369) rfl rfl rfl hd_X1_turn ⟨Nat.le_of_ble_eq_true rfl, Nat.le_of_ble_eq_true rfl⟩) ⟨x_Pc_blind, xm_recv hR1 hK, x_Pc_pre hR1 (Nat.le_refl _) hS1 hK⟩ rfl rfl hl.1 rfl (lv_room (Nat.le_of_ble_eq_true rfl)) dL_law_1511 ⟨by show cells + 1 + 0 ≤ 1200000; omega, by show slots + 3 + 0 ≤ 5502250; omega⟩) hS1 (fun r' M2 H2 locs2 hp2 hR2 hS2 => ?_)
  obtain ⟨er, G2, hI2⟩ := hp2
  refine lv_icmp_eq (tgt := 1901) hx hb dL_law_1514 (by decide) (fun _ => ?_) (fun z => absurd er z)
  refine W.widen (k := cells + 10000) (n := slots + 42000) (by omega) (by omega) ?_
  exact kk _ _ _ _ _ hR2 hI2 hS2
set_option maxHeartbeats 4000000 in
theorem lc_37 {p : Program} {l : Launch} {e : Env} {s : State} {m : MethodId} {below : List Frame} {meth : Method} {c : Code} {H : Heap} {locs : List Loc} {cells slots : Nat} {Q : State → Prop} {ls : Array Slot} {D : va_G} {d : Nat → ClassId} {b L : Nat} {xs : Nat → Int32} {o mo i : Nat} {Aa : Nat → Nat} {G : xG} {S : xH} {M : xM} (C0 : lw_At p s m meth c b L xs) (hK : x_KK D d s) (hR : x_Rp D d (x_A s.heap.size) (x_mc d mo Aa M) S H) (hI : Inv G S o M) (hS : va_S (x_A s.heap.size) s.heap H locs) (hl : lv_has ls 4 [(3, .int (nI i)), (2, .ref mo), (1, .ref o), (0, .ref b)]) (hL : L ≤ 640) (hi : i + 9 < L) (hc : cells + 10000 ≤ 1200000) (hs : slots + 42000 ≤ 5502250) (kk : ∀ (G : xG) (S : xH) (M : xM) (H : Heap) (locs : List Loc), x_Rp D d (x_A s.heap.size) (x_mc d mo Aa M) S H → Inv G S o M → va_S (x_A s.heap.size) s.heap H locs → W p l e room_1 s m #[Value.ref b] below meth c H locs (cells + 10000) (slots + 42000) Q (F0 m 1901 ls [])) : W p l e room_1 s m #[Value.ref b] below meth c H locs cells slots Q (F0 m 1519 ls []) := by
  obtain ⟨hx, hb, hr, hml, hown, hts0, hX, hbl, hlocks, hgv⟩ := id C0
  have hts : ∀ w ∈ lw_all, w.before #[Value.ref b] s = true := fun w h => hts0 w (lw_all_tbl h)
  have hw := e_notAshore (x := xs (i + 1)) (y := xs (i + 2)) (G := G) (S := S) (o := o) (M := M) hI
  refine lv_aload_n hx hb dL_law_1519 rfl (lv_at hl 2 rfl) ?_
  refine lc_ld (k := 1) C0 hS hl hL (by omega) dL_law_1520 dL_law_1521 dL_law_1522 (by decide) dL_law_1523 dL_law_1524 ?_
  refine lc_ld (k := 2) C0 hS hl hL (by omega) dL_law_1525 dL_law_1526 dL_law_1527 (by decide) dL_law_1528 dL_law_1529 ?_
  refine x_ci (va_runV (As := [.int (xs (i + 1)), .int (xs (i + 2))]) (rest := []) ⟨hx, hb, hml, hown, hts⟩ (mt_X0_notAshore l hw) (cwV 2 hts (lw_V q854 q855 q856 q64 q857) rfl rfl rfl hd_X0_notAshore ⟨Nat.le_of_ble_eq_true rfl, Nat.le_of_ble_eq_true rfl⟩) ⟨x_Pc_blind, hR.recv hK (ci := 0) rfl (by decide) hI.O_t, x_Pc_pre hR (Nat.le_refl _) hS hK⟩ rfl rfl hl.1 rfl (lv_room (Nat.le_of_ble_eq_true rfl)) dL_law_1530 ⟨by show cells + 0 ≤ 1200000; omega, by show slots + 0 ≤ 5502250; omega⟩) hS (fun r S1 H1 locs1 hp hR1 hS1 => ?_)
  have hp1 := hp.2
  rw [hp.1] at hR1
  refine lv_aload_n hx hb dL_law_1533 rfl (lv_at hl 1 rfl) ?_
  refine lc_ld (k := 1) C0 hS1 hl hL (by omega) dL_law_1534 dL_law_1535 dL_law_1536 (by decide) dL_law_1537 dL_law_1538 ?_
  refine lc_ld (k := 2) C0 hS1 hl hL (by omega) dL_law_1539 dL_law_1540 dL_law_1541 (by decide) dL_law_1542 dL_law_1543 ?_
  refine xm_ci (va_runV (As := [.int (xs (i + 1)), .int (xs (i + 2))]) (rest := [.int r]) ⟨hx, hb, hml, hown, hts⟩ (mt_X1_notAshore l hp1) (cwV 2 hts (lw_V q1370 q1371 q1372 q65 q1373) rfl rfl rfl hd_X1_notAshore ⟨Nat.le_of_ble_eq_true rfl, Nat.le_of_ble_eq_true rfl⟩) ⟨x_Pc_blind, xm_recv hR1 hK, x_Pc_pre hR1 (Nat.le_refl _) hS1 hK⟩ rfl rfl hl.1 rfl (lv_room (Nat.le_of_ble_eq_true rfl)) dL_law_1544 ⟨by show cells + 0 + 0 ≤ 1200000; omega, by show slots + 0 + 0 ≤ 5502250; omega⟩) hS1 (fun r' M2 H2 locs2 hp2 hR2 hS2 => ?_)
  obtain ⟨er, G2, hI2⟩ := hp2
  refine lv_icmp_eq (tgt := 1901) hx hb dL_law_1547 (by decide) (fun _ => ?_) (fun z => absurd er z)
  refine W.widen (k := cells + 10000) (n := slots + 42000) (by omega) (by omega) ?_
  exact kk _ _ _ _ _ hR2 hI2 hS2
set_option maxHeartbeats 4000000 in
theorem lc_38 {p : Program} {l : Launch} {e : Env} {s : State} {m : MethodId} {below : List Frame} {meth : Method} {c : Code} {H : Heap} {locs : List Loc} {cells slots : Nat} {Q : State → Prop} {ls : Array Slot} {D : va_G} {d : Nat → ClassId} {b L : Nat} {xs : Nat → Int32} {o mo i : Nat} {Aa : Nat → Nat} {G : xG} {S : xH} {M : xM} (C0 : lw_At p s m meth c b L xs) (hK : x_KK D d s) (hR : x_Rp D d (x_A s.heap.size) (x_mc d mo Aa M) S H) (hI : Inv G S o M) (hS : va_S (x_A s.heap.size) s.heap H locs) (hl : lv_has ls 4 [(3, .int (nI i)), (2, .ref mo), (1, .ref o), (0, .ref b)]) (hL : L ≤ 640) (hi : i + 9 < L) (hc : cells + 10000 ≤ 1200000) (hs : slots + 42000 ≤ 5502250) (kk : ∀ (G : xG) (S : xH) (M : xM) (H : Heap) (locs : List Loc), x_Rp D d (x_A s.heap.size) (x_mc d mo Aa M) S H → Inv G S o M → va_S (x_A s.heap.size) s.heap H locs → W p l e room_1 s m #[Value.ref b] below meth c H locs (cells + 10000) (slots + 42000) Q (F0 m 1901 ls [])) : W p l e room_1 s m #[Value.ref b] below meth c H locs cells slots Q (F0 m 1552 ls []) := by
  obtain ⟨hx, hb, hr, hml, hown, hts0, hX, hbl, hlocks, hgv⟩ := id C0
  have hts : ∀ w ∈ lw_all, w.before #[Value.ref b] s = true := fun w h => hts0 w (lw_all_tbl h)
  have hw := e_taken (x := xs (i + 1)) (y := xs (i + 2)) (G := G) (S := S) (o := o) (M := M) hI
  refine lv_aload_n hx hb dL_law_1552 rfl (lv_at hl 2 rfl) ?_
  refine lc_ld (k := 1) C0 hS hl hL (by omega) dL_law_1553 dL_law_1554 dL_law_1555 (by decide) dL_law_1556 dL_law_1557 ?_
  refine lc_ld (k := 2) C0 hS hl hL (by omega) dL_law_1558 dL_law_1559 dL_law_1560 (by decide) dL_law_1561 dL_law_1562 ?_
  refine x_ci (va_runV (As := [.int (xs (i + 1)), .int (xs (i + 2))]) (rest := []) ⟨hx, hb, hml, hown, hts⟩ (mt_X0_taken l hw) (cwV 2 hts (lw_V q858 q859 q860 q64 q861) rfl rfl rfl hd_X0_taken ⟨Nat.le_of_ble_eq_true rfl, Nat.le_of_ble_eq_true rfl⟩) ⟨x_Pc_blind, hR.recv hK (ci := 0) rfl (by decide) hI.O_t, x_Pc_pre hR (Nat.le_refl _) hS hK⟩ rfl rfl hl.1 rfl (lv_room (Nat.le_of_ble_eq_true rfl)) dL_law_1563 ⟨by show cells + 0 ≤ 1200000; omega, by show slots + 0 ≤ 5502250; omega⟩) hS (fun r S1 H1 locs1 hp hR1 hS1 => ?_)
  have hp1 := hp.2
  rw [hp.1] at hR1
  refine lv_aload_n hx hb dL_law_1566 rfl (lv_at hl 1 rfl) ?_
  refine lc_ld (k := 1) C0 hS1 hl hL (by omega) dL_law_1567 dL_law_1568 dL_law_1569 (by decide) dL_law_1570 dL_law_1571 ?_
  refine lc_ld (k := 2) C0 hS1 hl hL (by omega) dL_law_1572 dL_law_1573 dL_law_1574 (by decide) dL_law_1575 dL_law_1576 ?_
  refine xm_ci (va_runV (As := [.int (xs (i + 1)), .int (xs (i + 2))]) (rest := [.int r]) ⟨hx, hb, hml, hown, hts⟩ (mt_X1_taken l hp1) (cwV 2 hts (lw_V q1374 q1375 q1376 q65 q1377) rfl rfl rfl hd_X1_taken ⟨Nat.le_of_ble_eq_true rfl, Nat.le_of_ble_eq_true rfl⟩) ⟨x_Pc_blind, xm_recv hR1 hK, x_Pc_pre hR1 (Nat.le_refl _) hS1 hK⟩ rfl rfl hl.1 rfl (lv_room (Nat.le_of_ble_eq_true rfl)) dL_law_1577 ⟨by show cells + 0 + 0 ≤ 1200000; omega, by show slots + 0 + 0 ≤ 5502250; omega⟩) hS1 (fun r' M2 H2 locs2 hp2 hR2 hS2 => ?_)
  obtain ⟨er, G2, hI2⟩ := hp2
  refine lv_icmp_eq (tgt := 1901) hx hb dL_law_1580 (by decide) (fun _ => ?_) (fun z => absurd er z)
  refine W.widen (k := cells + 10000) (n := slots + 42000) (by omega) (by omega) ?_
  exact kk _ _ _ _ _ hR2 hI2 hS2
set_option maxHeartbeats 4000000 in
theorem lc_39 {p : Program} {l : Launch} {e : Env} {s : State} {m : MethodId} {below : List Frame} {meth : Method} {c : Code} {H : Heap} {locs : List Loc} {cells slots : Nat} {Q : State → Prop} {ls : Array Slot} {D : va_G} {d : Nat → ClassId} {b L : Nat} {xs : Nat → Int32} {o mo i : Nat} {Aa : Nat → Nat} {G : xG} {S : xH} {M : xM} (C0 : lw_At p s m meth c b L xs) (hK : x_KK D d s) (hR : x_Rp D d (x_A s.heap.size) (x_mc d mo Aa M) S H) (hI : Inv G S o M) (hS : va_S (x_A s.heap.size) s.heap H locs) (hl : lv_has ls 4 [(3, .int (nI i)), (2, .ref mo), (1, .ref o), (0, .ref b)]) (hL : L ≤ 640) (hi : i + 9 < L) (hc : cells + 10000 ≤ 1200000) (hs : slots + 42000 ≤ 5502250) (kk : ∀ (G : xG) (S : xH) (M : xM) (H : Heap) (locs : List Loc), x_Rp D d (x_A s.heap.size) (x_mc d mo Aa M) S H → Inv G S o M → va_S (x_A s.heap.size) s.heap H locs → W p l e room_1 s m #[Value.ref b] below meth c H locs (cells + 10000) (slots + 42000) Q (F0 m 1901 ls [])) : W p l e room_1 s m #[Value.ref b] below meth c H locs cells slots Q (F0 m 1585 ls []) := by
  obtain ⟨hx, hb, hr, hml, hown, hts0, hX, hbl, hlocks, hgv⟩ := id C0
  have hts : ∀ w ∈ lw_all, w.before #[Value.ref b] s = true := fun w h => hts0 w (lw_all_tbl h)
  have hw := e_fleet (x := xs (i + 1)) (G := G) (S := S) (o := o) (M := M) hI
  refine lv_aload_n hx hb dL_law_1585 rfl (lv_at hl 2 rfl) ?_
  refine lc_ld (k := 1) C0 hS hl hL (by omega) dL_law_1586 dL_law_1587 dL_law_1588 (by decide) dL_law_1589 dL_law_1590 ?_
  refine x_ci (va_runV (As := [.int (xs (i + 1))]) (rest := []) ⟨hx, hb, hml, hown, hts⟩ (mt_X0_fleet l hw) (cwV 1 hts (lw_V q874 q875 q876 q64 q877) rfl rfl rfl hd_X0_fleet ⟨Nat.le_of_ble_eq_true rfl, Nat.le_of_ble_eq_true rfl⟩) ⟨x_Pc_blind, hR.recv hK (ci := 0) rfl (by decide) hI.O_t, x_Pc_pre hR (Nat.le_refl _) hS hK⟩ rfl rfl hl.1 rfl (lv_room (Nat.le_of_ble_eq_true rfl)) dL_law_1591 ⟨by show cells + 0 ≤ 1200000; omega, by show slots + 0 ≤ 5502250; omega⟩) hS (fun r S1 H1 locs1 hp hR1 hS1 => ?_)
  have hp1 := hp.2
  rw [hp.1] at hR1
  refine lv_aload_n hx hb dL_law_1594 rfl (lv_at hl 1 rfl) ?_
  refine lc_ld (k := 1) C0 hS1 hl hL (by omega) dL_law_1595 dL_law_1596 dL_law_1597 (by decide) dL_law_1598 dL_law_1599 ?_
  refine xm_ci (va_runV (As := [.int (xs (i + 1))]) (rest := [.int r]) ⟨hx, hb, hml, hown, hts⟩ (mt_X1_fleet l hp1) (cwV 1 hts (lw_V q1386 q1387 q1388 q65 q1389) rfl rfl rfl hd_X1_fleet ⟨Nat.le_of_ble_eq_true rfl, Nat.le_of_ble_eq_true rfl⟩) ⟨x_Pc_blind, xm_recv hR1 hK, x_Pc_pre hR1 (Nat.le_refl _) hS1 hK⟩ rfl rfl hl.1 rfl (lv_room (Nat.le_of_ble_eq_true rfl)) dL_law_1600 ⟨by show cells + 0 + 0 ≤ 1200000; omega, by show slots + 0 + 0 ≤ 5502250; omega⟩) hS1 (fun r' M2 H2 locs2 hp2 hR2 hS2 => ?_)
  obtain ⟨er, G2, hI2⟩ := hp2
  refine lv_icmp_eq (tgt := 1901) hx hb dL_law_1603 (by decide) (fun _ => ?_) (fun z => absurd er z)
  refine W.widen (k := cells + 10000) (n := slots + 42000) (by omega) (by omega) ?_
  exact kk _ _ _ _ _ hR2 hI2 hS2
set_option maxHeartbeats 4000000 in
theorem lc_40 {p : Program} {l : Launch} {e : Env} {s : State} {m : MethodId} {below : List Frame} {meth : Method} {c : Code} {H : Heap} {locs : List Loc} {cells slots : Nat} {Q : State → Prop} {ls : Array Slot} {D : va_G} {d : Nat → ClassId} {b L : Nat} {xs : Nat → Int32} {o mo i : Nat} {Aa : Nat → Nat} {G : xG} {S : xH} {M : xM} (C0 : lw_At p s m meth c b L xs) (hK : x_KK D d s) (hR : x_Rp D d (x_A s.heap.size) (x_mc d mo Aa M) S H) (hI : Inv G S o M) (hS : va_S (x_A s.heap.size) s.heap H locs) (hl : lv_has ls 4 [(3, .int (nI i)), (2, .ref mo), (1, .ref o), (0, .ref b)]) (hL : L ≤ 640) (hi : i + 9 < L) (hc : cells + 10000 ≤ 1200000) (hs : slots + 42000 ≤ 5502250) (kk : ∀ (G : xG) (S : xH) (M : xM) (H : Heap) (locs : List Loc), x_Rp D d (x_A s.heap.size) (x_mc d mo Aa M) S H → Inv G S o M → va_S (x_A s.heap.size) s.heap H locs → W p l e room_1 s m #[Value.ref b] below meth c H locs (cells + 10000) (slots + 42000) Q (F0 m 1901 ls [])) : W p l e room_1 s m #[Value.ref b] below meth c H locs cells slots Q (F0 m 1608 ls []) := by
  obtain ⟨hx, hb, hr, hml, hown, hts0, hX, hbl, hlocks, hgv⟩ := id C0
  have hts : ∀ w ∈ lw_all, w.before #[Value.ref b] s = true := fun w h => hts0 w (lw_all_tbl h)
  have hw := e_sail (x := xs (i + 1)) (G := G) (S := S) (o := o) (M := M) hI
  refine lv_aload_n hx hb dL_law_1608 rfl (lv_at hl 2 rfl) ?_
  refine lc_ld (k := 1) C0 hS hl hL (by omega) dL_law_1609 dL_law_1610 dL_law_1611 (by decide) dL_law_1612 dL_law_1613 ?_
  refine x_ci (va_runV (As := [.int (xs (i + 1))]) (rest := []) ⟨hx, hb, hml, hown, hts⟩ (mt_X0_sail l hw) (cwV 1 hts (lw_V q884 q885 q886 q64 q887) rfl rfl rfl hd_X0_sail ⟨Nat.le_of_ble_eq_true rfl, Nat.le_of_ble_eq_true rfl⟩) ⟨x_Pc_blind, hR.recv hK (ci := 0) rfl (by decide) hI.O_t, x_Pc_pre hR (Nat.le_refl _) hS hK⟩ rfl rfl hl.1 rfl (lv_room (Nat.le_of_ble_eq_true rfl)) dL_law_1614 ⟨by show cells + 0 ≤ 1200000; omega, by show slots + 0 ≤ 5502250; omega⟩) hS (fun r S1 H1 locs1 hp hR1 hS1 => ?_)
  have hp1 := hp
  refine lv_aload_n hx hb dL_law_1617 rfl (lv_at hl 1 rfl) ?_
  refine lc_ld (k := 1) C0 hS1 hl hL (by omega) dL_law_1618 dL_law_1619 dL_law_1620 (by decide) dL_law_1621 dL_law_1622 ?_
  refine xm_ci (va_runV (As := [.int (xs (i + 1))]) (rest := [.int r]) ⟨hx, hb, hml, hown, hts⟩ (mt_X1_sail l hp1) (cwV 1 hts (lw_V q1390 q1391 q1392 q65 q1393) rfl rfl rfl hd_X1_sail ⟨Nat.le_of_ble_eq_true rfl, Nat.le_of_ble_eq_true rfl⟩) ⟨x_Pc_blind, xm_recv hR1 hK, x_Pc_pre hR1 (Nat.le_refl _) hS1 hK⟩ rfl rfl hl.1 rfl (lv_room (Nat.le_of_ble_eq_true rfl)) dL_law_1623 ⟨by show cells + 0 + 0 ≤ 1200000; omega, by show slots + 0 + 0 ≤ 5502250; omega⟩) hS1 (fun r' M2 H2 locs2 hp2 hR2 hS2 => ?_)
  obtain ⟨er, G2, hI2⟩ := hp2
  refine lv_icmp_eq (tgt := 1901) hx hb dL_law_1626 (by decide) (fun _ => ?_) (fun z => absurd er z)
  refine W.widen (k := cells + 10000) (n := slots + 42000) (by omega) (by omega) ?_
  exact kk _ _ _ _ _ hR2 hI2 hS2
set_option maxHeartbeats 4000000 in
theorem lc_41 {p : Program} {l : Launch} {e : Env} {s : State} {m : MethodId} {below : List Frame} {meth : Method} {c : Code} {H : Heap} {locs : List Loc} {cells slots : Nat} {Q : State → Prop} {ls : Array Slot} {D : va_G} {d : Nat → ClassId} {b L : Nat} {xs : Nat → Int32} {o mo i : Nat} {Aa : Nat → Nat} {G : xG} {S : xH} {M : xM} (C0 : lw_At p s m meth c b L xs) (hK : x_KK D d s) (hR : x_Rp D d (x_A s.heap.size) (x_mc d mo Aa M) S H) (hI : Inv G S o M) (hS : va_S (x_A s.heap.size) s.heap H locs) (hl : lv_has ls 4 [(3, .int (nI i)), (2, .ref mo), (1, .ref o), (0, .ref b)]) (hL : L ≤ 640) (hi : i + 9 < L) (hc : cells + 10000 ≤ 1200000) (hs : slots + 42000 ≤ 5502250) (kk : ∀ (G : xG) (S : xH) (M : xM) (H : Heap) (locs : List Loc), x_Rp D d (x_A s.heap.size) (x_mc d mo Aa M) S H → Inv G S o M → va_S (x_A s.heap.size) s.heap H locs → W p l e room_1 s m #[Value.ref b] below meth c H locs (cells + 10000) (slots + 42000) Q (F0 m 1901 ls [])) : W p l e room_1 s m #[Value.ref b] below meth c H locs cells slots Q (F0 m 1631 ls []) := by
  obtain ⟨hx, hb, hr, hml, hown, hts0, hX, hbl, hlocks, hgv⟩ := id C0
  have hts : ∀ w ∈ lw_all, w.before #[Value.ref b] s = true := fun w h => hts0 w (lw_all_tbl h)
  have hw := e_comeHome (x := xs (i + 1)) (G := G) (S := S) (o := o) (M := M) hI
  refine lv_aload_n hx hb dL_law_1631 rfl (lv_at hl 2 rfl) ?_
  refine lc_ld (k := 1) C0 hS hl hL (by omega) dL_law_1632 dL_law_1633 dL_law_1634 (by decide) dL_law_1635 dL_law_1636 ?_
  refine x_ci (va_runV (As := [.int (xs (i + 1))]) (rest := []) ⟨hx, hb, hml, hown, hts⟩ (mt_X0_comeHome l hw) (cwV 1 hts (lw_V q888 q889 q890 q64 q891) rfl rfl rfl hd_X0_comeHome ⟨Nat.le_of_ble_eq_true rfl, Nat.le_of_ble_eq_true rfl⟩) ⟨x_Pc_blind, hR.recv hK (ci := 0) rfl (by decide) hI.O_t, x_Pc_pre hR (Nat.le_refl _) hS hK⟩ rfl rfl hl.1 rfl (lv_room (Nat.le_of_ble_eq_true rfl)) dL_law_1637 ⟨by show cells + 0 ≤ 1200000; omega, by show slots + 0 ≤ 5502250; omega⟩) hS (fun r S1 H1 locs1 hp hR1 hS1 => ?_)
  have hp1 := hp
  refine lv_aload_n hx hb dL_law_1640 rfl (lv_at hl 1 rfl) ?_
  refine lc_ld (k := 1) C0 hS1 hl hL (by omega) dL_law_1641 dL_law_1642 dL_law_1643 (by decide) dL_law_1644 dL_law_1645 ?_
  refine xm_ci (va_runV (As := [.int (xs (i + 1))]) (rest := [.int r]) ⟨hx, hb, hml, hown, hts⟩ (mt_X1_comeHome l hp1) (cwV 1 hts (lw_V q1394 q1395 q1396 q65 q1397) rfl rfl rfl hd_X1_comeHome ⟨Nat.le_of_ble_eq_true rfl, Nat.le_of_ble_eq_true rfl⟩) ⟨x_Pc_blind, xm_recv hR1 hK, x_Pc_pre hR1 (Nat.le_refl _) hS1 hK⟩ rfl rfl hl.1 rfl (lv_room (Nat.le_of_ble_eq_true rfl)) dL_law_1646 ⟨by show cells + 0 + 0 ≤ 1200000; omega, by show slots + 0 + 0 ≤ 5502250; omega⟩) hS1 (fun r' M2 H2 locs2 hp2 hR2 hS2 => ?_)
  obtain ⟨er, G2, hI2⟩ := hp2
  refine lv_icmp_eq (tgt := 1901) hx hb dL_law_1649 (by decide) (fun _ => ?_) (fun z => absurd er z)
  refine W.widen (k := cells + 10000) (n := slots + 42000) (by omega) (by omega) ?_
  exact kk _ _ _ _ _ hR2 hI2 hS2
set_option maxHeartbeats 4000000 in
theorem lc_42 {p : Program} {l : Launch} {e : Env} {s : State} {m : MethodId} {below : List Frame} {meth : Method} {c : Code} {H : Heap} {locs : List Loc} {cells slots : Nat} {Q : State → Prop} {ls : Array Slot} {D : va_G} {d : Nat → ClassId} {b L : Nat} {xs : Nat → Int32} {o mo i : Nat} {Aa : Nat → Nat} {G : xG} {S : xH} {M : xM} (C0 : lw_At p s m meth c b L xs) (hK : x_KK D d s) (hR : x_Rp D d (x_A s.heap.size) (x_mc d mo Aa M) S H) (hI : Inv G S o M) (hS : va_S (x_A s.heap.size) s.heap H locs) (hl : lv_has ls 4 [(3, .int (nI i)), (2, .ref mo), (1, .ref o), (0, .ref b)]) (hL : L ≤ 640) (hi : i + 9 < L) (hc : cells + 10000 ≤ 1200000) (hs : slots + 42000 ≤ 5502250) (kk : ∀ (G : xG) (S : xH) (M : xM) (H : Heap) (locs : List Loc), x_Rp D d (x_A s.heap.size) (x_mc d mo Aa M) S H → Inv G S o M → va_S (x_A s.heap.size) s.heap H locs → W p l e room_1 s m #[Value.ref b] below meth c H locs (cells + 10000) (slots + 42000) Q (F0 m 1901 ls [])) : W p l e room_1 s m #[Value.ref b] below meth c H locs cells slots Q (F0 m 1654 ls []) := by
  obtain ⟨hx, hb, hr, hml, hown, hts0, hX, hbl, hlocks, hgv⟩ := id C0
  have hts : ∀ w ∈ lw_all, w.before #[Value.ref b] s = true := fun w h => hts0 w (lw_all_tbl h)
  have hw := e_ticket (x := xs (i + 1)) (y := xs (i + 2)) (z := xs (i + 3)) (G := G) (S := S) (o := o) (M := M) (k := 1) (n := 6) hI (Nat.le_refl _) (Nat.le_refl _)
  refine lv_aload_n hx hb dL_law_1654 rfl (lv_at hl 2 rfl) ?_
  refine lc_ld (k := 1) C0 hS hl hL (by omega) dL_law_1655 dL_law_1656 dL_law_1657 (by decide) dL_law_1658 dL_law_1659 ?_
  refine lc_ld (k := 2) C0 hS hl hL (by omega) dL_law_1660 dL_law_1661 dL_law_1662 (by decide) dL_law_1663 dL_law_1664 ?_
  refine lc_ld (k := 3) C0 hS hl hL (by omega) dL_law_1665 dL_law_1666 dL_law_1667 (by decide) dL_law_1668 dL_law_1669 ?_
  refine x_ci (va_runV (As := [.int (xs (i + 1)), .int (xs (i + 2)), .int (xs (i + 3))]) (rest := []) ⟨hx, hb, hml, hown, hts⟩ (mt_X0_ticket l hw) (cwV 3 hts (lw_V q892 q893 q894 q64 q895) rfl rfl rfl hd_X0_ticket ⟨Nat.le_of_ble_eq_true rfl, Nat.le_of_ble_eq_true rfl⟩) ⟨x_Pc_blind, hR.recv hK (ci := 0) rfl (by decide) hI.O_t, x_Pc_pre hR (Nat.le_refl _) hS hK⟩ rfl rfl hl.1 rfl (lv_room (Nat.le_of_ble_eq_true rfl)) dL_law_1670 ⟨by show cells + 1 ≤ 1200000; omega, by show slots + 6 ≤ 5502250; omega⟩) hS (fun r S1 H1 locs1 hp hR1 hS1 => ?_)
  have hp1 := hp
  refine lv_aload_n hx hb dL_law_1673 rfl (lv_at hl 1 rfl) ?_
  refine lc_ld (k := 1) C0 hS1 hl hL (by omega) dL_law_1674 dL_law_1675 dL_law_1676 (by decide) dL_law_1677 dL_law_1678 ?_
  refine lc_ld (k := 2) C0 hS1 hl hL (by omega) dL_law_1679 dL_law_1680 dL_law_1681 (by decide) dL_law_1682 dL_law_1683 ?_
  refine lc_ld (k := 3) C0 hS1 hl hL (by omega) dL_law_1684 dL_law_1685 dL_law_1686 (by decide) dL_law_1687 dL_law_1688 ?_
  refine xm_ci (va_runV (As := [.int (xs (i + 1)), .int (xs (i + 2)), .int (xs (i + 3))]) (rest := [.int r]) ⟨hx, hb, hml, hown, hts⟩ (mt_X1_ticket l hp1) (cwV 3 hts (lw_V q1398 q1399 q1400 q65 q1401) rfl rfl rfl hd_X1_ticket ⟨Nat.le_of_ble_eq_true rfl, Nat.le_of_ble_eq_true rfl⟩) ⟨x_Pc_blind, xm_recv hR1 hK, x_Pc_pre hR1 (Nat.le_refl _) hS1 hK⟩ rfl rfl hl.1 rfl (lv_room (Nat.le_of_ble_eq_true rfl)) dL_law_1689 ⟨by show cells + 1 + 0 ≤ 1200000; omega, by show slots + 6 + 0 ≤ 5502250; omega⟩) hS1 (fun r' M2 H2 locs2 hp2 hR2 hS2 => ?_)
  obtain ⟨er, G2, hI2⟩ := hp2
  refine lv_icmp_eq (tgt := 1901) hx hb dL_law_1692 (by decide) (fun _ => ?_) (fun z => absurd er z)
  refine W.widen (k := cells + 10000) (n := slots + 42000) (by omega) (by omega) ?_
  exact kk _ _ _ _ _ hR2 hI2 hS2
set_option maxHeartbeats 4000000 in
theorem lc_43 {p : Program} {l : Launch} {e : Env} {s : State} {m : MethodId} {below : List Frame} {meth : Method} {c : Code} {H : Heap} {locs : List Loc} {cells slots : Nat} {Q : State → Prop} {ls : Array Slot} {D : va_G} {d : Nat → ClassId} {b L : Nat} {xs : Nat → Int32} {o mo i : Nat} {Aa : Nat → Nat} {G : xG} {S : xH} {M : xM} (C0 : lw_At p s m meth c b L xs) (hK : x_KK D d s) (hR : x_Rp D d (x_A s.heap.size) (x_mc d mo Aa M) S H) (hI : Inv G S o M) (hS : va_S (x_A s.heap.size) s.heap H locs) (hl : lv_has ls 4 [(3, .int (nI i)), (2, .ref mo), (1, .ref o), (0, .ref b)]) (hL : L ≤ 640) (hi : i + 9 < L) (hc : cells + 10000 ≤ 1200000) (hs : slots + 42000 ≤ 5502250) (kk : ∀ (G : xG) (S : xH) (M : xM) (H : Heap) (locs : List Loc), x_Rp D d (x_A s.heap.size) (x_mc d mo Aa M) S H → Inv G S o M → va_S (x_A s.heap.size) s.heap H locs → W p l e room_1 s m #[Value.ref b] below meth c H locs (cells + 10000) (slots + 42000) Q (F0 m 1901 ls [])) : W p l e room_1 s m #[Value.ref b] below meth c H locs cells slots Q (F0 m 1697 ls []) := by
  obtain ⟨hx, hb, hr, hml, hown, hts0, hX, hbl, hlocks, hgv⟩ := id C0
  have hts : ∀ w ∈ lw_all, w.before #[Value.ref b] s = true := fun w h => hts0 w (lw_all_tbl h)
  have hw := e_sell (x := xs (i + 1)) (y := xs (i + 2)) (z := xs (i + 3)) (G := G) (S := S) (o := o) (M := M) hI
  refine lv_aload_n hx hb dL_law_1697 rfl (lv_at hl 2 rfl) ?_
  refine lc_ld (k := 1) C0 hS hl hL (by omega) dL_law_1698 dL_law_1699 dL_law_1700 (by decide) dL_law_1701 dL_law_1702 ?_
  refine lc_ld (k := 2) C0 hS hl hL (by omega) dL_law_1703 dL_law_1704 dL_law_1705 (by decide) dL_law_1706 dL_law_1707 ?_
  refine lc_ld (k := 3) C0 hS hl hL (by omega) dL_law_1708 dL_law_1709 dL_law_1710 (by decide) dL_law_1711 dL_law_1712 ?_
  refine x_ci (va_runV (As := [.int (xs (i + 1)), .int (xs (i + 2)), .int (xs (i + 3))]) (rest := []) ⟨hx, hb, hml, hown, hts⟩ (mt_X0_sell l hw) (cwV 3 hts (lw_V q923 q924 q925 q64 q926) rfl rfl rfl hd_X0_sell ⟨Nat.le_of_ble_eq_true rfl, Nat.le_of_ble_eq_true rfl⟩) ⟨x_Pc_blind, hR.recv hK (ci := 0) rfl (by decide) hI.O_t, x_Pc_pre hR (Nat.le_refl _) hS hK⟩ rfl rfl hl.1 rfl (lv_room (Nat.le_of_ble_eq_true rfl)) dL_law_1713 ⟨by show cells + 0 ≤ 1200000; omega, by show slots + 0 ≤ 5502250; omega⟩) hS (fun r S1 H1 locs1 hp hR1 hS1 => ?_)
  have hp1 := hp
  refine lv_aload_n hx hb dL_law_1716 rfl (lv_at hl 1 rfl) ?_
  refine lc_ld (k := 1) C0 hS1 hl hL (by omega) dL_law_1717 dL_law_1718 dL_law_1719 (by decide) dL_law_1720 dL_law_1721 ?_
  refine lc_ld (k := 2) C0 hS1 hl hL (by omega) dL_law_1722 dL_law_1723 dL_law_1724 (by decide) dL_law_1725 dL_law_1726 ?_
  refine lc_ld (k := 3) C0 hS1 hl hL (by omega) dL_law_1727 dL_law_1728 dL_law_1729 (by decide) dL_law_1730 dL_law_1731 ?_
  refine xm_ci (va_runV (As := [.int (xs (i + 1)), .int (xs (i + 2)), .int (xs (i + 3))]) (rest := [.int r]) ⟨hx, hb, hml, hown, hts⟩ (mt_X1_sell l hp1) (cwV 3 hts (lw_V q1403 q1404 q1405 q65 q1406) rfl rfl rfl hd_X1_sell ⟨Nat.le_of_ble_eq_true rfl, Nat.le_of_ble_eq_true rfl⟩) ⟨x_Pc_blind, xm_recv hR1 hK, x_Pc_pre hR1 (Nat.le_refl _) hS1 hK⟩ rfl rfl hl.1 rfl (lv_room (Nat.le_of_ble_eq_true rfl)) dL_law_1732 ⟨by show cells + 0 + 0 ≤ 1200000; omega, by show slots + 0 + 0 ≤ 5502250; omega⟩) hS1 (fun r' M2 H2 locs2 hp2 hR2 hS2 => ?_)
  obtain ⟨er, G2, hI2⟩ := hp2
  refine lv_icmp_eq (tgt := 1901) hx hb dL_law_1735 (by decide) (fun _ => ?_) (fun z => absurd er z)
  refine W.widen (k := cells + 10000) (n := slots + 42000) (by omega) (by omega) ?_
  exact kk _ _ _ _ _ hR2 hI2 hS2
set_option maxHeartbeats 4000000 in
theorem lc_44 {p : Program} {l : Launch} {e : Env} {s : State} {m : MethodId} {below : List Frame} {meth : Method} {c : Code} {H : Heap} {locs : List Loc} {cells slots : Nat} {Q : State → Prop} {ls : Array Slot} {D : va_G} {d : Nat → ClassId} {b L : Nat} {xs : Nat → Int32} {o mo i : Nat} {Aa : Nat → Nat} {G : xG} {S : xH} {M : xM} (C0 : lw_At p s m meth c b L xs) (hK : x_KK D d s) (hR : x_Rp D d (x_A s.heap.size) (x_mc d mo Aa M) S H) (hI : Inv G S o M) (hS : va_S (x_A s.heap.size) s.heap H locs) (hl : lv_has ls 4 [(3, .int (nI i)), (2, .ref mo), (1, .ref o), (0, .ref b)]) (hL : L ≤ 640) (hi : i + 9 < L) (hc : cells + 10000 ≤ 1200000) (hs : slots + 42000 ≤ 5502250) (kk : ∀ (G : xG) (S : xH) (M : xM) (H : Heap) (locs : List Loc), x_Rp D d (x_A s.heap.size) (x_mc d mo Aa M) S H → Inv G S o M → va_S (x_A s.heap.size) s.heap H locs → W p l e room_1 s m #[Value.ref b] below meth c H locs (cells + 10000) (slots + 42000) Q (F0 m 1901 ls [])) : W p l e room_1 s m #[Value.ref b] below meth c H locs cells slots Q (F0 m 1740 ls []) := by
  obtain ⟨hx, hb, hr, hml, hown, hts0, hX, hbl, hlocks, hgv⟩ := id C0
  have hts : ∀ w ∈ lw_all, w.before #[Value.ref b] s = true := fun w h => hts0 w (lw_all_tbl h)
  have hw := e_pay (x := xs (i + 1)) (y := xs (i + 2)) (G := G) (S := S) (o := o) (M := M) hI
  refine lv_aload_n hx hb dL_law_1740 rfl (lv_at hl 2 rfl) ?_
  refine lc_ld (k := 1) C0 hS hl hL (by omega) dL_law_1741 dL_law_1742 dL_law_1743 (by decide) dL_law_1744 dL_law_1745 ?_
  refine lc_ld (k := 2) C0 hS hl hL (by omega) dL_law_1746 dL_law_1747 dL_law_1748 (by decide) dL_law_1749 dL_law_1750 ?_
  refine x_ci (va_runV (As := [.int (xs (i + 1)), .int (xs (i + 2))]) (rest := []) ⟨hx, hb, hml, hown, hts⟩ (mt_X0_pay l hw) (cwV 2 hts (lw_V q938 q939 q940 q64 q941) rfl rfl rfl hd_X0_pay ⟨Nat.le_of_ble_eq_true rfl, Nat.le_of_ble_eq_true rfl⟩) ⟨x_Pc_blind, hR.recv hK (ci := 0) rfl (by decide) hI.O_t, x_Pc_pre hR (Nat.le_refl _) hS hK⟩ rfl rfl hl.1 rfl (lv_room (Nat.le_of_ble_eq_true rfl)) dL_law_1751 ⟨by show cells + 0 ≤ 1200000; omega, by show slots + 0 ≤ 5502250; omega⟩) hS (fun r S1 H1 locs1 hp hR1 hS1 => ?_)
  have hp1 := hp
  refine lv_aload_n hx hb dL_law_1754 rfl (lv_at hl 1 rfl) ?_
  refine lc_ld (k := 1) C0 hS1 hl hL (by omega) dL_law_1755 dL_law_1756 dL_law_1757 (by decide) dL_law_1758 dL_law_1759 ?_
  refine lc_ld (k := 2) C0 hS1 hl hL (by omega) dL_law_1760 dL_law_1761 dL_law_1762 (by decide) dL_law_1763 dL_law_1764 ?_
  refine xm_ci (va_runV (As := [.int (xs (i + 1)), .int (xs (i + 2))]) (rest := [.int r]) ⟨hx, hb, hml, hown, hts⟩ (mt_X1_pay l hp1) (cwV 2 hts (lw_V q1419 q1420 q1421 q65 q1422) rfl rfl rfl hd_X1_pay ⟨Nat.le_of_ble_eq_true rfl, Nat.le_of_ble_eq_true rfl⟩) ⟨x_Pc_blind, xm_recv hR1 hK, x_Pc_pre hR1 (Nat.le_refl _) hS1 hK⟩ rfl rfl hl.1 rfl (lv_room (Nat.le_of_ble_eq_true rfl)) dL_law_1765 ⟨by show cells + 0 + 0 ≤ 1200000; omega, by show slots + 0 + 0 ≤ 5502250; omega⟩) hS1 (fun r' M2 H2 locs2 hp2 hR2 hS2 => ?_)
  obtain ⟨er, G2, hI2⟩ := hp2
  refine lv_icmp_eq (tgt := 1901) hx hb dL_law_1768 (by decide) (fun _ => ?_) (fun z => absurd er z)
  refine W.widen (k := cells + 10000) (n := slots + 42000) (by omega) (by omega) ?_
  exact kk _ _ _ _ _ hR2 hI2 hS2
set_option maxHeartbeats 4000000 in
theorem lc_45 {p : Program} {l : Launch} {e : Env} {s : State} {m : MethodId} {below : List Frame} {meth : Method} {c : Code} {H : Heap} {locs : List Loc} {cells slots : Nat} {Q : State → Prop} {ls : Array Slot} {D : va_G} {d : Nat → ClassId} {b L : Nat} {xs : Nat → Int32} {o mo i : Nat} {Aa : Nat → Nat} {G : xG} {S : xH} {M : xM} (C0 : lw_At p s m meth c b L xs) (hK : x_KK D d s) (hR : x_Rp D d (x_A s.heap.size) (x_mc d mo Aa M) S H) (hI : Inv G S o M) (hS : va_S (x_A s.heap.size) s.heap H locs) (hl : lv_has ls 4 [(3, .int (nI i)), (2, .ref mo), (1, .ref o), (0, .ref b)]) (hL : L ≤ 640) (hi : i + 9 < L) (hc : cells + 10000 ≤ 1200000) (hs : slots + 42000 ≤ 5502250) (kk : ∀ (G : xG) (S : xH) (M : xM) (H : Heap) (locs : List Loc), x_Rp D d (x_A s.heap.size) (x_mc d mo Aa M) S H → Inv G S o M → va_S (x_A s.heap.size) s.heap H locs → W p l e room_1 s m #[Value.ref b] below meth c H locs (cells + 10000) (slots + 42000) Q (F0 m 1901 ls [])) : W p l e room_1 s m #[Value.ref b] below meth c H locs cells slots Q (F0 m 1773 ls []) := by
  obtain ⟨hx, hb, hr, hml, hown, hts0, hX, hbl, hlocks, hgv⟩ := id C0
  have hts : ∀ w ∈ lw_all, w.before #[Value.ref b] s = true := fun w h => hts0 w (lw_all_tbl h)
  have hw := e_ticketOf (x := xs (i + 1)) (y := xs (i + 2)) (G := G) (S := S) (o := o) (M := M) hI
  refine lv_aload_n hx hb dL_law_1773 rfl (lv_at hl 2 rfl) ?_
  refine lc_ld (k := 1) C0 hS hl hL (by omega) dL_law_1774 dL_law_1775 dL_law_1776 (by decide) dL_law_1777 dL_law_1778 ?_
  refine lc_ld (k := 2) C0 hS hl hL (by omega) dL_law_1779 dL_law_1780 dL_law_1781 (by decide) dL_law_1782 dL_law_1783 ?_
  refine x_ci (va_runV (As := [.int (xs (i + 1)), .int (xs (i + 2))]) (rest := []) ⟨hx, hb, hml, hown, hts⟩ (mt_X0_ticketOf l hw) (cwV 2 hts (lw_V q942 q943 q944 q64 q945) rfl rfl rfl hd_X0_ticketOf ⟨Nat.le_of_ble_eq_true rfl, Nat.le_of_ble_eq_true rfl⟩) ⟨x_Pc_blind, hR.recv hK (ci := 0) rfl (by decide) hI.O_t, x_Pc_pre hR (Nat.le_refl _) hS hK⟩ rfl rfl hl.1 rfl (lv_room (Nat.le_of_ble_eq_true rfl)) dL_law_1784 ⟨by show cells + 0 ≤ 1200000; omega, by show slots + 0 ≤ 5502250; omega⟩) hS (fun r S1 H1 locs1 hp hR1 hS1 => ?_)
  have hp1 := hp.2
  rw [hp.1] at hR1
  refine lv_aload_n hx hb dL_law_1787 rfl (lv_at hl 1 rfl) ?_
  refine lc_ld (k := 1) C0 hS1 hl hL (by omega) dL_law_1788 dL_law_1789 dL_law_1790 (by decide) dL_law_1791 dL_law_1792 ?_
  refine lc_ld (k := 2) C0 hS1 hl hL (by omega) dL_law_1793 dL_law_1794 dL_law_1795 (by decide) dL_law_1796 dL_law_1797 ?_
  refine xm_ci (va_runV (As := [.int (xs (i + 1)), .int (xs (i + 2))]) (rest := [.int r]) ⟨hx, hb, hml, hown, hts⟩ (mt_X1_ticketOf l hp1) (cwV 2 hts (lw_V q1423 q1424 q1425 q65 q1426) rfl rfl rfl hd_X1_ticketOf ⟨Nat.le_of_ble_eq_true rfl, Nat.le_of_ble_eq_true rfl⟩) ⟨x_Pc_blind, xm_recv hR1 hK, x_Pc_pre hR1 (Nat.le_refl _) hS1 hK⟩ rfl rfl hl.1 rfl (lv_room (Nat.le_of_ble_eq_true rfl)) dL_law_1798 ⟨by show cells + 0 + 0 ≤ 1200000; omega, by show slots + 0 + 0 ≤ 5502250; omega⟩) hS1 (fun r' M2 H2 locs2 hp2 hR2 hS2 => ?_)
  obtain ⟨er, G2, hI2⟩ := hp2
  refine lv_icmp_eq (tgt := 1901) hx hb dL_law_1801 (by decide) (fun _ => ?_) (fun z => absurd er z)
  refine W.widen (k := cells + 10000) (n := slots + 42000) (by omega) (by omega) ?_
  exact kk _ _ _ _ _ hR2 hI2 hS2
set_option maxHeartbeats 4000000 in
theorem lc_46 {p : Program} {l : Launch} {e : Env} {s : State} {m : MethodId} {below : List Frame} {meth : Method} {c : Code} {H : Heap} {locs : List Loc} {cells slots : Nat} {Q : State → Prop} {ls : Array Slot} {D : va_G} {d : Nat → ClassId} {b L : Nat} {xs : Nat → Int32} {o mo i : Nat} {Aa : Nat → Nat} {G : xG} {S : xH} {M : xM} (C0 : lw_At p s m meth c b L xs) (hK : x_KK D d s) (hR : x_Rp D d (x_A s.heap.size) (x_mc d mo Aa M) S H) (hI : Inv G S o M) (hS : va_S (x_A s.heap.size) s.heap H locs) (hl : lv_has ls 4 [(3, .int (nI i)), (2, .ref mo), (1, .ref o), (0, .ref b)]) (hL : L ≤ 640) (hi : i + 9 < L) (hc : cells + 10000 ≤ 1200000) (hs : slots + 42000 ≤ 5502250) (kk : ∀ (G : xG) (S : xH) (M : xM) (H : Heap) (locs : List Loc), x_Rp D d (x_A s.heap.size) (x_mc d mo Aa M) S H → Inv G S o M → va_S (x_A s.heap.size) s.heap H locs → W p l e room_1 s m #[Value.ref b] below meth c H locs (cells + 10000) (slots + 42000) Q (F0 m 1901 ls [])) : W p l e room_1 s m #[Value.ref b] below meth c H locs cells slots Q (F0 m 1806 ls []) := by
  obtain ⟨hx, hb, hr, hml, hown, hts0, hX, hbl, hlocks, hgv⟩ := id C0
  have hts : ∀ w ∈ lw_all, w.before #[Value.ref b] s = true := fun w h => hts0 w (lw_all_tbl h)
  have hw := e_purse (x := xs (i + 1)) (G := G) (S := S) (o := o) (M := M) hI
  refine lv_aload_n hx hb dL_law_1806 rfl (lv_at hl 2 rfl) ?_
  refine lc_ld (k := 1) C0 hS hl hL (by omega) dL_law_1807 dL_law_1808 dL_law_1809 (by decide) dL_law_1810 dL_law_1811 ?_
  refine x_ci (va_runV (As := [.int (xs (i + 1))]) (rest := []) ⟨hx, hb, hml, hown, hts⟩ (mt_X0_purse l hw) (cwV 1 hts (lw_V q946 q947 q948 q64 q949) rfl rfl rfl hd_X0_purse ⟨Nat.le_of_ble_eq_true rfl, Nat.le_of_ble_eq_true rfl⟩) ⟨x_Pc_blind, hR.recv hK (ci := 0) rfl (by decide) hI.O_t, x_Pc_pre hR (Nat.le_refl _) hS hK⟩ rfl rfl hl.1 rfl (lv_room (Nat.le_of_ble_eq_true rfl)) dL_law_1812 ⟨by show cells + 0 ≤ 1200000; omega, by show slots + 0 ≤ 5502250; omega⟩) hS (fun r S1 H1 locs1 hp hR1 hS1 => ?_)
  have hp1 := hp.2
  rw [hp.1] at hR1
  refine lv_aload_n hx hb dL_law_1815 rfl (lv_at hl 1 rfl) ?_
  refine lc_ld (k := 1) C0 hS1 hl hL (by omega) dL_law_1816 dL_law_1817 dL_law_1818 (by decide) dL_law_1819 dL_law_1820 ?_
  refine xm_ci (va_runV (As := [.int (xs (i + 1))]) (rest := [.int r]) ⟨hx, hb, hml, hown, hts⟩ (mt_X1_purse l hp1) (cwV 1 hts (lw_V q1427 q1428 q1429 q65 q1430) rfl rfl rfl hd_X1_purse ⟨Nat.le_of_ble_eq_true rfl, Nat.le_of_ble_eq_true rfl⟩) ⟨x_Pc_blind, xm_recv hR1 hK, x_Pc_pre hR1 (Nat.le_refl _) hS1 hK⟩ rfl rfl hl.1 rfl (lv_room (Nat.le_of_ble_eq_true rfl)) dL_law_1821 ⟨by show cells + 0 + 0 ≤ 1200000; omega, by show slots + 0 + 0 ≤ 5502250; omega⟩) hS1 (fun r' M2 H2 locs2 hp2 hR2 hS2 => ?_)
  obtain ⟨er, G2, hI2⟩ := hp2
  refine lv_icmp_eq (tgt := 1901) hx hb dL_law_1824 (by decide) (fun _ => ?_) (fun z => absurd er z)
  refine W.widen (k := cells + 10000) (n := slots + 42000) (by omega) (by omega) ?_
  exact kk _ _ _ _ _ hR2 hI2 hS2
set_option maxHeartbeats 4000000 in
theorem lc_47 {p : Program} {l : Launch} {e : Env} {s : State} {m : MethodId} {below : List Frame} {meth : Method} {c : Code} {H : Heap} {locs : List Loc} {cells slots : Nat} {Q : State → Prop} {ls : Array Slot} {D : va_G} {d : Nat → ClassId} {b L : Nat} {xs : Nat → Int32} {o mo i : Nat} {Aa : Nat → Nat} {G : xG} {S : xH} {M : xM} (C0 : lw_At p s m meth c b L xs) (hK : x_KK D d s) (hR : x_Rp D d (x_A s.heap.size) (x_mc d mo Aa M) S H) (hI : Inv G S o M) (hS : va_S (x_A s.heap.size) s.heap H locs) (hl : lv_has ls 4 [(3, .int (nI i)), (2, .ref mo), (1, .ref o), (0, .ref b)]) (hL : L ≤ 640) (hi : i + 9 < L) (hc : cells + 10000 ≤ 1200000) (hs : slots + 42000 ≤ 5502250) (kk : ∀ (G : xG) (S : xH) (M : xM) (H : Heap) (locs : List Loc), x_Rp D d (x_A s.heap.size) (x_mc d mo Aa M) S H → Inv G S o M → va_S (x_A s.heap.size) s.heap H locs → W p l e room_1 s m #[Value.ref b] below meth c H locs (cells + 10000) (slots + 42000) Q (F0 m 1901 ls [])) : W p l e room_1 s m #[Value.ref b] below meth c H locs cells slots Q (F0 m 1829 ls []) := by
  obtain ⟨hx, hb, hr, hml, hown, hts0, hX, hbl, hlocks, hgv⟩ := id C0
  have hts : ∀ w ∈ lw_all, w.before #[Value.ref b] s = true := fun w h => hts0 w (lw_all_tbl h)
  have hw := e_wages (x := xs (i + 1)) (y := nz (xs (i + 2))) (G := G) (S := S) (o := o) (M := M) hI (nz_B _)
  refine lv_aload_n hx hb dL_law_1829 rfl (lv_at hl 2 rfl) ?_
  refine lc_ld (k := 1) C0 hS hl hL (by omega) dL_law_1830 dL_law_1831 dL_law_1832 (by decide) dL_law_1833 dL_law_1834 ?_
  refine lc_ld (k := 2) C0 hS hl hL (by omega) dL_law_1835 dL_law_1836 dL_law_1837 (by decide) dL_law_1838 dL_law_1839 ?_
  refine lc_nz C0 dL_law_1840 dL_law_1843 dL_law_1844 dL_law_1847 ?_
  refine x_ci (va_runV (As := [.int (xs (i + 1)), .int (nz (xs (i + 2)))]) (rest := []) ⟨hx, hb, hml, hown, hts⟩ (mt_X0_wages l hw) (cwV 2 hts (lw_V q951 q952 q953 q64 q954) rfl rfl rfl hd_X0_wages ⟨Nat.le_of_ble_eq_true rfl, Nat.le_of_ble_eq_true rfl⟩) ⟨x_Pc_blind, hR.recv hK (ci := 0) rfl (by decide) hI.O_t, x_Pc_pre hR (Nat.le_refl _) hS hK⟩ rfl rfl hl.1 rfl (lv_room (Nat.le_of_ble_eq_true rfl)) dL_law_1848 ⟨by show cells + 0 ≤ 1200000; omega, by show slots + 0 ≤ 5502250; omega⟩) hS (fun r S1 H1 locs1 hp hR1 hS1 => ?_)
  have hp1 := hp.2
  rw [hp.1] at hR1
  refine lv_aload_n hx hb dL_law_1851 rfl (lv_at hl 1 rfl) ?_
  refine lc_ld (k := 1) C0 hS1 hl hL (by omega) dL_law_1852 dL_law_1853 dL_law_1854 (by decide) dL_law_1855 dL_law_1856 ?_
  refine lc_ld (k := 2) C0 hS1 hl hL (by omega) dL_law_1857 dL_law_1858 dL_law_1859 (by decide) dL_law_1860 dL_law_1861 ?_
  refine lc_nz C0 dL_law_1862 dL_law_1865 dL_law_1866 dL_law_1869 ?_
  refine xm_ci (va_runV (As := [.int (xs (i + 1)), .int (nz (xs (i + 2)))]) (rest := [.int r]) ⟨hx, hb, hml, hown, hts⟩ (mt_X1_wages l hp1) (cwV 2 hts (lw_V q1432 q1433 q1434 q65 q1435) rfl rfl rfl hd_X1_wages ⟨Nat.le_of_ble_eq_true rfl, Nat.le_of_ble_eq_true rfl⟩) ⟨x_Pc_blind, xm_recv hR1 hK, x_Pc_pre hR1 (Nat.le_refl _) hS1 hK⟩ rfl rfl hl.1 rfl (lv_room (Nat.le_of_ble_eq_true rfl)) dL_law_1870 ⟨by show cells + 0 + 0 ≤ 1200000; omega, by show slots + 0 + 0 ≤ 5502250; omega⟩) hS1 (fun r' M2 H2 locs2 hp2 hR2 hS2 => ?_)
  obtain ⟨er, G2, hI2⟩ := hp2
  refine lv_icmp_eq (tgt := 1901) hx hb dL_law_1873 (by decide) (fun _ => ?_) (fun z => absurd er z)
  refine W.widen (k := cells + 10000) (n := slots + 42000) (by omega) (by omega) ?_
  exact kk _ _ _ _ _ hR2 hI2 hS2
set_option maxHeartbeats 4000000 in
theorem lc_48 {p : Program} {l : Launch} {e : Env} {s : State} {m : MethodId} {below : List Frame} {meth : Method} {c : Code} {H : Heap} {locs : List Loc} {cells slots : Nat} {Q : State → Prop} {ls : Array Slot} {D : va_G} {d : Nat → ClassId} {b L : Nat} {xs : Nat → Int32} {o mo i : Nat} {Aa : Nat → Nat} {G : xG} {S : xH} {M : xM} (C0 : lw_At p s m meth c b L xs) (hK : x_KK D d s) (hR : x_Rp D d (x_A s.heap.size) (x_mc d mo Aa M) S H) (hI : Inv G S o M) (hS : va_S (x_A s.heap.size) s.heap H locs) (hl : lv_has ls 4 [(3, .int (nI i)), (2, .ref mo), (1, .ref o), (0, .ref b)]) (hL : L ≤ 640) (hi : i + 9 < L) (hc : cells + 10000 ≤ 1200000) (hs : slots + 42000 ≤ 5502250) (kk : ∀ (G : xG) (S : xH) (M : xM) (H : Heap) (locs : List Loc), x_Rp D d (x_A s.heap.size) (x_mc d mo Aa M) S H → Inv G S o M → va_S (x_A s.heap.size) s.heap H locs → W p l e room_1 s m #[Value.ref b] below meth c H locs (cells + 10000) (slots + 42000) Q (F0 m 1901 ls [])) : W p l e room_1 s m #[Value.ref b] below meth c H locs cells slots Q (F0 m 1878 ls []) := by
  obtain ⟨hx, hb, hr, hml, hown, hts0, hX, hbl, hlocks, hgv⟩ := id C0
  have hts : ∀ w ∈ lw_all, w.before #[Value.ref b] s = true := fun w h => hts0 w (lw_all_tbl h)
  have hw := e_count (x := xs (i + 1)) (G := G) (S := S) (o := o) (M := M) hI
  refine lv_aload_n hx hb dL_law_1878 rfl (lv_at hl 2 rfl) ?_
  refine lc_ld (k := 1) C0 hS hl hL (by omega) dL_law_1879 dL_law_1880 dL_law_1881 (by decide) dL_law_1882 dL_law_1883 ?_
  refine x_ci (va_runV (As := [.int (xs (i + 1))]) (rest := []) ⟨hx, hb, hml, hown, hts⟩ (mt_X0_count l hw) (cwV 1 hts (lw_V q955 q956 q957 q64 q958) rfl rfl rfl hd_X0_count ⟨Nat.le_of_ble_eq_true rfl, Nat.le_of_ble_eq_true rfl⟩) ⟨x_Pc_blind, hR.recv hK (ci := 0) rfl (by decide) hI.O_t, x_Pc_pre hR (Nat.le_refl _) hS hK⟩ rfl rfl hl.1 rfl (lv_room (Nat.le_of_ble_eq_true rfl)) dL_law_1884 ⟨by show cells + 0 ≤ 1200000; omega, by show slots + 0 ≤ 5502250; omega⟩) hS (fun r S1 H1 locs1 hp hR1 hS1 => ?_)
  have hp1 := hp.2
  rw [hp.1] at hR1
  refine lv_aload_n hx hb dL_law_1887 rfl (lv_at hl 1 rfl) ?_
  refine lc_ld (k := 1) C0 hS1 hl hL (by omega) dL_law_1888 dL_law_1889 dL_law_1890 (by decide) dL_law_1891 dL_law_1892 ?_
  refine xm_ci (va_runV (As := [.int (xs (i + 1))]) (rest := [.int r]) ⟨hx, hb, hml, hown, hts⟩ (mt_X1_count l hp1) (cwV 1 hts (lw_V q1436 q1437 q1438 q65 q1439) rfl rfl rfl hd_X1_count ⟨Nat.le_of_ble_eq_true rfl, Nat.le_of_ble_eq_true rfl⟩) ⟨x_Pc_blind, xm_recv hR1 hK, x_Pc_pre hR1 (Nat.le_refl _) hS1 hK⟩ rfl rfl hl.1 rfl (lv_room (Nat.le_of_ble_eq_true rfl)) dL_law_1893 ⟨by show cells + 0 + 0 ≤ 1200000; omega, by show slots + 0 + 0 ≤ 5502250; omega⟩) hS1 (fun r' M2 H2 locs2 hp2 hR2 hS2 => ?_)
  obtain ⟨er, G2, hI2⟩ := hp2
  refine lv_icmp_eq (tgt := 1901) hx hb dL_law_1896 (by decide) (fun _ => ?_) (fun z => absurd er z)
  refine W.widen (k := cells + 10000) (n := slots + 42000) (by omega) (by omega) ?_
  exact kk _ _ _ _ _ hR2 hI2 hS2
