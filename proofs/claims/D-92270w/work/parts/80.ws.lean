set_option maxRecDepth 100000
/-! ===== the law's start ===== -/
theorem x_nw_of {w : Cond} {s : State} {args : Array Value} (h : x_nw w = true) (hb : w.before args s = true) : va_Nw w s := by
  unfold x_nw at h
  split at h
  · exact va_tabs rfl rfl hb
  · exact va_tabs rfl rfl hb
  · exact va_tabs rfl rfl hb
  · exact hb
  · exact hb
  · cases h
theorem x_start {s : State} {args : Array Value} (hts0 : ∀ w ∈ lw_tbl, w.before args s = true) : ∃ (D : va_G) (d : Nat → ClassId), x_KK D d s := by
  have hts : ∀ w ∈ lw_all, w.before args s = true := fun w h => hts0 w (lw_all_tbl h)
  have hc : ∀ k : Nat, ∃ z : ClassId × (Nat → Nat), ∀ q, vwCl[k]? = some q → u_Kn s q.1 q.2.1 q.2.2 z.1 z.2 := fun k => by
    match k with
    | 0 =>
      obtain ⟨a, f, h⟩ := u_known (C := RX0) (T := TX0) (N := 19) (n := 19) hts in_X0 (hts _ q88)
      exact ⟨(a, f), fun q hq => by cases hq; exact h⟩
    | 1 =>
      obtain ⟨a, f, h⟩ := u_known (C := RX1) (T := TX1) (N := 39) (n := 39) hts in_X1 (hts _ q960)
      exact ⟨(a, f), fun q hq => by cases hq; exact h⟩
    | 2 =>
      obtain ⟨a, f, h⟩ := u_known (C := RX2) (T := TX2) (N := 5) (n := 5) hts in_X2 (hts _ q201)
      exact ⟨(a, f), fun q hq => by cases hq; exact h⟩
    | 3 =>
      obtain ⟨a, f, h⟩ := u_known (C := RX3) (T := TX3) (N := 3) (n := 3) hts in_X3 (hts _ q207)
      exact ⟨(a, f), fun q hq => by cases hq; exact h⟩
    | 4 =>
      obtain ⟨a, f, h⟩ := u_known (C := RX4) (T := TX4) (N := 4) (n := 4) hts in_X4 (hts _ q348)
      exact ⟨(a, f), fun q hq => by cases hq; exact h⟩
    | 5 =>
      obtain ⟨a, f, h⟩ := u_known (C := RX5) (T := TX5) (N := 6) (n := 6) hts in_X5 (hts _ q403)
      exact ⟨(a, f), fun q hq => by cases hq; exact h⟩
    | 6 =>
      obtain ⟨a, f, h⟩ := u_known (C := RX7) (T := TX7) (N := 2) (n := 2) hts in_X7 (hts _ q460)
      exact ⟨(a, f), fun q hq => by cases hq; exact h⟩
    | 7 =>
      obtain ⟨a, f, h⟩ := u_known (C := RX7) (T := TX7) (N := 2) (n := 2) hts in_X7 (hts _ q460)
      exact ⟨(a, f), fun q hq => by cases hq; exact h⟩
    | 8 =>
      obtain ⟨a, f, h⟩ := u_known (C := RX8) (T := TX8) (N := 2) (n := 2) hts in_X8 (hts _ q476)
      exact ⟨(a, f), fun q hq => by cases hq; exact h⟩
    | 9 =>
      obtain ⟨a, f, h⟩ := u_known (C := RX9) (T := TX9) (N := 1) (n := 1) hts in_X9 (hts _ q485)
      exact ⟨(a, f), fun q hq => by cases hq; exact h⟩
    | 10 =>
      obtain ⟨a, f, h⟩ := u_known (C := RX10) (T := TX10) (N := 2) (n := 2) hts in_X10 (hts _ q508)
      exact ⟨(a, f), fun q hq => by cases hq; exact h⟩
    | 11 =>
      obtain ⟨a, f, h⟩ := u_known (C := RX11) (T := TX11) (N := 2) (n := 2) hts in_X11 (hts _ q521)
      exact ⟨(a, f), fun q hq => by cases hq; exact h⟩
    | 12 =>
      obtain ⟨a, f, h⟩ := u_known (C := RX12) (T := TX12) (N := 2) (n := 2) hts in_X12 (hts _ q530)
      exact ⟨(a, f), fun q hq => by cases hq; exact h⟩
    | 13 =>
      obtain ⟨a, f, h⟩ := u_known (C := RX13) (T := TX13) (N := 0) (n := 0) hts in_X13 (hts _ q539)
      exact ⟨(a, f), fun q hq => by cases hq; exact h⟩
    | 14 =>
      obtain ⟨a, f, h⟩ := u_known (C := RX14) (T := TX14) (N := 0) (n := 0) hts in_X14 (hts _ q546)
      exact ⟨(a, f), fun q hq => by cases hq; exact h⟩
    | 15 =>
      obtain ⟨a, f, h⟩ := u_known (C := RX15) (T := TX15) (N := 0) (n := 0) hts in_X15 (hts _ q553)
      exact ⟨(a, f), fun q hq => by cases hq; exact h⟩
    | 16 =>
      obtain ⟨a, f, h⟩ := u_known (C := RX16) (T := TX16) (N := 6) (n := 6) hts in_X16 (hts _ q654)
      exact ⟨(a, f), fun q hq => by cases hq; exact h⟩
    | 17 =>
      obtain ⟨a, f, h⟩ := u_known (C := RX17) (T := TX17) (N := 10) (n := 10) hts in_X17 (hts _ q721)
      exact ⟨(a, f), fun q hq => by cases hq; exact h⟩
    | 18 =>
      obtain ⟨a, f, h⟩ := u_known (C := RX18) (T := TX18) (N := 5) (n := 5) hts in_X18 (hts _ q793)
      exact ⟨(a, f), fun q hq => by cases hq; exact h⟩
    | 19 =>
      obtain ⟨a, f, h⟩ := u_known (C := RX19) (T := TX19) (N := 6) (n := 6) hts in_X19 (hts _ q896)
      exact ⟨(a, f), fun q hq => by cases hq; exact h⟩
    | k + 20 => exact ⟨(0, fun _ => 0), fun q hq => by simp [vwCl] at hq⟩
  have ha : ∀ k : Nat, ∃ z : ClassId, ∀ q, ([.int, .boolean, .object "PressedMen$Man", .object "PressedMen$Paper", .object "PressedMen$Act", .object "PressedMen$Taking", .object "PressedMen$Ship", .object "PressedMen$Ticket", .array .boolean, .array .int] : List FieldType)[k]? = some q → ArrOfT s z q ∧ va_RA s z q := fun k => by
    match k with
    | 0 =>
      obtain ⟨z, kA, comp, h1, h2, h3⟩ := Cond.arrayClass_spec (hts _ q173)
      exact ⟨z, fun q hq => by cases hq; exact ⟨fun n y => ⟨fun k h => (by cases h), kA, h2, comp, h3⟩, h1⟩⟩
    | 1 =>
      obtain ⟨z, kA, comp, h1, h2, h3⟩ := Cond.arrayClass_spec (hts _ q172)
      exact ⟨z, fun q hq => by cases hq; exact ⟨fun n y => ⟨fun k h => (by cases h), kA, h2, comp, h3⟩, h1⟩⟩
    | 2 =>
      obtain ⟨comp, z, kA, h1, _, h3, h4, h5⟩ := Cond.arrayOver_spec (hts0 _ q98)
      exact ⟨z, fun q hq => by cases hq; exact ⟨fun n y => ⟨fun k h => (by cases h), kA, h3, comp, h4⟩, kA, comp, h3, h4, h1, h5⟩⟩
    | 3 =>
      obtain ⟨comp, z, kA, h1, _, h3, h4, h5⟩ := Cond.arrayOver_spec (hts0 _ q100)
      exact ⟨z, fun q hq => by cases hq; exact ⟨fun n y => ⟨fun k h => (by cases h), kA, h3, comp, h4⟩, kA, comp, h3, h4, h1, h5⟩⟩
    | 4 =>
      obtain ⟨comp, z, kA, h1, _, h3, h4, h5⟩ := Cond.arrayOver_spec (hts0 _ q102)
      exact ⟨z, fun q hq => by cases hq; exact ⟨fun n y => ⟨fun k h => (by cases h), kA, h3, comp, h4⟩, kA, comp, h3, h4, h1, h5⟩⟩
    | 5 =>
      obtain ⟨comp, z, kA, h1, _, h3, h4, h5⟩ := Cond.arrayOver_spec (hts0 _ q104)
      exact ⟨z, fun q hq => by cases hq; exact ⟨fun n y => ⟨fun k h => (by cases h), kA, h3, comp, h4⟩, kA, comp, h3, h4, h1, h5⟩⟩
    | 6 =>
      obtain ⟨comp, z, kA, h1, _, h3, h4, h5⟩ := Cond.arrayOver_spec (hts0 _ q106)
      exact ⟨z, fun q hq => by cases hq; exact ⟨fun n y => ⟨fun k h => (by cases h), kA, h3, comp, h4⟩, kA, comp, h3, h4, h1, h5⟩⟩
    | 7 =>
      obtain ⟨comp, z, kA, h1, _, h3, h4, h5⟩ := Cond.arrayOver_spec (hts0 _ q108)
      exact ⟨z, fun q hq => by cases hq; exact ⟨fun n y => ⟨fun k h => (by cases h), kA, h3, comp, h4⟩, kA, comp, h3, h4, h1, h5⟩⟩
    | 8 =>
      obtain ⟨comp, z, kA, h1, _, h3, h4, h5⟩ := arrayOverA_spec (hts0 _ q96)
      exact ⟨z, fun q hq => by cases hq; exact ⟨fun n y => ⟨fun k h => (by cases h), kA, h3, comp, h4⟩, h5⟩⟩
    | 9 =>
      obtain ⟨comp, z, kA, h1, _, h3, h4, h5⟩ := arrayOverA_spec (hts0 _ q727)
      exact ⟨z, fun q hq => by cases hq; exact ⟨fun n y => ⟨fun k h => (by cases h), kA, h3, comp, h4⟩, h5⟩⟩
    | k + 10 => exact ⟨0, fun q hq => by simp at hq⟩
  obtain ⟨f, hf⟩ := Classical.axiomOfChoice hc
  obtain ⟨g, hg⟩ := Classical.axiomOfChoice ha
  refine ⟨(fun c => (f c).1, fun c => (f c).2), fun t => g (t - 101), ⟨fun c q hq => hf c q hq, fun k q hq => ?_⟩, fun w hw hn => x_nw_of hn (hts0 w hw)⟩
  match k, hq with
  | 0, hq => cases hq; exact hg 0 _ rfl
  | 1, hq => cases hq; exact hg 1 _ rfl
  | 2, hq => cases hq; exact hg 2 _ rfl
  | 3, hq => cases hq; exact hg 3 _ rfl
  | 4, hq => cases hq; exact hg 4 _ rfl
  | 5, hq => cases hq; exact hg 5 _ rfl
  | 6, hq => cases hq; exact hg 6 _ rfl
  | 7, hq => cases hq; exact hg 7 _ rfl
  | 8, hq => cases hq; exact hg 8 _ rfl
  | 9, hq => cases hq; exact hg 9 _ rfl
  | k + 10, hq => simp [x_tys] at hq
set_option maxHeartbeats 4000000 in
theorem whole_start {p : Program} {e : Env} {s : State} {m : MethodId} {below : List Frame} {meth : Method} {c : Code} (l : Launch) {b L : Nat} {xs : Nat → Int32} (hL : L ≤ 640) (C0 : lw_At p s m meth c b L xs) : W p l e room_1 s m #[Value.ref b] below meth c s.heap [] 0 0 (lw_Z below #[Value.ref b] s) (entryFrame m ([Value.ref b] : List Value).toArray 4) := by
  obtain ⟨hx, hb, hr, hml, hown, hts0, hX, hbl, hlocks, hgv⟩ := id C0
  have hts : ∀ w ∈ lw_all, w.before #[Value.ref b] s = true := fun w h => hts0 w (lw_all_tbl h)
  obtain ⟨D, d, hK⟩ := x_start hts0
  have hA : ∀ q : Nat, s.heap.size ≤ q → x_A s.heap.size q := fun _ h => h
  have hS : va_S (x_A s.heap.size) s.heap s.heap [] := va_S.rf
  obtain ⟨S0, eS0⟩ : ∃ S0 : xH, xT S0 = fun _ => 0 := ⟨(fun _ => 0, fun _ => 0, fun _ _ => 0, fun _ _ => none, fun _ _ => 0, fun _ _ => none), rfl⟩
  have hR : x_Rp D d (x_A s.heap.size) [] S0 s.heap := ⟨[], fun k q h => by simp at h, ⟨fun i j p q h => by simp at h, fun k q h => by simp at h⟩, fun a ha => absurd (by rw [eS0]) ha⟩
  have hl := lv_entry ([.ref b]) (n := 4) (Nat.le_of_ble_eq_true rfl)
  rw [lg_entry_eq]
  generalize (lg_sl ([.ref b]) ++ List.replicate (4 - (lg_sl ([.ref b])).length) Slot.unset).toArray = ls at hl ⊢
  have hl : lv_has ls 4 [(0, .ref b)] := hl
  refine x_new (ci := 0) (C := RX0) (T := TX0) (N := 19) hx hb hts in_X0 tyX0 tyX0_ok hown (hts _ q87) (hts _ q88) (hts _ q64) hK hR hS hA rfl (by decide) dfX0 dL_law_0 (by show 0 + 1 ≤ 1200000; decide) (by show 0 + 19 ≤ 5502250; decide) (fun o H1 hf hR1 hS1 => ?_)
  refine lv_dup hx hb dL_law_3 rfl ?_
  refine x_cv (va_runI (As := []) (rest := [.ref o]) ⟨hx, hb, hml, hown, hts⟩ (mt_X0_init l (c_start (Q := fun S' => ∃ G, Inv G S' o M0) hf (fun S' h => h))) (cwI 0 hts (lw_meth q91) rfl rfl rfl (hts _ q64) (hts _ q89) (hts _ q90) rfl hd_X0_init.2 ⟨Nat.le_of_ble_eq_true rfl, Nat.le_of_ble_eq_true rfl⟩) ⟨x_Pc_blind, x_Pc_pre hR1 (Nat.le_refl _) hS1 hK⟩ rfl rfl hl.1 rfl (lv_room (Nat.le_of_ble_eq_true rfl)) dL_law_4 ⟨by show 0 + 1 + 16 ≤ 1200000; decide, by show 0 + 19 + 300 ≤ 5502250; decide⟩) hS1 (fun S2 H2 locs2 hp hR2 hS2 => ?_)
  obtain ⟨G, hI⟩ := hp
  refine lv_astore_n (lv' := [(1, .ref o), (0, .ref b)]) hx hb dL_law_7 rfl hl (by decide) rfl (fun ls hl => ?_)
  refine x_new (ci := 1) (C := RX1) (T := TX1) (N := 39) hx hb hts in_X1 tyX1 tyX1_ok hown (hts _ q959) (hts _ q960) (hts _ q65) hK hR2 hS2 hA rfl (by decide) dfX1 dL_law_8 (by show 0 + 1 + 16 + 1 ≤ 1200000; decide) (by show 0 + 19 + 300 + 39 ≤ 5502250; decide) (fun mo H3 hf3 hR3 hS3 => ?_)
  refine lv_dup hx hb dL_law_11 rfl ?_
  refine x_cv (va_runI (As := []) (rest := [.ref mo]) ⟨hx, hb, hml, hown, hts⟩ (mt_X1_init l (m_start (Q := fun S' => ∃ Aa, mdl S2 S' mo Aa) hf3 (fun S' Aa h => ⟨Aa, h⟩))) (cwI 0 hts (lw_meth q963) rfl rfl rfl (hts _ q65) (hts _ q961) (hts _ q962) rfl hd_X1_init.2 ⟨Nat.le_of_ble_eq_true rfl, Nat.le_of_ble_eq_true rfl⟩) ⟨x_Pc_blind, x_Pc_pre hR3 (Nat.le_refl _) hS3 hK⟩ rfl rfl hl.1 rfl (lv_room (Nat.le_of_ble_eq_true rfl)) dL_law_12 ⟨by show 0 + 1 + 16 + 1 + 26 ≤ 1200000; decide, by show 0 + 19 + 300 + 39 + 38270 ≤ 5502250; decide⟩) hS3 (fun S4 H4 locs4 hp4 hR4 hS4 => ?_)
  obtain ⟨Aa, hm⟩ := hp4
  have hR5 := x_split hR4 hm
  have hI5 : Inv G (wo S4 mo Aa) o M0 := hI.ext (wo_E hm.2.2.2.2.2 hf3 (fun k hk => (hm.2.2.1 k hk).2.2.2.2))
  refine lv_astore_n (lv' := [(2, .ref mo), (1, .ref o), (0, .ref b)]) hx hb dL_law_15 rfl hl (by decide) rfl (fun ls hl => ?_)
  refine lv_iconst (v := 0) hx hb dL_law_16 (by decide) ?_
  refine lv_istore_n (lv' := [(3, .int 0), (2, .ref mo), (1, .ref o), (0, .ref b)]) hx hb dL_law_17 rfl hl (by decide) rfl (fun ls hl => ?_)
  refine W.widen (k := 50 + 10000 * 0) (n := 40000 + 42000 * 0) (by decide) (by decide) ?_
  exact law_loop hL C0 hK 65 0 (by decide) (by decide) G _ _ _ _ hR5 hI5 hS4 ls hl
