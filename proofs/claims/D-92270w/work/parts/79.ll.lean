set_option maxRecDepth 100000
/-! ===== the law's loop and start ===== -/
theorem it_le {i L : Nat} (hL : L ≤ 640) (hi : i ≤ 650) (h : ¬ nI L - 10 < nI i) : i + 9 < L := by
  rw [Int32.lt_iff_toInt_lt, nI_toInt (by omega)] at h
  have e := pk_sub_toInt (a := L) (b := 10) (by omega) (by decide)
  have e2 : (nI L - 10 : Int32) = nI L - nI 10 := rfl
  rw [e2, e] at h
  omega
set_option maxHeartbeats 4000000 in
theorem law_loop {p : Program} {l : Launch} {e : Env} {s : State} {m : MethodId} {below : List Frame} {meth : Method} {c : Code} {D : va_G} {d : Nat → ClassId} {b L : Nat} {xs : Nat → Int32} {o mo : Nat} {Aa : Nat → Nat} (hL : L ≤ 640) (C0 : lw_At p s m meth c b L xs) (hK : x_KK D d s) :
    ∀ (n j : Nat), 64 < j + n → j ≤ 64 → ∀ (G : xG) (S : xH) (M : xM) (H : Heap) (locs : List Loc), x_Rp D d (x_A s.heap.size) (x_mc d mo Aa M) S H → Inv G S o M → va_S (x_A s.heap.size) s.heap H locs → ∀ (ls : Array Slot), lv_has ls 4 [(3, .int (nI (10 * j))), (2, .ref mo), (1, .ref o), (0, .ref b)] → W p l e room_1 s m #[Value.ref b] below meth c H locs (50 + 10000 * j) (40000 + 42000 * j) (lw_Z below #[Value.ref b] s) (F0 m 18 ls []) := by
  obtain ⟨hx, hb, hr, hml, hown, hts0, hX, hbl, hlocks, hgv⟩ := id C0
  have hbA : ¬ x_A s.heap.size b := Nat.not_le.mpr hbl
  intro n
  induction n with
  | zero =>
    intro j h1 h2
    exact absurd h1 (by omega)
  | succ n ih =>
    intro j h1 h2 G S M H locs hR hI hS ls hl
    refine lv_iload_n hx hb dL_law_18 rfl (lv_at hl 0 rfl) ?_
    refine lv_aload_n hx hb dL_law_19 rfl (lv_at hl 3 rfl) ?_
    refine va_slen hx hb hX hbl hbA hS dL_law_20 ?_
    refine lv_bipush (v := 10) hx hb dL_law_21 (by decide) ?_
    refine lv_isub hx hb dL_law_23 ?_
    refine lv_icmp_gt (tgt := 1907) hx hb dL_law_24 (by decide) (fun z => ?_) (fun z => ?_)
    · refine lv_iconst (v := 1) hx hb dL_law_1907 (by decide) ?_
      refine va_forget (fun q hq => hS.2.2 q hq) ?_
      refine W.widen (k := 1200000) (n := 5502250) (by omega) (by omega) ?_
      exact lw_ret hx hb hr hlocks dL_law_1908
    have hi := it_le hL (by omega) z
    have hj : j < 64 := by omega
    refine lv_aload_n hx hb dL_law_27 rfl (lv_at hl 3 rfl) ?_
    refine lv_iload_n hx hb dL_law_28 rfl (lv_at hl 0 rfl) ?_
    refine va_sld hx hb hX hbl hbA hS (vp_in_nI (by omega) (by omega)) dL_law_29 ?_
    refine lv_bipush (v := 63) hx hb dL_law_30 (by decide) ?_
    refine lv_iand hx hb dL_law_32 ?_
    have hc : (50 + 10000 * j) + 10000 ≤ 1200000 := by omega
    have hs : (40000 + 42000 * j) + 42000 ≤ 5502250 := by omega
    have kk : ∀ (G : xG) (S : xH) (M : xM) (H : Heap) (locs : List Loc), x_Rp D d (x_A s.heap.size) (x_mc d mo Aa M) S H → Inv G S o M → va_S (x_A s.heap.size) s.heap H locs → W p l e room_1 s m #[Value.ref b] below meth c H locs ((50 + 10000 * j) + 10000) ((40000 + 42000 * j) + 42000) (lw_Z below #[Value.ref b] s) (F0 m 1901 ls []) := fun G S M H locs hR hI hS => by
      refine lv_iinc (v := nI (10 * (j + 1))) (lv' := [(3, .int (nI (10 * (j + 1)))), (2, .ref mo), (1, .ref o), (0, .ref b)]) hx hb dL_law_1901 hl (k := 0) rfl (nI_add (10 * j) 10) (by decide) rfl (fun ls hl => ?_)
      refine lv_goto (tgt := 18) hx hb dL_law_1904 (by decide) ?_
      refine W.widen (k := 50 + 10000 * (j + 1)) (n := 40000 + 42000 * (j + 1)) (by omega) (by omega) ?_
      exact ih (j + 1) (by omega) (by omega) G S M H locs hR hI hS ls hl
    generalize xs (nI (10 * j)).toNatClampNeg &&& 63 = y
    have key : ∀ k, k < 49 → y = nI k → W p l e room_1 s m #[Value.ref b] below meth c H locs (50 + 10000 * j) (40000 + 42000 * j) (lw_Z below #[Value.ref b] s) (F0 m 33 ls [.int y]) := fun k hk e => by
      subst e
      have t0 : (nI k).toInt = (k : Int) := nI_toInt (by omega)
      match k, hk with
      | 0, _ => exact lv_tableIn (tgt := 244) (off := 211) hx hb dL_law_33 (by decide) (by decide) rfl (by decide) (lc_0 C0 hK hR hI hS hl hL hi hc hs kk)
      | 1, _ => exact lv_tableIn (tgt := 267) (off := 234) hx hb dL_law_33 (by decide) (by decide) rfl (by decide) (lc_1 C0 hK hR hI hS hl hL hi hc hs kk)
      | 2, _ => exact lv_tableIn (tgt := 326) (off := 293) hx hb dL_law_33 (by decide) (by decide) rfl (by decide) (lc_2 C0 hK hR hI hS hl hL hi hc hs kk)
      | 3, _ => exact lv_tableIn (tgt := 359) (off := 326) hx hb dL_law_33 (by decide) (by decide) rfl (by decide) (lc_3 C0 hK hR hI hS hl hL hi hc hs kk)
      | 4, _ => exact lv_tableIn (tgt := 446) (off := 413) hx hb dL_law_33 (by decide) (by decide) rfl (by decide) (lc_4 C0 hK hR hI hS hl hL hi hc hs kk)
      | 5, _ => exact lv_tableIn (tgt := 479) (off := 446) hx hb dL_law_33 (by decide) (by decide) rfl (by decide) (lc_5 C0 hK hR hI hS hl hL hi hc hs kk)
      | 6, _ => exact lv_tableIn (tgt := 528) (off := 495) hx hb dL_law_33 (by decide) (by decide) rfl (by decide) (lc_6 C0 hK hR hI hS hl hL hi hc hs kk)
      | 7, _ => exact lv_tableIn (tgt := 561) (off := 528) hx hb dL_law_33 (by decide) (by decide) rfl (by decide) (lc_7 C0 hK hR hI hS hl hL hi hc hs kk)
      | 8, _ => exact lv_tableIn (tgt := 584) (off := 551) hx hb dL_law_33 (by decide) (by decide) rfl (by decide) (lc_8 C0 hK hR hI hS hl hL hi hc hs kk)
      | 9, _ => exact lv_tableIn (tgt := 597) (off := 564) hx hb dL_law_33 (by decide) (by decide) rfl (by decide) (lc_9 C0 hK hR hI hS hl hL hi hc hs kk)
      | 10, _ => exact lv_tableIn (tgt := 620) (off := 587) hx hb dL_law_33 (by decide) (by decide) rfl (by decide) (lc_10 C0 hK hR hI hS hl hL hi hc hs kk)
      | 11, _ => exact lv_tableIn (tgt := 653) (off := 620) hx hb dL_law_33 (by decide) (by decide) rfl (by decide) (lc_11 C0 hK hR hI hS hl hL hi hc hs kk)
      | 12, _ => exact lv_tableIn (tgt := 676) (off := 643) hx hb dL_law_33 (by decide) (by decide) rfl (by decide) (lc_12 C0 hK hR hI hS hl hL hi hc hs kk)
      | 13, _ => exact lv_tableIn (tgt := 787) (off := 754) hx hb dL_law_33 (by decide) (by decide) rfl (by decide) (lc_13 C0 hK hR hI hS hl hL hi hc hs kk)
      | 14, _ => exact lv_tableIn (tgt := 830) (off := 797) hx hb dL_law_33 (by decide) (by decide) rfl (by decide) (lc_14 C0 hK hR hI hS hl hL hi hc hs kk)
      | 15, _ => exact lv_tableIn (tgt := 863) (off := 830) hx hb dL_law_33 (by decide) (by decide) rfl (by decide) (lc_15 C0 hK hR hI hS hl hL hi hc hs kk)
      | 16, _ => exact lv_tableIn (tgt := 896) (off := 863) hx hb dL_law_33 (by decide) (by decide) rfl (by decide) (lc_16 C0 hK hR hI hS hl hL hi hc hs kk)
      | 17, _ => exact lv_tableIn (tgt := 919) (off := 886) hx hb dL_law_33 (by decide) (by decide) rfl (by decide) (lc_17 C0 hK hR hI hS hl hL hi hc hs kk)
      | 18, _ => exact lv_tableIn (tgt := 952) (off := 919) hx hb dL_law_33 (by decide) (by decide) rfl (by decide) (lc_18 C0 hK hR hI hS hl hL hi hc hs kk)
      | 19, _ => exact lv_tableIn (tgt := 975) (off := 942) hx hb dL_law_33 (by decide) (by decide) rfl (by decide) (lc_19 C0 hK hR hI hS hl hL hi hc hs kk)
      | 20, _ => exact lv_tableIn (tgt := 998) (off := 965) hx hb dL_law_33 (by decide) (by decide) rfl (by decide) (lc_20 C0 hK hR hI hS hl hL hi hc hs kk)
      | 21, _ => exact lv_tableIn (tgt := 1031) (off := 998) hx hb dL_law_33 (by decide) (by decide) rfl (by decide) (lc_21 C0 hK hR hI hS hl hL hi hc hs kk)
      | 22, _ => exact lv_tableIn (tgt := 1054) (off := 1021) hx hb dL_law_33 (by decide) (by decide) rfl (by decide) (lc_22 C0 hK hR hI hS hl hL hi hc hs kk)
      | 23, _ => exact lv_tableIn (tgt := 1087) (off := 1054) hx hb dL_law_33 (by decide) (by decide) rfl (by decide) (lc_23 C0 hK hR hI hS hl hL hi hc hs kk)
      | 24, _ => exact lv_tableIn (tgt := 1120) (off := 1087) hx hb dL_law_33 (by decide) (by decide) rfl (by decide) (lc_24 C0 hK hR hI hS hl hL hi hc hs kk)
      | 25, _ => exact lv_tableIn (tgt := 1133) (off := 1100) hx hb dL_law_33 (by decide) (by decide) rfl (by decide) (lc_25 C0 hK hR hI hS hl hL hi hc hs kk)
      | 26, _ => exact lv_tableIn (tgt := 1156) (off := 1123) hx hb dL_law_33 (by decide) (by decide) rfl (by decide) (lc_26 C0 hK hR hI hS hl hL hi hc hs kk)
      | 27, _ => exact lv_tableIn (tgt := 1179) (off := 1146) hx hb dL_law_33 (by decide) (by decide) rfl (by decide) (lc_27 C0 hK hR hI hS hl hL hi hc hs kk)
      | 28, _ => exact lv_tableIn (tgt := 1192) (off := 1159) hx hb dL_law_33 (by decide) (by decide) rfl (by decide) (lc_28 C0 hK hR hI hS hl hL hi hc hs kk)
      | 29, _ => exact lv_tableIn (tgt := 1215) (off := 1182) hx hb dL_law_33 (by decide) (by decide) rfl (by decide) (lc_29 C0 hK hR hI hS hl hL hi hc hs kk)
      | 30, _ => exact lv_tableIn (tgt := 1248) (off := 1215) hx hb dL_law_33 (by decide) (by decide) rfl (by decide) (lc_30 C0 hK hR hI hS hl hL hi hc hs kk)
      | 31, _ => exact lv_tableIn (tgt := 1281) (off := 1248) hx hb dL_law_33 (by decide) (by decide) rfl (by decide) (lc_31 C0 hK hR hI hS hl hL hi hc hs kk)
      | 32, _ => exact lv_tableIn (tgt := 1334) (off := 1301) hx hb dL_law_33 (by decide) (by decide) rfl (by decide) (lc_32 C0 hK hR hI hS hl hL hi hc hs kk)
      | 33, _ => exact lv_tableIn (tgt := 1387) (off := 1354) hx hb dL_law_33 (by decide) (by decide) rfl (by decide) (lc_33 C0 hK hR hI hS hl hL hi hc hs kk)
      | 34, _ => exact lv_tableIn (tgt := 1420) (off := 1387) hx hb dL_law_33 (by decide) (by decide) rfl (by decide) (lc_34 C0 hK hR hI hS hl hL hi hc hs kk)
      | 35, _ => exact lv_tableIn (tgt := 1453) (off := 1420) hx hb dL_law_33 (by decide) (by decide) rfl (by decide) (lc_35 C0 hK hR hI hS hl hL hi hc hs kk)
      | 36, _ => exact lv_tableIn (tgt := 1486) (off := 1453) hx hb dL_law_33 (by decide) (by decide) rfl (by decide) (lc_36 C0 hK hR hI hS hl hL hi hc hs kk)
      | 37, _ => exact lv_tableIn (tgt := 1519) (off := 1486) hx hb dL_law_33 (by decide) (by decide) rfl (by decide) (lc_37 C0 hK hR hI hS hl hL hi hc hs kk)
      | 38, _ => exact lv_tableIn (tgt := 1552) (off := 1519) hx hb dL_law_33 (by decide) (by decide) rfl (by decide) (lc_38 C0 hK hR hI hS hl hL hi hc hs kk)
      | 39, _ => exact lv_tableIn (tgt := 1585) (off := 1552) hx hb dL_law_33 (by decide) (by decide) rfl (by decide) (lc_39 C0 hK hR hI hS hl hL hi hc hs kk)
      | 40, _ => exact lv_tableIn (tgt := 1608) (off := 1575) hx hb dL_law_33 (by decide) (by decide) rfl (by decide) (lc_40 C0 hK hR hI hS hl hL hi hc hs kk)
      | 41, _ => exact lv_tableIn (tgt := 1631) (off := 1598) hx hb dL_law_33 (by decide) (by decide) rfl (by decide) (lc_41 C0 hK hR hI hS hl hL hi hc hs kk)
      | 42, _ => exact lv_tableIn (tgt := 1654) (off := 1621) hx hb dL_law_33 (by decide) (by decide) rfl (by decide) (lc_42 C0 hK hR hI hS hl hL hi hc hs kk)
      | 43, _ => exact lv_tableIn (tgt := 1697) (off := 1664) hx hb dL_law_33 (by decide) (by decide) rfl (by decide) (lc_43 C0 hK hR hI hS hl hL hi hc hs kk)
      | 44, _ => exact lv_tableIn (tgt := 1740) (off := 1707) hx hb dL_law_33 (by decide) (by decide) rfl (by decide) (lc_44 C0 hK hR hI hS hl hL hi hc hs kk)
      | 45, _ => exact lv_tableIn (tgt := 1773) (off := 1740) hx hb dL_law_33 (by decide) (by decide) rfl (by decide) (lc_45 C0 hK hR hI hS hl hL hi hc hs kk)
      | 46, _ => exact lv_tableIn (tgt := 1806) (off := 1773) hx hb dL_law_33 (by decide) (by decide) rfl (by decide) (lc_46 C0 hK hR hI hS hl hL hi hc hs kk)
      | 47, _ => exact lv_tableIn (tgt := 1829) (off := 1796) hx hb dL_law_33 (by decide) (by decide) rfl (by decide) (lc_47 C0 hK hR hI hS hl hL hi hc hs kk)
      | 48, _ => exact lv_tableIn (tgt := 1878) (off := 1845) hx hb dL_law_33 (by decide) (by decide) rfl (by decide) (lc_48 C0 hK hR hI hS hl hL hi hc hs kk)
      | k + 49, h => exact absurd h (by omega)
    by_cases h49 : ∃ k, k < 49 ∧ y = nI k
    · obtain ⟨k, hk, ey⟩ := h49
      exact key k hk ey
    · refine lv_tableOut (tgt := 1901) hx hb dL_law_33 (x_swo 48 (fun k hk ey => h49 ⟨k, by omega, ey⟩)) (by decide) ?_
      refine W.widen (k := (50 + 10000 * j) + 10000) (n := (40000 + 42000 * j) + 42000) (by omega) (by omega) ?_
      exact kk G S M H locs hR hI hS
