set_option maxRecDepth 100000
def xm_ks : List Nat := [2, 3, 6, 7, 8, 10, 11, 12, 13, 14, 16, 18, 19, 20, 21, 23, 27, 28, 29, 32, 33, 34, 35, 36, 37, 38]
def xm_tag : Nat → Nat := fun k => match k with
  | 2 => 102
  | 3 => 101
  | 6 => 101
  | 7 => 101
  | 8 => 101
  | 10 => 101
  | 11 => 101
  | 12 => 101
  | 13 => 101
  | 14 => 102
  | 16 => 101
  | 18 => 101
  | 19 => 101
  | 20 => 101
  | 21 => 102
  | 23 => 101
  | 27 => 101
  | 28 => 101
  | 29 => 101
  | 32 => 101
  | 33 => 101
  | 34 => 101
  | 35 => 102
  | 36 => 101
  | 37 => 101
  | 38 => 101
  | _ => 0
def xm_len : Nat → Nat := fun k => match k with
  | 2 => 64
  | 3 => 64
  | 6 => 320
  | 7 => 40
  | 8 => 36000
  | 10 => 10
  | 11 => 10
  | 12 => 10
  | 13 => 10
  | 14 => 10
  | 16 => 540
  | 18 => 8
  | 19 => 8
  | 20 => 480
  | 21 => 64
  | 23 => 360
  | 27 => 8
  | 28 => 6
  | 29 => 8
  | 32 => 40
  | 33 => 40
  | 34 => 40
  | 35 => 40
  | 36 => 40
  | 37 => 10
  | 38 => 40
  | _ => 0
/-! ===== the model's world: its ints by field, its arrays by field and index ===== -/
abbrev xM : Type := (Nat → Int32) × (Nat → Nat → Int32)
def M1 (M : xM) (k : Nat) : Int32 := M.1 k
def M2 (M : xM) (k i : Nat) : Int32 := M.2 k i
def m1 (M : xM) (k : Nat) (x : Int32) : xM := (va_up M.1 k x, M.2)
def m2 (M : xM) (k i : Nat) (x : Int32) : xM := (M.1, x_u2 M.2 k i x)
def x_mfs (Aa : Nat → Nat) (M : xM) : List Value := (List.range 39).map (fun k => if xm_tag k = 0 then .int (M1 M k) else .ref (Aa k))
def x_mc (d : Nat → ClassId) (mo : Nat) (Aa : Nat → Nat) (M : xM) : va_W := (mo, .inr (1, x_mfs Aa M)) :: xm_ks.map (fun k => (Aa k, .inl (d (xm_tag k), xm_len k, .inl (M2 M k))))
theorem xm_nd : xm_ks.Nodup := by decide
theorem xm_fs {Aa : Nat → Nat} {M : xM} {k : Nat} (hk : k < 39) : (x_mfs Aa M)[k]? = some (if xm_tag k = 0 then .int (M1 M k) else .ref (Aa k)) := by
  unfold x_mfs
  rw [List.getElem?_map, List.getElem?_range hk]
  rfl
theorem xm_set1 {Aa : Nat → Nat} {M : xM} {k : Nat} {x : Int32} (hk : k < 39) (h : xm_tag k = 0) : (x_mfs Aa M).set k (.int x) = x_mfs Aa (m1 M k x) := by
  apply List.ext_getElem?
  intro j
  by_cases hj : j = k
  · subst hj
    rw [List.getElem?_set_self (by simp [x_mfs]; exact hk), xm_fs hk, if_pos h]
    simp [m1, M1, va_up]
  · rw [List.getElem?_set_ne (Ne.symm hj)]
    by_cases hl : j < 39
    · rw [xm_fs hl, xm_fs hl]
      simp [m1, M1, va_up, hj]
    · rw [List.getElem?_eq_none (by simp [x_mfs]; omega), List.getElem?_eq_none (by simp [x_mfs]; omega)]
theorem xm_map_set {α : Type} {l : List Nat} (nd : l.Nodup) {j k : Nat} (hk : l[j]? = some k) {g g' : Nat → α} {v : α} (hg : ∀ q, q ≠ k → g' q = g q) (hv : g' k = v) : l.map g' = (l.map g).set j v := by
  induction l generalizing j with
  | nil => simp at hk
  | cons a l ih =>
    simp only [List.nodup_cons] at nd
    cases j with
    | zero =>
      simp only [List.getElem?_cons_zero, Option.some.injEq] at hk
      subst hk
      simp only [List.map_cons, List.set_cons_zero, hv]
      congr 1
      apply List.map_congr_left
      intro q hq
      exact hg q (fun e => nd.1 (e ▸ hq))
    | succ j =>
      simp only [List.getElem?_cons_succ] at hk
      simp only [List.map_cons, List.set_cons_succ, ih nd.2 hk]
      congr 1
      exact hg a (fun e => nd.1 (e ▸ List.mem_of_getElem? hk))
theorem xm_at {d : Nat → ClassId} {mo : Nat} {Aa : Nat → Nat} {M : xM} {ws : va_W} {j k : Nat} (hj : xm_ks[j]? = some k) : (x_mc d mo Aa M ++ ws)[j + 1]? = some (Aa k, .inl (d (xm_tag k), xm_len k, .inl (M2 M k))) := by
  have h : (x_mc d mo Aa M)[j + 1]? = some (Aa k, .inl (d (xm_tag k), xm_len k, .inl (M2 M k))) := by
    unfold x_mc
    rw [List.getElem?_cons_succ, List.getElem?_map, hj]
    rfl
  rw [List.getElem?_append_left (List.getElem?_eq_some_iff.mp h).1]
  exact h
theorem xm_set2 {d : Nat → ClassId} {mo : Nat} {Aa : Nat → Nat} {M : xM} {ws : va_W} {i j k : Nat} {x : Int32} (hj : xm_ks[j]? = some k) : (x_mc d mo Aa M ++ ws).set (j + 1) (Aa k, .inl (d (xm_tag k), xm_len k, .inl (upd (M2 M k) i x))) = x_mc d mo Aa (m2 M k i x) ++ ws := by
  have hl : j + 1 < (x_mc d mo Aa M).length := (List.getElem?_eq_some_iff.mp (show (x_mc d mo Aa M)[j + 1]? = some _ by unfold x_mc; rw [List.getElem?_cons_succ, List.getElem?_map, hj]; rfl)).1
  rw [List.set_append_left _ _ hl]
  refine congrArg (· ++ ws) ?_
  unfold x_mc
  rw [List.set_cons_succ]
  refine (congrArg (fun z : va_W => ((mo, .inr (1, x_mfs Aa M)) : Nat × va_E) :: z) (xm_map_set xm_nd hj (g' := fun k' => ((Aa k', .inl (d (xm_tag k'), xm_len k', .inl (M2 (m2 M k i x) k'))) : Nat × va_E)) (fun q hq => ?_) ?_).symm)
  · have e : M2 (m2 M k i x) q = M2 M q := by funext b; simp [M2, m2, x_u2, hq]
    simp only [e]
  · have e : M2 (m2 M k i x) k = upd (M2 M k) i x := by
      funext b
      by_cases hb : b = i
      · subst hb; simp [M2, m2, x_u2, upd]
      · simp [M2, m2, x_u2, upd, hb]
    simp only [e]
theorem xm_set1c {d : Nat → ClassId} {mo : Nat} {Aa : Nat → Nat} {M : xM} {ws : va_W} {k : Nat} {x : Int32} (hk : k < 39) (h : xm_tag k = 0) : (x_mc d mo Aa M ++ ws).set 0 (mo, .inr (1, (x_mfs Aa M).set k (.int x))) = x_mc d mo Aa (m1 M k x) ++ ws := by
  rw [xm_set1 hk h]
  rfl
section XM
variable {p : Program} {l : Launch} {e : Env} {R : Room} {s : State} {m : MethodId} {args : Array Value} {below : List Frame} {meth : Method} {c : Code} {H : Heap} {locs : List Loc} {cells slots : Nat} {Q : State → Prop}
variable {cc : ByteArray} {pc : Nat} {ls : Array Slot} {rest : List Value} {D : va_G} {d : Nat → ClassId} {A : Nat → Prop} {a : Nat} {mo : Nat} {Aa : Nat → Nat} {M : xM} {S : xH} {H0 : Heap}
theorem xm_getI {k index : Nat} {own : String} {Ts : List Cond} (hx : p.tables.exec = Jvm.exec) (hb : c.code = cc) (hts : ∀ w ∈ Ts, w.before args s = true) (hin : ∀ w ∈ u_ws RX1 TX1 39, w ∈ Ts) (hown : s.vm.findClass own = some m.cls) (hK : x_KK D d s) (hR : x_Rp D d A (x_mc d mo Aa M) S H) (hk : k < 39) (hlink : (Cond.fieldLink own index (TX1 k).1 (TX1 k).2.1 (TX1 k).2.2.1).before args s = true) (hkd : xm_tag k = 0) (hdg : decode cc pc = .ok (.getfield index, 3))
    (kk : W p l e R s m args below meth c H locs cells slots Q (F0 m (pc + 3) ls (.int (M1 M k) :: rest))) : W p l e R s m args below meth c H locs cells slots Q (F0 m pc ls (.ref mo :: rest)) := by
  obtain ⟨ws, hP, hD, hW⟩ := hR
  exact va_get (ci := 1) (v := .int (M1 M k)) hx hb hts hin hown hK.1 hP 0 rfl rfl k hk hlink (fun _ h => h) (by rw [xm_fs hk, if_pos hkd]) hdg kk
theorem xm_getA {k index : Nat} {own : String} {Ts : List Cond} (hx : p.tables.exec = Jvm.exec) (hb : c.code = cc) (hts : ∀ w ∈ Ts, w.before args s = true) (hin : ∀ w ∈ u_ws RX1 TX1 39, w ∈ Ts) (hown : s.vm.findClass own = some m.cls) (hK : x_KK D d s) (hR : x_Rp D d A (x_mc d mo Aa M) S H) (hk : k < 39) (hlink : (Cond.fieldLink own index (TX1 k).1 (TX1 k).2.1 (TX1 k).2.2.1).before args s = true) (hkd : decide (xm_tag k = 0) = false) (hdg : decode cc pc = .ok (.getfield index, 3))
    (kk : W p l e R s m args below meth c H locs cells slots Q (F0 m (pc + 3) ls (.ref (Aa k) :: rest))) : W p l e R s m args below meth c H locs cells slots Q (F0 m pc ls (.ref mo :: rest)) := by
  obtain ⟨ws, hP, hD, hW⟩ := hR
  exact va_get (ci := 1) (v := .ref (Aa k)) hx hb hts hin hown hK.1 hP 0 rfl rfl k hk hlink (fun _ h => h) (by rw [xm_fs hk, if_neg (of_decide_eq_false hkd)]) hdg kk
theorem xm_putI {k index : Nat} {own : String} {x : Int32} {Ts : List Cond} (hx : p.tables.exec = Jvm.exec) (hb : c.code = cc) (hts : ∀ w ∈ Ts, w.before args s = true) (hin : ∀ w ∈ u_ws RX1 TX1 39, w ∈ Ts) (hown : s.vm.findClass own = some m.cls) (hK : x_KK D d s) (hR : x_Rp D d A (x_mc d mo Aa M) S H) (hS : va_S A H0 H locs) (hk : k < 39) (hlink : (Cond.fieldLink own index (TX1 k).1 (TX1 k).2.1 (TX1 k).2.2.1).before args s = true) (hkd : xm_tag k = 0) (hfin : (TX1 k).2.2.2 = false) (hn : narrow (tyX1 k) (.int x) = .int x) (hfit : fits (tyX1 k) (.int x) = true) (hdg : decode cc pc = .ok (.putfield index, 3))
    (kk : ∀ (H1 : Heap) (locs1 : List Loc), x_Rp D d A (x_mc d mo Aa (m1 M k x)) S H1 → va_S A H0 H1 locs1 → W p l e R s m args below meth c H1 locs1 cells slots Q (F0 m (pc + 3) ls rest)) : W p l e R s m args below meth c H locs cells slots Q (F0 m pc ls (.int x :: .ref mo :: rest)) := by
  obtain ⟨ws, hP, hD, hW⟩ := hR
  exact va_put (ci := 1) hx hb hts hin tyX1 tyX1_ok nmX1 hown hK.1 hP hD hS 0 rfl rfl k hk hlink (fun _ h => h) hfin (tyX1_ok k hk) hn hfit (by simp [x_mfs]; exact hk) hdg
    (fun H1 locs1 hP1 hD1 hS1 => kk H1 locs1 ⟨ws, by rw [← xm_set1c hk hkd]; exact hP1, by rw [← xm_set1c hk hkd]; exact hD1, hW⟩ hS1)
theorem xm_ild {k j n : Nat} (hx : p.tables.exec = Jvm.exec) (hb : c.code = cc) (hK : x_KK D d s) (hR : x_Rp D d A (x_mc d mo Aa M) S H) {i : Int32} (hdg : decode cc pc = .ok (.iaload, 1)) (hj : (xm_ks[j]?, xm_tag k, xm_len k) = (some k, 101, n)) (hin : vp_in i n)
    (kk : W p l e R s m args below meth c H locs cells slots Q (F0 m (pc + 1) ls (.int (M2 M k i.toNatClampNeg) :: rest))) : W p l e R s m args below meth c H locs cells slots Q (F0 m pc ls (.int i :: .ref (Aa k) :: rest)) := by
  simp only [Prod.mk.injEq] at hj
  obtain ⟨h1, h2, h3⟩ := hj
  obtain ⟨ws, hP, hD, hW⟩ := hR
  have he := xm_at (d := d) (mo := mo) (Aa := Aa) (M := M) (ws := ws) h1
  rw [h2, h3] at he
  exact va_iald hx hb hK.1 hP (j + 1) 0 he rfl hin hdg kk
theorem xm_zld {k j n : Nat} (hx : p.tables.exec = Jvm.exec) (hb : c.code = cc) (hK : x_KK D d s) (hR : x_Rp D d A (x_mc d mo Aa M) S H) {i : Int32} (hdg : decode cc pc = .ok (.baload, 1)) (hj : (xm_ks[j]?, xm_tag k, xm_len k) = (some k, 102, n)) (hin : vp_in i n)
    (kk : W p l e R s m args below meth c H locs cells slots Q (F0 m (pc + 1) ls (.int (M2 M k i.toNatClampNeg) :: rest))) : W p l e R s m args below meth c H locs cells slots Q (F0 m pc ls (.int i :: .ref (Aa k) :: rest)) := by
  simp only [Prod.mk.injEq] at hj
  obtain ⟨h1, h2, h3⟩ := hj
  obtain ⟨ws, hP, hD, hW⟩ := hR
  have he := xm_at (d := d) (mo := mo) (Aa := Aa) (M := M) (ws := ws) h1
  rw [h2, h3] at he
  exact va_zald hx hb hK.1 hP (j + 1) 1 he rfl hin hdg kk
theorem xm_ist {k j n : Nat} (hx : p.tables.exec = Jvm.exec) (hb : c.code = cc) (hK : x_KK D d s) (hR : x_Rp D d A (x_mc d mo Aa M) S H) (hS : va_S A H0 H locs) {i x : Int32} (hdg : decode cc pc = .ok (.iastore, 1)) (hj : (xm_ks[j]?, xm_tag k, xm_len k) = (some k, 101, n)) (hin : vp_in i n)
    (kk : ∀ (H1 : Heap) (locs1 : List Loc), x_Rp D d A (x_mc d mo Aa (m2 M k i.toNatClampNeg x)) S H1 → va_S A H0 H1 locs1 → W p l e R s m args below meth c H1 locs1 cells slots Q (F0 m (pc + 1) ls rest)) : W p l e R s m args below meth c H locs cells slots Q (F0 m pc ls (.int x :: .int i :: .ref (Aa k) :: rest)) := by
  simp only [Prod.mk.injEq] at hj
  obtain ⟨h1, h2, h3⟩ := hj
  obtain ⟨ws, hP, hD, hW⟩ := hR
  have he := xm_at (d := d) (mo := mo) (Aa := Aa) (M := M) (ws := ws) h1
  have hs := xm_set2 (d := d) (mo := mo) (Aa := Aa) (M := M) (ws := ws) (i := i.toNatClampNeg) (x := x) h1
  rw [h2, h3] at he hs
  exact va_iast hx hb hK.1 hP hD hS (j + 1) 0 he rfl hin hdg (fun H1 locs1 hP1 hD1 hS1 => kk H1 locs1 ⟨ws, by rw [← hs]; exact hP1, by rw [← hs]; exact hD1, hW⟩ hS1)
theorem xm_zst {k j n : Nat} (hx : p.tables.exec = Jvm.exec) (hb : c.code = cc) (hK : x_KK D d s) (hR : x_Rp D d A (x_mc d mo Aa M) S H) (hS : va_S A H0 H locs) {i x : Int32} (hdg : decode cc pc = .ok (.bastore, 1)) (hj : (xm_ks[j]?, xm_tag k, xm_len k) = (some k, 102, n)) (hin : vp_in i n) (hB : x_B x)
    (kk : ∀ (H1 : Heap) (locs1 : List Loc), x_Rp D d A (x_mc d mo Aa (m2 M k i.toNatClampNeg x)) S H1 → va_S A H0 H1 locs1 → W p l e R s m args below meth c H1 locs1 cells slots Q (F0 m (pc + 1) ls rest)) : W p l e R s m args below meth c H locs cells slots Q (F0 m pc ls (.int x :: .int i :: .ref (Aa k) :: rest)) := by
  simp only [Prod.mk.injEq] at hj
  obtain ⟨h1, h2, h3⟩ := hj
  obtain ⟨ws, hP, hD, hW⟩ := hR
  have he := xm_at (d := d) (mo := mo) (Aa := Aa) (M := M) (ws := ws) h1
  have hs := xm_set2 (d := d) (mo := mo) (Aa := Aa) (M := M) (ws := ws) (i := i.toNatClampNeg) (x := x) h1
  rw [h2, h3] at he hs
  exact va_zast hx hb hK.1 hP hD hS (j + 1) 1 he rfl hin hdg (fun H1 locs1 hP1 hD1 hS1 => by
    rw [hB.v] at hP1 hD1
    exact kk H1 locs1 ⟨ws, by rw [← hs]; exact hP1, by rw [← hs]; exact hD1, hW⟩ hS1)
theorem xm_recv (hR : x_Rp D d A (x_mc d mo Aa M) S H) (hK : x_KK D d s) : ∃ cell : Cell, H[mo]? = some cell ∧ cell.vm.isStatics = false ∧ s.vm.findClass "PressedMenModel" = some cell.cls := by
  obtain ⟨ws, hP, hD, hW⟩ := hR
  exact va_recv (q := (RX1, TX1, 39)) (ci := 1) (q0 := 0) hK.1 hP rfl rfl
end XM
def xm_Qi (D : va_G) (d : Nat → ClassId) (base mo : Nat) (Aa : Nat → Nat) (S : xH) (post : Int32 → xM → Prop) : Array Value → State → Outcome → State → Prop := va_Qi post (fun M' t => x_Rp D d (x_A base) (x_mc d mo Aa M') S t.heap) (x_A base)
def xm_Qv (D : va_G) (d : Nat → ClassId) (base mo : Nat) (Aa : Nat → Nat) (S : xH) (post : xM → Prop) : Array Value → State → Outcome → State → Prop := va_Qv post (fun M' t => x_Rp D d (x_A base) (x_mc d mo Aa M') S t.heap) (x_A base)
section XMC
variable {p : Program} {l : Launch} {e : Env} {R : Room} {s : State} {m : MethodId} {args : Array Value} {below : List Frame} {meth : Method} {c : Code} {H : Heap} {locs : List Loc} {cells slots : Nat} {Q : State → Prop}
variable {cc : ByteArray} {pc : Nat} {ls : Array Slot} {rest st0 : List Value} {a : Array Value} {D : va_G} {d : Nat → ClassId} {base mo : Nat} {Aa : Nat → Nat} {M : xM} {S : xH} {H0 : Heap} {mc ms : Nat}
theorem xm_ci {post : Int32 → xM → Prop} (hr : va_Run p l e R s m args below meth c H locs cells slots mc ms (F0 m pc ls st0) rest (xm_Qi D d base mo Aa S post a) (x_A base)) (hS : va_S (x_A base) H0 H locs)
    (kk : ∀ (r : Int32) (M1 : xM) (H1 : Heap) (locs1 : List Loc), post r M1 → x_Rp D d (x_A base) (x_mc d mo Aa M1) S H1 → va_S (x_A base) H0 H1 locs1 → W p l e R s m args below meth c H1 locs1 (cells + mc) (slots + ms) Q (F0 m (pc + 3) ls (.int r :: rest))) : W p l e R s m args below meth c H locs cells slots Q (F0 m pc ls st0) :=
  va_calli hr hS (fun _ _ h => h) (fun _ h => h) (fun r u t H1 locs1 ht _ hp hB _ _ hS1 => kk r u H1 locs1 hp (by rw [← ht]; exact hB) hS1)
theorem xm_cv {post : xM → Prop} (hr : va_Run p l e R s m args below meth c H locs cells slots mc ms (F0 m pc ls st0) rest (xm_Qv D d base mo Aa S post a) (x_A base)) (hS : va_S (x_A base) H0 H locs)
    (kk : ∀ (M1 : xM) (H1 : Heap) (locs1 : List Loc), post M1 → x_Rp D d (x_A base) (x_mc d mo Aa M1) S H1 → va_S (x_A base) H0 H1 locs1 → W p l e R s m args below meth c H1 locs1 (cells + mc) (slots + ms) Q (F0 m (pc + 3) ls rest)) : W p l e R s m args below meth c H locs cells slots Q (F0 m pc ls st0) :=
  va_callv hr hS (fun _ _ h => h) (fun _ h => h) (fun u t H1 locs1 ht _ hp hB _ _ hS1 => kk u H1 locs1 hp (by rw [← ht]; exact hB) hS1)
theorem xm_ri {post : Int32 → xM → Prop} {v : Int32} (hx : p.tables.exec = Jvm.exec) (hb : c.code = cc) (hr : meth.sig.returnType = some .int) (hlocks : meth.locks = false) (hR : x_Rp D d (x_A base) (x_mc d mo Aa M) S H) (hS : va_S (x_A base) s.heap H locs) (hdg : decode cc pc = .ok (.ireturn, 1)) (hq : post v M) : W p l e R s m args below meth c H locs cells slots (MQ below (xm_Qi D d base mo Aa S post) args s cells slots (x_A base)) (F0 m pc ls [.int v]) :=
  W.iret hx hb hr (fun t ht hW => ⟨⟨v, M, rfl, hq, by show x_Rp _ _ _ _ _ t.heap; rw [ht]; exact hR⟩, hS.F ht⟩) hS.2.2 hdg hlocks
theorem xm_rz {post : Int32 → xM → Prop} {v : Int32} (hx : p.tables.exec = Jvm.exec) (hb : c.code = cc) (hr : meth.sig.returnType = some .boolean) (hlocks : meth.locks = false) (hR : x_Rp D d (x_A base) (x_mc d mo Aa M) S H) (hS : va_S (x_A base) s.heap H locs) (hdg : decode cc pc = .ok (.ireturn, 1)) (hB : x_B v) (hq : post v M) : W p l e R s m args below meth c H locs cells slots (MQ below (xm_Qi D d base mo Aa S post) args s cells slots (x_A base)) (F0 m pc ls [.int v]) :=
  W.zret hx hb hr hB.n (fun t ht hW => ⟨⟨v, M, rfl, hq, by show x_Rp _ _ _ _ _ t.heap; rw [ht]; exact hR⟩, hS.F ht⟩) hS.2.2 hdg hlocks
theorem xm_rv {post : xM → Prop} (hx : p.tables.exec = Jvm.exec) (hb : c.code = cc) (hr : meth.sig.returnType = none) (hlocks : meth.locks = false) (hR : x_Rp D d (x_A base) (x_mc d mo Aa M) S H) (hS : va_S (x_A base) s.heap H locs) (hdg : decode cc pc = .ok (.return_, 1)) (hq : post M) : W p l e R s m args below meth c H locs cells slots (MQ below (xm_Qv D d base mo Aa S post) args s cells slots (x_A base)) (F0 m pc ls []) :=
  W.vret hx hb hr (fun t ht hW => ⟨⟨M, rfl, hq, by show x_Rp _ _ _ _ _ t.heap; rw [ht]; exact hR⟩, hS.F ht⟩) hS.2.2 hdg hlocks
end XMC
/-! ===== rows that the kit lacks ===== -/
/-- eight boolean arrays of eight, and the array of them -/
def xMZ (S : xH) (a : Nat) (g : Nat → Nat) : Prop := xT S a = 0 ∧ (∀ i, i < 8 → xT S (g i) = 0 ∧ g i ≠ a) ∧ ∀ i j, i < 8 → j < 8 → g i = g j → i = j
def sMZ (S : xH) (a : Nat) (g : Nat → Nat) : xH :=
  (fun b => if b = a then 109 else if (List.range 8).any (fun i => b == g i) = true then 102 else xT S b, fun b => if b = a then 8 else if (List.range 8).any (fun i => b == g i) = true then 8 else xL S b, xI S, xR S,
   fun b => if (List.range 8).any (fun i => b == g i) = true then (fun _ => 0) else xA S b, fun b => if b = a then (fun i => if i < 8 then some (g i) else none) else xQ S b)
theorem x_swo {x : Int32} (N : Nat) (h : ∀ j, j ≤ N → ¬ x = nI j) (hN : N < 2 ^ 31 := by decide) : x.toInt < 0 ∨ (N : Int) < x.toInt := by
  rcases Int.lt_or_le x.toInt 0 with h0 | h0
  · exact Or.inl h0
  · right
    rcases Int.lt_or_le (N : Int) x.toInt with h1 | h1
    · exact h1
    · exfalso
      refine h x.toInt.toNat (by omega) (Int32.toInt_inj.mp ?_)
      rw [nI_toInt (by omega)]
      omega
/-! eight rows of eight booleans at once: the machine's states on the way -/
def mzf (n i : Nat) : Nat → Value := fun j => if j < i then .ref (n + 1 + j) else .null
theorem mzf_up (n i : Nat) : updV (mzf n i) i (.ref (n + 1 + i)) = mzf n (i + 1) := by
  funext j
  unfold updV mzf
  by_cases e : j = i
  · rw [if_pos e, if_pos (by omega), e]
  · rw [if_neg e]
    by_cases h : j < i
    · rw [if_pos h, if_pos (by omega)]
    · rw [if_neg h, if_neg (by omega)]
def mzU (T : State) (cA cB : ClassId) : Nat → State
  | 0 => T.pushCell (arrV cA 8 (mzf T.heap.size 0))
  | i + 1 => ((mzU T cA cB i).pushCell (arrV cB 8 (fun _ => .int 0))).setCell T.heap.size (arrV cA 8 (mzf T.heap.size (i + 1)))
/-! what stands where eight rows were made -/
section
variable {S : xH} {a b i : Nat} {g : Nat → Nat}
theorem mx_y (hi : i < 8) : (List.range 8).any (fun j => g i == g j) = true := List.any_eq_true.mpr ⟨i, List.mem_range.mpr hi, by simp⟩
theorem mx_n (h : ∀ j, j < 8 → b ≠ g j) : ¬ (List.range 8).any (fun j => b == g j) = true := fun z => by
  obtain ⟨j, hj, e⟩ := List.any_eq_true.mp z
  exact h j (List.mem_range.mp hj) (by simpa using e)
theorem mx_a {d : Nat → ClassId} : x_cell d (sMZ S a g) a = .inl (d 109, 8, .inr (.inr (.inr (.inr (fun i => if i < 8 then some (g i) else none))))) := by
  rw [x_cell_q (S := sMZ S a g) (t := 109) (show (if a = a then 109 else _) = 109 by rw [if_pos rfl]) (by decide)]
  show Sum.inl (d 109, (if a = a then 8 else _), _) = _
  rw [if_pos rfl]
  have e : xQ (sMZ S a g) a = fun i => if i < 8 then some (g i) else none := by
    show (if a = a then (fun i => if i < 8 then some (g i) else none) else xQ S a) = _
    rw [if_pos rfl]
  rw [e]
theorem mx_g {d : Nat → ClassId} (hi : i < 8) (h : g i ≠ a) : x_cell d (sMZ S a g) (g i) = .inl (d 102, 8, .inl (fun _ => 0)) := by
  rw [x_cell_p (S := sMZ S a g) (t := 102) (show (if g i = a then 109 else if (List.range 8).any (fun j => g i == g j) = true then 102 else xT S (g i)) = 102 by rw [if_neg h, if_pos (mx_y hi)]) (by decide) (by decide)]
  have e1 : xL (sMZ S a g) (g i) = 8 := by
    show (if g i = a then 8 else if (List.range 8).any (fun j => g i == g j) = true then 8 else xL S (g i)) = 8
    rw [if_neg h, if_pos (mx_y hi)]
  have e2 : xA (sMZ S a g) (g i) = fun _ => 0 := by
    show (if (List.range 8).any (fun j => g i == g j) = true then (fun _ => 0) else xA S (g i)) = fun _ => 0
    rw [if_pos (mx_y hi)]
  rw [e1, e2]
theorem mx_T (h1 : b ≠ a) (h2 : ∀ j, j < 8 → b ≠ g j) : xT (sMZ S a g) b = xT S b := by
  show (if b = a then 109 else if (List.range 8).any (fun j => b == g j) = true then 102 else xT S b) = xT S b
  rw [if_neg h1, if_neg (mx_n h2)]
theorem mx_o {d : Nat → ClassId} (h1 : b ≠ a) (h2 : ∀ j, j < 8 → b ≠ g j) : x_cell d (sMZ S a g) b = x_cell d S b := by
  refine x_cell_eq (mx_T h1 h2) ?_ (fun _ => rfl) (fun _ => rfl) ?_ ?_
  · show (if b = a then 8 else if (List.range 8).any (fun j => b == g j) = true then 8 else xL S b) = xL S b
    rw [if_neg h1, if_neg (mx_n h2)]
  · show (if (List.range 8).any (fun j => b == g j) = true then (fun _ => 0) else xA S b) = xA S b
    rw [if_neg (mx_n h2)]
  · show (if b = a then (fun i => if i < 8 then some (g i) else none) else xQ S b) = xQ S b
    rw [if_neg h1]
end
section MZ
variable {p : Program} {l : Launch} {e : Env} {R : Room} {s : State} {m : MethodId} {args : Array Value} {below : List Frame} {meth : Method} {c : Code} {T : State} {locs : List Loc} {cells slots : Nat} {cA cB : ClassId}
theorem mz_P (X : Stand p l e R s m args below meth c T locs cells slots) : ∀ i : Nat, (∃ ex : List Loc, Stand p l e R s m args below meth c (mzU T cA cB i) (locs ++ ex) (cells + 1 + i) (slots + 8 + 8 * i) ∧ ∀ q, q ∈ ex → q.base = T.heap.size) ∧ (mzU T cA cB i).heap.size = T.heap.size + 1 + i ∧ (mzU T cA cB i).vm = T.vm ∧ (mzU T cA cB i).heap[T.heap.size]? = some (arrV cA 8 (mzf T.heap.size i)) ∧ (∀ j, j < i → (mzU T cA cB i).heap[T.heap.size + 1 + j]? = some (arrV cB 8 (fun _ => .int 0))) ∧ ∀ a, a < T.heap.size → (mzU T cA cB i).heap[a]? = T.heap[a]? := by
  intro i
  induction i with
  | zero =>
    have X0 := X.pushed (arrV cA 8 (mzf T.heap.size 0))
    rw [arrV_size] at X0
    refine ⟨⟨[], ?_, fun q h => absurd h (by simp)⟩, ?_, rfl, State.heap_pushCell_size _ _, fun j h => absurd h (Nat.not_lt_zero j), fun a ha => State.heap_pushCell_of_lt _ _ ha⟩
    · rw [List.append_nil]
      exact X0
    · simp [mzU]
  | succ i ih =>
    obtain ⟨⟨ex, XU, hex⟩, hz, hv, h0, hr, ho⟩ := ih
    have lt0 : T.heap.size < (mzU T cA cB i).heap.size := by omega
    have hc : ((mzU T cA cB i).pushCell (arrV cB 8 (fun _ => .int 0))).heap[T.heap.size]? = some (arrV cA 8 (mzf T.heap.size i)) := by
      rw [State.heap_pushCell_of_lt (h := lt0)]
      exact h0
    have XP := (XU.pushed (arrV cB 8 (fun _ => .int 0))).stored hc i (.ref (T.heap.size + 1 + i))
    rw [arrV_size, arrV_store, mzf_up] at XP
    refine ⟨⟨ex ++ [⟨T.heap.size, i⟩], ?_, fun q hq => ?_⟩, ?_, hv, State.heap_setCell_self hc, fun j hj => ?_, fun a ha => ?_⟩
    · rw [← List.append_assoc, show slots + 8 + 8 * (i + 1) = slots + 8 + 8 * i + 8 by omega]
      exact XP
    · rcases List.mem_append.mp hq with z | z
      · exact hex q z
      · rw [List.mem_singleton.mp z]
    · show (((mzU T cA cB i).pushCell _).setCell T.heap.size _).heap.size = _
      rw [size_setCell]
      show ((mzU T cA cB i).heap.push _).size = _
      rw [Array.size_push, hz]
      omega
    · show (((mzU T cA cB i).pushCell _).setCell T.heap.size _).heap[T.heap.size + 1 + j]? = _
      rw [State.heap_setCell_other (show T.heap.size ≠ T.heap.size + 1 + j by omega)]
      by_cases e : j = i
      · rw [e, ← hz]
        exact State.heap_pushCell_size _ _
      · rw [State.heap_pushCell_of_lt (h := show T.heap.size + 1 + j < (mzU T cA cB i).heap.size by omega)]
        exact hr j (by omega)
    · show (((mzU T cA cB i).pushCell _).setCell T.heap.size _).heap[a]? = _
      rw [State.heap_setCell_other (show T.heap.size ≠ a by omega), State.heap_pushCell_of_lt (h := show a < (mzU T cA cB i).heap.size by omega)]
      exact ho a ha
theorem mz_wp (X : Stand p l e R s m args below meth c T locs cells slots) {gg : JFrame} {kA kB : Class} {cc : ClassId} (hkA : T.vm.classes[cA]? = some kA) (hA : kA.kind = .array cB (.array .boolean)) (hkB : T.vm.classes[cB]? = some kB) (hB : kB.kind = .array cc .boolean) (hcells : cells + 9 ≤ R.cells) (hslots : slots + 72 ≤ R.slots) {E : CtlPost} {d : Bool} {acts : List Action} {Q : Addr → Pre} (hq : ∀ d' acts', Q T.heap.size d' acts' ((mzU T cA cB 8).setTop gg)) : wp (multianewarray.make cA [8, 8]) Q E e d acts (T.setTop gg) := by
  have l8 : ¬ 8 > e.platform.arrayLengthLimit := by rw [Launch.admits_arrayLengthLimit X.admits]; decide
  have b1 : ¬ 8 * componentBytes (.array .boolean) > e.platform.maxHeapBytes := by rw [Launch.admits_maxHeapBytes X.admits]; decide
  have b2 : ¬ 8 * componentBytes .boolean > e.platform.maxHeapBytes := by rw [Launch.admits_maxHeapBytes X.admits]; decide
  have n8 : Int32.toNatClampNeg 8 = 8 := by decide
  have neg8 : ¬ (8 : Int32) < 0 := by decide
  obtain ⟨rm1, rm2⟩ := X.roomAbove (a := 9) (b := 72) hcells hslots
  rw [multianewarray.make]
  simp only [wp_bind', W.ite, neg8, if_false, wp_pure', W.theClass, n8]
  refine ⟨kA, hkA, ?_⟩
  rw [hA]
  simp only [wp_bind']
  refine W.newArray_of hkA hA l8 b1 (by show T.heap.size < _; omega) (by show T.slotsUsed + 8 ≤ _; omega) rfl (fun acts' => ?_)
  rw [if_neg (by decide), wp_bind', Std.Legacy.Range.forIn_eq_forIn_range']
  have e0 : (T.setTop gg).pushCell { cls := cA, slots := Array.replicate 8 Value.null } = (mzU T cA cB 0).setTop gg := by
    rw [arrV_new]
    rfl
  rw [e0]
  show wp (forIn (List.range' 0 8 1) PUnit.unit _) _ E e d acts' _
  refine wp_forIn_inv (fun rest s' => ∃ i, i ≤ 8 ∧ rest = List.range' i (8 - i) ∧ s' = (mzU T cA cB i).setTop gg) _ _ ⟨0, Nat.zero_le _, rfl, rfl⟩ ?_ ?_
  · rintro x rest s' d' acts' Q' ⟨i, hi, hl, rfl⟩ hn
    have lt : i < 8 := by
      rcases Nat.lt_or_ge i 8 with z | z
      · exact z
      · rw [show 8 - i = 0 by omega] at hl
        simp at hl
    rw [show 8 - i = (8 - (i + 1)) + 1 by omega, List.range'_succ] at hl
    obtain ⟨rfl, hrest⟩ := List.cons.inj hl
    obtain ⟨⟨ex, XU, hex⟩, hz, hv, h0, hr, ho⟩ := mz_P (cA := cA) (cB := cB) X x
    obtain ⟨um1, um2⟩ := XU.roomAbove (a := 1) (b := 8) (by omega) (by omega)
    simp only [wp_bind']
    rw [multianewarray.make]
    simp only [wp_bind', W.ite, neg8, if_false, wp_pure', W.theClass, n8]
    refine ⟨kB, by show (mzU T cA cB x).vm.classes[cB]? = _; rw [hv]; exact hkB, ?_⟩
    rw [hB]
    refine W.newArray_of (k := kB) (by show (mzU T cA cB x).vm.classes[cB]? = _; rw [hv]; exact hkB) hB l8 b2 (by show (mzU T cA cB x).heap.size < _; omega) (by show (mzU T cA cB x).slotsUsed + 8 ≤ _; omega) rfl (fun acts2 => ?_)
    have lt0 : T.heap.size < (mzU T cA cB x).heap.size := by omega
    simp only [wp_bind', W.writeLoc, wp_pure']
    refine ⟨arrV cA 8 (mzf T.heap.size x), ?_, fun z => (by cases z), by rw [arrV_size]; exact lt, ?_, hn _ _ _ ⟨x + 1, lt, hrest, ?_⟩⟩
    · show ((mzU T cA cB x).pushCell _).heap[T.heap.size]? = _
      rw [State.heap_pushCell_of_lt (h := lt0)]
      exact h0
    · show State.fitsSlot _ cA .none x _ = true
      have ev : (mzU T cA cB x).vm.classes[cA]? = some kA := by rw [hv]; exact hkA
      simp [State.fitsSlot, State.slotType?, ev, hA, fits]
    · show (((mzU T cA cB x).setTop gg).pushCell _).setCell T.heap.size ((arrV cA 8 (mzf T.heap.size x)).setSlot x (.ref (mzU T cA cB x).heap.size)) = _
      rw [hz, arrV_store, mzf_up, arrV_new]
      rfl
  · rintro s' d' acts2 ⟨i, hi, hl, rfl⟩
    have e8 : i = 8 := by
      rcases Nat.lt_or_ge i 8 with z | z
      · rw [show 8 - i = (8 - (i + 1)) + 1 by omega, List.range'_succ] at hl
        cases hl
      · omega
    subst e8
    simp only [wp_pure']
    exact hq _ _
end MZ
section MY
variable {p : Program} {l : Launch} {e : Env} {R : Room} {s : State} {m : MethodId} {args : Array Value} {below : List Frame} {meth : Method} {c : Code} {H : Heap} {locs : List Loc} {cells slots : Nat} {Q : State → Prop}
variable {cc : ByteArray} {pc : Nat} {ls : Array Slot} {rest : List Value} {D : va_G} {d : Nat → ClassId} {A : Nat → Prop} {a : Nat} {mc : va_W} {S : xH} {H0 : Heap}
/-- the abstract heap with the rows -/
theorem mz_Rp {H1 : Heap} (hR : x_Rp D d A mc S H) (hn : ∀ q, H.size ≤ q → A q) (h0 : H1[H.size]? = some (arrV (d 109) 8 (mzf H.size 8))) (hr : ∀ j, j < 8 → H1[H.size + 1 + j]? = some (arrV (d 102) 8 (fun _ => .int 0))) (ho : ∀ a, a < H.size → H1[a]? = H[a]?) : xMZ S H.size (fun i => H.size + 1 + i) ∧ x_Rp D d A mc (sMZ S H.size (fun i => H.size + 1 + i)) H1 := by
  obtain ⟨ws, hP, hD, hW⟩ := hR
  have lt : ∀ a, xT S a ≠ 0 → a < H.size := fun a ha => by
    obtain ⟨k, hk⟩ := hW a ha
    exact (hP _ _ (x_idx hk)).lt
  have fr : ∀ a, H.size ≤ a → xT S a = 0 := fun a ha => by
    by_cases z : xT S a = 0
    · exact z
    · have := lt a z
      omega
  let nw : va_W := (List.range 9).map (fun i => (H.size + i, if i = 0 then .inl (d 109, 8, .inr (.inr (.inr (.inr (fun j => if j < 8 then some (H.size + 1 + j) else none))))) else .inl (d 102, 8, .inl (fun _ => 0))))
  have nwi : ∀ (k : Nat) (q : Nat × va_E), nw[k]? = some q → k < 9 ∧ q = (H.size + k, if k = 0 then .inl (d 109, 8, .inr (.inr (.inr (.inr (fun j => if j < 8 then some (H.size + 1 + j) else none))))) else .inl (d 102, 8, .inl (fun _ => 0))) := fun k q hq => by
    have hk : k < 9 := by
      have := (List.getElem?_eq_some_iff.mp hq).1
      simpa [nw] using this
    refine ⟨hk, ?_⟩
    have e : nw[k]? = some (H.size + k, if k = 0 then .inl (d 109, 8, .inr (.inr (.inr (.inr (fun j => if j < 8 then some (H.size + 1 + j) else none))))) else .inl (d 102, 8, .inl (fun _ => 0))) := by
      show ((List.range 9).map _)[k]? = _
      rw [List.getElem?_map, List.getElem?_range hk]
      rfl
    exact (Option.some.inj (hq.symm.trans e))
  have hPn : va_P D vwCl nw H1 := fun k q hq => by
    obtain ⟨hk, rfl⟩ := nwi k q hq
    by_cases z : k = 0
    · subst z
      show H1[H.size]? = some (vp_cell _ _)
      rw [vp_cell_q, h0]
      congr 2
      funext j
      unfold mzf
      by_cases hj : j < 8
      · rw [if_pos hj, if_pos hj]; rfl
      · rw [if_neg hj, if_neg hj]; rfl
    · rw [if_neg z]
      show H1[H.size + k]? = some (vp_cell _ _)
      have := hr (k - 1) (by omega)
      rw [show H.size + 1 + (k - 1) = H.size + k by omega] at this
      exact this
  have hPa : va_P D vwCl (mc ++ (ws ++ nw)) H1 := by
    rw [← List.append_assoc]
    exact (hP.kept (fun k q hq => ho _ (hP k q hq).lt)).app hPn
  have hDn : va_D A nw := ⟨fun i j p q hi hj e => by
    obtain ⟨_, rfl⟩ := nwi i p hi
    obtain ⟨_, rfl⟩ := nwi j q hj
    have e : H.size + i = H.size + j := e
    omega, fun k q hq => by
    obtain ⟨_, rfl⟩ := nwi k q hq
    exact hn _ (Nat.le_add_right _ _)⟩
  have hDa : va_D A (mc ++ (ws ++ nw)) := by
    rw [← List.append_assoc]
    refine hD.app hDn (fun i j p q hi hj e => ?_)
    obtain ⟨_, rfl⟩ := nwi j q hj
    have := (hP i p hi).lt
    have e : p.1 = H.size + j := e
    omega
  have nwa : ∀ k, k < 9 → (ws ++ nw)[ws.length + k]? = some (H.size + k, if k = 0 then .inl (d 109, 8, .inr (.inr (.inr (.inr (fun j => if j < 8 then some (H.size + 1 + j) else none))))) else .inl (d 102, 8, .inl (fun _ => 0))) := fun k hk => by
    rw [List.getElem?_append_right (Nat.le_add_right _ _), Nat.add_sub_cancel_left]
    show ((List.range 9).map _)[k]? = _
    rw [List.getElem?_map, List.getElem?_range hk]
    rfl
  refine ⟨⟨fr _ (Nat.le_refl _), fun i hi => ⟨fr _ (show H.size ≤ H.size + 1 + i by omega), (show H.size + 1 + i ≠ H.size by omega)⟩, fun i j _ _ e => by have e : H.size + 1 + i = H.size + 1 + j := e; omega⟩, ws ++ nw, hPa, hDa, fun b hb => ?_⟩
  by_cases e0 : b = H.size
  · subst e0
    exact ⟨ws.length + 0, by rw [nwa 0 (by decide), mx_a]; rfl⟩
  · by_cases eg : ∃ j, j < 8 ∧ b = H.size + 1 + j
    · obtain ⟨j, hj, rfl⟩ := eg
      refine ⟨ws.length + (j + 1), ?_⟩
      rw [nwa (j + 1) (by omega), if_neg (by omega), mx_g (g := fun i => H.size + 1 + i) (i := j) hj (by omega), show H.size + (j + 1) = H.size + 1 + j by omega]
    · have h2 : ∀ j, j < 8 → b ≠ H.size + 1 + j := fun j hj e => eg ⟨j, hj, e⟩
      rw [mx_T e0 h2] at hb
      obtain ⟨k, hk⟩ := hW b hb
      exact ⟨k, by rw [List.getElem?_append_left (List.getElem?_eq_some_iff.mp hk).1, mx_o e0 h2]; exact hk⟩
theorem x_multi {own : String} {index : Nat} (hx : p.tables.exec = Jvm.exec) (hb : c.code = cc) (hown : s.vm.findClass own = some m.cls) (hclink : (Cond.classLink own index "[[Z").before args s = true) (hover : va_Nw (Cond.arrayOver (.array .boolean)) s) (hK : x_KK D d s) (hR : x_Rp D d A mc S H) (hS : va_S A H0 H locs) (hA : ∀ q, H0.size ≤ q → A q) (hdg : decode cc pc = .ok (.multianewarray index 2, 4)) (hcells : cells + 9 ≤ R.cells) (hslots : slots + 72 ≤ R.slots)
    (kk : ∀ (q : Nat) (g : Nat → Nat) (H1 : Heap), xMZ S q g → x_Rp D d A mc (sMZ S q g) H1 → va_S A H0 H1 locs → W p l e R s m args below meth c H1 locs (cells + 9) (slots + 72) Q (F0 m (pc + 4) ls (.ref q :: rest))) : W p l e R s m args below meth c H locs cells slots Q (F0 m pc ls (.int 8 :: .int 8 :: rest)) := by
  intro T hT X
  subst hb
  have hpl : e.platform.magicAccessors = ({} : Platform).magicAccessors := by rw [X.admits.platform]
  obtain ⟨cB, cA, kA, hcB, _, hkA, hkindA, hnameA⟩ := arrayOverA_spec hover
  have eA : cA = d 109 := Option.some.inj (hnameA.symm.trans (hK.1.2 8 (d 109, .array .boolean) rfl).2)
  have eB : cB = d 102 := Option.some.inj (hcB.symm.trans (hK.1.2 1 (d 102, .boolean) rfl).2)
  subst eA
  subst eB
  obtain ⟨-, kB, hkB, cc0, hkindB⟩ := (hK.1.2 1 (d 102, .boolean) rfl).1 0 (fun _ => .null)
  obtain ⟨c0, hfc0, hcl⟩ := Cond.classLink_spec hown hclink e.platform hpl
  have e0 : c0 = d 109 := Option.some.inj (hfc0.symm.trans hnameA)
  subst e0
  obtain ⟨hg₁, hwarm₁, hready₁⟩ := State.classEntry (e := e) X.warmed hcl
  generalize T.vm.noted m.cls index (.cls (d 109)) = vm₁ at hg₁ hwarm₁ hready₁
  have hal : s.vm.Alike vm₁ := hwarm₁.alike
  obtain ⟨kA₁, hkA₁, heA⟩ := hal.2.2 _ _ hkA
  obtain ⟨kB₁, hkB₁, heB⟩ := hal.2.2 _ _ hkB
  have hkindA₁ : kA₁.kind = .array (d 102) (.array .boolean) := by rw [heA]; exact hkindA
  have hkindB₁ : kB₁.kind = .array cc0 .boolean := by rw [heB]; exact hkindB
  have X₁ := X.noted hwarm₁
  obtain ⟨⟨ex, XF, hex⟩, hz, hv, h0, hr, ho⟩ := mz_P (cA := d 109) (cB := d 102) X₁ 8
  have XG := Stand.forget XF (fun y hy => by rw [hex y hy]; exact X.same.2.1)
  have hT1 : (T.setVm vm₁).heap.size = H.size := by rw [← hT]; rfl
  rw [hT1] at hz h0 hr ho
  have hT2 : (T.setVm vm₁).heap = H := by rw [← hT]; rfl
  rw [hT2] at ho
  generalize eU : mzU (T.setVm vm₁) (d 109) (d 102) 8 = U at *
  obtain ⟨hm1, hm2⟩ := mz_Rp hR (fun q hq => hA q (Nat.le_trans hS.1 hq)) h0 hr ho
  have hS1 : va_S A H0 U.heap locs := ⟨by rw [hz]; exact Nat.le_trans hS.1 (by omega), fun q h1 h2 => (ho q (Nat.lt_of_lt_of_le h1 hS.1)).trans (hS.2.1 q h1 h2), hS.2.2⟩
  obtain ⟨t', a1, b1⟩ := kk H.size (fun i => H.size + 1 + i) U.heap hm1 hm2 hS1 U rfl XG
  refine ⟨t', ?_, b1⟩
  jvm_step X.here [hx, hdg]
  simp only [multianewarray.sem, wp_bind', W.resolveClassAt_links (State.method?_setTop (F0 m pc ls (.int 8 :: .int 8 :: rest)) X.here.top) hg₁]
  rw [W.popN, if_neg (by decide)]
  refine ⟨F0 m pc ls (.int 8 :: .int 8 :: rest), State.topJava?_setTop' (s := T.setVm vm₁) (F0 m pc ls (.int 8 :: .int 8 :: rest)) X.here.top, [.int 8, .int 8], rest, rfl, rfl, ?_⟩
  simp only [List.mapM_cons, List.mapM_nil, wp_bind', wp_pure']
  have eS : ((T.setTop (F0 m pc ls (.int 8 :: .int 8 :: rest))).setVm vm₁).setTop { F0 m pc ls (.int 8 :: .int 8 :: rest) with stack := rest } = (T.setVm vm₁).setTop { F0 m pc ls (.int 8 :: .int 8 :: rest) with stack := rest } := by
    show ((T.setVm vm₁).setTop _).setTop _ = _
    rw [State.setTop_setTop]
  rw [eS]
  refine mz_wp X₁ hkA₁ hkindA₁ hkB₁ hkindB₁ hcells hslots (fun d' acts' => ?_)
  rw [eU, hT1]
  simp only [wp_bind', W.mark, W.pushRef, State.topJava?_setTop' _ XG.here.top, Option.some.injEq, exists_eq_left', State.setTop_setTop, State.heap_setTop]
  intro acts
  simp [jvm, XG.here.top]
  exact a1
end MY
section XX
variable {p : Program} {l : Launch} {e : Env} {R : Room} {s : State} {m : MethodId} {args : Array Value} {below : List Frame} {meth : Method} {c : Code} {H : Heap} {locs : List Loc} {cells slots : Nat} {Q : State → Prop}
variable {cc : ByteArray} {pc : Nat} {ls : Array Slot} {rest : List Value} {D : va_G} {d : Nat → ClassId} {A : Nat → Prop} {a : Nat} {mc : va_W} {S : xH} {H0 : Heap}
theorem x_copy {nL : Nat} {a0 : Nat} {own : String} {index : Nat} {sp dp n : Int32} (hx : p.tables.exec = Jvm.exec) (hb : c.code = cc) (hml : c.maxLocals = nL) (hls : ls.size = nL) (hown : s.vm.findClass own = some m.cls) (hlink : (Cond.methodLink own index arraycopyName).before args s = true) (hnat : (Cond.native arraycopyName).before args s = true) (hstat : (Cond.static arraycopyName).before args s = true) (hini : (Cond.initialized "java/lang/System").before args s = true)
    (hK : x_KK D d s) (hR : x_Rp D d A mc S H) (hS : va_S A H0 H locs) (hdg : decode cc pc = .ok (.invokestatic index, 3)) (ha0 : xT S a0 = 101) (ha : xT S a = 101) (h1 : ¬ sp < 0) (h2 : ¬ dp < 0) (h3 : ¬ n < 0) (h4 : sp.toNatClampNeg + n.toNatClampNeg ≤ xL S a0) (h5 : dp.toNatClampNeg + n.toNatClampNeg ≤ xL S a)
    (hframes : 1 ≤ R.frames) (hlocals : (rest.map fun v => v.category).sum + (nativeFrameWords "java/lang/System" "arraycopy" 5 + 11) ≤ R.locals)
    (kk : ∀ (H1 : Heap) (locs1 : List Loc), x_Rp D d A mc (sB S a (va_cpy (xA S a0) (xA S a) sp.toNatClampNeg dp.toNatClampNeg n.toNatClampNeg)) H1 → va_S A H0 H1 locs1 → W p l e R s m args below meth c H1 locs1 cells slots Q (F0 m (pc + 3) ls rest)) : W p l e R s m args below meth c H locs cells slots Q (F0 m pc ls (.int n :: .int dp :: .ref a :: .int sp :: .ref a0 :: rest)) := by
  obtain ⟨ws, hP, hD, hW⟩ := hR
  obtain ⟨k0, hk0⟩ := hW a0 (by rw [ha0]; decide)
  obtain ⟨k1, hk1⟩ := hW a (by rw [ha]; decide)
  rw [x_cell_p ha0 (by decide) (by decide)] at hk0
  rw [x_cell_p ha (by decide) (by decide)] at hk1
  exact va_copyi (ty := .int) hx hb (hml.trans hls.symm) hown hlink hnat hstat hini hK.1 hP hD hS (mc.length + k0) (mc.length + k1) 0 0 (x_idx hk0) (x_idx hk1) rfl rfl rfl h1 h2 h3 h4 h5 (fun _ _ => rfl) hframes hlocals hdg (fun H1 locs1 hP1 hD1 hS1 => kk H1 locs1 (x_Rp.put hk1 hW hP1 hD1 (fun _ => rfl) (by rw [x_cell_p (S := sB S a _) (t := 101) ha (by decide) (by decide)]; simp [sB, xA, xL, va_up]) (fun b hb => x_cell_sB_ne hb)) hS1)
theorem x_newqA {own : String} {index : Nat} {n : Int32} {N' : Nat} (hx : p.tables.exec = Jvm.exec) (hb : c.code = cc) (hown : s.vm.findClass own = some m.cls) (hclink : (Cond.classLink own index "[I").before args s = true) (hover : va_Nw (Cond.arrayOver (.array .int)) s) (hK : x_KK D d s) (hR : x_Rp D d A mc S H) (hS : va_S A H0 H locs) (hA : ∀ q, H0.size ≤ q → A q) (hdg : decode cc pc = .ok (.anewarray index, 3))
    (hn : ¬ n < 0) (hN : n.toNatClampNeg = N') (hbytes : N' * 4 ≤ 536870912) (hcells : cells + 1 ≤ R.cells) (hslots : slots + N' ≤ R.slots)
    (kk : ∀ (q : Nat) (H1 : Heap), xT S q = 0 → x_Rp D d A mc (sV S q 110 N') H1 → va_S A H0 H1 locs → W p l e R s m args below meth c H1 locs (cells + 1) (slots + N') Q (F0 m (pc + 3) ls (.ref q :: rest))) : W p l e R s m args below meth c H locs cells slots Q (F0 m pc ls (.int n :: rest)) := by
  subst hN
  refine W.anewA (t := .int) hx hb hown hclink hover rfl hdg rfl hn hbytes hcells hslots fun cA kA comp f1 f2 f3 f4 => ?_
  have e1 : s.vm.findClass ("[" ++ (FieldType.array .int).toString) = some (d 110) := (hK.1.2 9 (d 110, .array .int) rfl).2
  have e : d 110 = cA := Option.some.inj (e1.symm.trans f1)
  subst e
  obtain ⟨ws, hP, hD, hW⟩ := hR
  generalize hH1 : H.push ({ cls := d 110, slots := Array.replicate n.toNatClampNeg .null, vm := .none } : Cell) = H1
  have z1 : H1.size = H.size + 1 := by rw [← hH1, Array.size_push]
  have q1 : H1[H.size]? = some (arrV (d 110) n.toNatClampNeg (fun _ => .null)) := by rw [← hH1, Array.getElem?_push_size, ← arrV_new]
  have o1 : ∀ q : Nat, q < H.size → H1[q]? = H[q]? := fun q hq => by rw [← hH1, Array.getElem?_push, if_neg (Nat.ne_of_lt hq)]
  have hk : ∀ (k : Nat) (x : Nat × va_E), (mc ++ ws)[k]? = some x → H1[x.1]? = H[x.1]? := fun k x hx => o1 x.1 ((hP k x hx).lt)
  have hD1 : va_D A ((mc ++ ws) ++ [(H.size, .inl (d 110, n.toNatClampNeg, .inr (.inr (.inr (.inr (fun _ => none))))))]) := hD.push hP rfl (hA _ hS.1)
  have hP1 : va_P D vwCl ((mc ++ ws) ++ [(H.size, .inl (d 110, n.toNatClampNeg, .inr (.inr (.inr (.inr (fun _ => none))))))]) H1 := by
    refine (hP.kept hk).app (fun k x hx => ?_)
    have hz : k < 1 := (List.getElem?_eq_some_iff.mp hx).1
    rw [show k = 0 by omega] at hx
    cases hx
    show H1[H.size]? = some (vp_cell _ _)
    rw [vp_cell_q]
    exact q1
  exact kk H.size H1 (x_fresh hW hD1) (x_Rp.push hW hP1 hD1 (fun b hb => by simp [sV, xT, va_up, hb]) (x_cell_sVq (by decide)) (fun b hb => x_cell_sV_ne hb)) ⟨Nat.le_trans hS.1 (by omega), fun x h1 h2 => (o1 x (Nat.lt_of_lt_of_le h1 hS.1)).trans (hS.2.1 x h1 h2), hS.2.2⟩
theorem x_aastA {i : Int32} {v : Nat} (hx : p.tables.exec = Jvm.exec) (hb : c.code = cc) (hK : x_KK D d s) (hR : x_Rp D d A mc S H) (hS : va_S A H0 H locs) (hdg : decode cc pc = .ok (.aastore, 1)) (ha : xT S a = 110) (hin : vp_in i (xL S a)) (hv : xT S v = 101)
    (kk : ∀ (H1 : Heap) (locs1 : List Loc), x_Rp D d A mc (sQ S a i.toNatClampNeg (some v)) H1 → va_S A H0 H1 locs1 → W p l e R s m args below meth c H1 locs1 cells slots Q (F0 m (pc + 1) ls rest)) : W p l e R s m args below meth c H locs cells slots Q (F0 m pc ls (.ref v :: .int i :: .ref a :: rest)) := by
  obtain ⟨ws, hP, hD, hW⟩ := hR
  obtain ⟨k0, hk0⟩ := hW a (by rw [ha]; decide)
  obtain ⟨k1, hk1⟩ := hW v (by rw [hv]; decide)
  rw [x_cell_q ha (by decide)] at hk0
  rw [x_cell_p hv (by decide) (by decide)] at hk1
  have hlt : i.toNatClampNeg < xL S a := Nat.not_le.mp fun q => hin (Or.inr q)
  have h0 : ¬ i < 0 := fun q => hin (Or.inl q)
  have g1 := hP _ _ (x_idx hk1)
  obtain ⟨comp, cA, kA, f1, -, f3, f4, f5⟩ := arrayOverA_spec (hK.2 _ q727 rfl)
  have e1 : s.vm.findClass ("[" ++ (FieldType.array .int).toString) = some (d 110) := (hK.1.2 9 (d 110, .array .int) rfl).2
  have e : cA = d 110 := Option.some.inj (f5.symm.trans e1)
  subst e
  have e2 : s.vm.findClass ("[" ++ FieldType.int.toString) = some (d 101) := (hK.1.2 0 (d 101, .int) rfl).2
  have e3 : comp = d 101 := Option.some.inj (f1.symm.trans e2)
  subst e3
  obtain ⟨-, kI, hkI, -⟩ := (hK.1.2 0 (d 101, .int) rfl).1 0 (fun _ => .null)
  refine W.aast hx hb (hP _ _ (x_idx hk0)) (fun q h => by cases h) (fun h => by cases h) f3 f4 rfl hkI ⟨h0, by show _ < (arrV _ _ _).slots.size; rw [arrV_size]; exact hlt⟩ g1 (fun q h => by cases h) hkI (va_asg _ _) rfl rfl hdg fun H1 e z oq => ?_
  refine kk H1 _ (x_Rp.put (S := S) hk0 hW (hP.set hD (x_idx hk0) ?_ oq) (hD.set (x_idx hk0)) (fun _ => rfl) (x_sQ_cell ha (by decide)) (fun b hb => x_cell_sQ_ne hb)) (hS.put z oq (hD.2 _ _ (x_idx hk0)))
  show H1[a]? = some (vp_cell _ _)
  rw [e]
  show some ((vp_cell _ _).setSlot _ _) = _
  rw [vp_cell_q, vp_cell_q, arrV_store]
  congr 2
  funext q
  by_cases hq : q = i.toNatClampNeg
  · subst hq
    simp [updV, va_up, va_rf]
  · simp [updV, va_up, hq]
theorem x_room9 {st : List Value} (h : (st.map fun v => v.category).sum ≤ 9) : 2 * (F0 m pc ls rest).monitorRoom + (st.map fun v => v.category).sum ≤ 9 := by
  show 2 * 0 + _ ≤ 9
  omega
variable {y : MethodName} {bytes : ByteArray} {maxL nL mcs ms n index : Nat} {ret : Option FieldType} {ws : List Cond} {rm : Room} {Pc : Array Value → State → Prop} {Qc : Array Value → State → Outcome → State → Prop} {free : Addr → Prop} {Ts : List Cond} {own C : String} {b : Addr} {As : List Value} {g : JFrame}
theorem x_runV9 (S : CallFix p m c cc nL s args Ts own) (hM : Met l y ws rm Pc Qc mcs ms free) (cw : CallW R s args own C index y bytes maxL ret ws rm mcs ms n) (h9 : 9 + (maxL + 11) + rm.locals ≤ R.locals) (hp : PreV s H C b Pc As)
    (hg : g.method = m) (hn : As.length = n) (hsize : g.locals.size = nL) (hstack : g.stack = As.reverse ++ .ref b :: rest) (hW : 2 * g.monitorRoom + (rest.map fun v => v.category).sum ≤ 9) (hdg : decode cc g.pc = .ok (.invokevirtual index, 3)) (hf : cells + mcs ≤ R.cells ∧ slots + ms ≤ R.slots) :
    va_Run p l e R s m args below meth c H locs cells slots mcs ms g rest (Qc (Value.ref b :: As).toArray) (free) := by
  obtain ⟨⟨hrc, hrs, hfr, -, hws, hcw, hcode, hini, hy, hlen, hl⟩, hin, hse⟩ := cw
  have hK : Back l R p e below s args y 3 9 (PreOf R mcs ms Pc) (PostOf Qc mcs ms free) := back_of (bytes := bytes) (maxL := maxL) (ret := ret) hM hp.1 hrc hrs hfr h9 hws hcw (fun a' U hW => word_at hW (Or.inl (by first | rfl | simp [Cond.onTables, Cond.keeps, Cond.steady])) hini)
  obtain ⟨hx, hb, hml, ho, -⟩ := S
  obtain ⟨-, ⟨cellB, hcB, hoB, hclB⟩, hPc⟩ := hp
  intro T hT X
  obtain ⟨v, vm₁, ⟨U', l2, c2, s2⟩, hW₁, X', ⟨g', mk, t, L, e1, e2, hq, h1, hL, h2, h3⟩, st⟩ := callV X hx (C := C) (bytes := bytes) (maxL := maxL) (ret := ret) ho hl hin hse hcode hy hK (by rw [hT]; exact hcB) hoB hclB hg (hsize.trans hml.symm) (argsL := As) (rest := rest) (fun sig h => hn.trans (hlen sig h)) hstack hW (by rw [hb]; exact hdg)
    (fun vm₁ hW₁ => ⟨hf.1, hf.2, hPc (T.setVm vm₁) hT hW₁⟩)
  dsimp only [Pt.U, Pt.locs, Pt.cells, Pt.slots] at X' e1 e2 h1 h2 h3 st
  subst h1; subst h2; subst h3
  exact ⟨v, (T.setVm vm₁).calling g' mk (Value.ref b :: As).toArray, t, U', L, hT, X', hL, e1, e2, hq, st⟩
end XX
section XU
variable {p : Program} {l : Launch} {e : Env} {R : Room} {s : State} {m : MethodId} {args : Array Value} {below : List Frame} {meth : Method} {c : Code} {H : Heap} {locs : List Loc} {cells slots : Nat} {Q : State → Prop}
variable {cc : ByteArray} {pc : Nat} {ls : Array Slot} {rest : List Value} {D : va_G} {d : Nat → ClassId} {A : Nat → Prop} {a : Nat} {mc : va_W} {S : xH} {H0 : Heap}
theorem x_get400 (hx : p.tables.exec = Jvm.exec) (hb : c.code = cc) {index : Nat} {own : String} (hts : ∀ w ∈ lw_all, w.before args s = true) (hown : s.vm.findClass own = some m.cls) (hK : x_KK D d s) (hR : x_Rp D d A mc S H) (hlink : (Cond.fieldLink own index "PressedMen$Both" "one" "LPressedMen$Text;").before args s = true) (hdg : decode cc pc = .ok (.getfield index, 3)) (ha : xT S a = 8 ∨ xT S a = 9)
    (kk : W p l e R s m args below meth c H locs cells slots Q (F0 m (pc + 3) ls (va_rf (xR S 400 a) :: rest))) : W p l e R s m args below meth c H locs cells slots Q (F0 m pc ls (.ref a :: rest)) := by
  rcases ha with ha | ha
  · exact x_getR (ci := 7) (C := RX7) (T := TX7) (N := 2) (f := 400) hx hb hts in_X7 hown hK hR rfl 0 (by decide) hlink (fun _ h => h) rfl (by decide) hdg ha kk
  · exact x_getR (ci := 8) (C := RX8) (T := TX8) (N := 2) (f := 400) hx hb hts in_X8 hown hK hR rfl 0 (by decide) hlink (fun _ h => h) rfl (by decide) hdg ha kk
theorem x_put400 (hx : p.tables.exec = Jvm.exec) (hb : c.code = cc) {index : Nat} {r : Option Nat} (hts : ∀ w ∈ lw_all, w.before args s = true) (hown : s.vm.findClass "PressedMen$Both" = some m.cls) (hK : x_KK D d s) (hR : x_Rp D d A mc S H) (hS : va_S A H0 H locs) (hin : meth.name = "<init>") (hlink : (Cond.fieldLink "PressedMen$Both" index "PressedMen$Both" "one" "LPressedMen$Text;").before args s = true) (hdg : decode cc pc = .ok (.putfield index, 3)) (ha : xT S a = 8 ∨ xT S a = 9)
    (kk : ∀ (H1 : Heap) (locs1 : List Loc), x_Rp D d A mc (sR S 400 a r) H1 → va_S A H0 H1 locs1 → W p l e R s m args below meth c H1 locs1 cells slots Q (F0 m (pc + 3) ls rest)) : W p l e R s m args below meth c H locs cells slots Q (F0 m pc ls (va_rf r :: .ref a :: rest)) := by
  rcases ha with ha | ha
  · exact x_putFR (ci := 7) (C := RX7) (T := TX7) (N := 2) (f := 400) hx hb hts in_X7 tyX7 tyX7_ok nmX7 hown hK hR hS rfl 0 (by decide) hlink (fun _ h => h) rfl hin rfl rfl (by decide) (x_rn _ _) (x_rf _ _) hdg ha kk
  · exact x_putFR (ci := 8) (C := RX8) (T := TX8) (N := 2) (f := 400) hx hb hts in_X8 tyX8 tyX8_ok nmX8 hown hK hR hS rfl 0 (by decide) hlink (fun _ h => h) rfl hin rfl rfl (by decide) (x_rn _ _) (x_rf _ _) hdg ha kk
theorem x_get401 (hx : p.tables.exec = Jvm.exec) (hb : c.code = cc) {index : Nat} {own : String} (hts : ∀ w ∈ lw_all, w.before args s = true) (hown : s.vm.findClass own = some m.cls) (hK : x_KK D d s) (hR : x_Rp D d A mc S H) (hlink : (Cond.fieldLink own index "PressedMen$Both" "two" "LPressedMen$Text;").before args s = true) (hdg : decode cc pc = .ok (.getfield index, 3)) (ha : xT S a = 8 ∨ xT S a = 9)
    (kk : W p l e R s m args below meth c H locs cells slots Q (F0 m (pc + 3) ls (va_rf (xR S 401 a) :: rest))) : W p l e R s m args below meth c H locs cells slots Q (F0 m pc ls (.ref a :: rest)) := by
  rcases ha with ha | ha
  · exact x_getR (ci := 7) (C := RX7) (T := TX7) (N := 2) (f := 401) hx hb hts in_X7 hown hK hR rfl 1 (by decide) hlink (fun _ h => h) rfl (by decide) hdg ha kk
  · exact x_getR (ci := 8) (C := RX8) (T := TX8) (N := 2) (f := 401) hx hb hts in_X8 hown hK hR rfl 1 (by decide) hlink (fun _ h => h) rfl (by decide) hdg ha kk
theorem x_put401 (hx : p.tables.exec = Jvm.exec) (hb : c.code = cc) {index : Nat} {r : Option Nat} (hts : ∀ w ∈ lw_all, w.before args s = true) (hown : s.vm.findClass "PressedMen$Both" = some m.cls) (hK : x_KK D d s) (hR : x_Rp D d A mc S H) (hS : va_S A H0 H locs) (hin : meth.name = "<init>") (hlink : (Cond.fieldLink "PressedMen$Both" index "PressedMen$Both" "two" "LPressedMen$Text;").before args s = true) (hdg : decode cc pc = .ok (.putfield index, 3)) (ha : xT S a = 8 ∨ xT S a = 9)
    (kk : ∀ (H1 : Heap) (locs1 : List Loc), x_Rp D d A mc (sR S 401 a r) H1 → va_S A H0 H1 locs1 → W p l e R s m args below meth c H1 locs1 cells slots Q (F0 m (pc + 3) ls rest)) : W p l e R s m args below meth c H locs cells slots Q (F0 m pc ls (va_rf r :: .ref a :: rest)) := by
  rcases ha with ha | ha
  · exact x_putFR (ci := 7) (C := RX7) (T := TX7) (N := 2) (f := 401) hx hb hts in_X7 tyX7 tyX7_ok nmX7 hown hK hR hS rfl 1 (by decide) hlink (fun _ h => h) rfl hin rfl rfl (by decide) (x_rn _ _) (x_rf _ _) hdg ha kk
  · exact x_putFR (ci := 8) (C := RX8) (T := TX8) (N := 2) (f := 401) hx hb hts in_X8 tyX8 tyX8_ok nmX8 hown hK hR hS rfl 1 (by decide) hlink (fun _ h => h) rfl hin rfl rfl (by decide) (x_rn _ _) (x_rf _ _) hdg ha kk
theorem x_get550 (hx : p.tables.exec = Jvm.exec) (hb : c.code = cc) {index : Nat} {own : String} (hts : ∀ w ∈ lw_all, w.before args s = true) (hown : s.vm.findClass own = some m.cls) (hK : x_KK D d s) (hR : x_Rp D d A mc S H) (hlink : (Cond.fieldLink own index "PressedMen$AtLeast" "what" "I").before args s = true) (hdg : decode cc pc = .ok (.getfield index, 3)) (ha : xT S a = 11 ∨ xT S a = 12 ∨ xT S a = 13)
    (kk : W p l e R s m args below meth c H locs cells slots Q (F0 m (pc + 3) ls (.int (xI S 550 a) :: rest))) : W p l e R s m args below meth c H locs cells slots Q (F0 m pc ls (.ref a :: rest)) := by
  rcases ha with ha | ha | ha
  · exact x_getI (ci := 10) (C := RX10) (T := TX10) (N := 2) (f := 550) hx hb hts in_X10 hown hK hR rfl 0 (by decide) hlink (fun _ h => h) rfl (by decide) hdg ha kk
  · exact x_getI (ci := 11) (C := RX11) (T := TX11) (N := 2) (f := 550) hx hb hts in_X11 hown hK hR rfl 0 (by decide) hlink (fun _ h => h) rfl (by decide) hdg ha kk
  · exact x_getI (ci := 12) (C := RX12) (T := TX12) (N := 2) (f := 550) hx hb hts in_X12 hown hK hR rfl 0 (by decide) hlink (fun _ h => h) rfl (by decide) hdg ha kk
theorem x_put550 (hx : p.tables.exec = Jvm.exec) (hb : c.code = cc) {index : Nat} {x : Int32} (hts : ∀ w ∈ lw_all, w.before args s = true) (hown : s.vm.findClass "PressedMen$AtLeast" = some m.cls) (hK : x_KK D d s) (hR : x_Rp D d A mc S H) (hS : va_S A H0 H locs) (hin : meth.name = "<init>") (hlink : (Cond.fieldLink "PressedMen$AtLeast" index "PressedMen$AtLeast" "what" "I").before args s = true) (hdg : decode cc pc = .ok (.putfield index, 3)) (ha : xT S a = 11 ∨ xT S a = 12 ∨ xT S a = 13)
    (kk : ∀ (H1 : Heap) (locs1 : List Loc), x_Rp D d A mc (sI S 550 a x) H1 → va_S A H0 H1 locs1 → W p l e R s m args below meth c H1 locs1 cells slots Q (F0 m (pc + 3) ls rest)) : W p l e R s m args below meth c H locs cells slots Q (F0 m pc ls (.int x :: .ref a :: rest)) := by
  rcases ha with ha | ha | ha
  · exact x_putFI (ci := 10) (C := RX10) (T := TX10) (N := 2) (f := 550) hx hb hts in_X10 tyX10 tyX10_ok nmX10 hown hK hR hS rfl 0 (by decide) hlink (fun _ h => h) rfl hin rfl rfl (by decide) rfl rfl hdg ha kk
  · exact x_putFI (ci := 11) (C := RX11) (T := TX11) (N := 2) (f := 550) hx hb hts in_X11 tyX11 tyX11_ok nmX11 hown hK hR hS rfl 0 (by decide) hlink (fun _ h => h) rfl hin rfl rfl (by decide) rfl rfl hdg ha kk
  · exact x_putFI (ci := 12) (C := RX12) (T := TX12) (N := 2) (f := 550) hx hb hts in_X12 tyX12 tyX12_ok nmX12 hown hK hR hS rfl 0 (by decide) hlink (fun _ h => h) rfl hin rfl rfl (by decide) rfl rfl hdg ha kk
theorem x_get551 (hx : p.tables.exec = Jvm.exec) (hb : c.code = cc) {index : Nat} {own : String} (hts : ∀ w ∈ lw_all, w.before args s = true) (hown : s.vm.findClass own = some m.cls) (hK : x_KK D d s) (hR : x_Rp D d A mc S H) (hlink : (Cond.fieldLink own index "PressedMen$AtLeast" "least" "I").before args s = true) (hdg : decode cc pc = .ok (.getfield index, 3)) (ha : xT S a = 11 ∨ xT S a = 12 ∨ xT S a = 13)
    (kk : W p l e R s m args below meth c H locs cells slots Q (F0 m (pc + 3) ls (.int (xI S 551 a) :: rest))) : W p l e R s m args below meth c H locs cells slots Q (F0 m pc ls (.ref a :: rest)) := by
  rcases ha with ha | ha | ha
  · exact x_getI (ci := 10) (C := RX10) (T := TX10) (N := 2) (f := 551) hx hb hts in_X10 hown hK hR rfl 1 (by decide) hlink (fun _ h => h) rfl (by decide) hdg ha kk
  · exact x_getI (ci := 11) (C := RX11) (T := TX11) (N := 2) (f := 551) hx hb hts in_X11 hown hK hR rfl 1 (by decide) hlink (fun _ h => h) rfl (by decide) hdg ha kk
  · exact x_getI (ci := 12) (C := RX12) (T := TX12) (N := 2) (f := 551) hx hb hts in_X12 hown hK hR rfl 1 (by decide) hlink (fun _ h => h) rfl (by decide) hdg ha kk
theorem x_put551 (hx : p.tables.exec = Jvm.exec) (hb : c.code = cc) {index : Nat} {x : Int32} (hts : ∀ w ∈ lw_all, w.before args s = true) (hown : s.vm.findClass "PressedMen$AtLeast" = some m.cls) (hK : x_KK D d s) (hR : x_Rp D d A mc S H) (hS : va_S A H0 H locs) (hin : meth.name = "<init>") (hlink : (Cond.fieldLink "PressedMen$AtLeast" index "PressedMen$AtLeast" "least" "I").before args s = true) (hdg : decode cc pc = .ok (.putfield index, 3)) (ha : xT S a = 11 ∨ xT S a = 12 ∨ xT S a = 13)
    (kk : ∀ (H1 : Heap) (locs1 : List Loc), x_Rp D d A mc (sI S 551 a x) H1 → va_S A H0 H1 locs1 → W p l e R s m args below meth c H1 locs1 cells slots Q (F0 m (pc + 3) ls rest)) : W p l e R s m args below meth c H locs cells slots Q (F0 m pc ls (.int x :: .ref a :: rest)) := by
  rcases ha with ha | ha | ha
  · exact x_putFI (ci := 10) (C := RX10) (T := TX10) (N := 2) (f := 551) hx hb hts in_X10 tyX10 tyX10_ok nmX10 hown hK hR hS rfl 1 (by decide) hlink (fun _ h => h) rfl hin rfl rfl (by decide) rfl rfl hdg ha kk
  · exact x_putFI (ci := 11) (C := RX11) (T := TX11) (N := 2) (f := 551) hx hb hts in_X11 tyX11 tyX11_ok nmX11 hown hK hR hS rfl 1 (by decide) hlink (fun _ h => h) rfl hin rfl rfl (by decide) rfl rfl hdg ha kk
  · exact x_putFI (ci := 12) (C := RX12) (T := TX12) (N := 2) (f := 551) hx hb hts in_X12 tyX12 tyX12_ok nmX12 hown hK hR hS rfl 1 (by decide) hlink (fun _ h => h) rfl hin rfl rfl (by decide) rfl rfl hdg ha kk
end XU
