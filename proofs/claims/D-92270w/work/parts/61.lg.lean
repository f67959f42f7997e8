set_option maxRecDepth 100000
/-! ===== fleets ===== -/
def bt (x : Int32) (s : Nat) : Int32 := (x >>> (nI s &&& 31)) &&& 1
def nd (M : xM) (k : Nat) (x : Int32) (s : Nat) : Int32 := if bt x s = 1 then M2 M k s else 0
def mx (a b : Int32) : Int32 := if a < b then b else a
def tkv (x3 x4 x5 x6 : Int32) : Int32 := if x5 < mx (mx x3 x4) 0 then -9 else if x6 < x4 then -9 else mx (mx x3 x4) 0
theorem le_nlt {a b : Int32} : a ≤ b ↔ ¬ b < a := by rw [Int32.le_iff_toInt_le, Int32.lt_iff_toInt_lt]; omega
theorem mx_le {a b : Int32} : (if a ≤ b then b else a) = mx a b := by
  unfold mx
  by_cases h : a < b
  · rw [if_pos h, if_pos (by rw [Int32.lt_iff_toInt_lt] at h; rw [Int32.le_iff_toInt_le]; omega)]
  · rw [if_neg h]
    by_cases e : a ≤ b
    · rw [if_pos e]
      rw [Int32.lt_iff_toInt_lt] at h
      rw [Int32.le_iff_toInt_le] at e
      exact Int32.toInt_inj.mp (by omega)
    · rw [if_neg e]
theorem mx_0 {a : Int32} : (if 0 < a then a else 0) = mx a 0 := by
  unfold mx
  by_cases h : 0 < a
  · rw [if_pos h, if_neg (by rw [Int32.lt_iff_toInt_lt] at h ⊢; omega)]
  · rw [if_neg h]
    by_cases e : a < 0
    · rw [if_pos e]
    · rw [if_neg e]
      rw [Int32.lt_iff_toInt_lt] at h e
      exact Int32.toInt_inj.mp (by have : (0 : Int32).toInt = 0 := by decide
                                   omega)
theorem mx_0' {a : Int32} : (if a ≤ 0 then 0 else a) = mx a 0 := mx_le
section
variable {G : xG} {S : xH} {o : Nat} {M : xM} {x y w : Int32} {s : Nat} {Q : Int32 → Prop}
def gc (G : xG) (M : xM) (y : Int32) (s : Nat) : Int32 := if M2 M 14 s = 0 ∧ M2 M 10 s = 0 then crw G M s y else 0
def spf (G : xG) (M : xM) (w : Int32) (s : Nat) : Int32 := if M2 M 14 s = 0 ∧ M2 M 10 s = 1 then spr G M s w else 0
def mnf (G : xG) (M : xM) (w : Int32) (s : Nat) : Int32 := if M2 M 14 s = 0 ∧ M2 M 10 s = 1 then (if crw G M s 1 < spr G M s w then crw G M s 1 else spr G M s w) else 0
def pol (G : xG) (M : xM) (y : Int32) : Int32 := mA M (gN G 4) (gN G 5) 20 y + sm (gc G M y) (gN G 9)
def tkx (G : xG) (M : xM) (x w : Int32) : Int32 := tkv (-(pol G M 0) + sm (nd M 11 x) (gN G 9)) (-(pol G M 1) + sm (nd M 12 x) (gN G 9)) (sm (spf G M w) (gN G 9)) (sm (mnf G M w) (gN G 9))
theorem c_homeS (h : Inv G S o M) (hs : s < gN G 9) : w_X0_isHomeShip S o (10 + nI s) y Q = wif (M2 M 14 s = 0 ∧ (y = -9 ∨ M2 M 10 s = y)) (Q 1) (Q 0) := by
  have n9 := h.O_n9
  rw [ja10, c_home1 h (by omega) (by omega), Nat.add_sub_cancel_left]
theorem c_pool (h : Inv G S o M) (q : Q (pol G M y)) : w_X0_pool S o y Q := by
  have n9 := h.O_n9
  unfold w_X0_pool
  refine ⟨h.O_t, c_menAt h ?_⟩
  refine lf2_u (gN G 9) (fun i a b => a = mA M (gN G 4) (gN G 5) 20 y + sm (gc G M y) i ∧ b = nI i) ?_ _ _ ⟨(Int32.add_zero _).symm, rfl⟩
  rintro P i a b hi ⟨rfl, rfl⟩ hP
  refine ⟨h.O_t, ?_⟩
  rw [h.O_c65]
  by_cases el : i = gN G 9
  · rw [el]
    exact wif_y (Int32.le_refl _) q
  have hl : i < gN G 9 := by omega
  refine wif_n (nI_ge hl (by omega)) ⟨h.O_t, ?_⟩
  rw [c_homeS h hl]
  have nx : ∀ v, v = gc G M y i → jn (fun (v1_9 : Int32) => nm (mA M (gN G 4) (gN G 5) 20 y + sm (gc G M y) i + v1_9) (fun x2_11 : Int32 => P x2_11 (nI i + 1))) (fun J => J v) := fun v ev => by
    simp only [jn_eq, nm_eq]
    exact hP _ _ hl ⟨by rw [sm, ev, Int32.add_assoc], nI_1 i⟩
  by_cases c : M2 M 14 i = 0 ∧ M2 M 10 i = 0
  · refine wif_y ⟨c.1, Or.inr c.2⟩ ?_
    rw [jn_eq]
    refine wif_n (by decide) ⟨h.O_t, c_crew h ?_⟩
    exact nx _ (by rw [gc, if_pos c])
  · refine wif_n (fun z => c ⟨z.1, by rcases z.2 with z | z; exact absurd z (by decide); exact z⟩) ?_
    rw [jn_eq]
    refine wif_y rfl ?_
    exact nx _ (by rw [gc, if_neg c])
theorem c_takenFor (h : Inv G S o M) (q : Q (if x = 0 then 0 else tkx G M x w)) : w_X0_takenFor S o x w Q := by
  have n9 := h.O_n9
  unfold w_X0_takenFor
  refine ⟨h.O_t, c_pool h ?_⟩
  rw [nm_eq]
  refine ⟨h.O_t, c_pool h ?_⟩
  rw [nm_eq]
  refine lf5_u (gN G 9) (fun i a b c d e => a = -(pol G M 0) + sm (nd M 11 x) i ∧ b = -(pol G M 1) + sm (nd M 12 x) i ∧ c = sm (spf G M w) i ∧ d = sm (mnf G M w) i ∧ e = nI i) ?_ _ _ _ _ _ ⟨(Int32.add_zero _).symm, (Int32.add_zero _).symm, rfl, rfl, rfl⟩
  rintro P i a b c d e hi ⟨ea, eb, ec, ed, rfl⟩ hP
  refine ⟨h.O_t, ?_⟩
  rw [h.O_c65]
  by_cases el : i = gN G 9
  · refine wif_y (by rw [el]; exact Int32.le_refl _) ?_
    rw [nm_eq]
    by_cases x0 : x = 0
    · rw [if_pos x0] at q
      exact wif_y x0 q
    rw [if_neg x0] at q
    refine wif_n x0 ?_
    have e0 : tkx G M x w = tkv a b c d := by rw [tkx, ea, eb, ec, ed, el]
    have em : (if 0 < (if a < b then b else a) then (if a < b then b else a) else 0) = mx (mx a b) 0 := mx_0
    rw [em]
    rw [e0, tkv] at q
    by_cases c1 : c < mx (mx a b) 0
    · rw [if_pos c1] at q
      exact wif_y c1 q
    rw [if_neg c1] at q
    refine wif_n c1 ?_
    by_cases c2 : d < b
    · rw [if_pos c2] at q
      exact wif_n (fun z => (le_nlt.mp z) c2) q
    · rw [if_neg c2] at q
      exact wif_y (le_nlt.mpr c2) q
  have hl : i < gN G 9 := by omega
  have hv := hS_v h hl
  refine wif_n (nI_ge hl (by omega)) ?_
  have ebt : (x >>> (nI i &&& 31)) &&& 1 = bt x i := rfl
  refine jn2_i (fun a b => a = -(pol G M 0) + sm (nd M 11 x) (i + 1) ∧ b = -(pol G M 1) + sm (nd M 12 x) (i + 1)) (fun a' b' hab => ?_) (fun J hJ => ?_)
  · refine ⟨h.O_t, ?_⟩
    rw [c_homeS h hl]
    by_cases c1 : M2 M 14 i = 0 ∧ M2 M 10 i = 1
    · refine wif_y ⟨c1.1, Or.inr c1.2⟩ ?_
      rw [jn2_eq]
      refine wif_n (by decide) ⟨h.O_t, c_spareOf h hl ?_⟩
      rw [nm_eq]
      refine ⟨h.O_t, c_crew h ?_⟩
      rw [nm_eq]
      exact hP _ _ _ _ _ hl ⟨hab.1, hab.2, by rw [sm, ec, spf, if_pos c1], by rw [sm, ed, mnf, if_pos c1], nI_1 i⟩
    · refine wif_n (fun z => c1 ⟨z.1, by rcases z.2 with z | z; exact absurd z (by decide); exact z⟩) ?_
      rw [jn2_eq]
      refine wif_y rfl ?_
      exact hP _ _ _ _ _ hl ⟨hab.1, hab.2, by rw [sm, ec, spf, if_neg c1, Int32.add_zero], by rw [sm, ed, mnf, if_neg c1, Int32.add_zero], nI_1 i⟩
  · rw [ebt]
    by_cases c1 : bt x i = 1
    · refine wif_y c1 ?_
      simp only [h.O_t, h.R_r64, h.R_t64, h.R_l64, hv, h.S_q hl, h.S_T hl, h.S_k1 hl, h.S_k2 hl, wif_T, wif_F, nm_eq, zI_t, zI_f, zI0, x_B_zI, x_B_0, x_B_1, isIn_eq, in_eq, Bool.true_eq_false, Bool.false_eq_true, eq_self, true_and, and_true, Option.some.injEq, exists_eq_left', exists_eq_left, reduceCtorEq, not_true_eq_false, not_false_eq_true, one_ne, if_true, if_false]
      exact hJ _ _ ⟨by rw [ea, sm, nd, if_pos c1, Int32.add_assoc], by rw [eb, sm, nd, if_pos c1, Int32.add_assoc]⟩
    · exact wif_n c1 (hJ _ _ ⟨by rw [ea, sm, nd, if_neg c1, Int32.add_zero], by rw [eb, sm, nd, if_neg c1, Int32.add_zero]⟩)
/-- a set of ships that may go -/
def flS (G : xG) (M : xM) (x : Int32) (i : Nat) : Prop := ∀ s, s < i → bt x s = 1 → M2 M 14 s = 0 ∧ M2 M 10 s = 0
theorem m_mayGo (hs : s < 10) : w_X1_mayGo M (nI s) Q = wif (M2 M 14 s = 0 ∧ M2 M 10 s = 0) (Q 1) (Q 0) := by
  have hv : vp_in (nI s) 10 := vp_in_nI hs (by decide)
  unfold w_X1_mayGo
  rw [nI_clamp (show s < 2 ^ 31 by omega)]
  simp only [hv, true_and]
  by_cases c1 : M2 M 10 s = 0
  · by_cases c2 : M2 M 14 s = 0
    · exact propext ⟨fun z => wif_y ⟨c2, c1⟩ ((z.1 c1).1 c2), fun z => wif_y c1 (wif_y c2 (z.1 ⟨c2, c1⟩))⟩
    · exact propext ⟨fun z => wif_n (fun c => c2 c.1) ((z.1 c1).2 c2), fun z => wif_y c1 (wif_n c2 (z.2 (fun c => c2 c.1)))⟩
  · exact propext ⟨fun z => wif_n (fun c => c1 c.2) (z.2 c1), fun z => wif_n c1 (z.2 (fun c => c1 c.2))⟩
theorem rA (a b c d e : Int32) : -a - b + c - d + e = -a - (b + d) + (c + e) := by
  simp only [Int32.sub_eq_add_neg, Int32.neg_add]
  ac_rfl
theorem rB (a b c : Int32) : -a - b + c = -(a + b) + c := by
  simp only [Int32.sub_eq_add_neg, Int32.neg_add]
theorem m_fewest (h : mI G M) (fl : flS G M x (gN G 9)) (q : Q (tkx G M x w)) : w_X1_fewest M x w Q := by
  have n9 := h.n9
  unfold w_X1_fewest
  refine m_many h ?_
  rw [nm_eq]
  refine m_skilled h ?_
  rw [nm_eq]
  refine lf5_u (gN G 9) (fun i a b c d e => a = -(mA M (gN G 4) (gN G 5) 20 0) - sm (gc G M 0) i + sm (nd M 11 x) i ∧ b = -(mA M (gN G 4) (gN G 5) 20 1) - sm (gc G M 1) i + sm (nd M 12 x) i ∧ c = sm (spf G M w) i ∧ d = sm (mnf G M w) i ∧ e = nI i) ?_ _ _ _ _ _ ⟨by simp [sm], by simp [sm], rfl, rfl, rfl⟩
  rintro P i a b c d e hi ⟨ea, eb, ec, ed, rfl⟩ hP
  rw [h.d9]
  by_cases el : i = gN G 9
  · refine wif_y (by rw [el]; exact Int32.le_refl _) ?_
    have e0 : tkx G M x w = tkv a b c d := by rw [tkx, ea, eb, ec, ed, el, rB, rB, pol, pol]
    rw [e0] at q
    have fin : jn (fun (v0_16 : Int32) => wif (c < v0_16) (Q (-9)) (wif (d < b) (Q (-9)) (Q v0_16))) (fun J => J (mx (mx a b) 0)) := by
      rw [jn_eq]
      rw [tkv] at q
      by_cases c1 : c < mx (mx a b) 0
      · rw [if_pos c1] at q
        exact wif_y c1 q
      rw [if_neg c1] at q
      refine wif_n c1 ?_
      by_cases c2 : d < b
      · rw [if_pos c2] at q
        exact wif_y c2 q
      · rw [if_neg c2] at q
        exact wif_n c2 q
    rw [jn_eq] at fin
    have fin2 : ∀ v, v = mx a b → wif (v ≤ 0) (wif (c < 0) (Q (-9)) (wif (d < b) (Q (-9)) (Q 0))) (wif (c < v) (Q (-9)) (wif (d < b) (Q (-9)) (Q v))) := fun v ev => by
      by_cases z : v ≤ 0
      · refine wif_y z ?_
        have : mx (mx a b) 0 = 0 := by rw [← mx_0', ← ev, if_pos z]
        rw [this] at fin
        exact fin
      · refine wif_n z ?_
        have : mx (mx a b) 0 = v := by rw [← mx_0', ← ev, if_neg z]
        rw [this] at fin
        exact fin
    simp only [jn_eq]
    by_cases z : a ≤ b
    · exact wif_y z (fin2 b (by rw [← mx_le, if_pos z]))
    · exact wif_n z (fin2 a (by rw [← mx_le, if_neg z]))
  have hl : i < gN G 9 := by omega
  refine wif_n (nI_ge hl (by omega)) ?_
  rw [m_mayGo (by omega), nI_clamp (show i < 2 ^ 31 by omega)]
  have ebt : (x >>> (nI i &&& 31)) &&& 1 = bt x i := rfl
  rw [ebt]
  have hv : vp_in (nI i) 10 := vp_in_nI (by omega) (by decide)
  by_cases c0 : M2 M 14 i = 0 ∧ M2 M 10 i = 0
  · refine wif_y c0 ?_
    have n1 : ¬ (M2 M 14 i = 0 ∧ M2 M 10 i = 1) := fun z => absurd (z.2.symm.trans c0.2) (by decide)
    rw [jn4_eq]
    refine wif_n (by decide) (m_crew h ?_)
    rw [nm_eq]
    refine m_crewS h ?_
    rw [nm_eq]
    have st : ∀ v u, v = nd M 11 x i → u = nd M 12 x i → P (a - crw G M i 0 + v) (b - crw G M i 1 + u) c d (nI i + 1) := fun v u ev eu => by
      refine hP _ _ _ _ _ hl ⟨?_, ?_, by rw [sm, ec, spf, if_neg n1, Int32.add_zero], by rw [sm, ed, mnf, if_neg n1, Int32.add_zero], nI_1 i⟩
      · rw [ea, ev, rA, sm, sm, gc, if_pos c0]
      · rw [eb, eu, rA, sm, sm, gc, if_pos c0]
    simp only [jn_eq, nm_eq]
    by_cases c1 : bt x i = 1
    · refine wif_y c1 ⟨hv, wif_y c1 ⟨hv, ?_⟩⟩
      exact st _ _ (by rw [nd, if_pos c1]) (by rw [nd, if_pos c1])
    · refine wif_n c1 (wif_n c1 ?_)
      exact st _ _ (by rw [nd, if_neg c1]) (by rw [nd, if_neg c1])
  · refine wif_n c0 ?_
    have c1 : ¬ bt x i = 1 := fun z => c0 (fl i hl z)
    have A : ∀ k y' z', -z' - sm (gc G M y') i + sm (nd M k x) i = -z' - sm (gc G M y') (i + 1) + sm (nd M k x) (i + 1) := fun k y' z' => by
      rw [sm, sm, gc, if_neg c0, nd, if_neg c1, Int32.add_zero, Int32.add_zero]
    rw [jn4_eq]
    refine wif_y rfl ⟨hv, ?_⟩
    by_cases c2 : M2 M 14 i = 0 ∧ M2 M 10 i = 1
    · refine wif_y c2.2 ⟨hv, wif_y c2.1 (m_spared h (by omega) (m_crewS h ?_))⟩
      simp only [nm_eq, jn_eq]
      have st : ∀ v, v = (if crw G M i 1 < spr G M i w then crw G M i 1 else spr G M i w) → P a b (c + spr G M i w) (d + v) (nI i + 1) := fun v ev => hP _ _ _ _ _ hl ⟨by rw [ea, A], by rw [eb, A], by rw [sm, ec, spf, if_pos c2], by rw [sm, ed, mnf, if_pos c2, ev], nI_1 i⟩
      by_cases z : crw G M i 1 ≤ spr G M i w
      · refine wif_y z (st _ ?_)
        by_cases z2 : crw G M i 1 < spr G M i w
        · rw [if_pos z2]
        · rw [if_neg z2]
          rw [Int32.lt_iff_toInt_lt] at z2
          rw [Int32.le_iff_toInt_le] at z
          exact Int32.toInt_inj.mp (by omega)
      · refine wif_n z (st _ ?_)
        rw [if_neg (fun z2 => z (by rw [Int32.lt_iff_toInt_lt] at z2; rw [Int32.le_iff_toInt_le]; omega))]
    · have st : P a b c d (nI i + 1) := hP _ _ _ _ _ hl ⟨by rw [ea, A], by rw [eb, A], by rw [sm, ec, spf, if_neg c2, Int32.add_zero], by rw [sm, ed, mnf, if_neg c2, Int32.add_zero], nI_1 i⟩
      by_cases z : M2 M 10 i = 1
      · exact wif_y z ⟨hv, wif_n (fun z2 => c2 ⟨z2, z⟩) st⟩
      · exact wif_n z st
end
