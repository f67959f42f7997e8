set_option maxRecDepth 100000
/-! ===== texts: what they say of a man ===== -/
theorem hsD_c {v : Int32} (h : hsD v = true) : v = 97 ∨ v = 65 ∨ v = 121 ∨ v = 89 ∨ v = 116 := by
  simp only [hsD, Bool.or_eq_true, decide_eq_true_eq] at h
  rcases h with (((h | h) | h) | h) | h
  · exact Or.inl h
  · exact Or.inr (Or.inl h)
  · exact Or.inr (Or.inr (Or.inl h))
  · exact Or.inr (Or.inr (Or.inr (Or.inl h)))
  · exact Or.inr (Or.inr (Or.inr (Or.inr h)))
theorem psh_c {v : Int32} (h : psh v = true) : v = 112 ∨ v = 115 ∨ v = 104 := by
  simp only [psh, Bool.or_eq_true, decide_eq_true_eq] at h
  rcases h with (h | h) | h
  · exact Or.inl h
  · exact Or.inr (Or.inl h)
  · exact Or.inr (Or.inr h)
theorem two_c {v : Int32} (h : two v = true) : v = 38 ∨ v = 124 := by
  simpa only [two, Bool.or_eq_true, decide_eq_true_eq] using h
theorem hsD_n {v : Int32} (h : hsD v = true) : ¬ v = 38 ∧ ¬ v = 124 ∧ ¬ v = 33 ∧ ¬ dgt v = true ∧ ¬ two v = true ∧ ¬ psh v = true := by
  rcases hsD_c h with rfl | rfl | rfl | rfl | rfl <;> decide
theorem psh_n {v : Int32} (h : psh v = true) : ¬ v = 38 ∧ ¬ v = 124 ∧ ¬ v = 33 ∧ ¬ dgt v = true ∧ ¬ two v = true ∧ ¬ hsD v = true := by
  rcases psh_c h with rfl | rfl | rfl <;> decide
/-- reading from the right, a text's part at a time -/
theorem seg {sg : Nat → Int32} {c : Nat} {te : Int32 → Int32 → Bool} {P : Nat → Int32 → Nat → (Nat → Int32) → Prop}
    (hU : ∀ h num i F, i + 1 < c → dgt (sg i) = true → dgt (sg (i + 1)) = true → P h (sg (i + 1) - 48) (i + 1) F → P h num (i + 2) F)
    (hD : ∀ h num i F, i + 1 < c → ¬ dgt (sg i) = true → dgt (sg (i + 1)) = true → P h (num + 10 * (sg (i + 1) - 48)) (i + 1) F → P h num (i + 2) F)
    (h33 : ∀ h num i F v, i < c → h < 64 → sg i = 33 → F h = zI v → P (h + 1) num i (fun b => if b = h then zI (!v) else F b) → P (h + 1) num (i + 1) F)
    (h38 : ∀ h num i F v w, i < c → h + 1 < 64 → sg i = 38 → F (h + 1) = zI v → F h = zI w → P (h + 1) num i (fun b => if b = h then zI (v && w) else F b) → P (h + 2) num (i + 1) F)
    (h124 : ∀ h num i F v w, i < c → h + 1 < 64 → sg i = 124 → F (h + 1) = zI v → F h = zI w → P (h + 1) num i (fun b => if b = h then zI (v || w) else F b) → P (h + 2) num (i + 1) F)
    (hT : ∀ h num i F, i < c → h < 64 → (hsD (sg i) = true ∨ psh (sg i) = true) → P (h + 1) num i (fun b => if b = h then zI (te (sg i) num) else F b) → P h num (i + 1) F)
    (tp : ∀ v a b, psh v = true → te v a = te v b) :
    ∀ f i, i ≤ c → (pT sg c f i).1 = true → ∀ h num F, h + (pT sg c f i).2 ≤ 60 → (∀ num' F', F' h = zI (vT sg c te f i) → (∀ j, j < h → F' j = F j) → P (h + 1) num' i F') → P h num (pT sg c f i).2 F := by
  intro f
  induction f with
  | zero => intro i hi ok; exact absurd ok (by simp [pT])
  | succ f ih =>
    intro i hic ok h num F hh K
    have hi : i < c := by
      by_cases hi : i < c
      · exact hi
      · rw [pT, if_neg hi] at ok; exact absurd ok (by simp)
    have bd := pT_bd (sg := sg) f (i + 1) (show i + 1 ≤ c by omega)
    have upn : ∀ (F : Nat → Int32) (v : Int32) j, j < h → (fun b => if b = h then v else F b) j = F j := fun F v j hj => if_neg (by omega)
    by_cases h2 : two (sg i) = true
    · have ok1 : (pT sg c f (i + 1)).1 = true := by
        by_cases o1 : (pT sg c f (i + 1)).1 = true
        · exact o1
        · rw [pT, if_pos hi, if_pos h2, if_neg o1] at ok; exact absurd ok o1
      have ep : pT sg c (f + 1) i = pT sg c f (pT sg c f (i + 1)).2 := by rw [pT, if_pos hi, if_pos h2, if_pos ok1]
      rw [ep] at ok hh ⊢
      have bd2 := pT_bd (sg := sg) f _ bd.2.1
      have l2 := bd2.2.2 ok
      refine ih _ bd.2.1 ok h num F hh (fun num1 F1 e1 k1 => ih (i + 1) (by omega) ok1 (h + 1) num1 F1 (by omega) (fun num2 F2 e2 k2 => ?_))
      have e1' := (k2 h (by omega)).trans e1
      rcases two_c h2 with e | e
      · refine h38 h num2 i F2 _ _ hi (by omega) e e2 e1' (K _ _ ?_ (fun j hj => ?_))
        · show (if h = h then _ else _) = _
          rw [if_pos rfl, vT, if_pos e]
        · rw [if_neg (by omega), k2 j (by omega), k1 j hj]
      · refine h124 h num2 i F2 _ _ hi (by omega) e e2 e1' (K _ _ ?_ (fun j hj => ?_))
        · show (if h = h then _ else _) = _
          rw [if_pos rfl, vT, if_neg (by rw [e]; decide), if_pos e]
        · rw [if_neg (by omega), k2 j (by omega), k1 j hj]
    · by_cases h3 : sg i = 33
      · have ep : pT sg c (f + 1) i = pT sg c f (i + 1) := by rw [pT, if_pos hi, if_neg h2, if_pos h3]
        rw [ep] at ok hh ⊢
        refine ih (i + 1) (by omega) ok h num F hh (fun num1 F1 e1 k1 => h33 h num1 i F1 _ hi (by omega) h3 e1 (K _ _ ?_ (fun j hj => ?_)))
        · show (if h = h then _ else _) = _
          rw [if_pos rfl, vT, if_neg (by rw [h3]; decide), if_neg (by rw [h3]; decide), if_pos h3]
        · rw [if_neg (by omega), k1 j hj]
      · by_cases h4 : hsD (sg i) = true
        · obtain ⟨n1, n2, n3, n4, n5, n6⟩ := hsD_n h4
          have ep : pT sg c (f + 1) i = pN sg c (i + 1) := by rw [pT, if_pos hi, if_neg h2, if_neg h3, if_pos h4]
          rw [ep] at ok hh ⊢
          by_cases d1 : i + 1 < c ∧ dgt (sg (i + 1)) = true
          · by_cases d2 : i + 1 + 1 < c ∧ dgt (sg (i + 1 + 1)) = true
            · have eN : pN sg c (i + 1) = (true, i + 1 + 2) := by rw [pN, if_pos d1, if_pos d2]
              rw [eN] at hh ⊢
              refine hU h num (i + 1) F d2.1 d1.2 d2.2 (hD h _ i F d1.1 n4 d1.2 (hT h _ i F hi (by simp at hh; omega) (Or.inl h4) (K _ _ ?_ (fun j hj => upn F _ j hj))))
              show (if h = h then _ else _) = _
              rw [if_pos rfl, vT, if_neg n1, if_neg n2, if_neg n3, nu, Int32.add_comm]
            · rw [pN, if_pos d1, if_neg d2] at ok
              exact absurd ok (by simp)
          · rw [pN, if_neg d1] at ok
            exact absurd ok (by simp)
        · by_cases h5 : psh (sg i) = true
          · obtain ⟨n1, n2, n3, n4, n5, n6⟩ := psh_n h5
            have ep : pT sg c (f + 1) i = (true, i + 1) := by rw [pT, if_pos hi, if_neg h2, if_neg h3, if_neg h4, if_pos h5]
            rw [ep] at hh ⊢
            refine hT h _ i F hi (by simp at hh; omega) (Or.inr h5) (K _ _ ?_ (fun j hj => upn F _ j hj))
            show (if h = h then _ else _) = _
            rw [if_pos rfl, vT, if_neg n1, if_neg n2, if_neg n3, tp _ _ _ h5]
          · rw [pT, if_pos hi, if_neg h2, if_neg h3, if_neg h4, if_neg h5] at ok
            exact absurd ok (by simp)
/-- what a test says of a man -/
def te (M : xM) (t m : Nat) (v : Bool) (x1 x2 : Int32) : Bool :=
  if x1 = 65 then decide (¬ x2 ≤ M2 M 6 (8 * m)) else if x1 = 89 then decide (¬ x2 ≤ M2 M 6 (8 * m + 5)) else if x1 = 97 then decide (¬ M2 M 6 (8 * m) < x2)
  else if x1 = 112 then v else if x1 = 115 then rg (M2 M 8 (40 * t + m)) 10 19 else if x1 = 116 then decide (M2 M 6 (8 * m + 4) = x2) else if x1 = 121 then decide (¬ M2 M 6 (8 * m + 5) < x2)
  else decide (M2 M 8 (40 * t + m) = M2 M 6 (8 * m + 6))
theorem te_p {M : xM} {t m : Nat} {b : Bool} (v x y : Int32) (h : psh v = true) : te M t m b v x = te M t m b v y := by
  have n : ∀ a : Int32, ¬ a = 65 → ¬ a = 89 → ¬ a = 97 → ∀ x, te M t m b a x = if a = 112 then b else if a = 115 then rg (M2 M 8 (40 * t + m)) 10 19 else if a = 116 then decide (M2 M 6 (8 * m + 4) = x) else if a = 121 then decide (¬ M2 M 6 (8 * m + 5) < x) else decide (M2 M 8 (40 * t + m) = M2 M 6 (8 * m + 6)) := fun a h1 h2 h3 x => by rw [te, if_neg h1, if_neg h2, if_neg h3]
  rcases psh_c h with e | e | e
  · rw [n v (by rw [e]; decide) (by rw [e]; decide) (by rw [e]; decide), n v (by rw [e]; decide) (by rw [e]; decide) (by rw [e]; decide), if_pos e, if_pos e]
  · rw [n v (by rw [e]; decide) (by rw [e]; decide) (by rw [e]; decide), n v (by rw [e]; decide) (by rw [e]; decide) (by rw [e]; decide), if_neg (by rw [e]; decide), if_pos e, if_neg (by rw [e]; decide), if_pos e]
  · rw [n v (by rw [e]; decide) (by rw [e]; decide) (by rw [e]; decide), n v (by rw [e]; decide) (by rw [e]; decide) (by rw [e]; decide)]
    have n1 : ¬ v = 112 := by rw [e]; decide
    have n2 : ¬ v = 115 := by rw [e]; decide
    have n3 : ¬ v = 116 := by rw [e]; decide
    have n4 : ¬ v = 121 := by rw [e]; decide
    rw [if_neg n1, if_neg n2, if_neg n3, if_neg n4, if_neg n1, if_neg n2, if_neg n3, if_neg n4]
theorem mF_ne {M : xM} {k j : Nat} {F : Nat → Int32} (h : ¬ j = k) : M2 (mF M k F) j = M2 M j := by
  funext i
  show va_up M.2 k F j i = M.2 j i
  unfold va_up
  rw [if_neg h]
theorem M1_mF {M : xM} {k : Nat} {F : Nat → Int32} : M1 (mF M k F) = M1 M := Eq.trans rfl rfl
theorem te_mF {M : xM} {t m : Nat} {b : Bool} {F : Nat → Int32} : te (mF M 21 F) t m b = te M t m b := by
  funext x y
  unfold te
  rw [mF_ne (j := 6) (by decide), mF_ne (j := 8) (by decide)]
section
variable {G : xG} {S : xH} {o : Nat} {M : xM} {m t : Nat} {Q : Int32 → Prop}
theorem wz_d {c : Prop} [Decidable c] (q : Q (zI (decide (¬ c)))) : wif c (Q 0) (Q 1) := by
  by_cases h : c
  · refine wif_y h ?_
    rw [decide_eq_false (fun n => n h)] at q
    exact q
  · refine wif_n h ?_
    rw [decide_eq_true h] at q
    exact q
theorem wz_e {c : Prop} [Decidable c] (q : Q (zI (decide c))) : wif c (Q 1) (Q 0) := by
  by_cases h : c
  · refine wif_y h ?_
    rw [decide_eq_true h] at q
    exact q
  · refine wif_n h ?_
    rw [decide_eq_false h] at q
    exact q
theorem m_test {x1 x2 : Int32} {v : Bool} (hm : m < 40) (d4 : M1 M 4 = nI t) (ht : t ≤ 899) (q : Q (zI (te M t m v x1 x2))) : w_X1_test M x1 x2 (nI m) (zI v) Q := by
  have hv0 : vp_in (nI (8 * m)) 320 := vp_in_nI (by omega) (by decide)
  have hv : ∀ j, j < 8 → vp_in (nI (8 * m + j)) 320 := fun j hj => vp_in_nI (by omega) (by decide)
  have hp : vp_in (nI (40 * t + m)) 36000 := vp_in_nI (by omega) (by decide)
  have c0 : (nI (8 * m)).toNatClampNeg = 8 * m := nI_clamp (by omega)
  have cj : ∀ j, j < 8 → (nI (8 * m + j)).toNatClampNeg = 8 * m + j := fun j hj => nI_clamp (by omega)
  have cp : (nI (40 * t + m)).toNatClampNeg = 40 * t + m := nI_clamp (by omega)
  unfold w_X1_test
  simp only [w_X1_placeOf, m_isAboard, d4, im8, im40, nI_add, ia5, ia4, ia6, hv0, hv 5 (by decide), hv 4 (by decide), hv 6 (by decide), hp, c0, cj 5 (by decide), cj 4 (by decide), cj 6 (by decide), cp, x_B_zI, true_and]
  unfold te at q
  by_cases e65 : x1 = 65
  · rw [if_pos e65] at q
    exact wif_y e65 (wz_d q)
  rw [if_neg e65] at q
  refine wif_n e65 ?_
  by_cases e89 : x1 = 89
  · rw [if_pos e89] at q
    exact wif_y e89 (wz_d q)
  rw [if_neg e89] at q
  refine wif_n e89 ?_
  by_cases e97 : x1 = 97
  · rw [if_pos e97] at q
    exact wif_y e97 (wz_d q)
  rw [if_neg e97] at q
  refine wif_n e97 ?_
  by_cases e112 : x1 = 112
  · rw [if_pos e112] at q
    exact wif_y e112 q
  rw [if_neg e112] at q
  refine wif_n e112 ?_
  by_cases e115 : x1 = 115
  · rw [if_pos e115] at q
    exact wif_y e115 q
  rw [if_neg e115] at q
  refine wif_n e115 ?_
  by_cases e116 : x1 = 116
  · rw [if_pos e116] at q
    exact wif_y e116 (wz_e q)
  rw [if_neg e116] at q
  refine wif_n e116 ?_
  by_cases e121 : x1 = 121
  · rw [if_pos e121] at q
    exact wif_y e121 (wz_d q)
  rw [if_neg e121] at q
  exact wif_n e121 (wz_e q)
theorem c_over (h : Inv G S o M) (hm : m < gN G 5) {a w q : Nat} (tg : xT S a = 11 ∨ xT S a = 12 ∨ xT S a = 13) (hw : w < 7) (e1 : xI S 550 a = nI w) (e2 : xI S 551 a = nI q) (hq : q < 100) (hQ : ∀ d : Int32, (d < 0 ↔ M2 M 6 (8 * m + w) < nI q) → (d = 0 ↔ M2 M 6 (8 * m + w) = nI q) → Q d) : w_X10_over S a (gA G 2 m) Q := by
  obtain ⟨r, hr, er⟩ := vp_in_of (h.M_ap hm w hw) (by decide)
  unfold w_X10_over
  refine ⟨h.M_T hm, tg, gA G 3 m, h.M_ab hm, h.M_aT hm, by rw [e1, h.M_aL hm]; exact vp_in_nI hw (by decide), tg, ?_⟩
  rw [e1, e2, nI_clamp (by omega), h.M_av hm w hw, er]
  rw [er] at hQ
  refine hQ _ ?_ ?_
  · rw [Int32.lt_iff_toInt_lt, Int32.lt_iff_toInt_lt, pk_sub_toInt (by omega) (by omega), nI_toInt (by omega), nI_toInt (by omega), show (0 : Int32).toInt = 0 by decide]
    omega
  · rw [← Int32.toInt_inj, ← Int32.toInt_inj, pk_sub_toInt (by omega) (by omega), nI_toInt (by omega), nI_toInt (by omega), show (0 : Int32).toInt = 0 by decide]
    omega
theorem c_h10 (h : Inv G S o M) (hm : m < gN G 5) {a w q : Nat} {x : Int32} (tg : xT S a = 11 ∨ xT S a = 12 ∨ xT S a = 13) (hw : w < 7) (e1 : xI S 550 a = nI w) (e2 : xI S 551 a = nI q) (hq : q < 100) (hQ : Q (zI (decide (¬ M2 M 6 (8 * m + w) < nI q)))) : w_X10_holds S a (gA G 2 m) x Q := by
  refine ⟨tg, c_over h hm tg hw e1 e2 hq (fun d h1 h2 => ?_)⟩
  refine wz_d ?_
  rw [show decide (¬ d < 0) = decide (¬ M2 M 6 (8 * m + w) < nI q) by rw [decide_eq_decide, h1]]
  exact hQ
theorem nle {a b : Int32} : (¬ a ≤ b) ↔ b < a := by rw [Int32.le_iff_toInt_le, Int32.lt_iff_toInt_lt]; omega
theorem c_h11 (h : Inv G S o M) (hm : m < gN G 5) {a w q : Nat} {x : Int32} (tg : xT S a = 12 ∨ xT S a = 13) (hw : w < 7) (e1 : xI S 550 a = nI w) (e2 : xI S 551 a = nI q) (hq : q < 100) (hQ : Q (zI (decide (¬ nI q ≤ M2 M 6 (8 * m + w))))) : w_X11_holds S a (gA G 2 m) x Q := by
  refine ⟨tg, c_h10 h hm (Or.inr tg) hw e1 e2 hq ?_⟩
  by_cases l : M2 M 6 (8 * m + w) < nI q
  · rw [decide_eq_true (nle.mpr l)] at hQ
    rw [decide_eq_false (fun n => n l)]
    exact wif_y rfl hQ
  · rw [decide_eq_false (fun n => l (nle.mp n))] at hQ
    rw [decide_eq_true l]
    exact wif_n (by decide) hQ
theorem c_h12 (h : Inv G S o M) (hm : m < gN G 5) {a w q : Nat} {x : Int32} (tg : xT S a = 13) (hw : w < 7) (e1 : xI S 550 a = nI w) (e2 : xI S 551 a = nI q) (hq : q < 100) (hQ : Q (zI (decide (M2 M 6 (8 * m + w) = nI q)))) : w_X12_holds S a (gA G 2 m) x Q := by
  refine ⟨tg, c_h11 h hm (Or.inr tg) hw e1 e2 hq ?_⟩
  by_cases l : nI q ≤ M2 M 6 (8 * m + w)
  · rw [decide_eq_false (fun n => n l)]
    refine wif_y rfl ⟨tg, c_over h hm (Or.inr (Or.inr tg)) hw e1 e2 hq (fun d h1 h2 => ?_)⟩
    refine wz_e ?_
    rw [show decide (d = 0) = decide (M2 M 6 (8 * m + w) = nI q) by rw [decide_eq_decide, h2]]
    exact hQ
  · rw [decide_eq_true l]
    rw [decide_eq_false (fun e => l (by rw [e]; exact Int32.le_refl _))] at hQ
    exact wif_n (by decide) hQ
theorem c_holds (h : Inv G S o M) (hm : m < gN G 5) {v : Bool} {sg : Nat → Int32} {c : Nat} : ∀ f i a (Q : Int32 → Prop), tx sg c S f i a → Q (zI (vT sg c (te M (gN G 4) m v) f i)) → w_holds f S a (gA G 2 m) (zI v) Q := by
  intro f
  induction f with
  | zero => intro i a Q t; exact absurd t (by simp [tx])
  | succ f ih =>
    intro i a Q t q
    show w_hd (w_holds f) S a (gA G 2 m) (zI v) Q
    unfold w_hd
    rcases t with ⟨h0, h1, b1, b2, r1, r2, t1, t2⟩ | ⟨h0, h1, b1, b2, r1, r2, t1, t2⟩ | ⟨h0, h1, b1, r1, t1⟩ | ⟨h0, h1, i1, i2, p, hp, ep⟩ | ⟨h0, h1⟩
    · refine Or.inl ⟨h1, Or.inl h1, b1, r1, ih _ _ _ t1 ?_⟩
      rw [vT, if_pos h0] at q
      cases e1 : vT sg c (te M (gN G 4) m v) f (i + 1)
      · rw [e1] at q
        exact wif_y rfl q
      · rw [e1] at q
        refine wif_n (by decide) ⟨Or.inl h1, b2, r2, ih _ _ _ t2 ?_⟩
        cases e2 : vT sg c (te M (gN G 4) m v) f (pT sg c f (i + 1)).2
        · rw [e2] at q
          exact wif_y rfl q
        · rw [e2] at q
          exact wif_n (by decide) q
    · refine Or.inr (Or.inl ⟨h1, h1, Or.inr h1, b1, r1, ih _ _ _ t1 ?_⟩)
      rw [vT, if_neg (by rw [h0]; decide), if_pos h0] at q
      cases e1 : vT sg c (te M (gN G 4) m v) f (i + 1)
      · rw [e1] at q
        refine wif_y rfl (wif_y rfl ⟨h1, Or.inr h1, b1, r1, ih _ _ _ t1 ?_⟩)
        rw [e1]
        refine wif_y rfl ⟨Or.inr h1, b2, r2, ih _ _ _ t2 ?_⟩
        cases e2 : vT sg c (te M (gN G 4) m v) f (pT sg c f (i + 1)).2
        · rw [e2] at q
          exact wif_y rfl (wif_y rfl q)
        · rw [e2] at q
          exact wif_n (by decide) (wif_n (by decide) q)
      · rw [e1] at q
        refine wif_n (by decide) ⟨Or.inr h1, b2, r2, ih _ _ _ t2 ?_⟩
        cases e2 : vT sg c (te M (gN G 4) m v) f (pT sg c f (i + 1)).2
        · refine wif_y rfl (wif_y rfl ⟨h1, Or.inr h1, b1, r1, ih _ _ _ t1 ?_⟩)
          rw [e1]
          exact wif_n (by decide) (wif_n (by decide) q)
        · exact wif_n (by decide) (wif_n (by decide) q)
    · refine Or.inr (Or.inr (Or.inl ⟨h1, h1, b1, r1, ih _ _ _ t1 ?_⟩))
      rw [vT, if_neg (by rw [h0]; decide), if_neg (by rw [h0]; decide), if_pos h0] at q
      cases e1 : vT sg c (te M (gN G 4) m v) f (i + 1)
      · rw [e1] at q
        exact wif_y rfl q
      · rw [e1] at q
        exact wif_n (by decide) q
    · obtain ⟨n1, n2, n3, n4, n5, n6⟩ := hsD_n h0
      rw [vT, if_neg n1, if_neg n2, if_neg n3, ep] at q
      rw [ep] at i2
      rcases hsD_c h0 with e | e | e | e | e <;> rw [e] at h1 i1 q
      · exact Or.inr (Or.inr (Or.inr (Or.inl ⟨h1, c_h10 (w := 0) h hm (Or.inl h1) (by decide) i1 i2 hp q⟩)))
      · exact Or.inr (Or.inr (Or.inr (Or.inr (Or.inl ⟨h1, c_h11 (w := 0) h hm (Or.inl h1) (by decide) i1 i2 hp q⟩))))
      · exact Or.inr (Or.inr (Or.inr (Or.inl ⟨h1, c_h10 (w := 5) h hm (Or.inl h1) (by decide) i1 i2 hp q⟩)))
      · exact Or.inr (Or.inr (Or.inr (Or.inr (Or.inl ⟨h1, c_h11 (w := 5) h hm (Or.inl h1) (by decide) i1 i2 hp q⟩))))
      · exact Or.inr (Or.inr (Or.inr (Or.inr (Or.inr (Or.inl ⟨h1, c_h12 (w := 4) h hm h1 (by decide) i1 i2 hp q⟩)))))
    · obtain ⟨n1, n2, n3, n4, n5, n6⟩ := psh_n h0
      rw [vT, if_neg n1, if_neg n2, if_neg n3] at q
      rcases psh_c h0 with e | e | e <;> rw [e] at h1 q
      · exact Or.inr (Or.inr (Or.inr (Or.inr (Or.inr (Or.inr (Or.inl ⟨h1, by rw [x_B_zI]; trivial, q⟩))))))
      · refine Or.inr (Or.inr (Or.inr (Or.inr (Or.inr (Or.inr (Or.inr (Or.inl ⟨h1, h.M_T hm, ?_⟩)))))))
        rw [c_place h hm, isIn_eq, x_B_zI]
        exact ⟨trivial, q⟩
      · refine Or.inr (Or.inr (Or.inr (Or.inr (Or.inr (Or.inr (Or.inr (Or.inr ⟨h1, h.M_T hm, ?_⟩)))))))
        rw [c_place h hm, c_home h hm]
        exact ⟨h.M_T hm, wz_e q⟩
end
