set_option maxRecDepth 100000
section
variable {G : xG} {S : xH} {o : Nat} {M : xM} {x y : Int32} {m a : Nat}
/-- he may be taken where he is -/
def tkO (G : xG) (M : xM) (q : Nat) : Prop := q < 10 ∨ (10 ≤ q ∧ q < 10 + gN G 9) ∧ M2 M 14 (q - 10) = 0 ∧ M2 M 10 (q - 10) = 1
theorem m_takeB (h : Inv G S o M) (hm : m < gN G 5) {q : Nat} (hq24 : q < 24) (hq : M2 M 8 (40 * gN G 4 + m) = nI q) (hqq : q < gN G 1 ∨ 10 ≤ q ∧ q < 10 + gN G 9 ∨ 20 ≤ q ∧ q < 24) (hy : y = -9 ∨ ∃ p, p < gN G 15 ∧ y = nI p) {Q : Int32 → xM → Prop}
    (q3 : ¬ tkO G M q → Q (-3) M) (q4 : tkO G M q → gN G 22 = 60 → Q (-4) M)
    (q5 : tkO G M q → gN G 22 < 60 → ∀ F, Q (nI (gN G 22)) (m2 (mF (m1 (mF M 23 (tkK (M2 M 23) (gN G 22) (nI (gN G 4)) (nI m) y (nI q) (zI (mb M (gN G 17) (gN G 4) m (shv M (gN G 4) m y))) (zI (mb M (gN G 17) (gN G 4) m (trv M (gN G 4) m (gN G 15)))))) 22 (nI (gN G 22 + 1))) 21 F) 8 (40 * gN G 4 + m) 20)) :
    w_X1_placeOf M (nI m) (fun r_6 => w_X1_isStreet M r_6 (fun r_8 => jn0 (wif ((M1 M 22) = 60) (Q (-4) M) (nm (6 * (M1 M 22)) (fun x4_12 : Int32 => vp_in x4_12 360 ∧ nm (m2 M 23 (Int32.toNatClampNeg x4_12) (M1 M 4)) (fun M_13 : xM => vp_in (x4_12 + 1) 360 ∧ nm (m2 M_13 23 (Int32.toNatClampNeg (x4_12 + 1)) (nI m)) (fun M_14 : xM => vp_in (x4_12 + 2) 360 ∧ nm (m2 M_14 23 (Int32.toNatClampNeg (x4_12 + 2)) y) (fun M_15 : xM => vp_in (x4_12 + 3) 360 ∧ nm (m2 M_15 23 (Int32.toNatClampNeg (x4_12 + 3)) r_6) (fun M_16 : xM => w_X1_asShown M_16 (nI m) y (fun (r_17 : Int32) (M_18 : xM) => jn (fun (v2_19 : Int32) => vp_in (x4_12 + 4) 360 ∧ nm (m2 M_18 23 (Int32.toNatClampNeg (x4_12 + 4)) v2_19) (fun M_21 : xM => w_X1_truly M_21 (nI m) (fun (r_22 : Int32) (M_23 : xM) => jn (fun (v2_24 : Int32) => vp_in (x4_12 + 5) 360 ∧ nm (m2 M_23 23 (Int32.toNatClampNeg (x4_12 + 5)) v2_24) (fun M_26 : xM => nm (m1 M_26 22 ((M1 M_26 22) + 1)) (fun M_27 : xM => w_X1_go M_27 (nI m) 20 (fun (M_28 : xM) => Q ((M1 M_28 22) - 1) M_28)))) (fun J_25 => wif (r_22 = 0) (J_25 0) (J_25 1))))) (fun J_20 => wif (r_17 = 0) (J_20 0) (J_20 1)))))))))) (fun J_10 => wif (r_8 = 0) (w_X1_isHere M r_6 (fun (r_32 : Int32) => wif (r_32 = 0) (Q (-3) M) (vp_in (r_6 - 10) 10 ∧ wif ((M2 M 10 (Int32.toNatClampNeg (r_6 - 10))) = 1) (J_10) (Q (-3) M)))) (J_10)))) := by
  have n1 := h.O_n1
  have n5 := h.O_n5
  have n9 := h.O_n9
  have n4 := h.O_n4
  have n15 := h.O_n15
  have n22 := h.O_n22
  rw [m_placeOf h.mI hm, hq, m_isStreet]
  refine jn0_c (tkO G M q) (fun ok => ?_) (fun J hJ => ?_)
  · rw [h.O_d22]
    by_cases e : gN G 22 = 60
    · exact wif_y (by rw [e]; rfl) (q4 ok e)
    have hlt : gN G 22 < 60 := by omega
    refine wif_n (fun z => e ((eqk_60 (by omega)).mp z)) ?_
    have V : ∀ j, j < 6 → vp_in (nI (6 * gN G 22 + j)) 360 := fun j hj => vp_in_nI (by omega) (by decide)
    have V0 : vp_in (nI (6 * gN G 22)) 360 := vp_in_nI (by omega) (by decide)
    have C : ∀ j, j < 6 → (nI (6 * gN G 22 + j)).toNatClampNeg = 6 * gN G 22 + j := fun j hj => nI_clamp (by omega)
    have C0 : (nI (6 * gN G 22)).toNatClampNeg = 6 * gN G 22 := nI_clamp (by omega)
    have f := q5 ok hlt
    simp only [nm_eq, im6, nI_1, ia2, ia3, ia4, ia5, V0, V 1 (by decide), V 2 (by decide), V 3 (by decide), V 4 (by decide), V 5 (by decide), C0, C 1 (by decide), C 2 (by decide), C 3 (by decide), C 4 (by decide), C 5 (by decide), true_and, h.O_d4]
    have em : ∀ i v, m2 M 23 i v = mF M 23 (fun b => if b = i then v else M2 M 23 b) := fun i v => by
      have := m2_mF (M := M) (k := 23) (i := i) (F := M2 M 23) (v := v)
      rw [mF_self] at this
      exact this
    rw [em, m2_mF, m2_mF, m2_mF]
    have hA := c_mA h
    have E1 : ∀ K, M1 (mF M 23 K) = M1 M := fun K => M1_mF
    have E2 : ∀ K k, ¬ k = 21 → ¬ k = 23 → M2 (mF M 23 K) k = M2 M k := fun K k _ h2 => mF_ne h2
    generalize hv4 : mb M (gN G 17) (gN G 4) m (shv M (gN G 4) m y) = b4 at f
    generalize hv5 : mb M (gN G 17) (gN G 4) m (trv M (gN G 4) m (gN G 15)) = b5 at f
    refine m_asShown (mAc_cg hA (E1 _) (E2 _)) (by omega) (by rw [E1]; exact h.O_d4) n4 (p60 h hy) (fun F1 => ?_)
    rw [mb_cg (E2 _), shv_cg (E2 _), hv4]
    refine jn_i (fun w => w = zI b4) (fun w hw => ?_) (fun J hJ => by cases b4; exact wif_y rfl (hJ 0 rfl); exact wif_n (by decide) (hJ 1 rfl))
    rw [hw, m2_c, m2_mF]
    have E3 : ∀ K k, ¬ k = 21 → ¬ k = 23 → M2 (mF (mF M 23 K) 21 F1) k = M2 M k := fun K k h1 h2 => (mF_ne h1).trans (mF_ne h2)
    have E4 : ∀ K, M1 (mF (mF M 23 K) 21 F1) = M1 M := fun K => M1_mF.trans M1_mF
    refine m_truly (mAc_cg hA (E4 _) (E3 _)) (by omega) (by rw [E4]; exact h.O_d4) n4 (by rw [E4]; exact h.O_d15) n15 (fun F2 => ?_)
    rw [mb_cg (E3 _), trv_cg (E3 _), hv5, mF_mF]
    refine jn_i (fun w => w = zI b5) (fun w hw => ?_) (fun J hJ => by cases b5; exact wif_y rfl (hJ 0 rfl); exact wif_n (by decide) (hJ 1 rfl))
    rw [hw, m2_c, m2_mF]
    have f2 := f F2
    have go : ∀ X : xM, M1 X = M1 M → ∀ Q' : xM → Prop, Q' (m2 (m1 X 22 (nI (gN G 22 + 1))) 8 (40 * gN G 4 + m) 20) → w_X1_go (m1 X 22 (M1 X 22 + 1)) (nI m) 20 Q' := fun X eX Q' hq' => by
      have hv : vp_in (nI (40 * gN G 4 + m)) 36000 := vp_in_nI (by omega) (by decide)
      have e4 : M1 (m1 X 22 (nI (gN G 22 + 1))) 4 = nI (gN G 4) := by
        show va_up X.1 22 (nI (gN G 22 + 1)) 4 = _
        unfold va_up
        rw [if_neg (by decide)]
        exact (congrFun eX 4).trans h.O_d4
      rw [eX, h.O_d22, nI_1]
      unfold w_X1_go
      rw [e4, im40, nI_add, nm_eq, nI_clamp (show 40 * gN G 4 + m < 2 ^ 31 by omega)]
      exact ⟨hv, hq'⟩
    refine go _ (M1_mF.trans M1_mF) _ ?_
    have e22 : ∀ X : xM, M1 (m2 (m1 X 22 (nI (gN G 22 + 1))) 8 (40 * gN G 4 + m) 20) 22 - 1 = nI (gN G 22) := fun X => by
      rw [M1_m2, m1_at, k1_1]
    rw [e22]
    exact f2
  · by_cases l : q < 8
    · refine wif_n ?_ (hJ (Or.inl (by omega)))
      rw [show rg (nI q) 0 7 = true from (rg_le (n := 7) (by decide)).mpr (vp_in_nI (by omega) (by decide))]
      decide
    · have r0 : rg (nI q) 0 7 = false := bf (fun z => by
        have := (vi (by omega)).mp ((rg_le (n := 7) (by decide)).mp z)
        omega)
      rw [r0]
      refine wif_y rfl ?_
      by_cases hs : 10 ≤ q ∧ q < 20
      · rw [m_here1 hq24 hs, sub10 hs.1, nI_clamp (show q - 10 < 2 ^ 31 by omega)]
        by_cases c1 : M2 M 14 (q - 10) = 0
        · refine wif_y c1 (wif_n (by decide) ⟨vp_in_nI (by omega) (by decide), ?_⟩)
          by_cases c2 : M2 M 10 (q - 10) = 1
          · exact wif_y c2 (hJ (Or.inr ⟨by omega, c1, c2⟩))
          · refine wif_n c2 (q3 (fun z => ?_))
            rcases z with z | z
            · omega
            · exact c2 z.2.2
        · refine wif_n c1 (wif_y rfl (q3 (fun z => ?_)))
          rcases z with z | z
          · omega
          · exact c1 z.2.1
      · rw [m_here0 hq24 hs]
        refine wif_y rfl (q3 (fun z => ?_))
        rcases z with z | z
        · omega
        · have := z.1; omega
theorem m2_c8 {X : xM} {i : Nat} {F : Nat → Int32} {v : Int32} : m2 (mF X 21 F) 8 i v = mF (m2 X 8 i v) 21 F := by
  unfold m2 mF
  refine Prod.ext rfl ?_
  funext p q
  show x_u2 (va_up X.2 21 F) 8 i v p q = va_up (x_u2 X.2 8 i v) 21 F p q
  unfold x_u2 va_up
  by_cases h1 : p = 21
  · simp [h1]
  · simp [h1]
theorem m_take1 {N : xM} (h : Inv G S o N) (hN : m1 M 0 0 = N) (h1 : rg x 0 (nI (gN G 5) - 1) = false) {Q : Int32 → xM → Prop} (q : Q (-1) N) : w_X1_take M x y Q := by
  unfold w_X1_take
  rw [nm_eq, hN, m_noMan h.mI, h1]
  exact wif_n (by decide) q
theorem m_take2 {N : xM} (h : Inv G S o N) (hN : m1 M 0 0 = N) (h1 : rg x 0 (nI (gN G 5) - 1) = true) (hy : ¬ y = -9) (h2 : rg y 0 (nI (gN G 15) - 1) = false) {Q : Int32 → xM → Prop} (q : Q (-1) N) : w_X1_take M x y Q := by
  unfold w_X1_take
  rw [nm_eq, hN, m_noMan h.mI, h1]
  refine wif_y rfl ?_
  rw [jn0_eq]
  refine wif_n hy ?_
  rw [m_noPaper h.mI, h2]
  exact wif_n (by decide) q
theorem m_take {N : xM} (h : Inv G S o N) (hN : m1 M 0 0 = N) (hm : m < gN G 5) {q : Nat} (hq24 : q < 24) (hq : M2 N 8 (40 * gN G 4 + m) = nI q) (hqq : q < gN G 1 ∨ 10 ≤ q ∧ q < 10 + gN G 9 ∨ 20 ≤ q ∧ q < 24) (hy : y = -9 ∨ ∃ p, p < gN G 15 ∧ y = nI p) {Q : Int32 → xM → Prop}
    (q3 : ¬ tkO G N q → Q (-3) N) (q4 : tkO G N q → gN G 22 = 60 → Q (-4) N)
    (q5 : tkO G N q → gN G 22 < 60 → ∀ F, Q (nI (gN G 22)) (mF (m2 (m1 (mF N 23 (tkK (M2 N 23) (gN G 22) (nI (gN G 4)) (nI m) y (nI q) (zI (mb N (gN G 17) (gN G 4) m (shv N (gN G 4) m y))) (zI (mb N (gN G 17) (gN G 4) m (trv N (gN G 4) m (gN G 15)))))) 22 (nI (gN G 22 + 1))) 8 (40 * gN G 4 + m) 20) 21 F)) : w_X1_take M (nI m) y Q := by
  have n5 := h.O_n5
  have n15 := h.O_n15
  unfold w_X1_take
  rw [nm_eq, hN, m_noMan h.mI, (rg_in (by omega)).mpr (vp_in_nI hm (by omega))]
  refine wif_y rfl ?_
  rw [jn0_eq]
  have mt := m_takeB h hm hq24 hq hqq hy q3 q4 (fun a b F => by rw [m2_c8]; exact q5 a b F)
  rcases hy with e | ⟨p, hp, e⟩
  · exact wif_y e mt
  · refine wif_n (by rw [e]; exact n9_ne (by omega)) ?_
    rw [m_noPaper h.mI, e, (rg_in (by omega)).mpr (vp_in_nI hp (by omega))]
    rw [e] at mt
    exact wif_y rfl mt
theorem c_taken {N : xM} {Q : Int32 → xH → Prop} {k n : Nat} {q : Nat} {b4 b5 : Bool} (g1 : Inv G S o N) (hlt : gN G 22 < 60) (hm : m < gN G 5) (ha : xT S a = 0) (hk : 1 ≤ k) (hn : 3 ≤ n) (hqq : q < 8 ∨ 10 ≤ q) (hq24 : q < 24)
    (hQ : ∀ S', Inv (GK G a) S' o (m2 (m1 (mF N 23 (tkK (M2 N 23) (gN G 22) (nI (gN G 4)) (nI m) y (nI q) (zI b4) (zI b5))) 22 (nI (gN G 22 + 1))) 8 (40 * gN G 4 + m) 20) → Q (nI (gN G 22)) S') :
    w_X16_init (sN S a 17) a (nI (gN G 4)) (nI m) y (nI q) (zI b4) (zI b5) (fun (S_27 : xH) => xT S_27 o = 1 ∧ xT S_27 o = 1 ∧ ∃ b_28, (xR S_27 61 o) = some b_28 ∧ xT S_27 b_28 = 106 ∧ vp_in (xI S_27 62 o) (xL S_27 b_28) ∧ xT S_27 a = 17 ∧ nm (sQ S_27 b_28 (Int32.toNatClampNeg (xI S_27 62 o)) (some a)) (fun S_30 : xH => xT S_30 o = 1 ∧ xT S_30 o = 1 ∧ nm (sI S_30 62 o ((xI S_30 62 o) + 1)) (fun S_31 : xH => xT S_31 (gA G 2 m) = 3 ∧ nm (sR S_31 153 (gA G 2 m) (some a)) (fun S_32 : xH => xT S_32 o = 1 ∧ xT S_32 (gA G 2 m) = 3 ∧ ∃ k_33 n_34, k_33 ≤ k ∧ n_34 ≤ n ∧ w_X2_go k_33 n_34 S_32 (gA G 2 m) (xI S_32 54 o) 20 (fun (S_35 : xH) => xT S_35 o = 1 ∧ Q ((xI S_35 62 o) - 1) S_35))))) := by
  have n4 := g1.O_n4
  have e2 : xE S (sN S a 17) := (xE.refl S).n ha
  have ta : xT (sN S a 17) a = 17 := xT_nN
  have g6 : Inv G (sI (sI (sI (sI (sI (sI (sN S a 17) 850 a (nI (gN G 4))) 851 a (nI m)) 852 a y) 853 a (nI q)) 854 a (zI b4)) 855 a (zI b5)) o N := g1.ext (((((((e2.i ha).i ha).i ha).i ha).i ha).i ha))
  have f := tak_link (v0 := nI (gN G 4)) (v2 := y) (v3 := nI q) (v4 := zI b4) (v5 := zI b5) g6 hlt hm (a := a) (by simp only [xT_sI, xL_sI, xR_sI, xA_sI, xQ_sI, xT_sR, xL_sR, xI_sR, xA_sR, xQ_sR, xT_sA, xL_sA, xI_sA, xR_sA, xQ_sA, xT_sQ, xL_sQ, xI_sQ, xR_sQ, xA_sQ, xT_sB, xL_sB, xI_sB, xR_sB, xQ_sB]; exact ta)
    (by rw [xI_nf _ _ (by decide), xI_nf _ _ (by decide), xI_nf _ _ (by decide), xI_nf _ _ (by decide), xI_nf _ _ (by decide), xI_at])
    (by rw [xI_nf _ _ (by decide), xI_nf _ _ (by decide), xI_nf _ _ (by decide), xI_nf _ _ (by decide), xI_at])
    (by rw [xI_nf _ _ (by decide), xI_nf _ _ (by decide), xI_nf _ _ (by decide), xI_at])
    (by rw [xI_nf _ _ (by decide), xI_nf _ _ (by decide), xI_at])
    (by rw [xI_nf _ _ (by decide), xI_at])
    (by rw [xI_at]) (vp_in_nI (by omega) (by decide))
    (by
      rcases hqq with c | c
      · exact Or.inl (vp_in_nI c (by decide))
      · exact Or.inr ((kle_10 (by omega)).mpr c))
    (by rw [x_B_zI]; trivial) (by rw [x_B_zI]; trivial)
  have ta6 : xT (sI (sI (sI (sI (sI (sI (sN S a 17) 850 a (nI (gN G 4))) 851 a (nI m)) 852 a y) 853 a (nI q)) 854 a (zI b4)) 855 a (zI b5)) a = 17 := by simp only [xT_sI, xL_sI, xR_sI, xA_sI, xQ_sI, xT_sR, xL_sR, xI_sR, xA_sR, xQ_sR, xT_sA, xL_sA, xI_sA, xR_sA, xQ_sA, xT_sQ, xL_sQ, xI_sQ, xR_sQ, xA_sQ, xT_sB, xL_sB, xI_sB, xR_sB, xQ_sB]; exact ta
  unfold w_X16_init
  simp only [nm_eq, xT_sI, ta, x_B_zI, true_and]
  simp only [xT_sI] at ta6
  have g6T : ∀ b, xT (sI (sI (sI (sI (sI (sI (sN S a 17) 850 a (nI (gN G 4))) 851 a (nI m)) 852 a y) 853 a (nI q)) 854 a (zI b4)) 855 a (zI b5)) b = xT (sN S a 17) b := fun b => by simp only [xT_sI]
  have o1 := g6.O_t
  have b61 := g6.R_t61
  have m3 := g6.M_T hm
  rw [g6T] at o1 b61 m3
  generalize hS6 : sI (sI (sI (sI (sI (sI (sN S a 17) 850 a (nI (gN G 4))) 851 a (nI m)) 852 a y) 853 a (nI q)) 854 a (zI b4)) 855 a (zI b5) = S6 at *
  refine ⟨o1, o1, gA G 0 61, g6.R_r61, b61, ?_⟩
  have cn := nI_clamp (show gN G 22 < 2 ^ 31 by omega)
  simp only [xT_sQ, xT_sR, xT_sI, xI_sQ, g6.O_c62, g6.R_l61, cn, nI_1, g6.O_t, g6.M_T hm, o1, m3, true_and]
  have c54 : xI (sR (sI (sQ S6 (gA G 0 61) (gN G 22) (some a)) 62 o (nI (gN G 22 + 1))) 153 (gA G 2 m) (some a)) 54 o = nI (gN G 4) := f.O_c54
  rw [c54]
  refine ⟨vp_in_nI hlt (by decide), 1, 3, hk, hn, ?_⟩
  have go := c_go f (m := m) hm (p := 20) (Or.inr (Or.inr ⟨0, by decide, rfl⟩)) (by decide) (k := 1) (n := 3) (Nat.le_refl _) (Nat.le_refl _) (Q := fun S_35 => xT S_35 o = 1 ∧ Q ((xI S_35 62 o) - 1) S_35) (fun S' g => ⟨g.O_t, by
    have c62 : xI S' 62 o = nI (gN G 22 + 1) := g.O_c62
    rw [c62, k1_1]
    exact hQ S' g⟩)
  exact go
theorem e_take (h : Inv G S o M) {k n : Nat} (hk : 542 ≤ k) (hn : 1089 ≤ n) : w_X0_take k n S o x y (fun r S' => w_X1_take M x y (fun r' M' => xF o r S' r' M')) := by
  obtain ⟨N, hN⟩ : ∃ N, m1 M 0 0 = N := ⟨_, rfl⟩
  replace h : Inv G S o N := by rw [← hN]; exact h.m0
  have n5 := h.O_n5
  have n1 := h.O_n1
  have n9 := h.O_n9
  have n15 := h.O_n15
  have n22 := h.O_n22
  cases h1 : rg x 0 (nI (gN G 5) - 1)
  · simp only [w_X0_take, c_isMan h, h1, h.O_t, wif_T, wif_F, nm_eq, jn_eq, jn0_eq, jn2_eq, jn3_eq, jn4_eq, zI_t, zI_f, zI0, x_B_zI, x_B_0, x_B_1, isIn_eq, in_eq, Bool.true_eq_false, Bool.false_eq_true, eq_self, true_and, and_true, Option.some.injEq, exists_eq_left', exists_eq_left, reduceCtorEq, not_true_eq_false, not_false_eq_true, one_ne, if_true, if_false]
    exact m_take1 h hN h1 ⟨rfl, G, h⟩
  obtain ⟨m, hm, rfl⟩ := c_ix h h1
  have hv : vp_in (nI m) 40 := vp_in_nI (by omega) (by decide)
  have ec : (nI m).toNatClampNeg = m := nI_clamp (by omega)
  obtain ⟨q, hq24, hq, hqq⟩ := c_pq h hm
  simp only [w_X0_take, c_isMan h, c_place h hm, h1, h.O_t, h.O_c62, h.R_r52, h.R_t52, h.R_l52, hv, ec, h.M_q hm, h.M_T hm, hq, wif_T, wif_F, nm_eq, zI_t, zI_f, zI0, x_B_zI, x_B_0, x_B_1, isIn_eq, in_eq, Bool.true_eq_false, Bool.false_eq_true, eq_self, true_and, and_true, Option.some.injEq, exists_eq_left', exists_eq_left, reduceCtorEq, not_true_eq_false, not_false_eq_true, one_ne, if_true, if_false]
  refine jn0_c (y = -9 ∨ ∃ p, p < gN G 15 ∧ y = nI p) (fun hy => ?_) (fun J hJ => ?_)
  · refine jn0_c (tkO G N q) (fun ok => ?_) (fun J hJ => ?_)
    · by_cases e : gN G 22 = 60
      · exact wif_y (by rw [e]; rfl) (m_take h hN hm hq24 hq hqq hy (fun c => absurd ok c) (fun _ _ => ⟨rfl, G, h⟩) (fun _ c => by omega))
      have hlt : gN G 22 < 60 := by omega
      refine wif_n (fun z => e ((eqk_60 (by omega)).mp z)) ⟨540, 1080, by omega, by omega, c_law h (Nat.le_refl _) (Nat.le_refl _) (fun S1 r e1 hr => ⟨by omega, by omega, fun a ha => ?_⟩)⟩
      have g1 := h.ext e1
      have e2 : xE S1 (sN S1 a 17) := (xE.refl S1).n ha
      have g2 := g1.ext e2
      have hr2 := hr.ext e2
      refine ⟨g2.O_t, g2.M_T hm, ?_⟩
      rw [c_place g2 hm, hq]
      refine ⟨g2.O_t, c_mayShown g2 hm hr2 hy ⟨g2.O_t, c_ict g2 hm (c_mayBe g2 hm hr2 ?_)⟩⟩
      rw [g2.O_c54]
      have ct := c_taken (Q := fun r S' => w_X1_take M (nI m) y (fun r' M' => xF o r S' r' M')) (y := y) (b4 := mb N (gN G 17) (gN G 4) m (shv N (gN G 4) m y)) (b5 := mb N (gN G 17) (gN G 4) m (trv N (gN G 4) m (gN G 15))) (k := k - 540 - 1) (n := n - 1080 - 6) g1 hlt hm ha (by omega) (by omega) (by omega) hq24 (fun S' g => m_take h hN hm hq24 hq hqq hy (fun c => absurd ok c) (fun _ c => by omega) (fun _ _ F => ⟨rfl, GK G a, g.m21⟩))
      simp only [nm_eq] at ct
      exact ct
    · have no : ¬ tkO G N q → w_X1_take M (nI m) y (fun r' M' => xF o (-3) S r' M') := fun c => m_take h hN hm hq24 hq hqq hy (fun _ => ⟨rfl, G, h⟩) (fun z => absurd z c) (fun z => absurd z c)
      by_cases l : q < 10
      · exact wif_y ((ltk_10 (by omega)).mpr l) (hJ (Or.inl l))
      refine wif_n (fun z => l ((ltk_10 (by omega)).mp z)) ?_
      by_cases hs : 10 ≤ q ∧ q < 10 + gN G 9
      · rw [c_home1 h hq24 hs]
        by_cases c : M2 N 14 (q - 10) = 0 ∧ ((1 : Int32) = -9 ∨ M2 N 10 (q - 10) = 1)
        · refine wif_y c (wif_n (by decide) (hJ (Or.inr ⟨hs, c.1, ?_⟩)))
          rcases c.2 with z | z
          · exact absurd z (by decide)
          · exact z
        · refine wif_n c (wif_y rfl (no (fun z => ?_)))
          rcases z with z | z
          · exact l z
          · exact c ⟨z.2.1, Or.inr z.2.2⟩
      · rw [c_home0 h hq24 hs]
        refine wif_y rfl (no (fun z => ?_))
        rcases z with z | z
        · exact l z
        · exact hs z.1
  · by_cases e : y = -9
    · exact wif_y e (hJ (Or.inl e))
    refine wif_n e ?_
    rw [c_isPaper h]
    cases h2 : rg y 0 (nI (gN G 15) - 1)
    · exact wif_y rfl (m_take2 h hN h1 e h2 ⟨rfl, G, h⟩)
    · exact wif_n (by decide) (hJ (c_pp h (Or.inr h2)))
end
