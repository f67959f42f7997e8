set_option maxRecDepth 100000
/-! ===== taking ===== -/
theorem fO_cg {M M' : xM} (e : ∀ k, ¬ k = 21 → ¬ k = 23 → M2 M' k = M2 M k) (t : Int32) : ∀ i, fO M' t i = fO M t i := by
  intro i
  have es : ∀ a, sgA M' a = sgA M a := fun a => by unfold sgA; rw [e 20 (by decide) (by decide)]
  have ec : ∀ a, cA M' a = cA M a := fun a => by unfold cA; rw [e 19 (by decide) (by decide)]
  induction i with
  | zero => rfl
  | succ i ih => rw [fO, fO, ih, es, ec, e 18 (by decide) (by decide)]
theorem mb_cg {M M' : xM} (e : ∀ k, ¬ k = 21 → ¬ k = 23 → M2 M' k = M2 M k) (N t m : Nat) (v : Bool) : mb M' N t m v = mb M N t m v := by
  have es : ∀ a, sgA M' a = sgA M a := fun a => by unfold sgA; rw [e 20 (by decide) (by decide)]
  have ec : ∀ a, cA M' a = cA M a := fun a => by unfold cA; rw [e 19 (by decide) (by decide)]
  have et : te M' t m v = te M t m v := by
    funext x y
    unfold te
    rw [e 6 (by decide) (by decide), e 8 (by decide) (by decide)]
  rw [mb, mb, fO_cg e, es, ec, et]
theorem cvF_cg {M M' : xM} (e : ∀ k, ¬ k = 21 → ¬ k = 23 → M2 M' k = M2 M k) (p m : Nat) (t : Int32) : cvF M' p m t = cvF M p m t := by
  unfold cvF
  rw [e 6 (by decide) (by decide), e 16 (by decide) (by decide)]
theorem shv_cg {M M' : xM} (e : ∀ k, ¬ k = 21 → ¬ k = 23 → M2 M' k = M2 M k) (t m : Nat) (x : Int32) : shv M' t m x = shv M t m x := by
  unfold shv
  rw [cvF_cg e]
theorem trv_cg {M M' : xM} (e : ∀ k, ¬ k = 21 → ¬ k = 23 → M2 M' k = M2 M k) (t m i : Nat) : trv M' t m i = trv M t m i := by
  have q : trP M' t m i = trP M t m i := by
    have e16 := e 16 (by decide) (by decide)
    unfold trP
    rw [e16]
    exact propext ⟨fun ⟨p, h1, h2, h3⟩ => ⟨p, h1, h2, by rw [← cvF_cg e]; exact h3⟩, fun ⟨p, h1, h2, h3⟩ => ⟨p, h1, h2, by rw [cvF_cg e]; exact h3⟩⟩
  unfold trv
  rw [q]
theorem mAc_cg {M M' : xM} {N : Nat} (h : mAc N M) (e1 : M1 M' = M1 M) (e : ∀ k, ¬ k = 21 → ¬ k = 23 → M2 M' k = M2 M k) : mAc N M' := by
  have ec : ∀ a, cA M' a = cA M a := fun a => by unfold cA; rw [e 19 (by decide) (by decide)]
  refine ⟨h.1, by rw [e1]; exact h.2.1, fun a ha => ?_⟩
  rw [e 19 (by decide) (by decide), ec]
  exact h.2.2 a ha
theorem m2_c {M : xM} {i : Nat} {F : Nat → Int32} {v : Int32} : m2 (mF M 21 F) 23 i v = mF (m2 M 23 i v) 21 F := by
  unfold m2 mF
  refine Prod.ext rfl ?_
  funext p q
  show x_u2 (va_up M.2 21 F) 23 i v p q = va_up (x_u2 M.2 23 i v) 21 F p q
  unfold x_u2 va_up
  by_cases h1 : p = 21
  · simp [h1]
  · simp [h1]
theorem mF_mF {M : xM} {k : Nat} {F F' : Nat → Int32} : mF (mF M k F) k F' = mF M k F' := by
  unfold mF
  refine Prod.ext rfl ?_
  funext p
  show va_up (va_up M.2 k F) k F' p = va_up M.2 k F' p
  unfold va_up
  by_cases h1 : p = k <;> simp [h1]
/-- the takings with one more -/
def tkK (F : Nat → Int32) (n : Nat) (v0 v1 v2 v3 v4 v5 : Int32) : Nat → Int32 := fun b => if b = 6 * n + 5 then v5 else if b = 6 * n + 4 then v4 else if b = 6 * n + 3 then v3 else if b = 6 * n + 2 then v2 else if b = 6 * n + 1 then v1 else if b = 6 * n then v0 else F b
section
variable {F : Nat → Int32} {n : Nat} {v0 v1 v2 v3 v4 v5 : Int32}
theorem tkK_lt {i : Nat} (h : i < 6 * n) : tkK F n v0 v1 v2 v3 v4 v5 i = F i := by
  unfold tkK
  rw [if_neg (by omega), if_neg (by omega), if_neg (by omega), if_neg (by omega), if_neg (by omega), if_neg (by omega)]
theorem tkK_0 : tkK F n v0 v1 v2 v3 v4 v5 (6 * n) = v0 := by
  unfold tkK
  rw [if_neg (by omega), if_neg (by omega), if_neg (by omega), if_neg (by omega), if_neg (by omega), if_pos rfl]
theorem tkK_1 : tkK F n v0 v1 v2 v3 v4 v5 (6 * n + 1) = v1 := by
  unfold tkK
  rw [if_neg (by omega), if_neg (by omega), if_neg (by omega), if_neg (by omega), if_pos rfl]
theorem tkK_2 : tkK F n v0 v1 v2 v3 v4 v5 (6 * n + 2) = v2 := by
  unfold tkK
  rw [if_neg (by omega), if_neg (by omega), if_neg (by omega), if_pos rfl]
theorem tkK_3 : tkK F n v0 v1 v2 v3 v4 v5 (6 * n + 3) = v3 := by
  unfold tkK
  rw [if_neg (by omega), if_neg (by omega), if_pos rfl]
theorem tkK_4 : tkK F n v0 v1 v2 v3 v4 v5 (6 * n + 4) = v4 := by
  unfold tkK
  rw [if_neg (by omega), if_pos rfl]
theorem tkK_5 : tkK F n v0 v1 v2 v3 v4 v5 (6 * n + 5) = v5 := by
  unfold tkK
  rw [if_pos rfl]
end
theorem tkL_cg {F F' : Nat → Int32} {m : Nat} : ∀ n, (∀ i, i < 6 * n → F' i = F i) → tkL F' m n = tkL F m n
  | 0, _ => rfl
  | n + 1, h => by rw [tkL, tkL, tkL_cg n (fun i hi => h i (by omega)), h (6 * n + 1) (by omega)]
theorem iH_R {G : xG} {S : xH} {M : xM} {m b : Nat} {r : Option Nat} (h : iH G S M m) : iH G (sR S 153 b r) M m := by
  obtain ⟨n, f, b1, b2, b3, b4, b5, b6, b7, b8⟩ := h
  exact ⟨n, f, (xR_nf S r (by decide)).trans b1, b2, fun j hj => ⟨(xR_nf S r (by decide)).trans (b3 j hj).1, (b3 j hj).2⟩, b4, b5, b6, b7, b8⟩
def GK (G : xG) (a : Nat) : xG := (x_u2 (gA G) 8 (gN G 22) a, gR G, va_up (gN G) 22 (gN G 22 + 1))
section
variable {G : xG} {S : xH} {o : Nat} {M : xM} {x y : Int32} {m a : Nat}
theorem xR_nb (S : xH) {f a g b : Nat} (x : Option Nat) (h : b ≠ a) : xR (sR S f a x) g b = xR S g b := by simp [sR, xR, x_u2, h]
theorem tak_R {S1 : xH} {M' : xM} (H : iM G S1 o M) (hm : m < gN G 5) (h23 : ∀ i, i < 6 * gN G 22 → M2 M' 23 i = M2 M 23 i) (h1 : M2 M' 23 (6 * gN G 22 + 1) = nI m) (e : ∀ k, ¬ k = 21 → ¬ k = 23 → M2 M' k = M2 M k) (n5 : gN G 5 ≤ 40) : iM (GK G a) (sR S1 153 (gA G 2 m) (some a)) o M' := by
  intro m' hm'
  replace hm' : m' < gN G 5 := hm'
  obtain ⟨b1, b2, b3, b4, b5, b6, b7, b8, b9, b10, b11, b12, b13, b14, b15, b16⟩ := H m' hm'
  have k6 := e 6 (by decide) (by decide)
  have k8 := e 8 (by decide) (by decide)
  have k38 := e 38 (by decide) (by decide)
  have k7 := e 7 (by decide) (by decide)
  have eL : tkL (M2 M' 23) m' (gN G 22) = tkL (M2 M 23) m' (gN G 22) := tkL_cg _ h23
  have hi : iH G (sR S1 153 (gA G 2 m) (some a)) M' m' := by
    obtain ⟨n, f, c1, c2, c3, c4, c5, c6, c7, c8⟩ := iH_R (r := some a) (b := gA G 2 m) b15
    refine ⟨n, f, c1, c2, c3, c4, c5, fun t ht j hj i l => by rw [k8]; exact c6 t ht j hj i l, fun q => by rw [k7]; exact c7 q, c8⟩
  have t153 : xR (sR S1 153 (gA G 2 m) (some a)) 153 (gA G 2 m') = (tkL (M2 M' 23) m' (gN G 22 + 1)).map (gA (GK G a) 8) := by
    rw [tkL, h1]
    by_cases em : m' = m
    · subst em
      rw [if_pos rfl, xR_at]
      exact congrArg some (g2_at (g := gA G)).symm
    · have hne : gA G 2 m' ≠ gA G 2 m := fun q => em (by have := congrArg (gR G) q; rw [b3, (H m hm).2.2.1] at this; exact this)
      rw [if_neg (fun q => em ((nI_eq (by omega) (by omega)).mp q.symm)), xR_nb _ _ hne, b14, eL]
      cases et : tkL (M2 M 23) m' (gN G 22) with
      | none => rfl
      | some k =>
        have hk := tkL_lt et
        have : gA (GK G a) 8 k = gA G 8 k := g2_ne (g := gA G) (by omega)
        simp only [Option.map_some, this]
  refine ⟨b1, b2, b3, (xR_nf S1 _ (by decide)).trans b4, b5, b6, b7, fun j hj => by rw [k6]; exact b8 j hj, fun j hj => by rw [k6]; exact b9 j hj, by rw [k6]; exact b10, by rw [k6]; exact b11, by rw [k6]; exact b12, by rw [k38]; exact b13, t153, hi, fun t ht => by rw [k8]; exact b16 t ht⟩
theorem tak_link {v0 v2 v3 v4 v5 : Int32} (h : Inv G S o M) (hn : gN G 22 < 60) (hm : m < gN G 5) (ta : xT S a = 17) (i0 : xI S 850 a = v0) (i1 : xI S 851 a = nI m) (i2 : xI S 852 a = v2) (i3 : xI S 853 a = v3) (i4 : xI S 854 a = v4) (i5 : xI S 855 a = v5) (c0 : vp_in v0 900) (c3 : vp_in v3 8 ∨ 10 ≤ v3) (c4 : x_B v4) (c5 : x_B v5) :
    Inv (GK G a) (sR (sI (sQ S (gA G 0 61) (gN G 22) (some a)) 62 o (nI (gN G 22 + 1))) 153 (gA G 2 m) (some a)) o (m1 (mF M 23 (tkK (M2 M 23) (gN G 22) v0 (nI m) v2 v3 v4 v5)) 22 (nI (gN G 22 + 1))) := by
  have n5 := h.O_n5
  have n24 := h.O_n24
  have E1 : ∀ t, t ≠ 106 → t ≠ 1 → ∀ b, xT S b = t → eqc S (sI (sQ S (gA G 0 61) (gN G 22) (some a)) 62 o (nI (gN G 22 + 1))) b := fun t h1 h2 b hb => (eqc_sQ (fun e => h1 (by rw [← hb, e, h.R_t61]))).trans (eqc_sI (fun e => h2 (by rw [← hb, e, h.O_t])))
  have E : ∀ t, t ≠ 106 → t ≠ 1 → t ≠ 3 → ∀ b, xT S b = t → eqc S (sR (sI (sQ S (gA G 0 61) (gN G 22) (some a)) 62 o (nI (gN G 22 + 1))) 153 (gA G 2 m) (some a)) b := fun t h1 h2 h3 b hb => (E1 t h1 h2 b hb).trans (eqc_sR (fun e => h3 (by rw [← hb, e, h.M_T hm])))
  have H : iM G (sI (sQ S (gA G 0 61) (gN G 22) (some a)) 62 o (nI (gN G 22 + 1))) o M := (fr_M (G := G) (M := M) h (E1 _ (by decide) (by decide)) (E1 _ (by decide) (by decide)) (E1 _ (by decide) (by decide)) (fun b hb => E1 101 (by decide) (by decide) b hb.1))
  have hO : iO (GK G a) (sR (sI (sQ S (gA G 0 61) (gN G 22) (some a)) 62 o (nI (gN G 22 + 1))) 153 (gA G 2 m) (some a)) o (m1 (mF M 23 (tkK (M2 M 23) (gN G 22) v0 (nI m) v2 v3 v4 v5)) 22 (nI (gN G 22 + 1))) := ⟨h.O_t, h.O_c50, h.O_c53, h.O_c54, h.O_c58, h.O_c60, (by rw [xI_sR, xI_at]; rfl), h.O_c63, h.O_c65, h.O_c67, h.O_c55, h.O_c56, h.O_d1, h.O_d5, h.O_d4, h.O_d15, h.O_d17, (by rfl), h.O_d24, h.O_d9, h.O_d31, h.O_n0, h.O_n1, h.O_n5, h.O_n4, h.O_n9, h.O_n15, h.O_n17, (show gN G 22 + 1 ≤ 60 from hn), (show gN G 24 ≤ gN G 22 + 1 by omega), h.O_n31⟩
  have hM : iM (GK G a) (sR (sI (sQ S (gA G 0 61) (gN G 22) (some a)) 62 o (nI (gN G 22 + 1))) 153 (gA G 2 m) (some a)) o (m1 (mF M 23 (tkK (M2 M 23) (gN G 22) v0 (nI m) v2 v3 v4 v5)) 22 (nI (gN G 22 + 1))) := by
    refine tak_R H hm (fun i hi => ?_) ?_ (fun k _ h2 => ?_) n5
    · rw [M2_m1, mF_at, tkK_lt hi]
    · rw [M2_m1, mF_at, tkK_1]
    · rw [M2_m1, mF_ne h2]
  have hK : iK (GK G a) (sR (sI (sQ S (gA G 0 61) (gN G 22) (some a)) 62 o (nI (gN G 22 + 1))) 153 (gA G 2 m) (some a)) o (m1 (mF M 23 (tkK (M2 M 23) (gN G 22) v0 (nI m) v2 v3 v4 v5)) 22 (nI (gN G 22 + 1))) := by
    intro k hb
    replace hb : k < gN G 22 + 1 := hb
    rw [M2_m1, mF_at]
    by_cases e : k = gN G 22
    · subst e
      have eA : gA (GK G a) 8 (gN G 22) = a := g2_at
      rw [eA, tkK_0, tkK_1, tkK_2, tkK_3, tkK_4, tkK_5]
      exact ⟨xQ_at S _ _ _, ta, i0, i1, i2, i3, i4, i5, c0, (show vp_in (nI m) (gN G 5) from vp_in_nI hm (by omega)), c3, c4, c5⟩
    · have eA : gA (GK G a) 8 k = gA G 8 k := g2_ne e
      have hb' : k < gN G 22 := by omega
      rw [eA, tkK_lt (by omega), tkK_lt (by omega), tkK_lt (by omega), tkK_lt (by omega), tkK_lt (by omega), tkK_lt (by omega)]
      exact ⟨(xQ_ni S _ e).trans (h.K_q hb'), h.K_T hb', h.K_f0 hb', h.K_f1 hb', h.K_f2 hb', h.K_f3 hb', h.K_f4 hb', h.K_f5 hb', h.K_td hb', h.K_mn hb', h.K_fm hb', h.K_b4 hb', h.K_b5 hb'⟩
  exact ⟨hO, h.iR, (fr_W (G := G) (M := M) h (E _ (by decide) (by decide) (by decide)) (E _ (by decide) (by decide) (by decide))), hM, (fr_P (G := G) (M := M) h (E _ (by decide) (by decide) (by decide)) (E _ (by decide) (by decide) (by decide)) (fun b hb => E 101 (by decide) (by decide) (by decide) b hb.1)), (fr_A (G := G) (M := M) h (E _ (by decide) (by decide) (by decide)) (E _ (by decide) (by decide) (by decide)) (fun b hb => E 101 (by decide) (by decide) (by decide) b hb.1)), hK, (fr_S (G := G) (M := M) h (E _ (by decide) (by decide) (by decide)) (E _ (by decide) (by decide) (by decide))), (fr_T (G := G) (M := M) h (E _ (by decide) (by decide) (by decide)) (E _ (by decide) (by decide) (by decide))), h.iU, h.iZ⟩
end
