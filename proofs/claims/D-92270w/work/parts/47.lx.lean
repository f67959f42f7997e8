set_option maxRecDepth 100000
/-! ===== new things ===== -/
theorem xT_nN {S : xH} {a t : Nat} : xT (sN S a t) a = t := by simp [sN, xT, va_up]
theorem xI_nN {S : xH} {a t f : Nat} : xI (sN S a t) f a = 0 := by simp [sN, xI]
theorem xR_nN {S : xH} {a t f : Nat} : xR (sN S a t) f a = none := by simp [sN, xR]
theorem xT_nV {S : xH} {a t n : Nat} : xT (sV S a t n) a = t := by simp [sV, xT, va_up]
theorem xL_nV {S : xH} {a t n : Nat} : xL (sV S a t n) a = n := by simp [sV, xL, va_up]
theorem xA_nV {S : xH} {a t n : Nat} : xA (sV S a t n) a = fun _ => 0 := by simp [sV, xA, va_up]
theorem M1_m2 {M : xM} {k i : Nat} {v : Int32} : M1 (m2 M k i v) = M1 M := Eq.trans rfl rfl
theorem M2_m1 {M : xM} {k : Nat} {v : Int32} : M2 (m1 M k v) = M2 M := Eq.trans rfl rfl
theorem m1_at {M : xM} {k : Nat} {v : Int32} : M1 (m1 M k v) k = v := by simp [m1, M1, va_up]
theorem xI_sV {S : xH} {a t n : Nat} : xI (sV S a t n) = xI S := Eq.trans rfl rfl
theorem xR_sV {S : xH} {a t n : Nat} : xR (sV S a t n) = xR S := Eq.trans rfl rfl
def Gr (G : xG) (a r : Nat) : xG := (gA G, va_up (gR G) a r, gN G)
section
variable {G : xG} {S : xH} {o : Nat} {M : xM} {x y z v w : Int32} {t m a n : Nat}
theorem Inv.role (h : Inv G S o M) {r : Nat} (ha : xT S a = 0) : Inv (Gr G a r) S o M := by
  have k : ∀ b, xT S b ≠ 0 → va_up (gR G) a r b = gR G b := fun b hb => if_neg (xE.ne ha hb)
  have k' : ∀ b t, xT S b = t → t ≠ 0 → va_up (gR G) a r b = gR G b := fun b t e ht => k b (by rw [e]; exact ht)
  refine ⟨h.iO, h.iR, ?_, ?_, ?_, ?_, h.iK, ?_, ?_, ⟨h.U_v, (k' _ _ h.R_t68 (by decide)).trans h.U_r⟩, h.iZ⟩
  · intro i hi
    exact ⟨h.W_q hi, h.W_T hi, h.W_L hi, (k' _ _ (h.W_T hi) (by decide)).trans (h.W_r hi), h.W_v hi, h.W_B hi, h.W_y hi, h.W_z hi⟩
  · intro m hm
    exact ⟨h.M_q hm, h.M_T hm, (k' _ _ (h.M_T hm) (by decide)).trans (h.M_r hm), h.M_ab hm, h.M_aT hm, h.M_aL hm, (k' _ _ (h.M_aT hm) (by decide)).trans (h.M_ar hm), h.M_av hm, h.M_ap hm, h.M_hm hm, h.M_sh hm, h.M_sB hm, h.M_go hm, h.M_tk hm, h.M_hi hm, h.M_pl hm⟩
  · intro p hp
    exact ⟨h.P_q hp, h.P_T hp, h.P_of hp, h.P_om hp, h.P_ha hp, h.P_sc hp, h.P_sp hp, h.P_sT hp, h.P_sL hp, (k' _ _ (h.P_sT hp) (by decide)).trans (h.P_sr hp), h.P_sv hp⟩
  · intro p hp
    exact ⟨h.A_q hp, h.A_T hp, (k' _ _ (h.A_T hp) (by decide)).trans (h.A_r hp), h.A_fr hp, h.A_sg hp, h.A_sT hp, h.A_sL hp, (k' _ _ (h.A_sT hp) (by decide)).trans (h.A_sr hp), h.A_ct hp, h.A_cn hp, h.A_sv hp⟩
  · intro s hs
    exact ⟨h.S_q hs, h.S_T hs, (k' _ _ (h.S_T hs) (by decide)).trans (h.S_r hs), h.S_k0 hs, h.S_k1 hs, h.S_k2 hs, h.S_k3 hs, h.S_hm hs, h.S_kB hs, h.S_oB hs⟩
  · intro t ht
    exact ⟨h.T_q ht, h.T_T ht, (k' _ _ (h.T_T ht) (by decide)).trans (h.T_r ht), h.T_of ht, h.T_om ht, h.T_wo ht, h.T_ho ht, h.T_pa ht, h.T_fa ht, h.T_th ht, h.T_hB ht, h.T_pB ht⟩
theorem Gr_at {r : Nat} : gR (Gr G a r) a = r := by
  show va_up (gR G) a r a = r
  unfold va_up
  rw [if_pos rfl]
theorem xQ_ni (S : xH) {a i j : Nat} (x : Option Nat) (h : ¬ j = i) : xQ (sQ S a i x) a j = xQ S a j := by
  show (if a = a ∧ j = i then x else xQ S a j) = xQ S a j
  rw [if_neg (fun q => h q.2)]
theorem g2_at {g : Nat → Nat → Nat} {k i b : Nat} : x_u2 g k i b k i = b := if_pos ⟨rfl, rfl⟩
theorem g2_ne {g : Nat → Nat → Nat} {k i j b : Nat} (h : ¬ j = i) : x_u2 g k i b k j = g k j := if_neg (fun q => h q.2)
/-- a new ticket is laid to the others -/
def GT (G : xG) (a : Nat) : xG := (x_u2 (gA G) 10 (gN G 31) a, gR G, va_up (gN G) 31 (gN G 31 + 1))
theorem tik_link (h : Inv G S o M) (hn : gN G 31 < 40) (ta : xT S a = 20) (ra : gR G a = gN G 31) (hm : m < gN G 5) (r0 : xR S 1000 a = some (gA G 2 m)) (i1 : xI S 1001 a = w) (i2 : xI S 1002 a = -9) (i3 : xI S 1003 a = 0) (i4 : xI S 1004 a = 0) (r5 : xR S 1005 a = some o) : Inv (GT G a) (sI (sQ S (gA G 0 66) (gN G 31) (some a)) 67 o (nI (gN G 31 + 1))) o (m1 (m2 (m2 (m2 M 32 (gN G 31) (nI m)) 33 (gN G 31) w) 34 (gN G 31) (-9)) 31 (nI (gN G 31 + 1))) := by
  have n5 := h.O_n5
  have E : ∀ t, t ≠ 108 → t ≠ 1 → ∀ b, xT S b = t → eqc S (sI (sQ S (gA G 0 66) (gN G 31) (some a)) 67 o (nI (gN G 31 + 1))) b := fun t h1 h2 b hb => (eqc_sQ (fun e => h1 (by rw [← hb, e, h.R_t66]))).trans (eqc_sI (fun e => h2 (by rw [← hb, e, h.O_t])))
  have hO : iO (GT G a) (sI (sQ S (gA G 0 66) (gN G 31) (some a)) 67 o (nI (gN G 31 + 1))) o (m1 (m2 (m2 (m2 M 32 (gN G 31) (nI m)) 33 (gN G 31) w) 34 (gN G 31) (-9)) 31 (nI (gN G 31 + 1))) := ⟨h.O_t, h.O_c50, h.O_c53, h.O_c54, h.O_c58, h.O_c60, h.O_c62, h.O_c63, h.O_c65, (by rw [xI_at]; rfl), h.O_c55, h.O_c56, h.O_d1, h.O_d5, h.O_d4, h.O_d15, h.O_d17, h.O_d22, h.O_d24, h.O_d9, (by rfl), h.O_n0, h.O_n1, h.O_n5, h.O_n4, h.O_n9, h.O_n15, h.O_n17, h.O_n22, h.O_n24, (show gN G 31 + 1 ≤ 40 from hn)⟩
  have hT : iT (GT G a) (sI (sQ S (gA G 0 66) (gN G 31) (some a)) 67 o (nI (gN G 31 + 1))) o (m1 (m2 (m2 (m2 M 32 (gN G 31) (nI m)) 33 (gN G 31) w) 34 (gN G 31) (-9)) 31 (nI (gN G 31 + 1))) := by
    intro t' hb
    replace hb : t' < gN G 31 + 1 := hb
    by_cases e : t' = gN G 31
    · subst e
      have eA : gA (GT G a) 10 (gN G 31) = a := g2_at
      have k2 : M2 (m1 (m2 (m2 (m2 M 32 (gN G 31) (nI m)) 33 (gN G 31) w) 34 (gN G 31) (-9)) 31 (nI (gN G 31 + 1))) 32 (gN G 31) = nI m := m2_at (M := M) (k := 32)
      have k3 : M2 (m1 (m2 (m2 (m2 M 32 (gN G 31) (nI m)) 33 (gN G 31) w) 34 (gN G 31) (-9)) 31 (nI (gN G 31 + 1))) 33 (gN G 31) = w := m2_at (M := m2 M 32 (gN G 31) (nI m)) (k := 33)
      have k4 : M2 (m1 (m2 (m2 (m2 M 32 (gN G 31) (nI m)) 33 (gN G 31) w) 34 (gN G 31) (-9)) 31 (nI (gN G 31 + 1))) 34 (gN G 31) = -9 := m2_at (M := m2 (m2 M 32 (gN G 31) (nI m)) 33 (gN G 31) w) (k := 34)
      have z := h.Z_t (gN G 31) (Nat.le_refl _) hn
      rw [eA, k2, k3, k4, nI_clamp (by omega)]
      exact ⟨xQ_at S _ _ _, ta, ra, r0, (show vp_in (nI m) (gN G 5) from vp_in_nI hm (by omega)), i1, i2, i3.trans z.1.symm, i4.trans z.2.symm, r5, Or.inl rfl, (show x_B (M2 M 35 (gN G 31)) from Or.inl z.1)⟩
    · have eA : gA (GT G a) 10 t' = gA G 10 t' := g2_ne e
      have hb' : t' < gN G 31 := by omega
      have k2 : M2 (m1 (m2 (m2 (m2 M 32 (gN G 31) (nI m)) 33 (gN G 31) w) 34 (gN G 31) (-9)) 31 (nI (gN G 31 + 1))) 32 t' = M2 M 32 t' := m2_ne (M := M) (k := 32) e
      have k3 : M2 (m1 (m2 (m2 (m2 M 32 (gN G 31) (nI m)) 33 (gN G 31) w) 34 (gN G 31) (-9)) 31 (nI (gN G 31 + 1))) 33 t' = M2 M 33 t' := m2_ne (M := m2 M 32 (gN G 31) (nI m)) (k := 33) e
      have k4 : M2 (m1 (m2 (m2 (m2 M 32 (gN G 31) (nI m)) 33 (gN G 31) w) 34 (gN G 31) (-9)) 31 (nI (gN G 31 + 1))) 34 t' = M2 M 34 t' := m2_ne (M := m2 (m2 M 32 (gN G 31) (nI m)) 33 (gN G 31) w) (k := 34) e
      rw [eA, k2, k3, k4]
      exact ⟨(xQ_ni S _ e).trans (h.T_q hb'), h.T_T hb', h.T_r hb', h.T_of hb', h.T_om hb', h.T_wo hb', h.T_ho hb', h.T_pa hb', h.T_fa hb', h.T_th hb', h.T_hB hb', h.T_pB hb'⟩
  have hZ : iZ (GT G a) (sI (sQ S (gA G 0 66) (gN G 31) (some a)) 67 o (nI (gN G 31 + 1))) o (m1 (m2 (m2 (m2 M 32 (gN G 31) (nI m)) 33 (gN G 31) w) 34 (gN G 31) (-9)) 31 (nI (gN G 31 + 1))) := ⟨h.Z_l, h.Z_g, h.Z_s, h.Z_a, fun t' h1 h2 => h.Z_t t' (show gN G 31 ≤ t' from Nat.le_of_succ_le h1) h2⟩
  exact ⟨hO, h.iR, (fr_W (G := G) (M := M) h (E _ (by decide) (by decide)) (E _ (by decide) (by decide))), (fr_M (G := G) (M := M) h (E _ (by decide) (by decide)) (E _ (by decide) (by decide)) (E _ (by decide) (by decide)) (fun b hb => E 101 (by decide) (by decide) b hb.1)), (fr_P (G := G) (M := M) h (E _ (by decide) (by decide)) (E _ (by decide) (by decide)) (fun b hb => E 101 (by decide) (by decide) b hb.1)), (fr_A (G := G) (M := M) h (E _ (by decide) (by decide)) (E _ (by decide) (by decide)) (fun b hb => E 101 (by decide) (by decide) b hb.1)), (fr_K (G := G) (M := M) h (E _ (by decide) (by decide)) (E _ (by decide) (by decide))), (fr_S (G := G) (M := M) h (E _ (by decide) (by decide)) (E _ (by decide) (by decide))), hT, h.iU, hZ⟩
theorem e_ticket (h : Inv G S o M) {k n : Nat} (hk : 1 ≤ k) (hn : 6 ≤ n) : w_X0_ticket k n S o x y z (fun r S' => w_X1_ticket M x y z (fun r' M' => xF o r S' r' M')) := by
  simp only [w_X1_ticket, nm_eq]
  generalize hN : m1 M 0 0 = N
  replace h : Inv G S o N := by rw [← hN]; exact h.m0
  have n5 := h.O_n5
  have n31 := h.O_n31
  cases h1 : rg x 0 (nI (gN G 5) - 1)
  · simp only [w_X0_ticket, c_isMan h, m_noMan h.mI, h1, h.O_t, Bool.not_false, wif_T, wif_F, nm_eq, jn_eq, jn0_eq, jn2_eq, jn3_eq, jn4_eq, zI_t, zI_f, zI0, x_B_zI, x_B_0, x_B_1, isIn_eq, in_eq, Bool.true_eq_false, Bool.false_eq_true, eq_self, true_and, and_true, Option.some.injEq, exists_eq_left', exists_eq_left, reduceCtorEq, not_true_eq_false, not_false_eq_true, one_ne, if_true, if_false]
    exact ⟨rfl, G, h⟩
  cases h2 : rg y 1 99
  · simp only [w_X0_ticket, c_isMan h, m_noMan h.mI, h1, h2, h.O_t, l64_1, l64_99, Bool.not_true, wif_T, wif_F, nm_eq, jn_eq, jn0_eq, jn2_eq, jn3_eq, jn4_eq, zI_t, zI_f, zI0, x_B_zI, x_B_0, x_B_1, isIn_eq, in_eq, Bool.true_eq_false, Bool.false_eq_true, eq_self, true_and, and_true, Option.some.injEq, exists_eq_left', exists_eq_left, reduceCtorEq, not_true_eq_false, not_false_eq_true, one_ne, if_true, if_false]
    exact ⟨rfl, G, h⟩
  cases h3 : rg z 1 50
  · simp only [w_X0_ticket, c_isMan h, m_noMan h.mI, h1, h2, h3, h.O_t, l64_1, l64_99, l64_50, Bool.not_true, wif_T, wif_F, nm_eq, jn_eq, jn0_eq, jn2_eq, jn3_eq, jn4_eq, zI_t, zI_f, zI0, x_B_zI, x_B_0, x_B_1, isIn_eq, in_eq, Bool.true_eq_false, Bool.false_eq_true, eq_self, true_and, and_true, Option.some.injEq, exists_eq_left', exists_eq_left, reduceCtorEq, not_true_eq_false, not_false_eq_true, one_ne, if_true, if_false]
    exact ⟨rfl, G, h⟩
  obtain ⟨m, hm, rfl⟩ := c_ix h h1
  by_cases e : gN G 31 = 40
  · have e40 : (nI (gN G 31) = 40) = True := eq_true (by rw [e]; rfl)
    simp only [w_X0_ticket, c_isMan h, m_noMan h.mI, h1, h2, h3, h.O_t, h.O_c67, h.O_d31, e40, l64_1, l64_99, l64_50, Bool.not_true, wif_T, wif_F, nm_eq, jn_eq, jn0_eq, jn2_eq, jn3_eq, jn4_eq, zI_t, zI_f, zI0, x_B_zI, x_B_0, x_B_1, isIn_eq, in_eq, Bool.true_eq_false, Bool.false_eq_true, eq_self, true_and, and_true, Option.some.injEq, exists_eq_left', exists_eq_left, reduceCtorEq, not_true_eq_false, not_false_eq_true, one_ne, if_true, if_false]
    exact ⟨rfl, G, h⟩
  have hlt : gN G 31 < 40 := by omega
  have e40 : (nI (gN G 31) = 40) = False := eq_false (fun q => e ((eqk_40 (by omega)).mp q))
  have hv : vp_in (nI m) 40 := vp_in_nI (by omega) (by decide)
  have hvn : vp_in (nI (gN G 31)) 40 := vp_in_nI (by omega) (by decide)
  have cn := nI_clamp (show gN G 31 < 2 ^ 31 by omega)
  simp only [w_X0_ticket, c_isMan h, m_noMan h.mI, h1, h2, h3, h.O_t, h.O_c67, h.O_d31, e40, l64_1, l64_99, l64_50, Bool.not_true, wif_T, wif_F, nm_eq, jn_eq, jn0_eq, jn2_eq, jn3_eq, jn4_eq, zI_t, zI_f, zI0, x_B_zI, x_B_0, x_B_1, isIn_eq, in_eq, Bool.true_eq_false, Bool.false_eq_true, eq_self, true_and, and_true, Option.some.injEq, exists_eq_left', exists_eq_left, reduceCtorEq, not_true_eq_false, not_false_eq_true, one_ne, if_true, if_false]
  refine ⟨hk, hn, fun a ha => ?_⟩
  have g1 := h.ext ((xE.refl S).n ha (t := 20))
  have g4 : Inv (Gr G a (gN G 31)) (sI (sR (sI (sR (sN S a 20) 1005 a (some o)) 1002 a (-9)) 1000 a (some (gA G 2 m))) 1001 a (y * z)) o N := (h.role ha).ext (((((((xE.refl S).n ha).r ha).i ha).r ha).i ha))
  have f := tik_link g4 hlt xT_nN Gr_at hm (w := y * z) (show _ = some (gA G 2 m) by simp [sI, sR, sA, sQ, sN, sV, xI, xR, xT, xL, xA, xQ, x_u2, va_up]) (by simp [sI, sR, sA, sQ, sN, sV, xI, xR, xT, xL, xA, xQ, x_u2, va_up]) (by simp [sI, sR, sA, sQ, sN, sV, xI, xR, xT, xL, xA, xQ, x_u2, va_up]) (by simp [sI, sR, sA, sQ, sN, sV, xI, xR, xT, xL, xA, xQ, x_u2, va_up]) (by simp [sI, sR, sA, sQ, sN, sV, xI, xR, xT, xL, xA, xQ, x_u2, va_up]) (by simp [sI, sR, sA, sQ, sN, sV, xI, xR, xT, xL, xA, xQ, x_u2, va_up])
  have c67 : xI (sI (sR (sI (sR (sN S a 20) 1005 a (some o)) 1002 a (-9)) 1000 a (some (gA G 2 m))) 1001 a (y * z)) 67 o = nI (gN G 31) := g4.O_c67
  simp only [nm_eq, w_X19_init, g1.O_t, g1.R_r52, g1.R_t52, g1.R_l52, h.R_r66, g1.R_t66, g1.R_l66, hv, hvn, cn, g1.M_q hm, nI_clamp (show m < 2 ^ 31 by omega), xT_nN, M1_m2, h.O_d31, m1_at, c67, xI_at, nI_1, nI_pred, xT_sI, xL_sI, xR_sI, xA_sI, xQ_sI, xT_sR, xL_sR, xI_sR, xA_sR, xQ_sR, xT_sA, xL_sA, xI_sA, xR_sA, xQ_sA, xT_sQ, xL_sQ, xI_sQ, xR_sQ, xA_sQ, xT_sB, xL_sB, xI_sB, xR_sB, xQ_sB, wif_T, wif_F, nm_eq, jn_eq, jn0_eq, jn2_eq, jn3_eq, jn4_eq, zI_t, zI_f, zI0, x_B_zI, x_B_0, x_B_1, isIn_eq, in_eq, Bool.true_eq_false, Bool.false_eq_true, eq_self, true_and, and_true, Option.some.injEq, exists_eq_left', exists_eq_left, reduceCtorEq, not_true_eq_false, not_false_eq_true, one_ne, if_true, if_false]
  exact ⟨rfl, _, f⟩
/-- a new ship is laid to the others -/
def GS (G : xG) (a : Nat) : xG := (x_u2 (gA G) 9 (gN G 9) a, gR G, va_up (gN G) 9 (gN G 9 + 1))
theorem pv_GS {p : Int32} (h : pv G p) : pv (GS G a) p := by
  rcases h with h | ⟨s, h1, h2⟩ | h
  · exact Or.inl h
  · exact Or.inr (Or.inl ⟨s, (show s < gN G 9 + 1 by omega), h2⟩)
  · exact Or.inr (Or.inr h)
theorem ship_link (h : Inv G S o M) (hn : gN G 9 < 10) (ta : xT S a = 19) (ra : gR G a = gN G 9) (hx : x_B x) (hw : vp_in w 21) (i0 : xI S 950 a = x) (i1 : xI S 951 a = y) (i2 : xI S 952 a = z) (i3 : xI S 953 a = w) (i4 : xI S 954 a = 1) : Inv (GS G a) (sI (sQ S (gA G 0 64) (gN G 9) (some a)) 65 o (nI (gN G 9 + 1))) o (m1 (m2 (m2 (m2 (m2 M 10 (gN G 9) x) 11 (gN G 9) y) 12 (gN G 9) z) 13 (gN G 9) w) 9 (nI (gN G 9 + 1))) := by
  have E : ∀ t, t ≠ 107 → t ≠ 1 → ∀ b, xT S b = t → eqc S (sI (sQ S (gA G 0 64) (gN G 9) (some a)) 65 o (nI (gN G 9 + 1))) b := fun t h1 h2 b hb => (eqc_sQ (fun e => h1 (by rw [← hb, e, h.R_t64]))).trans (eqc_sI (fun e => h2 (by rw [← hb, e, h.O_t])))
  have hO : iO (GS G a) (sI (sQ S (gA G 0 64) (gN G 9) (some a)) 65 o (nI (gN G 9 + 1))) o (m1 (m2 (m2 (m2 (m2 M 10 (gN G 9) x) 11 (gN G 9) y) 12 (gN G 9) z) 13 (gN G 9) w) 9 (nI (gN G 9 + 1))) := ⟨h.O_t, h.O_c50, h.O_c53, h.O_c54, h.O_c58, h.O_c60, h.O_c62, h.O_c63, (by rw [xI_at]; rfl), h.O_c67, h.O_c55, h.O_c56, h.O_d1, h.O_d5, h.O_d4, h.O_d15, h.O_d17, h.O_d22, h.O_d24, (by rfl), h.O_d31, h.O_n0, h.O_n1, h.O_n5, h.O_n4, (show gN G 9 + 1 ≤ 10 from hn), h.O_n15, h.O_n17, h.O_n22, h.O_n24, h.O_n31⟩
  have hM : iM (GS G a) (sI (sQ S (gA G 0 64) (gN G 9) (some a)) 65 o (nI (gN G 9 + 1))) o (m1 (m2 (m2 (m2 (m2 M 10 (gN G 9) x) 11 (gN G 9) y) 12 (gN G 9) z) 13 (gN G 9) w) 9 (nI (gN G 9 + 1))) := by
    have H := (fr_M (G := G) (M := M) h (E _ (by decide) (by decide)) (E _ (by decide) (by decide)) (E _ (by decide) (by decide)) (fun b hb => E 101 (by decide) (by decide) b hb.1))
    intro m hm
    obtain ⟨b1, b2, b3, b4, b5, b6, b7, b8, b9, b10, b11, b12, b13, b14, b15, b16⟩ := H m hm
    exact ⟨b1, b2, b3, b4, b5, b6, b7, b8, b9, b10, b11, b12, b13, b14, b15, fun t ht => pv_GS (b16 t ht)⟩
  have hS : iS (GS G a) (sI (sQ S (gA G 0 64) (gN G 9) (some a)) 65 o (nI (gN G 9 + 1))) o (m1 (m2 (m2 (m2 (m2 M 10 (gN G 9) x) 11 (gN G 9) y) 12 (gN G 9) z) 13 (gN G 9) w) 9 (nI (gN G 9 + 1))) := by
    intro s hb
    replace hb : s < gN G 9 + 1 := hb
    by_cases e : s = gN G 9
    · subst e
      have eA : gA (GS G a) 9 (gN G 9) = a := g2_at
      have k0 : M2 (m1 (m2 (m2 (m2 (m2 M 10 (gN G 9) x) 11 (gN G 9) y) 12 (gN G 9) z) 13 (gN G 9) w) 9 (nI (gN G 9 + 1))) 10 (gN G 9) = x := m2_at (M := M) (k := 10)
      have k1 : M2 (m1 (m2 (m2 (m2 (m2 M 10 (gN G 9) x) 11 (gN G 9) y) 12 (gN G 9) z) 13 (gN G 9) w) 9 (nI (gN G 9 + 1))) 11 (gN G 9) = y := m2_at (M := m2 M 10 (gN G 9) x) (k := 11)
      have k2 : M2 (m1 (m2 (m2 (m2 (m2 M 10 (gN G 9) x) 11 (gN G 9) y) 12 (gN G 9) z) 13 (gN G 9) w) 9 (nI (gN G 9 + 1))) 12 (gN G 9) = z := m2_at (M := m2 (m2 M 10 (gN G 9) x) 11 (gN G 9) y) (k := 12)
      have k3 : M2 (m1 (m2 (m2 (m2 (m2 M 10 (gN G 9) x) 11 (gN G 9) y) 12 (gN G 9) z) 13 (gN G 9) w) 9 (nI (gN G 9 + 1))) 13 (gN G 9) = w := m2_at (M := m2 (m2 (m2 M 10 (gN G 9) x) 11 (gN G 9) y) 12 (gN G 9) z) (k := 13)
      have k4 : M2 (m1 (m2 (m2 (m2 (m2 M 10 (gN G 9) x) 11 (gN G 9) y) 12 (gN G 9) z) 13 (gN G 9) w) 9 (nI (gN G 9 + 1))) 14 (gN G 9) = 0 := h.Z_s (gN G 9) (Nat.le_refl _) hn
      rw [eA, k0, k1, k2, k3, k4]
      exact ⟨xQ_at S _ _ _, ta, ra, i0, i1, i2, i3, i4.trans (by decide), hx, Or.inl rfl⟩
    · have eA : gA (GS G a) 9 s = gA G 9 s := g2_ne e
      have hb' : s < gN G 9 := by omega
      have k0 : M2 (m1 (m2 (m2 (m2 (m2 M 10 (gN G 9) x) 11 (gN G 9) y) 12 (gN G 9) z) 13 (gN G 9) w) 9 (nI (gN G 9 + 1))) 10 s = M2 M 10 s := m2_ne (M := M) (k := 10) e
      have k1 : M2 (m1 (m2 (m2 (m2 (m2 M 10 (gN G 9) x) 11 (gN G 9) y) 12 (gN G 9) z) 13 (gN G 9) w) 9 (nI (gN G 9 + 1))) 11 s = M2 M 11 s := m2_ne (M := m2 M 10 (gN G 9) x) (k := 11) e
      have k2 : M2 (m1 (m2 (m2 (m2 (m2 M 10 (gN G 9) x) 11 (gN G 9) y) 12 (gN G 9) z) 13 (gN G 9) w) 9 (nI (gN G 9 + 1))) 12 s = M2 M 12 s := m2_ne (M := m2 (m2 M 10 (gN G 9) x) 11 (gN G 9) y) (k := 12) e
      have k3 : M2 (m1 (m2 (m2 (m2 (m2 M 10 (gN G 9) x) 11 (gN G 9) y) 12 (gN G 9) z) 13 (gN G 9) w) 9 (nI (gN G 9 + 1))) 13 s = M2 M 13 s := m2_ne (M := m2 (m2 (m2 M 10 (gN G 9) x) 11 (gN G 9) y) 12 (gN G 9) z) (k := 13) e
      rw [eA, k0, k1, k2, k3]
      exact ⟨(xQ_ni S _ e).trans (h.S_q hb'), h.S_T hb', h.S_r hb', h.S_k0 hb', h.S_k1 hb', h.S_k2 hb', h.S_k3 hb', h.S_hm hb', h.S_kB hb', h.S_oB hb'⟩
  have hZ : iZ (GS G a) (sI (sQ S (gA G 0 64) (gN G 9) (some a)) 65 o (nI (gN G 9 + 1))) o (m1 (m2 (m2 (m2 (m2 M 10 (gN G 9) x) 11 (gN G 9) y) 12 (gN G 9) z) 13 (gN G 9) w) 9 (nI (gN G 9 + 1))) := ⟨fun s' hs' => by
    by_cases e : s' = gN G 9
    · subst e
      rw [show M2 (m1 (m2 (m2 (m2 (m2 M 10 (gN G 9) x) 11 (gN G 9) y) 12 (gN G 9) z) 13 (gN G 9) w) 9 (nI (gN G 9 + 1))) 13 (gN G 9) = w from m2_at (M := m2 (m2 (m2 M 10 (gN G 9) x) 11 (gN G 9) y) 12 (gN G 9) z) (k := 13)]
      exact hw
    · rw [show M2 (m1 (m2 (m2 (m2 (m2 M 10 (gN G 9) x) 11 (gN G 9) y) 12 (gN G 9) z) 13 (gN G 9) w) 9 (nI (gN G 9 + 1))) 13 s' = M2 M 13 s' from m2_ne (M := m2 (m2 (m2 M 10 (gN G 9) x) 11 (gN G 9) y) 12 (gN G 9) z) (k := 13) e]
      exact h.Z_l s' hs', h.Z_g, fun t' h1 h2 => h.Z_s t' (show gN G 9 ≤ t' from Nat.le_of_succ_le h1) h2, h.Z_a, h.Z_t⟩
  exact ⟨hO, h.iR, (fr_W (G := G) (M := M) h (E _ (by decide) (by decide)) (E _ (by decide) (by decide))), hM, (fr_P (G := G) (M := M) h (E _ (by decide) (by decide)) (E _ (by decide) (by decide)) (fun b hb => E 101 (by decide) (by decide) b hb.1)), (fr_A (G := G) (M := M) h (E _ (by decide) (by decide)) (E _ (by decide) (by decide)) (fun b hb => E 101 (by decide) (by decide) b hb.1)), (fr_K (G := G) (M := M) h (E _ (by decide) (by decide)) (E _ (by decide) (by decide))), hS, (fr_T (G := G) (M := M) h (E _ (by decide) (by decide)) (E _ (by decide) (by decide))), h.iU, hZ⟩
theorem e_ship (h : Inv G S o M) {k n : Nat} (hk : 1 ≤ k) (hn : 5 ≤ n) : w_X0_ship k n S o x y z w (fun r S' => w_X1_ship M x y z w (fun r' M' => xF o r S' r' M')) := by
  simp only [w_X1_ship, nm_eq]
  generalize hN : m1 M 0 0 = N
  replace h : Inv G S o N := by rw [← hN]; exact h.m0
  have n9 := h.O_n9
  cases h1 : rg x 0 1
  · simp only [w_X0_ship, h1, l64_0, l64_1, wif_T, wif_F, nm_eq, jn_eq, jn0_eq, jn2_eq, jn3_eq, jn4_eq, zI_t, zI_f, zI0, x_B_zI, x_B_0, x_B_1, isIn_eq, in_eq, Bool.true_eq_false, Bool.false_eq_true, eq_self, true_and, and_true, Option.some.injEq, exists_eq_left', exists_eq_left, reduceCtorEq, not_true_eq_false, not_false_eq_true, one_ne, if_true, if_false]
    exact ⟨rfl, G, h⟩
  cases h2 : rg y 1 20
  · simp only [w_X0_ship, h1, h2, l64_0, l64_1, l64_20, wif_T, wif_F, nm_eq, jn_eq, jn0_eq, jn2_eq, jn3_eq, jn4_eq, zI_t, zI_f, zI0, x_B_zI, x_B_0, x_B_1, isIn_eq, in_eq, Bool.true_eq_false, Bool.false_eq_true, eq_self, true_and, and_true, Option.some.injEq, exists_eq_left', exists_eq_left, reduceCtorEq, not_true_eq_false, not_false_eq_true, one_ne, if_true, if_false]
    exact ⟨rfl, G, h⟩
  cases h3 : rg z 0 y
  · simp only [w_X0_ship, h1, h2, h3, l64_0, l64_1, l64_20, wif_T, wif_F, nm_eq, jn_eq, jn0_eq, jn2_eq, jn3_eq, jn4_eq, zI_t, zI_f, zI0, x_B_zI, x_B_0, x_B_1, isIn_eq, in_eq, Bool.true_eq_false, Bool.false_eq_true, eq_self, true_and, and_true, Option.some.injEq, exists_eq_left', exists_eq_left, reduceCtorEq, not_true_eq_false, not_false_eq_true, one_ne, if_true, if_false]
    exact ⟨rfl, G, h⟩
  cases h4 : rg w 0 20
  · simp only [w_X0_ship, h1, h2, h3, h4, l64_0, l64_1, l64_20, wif_T, wif_F, nm_eq, jn_eq, jn0_eq, jn2_eq, jn3_eq, jn4_eq, zI_t, zI_f, zI0, x_B_zI, x_B_0, x_B_1, isIn_eq, in_eq, Bool.true_eq_false, Bool.false_eq_true, eq_self, true_and, and_true, Option.some.injEq, exists_eq_left', exists_eq_left, reduceCtorEq, not_true_eq_false, not_false_eq_true, one_ne, if_true, if_false]
    exact ⟨rfl, G, h⟩
  have hx : x_B x := by
    obtain ⟨j, hj, ej⟩ := vp_in_of ((rg_le (n := 1) (by decide)).mp h1) (by decide)
    have : j = 0 ∨ j = 1 := by omega
    rcases this with rfl | rfl
    · exact Or.inl ej
    · exact Or.inr ej
  by_cases e : gN G 9 = 10
  · have e40 : (nI (gN G 9) = 10) = True := eq_true (by rw [e]; rfl)
    simp only [w_X0_ship, h1, h2, h3, h4, h.O_t, h.O_c65, h.O_d9, e40, l64_0, l64_1, l64_20, wif_T, wif_F, nm_eq, jn_eq, jn0_eq, jn2_eq, jn3_eq, jn4_eq, zI_t, zI_f, zI0, x_B_zI, x_B_0, x_B_1, isIn_eq, in_eq, Bool.true_eq_false, Bool.false_eq_true, eq_self, true_and, and_true, Option.some.injEq, exists_eq_left', exists_eq_left, reduceCtorEq, not_true_eq_false, not_false_eq_true, one_ne, if_true, if_false]
    exact ⟨rfl, G, h⟩
  have hlt : gN G 9 < 10 := by omega
  have e40 : (nI (gN G 9) = 10) = False := eq_false (fun q => e ((eqk_10 (by omega)).mp q))
  have hvn : vp_in (nI (gN G 9)) 10 := vp_in_nI (by omega) (by decide)
  have cn := nI_clamp (show gN G 9 < 2 ^ 31 by omega)
  simp only [w_X0_ship, h1, h2, h3, h4, h.O_t, h.O_c65, h.O_d9, e40, l64_0, l64_1, l64_20, wif_T, wif_F, nm_eq, jn_eq, jn0_eq, jn2_eq, jn3_eq, jn4_eq, zI_t, zI_f, zI0, x_B_zI, x_B_0, x_B_1, isIn_eq, in_eq, Bool.true_eq_false, Bool.false_eq_true, eq_self, true_and, and_true, Option.some.injEq, exists_eq_left', exists_eq_left, reduceCtorEq, not_true_eq_false, not_false_eq_true, one_ne, if_true, if_false]
  refine ⟨hk, hn, fun a ha => ?_⟩
  have g1 := h.ext ((xE.refl S).n ha (t := 19))
  have g4 : Inv (Gr G a (gN G 9)) (sI (sI (sI (sI (sI (sN S a 19) 954 a 1) 950 a x) 951 a y) 952 a z) 953 a w) o N := (h.role ha).ext ((((((((xE.refl S).n ha).i ha).i ha).i ha).i ha).i ha))
  have f := ship_link g4 hlt xT_nN Gr_at hx ((rg_le (n := 20) (by decide)).mp h4) (y := y) (z := z) (w := w) (by simp [sI, sR, sA, sQ, sN, sV, xI, xR, xT, xL, xA, xQ, x_u2, va_up]) (by simp [sI, sR, sA, sQ, sN, sV, xI, xR, xT, xL, xA, xQ, x_u2, va_up]) (by simp [sI, sR, sA, sQ, sN, sV, xI, xR, xT, xL, xA, xQ, x_u2, va_up]) (by simp [sI, sR, sA, sQ, sN, sV, xI, xR, xT, xL, xA, xQ, x_u2, va_up]) (by simp [sI, sR, sA, sQ, sN, sV, xI, xR, xT, xL, xA, xQ, x_u2, va_up])
  have c65 : xI (sI (sI (sI (sI (sI (sN S a 19) 954 a 1) 950 a x) 951 a y) 952 a z) 953 a w) 65 o = nI (gN G 9) := g4.O_c65
  simp only [nm_eq, w_X18_init, g1.O_t, h.R_r64, g1.R_t64, g1.R_l64, hvn, cn, xT_nN, M1_m2, h.O_d9, m1_at, c65, xI_at, nI_1, nI_pred, xT_sI, xL_sI, xR_sI, xA_sI, xQ_sI, xT_sR, xL_sR, xI_sR, xA_sR, xQ_sR, xT_sA, xL_sA, xI_sA, xR_sA, xQ_sA, xT_sQ, xL_sQ, xI_sQ, xR_sQ, xA_sQ, xT_sB, xL_sB, xI_sB, xR_sB, xQ_sB, wif_T, wif_F, nm_eq, jn_eq, jn0_eq, jn2_eq, jn3_eq, jn4_eq, zI_t, zI_f, zI0, x_B_zI, x_B_0, x_B_1, isIn_eq, in_eq, Bool.true_eq_false, Bool.false_eq_true, eq_self, true_and, and_true, Option.some.injEq, exists_eq_left', exists_eq_left, reduceCtorEq, not_true_eq_false, not_false_eq_true, one_ne, if_true, if_false]
  exact ⟨rfl, _, f⟩
end
