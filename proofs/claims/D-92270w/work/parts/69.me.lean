set_option maxRecDepth 100000
/-! ===== the laying: all rows, the first best ===== -/
theorem dg_1 {N k P i j : Nat} (hN : 1 ≤ N) (hi : i < N) (hj : j < k) : dig N (k + 1) (P * N + i) j = dig N k P j := by
  have e : k + 1 - 1 - j = (k - 1 - j) + 1 := by omega
  have d : (P * N + i) / N = P := by rw [Nat.mul_comm, Nat.mul_add_div hN, Nat.div_eq_of_lt hi, Nat.add_zero]
  rw [dig, dig, e, Nat.pow_succ, Nat.mul_comm (N ^ (k - 1 - j)) N, ← Nat.div_div_eq_div_mul, d]
theorem dg_2 {N k P i : Nat} (hi : i < N) : dig N (k + 1) (P * N + i) k = i := by
  rw [dig, show k + 1 - 1 - k = 0 by omega, Nat.pow_zero, Nat.div_one, Nat.mul_comm, Nat.mul_add_mod, Nat.mod_eq_of_lt hi]
theorem dg_3 {N k r P t j : Nat} (hN : 1 ≤ N) (ht : t < N ^ r) (hj : j < k) : dig N (k + r) (P * N ^ r + t) j = dig N k P j := by
  have e : k + r - 1 - j = r + (k - 1 - j) := by omega
  have p : 0 < N ^ r := Nat.pow_pos hN
  have d : (P * N ^ r + t) / N ^ r = P := by rw [Nat.mul_comm, Nat.mul_add_div p, Nat.div_eq_of_lt ht, Nat.add_zero]
  rw [dig, dig, e, Nat.pow_add, ← Nat.div_div_eq_div_mul, d]
theorem bst_lt {v : Nat → Int32} {lo : Nat} {b : Int32 × Nat} : ∀ n, (bst v lo b n).2 = b.2 ∨ (lo ≤ (bst v lo b n).2 ∧ (bst v lo b n).2 < lo + n)
  | 0 => Or.inl rfl
  | n + 1 => by
    rw [bst]
    split
    · exact Or.inr ⟨Nat.le_add_right _ _, by show lo + n < lo + (n + 1); omega⟩
    · rcases bst_lt (v := v) (lo := lo) (b := b) n with z | z
      · exact Or.inl z
      · exact Or.inr ⟨z.1, by omega⟩
/-- the best so far, and the row kept for it -/
def okb (n L al : Nat) (b : Int32 × Nat) (F : Nat → Int32) : Prop := b.1 = -9 ∨ ((∃ v, v ≤ al ∧ b.1 = nI v) ∧ ∀ j, j < L → F j = nI (dig n L b.2 j))
theorem n9_nlt {n L al : Nat} {b : Int32 × Nat} {F : Nat → Int32} (h : okb n L al b F) (ha : al ≤ 320) : ¬ b.1 < -9 := by
  rcases h with e | ⟨⟨v, hv, e⟩, _⟩
  · rw [e]; decide
  · rw [e, Int32.lt_iff_toInt_lt, nI_toInt (by omega)]
    have : (-9 : Int32).toInt = -9 := by decide
    omega
section
variable {G : xG} {M : xM} {S : xH} {o p c0 c1 c2 c3 c4 g h n al k x t : Nat} {R T : Nat → Nat} {D : Nat → Nat → Nat} {F2 F3 F4 : Nat → Int32} {b : Int32}
theorem c_mayFollow (B : lyS S o p c0 c1 c2 c3 c4 g h n T al) (N : lyN g h n T D) (hI : Inv G S o M) (eD : D = dst (adj M)) (hk : k < g * h) (hx : x < n) (ht : ¬ k = 0 → F3 (k - 1) = nI t ∧ t < n) {Q : Int32 → Prop} (qy : (k % h = 0 ∨ D t x ≤ 1) → Q 1) (qn : ¬ (k % h = 0 ∨ D t x ≤ 1) → Q 0) : w_X17_mayFollow (lY S p c2 c3 c4 F2 F3 F4 b) p (nI k) (nI x) Q := by
  obtain ⟨⟨tp, tq, i50, i900, i901, i907⟩, ⟨r9, r2, r3, r8, r4, r5⟩, ⟨t0, l0, t1, l1, t2, l2, t3, l3, t4, l4⟩, ⟨d02, d03, d04, d23, d24, d34⟩, hT⟩ := B
  obtain ⟨n1, n8, g1, g2, h1, h3, T40, D100⟩ := N
  have hL : g * h ≤ 6 := Nat.le_trans (Nat.mul_le_mul g2 h3) (by decide)
  unfold w_X17_mayFollow
  simp only [lY_T, lY_R, lY_Q, lY_L]
  rw [lY_I (show ¬ 901 = 906 by decide), i901]
  refine ⟨tp, nI_ne0 h1 (by omega), ?_⟩
  rw [nI_mod (show k < 2 ^ 31 by omega) (show h < 2 ^ 31 by omega)]
  have hm : k % h < h := Nat.mod_lt _ h1
  refine jn_i (fun v => (k % h = 0 ∧ v = nI x) ∨ (¬ k % h = 0 ∧ v = nI t)) (fun v hv => ?_) (fun J hJ => ?_)
  · rcases hv with ⟨z, rfl⟩ | ⟨z, rfl⟩
    · exact wif_y rfl (qy (Or.inl z))
    · have k0 : ¬ k = 0 := fun e => z (by rw [e]; exact Nat.zero_mod h)
      have tn := (ht k0).2
      have d1 := dst_1 (A := adj M) (a := t) (b := x)
      rw [← eD] at d1
      by_cases e : t = x
      · exact wif_y (by rw [e]) (qy (Or.inr (d1.mpr (Or.inl e))))
      · refine wif_n (fun q => e ((nI_eq (by omega) (by omega)).mp q)) ⟨tp, o, r9, tq, gA G 0 51, hI.R_r51, hI.R_t51, by rw [hI.R_l51]; exact vp_in_nI (by omega) (by decide), gA G 1 t, by rw [nI_clamp (by omega)]; exact hI.W_q (by omega), hI.W_T (by omega), by rw [hI.W_L (by omega)]; exact vp_in_nI (by omega) (by decide), ?_⟩
        have wt := hI.W_T (show t < 8 by omega)
        have a2 : gA G 1 t ≠ c2 := fun q => by rw [q, t2] at wt; exact absurd wt (by decide)
        have a3 : gA G 1 t ≠ c3 := fun q => by rw [q, t3] at wt; exact absurd wt (by decide)
        have a4 : gA G 1 t ≠ c4 := fun q => by rw [q, t4] at wt; exact absurd wt (by decide)
        rw [lY_A a2 a3 a4, nI_clamp (show x < 2 ^ 31 by omega), hI.W_v (by omega) x (by omega)]
        by_cases w : M2 M 2 (8 * t + x) = 0
        · refine wif_y w (qn (fun q => ?_))
          rcases q with q | q
          · exact z q
          · rcases d1.mp q with q | q
            · exact e q
            · exact (adj_t.mp q).2.2 w
        · exact wif_n w (qy (Or.inr (d1.mpr (Or.inr (adj_t.mpr ⟨by omega, by omega, w⟩)))))
  · by_cases z : k % h = 0
    · exact wif_y (by rw [z]; rfl) (hJ _ (Or.inl ⟨z, rfl⟩))
    · have k0 : ¬ k = 0 := fun e => z (by rw [e]; exact Nat.zero_mod h)
      obtain ⟨j, rfl⟩ : ∃ j, k = j + 1 := ⟨k - 1, by omega⟩
      refine wif_n (fun q => z ((eqk_0 (by omega)).mp q)) ⟨tp, c3, r4, t3, ?_⟩
      rw [k1_1, nI_clamp (show j < 2 ^ 31 by omega), lY_3 d34, l3]
      exact ⟨vp_in_nI (by omega) (by omega), hJ _ (Or.inr ⟨z, (ht k0).1⟩)⟩
theorem c_lay (B : lyS S o p c0 c1 c2 c3 c4 g h n T al) (hR : lyR S c1 c2 c3 c4 R D n) (N : lyN g h n T D) (hI : Inv G S o M) (eD : D = dst (adj M)) (ea : al = nsm T n) : ∀ (r d k P : Nat) (F2 F3 F4 : Nat → Int32) (b : Int32 × Nat) (Q : xH → Prop), k + r = g * h → r < d → (∀ j, j < k → F3 j = nI (dig n k P j)) → wlk D h (dig n k P) k → okb n (g * h) al b F4 → (∀ F2 F3 F4, (∀ j, j < k → F3 j = nI (dig n k P j)) → okb n (g * h) al (bst (vlu T D n h g) (P * n ^ r) b (n ^ r)) F4 → Q (lY S p c2 c3 c4 F2 F3 F4 (bst (vlu T D n h g) (P * n ^ r) b (n ^ r)).1)) → w_X17_lay d (lY S p c2 c3 c4 F2 F3 F4 b.1) p (nI k) Q := by
  have B0 := B
  obtain ⟨⟨tp, tq, i50, i900, i901, i907⟩, ⟨r9, r2, r3, r8, r4, r5⟩, ⟨t0, l0, t1, l1, t2, l2, t3, l3, t4, l4⟩, ⟨d02, d03, d04, d23, d24, d34⟩, hT⟩ := B
  have N0 := N
  obtain ⟨n1, n8, g1, g2, h1, h3, T40, D100⟩ := N
  have hL : g * h ≤ 6 := Nat.le_trans (Nat.mul_le_mul g2 h3) (by decide)
  have al3 : al ≤ 320 := by rw [ea]; exact Nat.le_trans (nsm_b T40 n) (by omega)
  intro r
  induction r with
  | zero =>
    intro d k P F2 F3 F4 b Q hk hd h3F hw hb q
    obtain ⟨d, rfl⟩ : ∃ e, d = e + 1 := ⟨d - 1, by omega⟩
    rw [Nat.add_zero] at hk
    subst hk
    show w_X17_lay_b (w_X17_lay d) (lY S p c2 c3 c4 F2 F3 F4 b.1) p (nI (g * h)) Q
    unfold w_X17_lay_b
    simp only [lY_T, lY_R, lY_Q, lY_L]
    refine ⟨tp, c3, r4, t3, wif_y (by rw [l3]) ⟨tp, ?_⟩⟩
    have e1 : bst (vlu T D n h g) (P * n ^ 0) b (n ^ 0) = if b.1 < vlu T D n h g P then (vlu T D n h g P, P) else b := by
      rw [Nat.pow_zero, Nat.mul_one, bst, bst, Nat.add_zero]
    rw [e1, vlu_y hw] at q
    refine c_judge B0 hR N0 (f := dig n (g * h) P) (fun k hk => ⟨h3F k hk, dig_lt n1⟩) (fun c F2 F hF => ?_) (fun c F2 => ?_)
    · rw [if_pos c] at q
      exact q F2 F3 F h3F (Or.inr ⟨⟨_, by rw [ea]; exact mtf_le (fun _ _ _ _ => dig_lt n1), rfl⟩, hF⟩)
    · rw [if_neg c] at q
      exact q F2 F3 F4 h3F hb
  | succ r ih =>
    intro d k P F2 F3 F4 b Q hk hd h3F hw hb q
    obtain ⟨d, rfl⟩ : ∃ e, d = e + 1 := ⟨d - 1, by omega⟩
    show w_X17_lay_b (w_X17_lay d) (lY S p c2 c3 c4 F2 F3 F4 b.1) p (nI k) Q
    unfold w_X17_lay_b
    simp only [lY_T, lY_R, lY_Q, lY_L]
    refine ⟨tp, c3, r4, t3, wif_n (fun z => by rw [l3] at z; have := (nI_eq (by omega) (by omega)).mp z; omega) ?_⟩
    have npw : n ^ (r + 1) = n * n ^ r := by rw [Nat.pow_succ, Nat.mul_comm]
    generalize eV : vlu T D n h g = V at *
    have Vb : ∀ c, V c = -9 ∨ ∃ v, v ≤ al ∧ V c = nI v := fun c => by
      rw [← eV, ea]
      exact vlu_b n1
    refine lf2_u n (fun i x X => x = nI i ∧ ∃ F2 F3 F4, X = lY S p c2 c3 c4 F2 F3 F4 (bst V (P * n ^ (r + 1)) b (i * n ^ r)).1 ∧ (∀ j, j < k → F3 j = nI (dig n k P j)) ∧ okb n (g * h) al (bst V (P * n ^ (r + 1)) b (i * n ^ r)) F4) ?_ _ _ ⟨rfl, F2, F3, F4, by rw [Nat.zero_mul, bst], h3F, by rw [Nat.zero_mul, bst]; exact hb⟩
    clear h3F hb F2 F3 F4
    rintro K i x X hi ⟨rfl, F2, F3, F4, rfl, h3F, hb⟩ hK
    simp only [lY_T, lY_R, lY_Q, lY_L]
    refine ⟨tp, o, r9, tq, ?_⟩
    rw [lY_I (show ¬ 50 = 906 by decide), i50]
    by_cases ei : i = n
    · rw [ei, ← npw] at hb ⊢
      exact wif_y (Int32.le_refl _) (q F2 F3 F4 h3F hb)
    have hl : i < n := by omega
    refine wif_n (nI_ge hl (by omega)) ⟨tp, tp, ?_⟩
    rw [lY_I (show ¬ 907 = 906 by decide), i907, lY_b]
    by_cases full : nI al ≤ (bst V (P * n ^ (r + 1)) b (i * n ^ r)).1
    · have e1 : bst V (P * n ^ (r + 1)) b (n ^ (r + 1)) = bst V (P * n ^ (r + 1)) b (i * n ^ r) := by
        have sp : n ^ (r + 1) = i * n ^ r + (n - i) * n ^ r := by rw [npw, ← Nat.add_mul, Nat.add_sub_cancel' (by omega)]
        rw [congrArg (bst V (P * n ^ (r + 1)) b) sp, bst_add, bst_st]
        intro t _ z
        rw [Int32.lt_iff_toInt_lt] at z
        rw [Int32.le_iff_toInt_le, nI_toInt (show al < 2 ^ 31 by omega)] at full
        rcases Vb (P * n ^ (r + 1) + i * n ^ r + t) with e | ⟨v, hv, e⟩
        · rw [e, show (-9 : Int32).toInt = -9 by decide] at z
          omega
        · rw [e, nI_toInt (by omega)] at z
          omega
      rw [e1] at q
      exact wif_y full (q F2 F3 F4 h3F hb)
    refine wif_n full ⟨tp, ?_⟩
    refine c_mayFollow (t := dig n k P (k - 1)) B0 N0 hI eD (by omega) hl (fun k0 => ⟨h3F _ (by omega), dig_lt n1⟩) (fun c => ?_) (fun c => ?_)
    · refine jn_i (fun X => ∃ F2 F3 F4, X = lY S p c2 c3 c4 F2 F3 F4 (bst V (P * n ^ (r + 1)) b ((i + 1) * n ^ r)).1 ∧ (∀ j, j < k → F3 j = nI (dig n k P j)) ∧ okb n (g * h) al (bst V (P * n ^ (r + 1)) b ((i + 1) * n ^ r)) F4) (fun X hX => hK _ _ hl ⟨nI_1 i, hX⟩) (fun J hJ => ?_)
      refine wif_n (by decide) ⟨tp, c3, r4, t3, by rw [l3]; exact vp_in_nI (by omega) (by omega), ?_⟩
      rw [nI_clamp (show k < 2 ^ 31 by omega), nm_eq, lY_s3 d34, nI_1]
      simp only [lY_T]
      refine ⟨tp, ?_⟩
      have e2 : bst V (P * n ^ (r + 1)) b ((i + 1) * n ^ r) = bst V ((P * n + i) * n ^ r) (bst V (P * n ^ (r + 1)) b (i * n ^ r)) (n ^ r) := by
        rw [Nat.succ_mul, bst_add]
        congr 1
        rw [Nat.add_mul, npw, Nat.mul_assoc]
      rw [e2] at hJ
      refine ih d (k + 1) (P * n + i) _ _ _ _ _ (by omega) (by omega) (fun j hj => ?_) (fun j hj => ?_) hb (fun F2 F3 F4 h3 hb => hJ _ ⟨F2, F3, F4, rfl, fun j hj => by rw [h3 j (by omega), dg_1 n1 hl hj], hb⟩)
      · show (if j = k then nI i else F3 j) = _
        by_cases e : j = k
        · rw [if_pos e, e, dg_2 hl]
        · rw [if_neg e, h3F j (by omega), dg_1 n1 hl (by omega)]
      · by_cases e : j = k
        · subst e
          by_cases z : j = 0
          · exact Or.inl (by rw [z]; exact Nat.zero_mod h)
          · rw [dg_2 hl, dg_1 n1 hl (by omega)]
            exact c
        · rw [dg_1 n1 hl (by omega), dg_1 n1 hl (by omega)]
          exact hw j (by omega)
    · have e2 : bst V (P * n ^ (r + 1)) b ((i + 1) * n ^ r) = bst V (P * n ^ (r + 1)) b (i * n ^ r) := by
        rw [Nat.succ_mul, bst_add, bst_st]
        intro t ht
        have ec : P * n ^ (r + 1) + i * n ^ r + t = (P * n + i) * n ^ r + t := by rw [Nat.add_mul, npw, Nat.mul_assoc]
        have k0 : ¬ k = 0 := fun e => c (Or.inl (by rw [e]; exact Nat.zero_mod h))
        have nw : ¬ wlk D h (dig n (g * h) ((P * n + i) * n ^ r + t)) (g * h) := fun z => by
          have z1 := z k (by omega)
          rw [show g * h = (k + 1) + r by omega, dg_3 n1 ht (by omega), dg_3 n1 ht (by omega), dg_2 hl, dg_1 n1 hl (by omega)] at z1
          exact c z1
        rw [ec, ← eV, vlu_n nw, eV]
        exact n9_nlt hb al3
      refine jn_i (fun X => ∃ F2 F3 F4, X = lY S p c2 c3 c4 F2 F3 F4 (bst V (P * n ^ (r + 1)) b ((i + 1) * n ^ r)).1 ∧ (∀ j, j < k → F3 j = nI (dig n k P j)) ∧ okb n (g * h) al (bst V (P * n ^ (r + 1)) b ((i + 1) * n ^ r)) F4) (fun X hX => hK _ _ hl ⟨nI_1 i, hX⟩) (fun J hJ => ?_)
      rw [e2] at hJ
      exact wif_y rfl (hJ _ ⟨F2, F3, F4, rfl, h3F, hb⟩)
end
