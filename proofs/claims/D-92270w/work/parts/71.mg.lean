set_option maxRecDepth 100000
theorem kT_b (v : Int32) : 8 ≤ kT v ∧ kT v ≤ 16 := by
  unfold kT
  split
  · decide
  · split <;> decide
theorem kP_b (v : Int32) : 8 ≤ kP v ∧ kP v ≤ 16 := by
  unfold kP
  split
  · decide
  · split <;> decide
theorem tx_tr {sg : Nat → Int32} {c : Nat} {S S' : xH} (e : ∀ a, 8 ≤ xT S a → xT S a ≤ 16 → eqc S S' a) : ∀ f i a, tx sg c S f i a → tx sg c S' f i a := by
  intro f
  induction f with
  | zero => intro i a h; exact h
  | succ f ih =>
    intro i a h
    rcases h with ⟨h0, h1, b1, b2, r1, r2, t1, t2⟩ | ⟨h0, h1, b1, b2, r1, r2, t1, t2⟩ | ⟨h0, h1, b1, r1, t1⟩ | ⟨h0, h1, i1, i2, q⟩ | ⟨h0, h1⟩
    · have q := e a (by rw [h1]; decide) (by rw [h1]; decide)
      exact Or.inl ⟨h0, q.1.trans h1, b1, b2, (q.2.2.2.1 400).trans r1, (q.2.2.2.1 401).trans r2, ih _ _ t1, ih _ _ t2⟩
    · have q := e a (by rw [h1]; decide) (by rw [h1]; decide)
      exact Or.inr (Or.inl ⟨h0, q.1.trans h1, b1, b2, (q.2.2.2.1 400).trans r1, (q.2.2.2.1 401).trans r2, ih _ _ t1, ih _ _ t2⟩)
    · have q := e a (by rw [h1]; decide) (by rw [h1]; decide)
      exact Or.inr (Or.inr (Or.inl ⟨h0, q.1.trans h1, b1, (q.2.2.2.1 500).trans r1, ih _ _ t1⟩))
    · have p := e a (by rw [h1]; exact (kT_b _).1) (by rw [h1]; exact (kT_b _).2)
      exact Or.inr (Or.inr (Or.inr (Or.inl ⟨h0, p.1.trans h1, (p.2.2.1 550 (by decide) (by decide)).trans i1, (p.2.2.1 551 (by decide) (by decide)).trans i2, q⟩)))
    · have q := e a (by rw [h1]; exact (kP_b _).1) (by rw [h1]; exact (kP_b _).2)
      exact Or.inr (Or.inr (Or.inr (Or.inr ⟨h0, q.1.trans h1⟩)))
theorem lw_tr {G : xG} {M : xM} {S S' : xH} {r : Option Nat} (h : lwP G M S r) (e : ∀ a, 8 ≤ xT S a → xT S a ≤ 16 → eqc S S' a) : lwP G M S' r := ⟨h.1, fun j h1 h2 => by
  obtain ⟨b, h3, h4⟩ := h.2 j h1 h2
  exact ⟨b, h3, tx_tr e _ _ _ h4⟩⟩
section
variable {G : xG} {M : xM} {S X : xH} {o p c0 c1 c2 c3 c4 g h : Nat}
/-- the rows of how far -/
theorem c_rows (h0 : Inv G S o M) (E : xE S X) (hp : xT S p = 0) (z1 : xT S c1 = 0) (z2 : xT S c2 = 0) (z3 : xT S c3 = 0) (z4 : xT S c4 = 0) (hg1 : 1 ≤ g) (hg : g ≤ 2) (hh1 : 1 ≤ h) (hh : h ≤ 3) (B : lyS X o p c0 c1 c2 c3 c4 g h (gN G 1) (tcn G M (gN G 5)) (nsm (tcn G M (gN G 5)) (gN G 1))) (hb : xI X 906 p = -9) {k n : Nat} (hk : 8 ≤ k) (hn : 64 ≤ n) {Q : xH → Prop} (q : ∀ S', xE S S' → lyF S' p (g * h) (gN G 1) (bst (vlu (tcn G M (gN G 5)) (dst (adj M)) (gN G 1) h g) 0 (-9, 0) (gN G 1 ^ (g * h))) → Q S') : lf4 (fun L_32 (x5_28 : Int32) (S_29 : xH) (k_30 : Nat) (n_31 : Nat) => xT S_29 o = 1 ∧ wif ((xI S_29 50 o) ≤ x5_28) (xT S_29 p = 18 ∧ w_X17_lay 8 S_29 p 0 (fun (S_34 : xH) => Q S_34)) (xT S_29 p = 18 ∧ xT S_29 o = 1 ∧ ∃ k_35 n_36, k_35 ≤ k_30 ∧ n_36 ≤ n_31 ∧ w_X0_farFrom k_35 n_36 S_29 o x5_28 (fun (r_37 : Option Nat) (S_38 : xH) => ∃ b_39, r_37 = some b_39 ∧ ∃ b_41, (xR S_29 903 p) = some b_41 ∧ xT S_38 b_41 = 110 ∧ vp_in x5_28 (xL S_38 b_41) ∧ xT S_38 b_39 = 101 ∧ nm (sQ S_38 b_41 (Int32.toNatClampNeg x5_28) (some b_39)) (fun S_43 : xH => L_32 (x5_28 + 1) S_43 (k_30 - k_35) (n_31 - n_36))))) 0 X k n := by
  have n1 := h0.O_n1
  refine lf4_u (gN G 1) (fun i x Y k n => x = nI i ∧ xE S Y ∧ lyS Y o p c0 c1 c2 c3 c4 g h (gN G 1) (tcn G M (gN G 5)) (nsm (tcn G M (gN G 5)) (gN G 1)) ∧ xI Y 906 p = -9 ∧ (∃ R, lyR Y c1 c2 c3 c4 R (dst (adj M)) i) ∧ gN G 1 ≤ k + i ∧ 8 * gN G 1 ≤ n + 8 * i) ?_ _ _ _ _ ⟨rfl, E, B, hb, ⟨fun _ => 0, fun u hu => absurd hu (Nat.not_lt_zero u)⟩, by omega, by omega⟩
  clear E B hb hk hn
  rintro P i x Y k n hi ⟨rfl, E, B, hb, ⟨R, hR⟩, hk, hn⟩ hP
  have gI := h0.ext E
  have B0 := B
  obtain ⟨⟨tp, tq, i50, i900, i901, i907⟩, ⟨r9, r2, r3, r8, r4, r5⟩, ⟨t0, l0, t1, l1, t2, l2, t3, l3, t4, l4⟩, ds, hT⟩ := B
  refine ⟨tq, ?_⟩
  rw [i50]
  by_cases ei : i = gN G 1
  · refine wif_y (by rw [ei]; exact Int32.le_refl _) ⟨tp, ?_⟩
    rw [ei] at hR
    exact c_lays h0 E hp z2 z3 z4 hg1 hg hh1 hh B0 hR hb q
  have hl : i < gN G 1 := by omega
  refine wif_n (nI_ge hl (by omega)) ⟨tp, tq, 1, 8, by omega, by omega, c_farFrom gI hl (Nat.le_refl _) (Nat.le_refl _) (fun a F ha hF => ?_)⟩
  have nea : ∀ x, xT Y x ≠ 0 → x ≠ a := fun x hx e => hx (by rw [e]; exact ha)
  have ec : ∀ x, xT Y x ≠ 0 → eqc Y (sB (sV Y a 101 8) a F) x := fun x hx => (eqc_sV (nea x hx)).trans (eqc_sB (nea x hx))
  have a101 : xT (sB (sV Y a 101 8) a F) a = 101 := by rw [xT_sB]; exact xT_nV
  have aL : xL (sB (sV Y a 101 8) a F) a = 8 := by rw [xL_sB]; exact xL_nV
  have aA : xA (sB (sV Y a 101 8) a F) a = F := by
    show va_up _ a F a = F
    unfold va_up
    rw [if_pos rfl]
  generalize sB (sV Y a 101 8) a F = Y1 at *
  have c1n : xT Y c1 ≠ 0 := by rw [t1]; decide
  have E1 := ec c1 c1n
  refine ⟨a, rfl, c1, r3, E1.1.trans t1, by rw [E1.2.1, l1]; exact vp_in_nI (by omega) (by decide), a101, ?_⟩
  rw [nI_clamp (show i < 2 ^ 31 by omega), nI_1]
  intro Z eZ
  have q5 : ∀ x, eq5 Y1 Z x := fun x => by rw [eZ]; exact ⟨rfl, rfl, fun _ _ _ => rfl, fun _ => rfl, rfl⟩
  have e5 : ∀ x, xT Y x ≠ 0 → eq5 Y Z x := fun x hx => ⟨(q5 x).1.trans (ec x hx).1, (q5 x).2.1.trans (ec x hx).2.1, fun f u v => ((q5 x).2.2.1 f u v).trans ((ec x hx).2.2.1 f u v), fun f => ((q5 x).2.2.2.1 f).trans ((ec x hx).2.2.2.1 f), (q5 x).2.2.2.2.trans (ec x hx).2.2.2.2.1⟩
  have EZ : xE S Z := by
    have EY : xE Y Y1 := ec
    rw [eZ]
    exact (E.trans EY).q z1
  have qz : ∀ u, xQ Z c1 u = if u = i then some a else xQ Y c1 u := fun u => by
    rw [eZ]
    show (if c1 = c1 ∧ u = i then some a else xQ Y1 c1 u) = _
    rw [E1.2.2.2.2.2]
    by_cases e : u = i
    · rw [if_pos ⟨rfl, e⟩, if_pos e]
    · rw [if_neg (fun z => e z.2), if_neg e]
  refine hP _ _ _ _ hl ⟨rfl, EZ, B0.tr e5, ((e5 p (by rw [tp]; decide)).2.2.1 906 (by decide) (by decide)).trans hb, ⟨fun u => if u = i then a else R u, fun u hu => ?_⟩, by omega, by omega⟩
  by_cases e : u = i
  · simp only [e, if_true]
    have r := qz i
    rw [if_pos rfl] at r
    refine ⟨r, (q5 a).1.trans a101, (q5 a).2.1.trans aL, (nea c2 (by rw [t2]; decide)).symm, (nea c3 (by rw [t3]; decide)).symm, (nea c4 (by rw [t4]; decide)).symm, fun b hb => ?_⟩
    rw [(q5 a).2.2.2.2, aA, hF b hb, fD]
    by_cases w : dst (adj M) i b < 100
    · rw [if_pos w]; exact Or.inr rfl
    · rw [if_neg w]; exact Or.inl ⟨rfl, by omega⟩
  · simp only [e, if_false]
    have r := qz u
    rw [if_neg e] at r
    obtain ⟨rq, rt, rl, ra2, ra3, ra4, rv⟩ := hR u (by omega)
    have e6 := e5 (R u) (by rw [rt]; decide)
    exact ⟨r.trans rq, e6.1.trans rt, e6.2.1.trans rl, ra2, ra3, ra4, fun b hb => by rw [e6.2.2.2.2]; exact rv b hb⟩
end
section
variable {G : xG} {M : xM} {S X : xH} {o p c0 c1 c2 c3 c4 g h : Nat}
theorem pl_st (h0 : Inv G S o M) {i s : Nat} (hi : i < gN G 5) (hs : s < 8) (e : M2 M 8 (40 * gN G 4 + i) = nI s) : s < gN G 1 := by
  have n9 := h0.O_n9
  rcases h0.M_pl hi (gN G 4) (Nat.le_refl _) with z | ⟨j, hj, z⟩ | ⟨j, hj, z⟩
  · rw [e] at z
    exact (vi (by omega)).mp z
  · rw [e] at z
    have := (nI_eq (by omega) (by omega)).mp z
    omega
  · rw [e] at z
    have := (nI_eq (by omega) (by omega)).mp z
    omega
/-- the men in the streets that may truly be taken, then the rows, then lay -/
theorem c_men (h0 : Inv G S o M) (E : xE S X) (hp : xT S p = 0) (z0 : xT S c0 = 0) (z1 : xT S c1 = 0) (z2 : xT S c2 = 0) (z3 : xT S c3 = 0) (z4 : xT S c4 = 0) (hg1 : 1 ≤ g) (hg : g ≤ 2) (hh1 : 1 ≤ h) (hh : h ≤ 3) (B : lyS X o p c0 c1 c2 c3 c4 g h (gN G 1) (fun _ => 0) 0) (hb : xI X 906 p = -9) {r_22 : Option Nat} (hr : lwP G M X r_22) {k n : Nat} (hk : 8 ≤ k) (hn : 64 ≤ n) {Q : xH → Prop} (q : ∀ S', xE S S' → lyF S' p (g * h) (gN G 1) (bst (vlu (tcn G M (gN G 5)) (dst (adj M)) (gN G 1) h g) 0 (-9, 0) (gN G 1 ^ (g * h))) → Q S') : lf2 (fun L_26 (x5_24 : Int32) (S_25 : xH) => xT S_25 o = 1 ∧ wif ((xI S_25 53 o) ≤ x5_24) (lf4 (fun L_32 (x5_28 : Int32) (S_29 : xH) (k_30 : Nat) (n_31 : Nat) => xT S_29 o = 1 ∧ wif ((xI S_29 50 o) ≤ x5_28) (xT S_29 p = 18 ∧ w_X17_lay 8 S_29 p 0 (fun (S_34 : xH) => Q S_34)) (xT S_29 p = 18 ∧ xT S_29 o = 1 ∧ ∃ k_35 n_36, k_35 ≤ k_30 ∧ n_36 ≤ n_31 ∧ w_X0_farFrom k_35 n_36 S_29 o x5_28 (fun (r_37 : Option Nat) (S_38 : xH) => ∃ b_39, r_37 = some b_39 ∧ ∃ b_41, (xR S_29 903 p) = some b_41 ∧ xT S_38 b_41 = 110 ∧ vp_in x5_28 (xL S_38 b_41) ∧ xT S_38 b_39 = 101 ∧ nm (sQ S_38 b_41 (Int32.toNatClampNeg x5_28) (some b_39)) (fun S_43 : xH => L_32 (x5_28 + 1) S_43 (k_30 - k_35) (n_31 - n_36))))) 0 S_25 k n) (xT S_25 o = 1 ∧ ∃ b_44, (xR S_25 52 o) = some b_44 ∧ xT S_25 b_44 = 103 ∧ vp_in x5_24 (xL S_25 b_44) ∧ ∃ b_46, (xQ S_25 b_44 (Int32.toNatClampNeg x5_24)) = some b_46 ∧ xT S_25 b_46 = 3 ∧ w_X2_place S_25 b_46 (fun (r_48 : Int32) => jn (fun (v0_50 : Int32) => jn (fun (S_52 : xH) => L_26 (x5_24 + 1) S_52) (fun J_53 => wif (v0_50 = 0) (J_53 S_25) (xT S_25 p = 18 ∧ xT S_25 o = 1 ∧ ∃ b_55, (xR S_25 52 o) = some b_55 ∧ xT S_25 b_55 = 103 ∧ vp_in x5_24 (xL S_25 b_55) ∧ ∃ b_57, (xQ S_25 b_55 (Int32.toNatClampNeg x5_24)) = some b_57 ∧ xT S_25 b_57 = 3 ∧ w_X2_place S_25 b_57 (fun (r_59 : Int32) => ∃ b_61, (xR S_25 902 p) = some b_61 ∧ xT S_25 b_61 = 101 ∧ vp_in r_59 (xL S_25 b_61) ∧ xT S_25 b_61 = 101 ∧ vp_in r_59 (xL S_25 b_61) ∧ nm (sA S_25 b_61 (Int32.toNatClampNeg r_59) ((xA S_25 b_61 (Int32.toNatClampNeg r_59)) + 1)) (fun S_63 : xH => xT S_63 p = 18 ∧ xT S_63 p = 18 ∧ nm (sI S_63 907 p ((xI S_63 907 p) + 1)) (fun S_64 : xH => J_53 S_64)))))) (fun J_51 => jn0 (J_51 0) (fun J_65 => wif (10 ≤ r_48) (J_65) (xT S_25 o = 1 ∧ ∃ b_67, (xR S_25 52 o) = some b_67 ∧ xT S_25 b_67 = 103 ∧ vp_in x5_24 (xL S_25 b_67) ∧ xT S_25 o = 1 ∧ ∃ b_69, (xR S_25 52 o) = some b_69 ∧ xT S_25 b_69 = 103 ∧ vp_in x5_24 (xL S_25 b_69) ∧ ∃ b_71, (xQ S_25 b_69 (Int32.toNatClampNeg x5_24)) = some b_71 ∧ xT S_25 o = 1 ∧ w_X0_isCoveredTruly S_25 o b_71 (fun (r_73 : Int32) => ∃ b_75, (xQ S_25 b_67 (Int32.toNatClampNeg x5_24)) = some b_75 ∧ w_X0_mayBe S_25 r_22 b_75 r_73 (fun (r_77 : Int32) => wif (r_77 = 0) (J_65) (J_51 1))))))))) 0 X := by
  have n1 := h0.O_n1
  have n5 := h0.O_n5
  have n9 := h0.O_n9
  refine lf2_u (gN G 5) (fun i x Y => x = nI i ∧ xE S Y ∧ lyS Y o p c0 c1 c2 c3 c4 g h (gN G 1) (tcn G M i) (nsm (tcn G M i) (gN G 1)) ∧ xI Y 906 p = -9 ∧ lwP G M Y r_22) ?_ _ _ ⟨rfl, E, B.cg (fun s _ => by rw [tcn]) (by rw [nsm_cg (g := fun _ => 0) _ (fun s _ => by rw [tcn]), nsm_z]), hb, hr⟩
  clear E B hb hr
  rintro P i x Y hi ⟨rfl, E, B, hb, hr⟩ hP
  have gI := h0.ext E
  have B0 := B
  obtain ⟨⟨tp, tq, i50, i900, i901, i907⟩, ⟨r9, r2, r3, r8, r4, r5⟩, ⟨t0, l0, t1, l1, t2, l2, t3, l3, t4, l4⟩, ds, hT⟩ := B
  refine ⟨tq, ?_⟩
  rw [gI.O_c53]
  by_cases ei : i = gN G 5
  · rw [ei] at B0 ⊢
    exact wif_y (Int32.le_refl _) (c_rows h0 E hp z1 z2 z3 z4 hg1 hg hh1 hh B0 hb hk hn q)
  have hl : i < gN G 5 := by omega
  have v40 : vp_in (nI i) (xL Y (gA G 0 52)) := by rw [gI.R_l52]; exact vp_in_nI (by omega) (by decide)
  have mq : xQ Y (gA G 0 52) (nI i).toNatClampNeg = some (gA G 2 i) := by rw [nI_clamp (by omega)]; exact gI.M_q hl
  refine wif_n (nI_ge hl (by omega)) ⟨tq, gA G 0 52, gI.R_r52, gI.R_t52, v40, gA G 2 i, mq, gI.M_T hl, ?_⟩
  rw [c_place gI hl]
  have pv0 := gI.M_pl hl (gN G 4) (Nat.le_refl _)
  refine jn_i (fun v => (v = 1 ∧ vp_in (M2 M 8 (40 * gN G 4 + i)) (gN G 1) ∧ trm G M i = true) ∨ (v = 0 ∧ ¬ (vp_in (M2 M 8 (40 * gN G 4 + i)) (gN G 1) ∧ trm G M i = true))) (fun v hv => ?_) (fun J hJ => ?_)
  · refine jn_i (fun Z => xE S Z ∧ lyS Z o p c0 c1 c2 c3 c4 g h (gN G 1) (tcn G M (i + 1)) (nsm (tcn G M (i + 1)) (gN G 1)) ∧ xI Z 906 p = -9 ∧ lwP G M Z r_22) (fun Z hZ => hP _ _ hl ⟨nI_1 i, hZ⟩) (fun J hJ => ?_)
    rcases hv with ⟨rfl, c, ct⟩ | ⟨rfl, c⟩
    · refine wif_n (by decide) ⟨tp, tq, gA G 0 52, gI.R_r52, gI.R_t52, v40, gA G 2 i, mq, gI.M_T hl, ?_⟩
      rw [c_place gI hl]
      obtain ⟨hs, es⟩ := vi_c c
      generalize Int32.toNatClampNeg (M2 M 8 (40 * gN G 4 + i)) = s at *
      rw [← es]
      have v8 : vp_in (nI s) (xL Y c0) := by rw [l0]; exact vp_in_nI (by omega) (by decide)
      refine ⟨c0, r2, t0, v8, t0, v8, ?_⟩
      rw [hT s (by omega)]
      intro Z1 e1
      have tp1 : xT Z1 p = 18 := by rw [e1]; exact tp
      have i1 : xI Z1 907 p = nI (nsm (tcn G M i) (gN G 1)) := by rw [e1, xI_sA]; exact i907
      refine ⟨tp1, tp1, ?_⟩
      rw [i1]
      intro Z e2
      have eT : ∀ u, (if u = s then tcn G M i u + 1 else tcn G M i u) = tcn G M (i + 1) u ∨ ¬ u < 8 := fun u => by
        by_cases hu : u < 8
        · left
          by_cases e : u = s
          · rw [if_pos e, e, tcn_y ⟨es.symm, ct⟩]
          · rw [if_neg e, tcn_n (fun z => e ((nI_eq (by omega) (by omega)).mp (z.1.symm.trans es.symm)))]
        · exact Or.inr hu
      have eT' : ∀ u, u < 8 → (if u = s then tcn G M i u + 1 else tcn G M i u) = tcn G M (i + 1) u := fun u hu => (eT u).resolve_right (fun z => z hu)
      have EZ : xE S Z := by rw [e2, e1]; exact (E.a z0).i hp
      refine hJ _ ⟨EZ, ?_, ?_, ?_⟩
      · rw [e2, e1]
        exact (B0.up (s := s)).cg eT' (by rw [← nsm_in (gN G 1) hs]; exact nsm_cg _ (fun u hu => eT' u (by omega)))
      · rw [e2, e1, xI_nf _ _ (by decide), xI_sA]; exact hb
      · exact lw_tr hr (fun x x1 x2 => by
          rw [e2, e1]
          exact (eqc_sA (fun z => by rw [z, t0] at x2; omega)).trans (eqc_sI (fun z => by rw [z, tp] at x2; omega)))
    · refine wif_y rfl (hJ _ ⟨E, B0.cg (fun s hs => ?_) (nsm_cg _ (fun s hs => ?_)), hb, hr⟩)
      · exact (tcn_n (fun z => c ⟨by rw [z.1]; exact vp_in_nI (pl_st h0 hl hs z.1) (by omega), z.2⟩)).symm
      · exact (tcn_n (fun z => c ⟨by rw [z.1]; exact vp_in_nI hs (by omega), z.2⟩)).symm
  · refine jn0_c (¬ (vp_in (M2 M 8 (40 * gN G 4 + i)) (gN G 1) ∧ trm G M i = true)) (fun c => hJ 0 (Or.inr ⟨rfl, c⟩)) (fun K hK => ?_)
    have far : ∀ j, j < 14 → M2 M 8 (40 * gN G 4 + i) = nI (10 + j) → wif (10 ≤ M2 M 8 (40 * gN G 4 + i)) K (xT Y o = 1 ∧ ∃ b_67, (xR Y 52 o) = some b_67 ∧ xT Y b_67 = 103 ∧ vp_in (nI i) (xL Y b_67) ∧ xT Y o = 1 ∧ ∃ b_69, (xR Y 52 o) = some b_69 ∧ xT Y b_69 = 103 ∧ vp_in (nI i) (xL Y b_69) ∧ ∃ b_71, (xQ Y b_69 (Int32.toNatClampNeg (nI i))) = some b_71 ∧ xT Y o = 1 ∧ w_X0_isCoveredTruly Y o b_71 (fun (r_73 : Int32) => ∃ b_75, (xQ Y b_67 (Int32.toNatClampNeg (nI i))) = some b_75 ∧ w_X0_mayBe Y r_22 b_75 r_73 (fun (r_77 : Int32) => wif (r_77 = 0) K (J 1)))) := fun j hj e => by
      refine wif_y (by rw [e]; exact (kle_10 (by omega)).mpr (by omega)) (hK (fun z => ?_))
      have := z.1
      rw [e] at this
      have := (vi (by omega)).mp this
      omega
    rcases pv0 with z | ⟨j, hj, z⟩ | ⟨j, hj, z⟩
    · obtain ⟨hs, es⟩ := vi_c z
      refine wif_n (by rw [← es]; intro w; have := (kle_10 (by omega)).mp w; omega) ⟨tq, gA G 0 52, gI.R_r52, gI.R_t52, v40, tq, gA G 0 52, gI.R_r52, gI.R_t52, v40, gA G 2 i, mq, tq, c_ict gI hl ⟨gA G 2 i, mq, c_mayBe gI hl hr ?_⟩⟩
      by_cases ct : trm G M i = true
      · have ct' : mb M (gN G 17) (gN G 4) i (trv M (gN G 4) i (gN G 15)) = true := ct
        rw [ct']
        exact wif_n (by decide) (hJ 1 (Or.inl ⟨rfl, z, ct⟩))
      · have ct' : mb M (gN G 17) (gN G 4) i (trv M (gN G 4) i (gN G 15)) = false := eq_false_of_ne_true ct
        rw [ct']
        exact wif_y rfl (hK (fun w => ct w.2))
    · exact far j (by omega) z
    · exact far (10 + j) (by omega) (by rw [z]; congr 1; omega)
end
