set_option maxRecDepth 100000
/-! ===== papers ===== -/
theorem or_wif {a b X Y : Prop} : wif a X (wif b X Y) = wif (a ∨ b) X Y := by
  by_cases ha : a
  · exact propext ⟨fun h => wif_y (Or.inl ha) (h.1 ha), fun h => wif_y ha (h.1 (Or.inl ha))⟩
  · by_cases hb : b
    · exact propext ⟨fun h => wif_y (Or.inr hb) ((h.2 ha).1 hb), fun h => wif_n ha (wif_y hb (h.1 (Or.inr hb)))⟩
    · exact propext ⟨fun h => wif_n (fun q => q.elim ha hb) ((h.2 ha).2 hb), fun h => wif_n ha (wif_n hb (h.2 (fun q => q.elim ha hb)))⟩
theorem wif_or {a b X Y : Prop} : wif a X (wif b X Y) = wif (a ∨ b) X Y := or_wif
/-- a paper fits a man at a tide; it is sure -/
def cvF (M : xM) (p m : Nat) (t : Int32) : Prop := (M2 M 16 (9 * p + 1) = -9 ∨ M2 M 16 (9 * p + 1) = M2 M 6 (8 * m + 1)) ∧ (M2 M 16 (9 * p + 2) = -9 ∨ M2 M 16 (9 * p + 2) = M2 M 6 (8 * m + 2)) ∧ rg (M2 M 6 (8 * m)) (M2 M 16 (9 * p + 3)) (M2 M 16 (9 * p + 4)) = true ∧ rg (M2 M 6 (8 * m + 3)) (M2 M 16 (9 * p + 5)) (M2 M 16 (9 * p + 6)) = true ∧ rg t (M2 M 16 (9 * p + 7)) (M2 M 16 (9 * p + 8)) = true
def cvS (M : xM) (p : Nat) : Prop := ¬ M2 M 16 (9 * p + 1) = -9 ∧ ¬ M2 M 16 (9 * p + 2) = -9 ∧ ¬ 5 < M2 M 16 (9 * p + 4) - M2 M 16 (9 * p + 3) ∧ ¬ 2 < M2 M 16 (9 * p + 6) - M2 M 16 (9 * p + 5)
/-- what a paper says: v -/
def cov (M : xM) (p m : Nat) (t v : Int32) : Prop := (¬ cvF M p m t ∧ v = 0) ∨ (cvF M p m t ∧ ¬ cvS M p ∧ v = 1) ∨ (cvF M p m t ∧ cvS M p ∧ v = 2)
theorem cov_ex (M : xM) (p m : Nat) (t : Int32) : ∃ v, cov M p m t v := by
  by_cases h1 : cvF M p m t
  · by_cases h2 : cvS M p
    · exact ⟨2, Or.inr (Or.inr ⟨h1, h2, rfl⟩)⟩
    · exact ⟨1, Or.inr (Or.inl ⟨h1, h2, rfl⟩)⟩
  · exact ⟨0, Or.inl ⟨h1, rfl⟩⟩
theorem cov_pos {M : xM} {p m : Nat} {t v : Int32} (h : cov M p m t v) : v ≤ 0 ↔ ¬ cvF M p m t := by
  rcases h with ⟨h1, rfl⟩ | ⟨h1, _, rfl⟩ | ⟨h1, _, rfl⟩
  · exact ⟨fun _ => h1, fun _ => by decide⟩
  · exact ⟨fun q => absurd q (by decide), fun q => absurd h1 q⟩
  · exact ⟨fun q => absurd q (by decide), fun q => absurd h1 q⟩
section
variable {G : xG} {S : xH} {o : Nat} {M : xM} {t : Int32} {Q : Int32 → Prop} {p m : Nat}
theorem e2a : (2 : Int32) * 0 = 0 := by decide
theorem e2b : (2 : Int32) * 0 + 1 = 1 := by decide
theorem e2c : (2 : Int32) * 1 = 2 := by decide
theorem e2d : (2 : Int32) * 1 + 1 = 3 := by decide
theorem e2e : (2 : Int32) * 2 = 4 := by decide
theorem e2f : (2 : Int32) * 2 + 1 = 5 := by decide
theorem c_spans0 (h : Inv G S o M) (hp : p < gN G 15) : w_X4_spans S (gA G 4 p) 0 t Q = Q (zI (rg t (M2 M 16 (9 * p + 3)) (M2 M 16 (9 * p + 4)))) := by
  simp only [w_X4_spans, h.P_T hp, h.P_sp hp, h.P_sT hp, h.P_sL hp, e2a, e2b, show (0 : Int32) + 1 = 1 from rfl, vz0 (show 0 < 6 by decide) (by decide), vz1 (show 1 < 6 by decide) (by decide), tc0, tc1, h.P_sv hp 0 (by decide), h.P_sv hp 1 (by decide), Nat.add_zero, wif_T, wif_F, nm_eq, jn_eq, jn0_eq, jn2_eq, jn3_eq, jn4_eq, zI_t, zI_f, zI0, x_B_zI, x_B_0, x_B_1, isIn_eq, in_eq, Bool.true_eq_false, Bool.false_eq_true, eq_self, true_and, and_true, Option.some.injEq, exists_eq_left', exists_eq_left, reduceCtorEq, not_true_eq_false, not_false_eq_true, one_ne, if_true, if_false]
theorem c_spans1 (h : Inv G S o M) (hp : p < gN G 15) : w_X4_spans S (gA G 4 p) 1 t Q = Q (zI (rg t (M2 M 16 (9 * p + 5)) (M2 M 16 (9 * p + 6)))) := by
  simp only [w_X4_spans, h.P_T hp, h.P_sp hp, h.P_sT hp, h.P_sL hp, e2c, e2d, show (2 : Int32) + 1 = 3 from rfl, vz2 (show 2 < 6 by decide) (by decide), vz3 (show 3 < 6 by decide) (by decide), tc2, tc3, h.P_sv hp 2 (by decide), h.P_sv hp 3 (by decide), wif_T, wif_F, nm_eq, jn_eq, jn0_eq, jn2_eq, jn3_eq, jn4_eq, zI_t, zI_f, zI0, x_B_zI, x_B_0, x_B_1, isIn_eq, in_eq, Bool.true_eq_false, Bool.false_eq_true, eq_self, true_and, and_true, Option.some.injEq, exists_eq_left', exists_eq_left, reduceCtorEq, not_true_eq_false, not_false_eq_true, one_ne, if_true, if_false]
theorem c_spans2 (h : Inv G S o M) (hp : p < gN G 15) : w_X4_spans S (gA G 4 p) 2 t Q = Q (zI (rg t (M2 M 16 (9 * p + 7)) (M2 M 16 (9 * p + 8)))) := by
  simp only [w_X4_spans, h.P_T hp, h.P_sp hp, h.P_sT hp, h.P_sL hp, e2e, e2f, show (4 : Int32) + 1 = 5 from rfl, vz4 (show 4 < 6 by decide) (by decide), vz5 (show 5 < 6 by decide) (by decide), tc4, tc5, h.P_sv hp 4 (by decide), h.P_sv hp 5 (by decide), wif_T, wif_F, nm_eq, jn_eq, jn0_eq, jn2_eq, jn3_eq, jn4_eq, zI_t, zI_f, zI0, x_B_zI, x_B_0, x_B_1, isIn_eq, in_eq, Bool.true_eq_false, Bool.false_eq_true, eq_self, true_and, and_true, Option.some.injEq, exists_eq_left', exists_eq_left, reduceCtorEq, not_true_eq_false, not_false_eq_true, one_ne, if_true, if_false]
theorem c_narrow0 (h : Inv G S o M) (hp : p < gN G 15) : w_X4_isNarrow S (gA G 4 p) 0 t Q = wif (t < M2 M 16 (9 * p + 4) - M2 M 16 (9 * p + 3)) (Q 0) (Q 1) := by
  simp only [w_X4_isNarrow, h.P_T hp, h.P_sp hp, h.P_sT hp, h.P_sL hp, e2a, e2b, show (0 : Int32) + 1 = 1 from rfl, vz0 (show 0 < 6 by decide) (by decide), vz1 (show 1 < 6 by decide) (by decide), tc0, tc1, h.P_sv hp 0 (by decide), h.P_sv hp 1 (by decide), Nat.add_zero, wif_T, wif_F, nm_eq, jn_eq, jn0_eq, jn2_eq, jn3_eq, jn4_eq, zI_t, zI_f, zI0, x_B_zI, x_B_0, x_B_1, isIn_eq, in_eq, Bool.true_eq_false, Bool.false_eq_true, eq_self, true_and, and_true, Option.some.injEq, exists_eq_left', exists_eq_left, reduceCtorEq, not_true_eq_false, not_false_eq_true, one_ne, if_true, if_false]
theorem c_narrow1 (h : Inv G S o M) (hp : p < gN G 15) : w_X4_isNarrow S (gA G 4 p) 1 t Q = wif (t < M2 M 16 (9 * p + 6) - M2 M 16 (9 * p + 5)) (Q 0) (Q 1) := by
  simp only [w_X4_isNarrow, h.P_T hp, h.P_sp hp, h.P_sT hp, h.P_sL hp, e2c, e2d, show (2 : Int32) + 1 = 3 from rfl, vz2 (show 2 < 6 by decide) (by decide), vz3 (show 3 < 6 by decide) (by decide), tc2, tc3, h.P_sv hp 2 (by decide), h.P_sv hp 3 (by decide), wif_T, wif_F, nm_eq, jn_eq, jn0_eq, jn2_eq, jn3_eq, jn4_eq, zI_t, zI_f, zI0, x_B_zI, x_B_0, x_B_1, isIn_eq, in_eq, Bool.true_eq_false, Bool.false_eq_true, eq_self, true_and, and_true, Option.some.injEq, exists_eq_left', exists_eq_left, reduceCtorEq, not_true_eq_false, not_false_eq_true, one_ne, if_true, if_false]
theorem c_covers (h : Inv G S o M) (hp : p < gN G 15) (hm : m < gN G 5) (hQ : ∀ v, cov M p m t v → Q v) : w_X4_covers S (gA G 4 p) (gA G 2 m) t Q := by
  have fin : ∀ v w : Int32, (v = 0 ↔ ¬ cvF M p m t) → (w = 0 ↔ ¬ cvS M p) → wif (v = 0) (Q 0) (wif (w = 0) (Q 1) (Q 2)) := by
    intro v w hv hw
    by_cases c1 : cvF M p m t
    · refine wif_n (fun q => hv.mp q c1) ?_
      by_cases c2 : cvS M p
      · exact wif_n (fun q => hw.mp q c2) (hQ 2 (Or.inr (Or.inr ⟨c1, c2, rfl⟩)))
      · exact wif_y (hw.mpr c2) (hQ 1 (Or.inr (Or.inl ⟨c1, c2, rfl⟩)))
    · exact wif_y (hv.mpr c1) (hQ 0 (Or.inl ⟨c1, rfl⟩))
  unfold w_X4_covers
  simp only [h.P_T hp, h.P_ha hp, h.P_sc hp, h.M_T hm, h.M_ab hm, h.M_aT hm, h.M_aL hm, vz0 (show 0 < 7 by decide) (by decide), vz1 (show 1 < 7 by decide) (by decide), vz2 (show 2 < 7 by decide) (by decide), vz3 (show 3 < 7 by decide) (by decide), tc0, tc1, tc2, tc3, h.M_av hm 0 (by decide), h.M_av hm 1 (by decide), h.M_av hm 2 (by decide), h.M_av hm 3 (by decide), Nat.add_zero, c_spans0 h hp, c_spans1 h hp, c_spans2 h hp, c_narrow0 h hp, c_narrow1 h hp, true_and, exists_eq_left', Option.some.injEq, zI0]
  refine jn_i (fun v => v = 0 ↔ ¬ cvF M p m t) (fun v hv => ?_) (fun J hJ => ?_)
  · refine jn_i (fun w => w = 0 ↔ ¬ cvS M p) (fun w hw => fin v w hv hw) (fun J hJ => ?_)
    refine jn0_c (¬ cvS M p) (fun c => hJ 0 ⟨fun _ => c, fun _ => rfl⟩) (fun K hK => ?_)
    by_cases q1 : M2 M 16 (9 * p + 1) = -9
    · exact wif_y q1 (hK (fun c => c.1 q1))
    refine wif_n q1 ?_
    by_cases q2 : M2 M 16 (9 * p + 2) = -9
    · exact wif_y q2 (hK (fun c => c.2.1 q2))
    refine wif_n q2 ?_
    by_cases q3 : 5 < M2 M 16 (9 * p + 4) - M2 M 16 (9 * p + 3)
    · exact wif_y q3 (wif_y (by simp) (hK (fun c => c.2.2.1 q3)))
    refine wif_n q3 (wif_n (by decide) ?_)
    by_cases q4 : 2 < M2 M 16 (9 * p + 6) - M2 M 16 (9 * p + 5)
    · exact wif_y q4 (wif_y (by simp) (hK (fun c => c.2.2.2 q4)))
    exact wif_n q4 (wif_n (by decide) (hJ 1 ⟨fun q => absurd q (by decide), fun q => absurd ⟨q1, q2, q3, q4⟩ q⟩))
  · refine jn0_c (¬ cvF M p m t) (fun c => hJ 0 ⟨fun _ => c, fun _ => rfl⟩) (fun K hK => ?_)
    simp only [jn0_eq, or_wif]
    by_cases q1 : M2 M 16 (9 * p + 1) = -9 ∨ M2 M 16 (9 * p + 1) = M2 M 6 (8 * m + 1)
    · refine wif_y q1 ?_
      by_cases q2 : M2 M 16 (9 * p + 2) = -9 ∨ M2 M 16 (9 * p + 2) = M2 M 6 (8 * m + 2)
      · refine wif_y q2 ?_
        by_cases q3 : rg (M2 M 6 (8 * m)) (M2 M 16 (9 * p + 3)) (M2 M 16 (9 * p + 4)) = true ∧ rg (M2 M 6 (8 * m + 3)) (M2 M 16 (9 * p + 5)) (M2 M 16 (9 * p + 6)) = true ∧ rg t (M2 M 16 (9 * p + 7)) (M2 M 16 (9 * p + 8)) = true
        · exact wif_n (by simp [q3]) (hJ 1 ⟨fun q => absurd q (by decide), fun q => absurd ⟨q1, q2, q3.1, q3.2.1, q3.2.2⟩ q⟩)
        · refine wif_y ?_ (hK (fun c => q3 c.2.2))
          revert q3
          cases rg (M2 M 6 (8 * m)) (M2 M 16 (9 * p + 3)) (M2 M 16 (9 * p + 4)) <;> cases rg (M2 M 6 (8 * m + 3)) (M2 M 16 (9 * p + 5)) (M2 M 16 (9 * p + 6)) <;> cases rg t (M2 M 16 (9 * p + 7)) (M2 M 16 (9 * p + 8)) <;> simp
      · exact wif_n q2 (hK (fun c => q2 c.2.1))
    · exact wif_n q1 (hK (fun c => q1 c.1))
theorem m_covers (n15 : p < 60) (n5 : m < 40) (hQ : ∀ v, cov M p m t v → Q v) : w_X1_covers M (nI p) (nI m) t Q := by
  have fin : ∀ v w : Int32, (v = 0 ↔ ¬ cvF M p m t) → (w = 0 ↔ ¬ cvS M p) → wif (v = 0) (Q 0) (wif (w = 0) (Q 1) (Q 2)) := by
    intro v w hv hw
    by_cases c1 : cvF M p m t
    · refine wif_n (fun q => hv.mp q c1) ?_
      by_cases c2 : cvS M p
      · exact wif_n (fun q => hw.mp q c2) (hQ 2 (Or.inr (Or.inr ⟨c1, c2, rfl⟩)))
      · exact wif_y (hw.mpr c2) (hQ 1 (Or.inr (Or.inl ⟨c1, c2, rfl⟩)))
    · exact wif_y (hv.mpr c1) (hQ 0 (Or.inl ⟨c1, rfl⟩))
  have P : ∀ j, j < 9 → vp_in (nI (9 * p + j)) 540 ∧ (nI (9 * p + j)).toNatClampNeg = 9 * p + j := fun j hj => ⟨vp_in_nI (by omega) (by decide), nI_clamp (by omega)⟩
  have R : ∀ j, j < 8 → vp_in (nI (8 * m + j)) 320 ∧ (nI (8 * m + j)).toNatClampNeg = 8 * m + j := fun j hj => ⟨vp_in_nI (by omega) (by decide), nI_clamp (by omega)⟩
  have R0 : vp_in (nI (8 * m)) 320 ∧ (nI (8 * m)).toNatClampNeg = 8 * m := R 0 (by decide)
  unfold w_X1_covers
  simp only [nm_eq, im9, im8, nI_1, ia2, ia3, ia4, ia5, ia6, ia7, ia8, P 1 (by decide), P 2 (by decide), P 3 (by decide), P 4 (by decide), P 5 (by decide), P 6 (by decide), P 7 (by decide), P 8 (by decide), R 1 (by decide), R 2 (by decide), R 3 (by decide), R0, in_eq, zI0, true_and]
  refine jn_i (fun v => v = 0 ↔ ¬ ((M2 M 16 (9 * p + 1) = -9 ∨ M2 M 16 (9 * p + 1) = M2 M 6 (8 * m + 1)) ∧ (M2 M 16 (9 * p + 2) = -9 ∨ M2 M 16 (9 * p + 2) = M2 M 6 (8 * m + 2)))) (fun u hu => ?_) (fun J hJ => ?_)
  · refine jn_i (fun v => v = 0 ↔ ¬ cvF M p m t) (fun v hv => ?_) (fun J hJ => ?_)
    · refine jn_i (fun w => w = 0 ↔ ¬ cvS M p) (fun w hw => fin v w hv hw) (fun J hJ => ?_)
      refine jn0_c (¬ cvS M p) (fun c => hJ 0 ⟨fun _ => c, fun _ => rfl⟩) (fun K hK => ?_)
      by_cases q1 : M2 M 16 (9 * p + 1) = -9
      · exact wif_y q1 (hK (fun c => c.1 q1))
      refine wif_n q1 ?_
      by_cases q2 : M2 M 16 (9 * p + 2) = -9
      · exact wif_y q2 (hK (fun c => c.2.1 q2))
      refine wif_n q2 ?_
      by_cases q3 : 5 < M2 M 16 (9 * p + 4) - M2 M 16 (9 * p + 3)
      · exact wif_y q3 (hK (fun c => c.2.2.1 q3))
      refine wif_n q3 ?_
      by_cases q4 : 2 < M2 M 16 (9 * p + 6) - M2 M 16 (9 * p + 5)
      · exact wif_y q4 (hK (fun c => c.2.2.2 q4))
      exact wif_n q4 (hJ 1 ⟨fun q => absurd q (by decide), fun q => absurd ⟨q1, q2, q3, q4⟩ q⟩)
    · refine jn0_c (¬ cvF M p m t) (fun c => hJ 0 ⟨fun _ => c, fun _ => rfl⟩) (fun K hK => ?_)
      by_cases q0 : u = 0
      · exact wif_y q0 (hK (fun c => hu.mp q0 ⟨c.1, c.2.1⟩))
      refine wif_n q0 ?_
      have q12 := Classical.not_not.mp (fun q => q0 (hu.mpr q))
      by_cases q5 : rg t (M2 M 16 (9 * p + 7)) (M2 M 16 (9 * p + 8)) = true
      · refine wif_n (by rw [q5]; decide) ?_
        by_cases q3 : rg (M2 M 6 (8 * m)) (M2 M 16 (9 * p + 3)) (M2 M 16 (9 * p + 4)) = true
        · refine wif_n (by rw [q3]; decide) ?_
          by_cases q4 : rg (M2 M 6 (8 * m + 3)) (M2 M 16 (9 * p + 5)) (M2 M 16 (9 * p + 6)) = true
          · exact wif_n (by rw [q4]; decide) (hJ 1 ⟨fun q => absurd q (by decide), fun q => absurd ⟨q12.1, q12.2, q3, q4, q5⟩ q⟩)
          · exact wif_y (by simpa using q4) (hK (fun c => q4 c.2.2.2.1))
        · exact wif_y (by simpa using q3) (hK (fun c => q3 c.2.2.1))
      · exact wif_y (by simpa using q5) (hK (fun c => q5 c.2.2.2.2))
  · refine jn0_c (¬ ((M2 M 16 (9 * p + 1) = -9 ∨ M2 M 16 (9 * p + 1) = M2 M 6 (8 * m + 1)) ∧ (M2 M 16 (9 * p + 2) = -9 ∨ M2 M 16 (9 * p + 2) = M2 M 6 (8 * m + 2)))) (fun c => hJ 0 ⟨fun _ => c, fun _ => rfl⟩) (fun K hK => ?_)
    simp only [jn0_eq, or_wif]
    by_cases q1 : M2 M 16 (9 * p + 1) = -9 ∨ M2 M 16 (9 * p + 1) = M2 M 6 (8 * m + 1)
    · refine wif_y q1 ?_
      by_cases q2 : M2 M 16 (9 * p + 2) = -9 ∨ M2 M 16 (9 * p + 2) = M2 M 6 (8 * m + 2)
      · exact wif_y q2 (hJ 1 ⟨fun q => absurd q (by decide), fun q => absurd ⟨q1, q2⟩ q⟩)
      · exact wif_n q2 (hK (fun c => q2 c.2))
    · exact wif_n q1 (hK (fun c => q1 c.1))
theorem cov_un {v w : Int32} (h : cov M p m t v) (g : cov M p m t w) : v = w := by
  rcases h with ⟨h1, e⟩ | ⟨h1, h2, e⟩ | ⟨h1, h2, e⟩ <;> rcases g with ⟨g1, d⟩ | ⟨g1, g2, d⟩ | ⟨g1, g2, d⟩ <;> first | exact e.trans d.symm | exact absurd h1 g1 | exact absurd g1 h1 | exact absurd h2 g2 | exact absurd g2 h2
end
section
variable {G : xG} {S : xH} {o : Nat} {M : xM} {x y z : Int32}
theorem e_cover (h : Inv G S o M) : w_X0_cover S o x y z (fun r => w_X1_cover M x y z (fun r' M' => xF o r S r' M')) := by
  simp only [w_X1_cover, nm_eq]
  generalize hN : m1 M 0 0 = N
  replace h : Inv G S o N := by rw [← hN]; exact h.m0
  have n5 := h.O_n5
  have n15 := h.O_n15
  cases h1 : rg x 0 (nI (gN G 15) - 1)
  · simp only [w_X0_cover, c_isPaper h, m_noPaper h.mI, h1, h.O_t, Bool.not_false, wif_T, wif_F, nm_eq, jn_eq, jn0_eq, jn2_eq, jn3_eq, jn4_eq, zI_t, zI_f, zI0, x_B_zI, x_B_0, x_B_1, isIn_eq, in_eq, Bool.true_eq_false, Bool.false_eq_true, eq_self, true_and, and_true, Option.some.injEq, exists_eq_left', exists_eq_left, reduceCtorEq, not_true_eq_false, not_false_eq_true, one_ne, if_true, if_false, one_ne]
    exact ⟨rfl, G, h⟩
  cases h2 : rg y 0 (nI (gN G 5) - 1)
  · simp only [w_X0_cover, c_isPaper h, m_noPaper h.mI, c_isMan h, m_noMan h.mI, h1, h2, h.O_t, Bool.not_false, Bool.not_true, wif_T, wif_F, nm_eq, jn_eq, jn0_eq, jn2_eq, jn3_eq, jn4_eq, zI_t, zI_f, zI0, x_B_zI, x_B_0, x_B_1, isIn_eq, in_eq, Bool.true_eq_false, Bool.false_eq_true, eq_self, true_and, and_true, Option.some.injEq, exists_eq_left', exists_eq_left, reduceCtorEq, not_true_eq_false, not_false_eq_true, one_ne, if_true, if_false, one_ne]
    exact ⟨rfl, G, h⟩
  obtain ⟨p, hp, rfl⟩ := c_px h h1
  obtain ⟨m, hm, rfl⟩ := c_ix h h2
  cases h3 : rg z 0 899
  · simp only [w_X0_cover, c_isPaper h, m_noPaper h.mI, c_isMan h, m_noMan h.mI, c_isTide, m_noTide, h1, h2, h3, h.O_t, Bool.not_false, Bool.not_true, wif_T, wif_F, nm_eq, jn_eq, jn0_eq, jn2_eq, jn3_eq, jn4_eq, zI_t, zI_f, zI0, x_B_zI, x_B_0, x_B_1, isIn_eq, in_eq, Bool.true_eq_false, Bool.false_eq_true, eq_self, true_and, and_true, Option.some.injEq, exists_eq_left', exists_eq_left, reduceCtorEq, not_true_eq_false, not_false_eq_true, one_ne, if_true, if_false, one_ne]
    exact ⟨rfl, G, h⟩
  have hv : vp_in (nI m) 40 := vp_in_nI (by omega) (by decide)
  have hv2 : vp_in (nI p) 60 := vp_in_nI (by omega) (by decide)
  simp only [w_X0_cover, c_isPaper h, m_noPaper h.mI, c_isMan h, m_noMan h.mI, c_isTide, m_noTide, h1, h2, h3, h.O_t, h.R_r52, h.R_t52, h.R_l52, h.R_r57, h.R_t57, h.R_l57, hv, hv2, h.M_q hm, h.P_q hp, h.P_T hp, nI_clamp (show m < 2 ^ 31 by omega), nI_clamp (show p < 2 ^ 31 by omega), Bool.not_true, wif_T, wif_F, nm_eq, jn_eq, jn0_eq, jn2_eq, jn3_eq, jn4_eq, zI_t, zI_f, zI0, x_B_zI, x_B_0, x_B_1, isIn_eq, in_eq, Bool.true_eq_false, Bool.false_eq_true, eq_self, true_and, and_true, Option.some.injEq, exists_eq_left', exists_eq_left, reduceCtorEq, not_true_eq_false, not_false_eq_true, one_ne, if_true, if_false, one_ne]
  exact c_covers h hp hm (fun v hv => m_covers (by omega) (by omega) (fun w hw => ⟨cov_un hv hw, G, h⟩))
theorem e_same (h : Inv G S o M) : w_X0_same S o x y (fun r => w_X1_same M x y (fun r' M' => xF o r S r' M')) := by
  simp only [w_X1_same, nm_eq]
  generalize hN : m1 M 0 0 = N
  replace h : Inv G S o N := by rw [← hN]; exact h.m0
  have n5 := h.O_n5
  have n15 := h.O_n15
  cases h1 : rg x 0 (nI (gN G 15) - 1)
  · simp only [w_X0_same, c_isPaper h, m_noPaper h.mI, h1, h.O_t, Bool.not_false, wif_T, wif_F, nm_eq, jn_eq, jn0_eq, jn2_eq, jn3_eq, jn4_eq, zI_t, zI_f, zI0, x_B_zI, x_B_0, x_B_1, isIn_eq, in_eq, Bool.true_eq_false, Bool.false_eq_true, eq_self, true_and, and_true, Option.some.injEq, exists_eq_left', exists_eq_left, reduceCtorEq, not_true_eq_false, not_false_eq_true, one_ne, if_true, if_false, one_ne]
    exact ⟨rfl, G, h⟩
  obtain ⟨p, hp, rfl⟩ := c_px h h1
  cases h3 : rg y 0 899
  · simp only [w_X0_same, c_isPaper h, m_noPaper h.mI, c_isTide, m_noTide, h1, h3, h.O_t, Bool.not_false, Bool.not_true, wif_T, wif_F, nm_eq, jn_eq, jn0_eq, jn2_eq, jn3_eq, jn4_eq, zI_t, zI_f, zI0, x_B_zI, x_B_0, x_B_1, isIn_eq, in_eq, Bool.true_eq_false, Bool.false_eq_true, eq_self, true_and, and_true, Option.some.injEq, exists_eq_left', exists_eq_left, reduceCtorEq, not_true_eq_false, not_false_eq_true, one_ne, if_true, if_false, one_ne]
    exact ⟨rfl, G, h⟩
  have hv2 : vp_in (nI p) 60 := vp_in_nI (by omega) (by decide)
  simp only [w_X0_same, c_isPaper h, m_noPaper h.mI, c_isTide, m_noTide, h1, h3, h.O_t, Bool.not_true, wif_T, wif_F, nm_eq, jn_eq, jn0_eq, jn2_eq, jn3_eq, jn4_eq, zI_t, zI_f, zI0, x_B_zI, x_B_0, x_B_1, isIn_eq, in_eq, Bool.true_eq_false, Bool.false_eq_true, eq_self, true_and, and_true, Option.some.injEq, exists_eq_left', exists_eq_left, reduceCtorEq, not_true_eq_false, not_false_eq_true, one_ne, if_true, if_false, one_ne]
  let f : Nat → Int32 := fun m => zI (@decide (cvF N p m y) (Classical.propDecidable _))
  have fz : ∀ m, zI (@decide (cvF N p m y) (Classical.propDecidable _)) = f m := fun _ => rfl
  refine lf2_u (gN G 5) (fun i a b => a = sm f i ∧ b = nI i) ?_ 0 0 ⟨rfl, rfl⟩
  rintro P i a b hi ⟨rfl, rfl⟩ hP
  rw [h.O_c53]
  by_cases e : i = gN G 5
  · rw [e]
    refine wif_y (Int32.le_refl _) ?_
    refine lf2_u (gN G 5) (fun i a b => a = sm f i ∧ b = nI i) ?_ 0 0 ⟨rfl, rfl⟩
    clear hP hi e i P
    rintro P i a b hi ⟨rfl, rfl⟩ hP
    rw [h.O_d5]
    by_cases e : i = gN G 5
    · rw [e]
      exact wif_y (Int32.le_refl _) ⟨rfl, G, h⟩
    · refine wif_n (nI_ge (by omega) (by omega)) (m_covers (by omega) (by omega) (fun v hv => ?_))
      by_cases c : cvF N p i y
      · refine wif_n (fun q => (cov_pos hv).mp q c) (hP _ _ (by omega) ⟨?_, nI_1 i⟩)
        rw [sm, ← fz, @decide_eq_true _ (_) c]
        rfl
      · refine wif_y ((cov_pos hv).mpr c) (hP _ _ (by omega) ⟨?_, nI_1 i⟩)
        rw [sm, ← fz, @decide_eq_false _ (_) c]
        rfl
  · have hlt : i < gN G 5 := by omega
    have hv : vp_in (nI i) 40 := vp_in_nI (by omega) (by decide)
    refine wif_n (nI_ge hlt (by omega)) ?_
    simp only [h.R_r52, h.R_t52, h.R_l52, h.R_r57, h.R_t57, h.R_l57, hv, hv2, h.M_q hlt, h.P_q hp, h.P_T hp, nI_clamp (show i < 2 ^ 31 by omega), nI_clamp (show p < 2 ^ 31 by omega), wif_T, wif_F, nm_eq, jn_eq, jn0_eq, jn2_eq, jn3_eq, jn4_eq, zI_t, zI_f, zI0, x_B_zI, x_B_0, x_B_1, isIn_eq, in_eq, Bool.true_eq_false, Bool.false_eq_true, eq_self, true_and, and_true, Option.some.injEq, exists_eq_left', exists_eq_left, reduceCtorEq, not_true_eq_false, not_false_eq_true, one_ne, if_true, if_false]
    refine c_covers h hp hlt (fun v hv => ?_)
    by_cases c : cvF N p i y
    · refine wif_n (fun q => (cov_pos hv).mp q c) (hP _ _ (by omega) ⟨?_, nI_1 i⟩)
      rw [sm, ← fz, @decide_eq_true _ (_) c]
      rfl
    · refine wif_y ((cov_pos hv).mpr c) (hP _ _ (by omega) ⟨?_, nI_1 i⟩)
      rw [sm, ← fz, @decide_eq_false _ (_) c]
      rfl
end
