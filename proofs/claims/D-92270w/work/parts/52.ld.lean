set_option maxRecDepth 100000
section
variable {G : xG} {S : xH} {o : Nat} {M : xM} {x y z : Int32}
theorem sm_one {f g : Nat → Int32} {m : Nat} (h : ∀ i, ¬ i = m → g i = f i) (h0 : f m = 0) (h1 : g m = 1) : ∀ {n : Nat}, m < n → sm g n = sm f n + 1
  | 0, hm => absurd hm (Nat.not_lt_zero m)
  | n + 1, hm => by
    rw [sm, sm]
    by_cases e : n = m
    · rw [e, h0, h1, sm_cong (fun i hi => h i (by omega)), Int32.add_zero]
    · rw [sm_one h h0 h1 (show m < n by omega), h n e, Int32.add_assoc, Int32.add_assoc, Int32.add_comm 1]
/-- taking k was of paper p within the week up to t -/
def mtc (F : Nat → Int32) (p t : Int32) (k : Nat) : Prop := F (6 * k + 2) = p ∧ rg (F (6 * k)) (t - 13) t = true
/-- some of the first i takings was of man m, and such -/
def shw (F : Nat → Int32) (p t : Int32) (i m : Nat) : Prop := m < 40 ∧ ∃ k, k < i ∧ mtc F p t k ∧ F (6 * k + 1) = nI m
noncomputable def sz (F : Nat → Int32) (p t : Int32) (i m : Nat) : Int32 := zI (@decide (shw F p t i m) (Classical.propDecidable _))
theorem sz_t {F : Nat → Int32} {p t : Int32} {i m : Nat} (h : shw F p t i m) : sz F p t i m = 1 := by
  unfold sz
  rw [@decide_eq_true _ (_) h]
  rfl
theorem sz_f {F : Nat → Int32} {p t : Int32} {i m : Nat} (h : ¬ shw F p t i m) : sz F p t i m = 0 := by
  unfold sz
  rw [@decide_eq_false _ (_) h]
  rfl
theorem sz_cong {F : Nat → Int32} {p t : Int32} {i j m n : Nat} (h : shw F p t i m ↔ shw F p t j n) : sz F p t i m = sz F p t j n := by
  by_cases c : shw F p t i m
  · rw [sz_t c, sz_t (h.mp c)]
  · rw [sz_f c, sz_f (fun q => c (h.mpr q))]
theorem m14 (t : Int32) : t - 14 + 1 = t - 13 := by
  simp only [Int32.sub_eq_add_neg, Int32.add_assoc]
  rfl
theorem e_shown (h : Inv G S o M) {k n : Nat} (hk : 1 ≤ k) (hn : 40 ≤ n) : w_X0_shown k n S o x y (fun r S' => w_X1_shown M x y (fun r' M' => xF o r S' r' M')) := by
  simp only [w_X1_shown, nm_eq]
  generalize hN : m1 M 0 0 = N
  replace h : Inv G S o N := by rw [← hN]; exact h.m0
  have n5 := h.O_n5
  have n22 := h.O_n22
  have n15 := h.O_n15
  cases h1 : rg x 0 (nI (gN G 15) - 1)
  · simp only [w_X0_shown, c_isPaper h, m_noPaper h.mI, h1, h.O_t, Bool.not_false, wif_T, wif_F, nm_eq, jn_eq, jn0_eq, jn2_eq, jn3_eq, jn4_eq, zI_t, zI_f, zI0, x_B_zI, x_B_0, x_B_1, isIn_eq, in_eq, Bool.true_eq_false, Bool.false_eq_true, eq_self, true_and, and_true, Option.some.injEq, exists_eq_left', exists_eq_left, reduceCtorEq, not_true_eq_false, not_false_eq_true, one_ne, if_true, if_false]
    exact ⟨rfl, G, h⟩
  cases h3 : rg y 0 899
  · simp only [w_X0_shown, c_isPaper h, m_noPaper h.mI, c_isTide, m_noTide, h1, h3, h.O_t, Bool.not_false, Bool.not_true, wif_T, wif_F, nm_eq, jn_eq, jn0_eq, jn2_eq, jn3_eq, jn4_eq, zI_t, zI_f, zI0, x_B_zI, x_B_0, x_B_1, isIn_eq, in_eq, Bool.true_eq_false, Bool.false_eq_true, eq_self, true_and, and_true, Option.some.injEq, exists_eq_left', exists_eq_left, reduceCtorEq, not_true_eq_false, not_false_eq_true, one_ne, if_true, if_false]
    exact ⟨rfl, G, h⟩
  simp only [w_X0_shown, c_isPaper h, m_noPaper h.mI, c_isTide, m_noTide, h1, h3, h.O_t, Bool.not_true, wif_T, wif_F, nm_eq, zI_t, zI_f, zI0, x_B_zI, x_B_0, x_B_1, isIn_eq, in_eq, Bool.true_eq_false, Bool.false_eq_true, eq_self, true_and, and_true, Option.some.injEq, exists_eq_left', exists_eq_left, reduceCtorEq, not_true_eq_false, not_false_eq_true, one_ne, if_true, if_false]
  refine ⟨hk, hn, fun a ha => ?_⟩
  have hI : ∀ F, xE S (sB (sV S a 102 40) a F) := fun F => ((xE.refl S).v ha).b ha
  have hT : ∀ F, xT (sB (sV S a 102 40) a F) a = 102 := fun F => by rw [xT_sB]; exact xT_nV
  have hL : ∀ F, xL (sB (sV S a 102 40) a F) a = 40 := fun F => by rw [xL_sB]; exact xL_nV
  have hX : ∀ F, xA (sB (sV S a 102 40) a F) a = F := fun F => by simp [sB, xA, va_up]
  have z0 : ∀ m, ¬ shw (M2 N 23) x y 0 m := fun m q => by obtain ⟨_, k, hk, _⟩ := q; omega
  have sz0 : sm (sz (M2 N 23) x y 0) (gN G 5) = 0 := by
    have : ∀ n, sm (sz (M2 N 23) x y 0) n = 0 := by
      intro n
      induction n with
      | zero => rfl
      | succ n ih => rw [sm, ih, sz_f (z0 n)]; rfl
    exact this _
  refine lf3_u (gN G 22) (fun i c b S' => c = sm (sz (M2 N 23) x y i) (gN G 5) ∧ b = nI i ∧ ∃ F, S' = sB (sV S a 102 40) a F ∧ ∀ m, m < 40 → F m = sz (M2 N 23) x y i m) ?_ _ _ _ ⟨sz0.symm, rfl, fun _ => 0, sV_sB, fun m _ => (sz_f (z0 m)).symm⟩
  rintro P i c b S' hi ⟨rfl, rfl, F, rfl, hF⟩ hP
  have g := h.ext (hI F)
  refine ⟨g.O_t, ?_⟩
  rw [g.O_c62]
  by_cases e : i = gN G 22
  · rw [e]
    refine wif_y (Int32.le_refl _) ?_
    clear hP
    refine lf2_u (gN G 5) (fun m c b => c = sm (sz (M2 N 23) x y (gN G 22)) m ∧ b = nI m) ?_ _ _ ⟨rfl, rfl⟩
    rintro P m c b hm ⟨rfl, rfl⟩ hP
    rw [h.O_d5]
    by_cases em : m = gN G 5
    · rw [em]
      exact wif_y (Int32.le_refl _) ⟨rfl, G, g⟩
    · refine wif_n (nI_ge (by omega) (by omega)) ?_
      refine lf2_u (gN G 22) (fun j c b => c = sz (M2 N 23) x y j m ∧ b = nI j) ?_ _ _ ⟨(sz_f (z0 m)).symm, rfl⟩
      rintro P2 j c b hj ⟨rfl, rfl⟩ hP2
      rw [h.O_d22]
      by_cases ej : j = gN G 22
      · rw [ej]
        refine wif_y (Int32.le_refl _) ?_
        simp only [jn_eq]
        by_cases s : shw (M2 N 23) x y (gN G 22) m
        · rw [sz_t s]
          exact wif_n (by decide) (hP _ _ (by omega) ⟨by rw [sm, sz_t s], nI_1 m⟩)
        · rw [sz_f s]
          exact wif_y rfl (hP _ _ (by omega) ⟨by rw [sm, sz_f s], nI_1 m⟩)
      · refine wif_n (nI_ge (by omega) (by omega)) ?_
        have v0 : vp_in (nI (6 * j)) 360 := vp_in_nI (by omega) (by decide)
        have v1 : vp_in (nI (6 * j + 1)) 360 := vp_in_nI (by omega) (by decide)
        have v2 : vp_in (nI (6 * j + 2)) 360 := vp_in_nI (by omega) (by decide)
        simp only [im6, nI_1, ia2, v0, v1, v2, nI_clamp (show 6 * j < 2 ^ 31 by omega), nI_clamp (show 6 * j + 1 < 2 ^ 31 by omega), nI_clamp (show 6 * j + 2 < 2 ^ 31 by omega), wif_T, wif_F, nm_eq, jn_eq, jn0_eq, jn2_eq, jn3_eq, jn4_eq, zI_t, zI_f, zI0, x_B_zI, x_B_0, x_B_1, isIn_eq, in_eq, Bool.true_eq_false, Bool.false_eq_true, eq_self, true_and, and_true, Option.some.injEq, exists_eq_left', exists_eq_left, reduceCtorEq, not_true_eq_false, not_false_eq_true, one_ne, if_true, if_false]
        have yes : shw (M2 N 23) x y (j + 1) m → P2 1 (nI (j + 1)) := fun s => hP2 _ _ (by omega) ⟨(sz_t s).symm, rfl⟩
        have no : ¬ shw (M2 N 23) x y (j + 1) m → P2 0 (nI (j + 1)) := fun s => hP2 _ _ (by omega) ⟨(sz_f s).symm, rfl⟩
        by_cases s : shw (M2 N 23) x y j m
        · rw [sz_t s]
          refine wif_n (by decide) (yes ?_)
          obtain ⟨s0, k, hk, q⟩ := s
          exact ⟨s0, k, by omega, q⟩
        · rw [sz_f s]
          refine wif_y rfl ?_
          have s' : mtc (M2 N 23) x y j → M2 N 23 (6 * j + 1) = nI m → shw (M2 N 23) x y (j + 1) m := fun q1 q2 => ⟨by omega, j, by omega, q1, q2⟩
          have sn : ¬ (mtc (M2 N 23) x y j ∧ M2 N 23 (6 * j + 1) = nI m) → ¬ shw (M2 N 23) x y (j + 1) m := fun q t => by
            obtain ⟨t0, k, hk, t1, t2⟩ := t
            by_cases ek : k = j
            · subst ek; exact q ⟨t1, t2⟩
            · exact s ⟨t0, k, by omega, t1, t2⟩
          by_cases c1 : M2 N 23 (6 * j + 1) = nI m
          · refine wif_y c1 ?_
            by_cases c2 : M2 N 23 (6 * j + 2) = x
            · refine wif_y c2 ?_
              cases c3 : rg (M2 N 23 (6 * j)) (y - 13) y
              · exact wif_y rfl (no (sn (fun q => by have := q.1.2; rw [c3] at this; exact absurd this (by decide))))
              · exact wif_n (by decide) (yes (s' ⟨c2, c3⟩ c1))
            · exact wif_n c2 (no (sn (fun q => c2 q.1.1)))
          · exact wif_n c1 (no (sn (fun q => c1 q.2)))
  · have hk' : i < gN G 22 := by omega
    refine wif_n (nI_ge hk' (by omega)) ?_
    have hv : vp_in (nI i) 60 := vp_in_nI (by omega) (by decide)
    obtain ⟨m, hm, em⟩ := vp_in_of (h.K_mn hk') (by omega)
    have hvm : vp_in (nI m) 40 := vp_in_nI (by omega) (by decide)
    simp only [g.O_t, g.R_r61, g.R_t61, g.R_l61, hv, nI_clamp (show i < 2 ^ 31 by omega), g.K_q hk', g.K_T hk', g.K_f0 hk', g.K_f1 hk', g.K_f2 hk', em, hT, hL, hX, hvm, m14, nI_clamp (show m < 2 ^ 31 by omega), hF m (by omega), sA_sB, wif_T, wif_F, nm_eq, jn_eq, jn0_eq, jn2_eq, jn3_eq, jn4_eq, zI_t, zI_f, zI0, x_B_zI, x_B_0, x_B_1, isIn_eq, in_eq, Bool.true_eq_false, Bool.false_eq_true, eq_self, true_and, and_true, Option.some.injEq, exists_eq_left', exists_eq_left, reduceCtorEq, not_true_eq_false, not_false_eq_true, one_ne, if_true, if_false]
    have same : ¬ mtc (M2 N 23) x y i → ∀ q, shw (M2 N 23) x y (i + 1) q ↔ shw (M2 N 23) x y i q := fun nm q => ⟨fun t => by
      obtain ⟨t0, k, hk, t1, t2⟩ := t
      by_cases ek : k = i
      · subst ek; exact absurd t1 nm
      · exact ⟨t0, k, by omega, t1, t2⟩, fun t => by obtain ⟨t0, k, hk, t1⟩ := t; exact ⟨t0, k, by omega, t1⟩⟩
    have skip : (∀ q, shw (M2 N 23) x y (i + 1) q ↔ shw (M2 N 23) x y i q) → P (sm (sz (M2 N 23) x y i) (gN G 5)) (nI i + 1) (sB (sV S a 102 40) a F) := fun sm' => hP _ _ _ hk' ⟨sm_cong (fun q _ => sz_cong (sm' q).symm), nI_1 i, F, rfl, fun q hq => (hF q hq).trans (sz_cong (sm' q).symm)⟩
    by_cases c1 : M2 N 23 (6 * i + 2) = x
    · refine wif_y c1 ?_
      cases c2 : rg (M2 N 23 (6 * i)) (y - 13) y
      · exact wif_y rfl (skip (same (fun q => by have := q.2; rw [c2] at this; exact absurd this (by decide))))
      · refine wif_n (by decide) ?_
        have mt : mtc (M2 N 23) x y i := ⟨c1, c2⟩
        have is : ∀ q, shw (M2 N 23) x y (i + 1) q ↔ shw (M2 N 23) x y i q ∨ q = m := fun q => ⟨fun t => by
          obtain ⟨t0, k, hk, t1, t2⟩ := t
          by_cases ek : k = i
          · subst ek
            rw [em] at t2
            exact Or.inr ((nI_eq (by omega) (by omega)).mp t2).symm
          · exact Or.inl ⟨t0, k, by omega, t1, t2⟩, fun t => by
          rcases t with t | t
          · obtain ⟨t0, k, hk, t1⟩ := t; exact ⟨t0, k, by omega, t1⟩
          · exact ⟨by omega, i, by omega, mt, by rw [t]; exact em⟩⟩
        by_cases s : shw (M2 N 23) x y i m
        · rw [sz_t s]
          refine wif_n (by decide) (skip (fun q => ⟨fun t => ((is q).mp t).elim id (fun t => by rw [t]; exact s), fun t => (is q).mpr (Or.inl t)⟩))
        · rw [sz_f s]
          refine wif_y rfl (hP _ _ _ hk' ⟨?_, nI_1 i, _, rfl, fun q hq => ?_⟩)
          · refine (sm_one (f := sz (M2 N 23) x y i) (g := sz (M2 N 23) x y (i + 1)) (m := m) (fun q hq => sz_cong ?_) (sz_f s) (sz_t ((is m).mpr (Or.inr rfl))) hm).symm
            exact ⟨fun t => ((is q).mp t).resolve_right hq, fun t => (is q).mpr (Or.inl t)⟩
          · by_cases eq : q = m
            · rw [if_pos eq, eq]
              exact (sz_t ((is m).mpr (Or.inr rfl))).symm
            · rw [if_neg eq, hF q hq]
              exact sz_cong ⟨fun t => (is q).mpr (Or.inl t), fun t => ((is q).mp t).resolve_right eq⟩
    · exact wif_n c1 (skip (same (fun q => c1 q.1)))
end
