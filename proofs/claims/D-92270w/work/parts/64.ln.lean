set_option maxRecDepth 100000
section
variable {G : xG} {S : xH} {o : Nat} {M : xM} {x y w : Int32} {s q : Nat} {Q : Int32 → Prop}
/-- the best fleet among the first i sets, and what is taken for it -/
noncomputable def fsl (G : xG) (M : xM) (w : Int32) : Nat → Nat × Int32
  | 0 => (0, 0)
  | i + 1 => @ite _ (flS G M (nI (i + 1)) (gN G 9) ∧ ¬ pc (nI (i + 1)) < pc (nI (fsl G M w i).1) ∧ ¬ tkx G M (nI (i + 1)) w = -9 ∧ (pc (nI (fsl G M w i).1) < pc (nI (i + 1)) ∨ tkx G M (nI (i + 1)) w < (fsl G M w i).2)) (Classical.propDecidable _) (i + 1, tkx G M (nI (i + 1)) w) (fsl G M w i)
theorem fsl_le (i : Nat) : (fsl G M w i).1 ≤ i := by
  induction i with
  | zero => exact Nat.le_refl _
  | succ i ih =>
    rw [fsl]
    split
    · exact Nat.le_refl _
    · omega
theorem fsl_y {i : Nat} (c : flS G M (nI (i + 1)) (gN G 9) ∧ ¬ pc (nI (i + 1)) < pc (nI (fsl G M w i).1) ∧ ¬ tkx G M (nI (i + 1)) w = -9 ∧ (pc (nI (fsl G M w i).1) < pc (nI (i + 1)) ∨ tkx G M (nI (i + 1)) w < (fsl G M w i).2)) : fsl G M w (i + 1) = (i + 1, tkx G M (nI (i + 1)) w) := by rw [fsl, if_pos c]
theorem fsl_n {i : Nat} (c : ¬ (flS G M (nI (i + 1)) (gN G 9) ∧ ¬ pc (nI (i + 1)) < pc (nI (fsl G M w i).1) ∧ ¬ tkx G M (nI (i + 1)) w = -9 ∧ (pc (nI (fsl G M w i).1) < pc (nI (i + 1)) ∨ tkx G M (nI (i + 1)) w < (fsl G M w i).2))) : fsl G M w (i + 1) = fsl G M w i := by rw [fsl, if_neg c]
theorem e_fleet (h : Inv G S o M) : w_X0_fleet S o x (fun r => w_X1_fleet M x (fun r' M' => xF o r S r' M')) := by
  obtain ⟨N, hN⟩ : ∃ N, m1 M 0 0 = N := ⟨_, rfl⟩
  replace h : Inv G S o N := by rw [← hN]; exact h.m0
  have n9 := h.O_n9
  have p9 : 2 ^ gN G 9 ≤ 2 ^ 10 := Nat.pow_le_pow_right (by decide) n9
  have p0 : 1 ≤ 2 ^ gN G 9 := Nat.one_le_two_pow
  unfold w_X0_fleet w_X0_isWeather
  rw [isIn_eq]
  cases h1 : rg x 0 3
  · refine ⟨by rw [x_B_zI]; trivial, wif_y rfl ?_⟩
    show w_X1_fleet M x (fun r' M' => xF o (-2) S r' M')
    unfold w_X1_fleet
    rw [nm_eq, hN, m_badWeather, h1]
    exact wif_n (by decide) ⟨rfl, G, h⟩
  refine ⟨by rw [x_B_zI]; trivial, wif_n (by decide) ?_⟩
  refine lf3_u (2 ^ gN G 9 - 1) (fun i a b c => a = nI (fsl G N x i).1 ∧ b = (fsl G N x i).2 ∧ c = nI (i + 1)) ?_ _ _ _ ⟨rfl, rfl, rfl⟩
  rintro P i a b c hi ⟨rfl, rfl, rfl⟩ hP
  refine ⟨h.O_t, ?_⟩
  rw [h.O_c65, sh_n _ n9]
  by_cases el : i + 1 = 2 ^ gN G 9
  · refine wif_y (by rw [el]; exact Int32.le_refl _) ?_
    clear hP
    have ei : i = 2 ^ gN G 9 - 1 := by omega
    show w_X1_fleet M x (fun r' M' => xF o (nI (fsl G N x i).1) S r' M')
    unfold w_X1_fleet
    rw [nm_eq, hN, m_badWeather, h1]
    refine wif_y rfl ?_
    refine lf2_u (gN G 9) (fun j a b => a = nI (mkN N j) ∧ b = nI j) ?_ _ _ ⟨rfl, rfl⟩
    rintro P j a b hj ⟨rfl, rfl⟩ hP
    rw [h.O_d9]
    by_cases ej : j = gN G 9
    · rw [ej]
      refine wif_y (Int32.le_refl _) ?_
      clear hP
      rw [sh_n _ n9]
      refine lf4_u (2 ^ gN G 9 - 1) (fun i a b c d => a = nI (fsl G N x i).1 ∧ b = pc (nI (fsl G N x i).1) ∧ c = (fsl G N x i).2 ∧ d = nI (i + 1)) ?_ _ _ _ _ ⟨rfl, (show (0 : Int32) = pc (nI 0) by decide), rfl, rfl⟩
      rintro P k a b c d hk ⟨rfl, rfl, rfl, rfl⟩ hP
      by_cases ek : k + 1 = 2 ^ gN G 9
      · refine wif_y (by rw [ek]; exact Int32.le_refl _) ?_
        have : k = i := by omega
        rw [this]
        exact ⟨rfl, G, h⟩
      have hl : k < 2 ^ gN G 9 - 1 := by omega
      refine wif_n (nI_ge (by omega) (by omega)) ?_
      refine lf2_u (gN G 9) (fun s a b => a = sm (bt (nI (k + 1))) s ∧ b = nI s) ?_ _ _ ⟨rfl, rfl⟩
      rintro P2 s a b hs ⟨rfl, rfl⟩ hP2
      by_cases es : s = gN G 9
      · rw [es, pc_sm (gN G 9) (by omega) (k + 1) (by omega)]
        refine wif_y (Int32.le_refl _) ?_
        have fm := flS_m (G := G) (M := N) n9 (show k + 1 < 2 ^ gN G 9 by omega)
        refine jn_i (fun v => v = -9 ∧ ¬ (flS G N (nI (k + 1)) (gN G 9) ∧ ¬ pc (nI (k + 1)) < pc (nI (fsl G N x k).1)) ∨ (flS G N (nI (k + 1)) (gN G 9) ∧ ¬ pc (nI (k + 1)) < pc (nI (fsl G N x k).1)) ∧ v = tkx G N (nI (k + 1)) x) (fun v hv => ?_) (fun J hJ => ?_)
        · have no : ¬ (flS G N (nI (k + 1)) (gN G 9) ∧ ¬ pc (nI (k + 1)) < pc (nI (fsl G N x k).1) ∧ ¬ tkx G N (nI (k + 1)) x = -9 ∧ (pc (nI (fsl G N x k).1) < pc (nI (k + 1)) ∨ tkx G N (nI (k + 1)) x < (fsl G N x k).2)) → P (nI (fsl G N x k).1) (pc (nI (fsl G N x k).1)) (fsl G N x k).2 (nI (k + 1) + 1) := fun c => hP _ _ _ _ hl ⟨by rw [fsl_n c], by rw [fsl_n c], by rw [fsl_n c], nI_1 _⟩
          have ye : (flS G N (nI (k + 1)) (gN G 9) ∧ ¬ pc (nI (k + 1)) < pc (nI (fsl G N x k).1) ∧ ¬ tkx G N (nI (k + 1)) x = -9 ∧ (pc (nI (fsl G N x k).1) < pc (nI (k + 1)) ∨ tkx G N (nI (k + 1)) x < (fsl G N x k).2)) → P (nI (k + 1)) (pc (nI (k + 1))) (tkx G N (nI (k + 1)) x) (nI (k + 1) + 1) := fun c => hP _ _ _ _ hl ⟨by rw [fsl_y c], by rw [fsl_y c], by rw [fsl_y c], nI_1 _⟩
          simp only [jn3_eq, jn0_eq]
          rcases hv with ⟨rfl, c⟩ | ⟨c, rfl⟩
          · exact wif_y rfl (no (fun z => c ⟨z.1, z.2.1⟩))
          · by_cases t9 : tkx G N (nI (k + 1)) x = -9
            · exact wif_y t9 (no (fun z => z.2.2.1 t9))
            refine wif_n t9 ?_
            by_cases c1 : pc (nI (fsl G N x k).1) < pc (nI (k + 1))
            · exact wif_y c1 (ye ⟨c.1, c.2, t9, Or.inl c1⟩)
            refine wif_n c1 ?_
            by_cases c2 : (fsl G N x k).2 ≤ tkx G N (nI (k + 1)) x
            · exact wif_y c2 (no (fun z => by rcases z.2.2.2 with z | z; exact c1 z; exact (le_nlt.mp c2) z))
            · exact wif_n c2 (ye ⟨c.1, c.2, t9, Or.inr (nle.mp c2)⟩)
        · refine jn0_c (¬ (flS G N (nI (k + 1)) (gN G 9) ∧ ¬ pc (nI (k + 1)) < pc (nI (fsl G N x k).1))) (fun c => hJ _ (Or.inl ⟨rfl, c⟩)) (fun K hK => ?_)
          by_cases c1 : flS G N (nI (k + 1)) (gN G 9)
          · refine wif_y (fm.mp c1) ?_
            by_cases c2 : pc (nI (k + 1)) < pc (nI (fsl G N x k).1)
            · exact wif_y c2 (hK (fun z => z.2 c2))
            · exact wif_n c2 (m_fewest h.mI c1 (hJ _ (Or.inr ⟨⟨c1, c2⟩, rfl⟩)))
          · exact wif_n (fun z => c1 (fm.mpr z)) (hK (fun z => c1 z.1))
      · have hls : s < gN G 9 := by omega
        refine wif_n (nI_ge hls (by omega)) ?_
        rw [nm_eq]
        exact hP2 _ _ hls ⟨rfl, nI_1 s⟩
    · have hlj : j < gN G 9 := by omega
      refine wif_n (nI_ge hlj (by omega)) ?_
      rw [m_mayGo (by omega)]
      have st : ∀ v : Nat, v = (if M2 N 14 j = 0 ∧ M2 N 10 j = 0 then 2 ^ j else 0) → P (nI (mkN N j) ||| nI v) (nI j + 1) := fun v ev => by
        rw [nI_or]
        exact hP _ _ hlj ⟨by rw [mkN, ev], nI_1 j⟩
      simp only [jn_eq, nm_eq]
      rw [sh_n j (by omega)]
      by_cases c : M2 N 14 j = 0 ∧ M2 N 10 j = 0
      · exact wif_y c (wif_n (by decide) (st (2 ^ j) (by rw [if_pos c])))
      · exact wif_n c (wif_y (by trivial) (st 0 (by rw [if_neg c])))
  have hl : i < 2 ^ gN G 9 - 1 := by omega
  refine wif_n (nI_ge (by omega) (by omega)) ?_
  rw [c_bitCount, c_bitCount, nm_eq]
  have fl := fsl_le (G := G) (M := N) (w := x) i
  obtain ⟨a, ha, ea⟩ := pc_n (i + 1) (by omega)
  obtain ⟨b, hb, eb⟩ := pc_n (fsl G N x i).1 (by omega)
  have mlt : (pc (nI (i + 1)) - pc (nI (fsl G N x i).1) < 0) ↔ pc (nI (i + 1)) < pc (nI (fsl G N x i).1) := by
    rw [ea, eb, Int32.lt_iff_toInt_lt, Int32.lt_iff_toInt_lt, pk_sub_toInt (by omega) (by omega), nI_toInt (by omega), nI_toInt (by omega), show (0 : Int32).toInt = 0 by decide]
    omega
  have mgt : (0 < pc (nI (i + 1)) - pc (nI (fsl G N x i).1)) ↔ pc (nI (fsl G N x i).1) < pc (nI (i + 1)) := by
    rw [ea, eb, Int32.lt_iff_toInt_lt, Int32.lt_iff_toInt_lt, pk_sub_toInt (by omega) (by omega), nI_toInt (by omega), nI_toInt (by omega), show (0 : Int32).toInt = 0 by decide]
    omega
  have nz : ¬ nI (i + 1) = 0 := fun z => by have := (eqk_0 (by omega)).mp z; omega
  refine jn_i (fun v => v = -9 ∧ ¬ (flS G N (nI (i + 1)) (gN G 9) ∧ ¬ pc (nI (i + 1)) < pc (nI (fsl G N x i).1)) ∨ (flS G N (nI (i + 1)) (gN G 9) ∧ ¬ pc (nI (i + 1)) < pc (nI (fsl G N x i).1)) ∧ v = tkx G N (nI (i + 1)) x) (fun v hv => ?_) (fun J hJ => ?_)
  · have no : ¬ (flS G N (nI (i + 1)) (gN G 9) ∧ ¬ pc (nI (i + 1)) < pc (nI (fsl G N x i).1) ∧ ¬ tkx G N (nI (i + 1)) x = -9 ∧ (pc (nI (fsl G N x i).1) < pc (nI (i + 1)) ∨ tkx G N (nI (i + 1)) x < (fsl G N x i).2)) → P (nI (fsl G N x i).1) (fsl G N x i).2 (nI (i + 1) + 1) := fun c => hP _ _ _ hl ⟨by rw [fsl_n c], by rw [fsl_n c], nI_1 _⟩
    have ye : (flS G N (nI (i + 1)) (gN G 9) ∧ ¬ pc (nI (i + 1)) < pc (nI (fsl G N x i).1) ∧ ¬ tkx G N (nI (i + 1)) x = -9 ∧ (pc (nI (fsl G N x i).1) < pc (nI (i + 1)) ∨ tkx G N (nI (i + 1)) x < (fsl G N x i).2)) → P (nI (i + 1)) (tkx G N (nI (i + 1)) x) (nI (i + 1) + 1) := fun c => hP _ _ _ hl ⟨by rw [fsl_y c], by rw [fsl_y c], nI_1 _⟩
    simp only [jn2_eq, jn0_eq]
    rcases hv with ⟨rfl, c⟩ | ⟨c, rfl⟩
    · exact wif_y rfl (no (fun z => c ⟨z.1, z.2.1⟩))
    · by_cases t9 : tkx G N (nI (i + 1)) x = -9
      · exact wif_y t9 (no (fun z => z.2.2.1 t9))
      refine wif_n t9 ?_
      by_cases c1 : pc (nI (fsl G N x i).1) < pc (nI (i + 1))
      · exact wif_y (mgt.mpr c1) (ye ⟨c.1, c.2, t9, Or.inl c1⟩)
      refine wif_n (fun z => c1 (mgt.mp z)) ?_
      by_cases c2 : (fsl G N x i).2 ≤ tkx G N (nI (i + 1)) x
      · exact wif_y c2 (no (fun z => by rcases z.2.2.2 with z | z; exact c1 z; exact (le_nlt.mp c2) z))
      · exact wif_n c2 (ye ⟨c.1, c.2, t9, Or.inr (nle.mp c2)⟩)
  · refine jn0_c (¬ (flS G N (nI (i + 1)) (gN G 9) ∧ ¬ pc (nI (i + 1)) < pc (nI (fsl G N x i).1))) (fun c => hJ _ (Or.inl ⟨rfl, c⟩)) (fun K hK => ?_)
    by_cases c2 : pc (nI (i + 1)) < pc (nI (fsl G N x i).1)
    · exact wif_y (mlt.mpr c2) (hK (fun z => z.2 c2))
    refine wif_n (fun z => c2 (mlt.mp z)) ⟨h.O_t, c_isFleet h (fun nf => ?_) (fun hv f => ?_)⟩
    · exact wif_y rfl (hK (fun z => nf ⟨vp_in_nI (by omega) (by omega), z.1⟩))
    · refine wif_n (by decide) ⟨h.O_t, c_takenFor h ?_⟩
      rw [if_neg nz]
      exact hJ _ (Or.inr ⟨⟨f, c2⟩, rfl⟩)
end
