set_option maxRecDepth 100000
/-- what the law in force says of a man -/
def mb (M : xM) (N t m : Nat) (v : Bool) : Bool := if fO M (nI t) N = -9 then false else vT (sgA M (fO M (nI t) N).toNatClampNeg) (cA M (fO M (nI t) N).toNatClampNeg) (te M t m v) 64 0
theorem k1_0 (i : Nat) : nI (i + 1) + -1 = nI i := by rw [m1_i (by omega), Nat.add_sub_cancel]
theorem k1_1 (i : Nat) : nI (i + 1) - 1 = nI i := by rw [Int32.sub_eq_add_neg]; exact k1_0 i
theorem kneg {i : Nat} (h : i < 2 ^ 31) : ¬ nI i < 0 := by rw [ltk_0 h]; omega
section
variable {G : xG} {S : xH} {o : Nat} {M : xM} {m t N : Nat} {v : Bool} {x y : Int32}
theorem m_mayBe (hA : mAc N M) (hm : m < 40) (d4 : M1 M 4 = nI t) (ht : t ≤ 899) {Q : Int32 → xM → Prop} (q : ∀ F, Q (zI (mb M N t m v)) (mF M 21 F)) : w_X1_mayBe M (nI m) (zI v) Q := by
  unfold w_X1_mayBe
  refine m_forceOf hA ?_
  rw [d4]
  rcases fO_v M (nI t) N with eb | ⟨a, ha, eb, ef⟩
  · have e0 : mb M N t m v = false := by rw [mb, if_pos eb]
    have q0 := q (M2 M 21)
    rw [mF_self, e0] at q0
    exact wif_y eb q0
  have n8 := hA.1
  have ea : (nI a).toNatClampNeg = a := nI_clamp (by omega)
  have em : mb M N t m v = vT (sgA M a) (cA M a) (te M t m v) 64 0 := by rw [mb, if_neg (by rw [eb]; exact n9_ne (by omega)), eb, ea]
  rw [em] at q
  clear em
  rw [eb, ea]
  obtain ⟨hc, h6⟩ := hA.2.2 a ha
  have ok := (flt_none h6).mp ef
  have bd := pT_bd (sg := sgA M a) (c := cA M a) 64 0 (Nat.zero_le _)
  generalize hcc : cA M a = c at *
  obtain ⟨ok1, ok2⟩ := ok
  have cp := (bd.2.2 ok1).2
  obtain ⟨c', rfl⟩ : ∃ c', c = c' + 1 := ⟨c - 1, by omega⟩
  refine wif_n (n9_ne (by omega)) ⟨vp_in_nI (by omega) (by decide), ?_⟩
  rw [nm_eq, hc, k1_1]
  intro P hP
  have bod : ∀ h num i F, i < c' + 1 → _ → P (nI h) num (nI i) (mF M 21 F) := fun h num i F hi => hP (nI h) num (nI i) (mF M 21 F)
  have idx : ∀ i, i < c' + 1 → (60 : Int32) * nI a + nI i = nI (60 * a + i) := fun i _ => by rw [im60, nI_add]
  have cli : ∀ i, i < c' + 1 → (nI (60 * a + i)).toNatClampNeg = 60 * a + i := fun i hi => nI_clamp (by omega)
  have vpi : ∀ i, i < c' + 1 → vp_in (nI (60 * a + i)) 480 := fun i hi => vp_in_nI (by omega) (by decide)
  have vps : ∀ i, i + 1 < c' + 1 → vp_in (nI (60 * a + i + 1)) 480 := fun i hi => vp_in_nI (by omega) (by decide)
  have sgi : ∀ i F, M2 (mF M 21 F) 20 (60 * a + i) = sgA M a i := fun i F => by rw [mF_ne (by decide)]; rfl
  have main := seg (sg := sgA M a) (c := c' + 1) (te := te M t m v) (P := fun h num i F => P (nI h) num (nI i + -1) (mF M 21 F))
    (fun h num i F hi d0 d1 k => by
      rw [k1_0 (i + 1)]
      refine bod h num (i + 1) F hi (wif_n (kneg (by omega)) ?_)
      rw [idx _ hi, cli _ hi, sgi, nm_eq, l64_48, l64_57, in_eq, show rg (sgA M a (i + 1)) 48 57 = true from d1, jn3_eq, show 60 * a + (i + 1) = 60 * a + i + 1 from rfl, k1_1]
      refine ⟨vps i hi, wif_n (by decide) ?_⟩
      rw [cli i (by omega), sgi]
      simp only [jn_eq, jn0_eq]
      refine wif_n (fun p => ?_) ⟨vpi i (by omega), ?_⟩
      · rw [lek_0 (by omega)] at p; omega
      · rw [in_eq, show rg (sgA M a i) 48 57 = true from d0]
        exact wif_n (by decide) k)
    (fun h num i F hi d0 d1 k => by
      rw [k1_0 (i + 1)]
      refine bod h num (i + 1) F hi (wif_n (kneg (by omega)) ?_)
      rw [idx _ hi, cli _ hi, sgi, nm_eq, l64_48, l64_57, in_eq, show rg (sgA M a (i + 1)) 48 57 = true from d1, jn3_eq, show 60 * a + (i + 1) = 60 * a + i + 1 from rfl, k1_1]
      refine ⟨vps i hi, wif_n (by decide) ?_⟩
      rw [cli i (by omega), sgi]
      simp only [jn_eq, jn0_eq]
      refine wif_n (fun p => ?_) ⟨vpi i (by omega), ?_⟩
      · rw [lek_0 (by omega)] at p; omega
      · rw [in_eq, show rg (sgA M a i) 48 57 = false by simpa [dgt] using d0]
        exact wif_y rfl k)
    (fun h num i F v hi hh e33 ev k => by
      rw [k1_0 i]
      refine bod (h + 1) num i F hi (wif_n (kneg (by omega)) ?_)
      rw [idx _ hi, cli _ hi, sgi, nm_eq, l64_48, l64_57, in_eq, show rg (sgA M a i) 48 57 = false by rw [e33]; decide, jn3_eq, k1_1, nI_clamp (show h < 2 ^ 31 by omega), mF_at, ev]
      refine ⟨vpi _ hi, wif_y rfl (wif_y e33 ⟨vp_in_nI hh (by decide), ?_⟩)⟩
      simp only [jn_eq, nm_eq, m2_mF]
      cases v
      · exact wif_y rfl ⟨vp_in_nI hh (by decide), by rw [x_B_1]; trivial, k⟩
      · exact wif_n (by decide) ⟨vp_in_nI hh (by decide), by rw [x_B_0]; trivial, k⟩)
    (fun h num i F v w hi hh e38 ev ew k => by
      rw [k1_0 i]
      refine bod (h + 2) num i F hi (wif_n (kneg (by omega)) ?_)
      rw [idx _ hi, cli _ hi, sgi, nm_eq, l64_48, l64_57, in_eq, show rg (sgA M a i) 48 57 = false by rw [e38]; decide, jn3_eq]
      refine ⟨vpi _ hi, wif_y rfl (wif_n (by rw [e38]; decide) (wif_y e38 ?_))⟩
      simp only [k1_0 (h + 1), k1_1, nI_clamp (show h < 2 ^ 31 by omega), nI_clamp (show h + 1 < 2 ^ 31 by omega), mF_at, ev, ew, jn_eq, jn0_eq, nm_eq, m2_mF]
      have hv : vp_in (nI h) 64 := vp_in_nI (by omega) (by decide)
      refine ⟨vp_in_nI hh (by decide), ?_⟩
      cases v
      · exact wif_y rfl ⟨hv, by rw [x_B_0]; trivial, k⟩
      · refine wif_n (by decide) ⟨hv, ?_⟩
        cases w
        · exact wif_y rfl ⟨hv, by rw [x_B_0]; trivial, k⟩
        · exact wif_n (by decide) ⟨hv, by rw [x_B_1]; trivial, k⟩)
    (fun h num i F v w hi hh e124 ev ew k => by
      rw [k1_0 i]
      refine bod (h + 2) num i F hi (wif_n (kneg (by omega)) ?_)
      rw [idx _ hi, cli _ hi, sgi, nm_eq, l64_48, l64_57, in_eq, show rg (sgA M a i) 48 57 = false by rw [e124]; decide, jn3_eq]
      refine ⟨vpi _ hi, wif_y rfl (wif_n (by rw [e124]; decide) (wif_n (by rw [e124]; decide) (wif_y e124 ?_)))⟩
      simp only [k1_0 (h + 1), k1_1, nI_clamp (show h < 2 ^ 31 by omega), nI_clamp (show h + 1 < 2 ^ 31 by omega), mF_at, ev, ew, jn_eq, jn0_eq, nm_eq, m2_mF]
      have hv : vp_in (nI h) 64 := vp_in_nI (by omega) (by decide)
      refine ⟨vp_in_nI hh (by decide), ?_⟩
      cases v
      · refine wif_y rfl ⟨hv, ?_⟩
        cases w
        · exact wif_y rfl ⟨hv, by rw [x_B_0]; trivial, k⟩
        · exact wif_n (by decide) ⟨hv, by rw [x_B_1]; trivial, k⟩
      · exact wif_n (by decide) ⟨hv, by rw [x_B_1]; trivial, k⟩)
    (fun h num i F hi hh hs k => by
      rw [k1_0 i]
      refine bod h num i F hi (wif_n (kneg (by omega)) ?_)
      have nn : ¬ sgA M a i = 38 ∧ ¬ sgA M a i = 124 ∧ ¬ sgA M a i = 33 ∧ ¬ dgt (sgA M a i) = true := by
        rcases hs with hs | hs
        · obtain ⟨n1, n2, n3, n4, n5, n6⟩ := hsD_n hs
          exact ⟨n1, n2, n3, n4⟩
        · obtain ⟨n1, n2, n3, n4, n5, n6⟩ := psh_n hs
          exact ⟨n1, n2, n3, n4⟩
      rw [idx _ hi, cli _ hi, sgi, nm_eq, l64_48, l64_57, in_eq, show rg (sgA M a i) 48 57 = false by simpa [dgt] using nn.2.2.2, jn3_eq]
      refine ⟨vpi _ hi, wif_y rfl (wif_n nn.2.2.1 (wif_n nn.1 (wif_n nn.2.1 (m_test hm (by rw [M1_mF]; exact d4) ht ?_))))⟩
      rw [te_mF, x_B_zI, nm_eq, nI_clamp (show h < 2 ^ 31 by omega), m2_mF, nI_1]
      exact ⟨vp_in_nI hh (by decide), trivial, k⟩)
    (fun v x y hp => te_p v x y hp)
    64 0 (Nat.zero_le _) ok1 0 0 (M2 M 21) (by omega) (fun num F e _ => ?_)
  · have := main
    simp only [ok2, k1_0, mF_self] at this
    exact this
  · refine hP _ _ _ _ (wif_y (by decide) ⟨vp_in_nI (show 0 < 64 by decide) (by decide), ?_⟩)
    rw [show (0 : Int32).toNatClampNeg = 0 from rfl, mF_at, e, x_B_zI]
    exact ⟨trivial, q F⟩
/-- the law as read -/
def lwP (G : xG) (M : xM) (S : xH) (r : Option Nat) : Prop := (fO M (nI (gN G 4)) (gN G 17) = -9 → r = none) ∧ ∀ j, fO M (nI (gN G 4)) (gN G 17) = nI j → j < gN G 17 → ∃ b, r = some b ∧ tx (sgA M j) (cA M j) S 64 0 b
theorem lwP.ext {S' : xH} {r : Option Nat} (h : lwP G M S r) (e : xE S S') : lwP G M S' r := ⟨h.1, fun j h1 h2 => by
  obtain ⟨b, h3, h4⟩ := h.2 j h1 h2
  exact ⟨b, h3, tx_ext e _ _ _ h4⟩⟩
theorem c_law (h : Inv G S o M) {k n : Nat} {Q : Option Nat → xH → Prop} (hk : 540 ≤ k) (hn : 1080 ≤ n) (hQ : ∀ S' r, xE S S' → lwP G M S' r → Q r S') : w_X0_law k n S o Q := by
  unfold w_X0_law
  refine ⟨h.O_t, h.O_t, 480, 960, by omega, by omega, c_forceOn h (Nat.le_refl _) (Nat.le_refl _) (fun S' e => ?_)⟩
  have g := h.ext e
  have n17 := h.O_n17
  rw [h.O_c54]
  rcases fO_v M (nI (gN G 4)) (gN G 17) with eb | ⟨a, ha, eb, ef⟩
  · exact wif_y eb (hQ _ _ e ⟨fun _ => rfl, fun j ej hj => absurd (ej.symm.trans eb) (n9_ne (by omega))⟩)
  have ea : (nI a).toNatClampNeg = a := nI_clamp (by omega)
  rw [eb, ea]
  refine wif_n (n9_ne (by omega)) ⟨g.O_t, gA G 0 59, g.R_r59, g.R_t59, by rw [g.R_l59]; exact vp_in_nI (by omega) (by decide), gA G 6 a, g.A_q ha, g.A_T ha, 60, 120, by omega, by omega, c_read (c_AC g ha) (Nat.le_refl _) (Nat.le_refl _) (fun S2 r e2 y z => ?_)⟩
  obtain ⟨b, rfl, tb⟩ := y ef
  refine hQ _ _ (e.trans e2) ⟨fun q => absurd (eb.symm.trans q) (n9_ne (by omega)), fun j ej hj => ?_⟩
  have : a = j := (nI_eq (by omega) (by omega)).mp (eb.symm.trans ej)
  subst this
  exact ⟨b, rfl, tb⟩
theorem c_mayBe (h : Inv G S o M) (hm : m < gN G 5) {r : Option Nat} (hr : lwP G M S r) {Q : Int32 → Prop} (q : Q (zI (mb M (gN G 17) (gN G 4) m v))) : w_X0_mayBe S r (gA G 2 m) (zI v) Q := by
  have n17 := h.O_n17
  unfold w_X0_mayBe
  rcases fO_v M (nI (gN G 4)) (gN G 17) with eb | ⟨a, ha, eb, ef⟩
  · rw [mb, if_pos eb] at q
    exact wif_y (hr.1 eb) q
  · have ea : (nI a).toNatClampNeg = a := nI_clamp (by omega)
    rw [mb, if_neg (by rw [eb]; exact n9_ne (by omega)), eb, ea] at q
    obtain ⟨b, rfl, tb⟩ := hr.2 a eb ha
    refine wif_n (by simp) ⟨b, rfl, c_holds h hm _ _ _ _ tb ?_⟩
    revert q
    cases vT (sgA M a) (cA M a) (te M (gN G 4) m v) 64 0
    · exact fun q => wif_y rfl q
    · exact fun q => wif_n (by decide) q
end
