set_option maxRecDepth 100000
theorem nI_div {a b : Nat} (ha : a < 2 ^ 31) (hb : b < 2 ^ 31) : nI a / nI b = nI (a / b) := by
  have hd : a / b ≤ a := Nat.div_le_self a b
  refine Int32.toInt_inj.mp ?_
  rw [Int32.toInt_div, nI_toInt ha, nI_toInt hb, nI_toInt (by omega), Int.tdiv_eq_ediv_of_nonneg (by omega)]
  show Int.bmod ((a : Int) / (b : Int)) (2 ^ 32) = _
  rw [← Int.natCast_ediv]
  generalize a / b = d at *
  exact Int.bmod_eq_of_le (by omega) (by omega)
theorem nI_mod {a b : Nat} (ha : a < 2 ^ 31) (hb : b < 2 ^ 31) : nI a - nI a / nI b * nI b = nI (a % b) := by
  rw [nI_div ha hb, pk_mul]
  have e : a / b * b ≤ a := Nat.div_mul_le_self a b
  rw [pk_sub e]
  congr 1
  have := Nat.div_add_mod a b
  rw [Nat.mul_comm] at this
  omega
/-- what meet asks of the model -/
def mW (M : xM) (T : Nat → Nat) (D : Nat → Nat → Nat) (n : Nat) : Prop := M1 M 1 = nI n ∧ 1 ≤ n ∧ n ≤ 8 ∧ (∀ a b, a < 8 → b < 8 → M2 M 3 (8 * a + b) = nI (D a b)) ∧ (∀ s, s < 8 → M2 M 27 s = nI (T s)) ∧ (∀ s, T s ≤ 40) ∧ (∀ a b, D a b ≤ 100)
noncomputable def vlu (T : Nat → Nat) (D : Nat → Nat → Nat) (n h g c : Nat) : Int32 := @ite _ (wlk D h (dig n (g * h) c) (g * h)) (Classical.propDecidable _) (nI (mtf T D n h g (dig n (g * h) c))) (-9)
theorem vlu_y {T : Nat → Nat} {D : Nat → Nat → Nat} {n h g c : Nat} (q : wlk D h (dig n (g * h) c) (g * h)) : vlu T D n h g c = nI (mtf T D n h g (dig n (g * h) c)) := by rw [vlu, if_pos q]
theorem vlu_n {T : Nat → Nat} {D : Nat → Nat → Nat} {n h g c : Nat} (q : ¬ wlk D h (dig n (g * h) c) (g * h)) : vlu T D n h g c = -9 := by rw [vlu, if_neg q]
/-- how the model keeps in which step a street was met -/
def enc (h : Nat) (mi : Nat → Nat) (s : Nat) : Int32 := if mi s = h then -9 else nI (mi s)
section
variable {M : xM} {T : Nat → Nat} {D : Nat → Nat → Nat} {n g h c : Nat}
theorem dig_lt {N L c k : Nat} (h : 1 ≤ N) : dig N L c k < N := Nat.mod_lt _ h
theorem m_meet (w : mW M T D n) (hg1 : 1 ≤ g) (hg : g ≤ 2) (hh1 : 1 ≤ h) (hh : h ≤ 3) (hc : c < 2 ^ 31) {Q : Int32 → xM → Prop} (q : ∀ W A, (∀ k, k < g * h → W k = nI (dig n (g * h) c k)) → Q (vlu T D n h g c) (mF (mF M 28 W) 29 A)) : w_X1_meet M (nI c) (nI g) (nI h) Q := by
  obtain ⟨d1, n1, n8, hD, hT, T40, D100⟩ := w
  have hL : g * h ≤ 6 := Nat.le_trans (Nat.mul_le_mul hg hh) (by decide)
  have hL1 : 1 ≤ g * h := Nat.mul_pos hg1 hh1
  unfold w_X1_meet
  rw [nm_eq, pk_mul]
  generalize eL : g * h = L at *
  refine lf3_u L (fun i r k M' => r = nI (c / n ^ i) ∧ k = nI (L - i) + -1 ∧ ∃ W, M' = mF M 28 W ∧ ∀ k, L - i ≤ k → k < L → W k = nI (dig n L c k)) ?_ _ _ _ ⟨by rw [Nat.pow_zero, Nat.div_one], by rw [Int32.sub_eq_add_neg]; rfl, M2 M 28, mF_self.symm, fun k h1 h2 => by omega⟩
  rintro P i r k M' hi ⟨rfl, rfl, W, rfl, hW⟩ hP
  by_cases el : i = L
  · subst el
    rw [Nat.sub_self] at hW
    clear hP
    refine wif_y (by rw [Nat.sub_self]; decide) ?_
    have hWk : ∀ k, k < i → W k = nI (dig n i c k) := fun k hk => hW k (Nat.zero_le _) hk
    have dl : ∀ k, dig n i c k < n := fun k => dig_lt n1
    refine lf1_u i (fun j x => x = nI j ∧ wlk D h (dig n i c) j) ?_ _ ⟨rfl, fun k hk => absurd hk (Nat.not_lt_zero k)⟩
    rintro P j x hj ⟨rfl, wl⟩ hP
    by_cases ej : j = i
    · subst ej
      clear hP
      refine wif_y (Int32.le_refl _) ?_
      have fin : ∀ A, Q (nI (mtf T D n h g (dig n j c))) (mF (mF M 28 W) 29 A) := fun A => by
        have q0 := q W A hWk
        rw [vlu_y (by rw [eL]; exact wl), eL] at q0
        exact q0
      clear q
      refine lf2_u 8 (fun i x M' => x = nI i ∧ ∃ A, M' = mF (mF M 28 W) 29 A ∧ ∀ s, s < i → A s = -9) ?_ _ _ ⟨rfl, M2 (mF M 28 W) 29, mF_self.symm, fun s hs => absurd hs (Nat.not_lt_zero s)⟩
      rintro P i x M' hi ⟨rfl, A, rfl, hA⟩ hP
      by_cases ei : i = 8
      · subst ei
        clear hP
        refine wif_y (Int32.le_refl _) ?_
        refine lf3_u h (fun st x y M' => x = nI (js T D n h g (dig n j c) st).1 ∧ y = nI st ∧ ∃ A, M' = mF (mF M 28 W) 29 A ∧ ∀ s, s < 8 → A s = enc h (js T D n h g (dig n j c) st).2 s) ?_ _ _ _ ⟨rfl, rfl, A, rfl, fun s hs => by rw [hA s hs, enc, js, if_pos rfl]⟩
        rintro P st x y M' hst ⟨rfl, rfl, A, rfl, hA⟩ hP
        by_cases es : st = h
        · subst es
          exact wif_y (Int32.le_refl _) (fin A)
        have hls : st < h := by omega
        refine wif_n (nI_ge hls (by omega)) ?_
        have jok0 := js_ok (T := T) (D := D) (N := n) (h := h) (gs := g) (f := dig n j c) st (by omega) (fun _ _ _ _ => dl _)
        refine lf3_u g (fun k x z M' => x = nI (jg T D n h (dig n j c) st (js T D n h g (dig n j c) st) k).1 ∧ z = nI k ∧ ∃ A, M' = mF (mF M 28 W) 29 A ∧ ∀ s, s < 8 → A s = enc h (jg T D n h (dig n j c) st (js T D n h g (dig n j c) st) k).2 s) ?_ _ _ _ ⟨rfl, rfl, A, rfl, hA⟩
        rintro P2 k x z M' hk ⟨rfl, rfl, A2, rfl, hA2⟩ hP2
        by_cases ek : k = g
        · subst ek
          exact wif_y (Int32.le_refl _) (hP _ _ _ hls ⟨by rw [js], nI_1 st, A2, rfl, fun s hs => by rw [hA2 s hs, js]⟩)
        have hlk : k < g := by omega
        refine wif_n (nI_ge hlk (by omega)) ?_
        have jok1 := jg_ok (D := D) (f := dig n j c) jok0 hls k (fun _ _ => dl _)
        have hidx : k * h + st < j := by
          have : (k + 1) * h ≤ g * h := Nat.mul_le_mul_right h hlk
          rw [Nat.succ_mul, eL] at this
          omega
        have nxt : jg T D n h (dig n j c) st (js T D n h g (dig n j c) st) (k + 1) = j1 T D n h st (dig n j c (k * h + st)) (jg T D n h (dig n j c) st (js T D n h g (dig n j c) st) k) := by rw [jg]
        rw [nxt] at hP2
        clear nxt
        have hs8 := dl (k * h + st)
        generalize jg T D n h (dig n j c) st (js T D n h g (dig n j c) st) k = a at *
        rw [pk_mul, nI_add, nI_clamp (show k * h + st < 2 ^ 31 by omega), nm_eq, mF_ne (show ¬ 28 = 29 by decide), mF_at, hWk _ hidx]
        generalize dig n j c (k * h + st) = s at *
        refine ⟨vp_in_nI (by omega) (by decide), vp_in_nI (by omega) (by decide), ?_⟩
        rw [nI_clamp (show s < 2 ^ 31 by omega)]
        have e27 : M2 (mF (mF M 28 W) 29 A2) 27 s = nI (T s) := by rw [mF_ne (by decide), mF_ne (by decide)]; exact hT s (by omega)
        have tb := T40 s
        rw [e27, mF_at]
        refine jn_i (fun v => (v = 1 ∧ a.2 s = h ∧ 0 < T s) ∨ (v = 0 ∧ ¬ (a.2 s = h ∧ 0 < T s))) (fun v hv => ?_) (fun J hJ => ?_)
        · refine lf2_u n (fun t x y => y = nI t ∧ ((x = 1 ∧ (a.2 s = h ∧ 0 < T s) ∧ ∀ u, u < t → ¬ (a.2 u < st ∧ D u s ≤ st - a.2 u)) ∨ (x = 0 ∧ ¬ jmay T D n h a.2 s st))) ?_ _ _ ⟨rfl, ?_⟩
          · rintro P3 t x y ht ⟨rfl, hx⟩ hP3
            rw [M1_mF, M1_mF, d1]
            by_cases et : t = n
            · rw [et] at hx ⊢
              clear hP3
              refine wif_y (Int32.le_refl _) ?_
              refine jn2_i (fun x5 M' => x5 = nI (j1 T D n h st s a).1 ∧ ∃ A, M' = mF (mF M 28 W) 29 A ∧ ∀ s', s' < 8 → A s' = enc h (j1 T D n h st s a).2 s') (fun x5 M' hx5 => hP2 _ _ _ hlk ⟨hx5.1, nI_1 k, hx5.2⟩) (fun J hJ => ?_)
              rcases hx with ⟨rfl, c0, al⟩ | ⟨rfl, nj⟩
              · have jm : jmay T D n h a.2 s st := ⟨c0.1, c0.2, fun ⟨u, hu, h1, h2⟩ => al u hu ⟨h1, h2⟩⟩
                refine wif_n (by decide) ⟨vp_in_nI (by omega) (by decide), ?_⟩
                rw [j1_y jm] at hJ
                rw [nm_eq, nm_eq, m2_mF, mF_ne (show ¬ 27 = 29 by decide), mF_ne (show ¬ 27 = 28 by decide), hT s (by omega), nI_add]
                refine ⟨vp_in_nI (by omega) (by decide), hJ _ _ ⟨rfl, _, rfl, fun s' hs' => ?_⟩⟩
                show (if s' = s then nI st else A2 s') = (if (if s' = s then st else a.2 s') = h then -9 else nI (if s' = s then st else a.2 s'))
                by_cases e : s' = s
                · rw [if_pos e, if_pos e, if_neg (by omega)]
                · rw [if_neg e, if_neg e]; exact hA2 s' hs'
              · rw [j1_n nj] at hJ
                exact wif_y rfl (hJ _ _ ⟨rfl, A2, rfl, hA2⟩)
            · have hlt : t < n := by omega
              refine wif_n (nI_ge hlt (by omega)) ?_
              refine jn_i (fun v => (v = 1 ∧ (a.2 s = h ∧ 0 < T s) ∧ ∀ u, u < t + 1 → ¬ (a.2 u < st ∧ D u s ≤ st - a.2 u)) ∨ (v = 0 ∧ ¬ jmay T D n h a.2 s st)) (fun v hv => hP3 _ _ hlt ⟨nI_1 t, hv⟩) (fun J hJ => ?_)
              refine jn0_c (¬ jmay T D n h a.2 s st) (fun cc => hJ 0 (Or.inr ⟨rfl, cc⟩)) (fun K hK => ?_)
              rcases hx with ⟨rfl, c0, al⟩ | ⟨rfl, nj⟩
              · refine wif_n (by decide) ⟨vp_in_nI (by omega) (by decide), ?_⟩
                have up : ¬ (a.2 t < st ∧ D t s ≤ st - a.2 t) → J 1 := fun z => hJ 1 (Or.inl ⟨rfl, c0, fun u hu => by
                  by_cases e : u = t
                  · rw [e]; exact z
                  · exact al u (by omega)⟩)
                refine jn0_c (¬ (a.2 t < st ∧ D t s ≤ st - a.2 t)) up (fun K2 hK2 => ?_)
                rw [nI_clamp (show t < 2 ^ 31 by omega), hA2 t (by omega)]
                by_cases e9 : a.2 t = h
                · exact wif_y (by rw [enc, if_pos e9]) (hK2 (fun z => by omega))
                · have le := (jok1.1 t).resolve_right e9
                  rw [enc, if_neg e9]
                  refine wif_n (n9_ne (by omega)) ⟨vp_in_nI (by omega) (by decide), ?_⟩
                  by_cases e10 : a.2 t = st
                  · exact wif_y (by rw [e10]) (hK2 (fun z => by omega))
                  · refine wif_n (fun z => e10 ((nI_eq (by omega) (by omega)).mp z)) ⟨vp_in_nI (by omega) (by decide), ?_⟩
                    rw [im8, nI_add, nI_clamp (show 8 * t + s < 2 ^ 31 by omega), mF_ne (show ¬ 3 = 29 by decide), mF_ne (show ¬ 3 = 28 by decide), hD t s (by omega) (by omega), pk_sub le]
                    have dd := D100 t s
                    refine ⟨vp_in_nI (by omega) (by decide), ?_⟩
                    by_cases z1 : D t s ≤ st - a.2 t
                    · exact wif_y ((nI_leI (by omega) (by omega)).mpr z1) (hK (fun jm => jm.2.2 ⟨t, hlt, by omega, z1⟩))
                    · exact wif_n (fun z => z1 ((nI_leI (by omega) (by omega)).mp z)) (hK2 (fun z => z1 z.2))
              · exact wif_y rfl (hK nj)
          · rcases hv with ⟨rfl, c0⟩ | ⟨rfl, c0⟩
            · exact Or.inl ⟨rfl, c0, fun u hu => absurd hu (Nat.not_lt_zero u)⟩
            · exact Or.inr ⟨rfl, fun jm => c0 ⟨jm.1, jm.2.1⟩⟩
        · refine jn0_c (¬ (a.2 s = h ∧ 0 < T s)) (fun cc => hJ 0 (Or.inr ⟨rfl, cc⟩)) (fun K hK => ?_)
          by_cases z0 : 0 < T s
          · refine wif_n (fun z => by have := (lek_0 (by omega)).mp z; omega) ⟨vp_in_nI (by omega) (by decide), ?_⟩
            rw [hA2 s (by omega)]
            by_cases z1 : a.2 s = h
            · exact wif_y (by rw [enc, if_pos z1]) (hJ 1 (Or.inl ⟨rfl, z1, z0⟩))
            · have le := (jok1.1 s).resolve_right z1
              exact wif_n (by rw [enc, if_neg z1]; exact n9_ne (by omega)) (hK (fun z => z1 z.1))
          · exact wif_y ((lek_0 (by omega)).mpr (by omega)) (hK (fun z => z0 z.2))
      · have hl : i < 8 := by omega
        refine wif_n (fun z => ei (by have := (kle_8 (by omega)).mp z; omega)) ⟨vp_in_nI hl (by decide), ?_⟩
        rw [nm_eq, m2_mF, nI_clamp (show i < 2 ^ 31 by omega)]
        refine hP _ _ hl ⟨nI_1 i, _, rfl, fun s hs => ?_⟩
        show (if s = i then _ else A s) = _
        by_cases e : s = i
        · rw [if_pos e]
        · rw [if_neg e]; exact hA s (by omega)
    · have hlj : j < i := by omega
      refine wif_n (nI_ge hlj (by omega)) ⟨nI_ne0 hh1 (by omega), ?_⟩
      refine jn0_c (wlk D h (dig n i c) (j + 1)) (fun cc => hP _ hlj ⟨nI_1 j, cc⟩) (fun K hK => ?_)
      have ext : (j % h = 0 ∨ D (dig n i c (j - 1)) (dig n i c j) ≤ 1) → wlk D h (dig n i c) (j + 1) := fun z k hk => by
        by_cases e : k = j
        · subst e; exact z
        · exact wl k (by omega)
      rw [nI_mod (by omega) (by omega)]
      have hm : j % h < h := Nat.mod_lt _ hh1
      by_cases z0 : j % h = 0
      · exact wif_y (by rw [z0]; decide) (hK (ext (Or.inl z0)))
      · refine wif_n (fun z => z0 (by have := (lek_0 (by omega)).mp z; omega)) ?_
        obtain ⟨p, rfl⟩ : ∃ p, j = p + 1 := ⟨j - 1, by rcases Nat.eq_zero_or_pos j with z | z; rw [z] at z0; exact absurd (Nat.zero_mod h) z0; omega⟩
        have a1 := dl p
        have a2 := dl (p + 1)
        rw [k1_1, nI_clamp (show p < 2 ^ 31 by omega), nI_clamp (show p + 1 < 2 ^ 31 by omega), mF_at, hWk p (by omega), hWk (p + 1) (by omega), im8, nI_add, nI_clamp (by omega), mF_ne (by decide), hD _ _ (by omega) (by omega)]
        refine ⟨vp_in_nI (by omega) (by decide), vp_in_nI (by omega) (by decide), vp_in_nI (by omega) (by decide), ?_⟩
        have dd := D100 (dig n i c p) (dig n i c (p + 1))
        by_cases z1 : D (dig n i c p) (dig n i c (p + 1)) ≤ 1
        · exact wif_y ((lek_1 (by omega)).mpr z1) (hK (ext (Or.inr z1)))
        · refine wif_n (fun z => z1 ((lek_1 (by omega)).mp z)) ?_
          have q0 := q W (M2 (mF M 28 W) 29) hWk
          rw [mF_self, vlu_n (by rw [eL]; exact fun z => by rcases z (p + 1) hlj with z | z; exact z0 z; exact z1 z)] at q0
          exact q0
  · obtain ⟨p, hp⟩ : ∃ p, L - i = p + 1 := ⟨L - i - 1, by omega⟩
    have hcd : c / n ^ i ≤ c := Nat.div_le_self _ _
    rw [hp, k1_0]
    refine wif_n (kneg (by omega)) ?_
    rw [M1_mF, d1]
    refine ⟨nI_ne0 n1 (by omega), vp_in_nI (by omega) (by decide), ?_⟩
    rw [nm_eq, nm_eq, nI_clamp (show p < 2 ^ 31 by omega), nI_mod (by omega) (by omega), m2_mF, M1_mF, d1, nI_div (by omega) (by omega)]
    refine ⟨nI_ne0 n1 (by omega), hP _ _ _ (by omega) ⟨by rw [Nat.div_div_eq_div_mul, ← Nat.pow_succ], by rw [show L - (i + 1) = p by omega], _, rfl, fun k h1 h2 => ?_⟩⟩
    show (if k = p then _ else W k) = _
    by_cases e : k = p
    · rw [if_pos e, dig, show L - 1 - k = i by omega]
    · rw [if_neg e]
      exact hW k (by omega) h2
end
