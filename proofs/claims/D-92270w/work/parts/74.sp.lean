set_option maxRecDepth 100000
/-! ===== the model is taken out of the heap, to stand beside it ===== -/
/-- S without the model -/
def wo (S : xH) (mo : Nat) (Aa : Nat → Nat) : xH := (fun a => if (mo :: xm_ks.map Aa).any (fun b => a == b) = true then 0 else xT S a, xL S, xI S, xR S, xA S, xQ S)
theorem wo_T {S : xH} {mo : Nat} {Aa : Nat → Nat} {a : Nat} (h : xT (wo S mo Aa) a ≠ 0) : ¬ (mo :: xm_ks.map Aa).any (fun b => a == b) = true ∧ xT (wo S mo Aa) a = xT S a := by
  by_cases e : (mo :: xm_ks.map Aa).any (fun b => a == b) = true
  · exact absurd (show (if (mo :: xm_ks.map Aa).any (fun b => a == b) = true then 0 else xT S a) = 0 from if_pos e) h
  · exact ⟨e, if_neg e⟩
theorem any_i {l : List Nat} {a : Nat} : l.any (fun b => a == b) = true ↔ a ∈ l := by
  rw [List.any_eq_true]
  constructor
  · rintro ⟨b, hb, e⟩
    have : a = b := by simpa using e
    rw [this]; exact hb
  · intro h
    exact ⟨a, h, by simp⟩
theorem wo_E {S S' : xH} {mo : Nat} {Aa : Nat → Nat} (e : xE S S') (h0 : xT S mo = 0) (hk : ∀ k, k ∈ xm_ks → xT S (Aa k) = 0) : xE S (wo S' mo Aa) := fun a ha => by
  have n : ¬ (mo :: xm_ks.map Aa).any (fun b => a == b) = true := fun z => by
    rcases List.mem_cons.mp (any_i.mp z) with z | z
    · exact ha (by rw [z]; exact h0)
    · obtain ⟨k, k1, k2⟩ := List.mem_map.mp z
      exact ha (by rw [← k2]; exact hk k k1)
  obtain ⟨q1, q2, q3, q4, q5, q6⟩ := e a ha
  exact ⟨(show (if (mo :: xm_ks.map Aa).any (fun b => a == b) = true then 0 else xT S' a) = xT S a by rw [if_neg n]; exact q1), q2, q3, q4, q5, q6⟩
theorem fl_2 : x_fl 2 = (List.range 39).map (fun k => (decide (¬ xm_tag k = 0), 100 + k)) := by decide +kernel
theorem ks_in : ∀ k, k < 39 → ¬ xm_tag k = 0 → k ∈ xm_ks := by decide +kernel
theorem tg_b : ∀ k, k ∈ xm_ks → 100 < xm_tag k := by decide +kernel
theorem x_split {D : va_G} {d : Nat → ClassId} {A : Nat → Prop} {S0 S : xH} {H : Heap} {mo : Nat} {Aa : Nat → Nat} (hR : x_Rp D d A [] S H) (m : mdl S0 S mo Aa) : x_Rp D d A (x_mc d mo Aa M0) (wo S mo Aa) H := by
  obtain ⟨ws, hP, hD, hW⟩ := hR
  rw [List.nil_append] at hP hD
  obtain ⟨t2, mi, mk, nd, ne, -⟩ := m
  have cm : x_cell d S mo = .inr (1, x_mfs Aa M0) := by
    rw [x_cell_o (ci := 1) t2 (by decide)]
    refine congrArg (fun z => Sum.inr (1, z)) ?_
    show (x_fl 2).map (x_fv S mo) = x_mfs Aa M0
    rw [fl_2, List.map_map]
    unfold x_mfs
    refine List.map_congr_left (fun k hk => ?_)
    have hk := List.mem_range.mp hk
    show x_fv S mo (decide (¬ xm_tag k = 0), 100 + k) = _
    unfold x_fv
    by_cases z : xm_tag k = 0
    · rw [if_neg (by simp [z]), if_pos z, mi k hk z]
    · rw [if_pos (by simp [z]), if_neg z]
      show va_rf (xR S (100 + k) mo) = _
      rw [(mk k (ks_in k hk z)).1]
      rfl
  have ck : ∀ k, k ∈ xm_ks → x_cell d S (Aa k) = .inl (d (xm_tag k), xm_len k, .inl (M2 M0 k)) := fun k hk => by
    obtain ⟨_, k2, k3, k4, _⟩ := mk k hk
    rw [x_cell_p k2 (tg_b k hk) (tg_le k hk), k3, k4]
    rfl
  have inw : ∀ q, q ∈ x_mc d mo Aa M0 → q ∈ ws := fun q hq => by
    unfold x_mc at hq
    rcases List.mem_cons.mp hq with rfl | hq
    · obtain ⟨k, hk⟩ := hW mo (by rw [t2]; decide)
      rw [cm] at hk
      exact List.mem_of_getElem? hk
    · obtain ⟨k, k1, rfl⟩ := List.mem_map.mp hq
      obtain ⟨j, hj⟩ := hW (Aa k) (by rw [(mk k k1).2.1]; have := tg_b k k1; omega)
      rw [ck k k1] at hj
      exact List.mem_of_getElem? hj
  have pw : List.Pairwise (fun p q : Nat × va_E => p.1 ≠ q.1) ws := by
    rw [List.pairwise_iff_getElem]
    intro i j hi hj hij e
    have := hD.1 i j _ _ (List.getElem?_eq_getElem hi) (List.getElem?_eq_getElem hj) e
    omega
  have fst : (x_mc d mo Aa M0).map Prod.fst = mo :: xm_ks.map Aa := by
    unfold x_mc
    rw [List.map_cons, List.map_map]
    rfl
  let f : Nat × va_E → Bool := fun q => !(mo :: xm_ks.map Aa).any (fun b => q.1 == b)
  have sub : ∀ q, q ∈ x_mc d mo Aa M0 ++ ws.filter f → q ∈ ws := fun q hq => by
    rcases List.mem_append.mp hq with z | z
    · exact inw q z
    · exact (List.mem_filter.mp z).1
  have pm : List.Pairwise (fun p q : Nat × va_E => p.1 ≠ q.1) (x_mc d mo Aa M0) := by
    have : List.Pairwise (fun p q : Nat => p ≠ q) ((x_mc d mo Aa M0).map Prod.fst) := by
      rw [fst]
      refine List.pairwise_cons.mpr ⟨fun a ha e => ?_, nd⟩
      obtain ⟨k, k1, k2⟩ := List.mem_map.mp ha
      exact ne k k1 (k2.trans e.symm)
    exact List.pairwise_map.mp this
  have pa : List.Pairwise (fun p q : Nat × va_E => p.1 ≠ q.1) (x_mc d mo Aa M0 ++ ws.filter f) := by
    refine List.pairwise_append.mpr ⟨pm, List.Pairwise.filter f pw, fun p hp q hq e => ?_⟩
    have h1 := (List.mem_filter.mp hq).2
    have h2 : p.1 ∈ mo :: xm_ks.map Aa := by rw [← fst]; exact List.mem_map_of_mem hp
    rw [e] at h2
    have h3 := any_i.mpr h2
    have h4 : (!(mo :: xm_ks.map Aa).any (fun b => q.1 == b)) = true := h1
    rw [h3] at h4
    exact absurd h4 (by decide)
  refine ⟨ws.filter f, fun k q hq => ?_, ⟨fun i j p q hi hj e => ?_, fun k q hq => ?_⟩, fun a ha => ?_⟩
  · obtain ⟨j, hj⟩ := List.getElem?_of_mem (sub q (List.mem_of_getElem? hq))
    exact hP j q hj
  · obtain ⟨hi1, hi2⟩ := List.getElem?_eq_some_iff.mp hi
    obtain ⟨hj1, hj2⟩ := List.getElem?_eq_some_iff.mp hj
    rw [List.pairwise_iff_getElem] at pa
    rcases Nat.lt_trichotomy i j with z | z | z
    · exact absurd (by rw [hi2, hj2]; exact e) (pa i j hi1 hj1 z)
    · exact z
    · exact absurd (by rw [hi2, hj2]; exact e.symm) (pa j i hj1 hi1 z)
  · obtain ⟨j, hj⟩ := List.getElem?_of_mem (sub q (List.mem_of_getElem? hq))
    exact hD.2 j q hj
  · obtain ⟨n, eT⟩ := wo_T ha
    obtain ⟨k, hk⟩ := hW a (by rw [← eT]; exact ha)
    have ec : x_cell d (wo S mo Aa) a = x_cell d S a := x_cell_eq eT rfl (fun _ => rfl) (fun _ => rfl) rfl rfl
    rw [ec]
    refine List.getElem?_of_mem (List.mem_filter.mpr ⟨List.mem_of_getElem? hk, ?_⟩)
    show (!(mo :: xm_ks.map Aa).any (fun b => a == b)) = true
    rw [eq_false_of_ne_true n]
    rfl
