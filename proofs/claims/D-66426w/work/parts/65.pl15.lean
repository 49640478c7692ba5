/-! PART 65: plain law: which primitives can be done -/
def sDoF (F : List tFd) (f : tFd) (k p a b : Int32) : Prop :=
  k = 0 ∧ (0 ≤ a ∧ a ≤ 99) ∧ (∀ g ∈ F, g.1 ≠ tbeh 0 p a) ∨
  k = 2 ∧ (∀ g ∈ F, g.1 ≠ p → nin (pnat p) (pnat g.1) = false) ∨
  k = 3 ∧ f.2.1 = 0 ∨
  k = 4 ∧ 2 ≤ cdp (pnat p) ∧ (∀ g ∈ F, g.1 ≠ tbeh 4 p a) ∨
  k = 5 ∧ f.2.1 = 0 ∧ (2 ≤ a ∧ a ≤ 1000) ∧ (0 ≤ b ∧ b ≤ 99) ∧ (∀ g ∈ F, g.1 ≠ tbes p b) ∧ F.length < 24 ∨
  k = 6 ∧ f.2.1 = 0 ∧ (1 ≤ a ∧ a ≤ 1000) ∧ (1 ≤ b ∧ b ≤ 1000) ∧ tii (tfl (a.toInt64 * f.2.2.1.toInt64) b.toInt64) = true ∧ tii (tfl (a.toInt64 * f.2.2.2.toInt64) b.toInt64) = true ∨
  k = 7 ∧ f.2.1 = 0 ∧ a ≠ b ∧ (f.2.2.1 ≤ a ∧ a ≤ f.2.2.2) ∧ (f.2.2.1 ≤ b ∧ b ≤ f.2.2.2) ∨
  k = 8 ∧ f.2.1 = 1
def sDo (F : List tFd) (k p a b c : Int32) : Prop :=
  (cright p = true ∧ p ≠ 0) ∧
  (k = 1 ∧ (∀ f ∈ F, f.1 ≠ p) ∧ fpar F (pnat p) ∧ (0 ≤ a ∧ a ≤ 2) ∧ (a = 2 ∨ b ≤ c) ∧ F.length < 24 ∨
   ¬ k = 1 ∧ ∃ f ∈ F, f.1 = p ∧ sDoF F f k p a b)
theorem cright_nok {p : Int32} : (cright p = true ∧ p ≠ 0) ↔ 0 ≤ p ∧ nok (pnat p) := by
  rw [cright_iff]
  constructor
  · rintro ⟨⟨a, b, c⟩, d⟩
    exact ⟨a, b, c, fun e => d (by rw [pnat_eq a, e]; rfl)⟩
  · rintro ⟨a, b, c, d⟩
    exact ⟨⟨a, b, c⟩, fun e => d (by rw [e]; rfl)⟩
theorem trec_iff {T : List tE} (hn : (tPt T).Nodup) {m : Nat} (hm : nok m) : trec T (nI (npar m)) = true ↔ fpar (T.map tfd) m := by
  unfold trec fpar
  rw [Bool.or_eq_true, decide_eq_true_eq]
  have hlt : npar m < 2 ^ 31 := by have := npar_lt hm; have := hm.1; omega
  have h0 : (nI (npar m) = 0) ↔ npar m = 0 := ⟨fun e => by have := congrArg pnat e; rw [pnat_n hlt] at this; exact this, fun e => by rw [e]; rfl⟩
  rw [h0]
  have : (match tget T (nI (npar m)) with | some e => decide (eS e = 2) | none => false) = true ↔ ∃ g ∈ T.map tfd, g.1 = nI (npar m) ∧ g.2.1 = 2 := by
    unfold tget
    cases hf : T.find? (fun e => decide (eP e = nI (npar m))) with
    | none =>
      rw [List.find?_eq_none] at hf
      constructor
      · intro h; cases h
      · rintro ⟨g, hg, g1, _⟩
        obtain ⟨e, he, rfl⟩ := List.mem_map.mp hg
        exact absurd (decide_eq_true g1) (hf e he)
    | some e =>
      have he := List.mem_of_find?_eq_some hf
      have hp : eP e = nI (npar m) := of_decide_eq_true (List.find?_some (p := fun e => decide (eP e = nI (npar m))) hf)
      simp only [decide_eq_true_eq]
      constructor
      · intro h; exact ⟨tfd e, List.mem_map.mpr ⟨e, he, rfl⟩, hp, h⟩
      · rintro ⟨g, hg, g1, g2⟩
        obtain ⟨e', he', rfl⟩ := List.mem_map.mp hg
        have : e' = e := nd_eq hn he' he (by rw [hp]; exact g1)
        rw [← this]; exact g2
  exact or_congr Iff.rfl this
theorem nd_idx {T : List tE} (hn : (tPt T).Nodup) {i j : Nat} (hi : i < T.length) (hj : j < T.length) (h : eP T[i] = eP T[j]) : j = i := by
  unfold List.Nodup tPt at hn
  rw [List.pairwise_map, List.pairwise_iff_getElem] at hn
  rcases Nat.lt_trichotomy i j with g | g | g
  · exact absurd h (hn i j hi hj g)
  · exact g.symm
  · exact absurd h.symm (hn j i hj hi g)
theorem tfd_all {T : List tE} {P : Int32 → Prop} : (∀ e ∈ T, P (eP e)) ↔ ∀ f ∈ T.map tfd, P f.1 := by
  constructor
  · intro h f hf
    obtain ⟨e, he, rfl⟩ := List.mem_map.mp hf
    exact h e he
  · intro h e he
    exact h (tfd e) (List.mem_map.mpr ⟨e, he, rfl⟩)
theorem tinn_iff {T : List tE} (hV : sV (T.map tfd)) (hn : (tPt T).Nodup) {p : Int32} (hl : tix T p < T.length) (hp : 0 ≤ p ∧ nok (pnat p)) : (!(tinn T (tix T p) p T.length)) = true ↔ ∀ g ∈ T.map tfd, g.1 ≠ p → nin (pnat p) (pnat g.1) = false := by
  unfold tinn
  have key : ∀ e ∈ T, (tcut (eP e) (tdep p) = p) ↔ nin (pnat p) (pnat (eP e)) = true := by
    intro e he
    obtain ⟨e0, eo, _⟩ := hV.1 (tfd e) (List.mem_map.mpr ⟨e, he, rfl⟩)
    have e0 : 0 ≤ eP e := e0
    have eo : nok (pnat (eP e)) := eo
    have h1 : tdep p = nI (cdp (pnat p)) := by rw [pnat_eq hp.1, pnat_n pnat_lt]; exact tdep_n hp.2.2.1 hp.2.1
    have h2 : tcut (eP e) (tdep p) = nI (pnat (eP e) % 128 ^ cdp (pnat p)) := by
      rw [h1]
      conv => lhs; rw [pnat_eq e0]
      exact tcut_n eo.1 hp.2.c.2.1
    rw [h2]
    unfold nin
    rw [decide_eq_true_eq]
    have hlt : pnat (eP e) % 128 ^ cdp (pnat p) < 2 ^ 31 := Nat.lt_of_le_of_lt (Nat.mod_le _ _) pnat_lt
    constructor
    · intro g
      have := congrArg pnat g
      rwa [pnat_n hlt] at this
    · intro g; rw [g]; exact (pnat_eq hp.1).symm
  rw [Bool.not_eq_true', List.any_eq_false]
  constructor
  · intro h g hg hne
    obtain ⟨e, he, rfl⟩ := List.mem_map.mp hg
    obtain ⟨j, hj, rfl⟩ := List.mem_iff_getElem.mp he
    have h1 := h j (List.mem_range.mpr hj)
    have e1 : (T[j]?).getD tdE = T[j] := by rw [List.getElem?_eq_getElem hj]; rfl
    have hjk : j ≠ tix T p := by
      intro z
      apply hne
      show eP T[j] = p
      have := tel_p hl
      rw [tel_eq hl] at this
      simpa [z] using this
    rw [e1] at h1
    simp only [ne_eq, hjk, not_false_eq_true, decide_true, Bool.true_and, decide_eq_true_eq] at h1
    rcases hh : nin (pnat p) (pnat (tfd T[j]).1) with _ | _
    · rfl
    · exact absurd ((key _ he).mpr hh) h1
  · intro h j hj
    have hj := List.mem_range.mp hj
    have e1 : (T[j]?).getD tdE = T[j] := by rw [List.getElem?_eq_getElem hj]; rfl
    rw [e1]
    intro g
    rw [Bool.and_eq_true, decide_eq_true_eq, decide_eq_true_eq] at g
    have he : T[j] ∈ T := List.getElem_mem hj
    have hne : eP T[j] ≠ p := by
      intro z
      apply g.1
      have a := tel_of hn he
      rw [z, tel_eq hl] at a
      exact (nd_idx hn hl hj (by rw [a]))
    have := h (tfd T[j]) (List.mem_map.mpr ⟨_, he, rfl⟩) hne
    rw [show (tfd T[j]).1 = eP T[j] from rfl, (key _ he).mp g.2] at this
    cases this
theorem a99 {a : Int32} : (0 ≤ a ∧ a ≤ 99) ↔ (0 ≤ a ∧ a < 100) := by
  rw [Int32.le_iff_toInt_le, Int32.le_iff_toInt_le, Int32.lt_iff_toInt_lt]
  have e1 : (99 : Int32).toInt = 99 := by decide
  have e2 : (100 : Int32).toInt = 100 := by decide
  omega
/-- the reference's answer, the order apart -/
theorem tcd_iff {T : List tE} (hV : sV (T.map tfd)) (hn : (tPt T).Nodup) {k p a b c : Int32} (hk : 0 ≤ k ∧ k ≤ 8) : tcd T k p a b c = true ↔ sDo (T.map tfd) k p a b c := by
  have h24 : T.length ≤ 24 := by simpa using hV.2.2.1
  have fnd : ∀ q, tfnd T q < 0 ↔ ∀ g ∈ T.map tfd, g.1 ≠ q := fun q => by rw [tfnd_neg (by omega)]; exact tfd_all (P := fun x => x ≠ q)
  unfold tcd sDo
  by_cases c1 : k = 1
  · rw [if_pos c1]
    unfold tca
    rw [Bool.and_eq_true, Bool.and_eq_true, Bool.and_eq_true, Bool.and_eq_true, decide_eq_true_eq, decide_eq_true_eq, decide_eq_true_eq, decide_eq_true_eq, tdep_pos, fnd]
    constructor
    · rintro ⟨⟨⟨⟨h1, h2⟩, h3⟩, h4⟩, h5⟩
      obtain ⟨p0, po⟩ := cright_nok.mp h1
      refine ⟨h1, Or.inl ⟨c1, h3, ?_, ⟨h4.1, h4.2.1⟩, h4.2.2, by simpa using h5⟩⟩
      rw [pnat_eq p0, tpar_n po.1 po.2.1 po.2.2] at h2
      exact (trec_iff hn po).mp h2
    · rintro ⟨h1, ⟨_, h3, h2, h4, h5, h6⟩ | ⟨h, _⟩⟩
      · obtain ⟨p0, po⟩ := cright_nok.mp h1
        refine ⟨⟨⟨⟨h1, ?_⟩, h3⟩, h4.1, h4.2, h5⟩, by simpa using h6⟩
        rw [pnat_eq p0, tpar_n po.1 po.2.1 po.2.2]
        exact (trec_iff hn po).mpr h2
      · exact absurd c1 h
  rw [if_neg c1]
  by_cases cp : cright p = true ∧ p ≠ 0
  rotate_left
  · rw [if_pos (Or.inl (by rw [← tdep_pos] at cp; exact Int32.not_lt.mp cp))]
    constructor
    · intro h; cases h
    · rintro ⟨h, _⟩; exact absurd h cp
  obtain ⟨p0, po⟩ := cright_nok.mp cp
  have hd : ¬ tdep p ≤ 0 := Int32.not_le.mpr (tdep_pos.mpr cp)
  by_cases hf : tfnd T p < 0
  · rw [if_pos (Or.inr hf)]
    constructor
    · intro h; cases h
    · rintro ⟨_, ⟨h, _⟩ | ⟨_, f, hf', h1, _⟩⟩
      · exact absurd h c1
      · exact absurd h1 ((fnd p).mp hf f hf')
  rw [if_neg (by rintro (g | g); exact hd g; exact hf g)]
  have hl : tix T p < T.length := by
    apply tix_ex.mpr
    apply Classical.byContradiction
    intro g
    exact hf ((fnd p).mpr ((tfd_all (P := fun x => x ≠ p)).mp (fun e he h => g ⟨e, he, h⟩)))
  have he := tel_mem hl
  have hp := tel_p hl
  have hfm : tfd (tel T p) ∈ T.map tfd := List.mem_map.mpr ⟨_, he, rfl⟩
  have uniq : ∀ f ∈ T.map tfd, f.1 = p → f = tfd (tel T p) := fun f hf g => fd_eq hV.2.1 hf hfm (by rw [g]; exact hp.symm)
  have red : ((cright p = true ∧ p ≠ 0) ∧ (k = 1 ∧ (∀ f ∈ T.map tfd, f.1 ≠ p) ∧ fpar (T.map tfd) (pnat p) ∧ (0 ≤ a ∧ a ≤ 2) ∧ (a = 2 ∨ b ≤ c) ∧ (T.map tfd).length < 24 ∨ ¬ k = 1 ∧ ∃ f ∈ T.map tfd, f.1 = p ∧ sDoF (T.map tfd) f k p a b)) ↔ sDoF (T.map tfd) (tfd (tel T p)) k p a b := by
    constructor
    · rintro ⟨_, ⟨h, _⟩ | ⟨_, f, hf', h1, h2⟩⟩
      · exact absurd h c1
      · rw [← uniq f hf' h1]; exact h2
    · intro h; exact ⟨cp, Or.inr ⟨c1, _, hfm, hp, h⟩⟩
  rw [red]
  have hcd : (1 < tdep p) ↔ 2 ≤ cdp (pnat p) := by
    rw [pnat_eq p0, tdep_n po.2.1 po.1, pnat_n pnat_lt, Int32.lt_iff_toInt_lt, nI_toInt (by have := po.c; omega)]
    have : (1 : Int32).toInt = 1 := by decide
    omega
  have hlen : (T.map tfd).length = T.length := List.length_map _
  unfold sDoF
  rcases k_rng hk with rfl | rfl | rfl | rfl | rfl | rfl | rfl | rfl | rfl
  · simp [fnd]
  · exact absurd rfl c1
  · have := tinn_iff hV hn hl ⟨p0, po⟩
    rw [if_neg (by decide), if_pos rfl, this]
    simp
  · simp [tfd]
  · simp [fnd, hcd]
  · simp [fnd, tfd, and_assoc]
  · simp [tfd, and_assoc]
  · simp [tfd, and_assoc]
  · simp [tfd]
