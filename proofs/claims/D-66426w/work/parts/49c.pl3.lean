/-! PART 49c: plain laws: places in order -/
/-- the place of an element in a list in order is the number of those ahead of it -/
theorem rank_at {α : Type} {lt : α → α → Bool} (irr : ∀ a, lt a a = false) (asy : ∀ a b, lt a b = true → lt b a = false) {s l : List α} (hp : s.Perm l) (hs : s.Pairwise (fun a b => lt a b = true)) {x : α} (hx : x ∈ l) : s[l.countP (fun y => lt y x)]? = some x := by
  obtain ⟨A, B, e⟩ := List.append_of_mem (hp.mem_iff.mpr hx)
  rw [← hp.countP_eq]
  rw [e] at hs
  rw [List.pairwise_append, List.pairwise_cons] at hs
  obtain ⟨-, ⟨hB, -⟩, hAB⟩ := hs
  have c1 : A.countP (fun y => lt y x) = A.length := List.countP_eq_length.mpr (fun a ha => hAB a ha x List.mem_cons_self)
  have c2 : B.countP (fun y => lt y x) = 0 := List.countP_eq_zero.mpr (fun b hb => by rw [asy _ _ (hB b hb)]; decide)
  rw [e, List.countP_append, List.countP_cons, c1, c2, irr]
  simp
theorem rank_sur {α : Type} {lt : α → α → Bool} (irr : ∀ a, lt a a = false) (asy : ∀ a b, lt a b = true → lt b a = false) {s l : List α} (hp : s.Perm l) (hs : s.Pairwise (fun a b => lt a b = true)) {i : Nat} (hi : i < s.length) : ∃ x, x ∈ l ∧ l.countP (fun y => lt y x) = i := by
  have hx : s[i] ∈ l := hp.mem_iff.mp (List.getElem_mem hi)
  refine ⟨s[i], hx, ?_⟩
  have h1 := rank_at irr asy hp hs hx
  obtain ⟨h2, h3⟩ := List.getElem?_eq_some_iff.mp h1
  rcases Nat.lt_trichotomy (l.countP (fun y => lt y s[i])) i with g | g | g
  · have := List.pairwise_iff_getElem.mp hs _ i h2 hi g
    rw [h3, irr] at this
    cases this
  · exact g
  · have := List.pairwise_iff_getElem.mp hs i _ hi h2 g
    rw [h3, irr] at this
    cases this
