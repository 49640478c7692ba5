/-! PART 59: plain law: tables -/
/-- the paths of a table -/
abbrev tPt (T : List tE) : List Int32 := T.map (fun e => eP e)
theorem tix_ex {T : List tE} {p : Int32} : tix T p < T.length ↔ ∃ e ∈ T, eP e = p := by
  unfold tix
  rw [List.findIdx_lt_length]
  simp
theorem nd_eq {T : List tE} (hn : (tPt T).Nodup) {e e' : tE} (h : e ∈ T) (h' : e' ∈ T) (g : eP e = eP e') : e = e' := by
  induction T with
  | nil => cases h
  | cons x t ih =>
    have hn : eP x ∉ t.map (fun e => eP e) ∧ (tPt t).Nodup := List.nodup_cons.mp hn
    rcases List.mem_cons.mp h with z | z <;> rcases List.mem_cons.mp h' with z' | z'
    · rw [z, z']
    · exact absurd (by rw [← z, g]; exact List.mem_map.mpr ⟨e', z', rfl⟩) hn.1
    · exact absurd (by rw [← z', ← g]; exact List.mem_map.mpr ⟨e, z, rfl⟩) hn.1
    · exact ih hn.2 z z'
theorem tel_of {T : List tE} (hn : (tPt T).Nodup) {e : tE} (h : e ∈ T) : tel T (eP e) = e := by
  have hl : tix T (eP e) < T.length := tix_ex.mpr ⟨e, h, rfl⟩
  have hp : eP (tel T (eP e)) = eP e := by
    rw [tel_eq hl]
    exact of_decide_eq_true (List.findIdx_getElem (p := fun e' => decide (eP e' = eP e)) (w := hl))
  exact nd_eq hn (tel_mem hl) h hp
theorem tel_p {T : List tE} {p : Int32} (hl : tix T p < T.length) : eP (tel T p) = p := by
  rw [tel_eq hl]
  exact of_decide_eq_true (List.findIdx_getElem (p := fun e => decide (eP e = p)) (w := hl))
theorem tfnd_neg {T : List tE} {p : Int32} (h24 : T.length ≤ 25) : tfnd T p < 0 ↔ ∀ e ∈ T, eP e ≠ p := by
  constructor
  · intro h e he hp
    have hl : tix T p < T.length := tix_ex.mpr ⟨e, he, hp⟩
    rw [tix_fnd hl] at h
    exact nI_pos (by omega) h
  · intro h
    rw [tfnd_no (fun k e he => h e (List.mem_of_getElem? he))]
    decide
/-- what is set at a path -/
theorem set_map {T : List tE} (hn : (tPt T).Nodup) {p : Int32} (hl : tix T p < T.length) (g : tE) : T.set (tix T p) g = T.map (fun e => if eP e = p then g else e) := by
  induction T with
  | nil => simp at hl
  | cons x t ih =>
    have hn : eP x ∉ t.map (fun e => eP e) ∧ (tPt t).Nodup := List.nodup_cons.mp hn
    by_cases hx : eP x = p
    · have : tix (x :: t) p = 0 := by simp [tix, List.findIdx_cons, hx]
      rw [this]
      simp only [List.set_cons_zero, List.map_cons, if_pos hx, List.cons.injEq, true_and]
      have : ∀ e ∈ t, (if eP e = p then g else e) = id e := by
        intro e he
        rw [if_neg]
        · rfl
        · intro h; exact hn.1 (List.mem_map.mpr ⟨e, he, by rw [h, hx]⟩)
      rw [List.map_congr_left this, List.map_id]
    · have e1 : tix (x :: t) p = tix t p + 1 := by simp [tix, List.findIdx_cons, hx]
      rw [e1] at hl ⊢
      have hl : tix t p < t.length := by simpa using hl
      simp only [List.set_cons_succ, List.map_cons, if_neg hx, ih hn.2 hl]
theorem erase_filter {T : List tE} (hn : (tPt T).Nodup) {p : Int32} (hl : tix T p < T.length) : T.eraseIdx (tix T p) = T.filter (fun e => decide (eP e ≠ p)) := by
  induction T with
  | nil => simp at hl
  | cons x t ih =>
    have hn : eP x ∉ t.map (fun e => eP e) ∧ (tPt t).Nodup := List.nodup_cons.mp hn
    by_cases hx : eP x = p
    · have : tix (x :: t) p = 0 := by simp [tix, List.findIdx_cons, hx]
      rw [this]
      simp only [List.eraseIdx_cons_zero]
      rw [List.filter_cons_of_neg (by simp [hx])]
      rw [List.filter_eq_self.mpr]
      intro e he
      simp only [ne_eq, decide_not, Bool.not_eq_true', decide_eq_false_iff_not]
      intro h; exact hn.1 (List.mem_map.mpr ⟨e, he, by rw [h, hx]⟩)
    · have e1 : tix (x :: t) p = tix t p + 1 := by simp [tix, List.findIdx_cons, hx]
      rw [e1] at hl ⊢
      have hl : tix t p < t.length := by simpa using hl
      rw [List.eraseIdx_cons_succ, List.filter_cons_of_pos (by simp [hx]), ih hn.2 hl]
theorem tgo_erase {T : List tE} {k : Nat} (hk : k < T.length) : (tgo T k).Perm (T.eraseIdx k) := by
  unfold tgo
  have hne : T ≠ [] := by intro e; rw [e] at hk; simp at hk
  obtain ⟨t, z, rfl⟩ : ∃ t z, T = t ++ [z] := ⟨T.dropLast, T.getLast hne, (List.dropLast_concat_getLast hne).symm⟩
  simp only [List.getLast?_append, List.getLast?_singleton, Option.some_or]
  by_cases hk' : k < t.length
  · rw [List.set_append_left _ _ hk', List.dropLast_concat, List.eraseIdx_append_of_lt_length hk']
    -- t.set k z ~ t.eraseIdx k ++ [z]
    rw [List.set_eq_take_append_cons_drop, if_pos hk', List.eraseIdx_eq_take_drop_succ, List.append_assoc]
    refine List.Perm.append_left _ ?_
    exact (List.perm_append_singleton z _).symm
  · have e : k = t.length := by simp at hk; omega
    subst e
    rw [List.set_append_right _ _ (Nat.le_refl _), Nat.sub_self]
    simp only [List.set_cons_zero, List.dropLast_concat]
    rw [List.eraseIdx_append_of_length_le (Nat.le_refl _)]
    simp
theorem tgo_filter {T : List tE} (hn : (tPt T).Nodup) {p : Int32} (hl : tix T p < T.length) : (tgo T (tix T p)).Perm (T.filter (fun e => decide (eP e ≠ p))) := by
  rw [← erase_filter hn hl]
  exact tgo_erase hl
