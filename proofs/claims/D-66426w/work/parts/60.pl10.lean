/-! PART 60: plain law: what a primitive does to a schema (the order apart) -/
abbrev pmK (p : tPm) : Int32 := p.1
abbrev pmP (p : tPm) : Int32 := p.2.1
abbrev pmA (p : tPm) : Int32 := p.2.2.1
abbrev pmB (p : tPm) : Int32 := p.2.2.2.1
abbrev pmS (p : tPm) : Int32 := p.2.2.2.2.1
abbrev pmL (p : tPm) : Int32 := p.2.2.2.2.2.1
abbrev pmH (p : tPm) : Int32 := p.2.2.2.2.2.2
def sf (p : tPm) (F : List tFd) : List tFd :=
  if p.1 = 0 ∨ p.1 = 4 then F.map (fun f => (tmvp (pmP p) (tbeh p.1 (pmP p) (pmA p)) f.1, f.2))
  else if p.1 = 1 then F ++ [(pmP p, pmS p, pmL p, pmH p)]
  else if p.1 = 2 then F.filter (fun f => decide (f.1 ≠ pmP p))
  else if p.1 = 3 then F.map (fun f => if f.1 = pmP p then (f.1, 1, f.2.2) else f)
  else if p.1 = 5 then F.map (fun f => if f.1 = pmP p then (f.1, f.2.1, tqo f.2.2.1 (pmA p), tqo f.2.2.2 (pmA p)) else f) ++ [(tbes (pmP p) (pmB p), 0, 0, pmA p - 1)]
  else if p.1 = 6 then F.map (fun f => if f.1 = pmP p then (f.1, f.2.1, tsc true f.2.2.1 (pmA p) (pmB p) 0 0, tsc true f.2.2.2 (pmA p) (pmB p) 0 0) else f)
  else F
def sb (p : tPm) (F : List tFd) : List tFd :=
  if p.1 = 0 ∨ p.1 = 4 then F.map (fun f => (tmvp (tbeh p.1 (pmP p) (pmA p)) (pmP p) f.1, f.2))
  else if p.1 = 1 then F.filter (fun f => decide (f.1 ≠ pmP p))
  else if p.1 = 2 then F ++ [(pmP p, pmS p, pmL p, pmH p)]
  else if p.1 = 3 then F.map (fun f => if f.1 = pmP p then (f.1, 0, f.2.2) else f)
  else if p.1 = 5 then (F.map (fun f => if f.1 = pmP p then (f.1, f.2.1, pmL p, pmH p) else f)).filter (fun f => decide (f.1 ≠ tbes (pmP p) (pmB p)))
  else if p.1 = 6 then F.map (fun f => if f.1 = pmP p then (f.1, f.2.1, pmL p, pmH p) else f)
  else F
theorem sf_perm {p : tPm} {F F' : List tFd} (h : F.Perm F') : (sf p F).Perm (sf p F') := by
  unfold sf
  split
  · exact h.map _
  split
  · exact h.append_right _
  split
  · exact h.filter _
  split
  · exact h.map _
  split
  · exact (h.map _).append_right _
  split
  · exact h.map _
  · exact h
theorem sb_perm {p : tPm} {F F' : List tFd} (h : F.Perm F') : (sb p F).Perm (sb p F') := by
  unfold sb
  split
  · exact h.map _
  split
  · exact h.filter _
  split
  · exact h.append_right _
  split
  · exact h.map _
  split
  · exact (h.map _).filter _
  split
  · exact h.map _
  · exact h
theorem set_tfd {T : List tE} (hn : (tPt T).Nodup) {p : Int32} (hl : tix T p < T.length) {g : tE} (φ : tFd → tFd) (hg : tfd g = φ (tfd (tel T p))) : (T.set (tix T p) g).map tfd = (T.map tfd).map (fun f => if f.1 = p then φ f else f) := by
  rw [set_map hn hl, List.map_map, List.map_map]
  apply List.map_congr_left
  intro e he
  simp only [Function.comp]
  by_cases h : eP e = p
  · rw [if_pos h, if_pos (show (tfd e).1 = p from h), hg, ← h, tel_of hn he]
  · rw [if_neg h, if_neg (show ¬ (tfd e).1 = p from h)]
theorem set_tfd0 {T : List tE} (hn : (tPt T).Nodup) {p : Int32} (hl : tix T p < T.length) {g : tE} (hg : tfd g = tfd (tel T p)) : (T.set (tix T p) g).map tfd = T.map tfd := by
  rw [set_tfd hn hl id hg]
  conv => rhs; rw [← List.map_id (T.map tfd)]
  apply List.map_congr_left
  intro f _
  split <;> rfl
theorem filter_tfd (T : List tE) (p : Int32) : (T.filter (fun e => decide (eP e ≠ p))).map tfd = (T.map tfd).filter (fun f => decide (f.1 ≠ p)) := by
  rw [List.filter_map]
  rfl
theorem map_set_p {T : List tE} {k : Nat} {g : tE} (hk : k < T.length) (hg : eP g = eP T[k]) : tPt (T.set k g) = tPt T := by
  unfold tPt
  rw [List.map_set]
  apply List.ext_getElem
  · simp
  · intro i h1 h2
    rw [List.getElem_set]
    split
    · rename_i e
      subst e
      rw [List.getElem_map]; exact hg
    · rfl
theorem tix_set {T : List tE} {k : Nat} {g : tE} {p : Int32} (hk : k < T.length) (hg : eP g = eP T[k]) : tix (T.set k g) p = tix T p := by
  have key : ∀ (U : List tE), tix U p = (tPt U).findIdx (fun x => decide (x = p)) := by
    intro U
    unfold tix tPt
    rw [List.findIdx_map]
    rfl
  rw [key, key, map_set_p hk hg]
/-- forth -/
theorem tfo_sf {m : Int32} {p : tPm} {s : Nat} {X : tXt} (hn : (tPt X.1).Nodup) (hl : ¬ p.1 = 0 → ¬ p.1 = 4 → ¬ p.1 = 1 → tix X.1 p.2.1 < X.1.length) : ((tfo m p s X).1.map tfd).Perm (sf p (X.1.map tfd)) := by
  unfold tfo sf
  simp only
  by_cases c0 : p.1 = 0 ∨ p.1 = 4
  · rw [if_pos c0, if_pos c0, List.map_map, List.map_map]
    exact List.Perm.refl _
  rw [if_neg c0, if_neg c0]
  by_cases c1 : p.1 = 1
  · rw [if_pos c1, if_pos c1]
    unfold tarr
    simp only [List.map_append, List.map_cons, List.map_nil]
    exact List.Perm.refl _
  rw [if_neg c1, if_neg c1]
  have hl := hl (fun e => c0 (Or.inl e)) (fun e => c0 (Or.inr e)) c1
  have he : X.1[tix X.1 p.2.1] = tel X.1 p.2.1 := (tel_eq hl).symm
  by_cases c2 : p.1 = 2
  · rw [if_pos c2, if_pos c2]
    unfold tdpt
    rw [← filter_tfd]
    exact (tgo_filter hn hl).map _
  rw [if_neg c2, if_neg c2]
  by_cases c3 : p.1 = 3
  · rw [if_pos c3, if_pos c3]
    unfold twrp
    simp only
    rw [set_tfd hn hl (fun f => (f.1, 1, f.2.2)) rfl]
  rw [if_neg c3, if_neg c3]
  by_cases c5 : p.1 = 5
  · rw [if_pos c5, if_pos c5]
    unfold tsp
    simp only [List.map_append, List.map_cons, List.map_nil]
    rw [set_tfd hn hl (fun f => (f.1, f.2.1, tqo f.2.2.1 (pmA p), tqo f.2.2.2 (pmA p))) rfl]
    exact List.Perm.refl _
  rw [if_neg c5, if_neg c5]
  by_cases c6 : p.1 = 6
  · rw [if_pos c6, if_pos c6]
    unfold tbnd tch
    simp only
    rw [modify_set (by simpa using hl), List.set_set, set_tfd hn hl (fun f => (f.1, f.2.1, tsc true f.2.2.1 (pmA p) (pmB p) 0 0, tsc true f.2.2.2 (pmA p) (pmB p) 0 0))]
    simp only [List.getElem_set_self]
    rfl
  rw [if_neg c6, if_neg c6]
  unfold tch
  simp only
  exact List.Perm.of_eq (set_tfd0 hn hl rfl)
/-- back -/
theorem tba_sb {m : Int32} {p : tPm} {s : Nat} {X : tXt} (hn : (tPt X.1).Nodup) (hl : ¬ p.1 = 0 → ¬ p.1 = 4 → ¬ p.1 = 2 → tix X.1 p.2.1 < X.1.length) (h5 : p.1 = 5 → tix X.1 (tbes p.2.1 p.2.2.2.1) < X.1.length ∧ p.2.1 ≠ tbes p.2.1 p.2.2.2.1) : ((tba m p s X).1.map tfd).Perm (sb p (X.1.map tfd)) := by
  unfold tba sb
  simp only
  by_cases c0 : p.1 = 0 ∨ p.1 = 4
  · rw [if_pos c0, if_pos c0, List.map_map, List.map_map]
    exact List.Perm.refl _
  rw [if_neg c0, if_neg c0]
  by_cases c2 : p.1 = 2
  · rw [if_neg (by rw [c2]; decide), if_pos c2, if_neg (by rw [c2]; decide), if_pos c2]
    unfold tarr
    simp only [List.map_append, List.map_cons, List.map_nil]
    exact List.Perm.refl _
  have hl := hl (fun e => c0 (Or.inl e)) (fun e => c0 (Or.inr e)) c2
  by_cases c1 : p.1 = 1
  · rw [if_pos c1, if_pos c1]
    unfold tdpt
    rw [← filter_tfd]
    exact (tgo_filter hn hl).map _
  rw [if_neg c1, if_neg c1, if_neg c2, if_neg c2]
  by_cases c3 : p.1 = 3
  · rw [if_pos c3, if_pos c3]
    unfold tuwp
    simp only
    rw [set_tfd hn hl (fun f => (f.1, 0, f.2.2)) rfl]
  rw [if_neg c3, if_neg c3]
  by_cases c5 : p.1 = 5
  · rw [if_pos c5, if_pos c5]
    obtain ⟨h5, h6⟩ := h5 c5
    unfold tjn
    simp only
    have hp : ∀ (a b : Int32) (c : List Int32) (d : Int32), tPt (X.1.set (tix X.1 p.2.1) ((tel X.1 p.2.1).1, (tel X.1 p.2.1).2.1, a, b, c, d)) = tPt X.1 := fun a b c d => map_set_p hl (by rw [← tel_eq hl])
    have hx : ∀ (a b : Int32) (c : List Int32) (d : Int32), tix (X.1.set (tix X.1 p.2.1) ((tel X.1 p.2.1).1, (tel X.1 p.2.1).2.1, a, b, c, d)) (tbes p.2.1 p.2.2.2.1) = tix X.1 (tbes p.2.1 p.2.2.2.1) := fun a b c d => tix_set hl (by rw [← tel_eq hl])
    rw [← hx (pmL p) (pmH p)]
    refine ((tgo_filter ?_ ?_).map tfd).trans ?_
    · rw [hp]; exact hn
    · rw [hx]; simpa using h5
    · rw [filter_tfd, set_tfd hn hl (fun f => (f.1, f.2.1, pmL p, pmH p)) rfl]
  rw [if_neg c5, if_neg c5]
  by_cases c6 : p.1 = 6
  · rw [if_pos c6, if_pos c6]
    unfold tbnd tch
    simp only
    rw [modify_set hl, List.set_set, set_tfd hn hl (fun f => (f.1, f.2.1, pmL p, pmH p))]
    rfl
  rw [if_neg c6, if_neg c6]
  unfold tch
  simp only
  exact List.Perm.of_eq (set_tfd0 hn hl rfl)
