/-! PART 97l: plain law: a card's places and the reference's table (1) -/
/-- what a card holds of a table -/
def cCo (e : tE) : pE := (eP e, decide (eS e = 1), eR e)
def cP (T : List tE) : List pE := (T.filter (fun e => decide (eS e ≠ 2))).map cCo
/-- numbers are rows of one -/
def rOk (T : List tE) : Prop := ∀ e ∈ T, eS e = 0 → ∃ y, eR e = [y]
/-- whether what is kept for a primitive is a list -/
def cfl (p : tPm) : Bool := decide (p.1 = 3) || decide (pmS p = 1)
def kSh (b : Bool) (l : List Int32) : Prop := b = false → ∃ y, l = [y]
/-- what may be kept for a primitive -/
def kOk (p : tPm) (k : tK) : Prop := k.1 = 0 ∨ (p.1 = 1 ∨ p.1 = 2 ∨ p.1 = 3) ∧ k.1 = 1 ∧ pmS p ≠ 2 ∧ kSh (cfl p) k.2.1 ∨ (p.1 = 6 ∨ p.1 = 7 ∨ p.1 = 8) ∧ (k.1 = 2 ∨ k.1 = 3) ∧ kSh (cfl p) k.2.1 ∧ kSh (cfl p) k.2.2
theorem cP_perm {T T' : List tE} (h : T.Perm T') : (cP T).Perm (cP T') := (h.filter _).map _
theorem cP_app (T T' : List tE) : cP (T ++ T') = cP T ++ cP T' := by unfold cP; rw [List.filter_append, List.map_append]
theorem cP_one {e : tE} (h : eS e ≠ 2) : cP [e] = [cCo e] := by unfold cP; rw [List.filter_cons_of_pos (p := fun e => decide (eS e ≠ 2)) (decide_eq_true h)]; rfl
theorem cP_none {e : tE} (h : eS e = 2) : cP [e] = [] := by unfold cP; rw [List.filter_cons_of_neg (p := fun e => decide (eS e ≠ 2)) (fun g => (of_decide_eq_true g) h)]; rfl
theorem cP_mv (T : List tE) (f t : Int32) : cP (T.map (tmv f t)) = (cP T).map (fun e => (tmvp f t e.1, e.2)) := by
  unfold cP
  rw [List.filter_map, List.map_map, List.map_map]
  rfl
theorem cP_filter (T : List tE) (x : Int32) : cP (T.filter (fun e => decide (eP e ≠ x))) = (cP T).filter (fun e => decide (e.1 ≠ x)) := by
  unfold cP
  rw [List.filter_map, List.filter_filter, List.filter_filter]
  congr 1
  apply List.filter_congr
  intro e _
  show (decide (eS e ≠ 2) && decide (eP e ≠ x)) = (decide (eP e ≠ x) && decide (eS e ≠ 2))
  rw [Bool.and_comm]
/-- one entry written -/
theorem cP_set {T : List tE} (hn : (tPt T).Nodup) {x : Int32} (hl : tix T x < T.length) {g : tE} (gp : eP g = x) (gs : eS g ≠ 2) (es : eS (tel T x) ≠ 2) : cP (T.set (tix T x) g) = (cP T).map (fun e => if e.1 = x then (e.1, decide (eS g = 1), eR g) else e) := by
  rw [set_map hn hl]
  unfold cP
  rw [List.filter_map, List.map_map, List.map_map]
  have e1 : T.filter ((fun e => decide (eS e ≠ 2)) ∘ fun e => if eP e = x then g else e) = T.filter (fun e => decide (eS e ≠ 2)) := by
    apply List.filter_congr
    intro e he
    show decide (eS (if eP e = x then g else e) ≠ 2) = decide (eS e ≠ 2)
    by_cases h : eP e = x
    · rw [if_pos h]
      have : e = tel T x := by rw [← h, tel_of hn he]
      rw [this, decide_eq_true gs, decide_eq_true es]
    · rw [if_neg h]
  rw [e1]
  apply List.map_congr_left
  intro e _
  show cCo (if eP e = x then g else e) = (if eP e = x then (eP e, decide (eS g = 1), eR g) else cCo e)
  by_cases h : eP e = x
  · rw [if_pos h, if_pos h]
    unfold cCo
    rw [gp, h]
  · rw [if_neg h, if_neg h]
theorem cP_mem {T : List tE} (hn : (tPt T).Nodup) {x : Int32} (hl : tix T x < T.length) (es : eS (tel T x) ≠ 2) : (x, decide (eS (tel T x) = 1), eR (tel T x)) ∈ cP T := by
  refine List.mem_map.mpr ⟨tel T x, List.mem_filter.mpr ⟨tel_mem hl, decide_eq_true es⟩, ?_⟩
  unfold cCo
  rw [tel_p hl]
theorem cP_path {T : List tE} {e : pE} (h : e ∈ cP T) : ∃ e' ∈ T, eP e' = e.1 ∧ eS e' ≠ 2 := by
  obtain ⟨e', he, rfl⟩ := List.mem_map.mp h
  obtain ⟨h1, h2⟩ := List.mem_filter.mp he
  exact ⟨e', h1, rfl, of_decide_eq_true h2⟩
theorem cP_len {T : List tE} {F : List tFd} (hV : sV F) (hT : (T.map tfd).Perm F) : (cP T).length ≤ 24 := by
  unfold cP
  rw [List.length_map]
  have := List.length_filter_le (fun e => decide (eS e ≠ 2)) T
  have := len_f hT
  have := hV.2.2.1
  omega
theorem cP_ok {T : List tE} {F : List tFd} (hV : sV F) (hT : (T.map tfd).Perm F) {P : List pE} (hP : P.Perm (cP T)) : ∀ e ∈ P, 0 ≤ e.1 ∧ nok (pnat e.1) := by
  intro e he
  obtain ⟨e', h1, h2, _⟩ := cP_path (hP.mem_iff.mp he)
  have := hV.1 (tfd e') (hT.mem_iff.mp (List.mem_map.mpr ⟨e', h1, rfl⟩))
  rw [← h2]
  exact ⟨this.1, this.2.1⟩
/-- moved paths stay apart -/
theorem cP_nd {T : List tE} {F' : List tFd} {f t : Int32} (hV : sV F') (hT : ((T.map (tmv f t)).map tfd).Perm F') {P : List pE} (hP : P.Perm (cP T)) : (P.map (fun e => tmvp f t e.1)).Nodup := by
  have h1 : ((T.map (tmv f t)).map (fun e => eP e)).Nodup := hV.nd hT
  have h2 : (P.map (fun e => tmvp f t e.1)).Perm ((cP T).map (fun e => tmvp f t e.1)) := hP.map _
  rw [h2.nodup_iff]
  unfold cP
  rw [List.map_map]
  have h3 : ((T.filter (fun e => decide (eS e ≠ 2))).map ((fun e : pE => tmvp f t e.1) ∘ cCo)).Sublist ((T.map (tmv f t)).map (fun e => eP e)) := by
    rw [List.map_map]
    exact List.Sublist.map _ List.filter_sublist
  exact h1.sublist h3
