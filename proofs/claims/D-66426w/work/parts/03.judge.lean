/-! PART 03: the context, the heap relation, the judgement -/
/-- the run: program, launch, environment, the law's start, classes, slots, the script's cell, its length, its ints -/
abbrev zG : Type := Program × Launch × Env × State × (Nat → ClassId) × (Nat → Nat → Nat) × Nat × Nat × (Nat → Int32)
abbrev gp (G : zG) : Program := G.1
abbrev gl (G : zG) : Launch := G.2.1
abbrev ge (G : zG) : Env := G.2.2.1
abbrev gs (G : zG) : State := G.2.2.2.1
abbrev gC (G : zG) : Nat → ClassId := G.2.2.2.2.1
abbrev gI (G : zG) : Nat → Nat → Nat := G.2.2.2.2.2.1
abbrev gb (G : zG) : Nat := G.2.2.2.2.2.2.1
abbrev gL (G : zG) : Nat := G.2.2.2.2.2.2.2.1
abbrev gx (G : zG) : Nat → Int32 := G.2.2.2.2.2.2.2.2
/-- the base: the heap's size at the law's start -/
abbrev g0 (G : zG) : Nat := (gs G).heap.size
/-- an array's class -/
def zAr (U : State) (cA : ClassId) (ty : FieldType) : Prop := ArrOfT U cA ty ∧ va_RA U cA ty
/-- what holds of the run -/
def zOK (G : zG) : Prop :=
  (gp G).tables.exec = Jvm.exec ∧ (∀ w ∈ lw_tbl, w.before #[Value.ref (gb G)] (gs G) = true) ∧
  (∀ k, 1 ≤ k → k ≤ 15 → u_Kn (gs G) (zC k) (zF k) (zN k) (gC G k) (gI G k)) ∧
  (∀ k, 1 ≤ k → k ≤ 15 → ∀ i j, i < zN k → j < zN k → i ≠ j → gI G k i ≠ gI G k j) ∧
  (∀ k, 16 ≤ k → k ≤ 20 → ClassAt (gs G) (zC k) (gC G k)) ∧
  zAr (gs G) (gC G 21) .int ∧ zAr (gs G) (gC G 22) .long ∧ (∀ k, 23 ≤ k → k ≤ 27 → zAr (gs G) (gC G k) (.object (zE k))) ∧
  va_X (gb G) (gL G) (gx G) (gs G) (gs G).heap ∧ gb G < g0 G ∧ gL G ≤ 3072 ∧
  (ge G).platform.stackTraces = false ∧ (Jvm.Cond.and given_1 narrow_1).before #[Value.ref (gb G)] (gs G) = true
def zfv (h : zH) (a : Nat) : Nat → Value := fun j => if zq (zt h a) j = true then zr (za h a j) else .int (zi h a j)
def zav (h : zH) (a : Nat) : Nat → Value := fun i => if zt h a = 21 then .int (zi h a i) else if zt h a = 22 then .long (zj h a i) else zr (za h a i)
def zcell (G : zG) (h : zH) (H : Heap) (a : Nat) : Prop :=
  if zt h a = 0 then True
  else if zt h a ≤ 15 then t_OB a (gC G (zt h a)) (zN (zt h a)) (gI G (zt h a)) H (zfv h a)
  else if zt h a ≤ 20 then ∃ cell : Cell, H[a]? = some cell ∧ cell.cls = gC G (zt h a) ∧ cell.vm = .none
  else H[a]? = some (arrV (gC G (zt h a)) (zl h a) (zav h a))
def zHR (G : zG) (h : zH) (H : Heap) : Prop :=
  H.size = zn h ∧ g0 G ≤ zn h ∧ (∀ a, a < g0 G → H[a]? = (gs G).heap[a]?) ∧ (∀ a, zt h a ≠ 0 → g0 G ≤ a ∧ a < zn h) ∧ (∀ a, zt h a ≤ 27) ∧ ∀ a, zcell G h H a
def zFX (G : zG) (y : zM) (s : State) (m : MethodId) (meth : Method) (c : Code) : Prop :=
  c.code = y.2.1 ∧ c.maxLocals = y.2.2.1 ∧ meth.sig.returnType = y.2.2.2.1 ∧ meth.locks = false ∧ s.vm.findClass y.1.cls = some m.cls ∧ meth.name = y.1.name ∧ c.exceptionTable.toList = tableOf y.2.2.2.2 ∧ (gs G).WarmedH s.vm
def zRM (G : zG) (d : Nat) (R : Room) (s : State) (cells slots sB : Nat) (h : zH) : Prop :=
  d ≤ R.frames ∧ 64 * d + 256 ≤ R.locals ∧ s.heap.size + cells = zn h ∧ s.heap.size + R.cells = g0 G + 603072 ∧ sB + slots = zs h ∧ sB + R.slots = 7211114 ∧ zn h ≤ g0 G + 603072 ∧ zs h ≤ 7211114
/-- the end of a method -/
def zQE (G : zG) (s : State) (below : List Frame) (sB : Nat) (Q : zO → zH → Prop) : State → Prop := fun t =>
  ∃ (o : zO) (h : zH) (L : List Loc) (cells slots : Nat), t.status = .running ∧ Ended t below (zo (gb G) o) ∧ zHR G h t.heap ∧ s.WarmedH t.vm ∧ s.sameButNew ({ t with vm := s.vm } : State) L cells slots ∧
    (∀ q ∈ L, g0 G ≤ q.base) ∧ s.heap.size + cells = zn h ∧ sB + slots = zs h ∧ zn h ≤ g0 G + 603072 ∧ zs h ≤ 7211114 ∧ (∀ q, o = .inr q → zt h q.2 = q.1 ∧ 16 ≤ q.1 ∧ q.1 ≤ 20) ∧ Q o h
def zJ (G : zG) (d : Nat) (y : zM) (pc : Nat) (ls : List (Option zV)) (st : List zV) (h : zH) (Q : zO → zH → Prop) : Prop :=
  ∀ (R : Room) (s : State) (m : MethodId) (args : Array Value) (below : List Frame) (meth : Method) (c : Code) (H : Heap) (locs : List Loc) (cells slots sB : Nat) (lsR : Array Slot),
    zFX G y s m meth c → zRM G d R s cells slots sB h → (∀ q ∈ locs, g0 G ≤ q.base) → zHR G h H → lv_has lsR y.2.2.1 (zal (gb G) 0 ls) →
    W (gp G) (gl G) (ge G) R s m args below meth c H locs cells slots (zQE G s below sB Q) (F0 m pc lsR (st.map (zv (gb G))))
section ZJ
variable {G : zG} {d : Nat} {y : zM} {pc : Nat} {ls : List (Option zV)} {st : List zV} {h : zH} {Q Q' : zO → zH → Prop}
theorem zOK.ex (hG : zOK G) : (gp G).tables.exec = Jvm.exec := hG.1
theorem zJ.mono (k : zJ G d y pc ls st h Q) (hq : ∀ o h', Q o h' → Q' o h') : zJ G d y pc ls st h Q' := by
  intro R s m args below meth c H locs cells slots sB lsR hF hR hl hH hL T hT X
  obtain ⟨t, a, o, h', L, c', s', q1, q2, q3, q4, q5, q6, q7, q8, q9, q10, q11, q12⟩ := k R s m args below meth c H locs cells slots sB lsR hF hR hl hH hL T hT X
  exact ⟨t, a, o, h', L, c', s', q1, q2, q3, q4, q5, q6, q7, q8, q9, q10, q11, hq o h' q12⟩
theorem zJ.more {d' : Nat} (k : zJ G d' y pc ls st h Q) (hd : d' ≤ d) : zJ G d y pc ls st h Q :=
  fun R s m args below meth c H locs cells slots sB lsR hF hR hl hH hL => k R s m args below meth c H locs cells slots sB lsR hF ⟨Nat.le_trans hd hR.1, by have := hR.2.1; omega, hR.2.2⟩ hl hH hL
/-- the locals' rows -/
theorem zal_mem : ∀ {ls : List (Option zV)} {i j : Nat} {v : zV}, ls[j]? = some (some v) → (i + j, zv (gb G) v) ∈ zal (gb G) i ls := by
  intro ls
  induction ls with
  | nil => intro i j v h; simp at h
  | cons x t ih =>
    intro i j v h
    cases j with
    | zero =>
      simp at h
      subst h
      exact List.mem_cons_self
    | succ j =>
      have h' : t[j]? = some (some v) := by simpa using h
      have := ih (i := i + 1) h'
      have e : i + 1 + j = i + (j + 1) := by omega
      rw [e] at this
      cases x with
      | none => exact this
      | some x => exact List.mem_cons_of_mem _ this
theorem zal_of : ∀ {ls : List (Option zV)} {i : Nat} {q : Nat × Value}, q ∈ zal (gb G) i ls → ∃ (j : Nat) (v : zV), q = (i + j, zv (gb G) v) ∧ ls[j]? = some (some v) := by
  intro ls
  induction ls with
  | nil => intro i q h; cases h
  | cons x t ih =>
    intro i q h
    cases x with
    | none =>
      obtain ⟨j, v, e, h'⟩ := ih (i := i + 1) h
      exact ⟨j + 1, v, by rw [e]; congr 1; omega, by simpa using h'⟩
    | some x =>
      rcases List.mem_cons.mp h with rfl | h
      · exact ⟨0, x, rfl, rfl⟩
      · obtain ⟨j, v, e, h'⟩ := ih (i := i + 1) h
        exact ⟨j + 1, v, by rw [e]; congr 1; omega, by simpa using h'⟩
theorem zlv {lsR : Array Slot} {n i : Nat} {v : zV} (h : lv_has lsR n (zal (gb G) 0 ls)) (hv : ls[i]? = some (some v)) : lsR[i]? = some (.val (zv (gb G) v)) := by
  have := h.2.2 _ (zal_mem (i := 0) hv)
  simpa using this
/-- the place ahead holds no long -/
def zpre (ls : List (Option zV)) (i : Nat) : Bool := match i with
  | 0 => true
  | j + 1 => match ls[j]? with
    | some (some (.inr (.inr (.inl _)))) => false
    | _ => true
theorem zcat1 (v : zV) (h : ∀ x, v ≠ zL x) : (zv (gb G) v).category = 1 := by
  rcases v with x | a | x | u
  · rfl
  · show (zr a).category = 1
    unfold zr; split <;> rfl
  · exact absurd rfl (h x)
  · rfl
theorem zst1 {lsR : Array Slot} {n i : Nat} {v : zV} {w : Value} (hw : w = zv (gb G) v) (hp : zpre ls i = true) (h : lv_has lsR n ((i, w) :: (zal (gb G) 0 ls).filter (fun q => !(q.1 == i) && !(q.1 + 1 == i && q.2.category == 2)))) : lv_has lsR n (zal (gb G) 0 (ls.set i (some v))) := by
  refine ⟨h.1, h.2.1, fun q hq => ?_⟩
  obtain ⟨j, u, e, hj⟩ := zal_of hq
  subst e
  rw [List.getElem?_set] at hj
  simp only [Nat.zero_add]
  split at hj
  · rename_i e
    subst e
    split at hj
    · cases hj
      rw [← hw]
      exact h.2.2 _ List.mem_cons_self
    · cases hj
  · rename_i e
    refine h.2.2 _ (List.mem_cons_of_mem _ (List.mem_filter.mpr ⟨by simpa using zal_mem (i := 0) hj, ?_⟩))
    simp only [Bool.and_eq_true, Bool.not_eq_true', beq_eq_false_iff_ne, ne_eq, Bool.and_eq_false_iff]
    refine ⟨fun q => e q.symm, ?_⟩
    by_cases e2 : j + 1 = i
    · right
      subst e2
      rcases u with x | a | x | u
      · simp [zv, Value.category]
      · have := zcat1 (G := G) (zA a) (fun x => by simp)
        simp [this]
      · simp [zpre, hj] at hp
      · simp [zv, Value.category]
    · left; exact e2
theorem zst2 {lsR : Array Slot} {n i : Nat} {x : Int64} (hp : zpre ls i = true) (h : lv_has lsR n ((i, Value.long x) :: (zal (gb G) 0 ls).filter (fun q => !(q.1 == i) && (!(q.1 == i + 1) && !(q.1 + 1 == i && q.2.category == 2))))) : lv_has lsR n (zal (gb G) 0 ((ls.set i (some (zL x))).set (i + 1) none)) := by
  refine ⟨h.1, h.2.1, fun q hq => ?_⟩
  obtain ⟨j, u, e, hj⟩ := zal_of hq
  subst e
  rw [List.getElem?_set] at hj
  simp only [Nat.zero_add]
  split at hj
  · split at hj <;> cases hj
  rename_i e0
  rw [List.getElem?_set] at hj
  split at hj
  · rename_i e
    subst e
    split at hj
    · cases hj
      exact h.2.2 _ List.mem_cons_self
    · cases hj
  · rename_i e
    refine h.2.2 _ (List.mem_cons_of_mem _ (List.mem_filter.mpr ⟨by simpa using zal_mem (i := 0) hj, ?_⟩))
    simp only [Bool.and_eq_true, Bool.not_eq_true', beq_eq_false_iff_ne, ne_eq, Bool.and_eq_false_iff]
    refine ⟨fun q => e q.symm, fun q => e0 q.symm, ?_⟩
    by_cases e2 : j + 1 = i
    · right
      subst e2
      rcases u with x | a | x | u
      · simp [zv, Value.category]
      · have := zcat1 (G := G) (zA a) (fun x => by simp)
        simp [this]
      · simp [zpre, hj] at hp
      · simp [zv, Value.category]
    · left; exact e2
end ZJ
