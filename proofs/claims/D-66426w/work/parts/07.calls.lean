/-! PART 07: returns, calls -/
theorem z_weaken {tb : Tables} {e : Env} {mid below : List Frame} {a b : State} (h : Steps tb e (mid ++ below) a b) : Steps tb e below a b := by
  obtain ⟨n, hn, w⟩ := h
  exact ⟨n, hn, fun k hk => (w k hk).weaken⟩
section ZRET
variable {G : zG} {d : Nat} {y : zM} {pc : Nat} {ls : List (Option zV)} {st : List zV} {h : zH} {Q : zO → zH → Prop}
theorem zj_iret (hG : zOK G) {v : Int32} {ty : FieldType} (hd : decode y.2.1 pc = .ok (.ireturn, 1)) (hr : y.2.2.2.1 = some ty) (hn : narrow ty (.int v) = .int v) (hq : Q (zR (zI v)) h) : zJ G d y pc ls [zI v] h Q := by
  intro R s m args below meth c H locs cells slots sB lsR hF hR hl hH hL T hT X
  obtain ⟨f1, f2, f3, f4, f5, f6, f7, f8⟩ := hF
  obtain ⟨r1, r2, r3, r4, r5, r6, r7, r8⟩ := hR
  rw [hr] at f3
  obtain ⟨fs, hret, hrun, hended, hW, hframe⟩ := X.leave (v := some (.int v)) (fun h => by rw [f3] at h; cases h) f4
  have hmeth' : T.vm.method? m = some meth := X.method'
  have hexec := hG.ex
  refine ⟨T.setFrames fs, ?_, zR (zI v), h, locs, cells, slots, hrun, hended, by show zHR G h T.heap; rw [hT]; exact hH, hW, hframe, hl, r3, r5, r7, r8, (fun q e => by cases e), hq⟩
  show Steps _ _ _ (T.setTop (F0 m pc lsR [.int v])) _
  jvm_step X.here [X.here.top, hexec, f1, hd, hmeth', f3, hn]
  (try refine ⟨rfl, ?_⟩); (try refine ⟨rfl, ?_⟩)
  first | (intro acts; rw [hret _ acts rfl rfl rfl]) | rw [hret _ _ rfl rfl rfl]
  exact Steps.refl _
theorem zj_lret (hG : zOK G) {v : Int64} (hd : decode y.2.1 pc = .ok (.lreturn, 1)) (hr : y.2.2.2.1 = some .long) (hq : Q (zR (zL v)) h) : zJ G d y pc ls [zL v] h Q := by
  intro R s m args below meth c H locs cells slots sB lsR hF hR hl hH hL T hT X
  obtain ⟨f1, f2, f3, f4, f5, f6, f7, f8⟩ := hF
  obtain ⟨r1, r2, r3, r4, r5, r6, r7, r8⟩ := hR
  rw [hr] at f3
  obtain ⟨fs, hret, hrun, hended, hW, hframe⟩ := X.leave (v := some (.long v)) (fun h => by rw [f3] at h; cases h) f4
  have hmeth' : T.vm.method? m = some meth := X.method'
  have hexec := hG.ex
  refine ⟨T.setFrames fs, ?_, zR (zL v), h, locs, cells, slots, hrun, hended, by show zHR G h T.heap; rw [hT]; exact hH, hW, hframe, hl, r3, r5, r7, r8, (fun q e => by cases e), hq⟩
  show Steps _ _ _ (T.setTop (F0 m pc lsR [.long v])) _
  jvm_step X.here [X.here.top, hexec, f1, hd, hmeth', f3, narrow]
  (try refine ⟨rfl, ?_⟩); (try refine ⟨rfl, ?_⟩)
  first | (intro acts; rw [hret _ acts rfl rfl rfl]) | rw [hret _ _ rfl rfl rfl]
  exact Steps.refl _
theorem zj_vret (hG : zOK G) (hd : decode y.2.1 pc = .ok (.return_, 1)) (hr : y.2.2.2.1 = none) (hq : Q zR0 h) : zJ G d y pc ls [] h Q := by
  intro R s m args below meth c H locs cells slots sB lsR hF hR hl hH hL T hT X
  obtain ⟨f1, f2, f3, f4, f5, f6, f7, f8⟩ := hF
  obtain ⟨r1, r2, r3, r4, r5, r6, r7, r8⟩ := hR
  rw [hr] at f3
  obtain ⟨fs, hret, hrun, hended, hW, hframe⟩ := X.leave (v := none) (fun h => rfl) f4
  have hmeth' : T.vm.method? m = some meth := X.method'
  have hexec := hG.ex
  refine ⟨T.setFrames fs, ?_, zR0, h, locs, cells, slots, hrun, hended, by show zHR G h T.heap; rw [hT]; exact hH, hW, hframe, hl, r3, r5, r7, r8, (fun q e => by cases e), hq⟩
  show Steps _ _ _ (T.setTop (F0 m pc lsR [])) _
  jvm_step X.here [X.here.top, hexec, f1, hd, hmeth', f3]
  (try refine ⟨rfl, ?_⟩); (try refine ⟨rfl, ?_⟩)
  first | (intro acts; rw [hret _ acts rfl rfl rfl]) | rw [hret _ _ rfl rfl rfl]
  exact Steps.refl _
theorem zj_aret (hG : zOK G) {a : Nat} {rt : FieldType} (hd : decode y.2.1 pc = .ok (.areturn, 1)) (hr : y.2.2.2.1 = some rt) (hrt : (∃ n, rt = .object n) ∨ ∃ t, rt = .array t) (hq : Q (zR (zA a)) h) : zJ G d y pc ls [zA a] h Q := by
  intro R s m args below meth c H locs cells slots sB lsR hF hR hl hH hL T hT X
  obtain ⟨f1, f2, f3, f4, f5, f6, f7, f8⟩ := hF
  obtain ⟨r1, r2, r3, r4, r5, r6, r7, r8⟩ := hR
  rw [hr] at f3
  obtain ⟨fs, hret, hrun, hended, hW, hframe⟩ := X.leave (v := some (zr a)) (fun h => by rw [f3] at h; cases h) f4
  have hmeth' : T.vm.method? m = some meth := X.method'
  have hexec := hG.ex
  refine ⟨T.setFrames fs, ?_, zR (zA a), h, locs, cells, slots, hrun, hended, by show zHR G h T.heap; rw [hT]; exact hH, hW, hframe, hl, r3, r5, r7, r8, (fun q e => by cases e), hq⟩
  show Steps _ _ _ (T.setTop (F0 m pc lsR [zr a])) _
  have hv : zr a = .null ∨ ∃ x, zr a = .ref x := by
    by_cases h0 : a = 0
    · subst h0; exact Or.inl rfl
    · exact Or.inr ⟨a, zr_ref h0⟩
  generalize zr a = v at hv hret ⊢
  rcases hrt with ⟨n, rfl⟩ | ⟨t, rfl⟩ <;> rcases hv with rfl | ⟨x, rfl⟩ <;>
    (jvm_step X.here [X.here.top, hexec, f1, hd, hmeth', f3]
     (try refine ⟨rfl, ?_⟩); (try refine ⟨rfl, ?_⟩)
     first | (intro acts; rw [hret _ acts rfl rfl rfl]) | rw [hret _ _ rfl rfl rfl]
     exact Steps.refl _)
end ZRET
/-- the locals at a method's entry -/
def zent0 : List zV → List (Option zV)
  | [] => []
  | .inr (.inr (.inl x)) :: t => some (zL x) :: none :: zent0 t
  | v :: t => some v :: zent0 t
def zent (as : List zV) (n : Nat) : List (Option zV) := zent0 as ++ List.replicate (n - (zent0 as).length) none
section ZENT
variable {b : Nat}
theorem zal_app : ∀ (l : List (Option zV)) (i k : Nat), zal b i (l ++ List.replicate k none) = zal b i l := by
  intro l
  induction l with
  | nil =>
    intro i k
    induction k generalizing i with
    | zero => rfl
    | succ k ih => exact ih (i + 1)
  | cons x t ih =>
    intro i k
    cases x with
    | none => exact ih (i + 1) k
    | some v => exact congrArg (List.cons (i, zv b v)) (ih (i + 1) k)
theorem zal_ent : ∀ (as : List zV) (i : Nat), zal b i (zent0 as) = lv_args i (as.map (zv b)) := by
  intro as
  induction as with
  | nil => intro i; rfl
  | cons v t ih =>
    intro i
    rcases v with x | a | x | u
    · show (i, Value.int x) :: zal b (i + 1) (zent0 t) = (i, Value.int x) :: lv_args (i + 1) (t.map (zv b))
      rw [ih]
    · show (i, zr a) :: zal b (i + 1) (zent0 t) = (i, zr a) :: lv_args (if (zr a).category = 2 then i + 2 else i + 1) (t.map (zv b))
      have : (zr a).category = 1 := by unfold zr; split <;> rfl
      rw [this, ih]; rfl
    · show (i, Value.long x) :: zal b (i + 1 + 1) (zent0 t) = (i, Value.long x) :: lv_args (i + 2) (t.map (zv b))
      rw [ih]
    · show (i, Value.ref b) :: zal b (i + 1) (zent0 t) = (i, Value.ref b) :: lv_args (i + 1) (t.map (zv b))
      rw [ih]
theorem zent_len : ∀ (as : List zV), (lg_sl (as.map (zv b))).length = (zent0 as).length := by
  intro as
  induction as with
  | nil => rfl
  | cons v t ih =>
    rcases v with x | a | x | u
    · show (lg_sl (Value.int x :: t.map (zv b))).length = (zent0 t).length + 1
      rw [← ih]; simp [lg_sl, Value.category]
    · show (lg_sl (zr a :: t.map (zv b))).length = (zent0 t).length + 1
      have : (zr a).category = 1 := by unfold zr; split <;> rfl
      rw [← ih]; simp [lg_sl, this]
    · show (lg_sl (Value.long x :: t.map (zv b))).length = (zent0 t).length + 2
      rw [← ih]; simp [lg_sl, Value.category]
    · show (lg_sl (Value.ref b :: t.map (zv b))).length = (zent0 t).length + 1
      rw [← ih]; simp [lg_sl, Value.category]
end ZENT
/-- the tables hold the method's code -/
def zCode (y : zM) : Prop := plainFor y.1 = true ∧ ((Cond.code y.1 y.2.1 y.2.2.1 y.2.2.2.1 ∈ lw_tbl ∧ y.2.2.2.2 = []) ∨ Cond.codeWith y.1 y.2.1 y.2.2.1 y.2.2.2.1 y.2.2.2.2 ∈ lw_tbl)
theorem zCode.spec {G : zG} {y : zM} (hG : zOK G) (hy : zCode y) {s : State} (hs : (gs G).WarmedH s.vm) {mk : MethodId} (hn : s.methodNamed? y.1 = some mk) :
    ∃ (meth : Method) (c : Code), s.vm.method? mk = some meth ∧ meth.code = some c ∧ meth.locks = false ∧ s.plainMethod mk ∧ (∀ s' : State, s'.vm = s.vm → zFX G y s' mk meth c) := by
  rcases hy with ⟨hp, ⟨hw, he⟩ | hw⟩
  · obtain ⟨meth, c, h1, h2, h3, h4, h5, h6, h7, -⟩ := Cond.code_spec hn (hG.at hw rfl hs #[])
    refine ⟨meth, c, h1, h2, h6, State.plainMethod.of_named hp hn h1, fun s' e => ⟨h3, h4, h5, h6, by rw [e]; exact findClass_of_methodNamed hn, (name_of_methodNamed hn h1).1, ?_, by rw [e]; exact hs⟩⟩
    rw [he]
    show c.exceptionTable.toList = []
    simpa using h7
  · obtain ⟨mk', meth, c, hn', h1, h2, h3, h4, h5, h6, h7, -⟩ := Cond.codeWith_spec (hG.at hw rfl hs #[])
    cases hn.symm.trans hn'
    refine ⟨meth, c, h1, h2, h7, State.plainMethod.of_named hp hn h1, fun s' e => ⟨h3, h4, h6, h7, by rw [e]; exact findClass_of_methodNamed hn, (name_of_methodNamed hn h1).1, ?_, by rw [e]; exact hs⟩⟩
    rw [← h5, table_eq]
/-- the instruction at pc invokes yn with the arguments as, rest stays -/
def zCall (G : zG) (y : zM) (pc len : Nat) (yn : MethodName) (as rest stk : List zV) (h : zH) : Prop :=
  ∀ (R : Room) (s : State) (m : MethodId) (args : Array Value) (below : List Frame) (meth : Method) (c : Code) (T : State) (locs : List Loc) (cells slots : Nat) (lsR : Array Slot),
    zFX G y s m meth c → zHR G h T.heap → Stand (gp G) (gl G) (ge G) R s m args below meth c T locs cells slots →
    (∃ ig, decode y.2.1 pc = .ok (ig, len)) ∧ ∃ (vm₁ : Vm) (mk : MethodId), Stand (gp G) (gl G) (ge G) R s m args below meth c (T.setVm vm₁) locs cells slots ∧ (T.setVm vm₁).methodNamed? yn = some mk ∧
      ∀ target, Steps (gp G).tables (ge G) below (doInvoke (ge G) ((T.setVm vm₁).setTop (F0 m pc lsR (rest.map (zv (gb G))))) [] mk (as.map (zv (gb G))).toArray).1 target →
        Steps (gp G).tables (ge G) below (T.setTop (F0 m pc lsR (stk.map (zv (gb G))))) target
theorem z_cat (b : Nat) : ∀ (l : List zV), (((l.map (zv b)).map fun v => v.category).sum) ≤ 2 * l.length := by
  intro l
  induction l with
  | nil => exact Nat.le_refl _
  | cons v t ih =>
    have h1 : (zv b v).category ≤ 2 := by rcases lv_cat (zv b v) with e | e <;> rw [e] <;> decide
    simp only [List.map_cons, List.sum_cons, List.length_cons]
    omega
set_option maxRecDepth 8000 in
theorem z_loc {z n a d d' L : Nat} (h1 : z ≤ 2 * n) (h2 : 2 * n + a ≤ 53) (h3 : 64 * d + 256 ≤ L) (h4 : d' + 1 ≤ d) : 2 * 0 + z + (a + 11) + (64 * d' + 256) ≤ L := by omega
section ZCALL
variable {G : zG} {d : Nat} {y : zM} {pc : Nat} {ls : List (Option zV)} {h : zH} {Q : zO → zH → Prop}
/-- where a callee's throw leads: the caller's frame, its Stand -/
def zThr (G : zG) (d : Nat) (y : zM) (pc : Nat) (ls : List (Option zV)) (rest : List zV) (Q : zO → zH → Prop) (q : Nat × Nat) (h : zH) : Prop :=
  ∀ (R : Room) (s : State) (m : MethodId) (args : Array Value) (below : List Frame) (meth : Method) (c : Code) (T : State) (locs : List Loc) (cells slots sB : Nat) (lsR : Array Slot),
    zFX G y s m meth c → zRM G d R s cells slots sB h → (∀ q ∈ locs, g0 G ≤ q.base) → zHR G h T.heap → lv_has lsR y.2.2.1 (zal (gb G) 0 ls) → zt h q.2 = q.1 → 16 ≤ q.1 → q.1 ≤ 20 → Stand (gp G) (gl G) (ge G) R s m args below meth c T locs cells slots →
    ∃ t, Steps (gp G).tables (ge G) below ((T.setTop (F0 m pc lsR (rest.map (zv (gb G))))).pushFrame (.throwing q.2)) t ∧ zQE G s below sB Q t
theorem zj_call0 {d' len : Nat} {y' : zM} {as rest stk : List zV} {le : List (Option zV)} (hG : zOK G) (hc : zCall G y pc len y'.1 as rest stk h) (hy : zCode y') (hd1 : d' + 1 ≤ d) (hle : zent as y'.2.2.1 = le) (hlen : (zent0 as).length ≤ y'.2.2.1) (hw : 2 * rest.length + y'.2.2.1 ≤ 53)
    (kc : zJ G d' y' 0 le [] h (fun o h1 => match o with
      | .inl v => zJ G d y (pc + len) ls (v.toList ++ rest) h1 Q
      | .inr q => zThr G d y pc ls rest Q q h1)) : zJ G d y pc ls stk h Q := by
  intro R s m args below meth c H locs cells slots sB lsR hF hR hl hH hL T hT X
  subst hT
  obtain ⟨⟨ig, hdg⟩, vm₁, mk, X₁, hn, st⟩ := hc R s m args below meth c T locs cells slots lsR hF hH X
  obtain ⟨r1, r2, r3, r4, r5, r6, r7, r8⟩ := hR
  have hs₁ : (gs G).WarmedH vm₁ := State.WarmedH.trans hF.wm X₁.warmed
  obtain ⟨methk, ck, hmk, hck, hlk, hpk, hFX⟩ := hy.spec hG (s := T.setVm vm₁) hs₁ hn
  have hsize : (F0 m pc lsR (rest.map (zv (gb G)))).locals.size = c.maxLocals := by rw [hF.2.1]; exact hL.1
  have hdg' : decode c.code (F0 m pc lsR (rest.map (zv (gb G)))).pc = .ok (ig, len) := by rw [hF.1]; exact hdg
  have hckL : ck.maxLocals = y'.2.2.1 := (hFX _ rfl).2.1
  have hcat := z_cat (gb G) rest
  have hmon : (F0 m pc lsR (rest.map (zv (gb G)))).monitorRoom = 0 := rfl
  have hfr : d' + 1 ≤ R.frames := by omega
  have hloc : 2 * (F0 m pc lsR (rest.map (zv (gb G)))).monitorRoom + ((rest.map (zv (gb G))).map fun v => v.category).sum + (ck.maxLocals + 11) + (64 * d' + 256) ≤ R.locals := by
    rw [hmon, hckL]
    exact z_loc hcat hw r2 hd1
  have hcel : cells + (R.cells - cells) ≤ R.cells := by omega
  have hslo : slots + (R.slots - slots) ≤ R.slots := by omega
  have hcel2 : zn h + (R.cells - cells) = g0 G + 603072 := by omega
  have hslo2 : zs h + (R.slots - slots) = 7211114 := by omega
  obtain ⟨Y, hin⟩ := X₁.into (g := F0 m pc lsR (rest.map (zv (gb G)))) rfl hsize hdg' (as.map (zv (gb G))).toArray (R' := { frames := d', cells := R.cells - cells, slots := R.slots - slots, locals := 64 * d' + 256 }) hmk hck hlk hpk
    hfr hloc hcel hslo
  generalize hU : ((T.setVm vm₁).setTop (F0 m pc lsR (rest.map (zv (gb G))))).pushFrame (.java (entryFrame mk (as.map (zv (gb G))).toArray ck.maxLocals)) = U at Y hin
  have hheap : U.heap = T.heap := by
    rw [← hU]
    simp [State.pushFrame, State.setFrames, State.setTop, State.modifyTopJava, State.setVm]
  have hsz : ((T.setVm vm₁).calling (F0 m pc lsR (rest.map (zv (gb G)))) mk (as.map (zv (gb G))).toArray).heap.size = zn h := by
    have : ((T.setVm vm₁).calling (F0 m pc lsR (rest.map (zv (gb G)))) mk (as.map (zv (gb G))).toArray).heap = T.heap := by
      simp [State.calling, State.pushFrame, State.setFrames, State.setTop, State.modifyTopJava, State.setVm]
    rw [this]; exact hH.1
  have hvm : ((T.setVm vm₁).calling (F0 m pc lsR (rest.map (zv (gb G)))) mk (as.map (zv (gb G))).toArray).vm = vm₁ := by
    simp [State.calling, State.pushFrame, State.setFrames, State.setTop, State.modifyTopJava, State.setVm]
  have hent : lv_has ((lg_sl (as.map (zv (gb G))) ++ List.replicate (y'.2.2.1 - (lg_sl (as.map (zv (gb G)))).length) Slot.unset).toArray) y'.2.2.1 (zal (gb G) 0 le) := by
    have := lv_entry (as.map (zv (gb G))) (n := y'.2.2.1) (by rw [zent_len]; exact hlen)
    rw [← hle]
    unfold zent
    rw [zal_app, zal_ent]
    exact this
  obtain ⟨t, hsteps, o, h1, L, c1, s1, e1, e2, e3, e4, e5, e6, e7, e8, e9, e10, e11, e12⟩ := kc { frames := d', cells := R.cells - cells, slots := R.slots - slots, locals := 64 * d' + 256 } _ mk (as.map (zv (gb G))).toArray (.java (F0 m pc lsR (rest.map (zv (gb G)))) :: below) methk ck T.heap [] 0 0 (zs h) _ (hFX _ hvm)
    ⟨Nat.le_refl _, Nat.le_refl _, by rw [hsz]; rfl, by rw [hsz]; exact hcel2, rfl, hslo2, r7, r8⟩ (fun q hq => by cases hq) hH hent _ hheap Y
  have hgo : Steps (gp G).tables (ge G) below (T.setTop (F0 m pc lsR (stk.map (zv (gb G))))) t := by
    refine st t ?_
    rw [hin []]
    refine z_weaken (mid := [.java (F0 m pc lsR (rest.map (zv (gb G))))]) ?_
    rw [lg_entry_eq, hckL]
    exact hsteps
  rcases o with v | q
  · obtain ⟨T', X', hW', hB', ht⟩ := X₁.outOf (g := F0 m pc lsR (rest.map (zv (gb G)))) rfl hdg' e2 e4 e5
    have hheap' : t.heap = T'.heap := by rw [ht]; simp [State.setTop, State.modifyTopJava, State.setFrames]
    rw [hheap'] at e3
    have hk : zJ G d y (pc + len) ls (v.toList ++ rest) h1 Q := e12
    obtain ⟨t2, g1, g2⟩ := hk R s m args below meth c T'.heap (locs ++ L) (cells + c1) (slots + s1) sB lsR hF
      ⟨r1, r2, by rw [hsz] at e7; omega, r4, by omega, r6, e9, e10⟩ (fun q hq => (List.mem_append.mp hq).elim (hl q) (e6 q)) e3 hL T' rfl X'
    refine ⟨t2, hgo.trans ?_, g2⟩
    rw [ht]
    have hstk : (v.map (zv (gb G))).toList ++ rest.map (zv (gb G)) = (v.toList ++ rest).map (zv (gb G)) := by cases v <;> rfl
    show Steps _ _ _ (T'.setTop (F0 m (pc + len) lsR ((v.map (zv (gb G))).toList ++ rest.map (zv (gb G))))) _
    rw [hstk]
    exact g1
  · obtain ⟨T', X', hW', hB', ht⟩ := X₁.outOfThrown (g := F0 m pc lsR (rest.map (zv (gb G)))) rfl e2 e4 e5
    have hheap' : t.heap = T'.heap := by rw [ht]; exact Stand.throwing_heap _ _ _
    rw [hheap'] at e3
    have hk : zThr G d y pc ls rest Q q h1 := e12
    obtain ⟨g3, g4, g5⟩ := e11 q rfl
    obtain ⟨t2, g1, g2⟩ := hk R s m args below meth c T' (locs ++ L) (cells + c1) (slots + s1) sB lsR hF
      ⟨r1, r2, by rw [hsz] at e7; omega, r4, by omega, r6, e9, e10⟩ (fun q hq => (List.mem_append.mp hq).elim (hl q) (e6 q)) e3 hL g3 g4 g5 X'
    refine ⟨t2, hgo.trans ?_, g2⟩
    rw [ht]
    exact g1
/-- a method without handlers throws on -/
theorem zThr.out {rest : List zV} {q : Nat × Nat} (hh : y.2.2.2.2 = []) (hq : Q (.inr q) h) : zThr G d y pc ls rest Q q h := by
  intro R s m args below meth c T locs cells slots sB lsR hF hR hl hH hL hq1 hq2 hq3 X
  obtain ⟨f1, f2, f3, f4, f5, f6, f7, f8⟩ := hF
  obtain ⟨r1, r2, r3, r4, r5, r6, r7, r8⟩ := hR
  obtain ⟨g1, g2, g3, g4, g5⟩ := X.leaveThrown q.2 (g := F0 m pc lsR (rest.map (zv (gb G)))) rfl rfl rfl (fun x hx => by rw [f7, hh] at hx; cases hx) f4
  exact ⟨_, g1, .inr q, h, locs, cells, slots, g2, g3, hH, g4, g5, hl, r3, r5, r7, r8, (fun q' e => by cases e; exact ⟨hq1, hq2, hq3⟩), hq⟩
/-- THE CALL, from a method without handlers -/
theorem zj_call {d' len : Nat} {y' : zM} {as rest stk : List zV} {le : List (Option zV)} (hG : zOK G) (hc : zCall G y pc len y'.1 as rest stk h) (hy : zCode y') (hh : y.2.2.2.2 = []) (hd1 : d' + 1 ≤ d) (hle : zent as y'.2.2.1 = le) (hlen : (zent0 as).length ≤ y'.2.2.1) (hw : 2 * rest.length + y'.2.2.1 ≤ 53)
    {Qc : zO → zH → Prop} (kc : zJ G d' y' 0 le [] h Qc) (kr : ∀ v h1, Qc (.inl v) h1 → zJ G d y (pc + len) ls (v.toList ++ rest) h1 Q) (kt : ∀ q h1, Qc (.inr q) h1 → Q (.inr q) h1) : zJ G d y pc ls stk h Q := by
  refine zj_call0 hG hc hy hd1 hle hlen hw (kc.mono (fun o h1 hq => ?_))
  rcases o with v | q
  · exact kr v h1 hq
  · exact zThr.out hh (kt q h1 hq)
end ZCALL
