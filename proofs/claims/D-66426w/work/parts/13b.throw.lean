/-! PART 13b: throw and catch -/
section ZROOT
variable {p : Program} {l : Launch} {e : Env} {R : Room} {s : State} {m : MethodId} {args : Array Value} {below : List Frame} {meth : Method} {c : Code} {T : State} {locs : List Loc} {cells slots : Nat}
/-- the same walk, counted from here on -/
theorem z_root (X : Stand p l e R s m args below meth c T locs cells slots) (h1 : cells ≤ R.cells) (h2 : slots ≤ R.slots) :
    Stand p l e { frames := R.frames, cells := R.cells - cells, slots := R.slots - slots, locals := R.locals } (T.setFrames (.invoking m args :: below)) m args below meth c T [] 0 0 := by
  obtain ⟨g₀, hfr⟩ := X.frames_eq
  have hcur : T.cur < T.threads.size := State.cur_lt_of_frames hfr
  have hF : (T.setFrames (.invoking m args :: below)).frames = .invoking m args :: below := State.frames_setFrames _ hcur
  have hm : (T.setFrames (.invoking m args :: below)).vm.method? m = some meth := X.method'
  obtain ⟨t, ht, -⟩ := State.frames_cons hF
  have hfs : (T.setFrames (.invoking m args :: below)).cur < (T.setFrames (.invoking m args :: below)).threads.size := State.cur_lt_of_frames hF
  refine ⟨X.admits, X.cas, X.clock, hF, ?_, ?_, hm, X.code, X.here, X.tail, State.WarmedH.refl _, by rw [State.stackLimits_setFrames], by rw [State.stackBytes_setFrames], ?_⟩
  · obtain ⟨r1, r2, r3, r4⟩ := State.hasRoom_stack X.room
    have r5 := State.hasRoom_real X.room
    have h := X.room
    simp only [State.hasRoom, Bool.and_eq_true, decide_eq_true_eq] at h
    rw [State.localsInUse_invoking X.frames X.method X.code] at r3 r4 r5
    rw [X.frames, List.length_cons] at r1 r2
    have hU := State.localsInUse_invoking hF hm X.code
    have hheap := X.heapSize
    have hused := X.used
    have hbook : (T.setFrames (.invoking m args :: below)).slotsTrue = true := X.book
    simp only [State.hasRoom, Bool.and_eq_true, decide_eq_true_eq, hF, hU, List.length_cons, State.stackLimits_setFrames, State.stackBytes_setFrames, X.limits, X.bytes]
    refine ⟨⟨⟨⟨r5, r1, r2, r3, r4, h.1.1.1.2.2.2.2.2⟩, ?_⟩, ?_⟩, hbook⟩
    · have := h.1.1.2
      show T.heap.size + (R.cells - cells) ≤ e.platform.maxCells
      omega
    · have := h.1.2
      show T.slotsUsed + (R.slots - slots) ≤ e.platform.maxSlots
      omega
  · have hh := X.hears
    have ea := X.warmed.alike
    rcases below with _ | ⟨y, r⟩
    · simp only [State.hears] at hh ⊢
      rw [hm]; rw [X.method] at hh; exact hh
    · cases y
      case java g =>
        simp only [State.hears, State.code?_eq] at hh ⊢
        rw [show (T.setFrames (.invoking m args :: .java g :: r)).vm.method? g.method = s.vm.method? g.method from ea.method? g.method]
        exact hh
      case native g => rfl
      case proc g => rfl
      all_goals
        simp only [State.hears] at hh ⊢
        rw [hm]; rw [X.method] at hh; exact hh
  · have h := (State.sameButNew.refl (T.setFrames (.invoking m args :: below)) ht).setFrames T.frames hfs
    have e1 : (T.setFrames (.invoking m args :: below)).setFrames T.frames = T := by
      obtain ⟨th, hth, -⟩ := State.frames_cons hfr
      rw [State.setFrames_setFrames, State.setFrames_self hth]
    rw [e1] at h
    exact h
end ZROOT
section ZFIND
variable {E : CtlPost} {e : Env} {d : Bool} {acts : List Action} {s : State} {f : JFrame} {a : Addr} {Q : Handler → Pre}
theorem z_goCold {x : ExceptionTableEntry} {t : List ExceptionTableEntry} {c : ClassId} {cell : Cell} {vm' : Vm} (hx : covers x f.pc = true) (h0 : x.catchType ≠ 0)
    (hg : (resolveClass f.method.cls x.catchType).Gives e.toSetting s.vm (.ok c) vm') (hsz : vm'.classes.size ≤ s.vm.classes.size) (hcell : s.heap[a]? = some cell) (hobj : ∀ k, cell.vm ≠ .statics k)
    (hk : ∃ k, vm'.classes[cell.cls]? = some k) (hc : ∃ k, vm'.classes[c]? = some k) :
    wp (findHandler.go f a (x :: t)) Q E e d acts s ↔
      if vm'.assignable cell.cls c = true then Q (.found x.handlerPc) d acts (s.setVm vm') else wp (findHandler.go f a t) Q E e d acts (s.setVm vm') := by
  simp only [covers] at hx
  obtain ⟨ha, ht⟩ := hg.op (op := VmOp.resolveClass f.method.cls x.catchType) rfl
  cases hfit : vm'.assignable cell.cls c <;>
    simp [findHandler.go, hx, h0, ha, ht, hsz, hcell, hobj, hk, hc, hfit, VmOp.dirties, VmOp.acts]
/-- what the search gives, with the tables that it leaves -/
def zFinds (e : Env) (s : State) (f : JFrame) (a : Addr) (h : Handler) (vm' : Vm) : Prop :=
  ∀ (Q : Handler → Pre) (E : CtlPost) (d : Bool) (acts : List Action), wp (findHandler f a) Q E e d acts s ↔ Q h d acts (s.setVm vm')
theorem z_stepCatch {r : List Frame} {pc : Nat} {vm' : Vm} (hfind : zFinds e s f a (.found pc) vm') :
    (stepThrowing e s a (.java f :: r)).Is ((s.setVm vm').setFrames (.java { f with pc := pc, stack := [.ref a] } :: r)) [] := by
  simp only [stepThrowing, searchFrame, vmDo]
  generalize hr : Sem.go _ e false [] s = res
  obtain ⟨as, rfl, ha⟩ := Sem.eq_ok_of hr (a := Handler.found pc) (s' := s.setVm vm') (acts' := []) (by simp [hfind _ _ _ _])
  exact ⟨rfl, ha⟩
theorem z_caught {tb : Tables} {target : State} {g : JFrame} {c : Code} {below : List Frame} (h : At s g.method c below) {pc : Nat} {vm' : Vm} (hfind : zFinds e ((s.setTop g).pushFrame (.throwing a)) g a (.found pc) vm')
    (hrest : Steps tb e below ((s.setVm vm').setTop { g with pc := pc, stack := [.ref a] }) target) :
    Steps tb e below ((s.setTop g).pushFrame (.throwing a)) target := by
  obtain ⟨hgo, hw⟩ := h.throwing a
  refine Steps.head hgo hw ?_
  rw [stepThread_throwing (frames_entered h.top _), (z_stepCatch (s := (s.setTop g).pushFrame (.throwing a)) hfind).1]
  obtain ⟨g₀, hg⟩ := Option.isSome_iff_exists.mp h.top
  obtain ⟨r, hr⟩ := State.topJava?_eq_some.mp hg
  have hr' : (s.setVm vm').frames = .java g₀ :: r := hr
  rw [State.setTop_of_frames _ hr'] at hrest
  have e1 : (((s.setTop g).pushFrame (.throwing a)).setVm vm').setFrames (.java { g with pc := pc, stack := [.ref a] } :: s.frames.tail) = (s.setVm vm').setFrames (.java { g with pc := pc, stack := [.ref a] } :: r) := by
    rw [State.pushFrame, State.setTop_of_frames _ hr, State.setFrames_setFrames, hr]
    show ((s.setVm vm').setFrames _).setFrames _ = _
    rw [State.setFrames_setFrames]
    rfl
  rw [e1]
  exact hrest
end ZFIND
section ZCATCH
variable {G : zG}
theorem zOK.atF (hG : zOK G) {w : Cond} (hw : w ∈ lw_tbl) (hk : (w.onTables && w.keepsFace) = true) {s : State} (hs : (gs G).WarmedH s.vm) (a : Array Value) : w.before a s = true := by
  rw [Bool.and_eq_true] at hk
  exact va_tabs hk.1 (rfl : ((gs G).setVm s.vm).vm = s.vm) (Cond.before_shiftedFace (State.Shifted.of_warmed hs) w hk.2 (hG.2.1 w hw))
theorem zOK.ca (hG : zOK G) {k : Nat} (h1 : 16 ≤ k) (h2 : k ≤ 20) {s : State} (hs : (gs G).WarmedH s.vm) : ClassAt s (zC k) (gC G k) := classAt_moved hs.alike (hG.2.2.2.2.1 k h1 h2)
theorem zOK.gv (hG : zOK G) {c : Cond} (hc : c ∈ flatC (Jvm.Cond.and given_1 narrow_1)) : c.before #[Value.ref (gb G)] (gs G) = true := flat_of_before _ hG.2.2.2.2.2.2.2.2.2.2.2.2 c hc
theorem z_nin : ∀ i, i < 5 → ∀ j, j < 5 → i ≠ j → Cond.not (Cond.castable (zC (16 + i)) (zC (16 + j))) ∈ flatC (Jvm.Cond.and given_1 narrow_1) := by decide +kernel
theorem z_nasg (hG : zOK G) {i j : Nat} (hi1 : 16 ≤ i) (hi2 : i ≤ 20) (hj1 : 16 ≤ j) (hj2 : j ≤ 20) (hne : i ≠ j) {s : State} (hs : (gs G).WarmedH s.vm) : s.vm.assignable (gC G i) (gC G j) = false := by
  have h0 := hG.gv (z_nin (i - 16) (by omega) (j - 16) (by omega) (by omega))
  rw [show 16 + (i - 16) = i by omega, show 16 + (j - 16) = j by omega] at h0
  have h1 : (Cond.castable (zC i) (zC j)).before #[Value.ref (gb G)] (gs G) = false := by
    cases hc : (Cond.castable (zC i) (zC j)).before #[Value.ref (gb G)] (gs G) with
    | false => rfl
    | true =>
      simp only [Cond.before, Cond.holds] at hc h0
      rw [beq_iff_eq] at hc
      simp [Cond.value] at hc h0
      simp [hc] at h0
  have h2 : (Cond.castable (zC i) (zC j)).before #[Value.ref (gb G)] ((gs G).setVm s.vm) = false := by rw [Cond.castable_setVm hs.alike]; exact h1
  cases hq : s.vm.assignable (gC G i) (gC G j) with
  | false => rfl
  | true =>
    have f1 := (hG.ca hi1 hi2 hs).1
    have f2 := (hG.ca hj1 hj2 hs).1
    exfalso
    simp [Cond.before, Cond.holds, Cond.value, State.setVm, f1, f2, hq] at h2
end ZCATCH
/-- which kind of exception a catch entry of the law's class names -/
def zCatch (idx : Nat) : Nat := match idx with
  | 13 => 16 | 15 => 17 | 21 => 18 | 31 => 19 | 82 => 20
  | _ => 0
/-- where an exception of kind k that is thrown at pc is caught -/
def zhnd (pc k : Nat) : List (Nat × Nat × Nat × Nat) → Option Nat
  | [] => none
  | q :: t => if q.1 ≤ pc ∧ pc < q.2.1 then (if zCatch q.2.2.2 = k then some q.2.2.1 else zhnd pc k t) else zhnd pc k t
set_option maxRecDepth 20000 in
theorem z_clinks : ∀ ct, zCatch ct ≠ 0 → Cond.classLink "LensPathsLaw" ct (zC (zCatch ct)) ∈ lw_tbl ∧ 16 ≤ zCatch ct ∧ zCatch ct ≤ 20 ∧ ct ≠ 0 := by
  intro ct h
  unfold zCatch at h ⊢
  split at h
  · exact ⟨z_w1 239 rfl, by decide, by decide, by decide⟩
  · exact ⟨z_w2 0 rfl, by decide, by decide, by decide⟩
  · exact ⟨z_w3 4 rfl, by decide, by decide, by decide⟩
  · exact ⟨z_w4 3 rfl, by decide, by decide, by decide⟩
  · exact ⟨z_w4 237 rfl, by decide, by decide, by decide⟩
  · exact absurd rfl h
section ZCATCH2
variable {G : zG}
theorem z_search (hG : zOK G) {e : Env} {f : JFrame} {a k : Nat} {s0 : State} (hs0 : (gs G).WarmedH s0.vm) (hpl : e.platform.magicAccessors = ({} : Platform).magicAccessors) (hown : s0.vm.findClass "LensPathsLaw" = some f.method.cls) (hk1 : 16 ≤ k) (hk2 : k ≤ 20) :
    ∀ (hs : List (Nat × Nat × Nat × Nat)) (hp : Nat), (∀ q ∈ hs, zCatch q.2.2.2 ≠ 0) → zhnd f.pc k hs = some hp → ∀ (s : State), s0.WarmedH s.vm → (∃ cell : Cell, s.heap[a]? = some cell ∧ cell.cls = gC G k ∧ cell.vm = .none) →
      ∃ vm', s0.WarmedH vm' ∧ ∀ (Q : Handler → Pre) (E : CtlPost) (d : Bool) (acts : List Action), wp (findHandler.go f a (tableOf hs)) Q E e d acts s ↔ Q (.found hp) d acts (s.setVm vm') := by
  intro hs
  induction hs with
  | nil => intro hp _ h; cases h
  | cons q t ih =>
    intro hp hall hh s hW hcell
    have hall' : ∀ q ∈ t, zCatch q.2.2.2 ≠ 0 := fun x hx => hall x (List.mem_cons_of_mem _ hx)
    by_cases hc : q.1 ≤ f.pc ∧ f.pc < q.2.1
    · have hcov : covers (⟨q.1, q.2.1, q.2.2.1, q.2.2.2⟩ : ExceptionTableEntry) f.pc = true := by simp [covers, hc.1, hc.2]
      obtain ⟨hlw, hz1, hz2, hz0⟩ := z_clinks _ (hall q List.mem_cons_self)
      obtain ⟨c, hfc, hcl⟩ := Cond.classLink_spec hown (hG.at hlw rfl hs0 #[]) e.platform hpl
      obtain ⟨hg₁, hwarm₁, hready₁⟩ := State.classEntry (e := e) hW hcl
      have hsz : (s.vm.noted f.method.cls q.2.2.2 (.cls c)).classes.size ≤ s.vm.classes.size := by no_record
      generalize s.vm.noted f.method.cls q.2.2.2 (.cls c) = vm₁ at hg₁ hwarm₁ hready₁ hsz
      obtain ⟨cell, g1, g2, g3⟩ := hcell
      have hsG : (gs G).WarmedH vm₁ := State.WarmedH.trans hs0 hwarm₁
      have hcC : c = gC G (zCatch q.2.2.2) := Option.some.inj (hfc.symm.trans (hG.ca hz1 hz2 hs0).1)
      have hk' := hG.ca hk1 hk2 (s := s.setVm vm₁) hsG
      have hc' := hG.ca hz1 hz2 (s := s.setVm vm₁) hsG
      have hgo := fun (Q : Handler → Pre) (E : CtlPost) (d : Bool) (acts : List Action) => z_goCold (E := E) (e := e) (d := d) (acts := acts) (s := s) (f := f) (a := a) (Q := Q) (x := ⟨q.1, q.2.1, q.2.2.1, q.2.2.2⟩) (t := tableOf t) (c := c) (cell := cell) (vm' := vm₁) hcov hz0 hg₁ hsz g1 (fun z h => by rw [g3] at h; cases h)
        (by obtain ⟨-, kC, hkC, -⟩ := hk'; exact ⟨kC, by rw [g2]; exact hkC⟩) (by obtain ⟨-, kC, hkC, -⟩ := hc'; exact ⟨kC, by rw [hcC]; exact hkC⟩)
      by_cases hek : zCatch q.2.2.2 = k
      · have hhp : hp = q.2.2.1 := by
          simp only [zhnd, if_pos hc, if_pos hek] at hh
          exact (Option.some.inj hh).symm
        subst hhp
        refine ⟨vm₁, hwarm₁, fun Q E d acts => ?_⟩
        show wp (findHandler.go f a (_ :: tableOf t)) Q E e d acts s ↔ _
        rw [hgo]
        have hasg : vm₁.assignable cell.cls c = true := by rw [g2, hcC, hek]; exact va_assign hk'
        rw [if_pos hasg]
      · have hh' : zhnd f.pc k t = some hp := by
          simp only [zhnd, if_pos hc, if_neg hek] at hh
          exact hh
        obtain ⟨vm', hw', hq⟩ := ih hp hall' hh' (s.setVm vm₁) hwarm₁ ⟨cell, g1, g2, g3⟩
        refine ⟨vm', hw', fun Q E d acts => ?_⟩
        show wp (findHandler.go f a (_ :: tableOf t)) Q E e d acts s ↔ _
        rw [hgo]
        have hasg : vm₁.assignable cell.cls c = false := by
          rw [g2, hcC]
          exact z_nasg hG hk1 hk2 hz1 hz2 (fun q => hek q.symm) (s := s.setVm vm₁) hsG
        rw [if_neg (by rw [hasg]; decide), hq]
        rfl
    · have hh' : zhnd f.pc k t = some hp := by
        simp only [zhnd, if_neg hc] at hh
        exact hh
      obtain ⟨vm', hw', hq⟩ := ih hp hall' hh' s hW hcell
      refine ⟨vm', hw', fun Q E d acts => ?_⟩
      show wp (findHandler.go f a (_ :: tableOf t)) Q E e d acts s ↔ _
      rw [W.findHandler_go_skip (by
        simp only [covers]
        simp only [Bool.and_eq_false_iff, decide_eq_false_iff_not]
        by_cases h1 : q.1 ≤ f.pc
        · right; exact fun h2 => hc ⟨h1, h2⟩
        · left; exact h1)]
      exact hq Q E d acts
/-- a method of the law catches -/
theorem zThr.caught {d : Nat} {y : zM} {pc : Nat} {ls : List (Option zV)} {h : zH} {Q : zO → zH → Prop} {rest : List zV} {q : Nat × Nat} {hp : Nat} (hG : zOK G) (hcl : y.1.cls = "LensPathsLaw") (hall : ∀ q ∈ y.2.2.2.2, zCatch q.2.2.2 ≠ 0) (hh : zhnd pc q.1 y.2.2.2.2 = some hp) (k : zJ G d y hp ls [zA q.2] h Q) : zThr G d y pc ls rest Q q h := by
  intro R s m args below meth c T locs cells slots sB lsR hF hR hl hH hL hq1 hq2 hq3 X
  have hne : zt h q.2 ≠ 0 := by omega
  have ha : q.2 ≠ 0 := hH.ne0 hG hne
  have hpl : (ge G).platform.magicAccessors = ({} : Platform).magicAccessors := by rw [X.admits.platform]
  have hown := hF.ow
  rw [hcl] at hown
  obtain ⟨vm', hw', hfind⟩ := z_search hG (e := ge G) (f := F0 m pc lsR (rest.map (zv (gb G)))) (a := q.2) (k := q.1) hF.wm hpl hown hq2 hq3 y.2.2.2.2 hp hall hh
    ((T.setTop (F0 m pc lsR (rest.map (zv (gb G))))).pushFrame (.throwing q.2)) (by rw [Stand.throwing_vm]; exact X.warmed) (by rw [Stand.throwing_heap]; exact hH.exc hq1 hq2 hq3)
  have X' := X.noted hw'
  obtain ⟨t, g1, g2⟩ := k R s m args below meth c T.heap locs cells slots sB lsR hF hR hl hH hL (T.setVm vm') rfl X'
  refine ⟨t, ?_, g2⟩
  have hat : At T (F0 m pc lsR (rest.map (zv (gb G)))).method c below := X.here
  refine z_caught hat (pc := hp) (vm' := vm') ?_ ?_
  · intro Q' E' d' acts'
    rw [W.findHandler_eq (meth := meth) (code := c) (by rw [Stand.throwing_vm]; exact X.method') X.code, hF.2.2.2.2.2.2.1]
    exact hfind Q' E' d' acts'
  · rw [List.map_cons, show zv (gb G) (zA q.2) = .ref q.2 from zr_ref ha] at g1
    exact g1
/-- THE CALL, from a method of the law with handlers -/
theorem zj_callH {d d' len : Nat} {y y' : zM} {pc : Nat} {ls : List (Option zV)} {h : zH} {Q : zO → zH → Prop} {as rest stk : List zV} {le : List (Option zV)} (hG : zOK G) (hc : zCall G y pc len y'.1 as rest stk h) (hy : zCode y') (hd1 : d' + 1 ≤ d) (hle : zent as y'.2.2.1 = le) (hlen : (zent0 as).length ≤ y'.2.2.1) (hw : 2 * rest.length + y'.2.2.1 ≤ 53) (hcl : y.1.cls = "LensPathsLaw") (hall : ∀ q ∈ y.2.2.2.2, zCatch q.2.2.2 ≠ 0)
    {Qc : zO → zH → Prop} (kc : zJ G d' y' 0 le [] h Qc) (kr : ∀ v h1, Qc (.inl v) h1 → zJ G d y (pc + len) ls (v.toList ++ rest) h1 Q) (kt : ∀ q h1, Qc (.inr q) h1 → ∃ hp, zhnd pc q.1 y.2.2.2.2 = some hp ∧ zJ G d y hp ls [zA q.2] h1 Q) : zJ G d y pc ls stk h Q := by
  refine zj_call0 hG hc hy hd1 hle hlen hw (kc.mono (fun o h1 hq => ?_))
  rcases o with v | q
  · exact kr v h1 hq
  · obtain ⟨hp, e1, e2⟩ := kt q h1 hq
    exact zThr.caught hG hcl hall e1 e2
end ZCATCH2
