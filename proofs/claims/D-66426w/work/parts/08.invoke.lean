/-! PART 08: what each kind of invocation asks of the tables -/
section ZINV
variable {G : zG} {y : zM} {pc : Nat} {h : zH}
theorem z_stk {b : Nat} {as rest stk : List zV} (hs : stk = as.reverse ++ rest) : stk.map (zv b) = (as.map (zv b)).reverse ++ rest.map (zv b) := by
  rw [hs, List.map_append, List.map_reverse]
theorem z_stkV {b a : Nat} {as rest stk : List zV} (ha : a ≠ 0) (hs : stk = as.reverse ++ zA a :: rest) : stk.map (zv b) = (as.map (zv b)).reverse ++ .ref a :: rest.map (zv b) := by
  rw [hs, List.map_append, List.map_reverse, List.map_cons, show zv b (zA a) = .ref a from zr_ref ha]
theorem z_asV {b a : Nat} {as : List zV} (ha : a ≠ 0) : ((zA a :: as).map (zv b)).toArray = (Value.ref a :: as.map (zv b)).toArray := by
  rw [List.map_cons, show zv b (zA a) = .ref a from zr_ref ha]
theorem z_par {y' : MethodName} {sig : MethodDescriptor} {n : Nat} (hn : (parseMethodDescriptor y'.desc).map (fun d => d.parameters.length) = some n) (hs : parseMethodDescriptor y'.desc = some sig) : n = sig.parameters.length := by
  rw [hs] at hn
  exact (Option.some.inj hn).symm
theorem zCode.nm {y' : zM} (hG : zOK G) (hy : zCode y') {s : State} (hs : (gs G).WarmedH s.vm) : ∃ (mk : MethodId) (meth : Method), s.methodNamed? y'.1 = some mk ∧ s.vm.method? mk = some meth ∧ parseMethodDescriptor y'.1.desc = some meth.sig := by
  rcases hy with ⟨-, ⟨hw, -⟩ | hw⟩
  · obtain ⟨mk, hn⟩ := Cond.code_named (hG.at hw rfl hs #[])
    obtain ⟨meth, c, h1, -, -, -, -, -, -, h8⟩ := Cond.code_spec hn (hG.at hw rfl hs #[])
    exact ⟨mk, meth, hn, h1, h8⟩
  · obtain ⟨mk, meth, c, hn, h1, -, -, -, -, -, -, h8⟩ := Cond.codeWith_spec (hG.at hw rfl hs #[])
    exact ⟨mk, meth, hn, h1, h8⟩
abbrev zNM (n : MethodName) : Prop := n.cls ≠ "java/lang/invoke/MethodHandle" ∧ n.cls ≠ "java/lang/invoke/VarHandle"
theorem zcS {idx : Nat} {y' : zM} {as rest stk : List zV} (hG : zOK G) (hd : decode y.2.1 pc = .ok (.invokestatic idx, 3)) (hy : zCode y') (hl : Cond.methodLink y.1.cls idx y'.1 ∈ lw_tbl) (hst : Cond.static y'.1 ∈ lw_tbl) (hi : Cond.initialized y'.1.cls ∈ lw_tbl) (hne : zNM y'.1)
    (hn : (parseMethodDescriptor y'.1.desc).map (fun d => d.parameters.length) = some as.length) (hs : stk = as.reverse ++ rest) : zCall G y pc 3 y'.1 as rest stk h := by
  intro R s m args below meth c T locs cells slots lsR hF hH X
  refine ⟨⟨_, hd⟩, ?_⟩
  obtain ⟨mk, methM, hnamed, hmethM, hsigM⟩ := hy.nm hG hF.wm
  have hstatic : methM.isStatic = true := Cond.static_spec hnamed hmethM (hG.at hst rfl hF.wm args)
  obtain ⟨kP, hkP, -⟩ := className_of_methodNamed hnamed
  have hinitP : kP.init = .initialized := Cond.initialized_spec (findClass_of_methodNamed hnamed) hkP (hG.at hi rfl hF.wm args)
  obtain ⟨vm₁, X₁, hstep₁⟩ := X.invokestatic hG.ex hF.ow (hG.at hl rfl hF.wm args) hnamed hmethM hstatic hkP hinitP hne (g := F0 m pc lsR (stk.map (zv (gb G)))) rfl (argsL := as.map (zv (gb G))) (rest := rest.map (zv (gb G))) (by rw [List.length_map]; exact z_par hn hsigM) (z_stk hs) (by rw [hF.1]; exact hd)
  exact ⟨vm₁, mk, X₁, X₁.named hnamed, fun target ht => hstep₁ _ fun acts => by rw [doInvoke_state]; exact ht⟩
theorem zcSN {idx : Nat} {host : String} {y' : zM} {as rest stk : List zV} (hG : zOK G) (hd : decode y.2.1 pc = .ok (.invokestatic idx, 3)) (hy : zCode y') (hl : Cond.methodLinkNest y.1.cls idx y'.1 host ∈ lw_tbl) (hst : Cond.static y'.1 ∈ lw_tbl) (hi : Cond.initialized y'.1.cls ∈ lw_tbl) (hne : zNM y'.1)
    (hn : (parseMethodDescriptor y'.1.desc).map (fun d => d.parameters.length) = some as.length) (hs : stk = as.reverse ++ rest) : zCall G y pc 3 y'.1 as rest stk h := by
  intro R s m args below meth c T locs cells slots lsR hF hH X
  refine ⟨⟨_, hd⟩, ?_⟩
  obtain ⟨mk, methM, hnamed, hmethM, hsigM⟩ := hy.nm hG hF.wm
  have hstatic : methM.isStatic = true := Cond.static_spec hnamed hmethM (hG.at hst rfl hF.wm args)
  obtain ⟨kP, hkP, -⟩ := className_of_methodNamed hnamed
  have hinitP : kP.init = .initialized := Cond.initialized_spec (findClass_of_methodNamed hnamed) hkP (hG.at hi rfl hF.wm args)
  obtain ⟨vm₁, X₁, hstep₁⟩ := X.invokestaticNest hG.ex hF.ow (va_Nw.use rfl (va_Nw.warmM hF.wm (va_Nw.of rfl (hG.2.1 _ hl)))) hnamed hmethM hstatic hkP hinitP hne (g := F0 m pc lsR (stk.map (zv (gb G)))) rfl (argsL := as.map (zv (gb G))) (rest := rest.map (zv (gb G))) (by rw [List.length_map]; exact z_par hn hsigM) (z_stk hs) (by rw [hF.1]; exact hd)
  exact ⟨vm₁, mk, X₁, X₁.named hnamed, fun target ht => hstep₁ _ fun acts => by rw [doInvoke_state]; exact ht⟩
/-- a method of the receiver's own class -/
theorem zcV {idx a k : Nat} {y' : zM} {as rest stk : List zV} (hG : zOK G) (hd : decode y.2.1 pc = .ok (.invokevirtual idx, 3)) (hy : zCode y') (hl : Cond.methodLink y.1.cls idx y'.1 ∈ lw_tbl) (hin : Cond.instanceMethod y'.1 ∈ lw_tbl) (hse : Cond.selects (zC k) y'.1 y'.1 ∈ lw_tbl) (hne : zNM y'.1)
    (hk : zt h a = k) (h1 : 1 ≤ k) (h2 : k ≤ 15) (hn : (parseMethodDescriptor y'.1.desc).map (fun d => d.parameters.length) = some as.length) (hs : stk = as.reverse ++ zA a :: rest) : zCall G y pc 3 y'.1 (zA a :: as) rest stk h := by
  intro R s m args below meth c T locs cells slots lsR hF hH X
  refine ⟨⟨_, hd⟩, ?_⟩
  have ha : a ≠ 0 := hH.ne0 hG (by rw [hk]; omega)
  obtain ⟨cellB, g1, g2, g3, -⟩ := hH.obj hk h1 h2
  have hcls := (hG.kn h1 h2 hF.wm).2.1
  obtain ⟨mk, methM, hnamed, hmethM, hstM, habM⟩ := Cond.instanceMethod_spec (hG.at hin rfl hF.wm args)
  obtain ⟨mk', methM', hnamed', hmethM', hsigM⟩ := hy.nm hG hF.wm
  cases hnamed.symm.trans hnamed'
  cases hmethM.symm.trans hmethM'
  obtain ⟨c2, r2, m2, q1, q2, q3, q4, kP, hkP, hkPi⟩ := Cond.selects_spec (hG.at hse rfl hF.wm args)
  rw [hcls] at q1
  cases q1
  cases (State.methodFound?_of_named hnamed hne).symm.trans q2
  cases hnamed.symm.trans q3
  have hselP : selectMethod (ge G).platform s.vm cellB.cls mk = .method mk := by rw [Launch.admits_selectMethod X.admits, g2]; exact q4
  obtain ⟨vm₁, X₁, hstep₁⟩ := X.invokevirtual hG.ex hF.ow (hG.at hl rfl hF.wm args) hnamed hmethM hstM hkP hkPi hne (a := a) (cell := cellB) g1
    (fun z h => by rw [g3] at h; cases h) hselP hmethM habM hkP hkPi (g := F0 m pc lsR (stk.map (zv (gb G)))) rfl (argsL := as.map (zv (gb G))) (rest := rest.map (zv (gb G))) (by rw [List.length_map]; exact z_par hn hsigM) (z_stkV ha hs) (by rw [hF.1]; exact hd)
  exact ⟨vm₁, mk, X₁, X₁.named hnamed, fun target ht => hstep₁ _ fun acts => by rw [doInvoke_state]; rw [z_asV ha] at ht; exact ht⟩
/-- a private method; some word tells that its class is no interface -/
theorem zcP {idx a k : Nat} {y' : zM} {as rest stk : List zV} {C0 : String} {x0 y0 : MethodName} (hG : zOK G) (hd : decode y.2.1 pc = .ok (.invokevirtual idx, 3)) (hy : zCode y') (hl : Cond.methodLink y.1.cls idx y'.1 ∈ lw_tbl) (hin : Cond.instanceMethod y'.1 ∈ lw_tbl) (hpr : Cond.privateMethod y'.1 ∈ lw_tbl) (hse : Cond.selects C0 x0 y0 ∈ lw_tbl) (hy0 : y0.cls = y'.1.cls) (hne : zNM y'.1)
    (hk : zt h a = k) (h1 : 1 ≤ k) (h2 : k ≤ 15) (hn : (parseMethodDescriptor y'.1.desc).map (fun d => d.parameters.length) = some as.length) (hs : stk = as.reverse ++ zA a :: rest) : zCall G y pc 3 y'.1 (zA a :: as) rest stk h := by
  intro R s m args below meth c T locs cells slots lsR hF hH X
  refine ⟨⟨_, hd⟩, ?_⟩
  have ha : a ≠ 0 := hH.ne0 hG (by rw [hk]; omega)
  obtain ⟨cellB, g1, g2, g3, -⟩ := hH.obj hk h1 h2
  obtain ⟨mk, methM, hnamed, hmethM, hstM, habM⟩ := Cond.instanceMethod_spec (hG.at hin rfl hF.wm args)
  obtain ⟨mk', methM', hnamed', hmethM', hsigM⟩ := hy.nm hG hF.wm
  cases hnamed.symm.trans hnamed'
  cases hmethM.symm.trans hmethM'
  obtain ⟨c2, r2, m2, q1, q2, q3, q4, kP, hkP, hkPi⟩ := Cond.selects_spec (hG.at hse rfl hF.wm args)
  have e0 : m2.cls = mk.cls := by
    have w1 := findClass_of_methodNamed q3
    rw [hy0] at w1
    exact Option.some.inj (w1.symm.trans (findClass_of_methodNamed hnamed))
  rw [e0] at hkP
  have hselP : selectMethod (ge G).platform s.vm cellB.cls mk = .method mk := by
    rw [Launch.admits_selectMethod X.admits]
    refine selectMethod_private hmethM ?_
    have hal := hF.wm.alike
    have hn0 : (gs G).methodNamed? y'.1 = some mk := by
      have e := State.methodNamed?_setVm (s := gs G) hal y'.1
      rw [← e]
      exact hnamed
    have hm0 : (gs G).vm.method? mk = some methM := by rw [← hal.method?]; exact hmethM
    exact Cond.privateMethod_at (hG.2.1 _ hpr) mk methM hn0 hm0
  obtain ⟨vm₁, X₁, hstep₁⟩ := X.invokevirtual hG.ex hF.ow (hG.at hl rfl hF.wm args) hnamed hmethM hstM hkP hkPi hne (a := a) (cell := cellB) g1
    (fun z h => by rw [g3] at h; cases h) hselP hmethM habM hkP hkPi (g := F0 m pc lsR (stk.map (zv (gb G)))) rfl (argsL := as.map (zv (gb G))) (rest := rest.map (zv (gb G))) (by rw [List.length_map]; exact z_par hn hsigM) (z_stkV ha hs) (by rw [hF.1]; exact hd)
  exact ⟨vm₁, mk, X₁, X₁.named hnamed, fun target ht => hstep₁ _ fun acts => by rw [doInvoke_state]; rw [z_asV ha] at ht; exact ht⟩
/-- a method named through a class that inherits it, or an abstract one -/
theorem zcU {idx a k : Nat} {owner : String} {x : MethodName} {y' : zM} {as rest stk : List zV} (hG : zOK G) (hd : decode y.2.1 pc = .ok (.invokevirtual idx, 3)) (hy : zCode y') (hl : Cond.methodLink y.1.cls idx x ∈ lw_tbl) (hsm : Cond.sameMethod x.cls owner x.name x.desc ∈ lw_tbl) (hdc : Cond.declares ⟨owner, x.name, x.desc⟩ ∈ lw_tbl) (hin : Cond.instanceMethod y'.1 ∈ lw_tbl) (hse : Cond.selects (zC k) x y'.1 ∈ lw_tbl)
    (how : owner ≠ "java/lang/invoke/MethodHandle" ∧ owner ≠ "java/lang/invoke/VarHandle") (hk : zt h a = k) (h1 : 1 ≤ k) (h2 : k ≤ 15) (hn : (parseMethodDescriptor x.desc).map (fun d => d.parameters.length) = some as.length) (hs : stk = as.reverse ++ zA a :: rest) : zCall G y pc 3 y'.1 (zA a :: as) rest stk h := by
  intro R s m args below meth c T locs cells slots lsR hF hH X
  refine ⟨⟨_, hd⟩, ?_⟩
  have ha : a ≠ 0 := hH.ne0 hG (by rw [hk]; omega)
  obtain ⟨cellB, g1, g2, g3, -⟩ := hH.obj hk h1 h2
  have hcls := (hG.kn h1 h2 hF.wm).2.1
  obtain ⟨r0, r, hnr, hrm, hstR, hsigR⟩ := va_Decl.abs (va_Nw.warmD hF.wm (va_Nw.of rfl (hG.2.1 _ hdc)))
  have hsame := hG.at hsm rfl hF.wm args
  obtain ⟨cn, ck, r1, hcn, hck, hni, hf, hn1⟩ := Cond.sameMethod_found hsame
  cases hnr.symm.trans hn1
  obtain ⟨mk, methM, hnamed, hmethM, -, habM⟩ := Cond.instanceMethod_spec (hG.at hin rfl hF.wm args)
  obtain ⟨c2, r2, m2, q1, q2, q3, q4, kP, hkP, hkPi⟩ := Cond.selects_spec (hG.at hse rfl hF.wm args)
  rw [hcls] at q1
  cases q1
  cases hf.symm.trans q2
  cases hnamed.symm.trans q3
  have hselP : selectMethod (ge G).platform s.vm cellB.cls r0 = .method mk := by rw [Launch.admits_selectMethod X.admits, g2]; exact q4
  obtain ⟨vm₁, X₁, hstep₁⟩ := X.invokevirtualUp hG.ex hF.ow (hG.at hl rfl hF.wm args) hsame how hnr hrm hstR (a := a) (cell := cellB) g1
    (fun z h => by rw [g3] at h; cases h) hselP hmethM habM hkP hkPi (g := F0 m pc lsR (stk.map (zv (gb G)))) rfl (argsL := as.map (zv (gb G))) (rest := rest.map (zv (gb G))) (by rw [List.length_map]; exact z_par (y' := ⟨owner, x.name, x.desc⟩) hn hsigR) (z_stkV ha hs) (by rw [hF.1]; exact hd)
  exact ⟨vm₁, mk, X₁, X₁.named hnamed, fun target ht => hstep₁ _ fun acts => by rw [doInvoke_state]; rw [z_asV ha] at ht; exact ht⟩
/-- a constructor -/
theorem zcI {idx a : Nat} {y' : zM} {as rest stk : List zV} (hG : zOK G) (hd : decode y.2.1 pc = .ok (.invokespecial idx, 3)) (hy1 : y'.1.name = "<init>") (hl : Cond.methodLink y.1.cls idx y'.1 ∈ lw_tbl) (hin : Cond.instanceMethod y'.1 ∈ lw_tbl) (hc : Cond.code y'.1 y'.2.1 y'.2.2.1 none ∈ lw_tbl) (hne : zNM y'.1)
    (ha : a ≠ 0) (hn : (parseMethodDescriptor y'.1.desc).map (fun d => d.parameters.length) = some as.length) (hs : stk = as.reverse ++ zA a :: rest) : zCall G y pc 3 y'.1 (zA a :: as) rest stk h := by
  intro R s m args below meth c T locs cells slots lsR hF hH X
  refine ⟨⟨_, hd⟩, ?_⟩
  have hpl : (ge G).platform.magicAccessors = ({} : Platform).magicAccessors := by rw [X.admits.platform]
  obtain ⟨mk, methM, cM, kP, vm₁, hnamed, hmethM, hcodeM, -, hlocalsM, -, hkP, -, hW₁, hstep₁⟩ := Steps.initColdArgs (e := ge G) X.here hG.ex X.warmed hpl hF.ow hy1 hne (hG.at hl rfl hF.wm args) (hG.at hin rfl hF.wm args) (hG.at hc rfl hF.wm args) (f := F0 m pc lsR (stk.map (zv (gb G)))) rfl
    (argsL := as.map (zv (gb G))) (rest := rest.map (zv (gb G))) (fun sig h9 => by rw [List.length_map]; exact z_par hn h9) (z_stkV ha hs) (by rw [hF.1]; exact hd)
  have X₁ := X.noted hW₁
  exact ⟨vm₁, mk, X₁, X₁.named hnamed, fun target ht => hstep₁ _ fun acts => by rw [doInvoke_state]; rw [z_asV ha] at ht; exact ht⟩
theorem zcIN {idx a : Nat} {host : String} {y' : zM} {as rest stk : List zV} (hG : zOK G) (hd : decode y.2.1 pc = .ok (.invokespecial idx, 3)) (hy1 : y'.1.name = "<init>") (hl : Cond.methodLinkNest y.1.cls idx y'.1 host ∈ lw_tbl) (hin : Cond.instanceMethod y'.1 ∈ lw_tbl) (hc : Cond.code y'.1 y'.2.1 y'.2.2.1 none ∈ lw_tbl) (hne : zNM y'.1)
    (ha : a ≠ 0) (hn : (parseMethodDescriptor y'.1.desc).map (fun d => d.parameters.length) = some as.length) (hs : stk = as.reverse ++ zA a :: rest) : zCall G y pc 3 y'.1 (zA a :: as) rest stk h := by
  intro R s m args below meth c T locs cells slots lsR hF hH X
  refine ⟨⟨_, hd⟩, ?_⟩
  have hpl : (ge G).platform.magicAccessors = ({} : Platform).magicAccessors := by rw [X.admits.platform]
  obtain ⟨mk, methM, cM, kP, vm₁, hnamed, hmethM, hcodeM, -, hlocalsM, -, hkP, -, hW₁, hstep₁⟩ := Steps.initColdArgsNest (e := ge G) X.here hG.ex X.warmed hpl hF.ow hy1 hne (va_Nw.use (A := args) rfl (va_Nw.warmM hF.wm (va_Nw.of rfl (hG.2.1 _ hl)))) (hG.at hin rfl hF.wm args) (hG.at hc rfl hF.wm args) (f := F0 m pc lsR (stk.map (zv (gb G)))) rfl
    (argsL := as.map (zv (gb G))) (rest := rest.map (zv (gb G))) (fun sig h9 => by rw [List.length_map]; exact z_par hn h9) (z_stkV ha hs) (by rw [hF.1]; exact hd)
  have X₁ := X.noted hW₁
  exact ⟨vm₁, mk, X₁, X₁.named hnamed, fun target ht => hstep₁ _ fun acts => by rw [doInvoke_state]; rw [z_asV ha] at ht; exact ht⟩
/-- an interface's method x on a receiver of a known kind, whose class selects y' -/
theorem zcF {idx a k cnt : Nat} {x : MethodName} {y' : zM} {as rest stk : List zV} (hG : zOK G) (hd : decode y.2.1 pc = .ok (.invokeinterface idx cnt, 5)) (hy : zCode y') (hl : Cond.methodLink y.1.cls idx x ∈ lw_tbl) (hdc : Cond.declares x ∈ lw_tbl) (hfa : Cond.interfaceMethod x.cls x.cls x.name x.desc ∈ lw_tbl) (hpu : Cond.publicMethod y'.1 ∈ lw_tbl) (hun : Cond.unhidden (zC k) x.name x.desc ∈ lw_tbl) (hca : Cond.castable (zC k) x.cls ∈ lw_tbl) (hin : Cond.instanceMethod y'.1 ∈ lw_tbl)
    (hse : ∀ (s : State), (gs G).WarmedH s.vm → ∀ (c : ClassId) (r mk : MethodId), s.vm.findClass (zC k) = some c → s.methodFound? x.cls x.name x.desc = some r → s.methodNamed? y'.1 = some mk → selectMethod {} s.vm c r = .method mk)
    (hne : zNM x) (hk : zt h a = k) (h1 : 1 ≤ k) (h2 : k ≤ 15) (hn : (parseMethodDescriptor x.desc).map (fun d => d.parameters.length) = some as.length) (hs : stk = as.reverse ++ zA a :: rest) : zCall G y pc 5 y'.1 (zA a :: as) rest stk h := by
  intro R s m args below meth c T locs cells slots lsR hF hH X
  refine ⟨⟨_, hd⟩, ?_⟩
  have ha : a ≠ 0 := hH.ne0 hG (by rw [hk]; omega)
  obtain ⟨cellB, g1, g2, g3, -⟩ := hH.obj hk h1 h2
  obtain ⟨hcls, kB, hkB, -⟩ := (hG.kn h1 h2 hF.wm).2
  rw [← g2] at hcls hkB
  have hFw : va_Fw (zC k) x y'.1 s := va_Fw.moved hne hF.wm.alike (va_Fw.of (hG.2.1 _ hdc) (hG.2.1 _ hfa) (hG.2.1 _ hpu) (hG.2.1 _ hun) (hG.2.1 _ hca))
  obtain ⟨w1, w2, w3, w4, w5⟩ := hFw
  obtain ⟨r0, r, hnr, hrm, hstR, hsigR⟩ := Cond.declares_spec w1
  obtain ⟨cL, kL, r1, hcL, hkL, hiL, hfoundL, hn1⟩ := Cond.interfaceMethod_spec w2
  cases hnr.symm.trans hn1
  have hr0cls : r0.cls = cL := Option.some.inj ((findClass_of_methodNamed hnr).symm.trans hcL)
  obtain ⟨hnameR, hdescR⟩ := name_of_methodNamed hnr hrm
  obtain ⟨mk, methM, hnamed, hmethM, -, habM⟩ := Cond.instanceMethod_spec (hG.at hin rfl hF.wm args)
  have hselP : selectMethod (ge G).platform s.vm cellB.cls r0 = .method mk := by rw [Launch.admits_selectMethod X.admits]; exact hse s hF.wm _ _ _ hcls hfoundL hnamed
  have hpubM : hasFlag methM.accessFlags Acc.public_ = true := Cond.publicMethod_spec hnamed hmethM w3
  have hway : ((cellB.cls :: s.vm.superclasses cellB.cls).any fun k => (declaredIn s.vm r.name r.desc k).any fun (_, z) => z.isPrivate || z.isStatic) = false := by
    rw [hnameR, hdescR]; exact Cond.unhidden_spec hcls w4
  obtain ⟨c3, t3, v1, v2, v3⟩ := Cond.castable_spec w5
  cases hcls.symm.trans v1
  cases hcL.symm.trans v2
  obtain ⟨vm₁, X₁, hstep₁⟩ := X.invokeinterface hG.ex hF.ow (hG.at hl rfl hF.wm args) hnr hrm hstR (by rw [hr0cls]; exact hkL) hiL hne (a := a) (cell := cellB) (kcell := kB) g1
    (fun z h => by rw [g3] at h; cases h) hkB (by rw [hr0cls]; exact v3) hselP hmethM hway hpubM habM (g := F0 m pc lsR (stk.map (zv (gb G)))) rfl (argsL := as.map (zv (gb G))) (rest := rest.map (zv (gb G))) (by rw [List.length_map]; exact z_par hn hsigR) (z_stkV ha hs) (by rw [hF.1]; exact hd)
  exact ⟨vm₁, mk, X₁, X₁.named hnamed, fun target ht => hstep₁ _ fun acts => by rw [doInvoke_state]; rw [z_asV ha] at ht; exact ht⟩
theorem z_sel {C : String} {x y' : MethodName} (hG : zOK G) (hse : Cond.selects C x y' ∈ lw_tbl) : ∀ (s : State), (gs G).WarmedH s.vm → ∀ (c : ClassId) (r mk : MethodId), s.vm.findClass C = some c → s.methodFound? x.cls x.name x.desc = some r → s.methodNamed? y' = some mk → selectMethod {} s.vm c r = .method mk := by
  intro s hs c r mk h1 h2 h3
  obtain ⟨c2, r2, m2, q1, q2, q3, q4, -⟩ := Cond.selects_spec (hG.at hse rfl hs #[])
  cases h1.symm.trans q1
  cases h2.symm.trans q2
  cases h3.symm.trans q3
  exact q4
/-- Object.<init> -/
theorem zj_objinit {d a idx : Nat} {ls : List (Option zV)} {st : List zV} {Q : zO → zH → Prop} (hG : zOK G) (hd : decode y.2.1 pc = .ok (.invokespecial idx, 3)) (hl : Cond.methodLink y.1.cls idx Lib.objectInit ∈ lw_tbl) (ha : a ≠ 0) (hd1 : 1 ≤ d) (hst : st.length ≤ 8) (k : zJ G d y (pc + 3) ls st h Q) : zJ G d y pc ls (zA a :: st) h Q := by
  intro R s m args below meth c H locs cells slots sB lsR hF hR hl' hH hL
  have hcat := z_cat (gb G) st
  have hsz : (F0 m pc lsR ((zA a :: st).map (zv (gb G)))).locals.size = c.maxLocals := by rw [hF.2.1]; exact hL.1
  have hr1 : 1 ≤ R.frames := Nat.le_trans hd1 hR.1
  have hr2 : 2 * (F0 m pc lsR ((zA a :: st).map (zv (gb G)))).monitorRoom + ((st.map (zv (gb G))).map fun v => v.category).sum + 12 ≤ R.locals := by
    have := hR.2.1
    show 2 * 0 + _ + 12 ≤ _
    omega
  refine W.objInit hG.ex hF.1 hF.ow (hG.at hl rfl hF.wm args) (hG.at (z_wd 37 (by decide +kernel)) rfl hF.wm args) (hG.at (z_wd 38 (by decide +kernel)) rfl hF.wm args) rfl hsz (a := a) (rest := st.map (zv (gb G))) (by rw [List.map_cons, show zv (gb G) (zA a) = .ref a from zr_ref ha]) hd hr1 hr2 (k R s m args below meth c H locs cells slots sB lsR hF hR hl' hH hL)
end ZINV
