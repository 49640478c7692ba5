/-! PART 13c: 'throw new X(text)' -/
section ZT
variable {G : zG}
/-- a static reference of the base heap is one still -/
theorem z_stat (hG : zOK G) {C n d : String} (hc : Cond.isRef (.static C n d) ∈ flatC (Jvm.Cond.and given_1 narrow_1)) {U : State} (hs : (gs G).WarmedH U.vm) (hb : ∀ a, a < g0 G → U.heap[a]? = (gs G).heap[a]?) (args : Array Value) : (Cond.isRef (.static C n d)).before args U = true := by
  have h1 : (Cond.isRef (.static C n d)).before #[Value.ref (gb G)] ((gs G).setVm U.vm) = true := Cond.before_shiftedFace (State.Shifted.of_warmed hs) _ rfl (hG.gv hc)
  have hvm : ((gs G).setVm U.vm).vm = U.vm := rfl
  have hff : ((gs G).setVm U.vm).fieldNamed? C n d true = U.fieldNamed? C n d true := by
    unfold State.fieldNamed? State.fieldFound?
    rw [hvm]
  simp only [Cond.before, Cond.holds, Cond.value, Term.eval, beq_iff_eq] at h1 ⊢
  rw [hff] at h1
  cases hf : U.fieldNamed? C n d true with
  | none => rw [hf] at h1; simp at h1
  | some x =>
    obtain ⟨c, k, sl⟩ := x
    rw [hf] at h1
    cases hst : k.statics with
    | none => simp [hst] at h1
    | some a =>
      cases hcell : (gs G).heap[a]? with
      | none =>
        simp [hst, hcell] at h1
      | some cell =>
        have e2 : U.heap[a]? = some cell := by rw [hb a (Array.getElem?_eq_some_iff.mp hcell).1]; exact hcell
        simp [hst, hcell] at h1
        simp [hst, e2]
        exact h1
theorem z_lstat (hG : zOK G) {C n d : String} (hc : Cond.laysStatic C n d ∈ lw_tbl) {U : State} (hs : (gs G).WarmedH U.vm) (hb : ∀ a, a < g0 G → U.heap[a]? = (gs G).heap[a]?) (args : Array Value) : (Cond.laysStatic C n d).before args U = true := by
  have h1 : (Cond.laysStatic C n d).before #[Value.ref (gb G)] ((gs G).setVm U.vm) = true := Cond.before_shiftedFace (State.Shifted.of_warmed hs) _ rfl (hG.2.1 _ hc)
  obtain ⟨c, k, i, f, a, cell, e1, e2, e3, e4, e5, e6, e7, e8, e9⟩ := Cond.laysStatic_spec h1
  have hff : U.fieldFound? C n d = some (c, k, i, f) := by
    rw [← e2]
    unfold State.fieldFound?
    rfl
  have hfc : U.vm.findClass C = some c := e1
  have e5' : (gs G).heap[a]? = some cell := e5
  have hcell : U.heap[a]? = some cell := by rw [hb a (Array.getElem?_eq_some_iff.mp e5').1]; exact e5'
  simp [Cond.before, Cond.holds, Cond.value, hfc, hff, e3, e4, hcell, e6, e7, e8, e9]
theorem z_cellEq {c c' : Cell} (h1 : c' = { c with slots := c'.slots }) (h2 : c'.slots.size = c.slots.size) (h3 : ∀ i : Nat, c'.slots[i]? = c.slots[i]?) : c' = c := by
  have e : c'.slots = c.slots := by
    apply Array.ext_getElem?
    exact h3
  rw [h1, e]
/-- what a throw of kind kx asks of the tables -/
def zTW (own : String) (i0 i2 i3 kx : Nat) (tx : String) : Prop :=
  16 ≤ kx ∧ kx ≤ 20 ∧ Bundle.fit (zC kx) = true ∧ Cond.classLink own i0 (zC kx) ∈ lw_tbl ∧ Cond.instantiable (zC kx) 6 ∈ lw_tbl ∧ Cond.initialized (zC kx) ∈ lw_tbl ∧ Cond.stringRef own i2 tx ∈ lw_tbl ∧ Cond.exactly (.string own i2) "java/lang/String" ∈ flatC (Jvm.Cond.and given_1 narrow_1) ∧
  ∀ w ∈ Bundle.ownAtoms own i3 (zC kx) ["java/lang/RuntimeException", "java/lang/Exception"], (w ∈ lw_tbl ∧ ((w.onTables && w.keepsFace) = true ∨ w = .laysStatic Bundle.tN "UNASSIGNED_STACK" Bundle.steD ∨ w = .laysStatic Bundle.tN "SUPPRESSED_SENTINEL" Bundle.listD)) ∨ w = .isRef (.static Bundle.tN "UNASSIGNED_STACK" Bundle.steD) ∨ w = .isRef (.static Bundle.tN "SUPPRESSED_SENTINEL" Bundle.listD)
theorem z_un : Cond.isRef (.static Bundle.tN "UNASSIGNED_STACK" Bundle.steD) ∈ flatC (Jvm.Cond.and given_1 narrow_1) ∧ Cond.isRef (.static Bundle.tN "SUPPRESSED_SENTINEL" Bundle.listD) ∈ flatC (Jvm.Cond.and given_1 narrow_1) := by decide +kernel
set_option maxHeartbeats 1000000 in
theorem zj_throw {d : Nat} {y : zM} {pc : Nat} {ls : List (Option zV)} {h : zH} {Q : zO → zH → Prop} {i0 i2 i3 kx : Nat} {tx : String} (hG : zOK G) (hd0 : decode y.2.1 pc = .ok (.new i0, 3)) (hd1 : decode y.2.1 (pc + 3) = .ok (.dup, 1)) (hd2 : decode y.2.1 (pc + 4) = .ok (.ldc i2, 2)) (hd3 : decode y.2.1 (pc + 6) = .ok (.invokespecial i3, 3)) (hd4 : decode y.2.1 (pc + 9) = .ok (.athrow, 1))
    (hw : zTW y.1.cls i0 i2 i3 kx tx) (hh : y.2.2.2.2 = []) (hd : 8 ≤ d) (hn : zn h + 1 ≤ g0 G + 603072) (hs : zs h + 6 ≤ 7211114) (hq : Q (zX kx (zn h)) (znew h kx 6 0)) : zJ G d y pc ls [] h Q := by
  intro R s m args below meth c H locs cells slots sB lsR hF hR hl hH hL T hT X
  subst hT
  obtain ⟨hk1, hk2, hfit, hcl, hins, hini, hstr, hex, hat⟩ := hw
  obtain ⟨r1, r2, r3, r4, r5, r6, r7, r8⟩ := hR
  have hexec := hG.ex
  have X0 := z_root X (by omega) (by omega)
  have hws : (gs G).WarmedH (T.setFrames (.invoking m args :: below)).vm := State.WarmedH.trans hF.wm X.warmed
  have hown : (T.setFrames (.invoking m args :: below)).vm.findClass y.1.cls = some m.cls := by
    show T.vm.findClass y.1.cls = some m.cls
    rw [X.warmed.alike.findClass]
    exact hF.ow
  have hsz : (T.setFrames (.invoking m args :: below)).heap.size = zn h := hH.1
  obtain ⟨aS, cS, cA, kA, hevS, -⟩ := Cond.exactly_spec (hG.gv hex)
  have hR0 : vk_R y.1.cls i2 tx aS (gs G) := vk_R.of (hG.2.1 _ hstr) hevS
  have hR1 : vk_R y.1.cls i2 tx aS (T.setFrames (.invoking m args :: below)) := vk_R.warm hws hR0
  have hca := hG.ca hk1 hk2 hws
  have hrun : W (gp G) (gl G) (ge G) { frames := R.frames, cells := R.cells - cells, slots := R.slots - slots, locals := R.locals } (T.setFrames (.invoking m args :: below)) m args below meth c T.heap [] 0 0
      (fun U => U.status = .running ∧ Ended U below (.threw (zn h)) ∧ (T.setFrames (.invoking m args :: below)).WarmedH U.vm ∧ (T.setFrames (.invoking m args :: below)).sameButNew ({ U with vm := (T.setFrames (.invoking m args :: below)).vm } : State) [] 1 6 ∧ ∃ ce : Cell, U.heap[zn h]? = some ce ∧ ce.cls = gC G kx ∧ ce.vm = .none) (F0 m pc lsR []) := by
    refine W.newcK hexec hF.1 hown (hG.at hcl rfl hws args) (hG.at hins rfl hws args) (hG.at hini rfl hws args) rfl hd0 (by show 0 + 1 ≤ R.cells - cells; omega) (by show 0 + 6 ≤ R.slots - slots; omega) hca.1 hH.1 (fun H' kC hkC e1 e2 e3 => ?_)
    refine lv_dup (pc := pc + 3) hexec hF.1 hd1 rfl ?_
    refine va_ldcS (pc := pc + 4) hexec hF.1 hown hR1 hd2 ?_
    intro T2 hT2 X2
    have hcell2 : T2.heap[zn h]? = some (freshCell (gC G kx) kC) := by rw [hT2]; exact e1
    obtain ⟨U, u1, u2, u3, u4, u5, ce, u6, u7⟩ := X2.ctorThrowS hexec hG.2.2.2.2.2.2.2.2.2.2.2.1 (own := y.1.cls) (cls := zC kx) (names := ["java/lang/RuntimeException", "java/lang/Exception"]) (ic := i3) hown hfit (by decide) (fun w hw => by
        rcases hat w hw with ⟨q1, q2 | rfl | rfl⟩ | rfl | rfl
        · exact hG.atF q1 q2 hws args
        · exact z_lstat hG q1 hws (fun a ha => hH.2.2.1 a ha) args
        · exact z_lstat hG q1 hws (fun a ha => hH.2.2.1 a ha) args
        · exact z_stat hG z_un.1 hws (fun a ha => hH.2.2.1 a ha) args
        · exact z_stat hG z_un.2 hws (fun a ha => hH.2.2.1 a ha) args)
      (fun x hx => by cases hx) hca.1 hkC hcell2 (by rw [hsz]; exact Nat.le_refl _) (msg := .ref aS) rfl (g := F0 m (pc + 6) lsR [.ref aS, .ref (zn h), .ref (zn h)]) rfl (by rw [hF.2.1]; exact hL.1) rfl rfl (rest := []) rfl (by rw [hF.1]; exact hd3) (by rw [hF.1]; exact hd4)
      (fun x hx => by rw [hF.2.2.2.2.2.2.1, hh] at hx; cases hx) (by show 2 + 3 < R.frames; omega) (by show 2 * 0 + (1 + 0) + (13 * (2 + 1) + 42) ≤ R.locals; omega) hF.2.2.2.1
    refine ⟨U, u1, u2, u3, u4, u5, ce, u6, ?_, u7.vm⟩
    exact (Option.some.inj (hca.1.symm.trans u7.cls)).symm
  obtain ⟨U, v1, v2, v3, v4, v5, ce, v6, v7, v8⟩ := hrun T rfl X0
  have hzn : zn h < U.heap.size := (Array.getElem?_eq_some_iff.mp v6).1
  have hUs : U.heap.size = zn h + 1 := by
    have := v5.2.2.1
    have e1 : ({ U with vm := (T.setFrames (.invoking m args :: below)).vm } : State).heap.size = U.heap.size := rfl
    rw [e1, hsz] at this
    omega
  have hold : ∀ q, q < zn h → U.heap[q]? = T.heap[q]? := by
    intro q hq9
    have hq8 : q < T.heap.size := by rw [hH.1]; exact hq9
    obtain ⟨c', w1, w2, w3, w4⟩ := v5.2.2.2.2.2 q (T.heap[q]) (by show T.heap[q]? = _; exact Array.getElem?_eq_getElem hq8)
    have e2 : c' = T.heap[q] := z_cellEq w2 w3 (fun i => w4 i (fun hm => by cases hm))
    rw [Array.getElem?_eq_getElem hq8, ← e2]
    exact w1
  have hTU : T.sameButNew (U.setVm T.vm) [] 1 6 := by
    obtain ⟨b1, b2, b3, b4, b5, b6⟩ := v5
    refine ⟨?_, b2, b3, b4, b5, b6⟩
    have e3 : (T.setFrames (.invoking m args :: below)).setFrames U.frames = T.setFrames U.frames := State.setFrames_setFrames ..
    have b1' : U.setVm T.vm = { (T.setFrames (.invoking m args :: below)).setFrames U.frames with heap := U.heap, slotsUsed := U.slotsUsed } := b1
    rw [e3] at b1'
    exact b1'
  have hsame : s.sameButNew (U.setVm s.vm) (locs ++ []) (cells + 1) (slots + 6) := X.same.trans (hTU.setVm s.vm)
  refine ⟨U, v1, zX kx (zn h), znew h kx 6 0, locs ++ [], cells + 1, slots + 6, v2, v3, ?_, State.WarmedH.trans X.warmed v4, hsame, by simpa using hl, by show _ = zn h + 1; omega, by show _ = zs h + 6; omega, hn, hs, fun q e => by cases e; exact ⟨zw_s, hk1, hk2⟩, hq⟩
  refine hH.grow hUs hold (by omega) ?_
  unfold zcell
  have e9 : zt (znew h kx 6 0) (zn h) = kx := zw_s
  rw [e9, if_neg (by omega), if_neg (by omega), if_pos hk2]
  exact ⟨ce, v6, v7, v8⟩
end ZT
