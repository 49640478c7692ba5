/-! PART 05: rows of fields, arrays, new -/
theorem z_gd1 (C : String) (T : u_T) (N : Nat) : ∀ w ∈ u_ws C T N, (w.onTables && w.keeps) = true := by
  intro w hw
  obtain ⟨j, hj, rfl⟩ := List.mem_map.mp hw
  unfold u_lay
  split <;> first | rfl | simp [Cond.onTables, Cond.keeps, Cond.steady]
section ZM
variable {G : zG} {d : Nat} {y : zM} {pc : Nat} {ls : List (Option zV)} {st : List zV} {h : zH} {Q : zO → zH → Prop}
theorem zOK.at (hG : zOK G) {w : Cond} (hw : w ∈ lw_tbl) (hg : (w.onTables && w.keeps) = true) {s : State} (hs : (gs G).WarmedH s.vm) (a : Array Value) : w.before a s = true := word_at hs (Or.inl hg) (hG.2.1 w hw)
theorem zOK.kn (hG : zOK G) {k : Nat} (h1 : 1 ≤ k) (h2 : k ≤ 15) {s : State} (hs : (gs G).WarmedH s.vm) : u_Kn s (zC k) (zF k) (zN k) (gC G k) (gI G k) := u_Kn_moved hs.alike (hG.2.2.1 k h1 h2)
theorem zOK.lay (hG : zOK G) {k : Nat} (h1 : 1 ≤ k) (h2 : k ≤ 15) {s : State} (hs : (gs G).WarmedH s.vm) (a : Array Value) : ∀ w ∈ u_ws (zC k) (zF k) (zN k), w.before a s = true := fun w hw => hG.at (zK_l h1 h2 w hw) (z_gd1 _ _ _ w hw) hs a
theorem zOK.apart (hG : zOK G) {k : Nat} (h1 : 1 ≤ k) (h2 : k ≤ 15) : ∀ i j, i < zN k → j < zN k → i ≠ j → gI G k i ≠ gI G k j := hG.2.2.2.1 k h1 h2
theorem zOK.arI (hG : zOK G) : zAr (gs G) (gC G 21) .int := hG.2.2.2.2.2.1
theorem zOK.arL (hG : zOK G) : zAr (gs G) (gC G 22) .long := hG.2.2.2.2.2.2.1
theorem zOK.arA (hG : zOK G) {k : Nat} (h1 : 23 ≤ k) (h2 : k ≤ 27) : zAr (gs G) (gC G k) (.object (zE k)) := hG.2.2.2.2.2.2.2.1 k h1 h2
theorem zOK.b0 (hG : zOK G) : gb G < g0 G := hG.2.2.2.2.2.2.2.2.2.1
theorem zOK.scr (hG : zOK G) : va_X (gb G) (gL G) (gx G) (gs G) (gs G).heap := hG.2.2.2.2.2.2.2.2.1
theorem zFX.ow {s : State} {m : MethodId} {meth : Method} {c : Code} (hF : zFX G y s m meth c) : s.vm.findClass y.1.cls = some m.cls := hF.2.2.2.2.1
theorem zFX.wm {s : State} {m : MethodId} {meth : Method} {c : Code} (hF : zFX G y s m meth c) : (gs G).WarmedH s.vm := hF.2.2.2.2.2.2.2
theorem zFX.nm {s : State} {m : MethodId} {meth : Method} {c : Code} (hF : zFX G y s m meth c) : meth.name = y.1.name := hF.2.2.2.2.2.1
theorem zHR.ne0 {H : Heap} (hG : zOK G) (hH : zHR G h H) {a : Nat} (hk : zt h a ≠ 0) : a ≠ 0 := by
  have h1 := (hH.2.2.2.1 a hk).1
  have h2 := hG.b0
  omega
theorem zHR.obj {H : Heap} (hH : zHR G h H) {a k : Nat} (hk : zt h a = k) (h1 : 1 ≤ k) (h2 : k ≤ 15) : t_OB a (gC G k) (zN k) (gI G k) H (zfv h a) := by
  have hc := hH.2.2.2.2.2 a
  unfold zcell at hc
  rw [hk] at hc
  rw [if_neg (by omega), if_pos h2] at hc
  exact hc
theorem zHR.exc {H : Heap} (hH : zHR G h H) {a k : Nat} (hk : zt h a = k) (h1 : 16 ≤ k) (h2 : k ≤ 20) : ∃ cell : Cell, H[a]? = some cell ∧ cell.cls = gC G k ∧ cell.vm = .none := by
  have hc := hH.2.2.2.2.2 a
  unfold zcell at hc
  rw [hk] at hc
  rw [if_neg (by omega), if_neg (by omega), if_pos h2] at hc
  exact hc
theorem zHR.arr {H : Heap} (hH : zHR G h H) {a k : Nat} (hk : zt h a = k) (h1 : 21 ≤ k) : H[a]? = some (arrV (gC G k) (zl h a) (zav h a)) := by
  have hc := hH.2.2.2.2.2 a
  unfold zcell at hc
  rw [hk] at hc
  rw [if_neg (by omega), if_neg (by omega), if_neg (by omega)] at hc
  exact hc
theorem zcell.to {h' : zH} {H H' : Heap} {a : Nat} (hc : zcell G h H a) (et : zt h' a = zt h a) (el : zl h' a = zl h a) (ei : zi h' a = zi h a) (ea : za h' a = za h a) (ej : zj h' a = zj h a) (eH : H'[a]? = H[a]?) : zcell G h' H' a := by
  have e1 : zfv h' a = zfv h a := by unfold zfv; rw [et, ei, ea]
  have e2 : zav h' a = zav h a := by unfold zav; rw [et, ei, ea, ej]
  unfold zcell at hc ⊢
  rw [et, el, e1, e2, eH]
  split
  · trivial
  rename_i n0
  rw [if_neg n0] at hc
  split
  · rename_i n1
    rw [if_pos n1] at hc
    exact hc.kept eH
  rename_i n1
  rw [if_neg n1] at hc
  exact hc
theorem zHR.upd {H : Heap} (hH : zHR G h H) {h' : zH} {H' : Heap} {a : Nat} (e1 : zn h' = zn h) (et : zt h' = zt h) (el : zl h' = zl h) (ev : ∀ b, b ≠ a → zi h' b = zi h b ∧ za h' b = za h b ∧ zj h' b = zj h b) (s1 : H'.size = H.size) (s2 : ∀ q, q ≠ a → H'[q]? = H[q]?) (ha : g0 G ≤ a) (hc : zcell G h' H' a) : zHR G h' H' := by
  obtain ⟨q1, q2, q3, q4, q5, q6⟩ := hH
  refine ⟨by rw [s1, q1, e1], by rw [e1]; exact q2, fun b hb => ?_, by rw [et, e1]; exact q4, by rw [et]; exact q5, fun b => ?_⟩
  · rw [s2 b (by omega)]
    exact q3 b hb
  · by_cases hb : b = a
    · subst hb
      exact hc
    · obtain ⟨v1, v2, v3⟩ := ev b hb
      exact (q6 b).to (by rw [et]) (by rw [el]) v1 v2 v3 (s2 b hb)
theorem zHR.grow {H : Heap} (hH : zHR G h H) {H' : Heap} {c sl n : Nat} (s1 : H'.size = zn h + 1) (s2 : ∀ q, q < zn h → H'[q]? = H[q]?) (hc1 : c ≤ 27) (hcell : zcell G (znew h c sl n) H' (zn h)) : zHR G (znew h c sl n) H' := by
  obtain ⟨q1, q2, q3, q4, q5, q6⟩ := hH
  refine ⟨s1, by show g0 G ≤ zn h + 1; omega, fun b hb => ?_, fun b hb => ?_, fun b => ?_, fun b => ?_⟩
  · rw [s2 b (by omega)]
    exact q3 b hb
  · by_cases e : b = zn h
    · subst e
      exact ⟨q2, Nat.lt_succ_self _⟩
    · have hb' : zt h b ≠ 0 := by
        have : zt (znew h c sl n) b = zt h b := zw_n e
        rw [← this]; exact hb
      have := q4 b hb'
      exact ⟨this.1, Nat.lt_succ_of_lt this.2⟩
  · by_cases e : b = zn h
    · subst e
      show zw (zt h) (zn h) c (zn h) ≤ 27
      rw [zw_s]
      exact hc1
    · show zw (zt h) (zn h) c b ≤ 27
      rw [zw_n e]
      exact q5 b
  · by_cases e : b = zn h
    · subst e
      exact hcell
    · by_cases hb : b < zn h
      · exact (q6 b).to (zw_n e) (zw_n e) (zw_n e) (zw_n e) (zw_n e) (s2 b hb)
      · have h0 : zt h b = 0 := by
          by_cases z : zt h b = 0
          · exact z
          · exact absurd (q4 b z).2 hb
        unfold zcell
        rw [if_pos (show zw (zt h) (zn h) c b = 0 by rw [zw_n e]; exact h0)]
        trivial
/-- the pool's entry idx of class own is the field j of kind k -/
def zFL (own : String) (idx k j : Nat) : Prop := 1 ≤ k ∧ k ≤ 15 ∧ j < zN k ∧ ∃ ref, Cond.fieldLink own idx ref (zF k j).2.1 (zF k j).2.2.1 ∈ lw_tbl ∧ (ref = (zF k j).1 ∨ Cond.sameField ref (zF k j).1 (zF k j).2.1 (zF k j).2.2.1 ∈ lw_tbl)
theorem zFL.found (hG : zOK G) {own : String} {idx k j : Nat} (hf : zFL own idx k j) {s : State} (hs : (gs G).WarmedH s.vm) (args : Array Value) :
    ∃ (ref : String) (cf : ClassId) (kf : Class) (fi : Nat) (f : Field) (kC : Class), (Cond.fieldLink own idx ref (zF k j).2.1 (zF k j).2.2.1).before args s = true ∧ s.fieldFound? ref (zF k j).2.1 (zF k j).2.2.1 = some (cf, kf, fi, f) ∧ s.fieldFound? (zF k j).1 (zF k j).2.1 (zF k j).2.2.1 = some (cf, kf, fi, f) ∧ f.isStatic = false ∧ f.slot = gI G k j ∧
      s.vm.findClass (zC k) = some (gC G k) ∧ s.vm.classes[gC G k]? = some kC ∧ kC.kind = .ordinary := by
  obtain ⟨h1, h2, h3, ref, hl, hr⟩ := hf
  obtain ⟨hS, hfc, kC, hkC, hkind⟩ := hG.kn h1 h2 hs
  obtain ⟨cf, kf, fi, f, hi, hsl⟩ := hS j h3
  refine ⟨ref, cf, kf, fi, f, kC, hG.at hl rfl hs args, ?_, hi, (u_facts hfc hkC (u_lays (hG.lay h1 h2 hs args) (fun _ q => q) h3) hi).1, hsl, hfc, hkC, hkind⟩
  rcases hr with rfl | hr
  · exact hi
  · exact u_same (hG.at hr rfl hs args) _ hi
theorem zj_get (hG : zOK G) {idx a k j : Nat} {v : zV} (hd : decode y.2.1 pc = .ok (.getfield idx, 3)) (hf : zFL y.1.cls idx k j) (hk : zt h a = k) (hv : zfv h a j = zv (gb G) v) (kk : zJ G d y (pc + 3) ls (v :: st) h Q) : zJ G d y pc ls (zA a :: st) h Q := by
  intro R s m args below meth c H locs cells slots sB lsR hF hR hl hH hL
  have k' := kk R s m args below meth c H locs cells slots sB lsR hF hR hl hH hL
  obtain ⟨ref, cf, kf, fi, f, kC, hlink, hi, -, hst, hsl, -, -, -⟩ := hf.found hG hF.wm args
  obtain ⟨h1, h2, h3, -⟩ := hf
  have ha : a ≠ 0 := hH.ne0 hG (by omega)
  obtain ⟨cell, q1, q2, q3, q4⟩ := hH.obj hk h1 h2
  rw [List.map_cons, show zv (gb G) (zA a) = .ref a from zr_ref ha]
  refine W.getf hG.ex hF.1 hF.ow hlink hi hst q1 (by rw [q3]; exact fun q => by cases q) (v := zv (gb G) v) ?_ rfl rfl hd k'
  rw [hsl, q4 j h3, hv]
theorem zj_getI (hG : zOK G) {idx a k j : Nat} (hd : decode y.2.1 pc = .ok (.getfield idx, 3)) (hf : zFL y.1.cls idx k j) (hk : zt h a = k) (hq : zq k j = false) (kk : zJ G d y (pc + 3) ls (zI (zi h a j) :: st) h Q) : zJ G d y pc ls (zA a :: st) h Q :=
  zj_get hG hd hf hk (by unfold zfv; rw [hk, hq]; rfl) kk
theorem zj_getA (hG : zOK G) {idx a k j : Nat} (hd : decode y.2.1 pc = .ok (.getfield idx, 3)) (hf : zFL y.1.cls idx k j) (hk : zt h a = k) (hq : zq k j = true) (kk : zJ G d y (pc + 3) ls (zA (za h a j) :: st) h Q) : zJ G d y pc ls (zA a :: st) h Q :=
  zj_get hG hd hf hk (by unfold zfv; rw [hk, hq]; rfl) kk
theorem zRM.of {R : Room} {s : State} {cells slots sB : Nat} {h' : zH} (hR : zRM G d R s cells slots sB h) (e1 : zn h' = zn h) (e2 : zs h' = zs h) : zRM G d R s cells slots sB h' := by
  obtain ⟨r1, r2, r3, r4, r5, r6, r7, r8⟩ := hR
  exact ⟨r1, r2, by rw [e1]; exact r3, r4, by rw [e2]; exact r5, r6, by rw [e1]; exact r7, by rw [e2]; exact r8⟩
theorem z_locs {locs : List Loc} (hl : ∀ q ∈ locs, g0 G ≤ q.base) {a i : Nat} (ha : g0 G ≤ a) : ∀ q ∈ locs ++ [⟨a, i⟩], g0 G ≤ q.base := by
  intro q hq
  rcases List.mem_append.mp hq with h1 | h1
  · exact hl q h1
  · rw [List.mem_singleton.mp h1]
    exact ha
theorem z_vm0 {cell : Cell} (h : cell.vm = .none) : cell.vm ≠ .unknown := by rw [h]; exact fun q => by cases q
theorem z_set {cell : Cell} {iS : Nat → Nat} {N : Nat} {V : Nat → Value} (h4 : ∀ k, k < N → cell.slots[iS k]? = some (V k)) (hap : ∀ i j, i < N → j < N → i ≠ j → iS i ≠ iS j) {j : Nat} (hj : j < N) (v : Value) (V' : Nat → Value) (hv : V' j = v) (hn : ∀ i, i < N → i ≠ j → V' i = V i) : ∀ k, k < N → (cell.setSlot (iS j) v).slots[iS k]? = some (V' k) := by
  intro k hk
  by_cases e : k = j
  · subst e
    rw [hv]
    have hlt := (Array.getElem?_eq_some_iff.mp (h4 k hk)).1
    simp [Cell.setSlot, hlt]
  · rw [hn k hk e, slot_ne cell v (fun q => hap k j hk hj e q.symm)]
    exact h4 k hk
/-- a field that isn't final, or a final one of the class of the constructor that runs -/
theorem zj_put (hG : zOK G) {idx a k j : Nat} {v : zV} {h' : zH} (hd : decode y.2.1 pc = .ok (.putfield idx, 3)) (hf : zFL y.1.cls idx k j) (hk : zt h a = k) (hfin : (zF k j).2.2.2 = false ∨ ((zF k j).1 = y.1.cls ∧ y.1.name = "<init>"))
    (hn : narrow (zT k j) (zv (gb G) v) = zv (gb G) v) (hfit : fits (zT k j) (zv (gb G) v) = true) (e1 : zn h' = zn h) (e2 : zs h' = zs h) (et : zt h' = zt h) (el : zl h' = zl h) (ev : ∀ b, b ≠ a → zi h' b = zi h b ∧ za h' b = za h b ∧ zj h' b = zj h b) (hv1 : zfv h' a j = zv (gb G) v) (hv2 : ∀ i, i ≠ j → zfv h' a i = zfv h a i)
    (kk : zJ G d y (pc + 3) ls st h' Q) : zJ G d y pc ls (v :: zA a :: st) h Q := by
  intro R s m args below meth c H locs cells slots sB lsR hF hR hl hH hL
  obtain ⟨ref, cf, kf, fi, f, kC, hlink, hi, hi0, hst, hsl, hfc, hkC, hkind⟩ := hf.found hG hF.wm args
  obtain ⟨h1, h2, h3, -⟩ := hf
  have hne : zt h a ≠ 0 := by omega
  have ha : a ≠ 0 := hH.ne0 hG hne
  have hb := (hH.2.2.2.1 a hne).1
  obtain ⟨cell, q1, q2, q3, q4⟩ := hH.obj hk h1 h2
  have hlay := hG.lay h1 h2 hF.wm args _ (u_in_lay h3)
  have hft := u_fits hfc hkC hkind (u_lays (hG.lay h1 h2 hF.wm args) (fun _ q => q) h3) hi0 (zK_t h1 h2 j h3) hn hfit
  have hfin' : hasFlag f.accessFlags Acc.final = false ∨ (m.cls = cf ∧ meth.name = "<init>") := by
    by_cases hz : (zF k j).2.2.2 = false
    · unfold u_lay at hlay
      rw [if_neg (by rw [hz]; decide)] at hlay
      exact Or.inl (u_store hfc hkC hkind hlay hi0 (zK_t h1 h2 j h3) hn hfit).1
    · rcases hfin with q | ⟨q, q'⟩
      · exact absurd q hz
      · right
        refine ⟨?_, by rw [hF.nm, q']⟩
        have how := hF.ow
        rw [← q] at how
        obtain ⟨c2, hc2, hc3⟩ : ∃ c2, s.vm.findClass (zF k j).1 = some c2 ∧ c2 = cf := by
          unfold u_lay at hlay
          rw [if_pos (by cases hzz : (zF k j).2.2.2 with | true => rfl | false => exact absurd hzz hz)] at hlay
          obtain ⟨c9, k9, cf', kf', fi', fd', r1, r2, hi', hst', -, hcast, hdecl, hty, -⟩ := Cond.laysFinal_spec hlay
          cases hi0.symm.trans hi'
          exact ⟨_, hdecl, rfl⟩
        rw [how] at hc2
        cases hc2
        exact hc3
  have hlt : f.slot < cell.slots.size := by rw [hsl]; exact (Array.getElem?_eq_some_iff.mp (q4 j h3)).1
  have haH : a < H.size := (Array.getElem?_eq_some_iff.mp q1).1
  rw [List.map_cons, List.map_cons, show zv (gb G) (zA a) = .ref a from zr_ref ha]
  refine W.putf hG.ex hF.1 hF.ow hlink hi hst hfin' q1 (z_vm0 q3) hlt hft.1 (by rw [q3, q2]; exact hft.2) rfl rfl hd ?_
  refine kk R s m args below meth c _ _ cells slots sB lsR hF (hR.of e1 e2) (z_locs hl hb) (hH.upd e1 et el ev (by simp) (fun q hq => by simp [Array.getElem?_setIfInBounds, Ne.symm hq]) hb ?_) hL
  unfold zcell
  rw [et, hk, if_neg (by omega), if_pos h2]
  refine ⟨cell.setSlot f.slot (zv (gb G) v), by simp [Array.getElem?_setIfInBounds, haH], q2, q3, ?_⟩
  rw [hsl]
  exact z_set q4 (hG.apart h1 h2) h3 _ _ hv1 (fun i _ hi => hv2 i hi)
theorem z_fvi {a j : Nat} {v : Int32} (hq : zq (zt h a) j = false) : zfv (zsi h a j v) a j = .int v := by
  show (if zq (zt h a) j = true then zr (za h a j) else .int (zu (zi h) a j v a j)) = .int v
  rw [hq, zu_s]; rfl
theorem z_fvi' {a i j : Nat} {v : Int32} (hi : i ≠ j) : zfv (zsi h a j v) a i = zfv h a i := by
  show (if zq (zt h a) i = true then zr (za h a i) else .int (zu (zi h) a j v a i)) = _
  rw [zu_k hi]; rfl
theorem z_fva {a j v : Nat} (hq : zq (zt h a) j = true) : zfv (zsa h a j v) a j = zr v := by
  show (if zq (zt h a) j = true then zr (zu (za h) a j v a j) else .int (zi h a j)) = zr v
  rw [hq, zu_s]; rfl
theorem z_fva' {a i j v : Nat} (hi : i ≠ j) : zfv (zsa h a j v) a i = zfv h a i := by
  show (if zq (zt h a) i = true then zr (zu (za h) a j v a i) else .int (zi h a i)) = _
  rw [zu_k hi]; rfl
theorem z_eva {α : Type} {f : Nat → Nat → α} {a j b : Nat} {v : α} (hb : b ≠ a) : zu f a j v b = f b := by
  funext i
  exact zu_a hb
theorem zj_putI (hG : zOK G) {idx a k j : Nat} {v : Int32} (hd : decode y.2.1 pc = .ok (.putfield idx, 3)) (hf : zFL y.1.cls idx k j) (hk : zt h a = k) (hty : zT k j = .int) (hfin : (zF k j).2.2.2 = false)
    (kk : zJ G d y (pc + 3) ls st (zsi h a j v) Q) : zJ G d y pc ls (zI v :: zA a :: st) h Q :=
  have hq : zq k j = false := by unfold zq; rw [hty]; rfl
  zj_put (h' := zsi h a j v) hG hd hf hk (Or.inl hfin) (by rw [hty]; rfl) (by rw [hty]; rfl) rfl rfl rfl rfl (fun b hb => ⟨z_eva hb, rfl, rfl⟩) (z_fvi (by rw [hk]; exact hq)) (fun i hi => z_fvi' hi) kk
theorem zj_putZ (hG : zOK G) {idx a k j : Nat} {v : Int32} (hd : decode y.2.1 pc = .ok (.putfield idx, 3)) (hf : zFL y.1.cls idx k j) (hk : zt h a = k) (hty : zT k j = .boolean) (hfin : (zF k j).2.2.2 = false) (hv : v = 0 ∨ v = 1)
    (kk : zJ G d y (pc + 3) ls st (zsi h a j v) Q) : zJ G d y pc ls (zI v :: zA a :: st) h Q :=
  have hq : zq k j = false := by unfold zq; rw [hty]; rfl
  zj_put (h' := zsi h a j v) hG hd hf hk (Or.inl hfin) (by rw [hty]; rcases hv with rfl | rfl <;> rfl) (by rw [hty]; rcases hv with rfl | rfl <;> rfl) rfl rfl rfl rfl (fun b hb => ⟨z_eva hb, rfl, rfl⟩) (z_fvi (by rw [hk]; exact hq)) (fun i hi => z_fvi' hi) kk
theorem z_fitA {ty : FieldType} (hq : ty.isReference = true) (v : Nat) : narrow ty (zr v) = zr v ∧ fits ty (zr v) = true := by
  unfold zr
  cases ty <;> first | (simp [FieldType.isReference] at hq; done) | (split <;> exact ⟨rfl, rfl⟩)
theorem zj_putA (hG : zOK G) {idx a k j v : Nat} (hd : decode y.2.1 pc = .ok (.putfield idx, 3)) (hf : zFL y.1.cls idx k j) (hk : zt h a = k) (hq : zq k j = true) (hfin : (zF k j).2.2.2 = false ∨ ((zF k j).1 = y.1.cls ∧ y.1.name = "<init>"))
    (kk : zJ G d y (pc + 3) ls st (zsa h a j v) Q) : zJ G d y pc ls (zA v :: zA a :: st) h Q :=
  zj_put (h' := zsa h a j v) hG hd hf hk hfin (z_fitA hq v).1 (z_fitA hq v).2 rfl rfl rfl rfl (fun b hb => ⟨rfl, z_eva hb, rfl⟩) (z_fva (by rw [hk]; exact hq)) (fun i hi => z_fva' hi) kk
end ZM
