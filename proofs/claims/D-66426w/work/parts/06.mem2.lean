/-! PART 06: rows of arrays, new, casts, returns -/
section ZM2
variable {G : zG} {d : Nat} {y : zM} {pc : Nat} {ls : List (Option zV)} {st : List zV} {h : zH} {Q : zO → zH → Prop}
theorem z_in {i : Int32} {n N : Nat} (e : N = n) (h : vp_in i n) : ¬ (i < 0 ∨ N ≤ i.toNatClampNeg) := by rw [e]; exact h
theorem z_inlt {i : Int32} {n : Nat} (h : vp_in i n) : i.toNatClampNeg < n := Nat.not_le.mp fun q => h (Or.inr q)
theorem zj_iald (hG : zOK G) {a : Nat} {i : Int32} (hd : decode y.2.1 pc = .ok (.iaload, 1)) (hk : zt h a = 21) (hi : vp_in i (zl h a)) (k : zJ G d y (pc + 1) ls (zI (zi h a i.toNatClampNeg) :: st) h Q) : zJ G d y pc ls (zI i :: zA a :: st) h Q := by
  intro R s m args below meth c H locs cells slots sB lsR hF hR hl hH hL
  have ha : a ≠ 0 := hH.ne0 hG (by rw [hk]; decide)
  have k' := k R s m args below meth c H locs cells slots sB lsR hF hR hl hH hL
  rw [List.map_cons, List.map_cons, show zv (gb G) (zA a) = .ref a from zr_ref ha]
  refine W.iald (v := .int (zi h a i.toNatClampNeg)) hG.ex hF.1 (hH.arr hk (by decide)) (arrOfT_moved hF.wm.alike hG.arI.1 _ _) (fun q => by cases q) (z_in (arrV_size _ _ _) hi) ?_ rfl rfl hd k'
  rw [arrV_read _ _ (z_inlt hi)]
  simp [zav, hk]
theorem zj_lald (hG : zOK G) {a : Nat} {i : Int32} (hd : decode y.2.1 pc = .ok (.laload, 1)) (hk : zt h a = 22) (hi : vp_in i (zl h a)) (k : zJ G d y (pc + 1) ls (zL (zj h a i.toNatClampNeg) :: st) h Q) : zJ G d y pc ls (zI i :: zA a :: st) h Q := by
  intro R s m args below meth c H locs cells slots sB lsR hF hR hl hH hL
  have ha : a ≠ 0 := hH.ne0 hG (by rw [hk]; decide)
  have k' := k R s m args below meth c H locs cells slots sB lsR hF hR hl hH hL
  rw [List.map_cons, List.map_cons, show zv (gb G) (zA a) = .ref a from zr_ref ha]
  refine W.lald (v := .long (zj h a i.toNatClampNeg)) hG.ex hF.1 (hH.arr hk (by decide)) (arrOfT_moved hF.wm.alike hG.arL.1 _ _) (fun q => by cases q) (z_in (arrV_size _ _ _) hi) ?_ rfl rfl hd k'
  rw [arrV_read _ _ (z_inlt hi)]
  simp [zav, hk]
theorem zj_aald (hG : zOK G) {a ka : Nat} {i : Int32} (hd : decode y.2.1 pc = .ok (.aaload, 1)) (hk : zt h a = ka) (h1 : 23 ≤ ka) (h2 : ka ≤ 27) (hi : vp_in i (zl h a)) (k : zJ G d y (pc + 1) ls (zA (za h a i.toNatClampNeg) :: st) h Q) : zJ G d y pc ls (zI i :: zA a :: st) h Q := by
  intro R s m args below meth c H locs cells slots sB lsR hF hR hl hH hL
  have ha : a ≠ 0 := hH.ne0 hG (by rw [hk]; omega)
  have k' := k R s m args below meth c H locs cells slots sB lsR hF hR hl hH hL
  rw [List.map_cons, List.map_cons, show zv (gb G) (zA a) = .ref a from zr_ref ha]
  refine W.aald (v := zr (za h a i.toNatClampNeg)) hG.ex hF.1 (hH.arr hk (by omega)) (arrOfT_moved hF.wm.alike (hG.arA h1 h2).1 _ _) rfl (fun q => by cases q) (z_in (arrV_size _ _ _) hi) ?_ rfl rfl hd k'
  rw [arrV_read _ _ (z_inlt hi)]
  unfold zav
  rw [hk, if_neg (by omega), if_neg (by omega)]
theorem z_arrcell {H' : Heap} {a ka : Nat} {h' : zH} (hk : zt h' a = ka) (h1 : 21 ≤ ka) (e : H'[a]? = some (arrV (gC G ka) (zl h' a) (zav h' a))) : zcell G h' H' a := by
  unfold zcell
  rw [hk, if_neg (by omega), if_neg (by omega), if_neg (by omega)]
  exact e
theorem z_objcell {H' : Heap} {a ka : Nat} {h' : zH} (hk : zt h' a = ka) (h1 : 1 ≤ ka) (h2 : ka ≤ 15) (e : t_OB a (gC G ka) (zN ka) (gI G ka) H' (zfv h' a)) : zcell G h' H' a := by
  unfold zcell
  rw [hk, if_neg (by omega), if_pos h2]
  exact e
theorem zj_iast (hG : zOK G) {a : Nat} {i x : Int32} (hd : decode y.2.1 pc = .ok (.iastore, 1)) (hk : zt h a = 21) (hi : vp_in i (zl h a)) (k : zJ G d y (pc + 1) ls st (zsi h a i.toNatClampNeg x) Q) : zJ G d y pc ls (zI x :: zI i :: zA a :: st) h Q := by
  intro R s m args below meth c H locs cells slots sB lsR hF hR hl hH hL
  have hne : zt h a ≠ 0 := by rw [hk]; decide
  have ha : a ≠ 0 := hH.ne0 hG hne
  have hb := (hH.2.2.2.1 a hne).1
  rw [List.map_cons, List.map_cons, List.map_cons, show zv (gb G) (zA a) = .ref a from zr_ref ha]
  refine W.iast hG.ex hF.1 (hH.arr hk (by decide)) (arrOfT_moved hF.wm.alike hG.arI.1 _ _) (fun q => by cases q) (z_in (arrV_size _ _ _) hi) rfl rfl hd (fun H' e1 e2 e3 => ?_)
  refine k R s m args below meth c H' _ cells slots sB lsR hF (hR.of rfl rfl) (z_locs hl hb) (hH.upd rfl rfl rfl (fun b hb => ⟨z_eva hb, rfl, rfl⟩) e2 e3 hb (z_arrcell hk (by decide) ?_)) hL
  rw [e1, arrV_store]
  congr 2
  funext j
  unfold updV zav
  by_cases e : j = i.toNatClampNeg
  · subst e
    rw [if_pos rfl, if_pos (show zt (zsi h a i.toNatClampNeg x) a = 21 from hk), show zi (zsi h a i.toNatClampNeg x) a i.toNatClampNeg = x from zu_s]
  · rw [if_neg e]
    show _ = if zt h a = 21 then Value.int (zu (zi h) a i.toNatClampNeg x a j) else _
    rw [zu_k e]
theorem zj_last (hG : zOK G) {a : Nat} {i : Int32} {x : Int64} (hd : decode y.2.1 pc = .ok (.lastore, 1)) (hk : zt h a = 22) (hi : vp_in i (zl h a)) (k : zJ G d y (pc + 1) ls st (zsj h a i.toNatClampNeg x) Q) : zJ G d y pc ls (zL x :: zI i :: zA a :: st) h Q := by
  intro R s m args below meth c H locs cells slots sB lsR hF hR hl hH hL
  have hne : zt h a ≠ 0 := by rw [hk]; decide
  have ha : a ≠ 0 := hH.ne0 hG hne
  have hb := (hH.2.2.2.1 a hne).1
  rw [List.map_cons, List.map_cons, List.map_cons, show zv (gb G) (zA a) = .ref a from zr_ref ha]
  refine W.last hG.ex hF.1 (hH.arr hk (by decide)) (arrOfT_moved hF.wm.alike hG.arL.1 _ _) (fun q => by cases q) (z_in (arrV_size _ _ _) hi) rfl rfl hd (fun H' e1 e2 e3 => ?_)
  refine k R s m args below meth c H' _ cells slots sB lsR hF (hR.of rfl rfl) (z_locs hl hb) (hH.upd rfl rfl rfl (fun b hb => ⟨rfl, rfl, z_eva hb⟩) e2 e3 hb (z_arrcell hk (by decide) ?_)) hL
  rw [e1, arrV_store]
  congr 2
  funext j
  unfold updV zav
  by_cases e : j = i.toNatClampNeg
  · subst e
    rw [if_pos rfl, if_neg (show ¬ zt (zsj h a i.toNatClampNeg x) a = 21 by show ¬ zt h a = 21; rw [hk]; decide), if_pos (show zt (zsj h a i.toNatClampNeg x) a = 22 from hk), show zj (zsj h a i.toNatClampNeg x) a i.toNatClampNeg = x from zu_s]
  · rw [if_neg e]
    show _ = if zt h a = 21 then _ else if zt h a = 22 then Value.long (zu (zj h) a i.toNatClampNeg x a j) else _
    rw [zu_k e]
theorem zj_aast (hG : zOK G) {a ka v kv : Nat} {i : Int32} (hd : decode y.2.1 pc = .ok (.aastore, 1)) (hk : zt h a = ka) (h1 : 23 ≤ ka) (h2 : ka ≤ 27) (hi : vp_in i (zl h a)) (hv : zt h v = kv) (h3 : 1 ≤ kv) (h4 : kv ≤ 15) (he : zE ka = zC kv) (k : zJ G d y (pc + 1) ls st (zsa h a i.toNatClampNeg v) Q) : zJ G d y pc ls (zA v :: zI i :: zA a :: st) h Q := by
  intro R s m args below meth c H locs cells slots sB lsR hF hR hl hH hL
  have hne : zt h a ≠ 0 := by rw [hk]; omega
  have ha : a ≠ 0 := hH.ne0 hG hne
  have hv0 : v ≠ 0 := hH.ne0 hG (by rw [hv]; omega)
  have hb := (hH.2.2.2.1 a hne).1
  have hcls := (hG.kn h3 h4 hF.wm).2
  obtain ⟨cellV, g1, g2, g3, -⟩ := hH.obj hv h3 h4
  obtain ⟨kA, comp, k1, k2, k3, -⟩ := va_RA.moved hF.wm.alike (hG.arA h1 h2).2
  rw [he] at k3
  have hcomp : comp = gC G kv := Option.some.inj (k3.symm.trans hcls.1)
  subst hcomp
  obtain ⟨kC, hkC, -⟩ := hcls.2
  rw [List.map_cons, List.map_cons, List.map_cons, show zv (gb G) (zA a) = .ref a from zr_ref ha, show zv (gb G) (zA v) = .ref v from zr_ref hv0]
  refine W.aast hG.ex hF.1 (hH.arr hk (by omega)) (fun q h => by cases h) (fun h => by cases h) k1 k2 rfl hkC ⟨fun q => hi (Or.inl q), by rw [arrV_size]; exact z_inlt hi⟩ g1 (fun q h => by rw [g3] at h; cases h) (by rw [g2]; exact hkC) (by rw [g2]; exact va_assign hcls) rfl rfl hd (fun H' e1 e2 e3 => ?_)
  refine k R s m args below meth c H' _ cells slots sB lsR hF (hR.of rfl rfl) (z_locs hl hb) (hH.upd rfl rfl rfl (fun b hb => ⟨rfl, z_eva hb, rfl⟩) e2 e3 hb (z_arrcell hk (by omega) ?_)) hL
  rw [e1, arrV_store]
  congr 2
  funext j
  unfold updV zav
  by_cases e : j = i.toNatClampNeg
  · subst e
    rw [if_pos rfl, show zt (zsa h a i.toNatClampNeg v) a = ka from hk, if_neg (by omega), if_neg (by omega), show za (zsa h a i.toNatClampNeg v) a i.toNatClampNeg = v from zu_s, zr_ref hv0]
  · rw [if_neg e]
    show _ = if zt h a = 21 then _ else if zt h a = 22 then _ else zr (zu (za h) a i.toNatClampNeg v a j)
    rw [zu_k e]
theorem zj_sld (hG : zOK G) {i : Int32} (hd : decode y.2.1 pc = .ok (.iaload, 1)) (hi : vp_in i (gL G)) (k : zJ G d y (pc + 1) ls (zI (gx G i.toNatClampNeg) :: st) h Q) : zJ G d y pc ls (zI i :: zS :: st) h Q := by
  intro R s m args below meth c H locs cells slots sB lsR hF hR hl hH hL
  obtain ⟨scr, h1, h2, h3, h4, h5⟩ := hG.scr
  exact W.iald (v := .int (gx G i.toNatClampNeg)) hG.ex hF.1 (by rw [hH.2.2.1 _ hG.b0]; exact h1) (State.isArrayOf_alike hF.wm.alike h2) h3 (by rw [h4]; exact hi) (h5 _ (z_inlt hi)) rfl rfl hd (k R s m args below meth c H locs cells slots sB lsR hF hR hl hH hL)
theorem zj_slen (hG : zOK G) (hd : decode y.2.1 pc = .ok (.arraylength, 1)) (k : zJ G d y (pc + 1) ls (zI (nI (gL G)) :: st) h Q) : zJ G d y pc ls (zS :: st) h Q := by
  intro R s m args below meth c H locs cells slots sB lsR hF hR hl hH hL
  obtain ⟨scr, h1, h2, h3, h4, h5⟩ := hG.scr
  exact W.alen (n := nI (gL G)) hG.ex hF.1 (by rw [hH.2.2.1 _ hG.b0]; exact h1) (State.isArrayOf_alike hF.wm.alike h2) (by rw [h4]; rfl) rfl rfl hd (k R s m args below meth c H locs cells slots sB lsR hF hR hl hH hL)
theorem zj_aloadS (hG : zOK G) {n : Fin 4} {i : Nat} (hd : decode y.2.1 pc = .ok (.aload_n n, 1)) (hi : (n : Nat) = i) (hv : ls[i]? = some (some zS)) (k : zJ G d y (pc + 1) ls (zS :: st) h Q) : zJ G d y pc ls st h Q := by
  intro R s m args below meth c H locs cells slots sB lsR hF hR hl hH hL
  exact lv_aload_n hG.ex hF.1 hd hi (zlv hL hv) (k R s m args below meth c H locs cells slots sB lsR hF hR hl hH hL)
theorem zj_alen (hG : zOK G) {a ka : Nat} {N : Nat} (hd : decode y.2.1 pc = .ok (.arraylength, 1)) (hk : zt h a = ka) (h1 : 23 ≤ ka) (h2 : ka ≤ 27) (hN : zl h a = N) (k : zJ G d y (pc + 1) ls (zI (nI N) :: st) h Q) : zJ G d y pc ls (zA a :: st) h Q := by
  intro R s m args below meth c H locs cells slots sB lsR hF hR hl hH hL
  have ha : a ≠ 0 := hH.ne0 hG (by rw [hk]; omega)
  rw [List.map_cons, show zv (gb G) (zA a) = .ref a from zr_ref ha]
  exact W.alen (n := nI N) hG.ex hF.1 (hH.arr hk (by omega)) (arrOfT_moved hF.wm.alike (hG.arA h1 h2).1 _ _) (by rw [arrV_size, hN]; rfl) rfl rfl hd (k R s m args below meth c H locs cells slots sB lsR hF hR hl hH hL)
theorem zj_ldc2 (hG : zOK G) {idx : Nat} {v : Int64} (hd : decode y.2.1 pc = .ok (.ldc2_w idx, 3)) (hw : Cond.constantLong y.1.cls idx v ∈ lw_tbl) (k : zJ G d y (pc + 3) ls (zL v :: st) h Q) : zJ G d y pc ls st h Q :=
  fun R s m args below meth c H locs cells slots sB lsR hF hR hl hH hL => lv_ldc2 hG.ex hF.1 hF.ow (hG.at hw rfl hF.wm args) hd (k R s m args below meth c H locs cells slots sB lsR hF hR hl hH hL)
theorem zj_cast (hG : zOK G) {a k idx : Nat} (hd : decode y.2.1 pc = .ok (.checkcast idx, 3)) (hw : Cond.classLink y.1.cls idx (zC k) ∈ lw_tbl) (h1 : 1 ≤ k) (h2 : k ≤ 15) (hk : a ≠ 0 → zt h a = k) (kk : zJ G d y (pc + 3) ls (zA a :: st) h Q) : zJ G d y pc ls (zA a :: st) h Q := by
  intro R s m args below meth c H locs cells slots sB lsR hF hR hl hH hL
  have k' := kk R s m args below meth c H locs cells slots sB lsR hF hR hl hH hL
  by_cases h0 : a = 0
  · subst h0
    exact lv_castN hG.ex hF.1 hd k'
  · have hcls := (hG.kn h1 h2 hF.wm).2
    obtain ⟨cell, g1, g2, g3, -⟩ := hH.obj (hk h0) h1 h2
    rw [List.map_cons, show zv (gb G) (zA a) = .ref a from zr_ref h0] at k' ⊢
    exact va_castS hG.ex hF.1 hF.ow (hG.at hw rfl hF.wm args) hcls ⟨cell, g1, by rw [g3]; rfl, by rw [g2]; exact hcls.1⟩ hd k'
/-- room -/
theorem zRM.new {R : Room} {s : State} {cells slots sB c sl n : Nat} (hR : zRM G d R s cells slots sB h) (hn : zn h + 1 ≤ g0 G + 603072) (hs : zs h + sl ≤ 7211114) : cells + 1 ≤ R.cells ∧ slots + sl ≤ R.slots ∧ zRM G d R s (cells + 1) (slots + sl) sB (znew h c sl n) := by
  obtain ⟨r1, r2, r3, r4, r5, r6, r7, r8⟩ := hR
  exact ⟨by omega, by omega, r1, r2, by show _ = zn h + 1; omega, r4, by show _ = zs h + sl; omega, r6, hn, hs⟩
theorem zj_new (hG : zOK G) {k idx : Nat} (hd : decode y.2.1 pc = .ok (.new idx, 3)) (hw : Cond.classLink y.1.cls idx (zC k) ∈ lw_tbl) (hi : Cond.initialized (zC k) ∈ lw_tbl) (h1 : 1 ≤ k) (h2 : k ≤ 15) (hn : zn h + 1 ≤ g0 G + 603072) (hs : zs h + zN k ≤ 7211114)
    (kk : zJ G d y (pc + 3) ls (zA (zn h) :: st) (znew h k (zN k) 0) Q) : zJ G d y pc ls st h Q := by
  intro R s m args below meth c H locs cells slots sB lsR hF hR hl hH hL
  obtain ⟨r1, r2, r3⟩ := hR.new (c := k) (n := 0) hn hs
  have hK := hG.kn h1 h2 hF.wm
  refine W.newcK hG.ex hF.1 hF.ow (hG.at hw rfl hF.wm args) (hG.at (zK_i h1 h2) rfl hF.wm args) (hG.at hi rfl hF.wm args) rfl hd r1 r2 hK.2.1 hH.1 (fun H' kC hkC e1 e2 e3 => ?_)
  have hz : zn h ≠ 0 := by have := hG.b0; have := hH.2.1; omega
  have k' := kk R s m args below meth c H' locs (cells + 1) (slots + zN k) sB lsR hF r3 hl (hH.grow e2 e3 (by omega) (z_objcell (ka := k) (h' := znew h k (zN k) 0) zw_s h1 h2 ?_)) hL
  · rw [List.map_cons, show zv (gb G) (zA (zn h)) = .ref (zn h) from zr_ref hz] at k'
    exact k'
  · refine (u_born (zT k) (hG.lay h1 h2 hF.wm args) (fun _ q => q) hK hkC e1 (zK_t h1 h2)).to (fun j hj => ?_)
    show _ = if zq (zw (zt h) (zn h) k (zn h)) j = true then zr (zw (za h) (zn h) (fun _ => 0) (zn h) j) else .int (zw (zi h) (zn h) (fun _ => 0) (zn h) j)
    rw [zw_s, zw_s, zw_s]
    have ht : zT k j = .int ∨ zT k j = .boolean ∨ (zT k j).isReference = true := by
      revert j
      rcases (by omega : k = 1 ∨ k = 2 ∨ k = 3 ∨ k = 4 ∨ k = 5 ∨ k = 6 ∨ k = 7 ∨ k = 8 ∨ k = 9 ∨ k = 10 ∨ k = 11 ∨ k = 12 ∨ k = 13 ∨ k = 14 ∨ k = 15) with rfl | rfl | rfl | rfl | rfl | rfl | rfl | rfl | rfl | rfl | rfl | rfl | rfl | rfl | rfl <;> decide +kernel
    unfold zq
    rcases ht with e | e | e
    · rw [e]; rfl
    · rw [e]; rfl
    · rw [if_pos e]
      cases hz : zT k j <;> rw [hz] at e <;> first | (simp [FieldType.isReference] at e; done) | rfl
theorem zj_newI (hG : zOK G) {i : Int32} {N : Nat} (hd : decode y.2.1 pc = .ok (.newarray .int, 2)) (h0 : ¬ i < 0) (hN : i.toNatClampNeg = N) (hb : N ≤ 100000) (hn : zn h + 1 ≤ g0 G + 603072) (hs : zs h + N ≤ 7211114)
    (kk : zJ G d y (pc + 2) ls (zA (zn h) :: st) (znew h 21 N N) Q) : zJ G d y pc ls (zI i :: st) h Q := by
  intro R s m args below meth c H locs cells slots sB lsR hF hR hl hH hL
  obtain ⟨r1, r2, r3⟩ := hR.new (c := 21) (n := N) hn hs
  subst hN
  have hw : (Cond.arrayClass .int).before args s = true := word_at hF.wm (Or.inr ⟨_, rfl⟩) (hG.2.1 _ (z_wd 88 (by decide +kernel)))
  refine W.newa (atype := .int) hG.ex hF.1 hw rfl hd rfl h0 (by show _ * 4 ≤ _; omega) r1 r2 (fun cA kA comp f1 f2 f3 => ?_)
  have e : cA = gC G 21 := by
    have q := va_RA.moved hF.wm.alike hG.arI.2
    exact Option.some.inj (f1.symm.trans q)
  subst e
  have hz : zn h ≠ 0 := by have := hG.b0; have := hH.2.1; omega
  have hsz := hH.1
  have k' := kk R s m args below meth c (H.push { cls := gC G 21, slots := Array.replicate i.toNatClampNeg (defaultValue .int), vm := .none }) locs (cells + 1) (slots + i.toNatClampNeg) sB lsR hF r3 hl (hH.grow (by simp [hsz]) (fun q hq => by rw [Array.getElem?_push, if_neg (by omega)]) (by decide) (z_arrcell (ka := 21) zw_s (by decide) ?_)) hL
  · rw [List.map_cons, show zv (gb G) (zA (zn h)) = .ref (zn h) from zr_ref hz, ← hsz] at k'
    exact k'
  · rw [← hsz, Array.getElem?_push, if_pos rfl, arrV_new]
    show some (arrV (gC G 21) i.toNatClampNeg _) = some (arrV (gC G 21) (zw (zl h) (zn h) i.toNatClampNeg H.size) _)
    rw [hsz, zw_s]
    congr 2
    funext j
    show _ = if zw (zt h) (zn h) 21 (zn h) = 21 then Value.int (zw (zi h) (zn h) (fun _ => 0) (zn h) j) else _
    rw [zw_s, zw_s]
    rfl
theorem zj_newL (hG : zOK G) {i : Int32} {N : Nat} (hd : decode y.2.1 pc = .ok (.newarray .long, 2)) (h0 : ¬ i < 0) (hN : i.toNatClampNeg = N) (hb : N ≤ 100000) (hn : zn h + 1 ≤ g0 G + 603072) (hs : zs h + N ≤ 7211114)
    (kk : zJ G d y (pc + 2) ls (zA (zn h) :: st) (znew h 22 N N) Q) : zJ G d y pc ls (zI i :: st) h Q := by
  intro R s m args below meth c H locs cells slots sB lsR hF hR hl hH hL
  obtain ⟨r1, r2, r3⟩ := hR.new (c := 22) (n := N) hn hs
  subst hN
  have hw : (Cond.arrayClass .long).before args s = true := word_at hF.wm (Or.inr ⟨_, rfl⟩) (hG.2.1 _ (z_wd 1742 (by decide +kernel)))
  refine W.newa (atype := .long) hG.ex hF.1 hw rfl hd rfl h0 (by show _ * 8 ≤ _; omega) r1 r2 (fun cA kA comp f1 f2 f3 => ?_)
  have e : cA = gC G 22 := by
    have q := va_RA.moved hF.wm.alike hG.arL.2
    exact Option.some.inj (f1.symm.trans q)
  subst e
  have hz : zn h ≠ 0 := by have := hG.b0; have := hH.2.1; omega
  have hsz := hH.1
  have k' := kk R s m args below meth c (H.push { cls := gC G 22, slots := Array.replicate i.toNatClampNeg (defaultValue .long), vm := .none }) locs (cells + 1) (slots + i.toNatClampNeg) sB lsR hF r3 hl (hH.grow (by simp [hsz]) (fun q hq => by rw [Array.getElem?_push, if_neg (by omega)]) (by decide) (z_arrcell (ka := 22) zw_s (by decide) ?_)) hL
  · rw [List.map_cons, show zv (gb G) (zA (zn h)) = .ref (zn h) from zr_ref hz, ← hsz] at k'
    exact k'
  · rw [← hsz, Array.getElem?_push, if_pos rfl, arrV_new]
    show some (arrV (gC G 22) i.toNatClampNeg _) = some (arrV (gC G 22) (zw (zl h) (zn h) i.toNatClampNeg H.size) _)
    rw [hsz, zw_s]
    congr 2
    funext j
    show _ = if zw (zt h) (zn h) 22 (zn h) = 21 then _ else if zw (zt h) (zn h) 22 (zn h) = 22 then Value.long (zw (zj h) (zn h) (fun _ => 0) (zn h) j) else _
    rw [zw_s, zw_s]
    rfl
theorem zj_newA (hG : zOK G) {i : Int32} {N ka idx : Nat} (hd : decode y.2.1 pc = .ok (.anewarray idx, 3)) (hw : Cond.classLink y.1.cls idx (zE ka) ∈ lw_tbl) (hw2 : Cond.arrayOver (.object (zE ka)) ∈ lw_tbl) (h1 : 23 ≤ ka) (h2 : ka ≤ 27) (h0 : ¬ i < 0) (hN : i.toNatClampNeg = N) (hb : N ≤ 100000) (hn : zn h + 1 ≤ g0 G + 603072) (hs : zs h + N ≤ 7211114)
    (kk : zJ G d y (pc + 3) ls (zA (zn h) :: st) (znew h ka N N) Q) : zJ G d y pc ls (zI i :: st) h Q := by
  intro R s m args below meth c H locs cells slots sB lsR hF hR hl hH hL
  obtain ⟨r1, r2, r3⟩ := hR.new (c := ka) (n := N) hn hs
  subst hN
  refine W.anew hG.ex hF.1 hF.ow (hG.at hw rfl hF.wm args) (va_AO.use (va_AO.moved hF.wm.alike (va_AO.of (hG.2.1 _ hw2)))) rfl hd rfl h0 (by omega) r1 r2 (fun cA kA comp f1 f2 f3 f4 => ?_)
  have e : cA = gC G ka := by
    obtain ⟨_, _, -, -, -, q⟩ := va_RA.moved hF.wm.alike (hG.arA h1 h2).2
    exact Option.some.inj (f1.symm.trans q)
  subst e
  have hz : zn h ≠ 0 := by have := hG.b0; have := hH.2.1; omega
  have hsz := hH.1
  have k' := kk R s m args below meth c (H.push { cls := gC G ka, slots := Array.replicate i.toNatClampNeg .null, vm := .none }) locs (cells + 1) (slots + i.toNatClampNeg) sB lsR hF r3 hl (hH.grow (by simp [hsz]) (fun q hq => by rw [Array.getElem?_push, if_neg (by omega)]) (by omega) (z_arrcell (ka := ka) zw_s (by omega) ?_)) hL
  · rw [List.map_cons, show zv (gb G) (zA (zn h)) = .ref (zn h) from zr_ref hz, ← hsz] at k'
    exact k'
  · rw [← hsz, Array.getElem?_push, if_pos rfl, arrV_new]
    show some (arrV (gC G ka) i.toNatClampNeg _) = some (arrV (gC G ka) (zw (zl h) (zn h) i.toNatClampNeg H.size) _)
    rw [hsz, zw_s]
    congr 2
    funext j
    show _ = if zw (zt h) (zn h) ka (zn h) = 21 then _ else if zw (zt h) (zn h) ka (zn h) = 22 then _ else zr (zw (za h) (zn h) (fun _ => 0) (zn h) j)
    rw [zw_s, zw_s, if_neg (by omega), if_neg (by omega)]
    rfl
end ZM2
