/-! PART 97h: the component: what a walker does to a card (join; wrapped; turned; moves) -/
section WK4
variable {G : zG} {h : zH} {c r w q : Nat} {fl : Nat → Bool} {K : Nat → tK} {P : List pE} {p : tPm}
/-- an exception has been made -/
theorem cCd.exc (wf : zWf h) (x : cCd h c r fl P K) (k : Nat) : cCd (znew h k 6 0) c r fl P K ∧ cGw c r h (znew h k 6 0) 1 6 := by
  have old : ∀ a, zt h a ≠ 0 → cSm h (znew h k 6 0) a := fun a ha => by
    have f1 : a ≠ zn h := by have := (wf a ha).2; omega
    exact ⟨zw_n f1, zw_n f1, zw_n f1, zw_n f1, zw_n f1⟩
  have gr : cGr r h (znew h k 6 0) 1 6 := ⟨fun a ha _ => old a ha, by show zn h ≤ zn h + 1; omega, Nat.le_refl _, by show zs h ≤ zs h + 6; omega, Nat.le_refl _⟩
  exact x.pl gr (x.2.2.fr (fun a ha _ => old a ha))
theorem pl_rem {rs l1 l2 : List Nat} {a : Nat} {h' : zH} (xr : cRr h 3 r rs) (hw : ∀ a ∈ rs, pls h a (plc h a).1 (plc h a).2) (e1 : rs = l1 ++ a :: l2) (e3 : cRr h' 3 r (l1 ++ l2)) (e5 : ∀ b ∈ rs, cSr 3 h h' b) {x : Int32} (ap : zi h a 0 = x) : cPl h' r ((l1 ++ l2).map (cPe h')) ∧ (l1 ++ l2).map (cPe h') = (rs.map (cPe h)).filter (fun e => decide (e.1 ≠ x)) := by
  have am : a ∈ rs := by rw [e1]; exact List.mem_append_right _ List.mem_cons_self
  have sub : ∀ d ∈ l1 ++ l2, d ∈ rs := fun d hd => by
    rw [e1]
    rcases List.mem_append.mp hd with g | g
    · exact List.mem_append_left _ g
    · exact List.mem_append_right _ (List.mem_cons_of_mem _ g)
  obtain ⟨k1, k2⟩ := pl_keep (r := r) (rs := l1 ++ l2) (fun d hd => hw d (sub d hd)) (fun d hd => e5 d (sub d hd)) (fun d hd => (e3.f.2.2.2.2.2.1 d hd).1)
  refine ⟨⟨l1 ++ l2, e3, rfl, k2⟩, ?_⟩
  rw [List.map_congr_left k1]
  have nb := xr.nd
  have oth : ∀ d ∈ l1 ++ l2, (cPe h d).1 ≠ x := fun d hd g => by
    have hdb : d ≠ a := by
      intro g
      rw [e1] at nb
      have : (a :: (l1 ++ l2)).Nodup := List.perm_middle.nodup_iff.mp nb
      rw [g] at hd
      exact (List.nodup_cons.mp this).1 hd
    exact hdb (xr.inj (sub d hd) am (by rw [ap]; exact g))
  rw [e1, List.map_append, List.map_append, List.map_cons, List.filter_append, List.filter_cons_of_neg (fun g => (of_decide_eq_true g) ap)]
  have keep : ∀ L : List Nat, (∀ d ∈ L, (cPe h d).1 ≠ x) → (L.map (cPe h)).filter (fun e => decide (e.1 ≠ x)) = L.map (cPe h) := fun L hL => by
    rw [List.filter_eq_self]
    intro e he
    obtain ⟨d, hd, rfl⟩ := List.mem_map.mp he
    exact decide_eq_true (hL d hd)
  rw [keep l1 (fun d hd => oth d (List.mem_append_left _ hd)), keep l2 (fun d hd => oth d (List.mem_append_right _ hd))]
set_option maxRecDepth 4000 in
theorem k_wk_join (hG : zOK G) (x : cCd h c r fl P K) (wk : cWk h w c r q p) {m n : Nat} (hp : pmP p = nI m) (hm : nok m) (hB : pmB p = nI n) (hn9 : n ≤ 99) {v v2 : Int32} (hin : (pmP p, false, [v]) ∈ P) (hin2 : (tbes (pmP p) (pmB p), false, [v2]) ∈ P) (hne : pmP p ≠ tbes (pmP p) (pmB p)) (hn : zn h + 5 ≤ g0 G + 603072) (hsl : zs h + 20 ≤ 7211114) :
    zJ G 10 m_Walker_part 0 [some (zA w), some (zA r), some (zA q), some (zI (tb true))] [] h (fun o h' => (o = zR0 ∧ (tjc 0 (twh v (pmA p) v2) (pmL p) (pmH p) = 0 ∧ ∃ P', cCd h' c r fl P' K ∧ P'.Perm ((P.map (fun e => if e.1 = pmP p then (e.1, false, [(twh v (pmA p) v2).toInt32]) else e)).filter (fun e => decide (e.1 ≠ tbes (pmP p) (pmB p)))) ∧ cGw c r h h' 1 6)) ∨ ∃ kx ax, o = zX kx ax ∧ (kx = 20 ∧ tjc 0 (twh v (pmA p) v2) (pmL p) (pmH p) = 1 ∧ cCd h' c r fl P K ∧ cGw c r h h' 1 6)) := by
  refine zj_wf hG (fun wf => ?_)
  have wk0 := wk
  obtain ⟨w1, w2, w3, w4, w5, w6, w7⟩ := wk
  have hq := w5.1
  have x0 := x
  obtain ⟨es, rs, x1, bd, km, xr, eP, hw, rc⟩ := x.rs
  have r3 := xr.f.2.1
  have c9 := bd.1
  refine zj_iload_n hG d_Walker_part_0 rfl rfl ?_
  refine zj_if_eq (tgt := 41) hG d_Walker_part_1 (by decide) (fun c => absurd c (by decide)) (fun _ => ?_)
  refine zj_aload_n hG d_Walker_part_4 rfl rfl ?_
  refine zj_getA hG d_Walker_part_5 f_Walker_9 (by assumption) rfl ?_
  refine zj_aload_n hG d_Walker_part_8 rfl rfl ?_
  refine zj_aload_n hG d_Walker_part_9 rfl rfl ?_
  refine zj_getI hG d_Walker_part_10 f_Walker_44 (by assumption) rfl ?_
  rw [w2, w5.2.2.1]
  refine zj_callA (y' := m_Rows_at) hG (zcU (as := [_]) (owner := "LensPaths$Rows") hG d_Walker_part_13 c_Rows_at (z_w5 123 rfl) (z_w8 78 rfl) (z_w2 88 rfl) (z_w2 90 rfl) (z_w8 79 rfl) ⟨by decide, by decide⟩ r3 (by decide) (by decide) (show _ = some 1 from by decide +kernel) rfl) c_Rows_at rfl (by omega) rfl (z_le rfl) (z_le rfl) (k_r_at hG xr (pmP p)) (fun v13 h13 e13 => ?_)
  obtain ⟨a, rfl, rfl, ha⟩ := e13
  have hin' := hin
  have hin2' := hin2
  rw [eP] at hin' hin2'
  obtain ⟨am, ap, pa⟩ := row_of xr hw hin' ha
  refine zj_aload_n hG d_Walker_part_16 rfl rfl ?_
  refine zj_aload_n hG d_Walker_part_17 rfl rfl ?_
  refine zj_callR (y' := m_Prim_beside) hG (zcV (as := []) hG d_Walker_part_18 c_Prim_beside (z_w5 209 rfl) (z_w3 216 rfl) (z_w3 217 rfl) ⟨by decide, by decide⟩ hq (by decide) (by decide) (show _ = some 0 from by decide +kernel) rfl) c_Prim_beside rfl (by omega) rfl (z_le rfl) (z_le rfl) (k_Prim_beside hG hq (w5.2.2.1.trans hp) hm (w5.2.2.2.2.1.trans hB) hn9) ?_
  rw [← hp, ← hB]
  refine zj_callA (y' := m_Rows_at) hG (zcU (as := [_]) (owner := "LensPaths$Rows") hG d_Walker_part_21 c_Rows_at (z_w5 123 rfl) (z_w8 78 rfl) (z_w2 88 rfl) (z_w2 90 rfl) (z_w8 79 rfl) ⟨by decide, by decide⟩ r3 (by decide) (by decide) (show _ = some 1 from by decide +kernel) rfl) c_Rows_at rfl (by omega) rfl (z_le rfl) (z_le rfl) (k_r_at hG xr (tbes (pmP p) (pmB p))) (fun v21 h21 e21 => ?_)
  obtain ⟨a2, rfl, rfl, ha2⟩ := e21
  obtain ⟨am2, ap2, pa2⟩ := row_of xr hw hin2' ha2
  have aa2 : a ≠ a2 := fun g => hne (ap.symm.trans ((congrArg (fun z => zi h21 z 0) g).trans ap2))
  refine zj_aload_n hG d_Walker_part_24 rfl rfl ?_
  refine zj_callE (y' := m_Card_join2) hG (zcF (as := [_, _, _]) (k := 9) hG d_Walker_part_25 c_Card_join2 (z_w5 211 rfl) (z_w5 213 rfl) (z_w5 212 rfl) (z_w5 217 rfl) (z_w5 215 rfl) (z_w5 76 rfl) (z_w5 216 rfl) (z_sel hG (z_w5 214 rfl)) ⟨by decide, by decide⟩ c9 (by decide) (by decide) (show _ = some 3 from by decide +kernel) rfl) c_Card_join2 rfl (by omega) rfl (z_le rfl) (z_le rfl) (br_Card_join hG c9 pa.1 pa2.1 (fun o h' g => by rcases g with g | ⟨x, y, g, _⟩; exact Or.inl g.1; exact Or.inr ⟨x, y, g⟩) (k_Card_join1 hG pa pa2 hq (by omega) (by omega))) (fun h25 e25 => ?_) (fun c25 a25 h25 e25 => ?_)
  · obtain ⟨tj, p1, p2⟩ := e25
    rw [w5.2.2.2.1, w5.2.2.2.2.2.2.1, w5.2.2.2.2.2.2.2] at tj
    rw [w5.2.2.2.1] at p1
    obtain ⟨y1, y2, y3, y4⟩ := cPl.set xr hw am p2 p1
    have b1 : zn h25 = zn h21 ∧ zs h25 = zs h21 := by obtain ⟨I, rfl, _⟩ := p2; exact ⟨rfl, rfl⟩
    have g1 : cGr r h21 h25 0 0 := ⟨y4, by omega, by omega, by omega, by omega⟩
    obtain ⟨x3, gw⟩ := x0.pl g1 y1
    have wk2 := wk0.fr gw.1
    have q5 := wk2.2.2.2.2.1
    have hq2 := q5.1
    have r32 := y2.f.2.1
    have ap2' : zi h25 a2 0 = tbes (pmP p) (pmB p) := by
      obtain ⟨I, rfl, i1, _⟩ := p2
      show I a2 0 = _
      rw [i1 a2 aa2.symm (fun g => by have := pa.2.1; rw [← g, pa2.1] at this; cases this)]; exact ap2
    refine zj_aload_n hG d_Walker_part_30 rfl rfl ?_
    refine zj_aload_n hG d_Walker_part_31 rfl rfl ?_
    refine zj_callR (y' := m_Prim_beside) hG (zcV (as := []) hG d_Walker_part_32 c_Prim_beside (z_w5 209 rfl) (z_w3 216 rfl) (z_w3 217 rfl) ⟨by decide, by decide⟩ hq2 (by decide) (by decide) (show _ = some 0 from by decide +kernel) rfl) c_Prim_beside rfl (by omega) rfl (z_le rfl) (z_le rfl) (k_Prim_beside hG hq2 (q5.2.2.1.trans hp) hm (q5.2.2.2.2.1.trans hB) hn9) ?_
    rw [← hp, ← hB]
    refine zj_callP (y' := m_Rows_remove) hG (zcU (as := [_]) (owner := "LensPaths$Rows") hG d_Walker_part_35 c_Rows_remove (z_w5 151 rfl) (z_w3 89 rfl) (z_w3 205 rfl) (z_w3 88 rfl) (z_w3 90 rfl) ⟨by decide, by decide⟩ r32 (by decide) (by decide) (show _ = some 1 from by decide +kernel) rfl) c_Rows_remove rfl (by omega) rfl (z_le rfl) (z_le rfl) (k_r_remove hG y2 ⟨a2, am2, ap2'⟩) (fun h35 e35 => ?_)
    obtain ⟨l1, b, l2, e1, e2, e3, e4, e5, e6, e7⟩ := e35
    obtain ⟨pl4, eL⟩ := pl_rem y2 y3 e1 e3 e5 e2
    have gr4 : cGr r h25 h35 0 0 := ⟨e4, by omega, by omega, by omega, by omega⟩
    obtain ⟨x5, gw3⟩ := x3.pl gr4 pl4
    obtain ⟨q1, q2, q3⟩ := cPl.op (c := c) xr hw am rc (cOp.pc (c := c) p2) p1
    rw [eL, q3, ← eP, ap] at x5
    refine zj_goto (tgt := 67) hG d_Walker_part_38 (by decide) ?_
    exact zj_vret hG d_Walker_part_67 rfl (Or.inl ⟨rfl, tj, _, x5, List.Perm.refl _, (gw.trans gw3).mono (by omega) (by omega)⟩)
  · obtain ⟨rfl, rfl, rfl, tj⟩ := e25
    rw [w5.2.2.2.1, w5.2.2.2.2.2.2.1, w5.2.2.2.2.2.2.2] at tj
    obtain ⟨x3, gw⟩ := x0.exc wf 20
    exact Or.inr ⟨20, _, rfl, rfl, tj, x3, gw⟩
end WK4
