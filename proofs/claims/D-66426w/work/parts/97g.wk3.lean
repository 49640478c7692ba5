/-! PART 97g: the component: what a walker does to a card (part) -/
section WK3
variable {G : zG} {h : zH} {c r w q : Nat} {fl : Nat → Bool} {K : Nat → tK} {P : List pE} {p : tPm}
theorem k_pl_addR (hG : zOK G) {rs : List Nat} (x : cRr h 3 r rs) (hw : ∀ a ∈ rs, pls h a (plc h a).1 (plc h a).2) (hl : rs.length < 100) {p : Int32} (hp : cPv p) (hno : ∀ b ∈ rs, zi h b 0 ≠ p) (hn : zn h + 5 ≤ g0 G + 603072) (hs : zs h + 20 ≤ 7211114) :
    zJ G 6 m_Rows_add 0 [some (zA r), some (zI p), none] [] h (fun o h' => ∃ v, o = zR v ∧ ∃ a rs', v = zA a ∧ cRr h' 3 r rs' ∧ (∀ c ∈ rs', pls h' c (plc h' c).1 (plc h' c).2) ∧ a ∈ rs' ∧ pls h' a false [0] ∧ zi h' a 0 = p ∧ (rs'.map (cPe h')).Perm ((p, false, [0]) :: rs.map (cPe h)) ∧ (∀ b ∈ rs, b ∈ rs' ∧ b ≠ a ∧ pls h' b (plc h b).1 (plc h b).2 ∧ zi h' b 0 = zi h b 0) ∧ cGr r h h' 3 12) := by
  refine (k_r_add hG x hl hp hno hn hs).mono ?_
  rintro o h' ⟨v, rfl, a, l1, l2, rfl, e1, e2, x', e4, e5, e6, e7, e8⟩
  have am : a ∈ l1 ++ a :: l2 := List.mem_append_right _ List.mem_cons_self
  have is' := x'.f.2.2.2.2.2.1
  have mem : ∀ c ∈ rs, c ∈ l1 ++ a :: l2 := fun c hc => by
    rw [e1] at hc
    rcases List.mem_append.mp hc with g | g
    · exact List.mem_append_left _ g
    · exact List.mem_append_right _ (List.mem_cons_of_mem _ g)
  obtain ⟨k1, k2⟩ := pl_keep (r := r) hw e7 (fun c hc => (is' c (mem c hc)).1)
  have pa : pls h' a false [0] := by
    obtain ⟨w1, w2, w3⟩ := e5.2.1 rfl
    obtain ⟨i1, i2, i3⟩ := (is' a am).1
    refine ⟨i1, (i3 rfl).1, (i3 rfl).2.1, w1, w2, by decide, fun i x hx => ?_⟩
    cases i with
    | zero => simp at hx; rw [← hx]; exact w3
    | succ i => simp at hx
  refine ⟨_, rfl, a, l1 ++ a :: l2, rfl, x', fun c hc => ?_, am, pa, e4, ?_, fun b hb => ⟨mem b hb, fun g => e2 (by rw [← g]; exact hb), (hw b hb).sr (e7 b hb) (is' b (mem b hb)).1, by rw [(e7 b hb).1]⟩, e6, e8⟩
  · by_cases e : c = a
    · subst e; rw [pa.plc]; exact pa
    · refine k2 c ?_
      rw [e1]
      rcases List.mem_append.mp hc with g | g
      · exact List.mem_append_left _ g
      · rcases List.mem_cons.mp g with g | g
        · exact absurd g e
        · exact List.mem_append_right _ g
  · rw [List.map_append, List.map_cons]
    have ea : cPe h' a = (p, false, [0]) := by unfold cPe; rw [pa.plc, e4]
    have g1 : l1.map (cPe h') = l1.map (cPe h) := List.map_congr_left (fun b hb => k1 b (by rw [e1]; exact List.mem_append_left _ hb))
    have g2 : l2.map (cPe h') = l2.map (cPe h) := List.map_congr_left (fun b hb => k1 b (by rw [e1]; exact List.mem_append_right _ hb))
    rw [ea, g1, g2, e1, List.map_append]
    exact List.perm_middle
/-- the row at a path that is there -/
theorem row_of {rs : List Nat} (xr : cRr h 3 r rs) (hw : ∀ a ∈ rs, pls h a (plc h a).1 (plc h a).2) {x : Int32} {b : Bool} {l : List Int32} (hin : (x, b, l) ∈ rs.map (cPe h)) {a : Nat} (ha : (a = 0 ∧ ∀ b ∈ rs, zi h b 0 ≠ x) ∨ a ≠ 0 ∧ a ∈ rs ∧ zi h a 0 = x) : a ∈ rs ∧ zi h a 0 = x ∧ pls h a b l := by
  obtain ⟨a', am', ea'⟩ := List.mem_map.mp hin
  have a'p : zi h a' 0 = x := congrArg (fun e : pE => e.1) ea'
  rcases ha with ⟨_, hno⟩ | ⟨a0, am, ap⟩
  · exact absurd a'p (hno a' am')
  have eaa : a = a' := xr.inj am am' (by rw [ap, a'p])
  subst eaa
  have h1 := hw a am
  have h2 : plc h a = (b, l) := congrArg (fun e : pE => e.2) ea'
  rw [h2] at h1
  exact ⟨am, ap, h1⟩
set_option maxRecDepth 4000 in
theorem k_wk_split (hG : zOK G) (x : cCd h c r fl P K) (wk : cWk h w c r q p) {m n : Nat} (hp : pmP p = nI m) (hm : nok m) (hB : pmB p = nI n) (hn9 : n ≤ 99) (hA : 1 ≤ pmA p) {v : Int32} (hin : (pmP p, false, [v]) ∈ P) (hpv : cPv (tbes (pmP p) (pmB p))) (hno : ∀ e ∈ P, e.1 ≠ tbes (pmP p) (pmB p)) (hlen : P.length < 100) (hn : zn h + 5 ≤ g0 G + 603072) (hsl : zs h + 20 ≤ 7211114) :
    zJ G 8 m_Walker_part 0 [some (zA w), some (zA r), some (zA q), some (zI (tb false))] [] h (fun o h' => o = zR0 ∧ ∃ P', cCd h' c r fl P' K ∧ P'.Perm ((tbes (pmP p) (pmB p), false, [tre v (pmA p)]) :: P.map (fun e => if e.1 = pmP p then (e.1, false, [tqo v (pmA p)]) else e)) ∧ cGw c r h h' 3 12) := by
  have wk0 := wk
  obtain ⟨w1, w2, w3, w4, w5, w6, w7⟩ := wk
  have hq := w5.1
  have x0 := x
  obtain ⟨es, rs, x1, bd, km, xr, eP, hw, rc⟩ := x.rs
  have r3 := xr.f.2.1
  refine zj_iload_n hG d_Walker_part_0 rfl rfl ?_
  refine zj_if_eq (tgt := 41) hG d_Walker_part_1 (by decide) (fun _ => ?_) (fun c => absurd rfl c)
  refine zj_aload_n hG d_Walker_part_41 rfl rfl ?_
  refine zj_getA hG d_Walker_part_42 f_Walker_9 (by assumption) rfl ?_
  refine zj_aload_n hG d_Walker_part_45 rfl rfl ?_
  refine zj_aload_n hG d_Walker_part_46 rfl rfl ?_
  refine zj_getI hG d_Walker_part_47 f_Walker_44 (by assumption) rfl ?_
  rw [w2, w5.2.2.1]
  refine zj_callA (y' := m_Rows_at) hG (zcU (as := [_]) (owner := "LensPaths$Rows") hG d_Walker_part_50 c_Rows_at (z_w5 123 rfl) (z_w8 78 rfl) (z_w2 88 rfl) (z_w2 90 rfl) (z_w8 79 rfl) ⟨by decide, by decide⟩ r3 (by decide) (by decide) (show _ = some 1 from by decide +kernel) rfl) c_Rows_at rfl (by omega) rfl (z_le rfl) (z_le rfl) (k_r_at hG xr (pmP p)) (fun v50 h50 e50 => ?_)
  obtain ⟨a, rfl, rfl, ha⟩ := e50
  rw [eP] at hin
  obtain ⟨am, ap, pa⟩ := row_of xr hw hin ha
  refine zj_aload_n hG d_Walker_part_53 rfl rfl ?_
  refine zj_aload_n hG d_Walker_part_54 rfl rfl ?_
  refine zj_callR (y' := m_Prim_beside) hG (zcV (as := []) hG d_Walker_part_55 c_Prim_beside (z_w5 209 rfl) (z_w3 216 rfl) (z_w3 217 rfl) ⟨by decide, by decide⟩ hq (by decide) (by decide) (show _ = some 0 from by decide +kernel) rfl) c_Prim_beside rfl (by omega) rfl (z_le rfl) (z_le rfl) (k_Prim_beside hG hq (w5.2.2.1.trans hp) hm (w5.2.2.2.2.1.trans hB) hn9) ?_
  rw [← hp, ← hB]
  refine zj_callA (y' := m_Rows_add) hG (zcU (as := [_]) (owner := "LensPaths$Rows") hG d_Walker_part_58 c_Rows_add (z_w5 71 rfl) (z_w8 74 rfl) (z_w2 131 rfl) (z_w2 133 rfl) (z_w8 75 rfl) ⟨by decide, by decide⟩ r3 (by decide) (by decide) (show _ = some 1 from by decide +kernel) rfl) c_Rows_add rfl (by omega) rfl (z_le rfl) (z_le rfl) (k_pl_addR hG xr hw (by rw [eP] at hlen; simpa using hlen) hpv (fun b hb => hno _ (by rw [eP]; exact List.mem_map.mpr ⟨b, hb, rfl⟩)) hn hsl) (fun v58 h58 e58 => ?_)
  obtain ⟨a2, rs2, rfl, xr2, hw2, am2, pa2, a20, pp, keepR, gr⟩ := e58
  have pl1 : cPl h58 r (rs2.map (cPe h58)) := ⟨rs2, xr2, rfl, hw2⟩
  obtain ⟨x2, gw⟩ := x0.pl gr pl1
  have wk2 := wk0.fr gw.1
  have q5 := wk2.2.2.2.2.1
  obtain ⟨ak1, ak2, ak3, ak4⟩ := keepR a am
  have pla : plc h50 a = (false, [v]) := pa.plc
  rw [pla] at ak3
  have c9 := (x2.2.1.choose_spec).1.1
  have hA2 : 1 ≤ zi h58 q 2 := by rw [q5.2.2.2.1]; exact hA
  refine zj_aload_n hG d_Walker_part_61 rfl rfl ?_
  refine zj_callP (y' := m_Card_split2) hG (zcF (as := [_, _, _]) (k := 9) hG d_Walker_part_62 c_Card_split2 (z_w5 236 rfl) (z_w5 238 rfl) (z_w5 237 rfl) (z_w6 2 rfl) (z_w6 0 rfl) (z_w5 76 rfl) (z_w6 1 rfl) (z_sel hG (z_w5 239 rfl)) ⟨by decide, by decide⟩ c9 (by decide) (by decide) (show _ = some 3 from by decide +kernel) rfl) c_Card_split2 rfl (by omega) rfl (z_le rfl) (z_le rfl) (br_Card_split hG c9 ak3.1 pa2.1 void_Q (k_Card_split1 hG ak3 pa2 ak2.symm (xr2.ne2 am2 ak1 ak2.symm rfl) q5.1 hA2)) (fun h62 e62 => ?_)
  obtain ⟨pf1, pf2, h1, pc1, pm1, pc2⟩ := e62
  rw [q5.2.2.2.1] at pf1 pf2 pm1
  obtain ⟨y1, y2, y3, y4⟩ := cPl.set xr2 hw2 ak1 pc1 pm1
  obtain ⟨z1, z2, z3, z4⟩ := cPl.set y2 y3 am2 pc2 pf2
  have g1 : cGr r h58 h62 0 0 := by
    have b1 : zn h1 = zn h58 ∧ zs h1 = zs h58 := by obtain ⟨I, rfl, _⟩ := pc1; exact ⟨rfl, rfl⟩
    have b2 : zn h62 = zn h1 ∧ zs h62 = zs h1 := by obtain ⟨I, rfl, _⟩ := pc2; exact ⟨rfl, rfl⟩
    exact ⟨y4.trans z4, by omega, by omega, by omega, by omega⟩
  obtain ⟨x3, gw2⟩ := x2.pl g1 z1
  refine zj_vret hG d_Walker_part_67 rfl ⟨rfl, _, x3, ?_, (gw.trans gw2).mono (by omega) (by omega)⟩
  have ea2 : zi h1 a2 0 = tbes (pmP p) (pmB p) := by
    obtain ⟨I, rfl, i1, _⟩ := pc1
    show I a2 0 = _
    rw [i1 a2 ak2.symm (fun g => by have := ak3.2.1; rw [← g, pa2.1] at this; cases this)]; exact a20
  have eL : rs2.map (cPe h1) = (rs2.map (cPe h58)).map (fun e => if e.1 = zi h58 a 0 then (e.1, false, [tqo v (pmA p)]) else e) := by
    obtain ⟨q1, q2, q3⟩ := cPl.op (c := c) xr2 hw2 ak1 x2.rs.choose_spec.choose_spec.2.2.2.2.2.2 (cOp.pc (c := c) pc1) pm1
    exact q3
  rw [eL, ea2, ak4, ap]
  have hne : tbes (pmP p) (pmB p) ≠ pmP p := fun g => hno _ (by rw [eP]; exact hin) g.symm
  refine ((pp.map _).map _).trans ?_
  rw [List.map_cons, List.map_cons, if_neg (show ¬ (tbes (pmP p) (pmB p), false, [(0 : Int32)]).1 = pmP p from hne), if_pos rfl]
  refine List.Perm.cons _ (List.Perm.of_eq ?_)
  rw [← eP, List.map_map]
  apply List.map_congr_left
  intro e he
  show (if (if e.1 = pmP p then (e.1, false, [tqo v (pmA p)]) else e).1 = tbes (pmP p) (pmB p) then _ else (if e.1 = pmP p then (e.1, false, [tqo v (pmA p)]) else e)) = _
  rw [if_neg]
  split
  · exact hno e he
  · exact hno e he
end WK3
