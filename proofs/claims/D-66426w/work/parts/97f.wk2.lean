/-! PART 97f: the component: what a walker does to a card (change) -/
section WK2
variable {G : zG} {h : zH} {c r w q : Nat} {fl : Nat → Bool} {K : Nat → tK} {P : List pE} {p : tPm}
/-- the walker w at work on the card c, with the primitive q -/
def cWk (h : zH) (w c r q : Nat) (p : tPm) : Prop := zt h w = 13 ∧ za h w 0 = c ∧ za h w 1000 ≠ c ∧ za h w 1000 ≠ r ∧ prm h q p ∧ za h q 1000 ≠ c ∧ za h q 1000 ≠ r
theorem cWk.fr {h' : zH} (x : cWk h w c r q p) (e : ∀ a, zt h a ≠ 0 → za h a 1000 ≠ c → za h a 1000 ≠ r → cSm h h' a) : cWk h' w c r q p := by
  obtain ⟨x1, x2, x3, x4, x5, x6, x7⟩ := x
  have sw := e w (by omega) x3 x4
  have sq := e q (by have := x5.1; omega) x6 x7
  unfold cWk prm
  rw [sw.1, sw.2.2.2.1, sq.1, sq.2.2.2.1, sq.2.2.1]
  exact ⟨x1, x2, x3, x4, x5, x6, x7⟩
theorem cCd.rs (x : cCd h c r fl P K) : ∃ es rs, za h c 1 = r ∧ cBd h c es ∧ cKm h c es fl K ∧ cRr h 3 r rs ∧ P = rs.map (cPe h) ∧ (∀ a ∈ rs, pls h a (plc h a).1 (plc h a).2) ∧ r ≠ c := by
  obtain ⟨x1, ⟨es, bd, km⟩, rs, xr, eP, hw⟩ := x
  refine ⟨es, rs, x1, bd, km, xr, eP, hw, fun e => ?_⟩
  have h2 := xr.f.2.1
  rw [e, bd.1] at h2
  cases h2
theorem row_oth {rs : List Nat} {a : Nat} (xr : cRr h 3 r rs) (ha : a ∈ rs) (hrc : r ≠ c) : cOth h c a := by
  have is := (xr.f.2.2.2.2.2.1 a ha).1
  exact ⟨by rw [is.2.1]; exact hrc, by rw [(is.2.2 rfl).2.2.1]; exact hrc⟩
theorem void_Q {R : zH → Prop} : ∀ (o : zO) (h' : zH), (o = zR0 ∧ R h') → o = zR0 ∨ ∃ x y, o = zX x y := fun _ _ g => Or.inl g.1
set_option maxRecDepth 4000 in
/-- a place comes -/
theorem k_wk_come (hG : zOK G) (x : cCd h c r fl P K) (wk : cWk h w c r q p) {s : Nat} (hs : s < 128) (hpv : cPv (pmP p)) (hno : ∀ e ∈ P, e.1 ≠ pmP p) (hlen : P.length < 100) (hlh : pmL p ≤ pmH p) (hn : zn h + 5 ≤ g0 G + 603072) (hsl : zs h + 20 ≤ 7211114) :
    zJ G 8 m_Walker_change 0 [some (zA w), some (zA r), some (zA q), some (zI (nI s)), some (zI (tb true))] [] h (fun o h' => o = zR0 ∧ ∃ P', cCd h' c r fl P' (zw K s tK0) ∧ P'.Perm ((pmP p, cCome (K s) (fl s) (pmS p) (pmL p) (pmH p)) :: P) ∧ cGw c r h h' 3 12) := by
  have wk0 := wk
  obtain ⟨w1, w2, w3, w4, w5, w6, w7⟩ := wk
  have hq := w5.1
  have x0 := x
  obtain ⟨x1, ⟨es, bd, km⟩, xp⟩ := x
  have r3 := xp.f.1
  refine zj_iload hG d_Walker_change_0 rfl ?_
  refine zj_if_eq (tgt := 27) hG d_Walker_change_2 (by decide) (fun c => absurd c (by decide)) (fun _ => ?_)
  refine zj_aload_n hG d_Walker_change_5 rfl rfl ?_
  refine zj_getA hG d_Walker_change_6 f_Walker_9 (by assumption) rfl ?_
  refine zj_aload_n hG d_Walker_change_9 rfl rfl ?_
  refine zj_aload_n hG d_Walker_change_10 rfl rfl ?_
  refine zj_getI hG d_Walker_change_11 f_Walker_44 (by assumption) rfl ?_
  rw [w2, w5.2.2.1]
  refine zj_callA (y' := m_Rows_add) hG (zcU (as := [_]) (owner := "LensPaths$Rows") hG d_Walker_change_14 c_Rows_add (z_w5 71 rfl) (z_w8 74 rfl) (z_w2 131 rfl) (z_w2 133 rfl) (z_w8 75 rfl) ⟨by decide, by decide⟩ r3 (by decide) (by decide) (show _ = some 1 from by decide +kernel) rfl) c_Rows_add rfl (by omega) rfl (z_le rfl) (z_le rfl) (k_pl_add hG xp hlen hpv hno hn hsl) (fun v14 h14 e14 => ?_)
  obtain ⟨a, rs, rfl, xr, hw, am, pa, a0, pp, gr⟩ := e14
  have pl1 : cPl h14 r (rs.map (cPe h14)) := ⟨rs, xr, rfl, hw⟩
  obtain ⟨x2, gw⟩ := x0.pl gr pl1
  obtain ⟨es2, rs2, y1, bd2, km2, _, _, _, rc⟩ := x2.rs
  have wk2 := wk0.fr gw.1
  have c9 := bd2.1
  have a6 := pa.1
  have q5 := wk2.2.2.2.2.1
  have lh : zi h14 q 5 ≤ zi h14 q 6 := by rw [q5.2.2.2.2.2.2.1, q5.2.2.2.2.2.2.2]; exact hlh
  refine zj_aload_n hG d_Walker_change_17 rfl rfl ?_
  refine zj_iload_n hG d_Walker_change_18 rfl rfl ?_
  refine zj_callP (y' := m_Card_come2) hG (zcF (as := [_, _, _]) (k := 9) hG d_Walker_change_19 c_Card_come2 (z_w5 73 rfl) (z_w5 75 rfl) (z_w5 74 rfl) (z_w5 80 rfl) (z_w5 78 rfl) (z_w5 76 rfl) (z_w5 79 rfl) (z_sel hG (z_w5 77 rfl)) ⟨by decide, by decide⟩ c9 (by decide) (by decide) (show _ = some 3 from by decide +kernel) rfl) c_Card_come2 rfl (by omega) rfl (z_le rfl) (z_le rfl) (br_Card_come hG c9 a6 void_Q (k_Card_come1 hG bd2 km2 hs pa (row_oth xr am rc) q5.1 wk2.2.2.2.2.2.1 lh)) (fun h19 e19 => ?_)
  obtain ⟨es3, bd3, km3, pa3, op, cc⟩ := e19
  obtain ⟨x4, gw2⟩ := cCd.op y1 c9 bd2.2.1 xr hw am cc op bd3 km3 pa3
  rw [q5.2.2.2.2.2.1, q5.2.2.2.2.2.2.1, q5.2.2.2.2.2.2.2, a0] at x4
  refine zj_goto (tgt := 54) hG d_Walker_change_24 (by decide) ?_
  exact zj_vret hG d_Walker_change_54 rfl ⟨rfl, _, x4, pl_put pp hno, (gw.trans gw2).mono (by omega) (by omega)⟩
set_option maxRecDepth 4000 in
/-- a place goes -/
theorem k_wk_go (hG : zOK G) (x : cCd h c r fl P K) (wk : cWk h w c r q p) {s : Nat} (hs : s < 128) {l : List Int32} (hin : (pmP p, fl s, l) ∈ P) (hb : fl s = false → ∃ y, l = [y]) (hlh : pmL p ≤ pmH p) (hn : zn h + 6 ≤ g0 G + 603072) (hsl : zs h + 28 ≤ 7211114) :
    zJ G 8 m_Walker_change 0 [some (zA w), some (zA r), some (zA q), some (zI (nI s)), some (zI (tb false))] [] h (fun o h' => o = zR0 ∧ ∃ P', cCd h' c r fl P' (zw K s (cGoK (fl s) l (pmL p) (pmH p))) ∧ P'.Perm (P.filter (fun e => decide (e.1 ≠ pmP p))) ∧ cGw c r h h' 5 24) := by
  have wk0 := wk
  obtain ⟨w1, w2, w3, w4, w5, w6, w7⟩ := wk
  have hq := w5.1
  have x0 := x
  have nd := pl_nd x.2.2
  obtain ⟨es, rs, x1, bd, km, xr, eP, hw, rc⟩ := x.rs
  have r3 := xr.f.2.1
  refine zj_iload hG d_Walker_change_0 rfl ?_
  refine zj_if_eq (tgt := 27) hG d_Walker_change_2 (by decide) (fun _ => ?_) (fun c => absurd rfl c)
  refine zj_aload_n hG d_Walker_change_27 rfl rfl ?_
  refine zj_getA hG d_Walker_change_28 f_Walker_9 (by assumption) rfl ?_
  refine zj_aload_n hG d_Walker_change_31 rfl rfl ?_
  refine zj_aload_n hG d_Walker_change_32 rfl rfl ?_
  refine zj_getI hG d_Walker_change_33 f_Walker_44 (by assumption) rfl ?_
  rw [w2, w5.2.2.1]
  refine zj_callA (y' := m_Rows_at) hG (zcU (as := [_]) (owner := "LensPaths$Rows") hG d_Walker_change_36 c_Rows_at (z_w5 123 rfl) (z_w8 78 rfl) (z_w2 88 rfl) (z_w2 90 rfl) (z_w8 79 rfl) ⟨by decide, by decide⟩ r3 (by decide) (by decide) (show _ = some 1 from by decide +kernel) rfl) c_Rows_at rfl (by omega) rfl (z_le rfl) (z_le rfl) (k_r_at hG xr (pmP p)) (fun v36 h36 e36 => ?_)
  obtain ⟨a, rfl, rfl, ha⟩ := e36
  rw [eP] at hin
  obtain ⟨a', am', ea'⟩ := List.mem_map.mp hin
  have a'p : zi h36 a' 0 = pmP p := congrArg (fun e : pE => e.1) ea'
  rcases ha with ⟨_, hno⟩ | ⟨a0, am, ap⟩
  · exact absurd a'p (hno a' am')
  have eaa : a = a' := xr.inj am am' (by rw [ap, a'p])
  subst eaa
  have pa : pls h36 a (fl s) l := by
    have h1 := hw a am
    have h2 : plc h36 a = (fl s, l) := congrArg (fun e : pE => e.2) ea'
    rw [h2] at h1; exact h1
  have c9 := bd.1
  have a6 := pa.1
  have lh : zi h36 q 5 ≤ zi h36 q 6 := by rw [w5.2.2.2.2.2.2.1, w5.2.2.2.2.2.2.2]; exact hlh
  refine zj_aload_n hG d_Walker_change_39 rfl rfl ?_
  refine zj_iload_n hG d_Walker_change_40 rfl rfl ?_
  refine zj_callP (y' := m_Card_go2) hG (zcF (as := [_, _, _]) (k := 9) hG d_Walker_change_41 c_Card_go2 (z_w5 125 rfl) (z_w5 127 rfl) (z_w5 126 rfl) (z_w5 131 rfl) (z_w5 129 rfl) (z_w5 76 rfl) (z_w5 130 rfl) (z_sel hG (z_w5 128 rfl)) ⟨by decide, by decide⟩ c9 (by decide) (by decide) (show _ = some 3 from by decide +kernel) rfl) c_Card_go2 rfl (by omega) rfl (z_le rfl) (z_le rfl) (br_Card_go hG c9 a6 void_Q (k_Card_go1 hG bd km hs pa hb (row_oth xr am rc) w5.1 w6 lh hn hsl)) (fun h41 e41 => ?_)
  obtain ⟨es3, bd3, km3, pa3, op, cc⟩ := e41
  rw [w5.2.2.2.2.2.2.1, w5.2.2.2.2.2.2.2] at km3
  obtain ⟨x4, gw2⟩ := cCd.op x1 c9 bd.2.1 xr hw am cc op bd3 km3 pa3
  obtain ⟨z1, z2, z3⟩ := cPl.op xr hw am rc op pa3
  have wk2 := wk0.fr gw2.1
  have q5 := wk2.2.2.2.2.1
  have hq2 := q5.1
  have r32 := z1.f.2.1
  have az : zi h41 a 0 = pmP p := by rw [op.2.1.2.2.2.2]; exact ap
  refine zj_aload_n hG d_Walker_change_46 rfl rfl ?_
  refine zj_aload_n hG d_Walker_change_47 rfl rfl ?_
  refine zj_getI hG d_Walker_change_48 f_Walker_44 (by assumption) rfl ?_
  rw [q5.2.2.1]
  refine zj_callP (y' := m_Rows_remove) hG (zcU (as := [_]) (owner := "LensPaths$Rows") hG d_Walker_change_51 c_Rows_remove (z_w5 151 rfl) (z_w3 89 rfl) (z_w3 205 rfl) (z_w3 88 rfl) (z_w3 90 rfl) ⟨by decide, by decide⟩ r32 (by decide) (by decide) (show _ = some 1 from by decide +kernel) rfl) c_Rows_remove rfl (by omega) rfl (z_le rfl) (z_le rfl) (k_r_remove hG z1 ⟨a, am, az⟩) (fun h51 e51 => ?_)
  obtain ⟨l1, b, l2, e1, e2, e3, e4, e5, e6, e7⟩ := e51
  have eb : b = a := z1.inj (by rw [e1]; exact List.mem_append_right _ List.mem_cons_self) am (by rw [e2, az])
  subst eb
  have sub : ∀ d ∈ l1 ++ l2, d ∈ rs := fun d hd => by
    rw [e1]
    rcases List.mem_append.mp hd with g | g
    · exact List.mem_append_left _ g
    · exact List.mem_append_right _ (List.mem_cons_of_mem _ g)
  obtain ⟨k1, k2⟩ := pl_keep (r := r) (rs := l1 ++ l2) (fun d hd => z2 d (sub d hd)) (fun d hd => e5 d (sub d hd)) (fun d hd => (e3.f.2.2.2.2.2.1 d hd).1)
  have pl4 : cPl h51 r ((l1 ++ l2).map (cPe h51)) := ⟨l1 ++ l2, e3, rfl, k2⟩
  have gr4 : cGr r h41 h51 0 0 := ⟨e4, by omega, by omega, by omega, by omega⟩
  obtain ⟨x5, gw3⟩ := x4.pl gr4 pl4
  refine zj_vret hG d_Walker_change_54 rfl ⟨rfl, _, x5, List.Perm.of_eq ?_, (gw2.trans gw3).mono (by omega) (by omega)⟩
  rw [List.map_congr_left k1]
  have nb := z1.nd
  -- the others are as they were, and it is the only one at its path
  have oth : ∀ d ∈ l1 ++ l2, cPe h41 d = cPe h36 d ∧ (cPe h36 d).1 ≠ pmP p := fun d hd => by
    have dm := sub d hd
    have hdb : d ≠ b := by
      intro g
      rw [e1] at nb
      have : (b :: (l1 ++ l2)).Nodup := List.perm_middle.nodup_iff.mp nb
      rw [g] at hd
      exact (List.nodup_cons.mp this).1 hd
    have hp : (cPe h36 d).1 ≠ pmP p := fun g => hdb (xr.inj dm am (by rw [ap]; exact g))
    refine ⟨?_, hp⟩
    have idx := congrArg (fun L : List pE => L) z3
    obtain ⟨j, hj, rfl⟩ := List.mem_iff_getElem.mp dm
    have := congrArg (fun L : List pE => L[j]?) z3
    simp only [List.getElem?_map, List.getElem?_eq_getElem hj, Option.map_some] at this
    have := Option.some.inj this
    rw [this, if_neg (fun g => hp (by rw [g]; exact ap))]
  rw [List.map_congr_left (fun d hd => (oth d hd).1), eP, e1, List.map_append, List.map_append, List.map_cons, List.filter_append, List.filter_cons_of_neg (fun g => (of_decide_eq_true g) ap)]
  have keep : ∀ L : List Nat, (∀ d ∈ L, (cPe h36 d).1 ≠ pmP p) → (L.map (cPe h36)).filter (fun e => decide (e.1 ≠ pmP p)) = L.map (cPe h36) := fun L hL => by
    rw [List.filter_eq_self]
    intro e he
    obtain ⟨d, hd, rfl⟩ := List.mem_map.mp he
    exact decide_eq_true (hL d hd)
  rw [keep l1 (fun d hd => (oth d (List.mem_append_left _ hd)).2), keep l2 (fun d hd => (oth d (List.mem_append_right _ hd)).2)]
end WK2
