/-! PART 97i: the component: what a walker does to a card (one primitive: moves) -/
section WK5
variable {G : zG} {h : zH} {c r w q : Nat} {fl : Nat → Bool} {K : Nat → tK} {P : List pE} {p : tPm}
theorem map_cPe {f : Int32 → Int32} {rs : List Nat} : (rs.map (cPe h)).map (fun g => f g.1) = rs.map (fun b => f (zi h b 0)) := by rw [List.map_map]; rfl
theorem all_cPe {R : Int32 → Prop} {rs : List Nat} (x : ∀ g ∈ rs.map (cPe h), R g.1) : ∀ b ∈ rs, R (zi h b 0) := fun b hb => x _ (List.mem_map.mpr ⟨b, hb, rfl⟩)
theorem pl_moved {rs : List Nat} {f : Int32 → Int32} {h' : zH} (x : cRr h 3 r rs) (hw : ∀ a ∈ rs, pls h a (plc h a).1 (plc h a).2) (y : cMoved 3 r rs f h h') : ∃ P', cPl h' r P' ∧ P'.Perm ((rs.map (cPe h)).map (fun g => (f g.1, g.2))) ∧ cGr r h h' 0 0 := by
  obtain ⟨rs', e1, e2, e3, e4, e5, e6⟩ := y
  have is' := e2.f.2.2.2.2.2.1
  have key : ∀ b ∈ rs, pls h' b (plc h b).1 (plc h b).2 := fun b hb => by
    obtain ⟨q1, q2, q3, q4⟩ := e4 b hb
    obtain ⟨u1, u2, u3, u4, u5, u6, u7⟩ := hw b hb
    obtain ⟨i1, i2, i3⟩ := (is' b (e1.mem_iff.mpr hb)).1
    refine ⟨i1, (i3 rfl).1, (i3 rfl).2.1, by rw [q2 1 (by decide)]; exact u4, by rw [q2 2 (by decide)]; exact u5, u6, fun i z hz => ?_⟩
    rw [q3, q4 rfl]; exact u7 i z hz
  refine ⟨_, ⟨rs', e2, rfl, fun b hb => ?_⟩, ?_, e3, by omega, by omega, by omega, by omega⟩
  · have := key b (e1.mem_iff.mp hb)
    rw [this.plc]; exact this
  · refine (e1.map _).trans (List.Perm.of_eq ?_)
    rw [List.map_map]
    apply List.map_congr_left
    intro b hb
    obtain ⟨q1, _, _, _⟩ := e4 b hb
    show cPe h' b = (f (cPe h b).1, (cPe h b).2)
    unfold cPe
    rw [(key b hb).plc, q1]
/-- moved rows: what a move needs, told by the paths' law -/
def cMvOk (P : List pE) (f t : Int32) : Prop := (∀ e ∈ P, 0 ≤ e.1 ∧ nok (pnat e.1)) ∧ (P.map (fun e => tmvp f t e.1)).Nodup
set_option maxRecDepth 4000 in
theorem k_one_ren (hG : zOK G) (x : cCd h c r fl P K) (wk : cWk h w c r q p) (hk : p.1 = 0) {m n : Nat} (hp : pmP p = nI m) (hm : nok m) (hA : pmA p = nI n) (hn9 : n ≤ 99) {s : Int32} (bk : Bool)
    (ok : if bk = true then cMvOk P (tbeh 0 (pmP p) (pmA p)) (pmP p) else cMvOk P (pmP p) (tbeh 0 (pmP p) (pmA p))) :
    zJ G 8 m_Walker_one 0 [some (zA w), some (zA r), some (zA q), some (zI s), some (zI (tb bk))] [] h (fun o h' => o = zR0 ∧ ∃ P', cCd h' c r fl P' K ∧ P'.Perm (P.map (fun e => (if bk = true then tmvp (tbeh 0 (pmP p) (pmA p)) (pmP p) e.1 else tmvp (pmP p) (tbeh 0 (pmP p) (pmA p)) e.1, e.2))) ∧ cGw c r h h' 0 0) := by
  obtain ⟨w1, w2, w3, w4, w5, w6, w7⟩ := wk
  have hq := w5.1
  have x0 := x
  obtain ⟨es, rs, x1, bd, km, xr, eP, hw, rc⟩ := x.rs
  have r3 := xr.f.2.1
  obtain ⟨r1, r2⟩ := nren_ok hm hn9
  have ht : tbeh 0 (pmP p) (pmA p) = nI (nren m n) := by rw [hp, hA]; exact tbeh_0 hm.1 hm.2.1 hm.2.2 hn9
  -- the rows renamed
  have main : ∀ (f t k : Nat), nok f → nok t → cdp t ≤ cdp f → (∀ y : Nat, nok y → nin f y = true → cren (nI y) f (nI k) = nI (nmv f t y)) → cMvOk P (nI f) (nI t) → zJ G 8 m_Walker_one 43 [some (zA w), some (zA r), some (zA q), some (zI s), some (zI (tb bk))] [zI (nI k), zI (nI f), zA r] h (fun o h' => o = zR0 ∧ ∃ P', cCd h' c r fl P' K ∧ P'.Perm (P.map (fun e => (tmvp (nI f) (nI t) e.1, e.2))) ∧ cGw c r h h' 0 0) := by
    intro f t k fo to hct hg hok
    have he : ∀ e ∈ P, cif f (fun x => cren x f (nI k)) e.1 = tmvp (nI f) (nI t) e.1 := fun e hem => cif_eq fo to hct hg (hok.1 e hem).1 (hok.1 e hem).2
    have hv : ∀ e ∈ rs.map (cPe h), cPv (cif f (fun x => cren x f (nI k)) e.1) := fun e hem => by
      rw [← eP] at hem
      rw [he e hem]
      obtain ⟨q1, q2⟩ := tmvp_f fo to hct (hok.1 e hem).1 (hok.1 e hem).2
      rw [q1]
      exact ⟨nI_pos' (by have := q2.1; omega), by rw [pnat_n (by have := q2.1; omega)]; exact q2.1⟩
    have hd : ((rs.map (cPe h)).map (fun e => cif f (fun x => cren x f (nI k)) e.1)).Nodup := by
      rw [← eP, List.map_congr_left he]; exact hok.2
    refine zj_callP (y' := m_Rows_rename) hG (zcU (as := [_, _]) (owner := "LensPaths$Rows") hG d_Walker_one_43 c_Rows_rename (z_w5 54 rfl) (z_w8 66 rfl) (z_w3 185 rfl) (z_w3 187 rfl) (z_w8 67 rfl) ⟨by decide, by decide⟩ r3 (by decide) (by decide) (show _ = some 2 from by decide +kernel) rfl) c_Rows_rename rfl (by omega) rfl (z_le rfl) (z_le rfl) (k_r_rename hG xr fo.1 (nI k) (all_cPe (R := fun x => cPv (cif f (fun x => cren x f (nI k)) x)) hv) (by rw [map_cPe (f := cif f (fun x => cren x f (nI k)))] at hd; exact hd)) (fun h43 e43 => ?_)
    obtain ⟨P', y1, y2, y3⟩ := pl_moved xr hw e43
    obtain ⟨x5, gw⟩ := x0.pl y3 y1
    refine zj_goto (tgt := 223) hG d_Walker_one_46 (by decide) ?_
    refine zj_vret hG d_Walker_one_223 rfl ⟨rfl, P', x5, y2.trans (List.Perm.of_eq ?_), gw⟩
    rw [← eP]
    exact List.map_congr_left (fun e hem => by rw [he e hem])
  refine zj_aload_n hG d_Walker_one_0 rfl rfl ?_
  refine zj_getI hG d_Walker_one_1 f_Walker_35 (by assumption) rfl ?_
  rw [w5.2.1]
  refine zj_if_ne (tgt := 49) hG d_Walker_one_4 (by decide) (fun c => absurd hk c) (fun _ => ?_)
  refine zj_aload_n hG d_Walker_one_7 rfl rfl ?_
  refine zj_iload hG d_Walker_one_8 rfl ?_
  cases bk with
  | true =>
    refine zj_if_eq (tgt := 20) hG d_Walker_one_10 (by decide) (fun c => absurd c (by decide)) (fun _ => ?_)
    refine zj_aload_n hG d_Walker_one_13 rfl rfl ?_
    refine zj_callR (y' := m_Prim_to) hG (zcV (as := []) hG d_Walker_one_14 c_Prim_to (z_w5 50 rfl) (z_w3 174 rfl) (z_w3 175 rfl) ⟨by decide, by decide⟩ hq (by decide) (by decide) (show _ = some 0 from by decide +kernel) rfl) c_Prim_to rfl (by omega) rfl (z_le rfl) (z_le rfl) (k_Prim_to0 hG hq (w5.2.1.trans hk) (w5.2.2.1.trans hp) hm (w5.2.2.2.1.trans hA) hn9) ?_
    rw [← hp, ← hA, ht]
    refine zj_goto (tgt := 24) hG d_Walker_one_17 (by decide) ?_
    refine zj_iload hG d_Walker_one_24 rfl ?_
    refine zj_if_eq (tgt := 39) hG d_Walker_one_26 (by decide) (fun c => absurd c (by decide)) (fun _ => ?_)
    refine zj_aload_n hG d_Walker_one_29 rfl rfl ?_
    refine zj_getI hG d_Walker_one_30 f_Walker_44 (by assumption) rfl ?_
    rw [w5.2.2.1, hp]
    refine zj_callR (y' := m_Paths_name) hG (zcS (as := [_]) hG d_Walker_one_33 c_Paths_name (z_w5 51 rfl) (z_w5 52 rfl) (z_w1 16 rfl) ⟨by decide, by decide⟩ (show _ = some 1 from by decide +kernel) rfl) c_Paths_name rfl (by omega) rfl (z_le rfl) (z_le rfl) (k_Paths_name hG hm.1 _) ?_
    rw [cname_n hm.1 hm.2.2]
    refine zj_goto (tgt := 43) hG d_Walker_one_36 (by decide) ?_
    have nn := nname_le hm.1 hm.2.1
    have e1 := nren_ren hm hn9
    have ok' : cMvOk P (nI (nren m n)) (nI m) := by have := ok; simp only [if_true] at this; rw [ht, hp] at this; exact this
    have := main (nren m n) m (nname m) r1 hm (by omega) (fun y hy hi => by
      have := cren_n hy.1 r1.1 r1.2.2 nn hi
      rw [e1] at this; exact this) ok'
    exact this
  | false =>
    refine zj_if_eq (tgt := 20) hG d_Walker_one_10 (by decide) (fun _ => ?_) (fun c => absurd rfl c)
    refine zj_aload_n hG d_Walker_one_20 rfl rfl ?_
    refine zj_getI hG d_Walker_one_21 f_Walker_44 (by assumption) rfl ?_
    refine zj_iload hG d_Walker_one_24 rfl ?_
    rw [w5.2.2.1]
    refine zj_if_eq (tgt := 39) hG d_Walker_one_26 (by decide) (fun _ => ?_) (fun c => absurd rfl c)
    refine zj_aload_n hG d_Walker_one_39 rfl rfl ?_
    refine zj_getI hG d_Walker_one_40 f_Walker_53 (by assumption) rfl ?_
    rw [w5.2.2.2.1, ht, hp, hA]
    have ok' : cMvOk P (nI m) (nI (nren m n)) := by have := ok; simp only [Bool.false_eq_true, if_false] at this; rw [ht, hp] at this; exact this
    exact main m (nren m n) n hm r1 (by omega) (fun y hy hi => cren_n hy.1 hm.1 hm.2.2 hn9 hi) ok'
end WK5
