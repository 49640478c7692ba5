/-! PART 97j: the component: what a walker does to a card (one primitive: lift, sink; the rest) -/
section WK6
variable {G : zG} {h : zH} {c r w q : Nat} {fl : Nat → Bool} {K : Nat → tK} {P : List pE} {p : tPm}
theorem cif_sun {m : Nat} (hm : nok m) (h2 : 2 ≤ cdp m) {x : Int32} (h0 : 0 ≤ x) (hx : nok (pnat x)) (hfit : nin (nlif m) (pnat x) = true → pnat x < 2 ^ 21) : cif (nlif m) (fun x => csun x (nlif m) (nI (nname (npar m)))) x = tmvp (nI (nlif m)) (nI m) x ∧ nok (nmv (nlif m) m (pnat x)) ∧ tmvp (nI (nlif m)) (nI m) x = nI (nmv (nlif m) m (pnat x)) := by
  obtain ⟨l1, l2⟩ := nlif_ok hm h2
  have lc := l1.c
  have mc := hm.c
  obtain ⟨c1, c2, c3, c4⟩ := npar_cdp hm.1 hm.2.1 hm.2.2
  have n99 := nname_le (m := npar m) (by omega) c2
  have l21 : nlif m < 2 ^ 21 := by
    have h3 : cdp (nlif m) ≤ 3 := by omega
    have := lc.2.2.1
    have : 128 ^ cdp (nlif m) ≤ 128 ^ 3 := Nat.pow_le_pow_right (by decide) h3
    omega
  have esun := nsun_lif hm h2
  have fit2 : nin (nlif m) (pnat x) = true → pnat x / 128 ^ cdp (nlif m) < 128 ^ (4 - cdp m) := fun hi => by
    have hx21 := hfit hi
    apply Nat.div_lt_of_lt_mul
    rw [← Nat.pow_add, show cdp (nlif m) + (4 - cdp m) = 3 by omega]
    exact hx21
  obtain ⟨ok, fit⟩ := nmv_ok l1 hm hx fit2
  have te : tmvp (nI (nlif m)) (nI m) x = nI (nmv (nlif m) m (pnat x)) := by
    have := tmvp_n l1.1 l1.2.1 hm.1 hm.2.1 hx.1 fit
    rwa [← pnat_eq h0] at this
  refine ⟨?_, ok, te⟩
  rw [te]
  unfold cif
  by_cases hi : nin (nlif m) (pnat x) = true
  · rw [if_pos ((ctop_in l1 h0 hx).mpr hi)]
    conv => lhs; rw [pnat_eq h0]
    have := csun_n (n := nname (npar m)) (hfit hi) l1.2.2 l21 n99 hi
    rw [esun] at this
    exact this
  · rw [if_neg (fun e => hi ((ctop_in l1 h0 hx).mp e))]
    unfold nmv
    rw [if_neg hi]
    exact pnat_eq h0
set_option maxRecDepth 4000 in
theorem k_one_lift (hG : zOK G) (x : cCd h c r fl P K) (wk : cWk h w c r q p) (hk : p.1 = 4) {m : Nat} (hp : pmP p = nI m) (hm : nok m) (h2 : 2 ≤ cdp m) {s : Int32} (bk : Bool)
    (ok : if bk = true then cMvOk P (tbeh 4 (pmP p) (pmA p)) (pmP p) ∧ (∀ e ∈ P, nin (nlif m) (pnat e.1) = true → pnat e.1 < 2 ^ 21) else cMvOk P (pmP p) (tbeh 4 (pmP p) (pmA p))) :
    zJ G 8 m_Walker_one 0 [some (zA w), some (zA r), some (zA q), some (zI s), some (zI (tb bk))] [] h (fun o h' => o = zR0 ∧ ∃ P', cCd h' c r fl P' K ∧ P'.Perm (P.map (fun e => (if bk = true then tmvp (tbeh 4 (pmP p) (pmA p)) (pmP p) e.1 else tmvp (pmP p) (tbeh 4 (pmP p) (pmA p)) e.1, e.2))) ∧ cGw c r h h' 0 0) := by
  obtain ⟨w1, w2, w3, w4, w5, w6, w7⟩ := wk
  have hq := w5.1
  have x0 := x
  obtain ⟨es, rs, x1, bd, km, xr, eP, hw, rc⟩ := x.rs
  have r3 := xr.f.2.1
  obtain ⟨l1, l2⟩ := nlif_ok hm h2
  obtain ⟨c1, c2, c3, c4⟩ := npar_cdp hm.1 hm.2.1 hm.2.2
  have ht : tbeh 4 (pmP p) (pmA p) = nI (nlif m) := by rw [hp]; exact tbeh_4 hm.1 hm.2.1 h2
  have cpv : ∀ y : Nat, nok y → cPv (nI y) := fun y hy => ⟨nI_pos' (by have := hy.1; omega), by rw [pnat_n (by have := hy.1; omega)]; exact hy.1⟩
  refine zj_aload_n hG d_Walker_one_0 rfl rfl ?_
  refine zj_getI hG d_Walker_one_1 f_Walker_35 (by assumption) rfl ?_
  rw [w5.2.1]
  refine zj_if_ne (tgt := 49) hG d_Walker_one_4 (by decide) (fun _ => ?_) (fun c => absurd c (by rw [hk]; decide))
  refine zj_aload_n hG d_Walker_one_49 rfl rfl ?_
  refine zj_getI hG d_Walker_one_50 f_Walker_35 (by assumption) rfl ?_
  refine zj_iconst (v := 4) hG d_Walker_one_53 rfl ?_
  rw [w5.2.1]
  refine zj_icmp_ne (tgt := 94) hG d_Walker_one_54 (by decide) (fun c => absurd hk c) (fun _ => ?_)
  refine zj_iload hG d_Walker_one_57 rfl ?_
  cases bk with
  | true =>
    have np0 : npar m ≠ 0 := by intro e; rw [e] at c1; have : cdp 0 = 0 := rfl; omega
    have ok1 : cMvOk P (nI (nlif m)) (nI m) ∧ ∀ e ∈ P, nin (nlif m) (pnat e.1) = true → pnat e.1 < 2 ^ 21 := by have := ok; simp only [if_true] at this; rw [ht, hp] at this; exact this
    have he : ∀ e ∈ P, cif (nlif m) (fun x => csun x (nlif m) (nI (nname (npar m)))) e.1 = tmvp (nI (nlif m)) (nI m) e.1 := fun e hem => (cif_sun hm h2 (ok1.1.1 e hem).1 (ok1.1.1 e hem).2 (ok1.2 e hem)).1
    have hv : ∀ e ∈ rs.map (cPe h), cPv (cif (nlif m) (fun x => csun x (nlif m) (nI (nname (npar m)))) e.1) := fun e hem => by
      rw [← eP] at hem
      rw [he e hem]
      obtain ⟨_, q2, q3⟩ := cif_sun hm h2 (ok1.1.1 e hem).1 (ok1.1.1 e hem).2 (ok1.2 e hem)
      rw [q3]
      exact cpv _ q2
    have hd : ((rs.map (cPe h)).map (fun e => cif (nlif m) (fun x => csun x (nlif m) (nI (nname (npar m)))) e.1)).Nodup := by
      rw [← eP, List.map_congr_left he]; exact ok1.1.2
    refine zj_if_eq (tgt := 83) hG d_Walker_one_59 (by decide) (fun c => absurd c (by decide)) (fun _ => ?_)
    refine zj_aload_n hG d_Walker_one_62 rfl rfl ?_
    refine zj_aload_n hG d_Walker_one_63 rfl rfl ?_
    refine zj_callR (y' := m_Prim_to) hG (zcV (as := []) hG d_Walker_one_64 c_Prim_to (z_w5 50 rfl) (z_w3 174 rfl) (z_w3 175 rfl) ⟨by decide, by decide⟩ hq (by decide) (by decide) (show _ = some 0 from by decide +kernel) rfl) c_Prim_to rfl (by omega) rfl (z_le rfl) (z_le rfl) (k_Prim_to4 hG hq (w5.2.1.trans hk) (w5.2.2.1.trans hp) hm h2 (pmA p)) ?_
    rw [← hp, ht]
    refine zj_aload_n hG d_Walker_one_67 rfl rfl ?_
    refine zj_getI hG d_Walker_one_68 f_Walker_44 (by assumption) rfl ?_
    rw [w5.2.2.1, hp]
    refine zj_callR (y' := m_Paths_parent) hG (zcS (as := [_]) hG d_Walker_one_71 c_Paths_parent (z_w5 55 rfl) (z_w2 93 rfl) (z_w1 16 rfl) ⟨by decide, by decide⟩ (show _ = some 1 from by decide +kernel) rfl) c_Paths_parent rfl (by omega) rfl (z_le rfl) (z_le rfl) (k_Paths_parent hG hm.1 _) ?_
    rw [cpar_n hm.1 hm.2.2]
    refine zj_callR (y' := m_Paths_name) hG (zcS (as := [_]) hG d_Walker_one_74 c_Paths_name (z_w5 51 rfl) (z_w5 52 rfl) (z_w1 16 rfl) ⟨by decide, by decide⟩ (show _ = some 1 from by decide +kernel) rfl) c_Paths_name rfl (by omega) rfl (z_le rfl) (z_le rfl) (k_Paths_name hG (m := npar m) (by omega) _) ?_
    rw [cname_n (by omega) np0]
    refine zj_callP (y' := m_Rows_sink) hG (zcV (as := [_, _]) hG d_Walker_one_77 c_Rows_sink (z_w5 56 rfl) (z_w5 57 rfl) (z_w5 59 rfl) ⟨by decide, by decide⟩ r3 (by decide) (by decide) (show _ = some 2 from by decide +kernel) rfl) c_Rows_sink rfl (by omega) rfl (z_le rfl) (z_le rfl) (k_r_sink hG xr l1.1 (nI (nname (npar m))) (all_cPe (R := fun x => cPv (cif (nlif m) (fun x => csun x (nlif m) (nI (nname (npar m)))) x)) hv) (by rw [map_cPe (f := cif (nlif m) (fun x => csun x (nlif m) (nI (nname (npar m)))))] at hd; exact hd)) (fun h77 e77 => ?_)
    obtain ⟨P', y1, y2, y3⟩ := pl_moved xr hw e77
    obtain ⟨x5, gw⟩ := x0.pl y3 y1
    refine zj_goto (tgt := 223) hG d_Walker_one_80 (by decide) ?_
    refine zj_vret hG d_Walker_one_223 rfl ⟨rfl, P', x5, y2.trans (List.Perm.of_eq ?_), gw⟩
    rw [← eP]
    exact List.map_congr_left (fun e hem => by rw [he e hem]; rfl)
  | false =>
    have ok1 : cMvOk P (nI m) (nI (nlif m)) := by have := ok; simp only [Bool.false_eq_true, if_false] at this; rw [ht, hp] at this; exact this
    have he : ∀ e ∈ P, cif m (fun x => clif x m) e.1 = tmvp (nI m) (nI (nlif m)) e.1 := fun e hem => cif_eq hm l1 (by omega) (fun y hy hi => clif_n hy.1 hm.1 h2 hi) (ok1.1 e hem).1 (ok1.1 e hem).2
    have hv : ∀ e ∈ rs.map (cPe h), cPv (cif m (fun x => clif x m) e.1) := fun e hem => by
      rw [← eP] at hem
      rw [he e hem]
      obtain ⟨q1, q2⟩ := tmvp_f hm l1 (by omega) (ok1.1 e hem).1 (ok1.1 e hem).2
      rw [q1]
      exact cpv _ q2
    have hd : ((rs.map (cPe h)).map (fun e => cif m (fun x => clif x m) e.1)).Nodup := by
      rw [← eP, List.map_congr_left he]; exact ok1.2
    refine zj_if_eq (tgt := 83) hG d_Walker_one_59 (by decide) (fun _ => ?_) (fun c => absurd rfl c)
    refine zj_aload_n hG d_Walker_one_83 rfl rfl ?_
    refine zj_aload_n hG d_Walker_one_84 rfl rfl ?_
    refine zj_getI hG d_Walker_one_85 f_Walker_44 (by assumption) rfl ?_
    rw [w5.2.2.1, ht, hp]
    refine zj_callP (y' := m_Rows_lift) hG (zcU (as := [_]) (owner := "LensPaths$Rows") hG d_Walker_one_88 c_Rows_lift (z_w5 66 rfl) (z_w8 70 rfl) (z_w3 210 rfl) (z_w3 212 rfl) (z_w8 71 rfl) ⟨by decide, by decide⟩ r3 (by decide) (by decide) (show _ = some 1 from by decide +kernel) rfl) c_Rows_lift rfl (by omega) rfl (z_le rfl) (z_le rfl) (k_r_lift hG xr hm.1 (all_cPe (R := fun x => cPv (cif m (fun x => clif x m) x)) hv) (by rw [map_cPe (f := cif m (fun x => clif x m))] at hd; exact hd)) (fun h88 e88 => ?_)
    obtain ⟨P', y1, y2, y3⟩ := pl_moved xr hw e88
    obtain ⟨x5, gw⟩ := x0.pl y3 y1
    refine zj_goto (tgt := 223) hG d_Walker_one_91 (by decide) ?_
    refine zj_vret hG d_Walker_one_223 rfl ⟨rfl, P', x5, y2.trans (List.Perm.of_eq ?_), gw⟩
    rw [← eP]
    exact List.map_congr_left (fun e hem => by rw [he e hem]; rfl)
/-- to where the other kinds are asked for -/
theorem one_to94 (hG : zOK G) (wk : cWk h w c r q p) (h0 : p.1 ≠ 0) (h4 : p.1 ≠ 4) {ls : List (Option zV)} {Q : zO → zH → Prop} {d : Nat} {x3 x4 : zV} (k : zJ G d m_Walker_one 94 [some (zA w), some (zA r), some (zA q), some x3, some x4] [] h Q) : zJ G d m_Walker_one 0 [some (zA w), some (zA r), some (zA q), some x3, some x4] [] h Q := by
  obtain ⟨w1, w2, w3, w4, w5, w6, w7⟩ := wk
  have hq := w5.1
  refine zj_aload_n hG d_Walker_one_0 rfl rfl ?_
  refine zj_getI hG d_Walker_one_1 f_Walker_35 (by assumption) rfl ?_
  rw [w5.2.1]
  refine zj_if_ne (tgt := 49) hG d_Walker_one_4 (by decide) (fun _ => ?_) (fun c => absurd c h0)
  refine zj_aload_n hG d_Walker_one_49 rfl rfl ?_
  refine zj_getI hG d_Walker_one_50 f_Walker_35 (by assumption) rfl ?_
  refine zj_iconst (v := 4) hG d_Walker_one_53 rfl ?_
  rw [w5.2.1]
  refine zj_icmp_ne (tgt := 94) hG d_Walker_one_54 (by decide) (fun _ => ?_) (fun c => absurd c h4)
  exact k
set_option maxRecDepth 4000 in
/-- places come and go -/
theorem k_one_chg (hG : zOK G) (wk : cWk h w c r q p) (hk : p.1 = 1 ∨ p.1 = 2) {s : Int32} (bk : Bool) {Q : zO → zH → Prop} (hQ : ∀ o h', Q o h' → o = zR0 ∨ ∃ x y, o = zX x y) (k0 : pmS p = 2 → Q zR0 h) (kc : pmS p ≠ 2 → zJ G 8 m_Walker_change 0 [some (zA w), some (zA r), some (zA q), some (zI s), some (zI (tb (decide (p.1 = 1) != bk)))] [] h Q) : zJ G 9 m_Walker_one 0 [some (zA w), some (zA r), some (zA q), some (zI s), some (zI (tb bk))] [] h Q := by
  have e0 : p.1 ≠ 0 := by rcases hk with e | e <;> rw [e] <;> decide
  have e4 : p.1 ≠ 4 := by rcases hk with e | e <;> rw [e] <;> decide
  refine one_to94 (ls := []) hG wk e0 e4 ?_
  have wk0 := wk
  obtain ⟨w1, w2, w3, w4, w5, w6, w7⟩ := wk
  have hq := w5.1
  have at110 : zJ G 9 m_Walker_one 110 [some (zA w), some (zA r), some (zA q), some (zI s), some (zI (tb bk))] [] h Q := by
    refine zj_aload_n hG d_Walker_one_110 rfl rfl ?_
    refine zj_getI hG d_Walker_one_111 f_Walker_72 (by assumption) rfl ?_
    refine zj_iconst (v := 2) hG d_Walker_one_114 rfl ?_
    rw [w5.2.2.2.2.2.1]
    by_cases s2 : pmS p = 2
    · refine zj_icmp_eq (tgt := 223) hG d_Walker_one_115 (by decide) (fun _ => ?_) (fun c => absurd s2 c)
      exact zj_vret hG d_Walker_one_223 rfl (k0 s2)
    refine zj_icmp_eq (tgt := 223) hG d_Walker_one_115 (by decide) (fun c => absurd c s2) (fun _ => ?_)
    have call : ∀ b, b = (decide (p.1 = 1) != bk) → zJ G 9 m_Walker_one 145 [some (zA w), some (zA r), some (zA q), some (zI s), some (zI (tb bk))] [zI (tb b), zI s, zA q, zA r, zA w] h Q := by
      intro b hb
      subst hb
      refine zj_call (y' := m_Walker_change) hG (zcP (as := [_, _, _, _]) hG d_Walker_one_145 c_Walker_change (z_w5 67 rfl) (z_w5 69 rfl) (z_w5 68 rfl) (z_w5 41 rfl) rfl ⟨by decide, by decide⟩ w1 (by decide) (by decide) (show _ = some 4 from by decide +kernel) rfl) c_Walker_change rfl (by omega) rfl (z_le rfl) (z_le rfl) (kc s2) ?_ ?_
      · intro v h1 e
        rcases hQ _ _ e with g | ⟨x, y, g⟩
        · cases g
          refine zj_goto (tgt := 223) hG d_Walker_one_148 (by decide) ?_
          exact zj_vret hG d_Walker_one_223 rfl e
        · cases g
      · exact fun q h1 e => e
    refine zj_aload_n hG d_Walker_one_118 rfl rfl ?_
    refine zj_aload_n hG d_Walker_one_119 rfl rfl ?_
    refine zj_aload_n hG d_Walker_one_120 rfl rfl ?_
    refine zj_iload_n hG d_Walker_one_121 rfl rfl ?_
    refine zj_aload_n hG d_Walker_one_122 rfl rfl ?_
    refine zj_getI hG d_Walker_one_123 f_Walker_35 (by assumption) rfl ?_
    refine zj_iconst (v := 1) hG d_Walker_one_126 rfl ?_
    rw [w5.2.1]
    by_cases k1 : p.1 = 1
    · refine zj_icmp_ne (tgt := 134) hG d_Walker_one_127 (by decide) (fun c => absurd k1 c) (fun _ => ?_)
      refine zj_iconst (v := 1) hG d_Walker_one_130 rfl ?_
      refine zj_goto (tgt := 135) hG d_Walker_one_131 (by decide) ?_
      refine zj_iload hG d_Walker_one_135 rfl ?_
      cases bk with
      | true =>
        refine zj_icmp_eq (tgt := 144) hG d_Walker_one_137 (by decide) (fun _ => ?_) (fun c => absurd rfl c)
        refine zj_iconst (v := 0) hG d_Walker_one_144 rfl ?_
        exact call false (by rw [decide_eq_true k1]; rfl)
      | false =>
        refine zj_icmp_eq (tgt := 144) hG d_Walker_one_137 (by decide) (fun c => absurd c (by decide)) (fun _ => ?_)
        refine zj_iconst (v := 1) hG d_Walker_one_140 rfl ?_
        refine zj_goto (tgt := 145) hG d_Walker_one_141 (by decide) ?_
        exact call true (by rw [decide_eq_true k1]; rfl)
    · refine zj_icmp_ne (tgt := 134) hG d_Walker_one_127 (by decide) (fun _ => ?_) (fun c => absurd c k1)
      refine zj_iconst (v := 0) hG d_Walker_one_134 rfl ?_
      refine zj_iload hG d_Walker_one_135 rfl ?_
      cases bk with
      | true =>
        refine zj_icmp_eq (tgt := 144) hG d_Walker_one_137 (by decide) (fun c => absurd c (by decide)) (fun _ => ?_)
        refine zj_iconst (v := 1) hG d_Walker_one_140 rfl ?_
        refine zj_goto (tgt := 145) hG d_Walker_one_141 (by decide) ?_
        exact call true (by rw [decide_eq_false k1]; rfl)
      | false =>
        refine zj_icmp_eq (tgt := 144) hG d_Walker_one_137 (by decide) (fun _ => ?_) (fun c => absurd rfl c)
        refine zj_iconst (v := 0) hG d_Walker_one_144 rfl ?_
        exact call false (by rw [decide_eq_false k1]; rfl)
  refine zj_aload_n hG d_Walker_one_94 rfl rfl ?_
  refine zj_getI hG d_Walker_one_95 f_Walker_35 (by assumption) rfl ?_
  refine zj_iconst (v := 1) hG d_Walker_one_98 rfl ?_
  rw [w5.2.1]
  by_cases k1 : p.1 = 1
  · refine zj_icmp_eq (tgt := 110) hG d_Walker_one_99 (by decide) (fun _ => ?_) (fun c => absurd k1 c)
    exact at110
  · have k2 := hk.resolve_left k1
    refine zj_icmp_eq (tgt := 110) hG d_Walker_one_99 (by decide) (fun c => absurd c k1) (fun _ => ?_)
    refine zj_aload_n hG d_Walker_one_102 rfl rfl ?_
    refine zj_getI hG d_Walker_one_103 f_Walker_35 (by assumption) rfl ?_
    refine zj_iconst (v := 2) hG d_Walker_one_106 rfl ?_
    rw [w5.2.1]
    refine zj_icmp_ne (tgt := 151) hG d_Walker_one_107 (by decide) (fun c => absurd k2 c) (fun _ => ?_)
    exact at110
theorem one_to151 (hG : zOK G) (wk : cWk h w c r q p) (h0 : p.1 ≠ 0) (h4 : p.1 ≠ 4) (h1 : p.1 ≠ 1) (h2 : p.1 ≠ 2) {Q : zO → zH → Prop} {d : Nat} {x3 x4 : zV} (k : zJ G d m_Walker_one 151 [some (zA w), some (zA r), some (zA q), some x3, some x4] [] h Q) : zJ G d m_Walker_one 0 [some (zA w), some (zA r), some (zA q), some x3, some x4] [] h Q := by
  refine one_to94 (ls := []) hG wk h0 h4 ?_
  obtain ⟨w1, w2, w3, w4, w5, w6, w7⟩ := wk
  have hq := w5.1
  refine zj_aload_n hG d_Walker_one_94 rfl rfl ?_
  refine zj_getI hG d_Walker_one_95 f_Walker_35 (by assumption) rfl ?_
  refine zj_iconst (v := 1) hG d_Walker_one_98 rfl ?_
  rw [w5.2.1]
  refine zj_icmp_eq (tgt := 110) hG d_Walker_one_99 (by decide) (fun c => absurd c h1) (fun _ => ?_)
  refine zj_aload_n hG d_Walker_one_102 rfl rfl ?_
  refine zj_getI hG d_Walker_one_103 f_Walker_35 (by assumption) rfl ?_
  refine zj_iconst (v := 2) hG d_Walker_one_106 rfl ?_
  rw [w5.2.1]
  refine zj_icmp_ne (tgt := 151) hG d_Walker_one_107 (by decide) (fun _ => ?_) (fun c => absurd c h2)
  exact k
end WK6
