/-! PART 96: the component: a card's single places (go, wrap, unwrap) -/
section AL2
variable {G : zG} {h : zH} {c : Nat} {es : List Nat} {fl : Nat → Bool} {K : Nat → tK}
theorem cOth.op {a n s : Nat} {h' : zH} (x : cOth h c a) (y : cOp c a h h' n s) : cOth h' c a := by
  unfold cOth
  rw [y.2.1.2.2.1, y.2.2.1.2.2.1]; exact x
theorem zw_2 {α : Type} {f : Nat → α} {s : Nat} {u v : α} : zw (zw f s u) s v = zw f s v := by
  funext t
  by_cases e : t = s
  · rw [e, zw_s, zw_s]
  · rw [zw_n e, zw_n e, zw_n e]
/-- kept, or not -/
theorem km_1 {s : Nat} {l m : List Int32} (x : cKm h c es fl (zw K s (1, l, m))) : cKm h c es fl (zw K s (1, l, [])) := by
  refine x.congr (fun t _ => ?_)
  by_cases e : t = s
  · subst e
    rw [zw_s, zw_s]
    exact ⟨rfl, fun _ => rfl, fun g => absurd (show (1 : Int32) = 2 ∨ (1 : Int32) = 3 from g) (by decide)⟩
  · rw [zw_n e, zw_n e]
    exact ⟨rfl, fun _ => rfl, fun _ => rfl⟩
/-- the card's work so far: taken -/
theorem take_go (hG : zOK G) (x : cBd h c es) (y : cKm h c es fl K) {a : Nat} {b : Bool} {l : List Int32} (pa : pls h a b l) (oa : cOth h c a) {h2 : zH} (tk : cTk h c h2) : pls h2 a b l ∧ cOp c a h h2 0 0 ∧ cOth h2 c a ∧ ∀ q, zt h q ≠ 0 → za h q 1000 ≠ c → cSm h h2 q := by
  have g0 := cOp.gr (tk.gr x.2.1 x.2.2.2.2.1) (show zt h a ≠ 0 by have := pa.1; omega) oa.1 (show zt h (za h a 3) ≠ 0 by have := pa.2.1; omega) oa.2
  exact ⟨pa.tk tk x.1 x.2.2.1, g0, oa.op g0, fun q h1 h2 => (tk.gr x.2.1 x.2.2.2.2.1).1 q h1 h2⟩
def cGoD (b : Bool) (l : List Int32) (L H : Int32) : Bool := if b = true then decide (l = []) else decide (l = [tnear L H])
def cGoK (b : Bool) (l : List Int32) (L H : Int32) : tK := if cGoD b l L H = true then tK0 else (1, l, [])
set_option maxRecDepth 4000 in
theorem k_Card_go1 (hG : zOK G) (x : cBd h c es) (y : cKm h c es fl K) {s : Nat} (hs : s < 128) {a : Nat} {l : List Int32} (pa : pls h a (fl s) l) (hb : fl s = false → ∃ y, l = [y]) (oa : cOth h c a) {q : Nat} (hq : zt h q = 12) (hqc : za h q 1000 ≠ c) (hl : zi h q 5 ≤ zi h q 6) (hn : zn h + 6 ≤ g0 G + 603072) (hsl : zs h + 28 ≤ 7211114) :
    zJ G 5 m_Card_go1 0 [some (zA c), some (zA a), some (zA q), some (zI (nI s))] [] h (fun o h' => o = zR0 ∧ ∃ es', cBd h' c es' ∧ cKm h' c es' fl (zw K s (cGoK (fl s) l (zi h q 5) (zi h q 6))) ∧ pls h' a (fl s) l ∧ cOp c a h h' 5 24 ∧ cCc c h h') := by
  have b1 := x.1
  refine zj_aload_n hG d_Card_go1_0 rfl rfl ?_
  refine zj_iload_n hG d_Card_go1_1 rfl rfl ?_
  refine zj_callA (y' := m_Card_take) hG (zcP (as := [_]) hG d_Card_go1_2 c_Card_take (z_w5 86 rfl) (z_w5 88 rfl) (z_w5 87 rfl) (z_w4 69 rfl) rfl ⟨by decide, by decide⟩ b1 (by decide) (by decide) (show _ = some 1 from by decide +kernel) rfl) c_Card_take rfl (by omega) rfl (z_le rfl) (z_le rfl) (k_Card_take hG x y hs) (fun v2 h2 e2 => ?_)
  obtain ⟨e, es', rfl, tk, bd, hpm, km, _⟩ := e2
  obtain ⟨pa2, g0, oa2, sm⟩ := take_go hG x y pa oa tk
  have q2 := sm q (by omega) hqc
  have hq2 : zt h2 q = 12 := by rw [q2.1]; exact hq
  have a6 := pa2.1
  refine zj_pop hG d_Card_go1_5 (by first | exact zc_A _ | rfl) ?_
  refine zj_aload_n hG d_Card_go1_6 rfl rfl ?_
  refine zj_aload_n hG d_Card_go1_7 rfl rfl ?_
  refine zj_callA (y' := m_Place_isDefault) hG (zcV (as := [_]) hG d_Card_go1_8 c_Place_isDefault (z_w5 137 rfl) (z_w5 138 rfl) (z_w5 139 rfl) ⟨by decide, by decide⟩ a6 (by decide) (by decide) (show _ = some 1 from by decide +kernel) rfl) c_Place_isDefault rfl (by omega) rfl (z_le rfl) (z_le rfl) (k_Place_isDefault hG pa2 hb hq2 (by rw [q2.2.2.1]; exact hl)) (fun v8 h8 e8 => ?_)
  obtain ⟨w, rfl, rfl, hw⟩ := e8
  rw [q2.2.2.1] at hw
  have hw2 : w = cGoD (fl s) l (zi h q 5) (zi h q 6) := by
    unfold cGoD
    rw [Bool.eq_iff_iff, hw]
    cases fl s <;> simp
  rcases w with _ | _
  · have ek : cGoK (fl s) l (zi h q 5) (zi h q 6) = (1, l, []) := by unfold cGoK; rw [← hw2]; rfl
    rw [ek]
    have b18 := bd.1
    refine zj_if_ne (tgt := 22) hG d_Card_go1_11 (by decide) (fun c => absurd rfl c) (fun _ => ?_)
    refine zj_aload_n hG d_Card_go1_14 rfl rfl ?_
    refine zj_iload_n hG d_Card_go1_15 rfl rfl ?_
    refine zj_iconst (v := 0) hG d_Card_go1_16 rfl ?_
    refine zj_aload_n hG d_Card_go1_17 rfl rfl ?_
    refine zj_aload_n hG d_Card_go1_18 rfl rfl ?_
    refine zj_callP (y' := m_Card_keep) hG (zcP (as := [_, _, _, _]) hG d_Card_go1_19 c_Card_keep (z_w4 117 rfl) (z_w4 119 rfl) (z_w4 118 rfl) (z_w4 69 rfl) rfl ⟨by decide, by decide⟩ b18 (by decide) (by decide) (show _ = some 4 from by decide +kernel) rfl) c_Card_keep rfl (by omega) rfl (z_le rfl) (z_le rfl) (k_Card_keep hG bd km hs (by rw [zw_s]) false (kd := 1) (by decide) (fun g => by rcases g with g | g <;> exact absurd g (by decide)) pa2 pa2 oa2.fg oa2.fg (by have := tk.1; omega) (by have := tk.2.1; omega)) (fun h19 e19 => ?_)
    obtain ⟨es2, bd2, km2, g2, cc2⟩ := e19
    have g3 := cOp.gr g2 (show zt h8 a ≠ 0 by omega) oa2.1 (show zt h8 (za h8 a 3) ≠ 0 by have := pa2.2.1; omega) oa2.2
    have sa := g2.1 a (by omega) oa2.1
    have sb := g2.1 (za h8 a 3) (by have := pa2.2.1; omega) oa2.2
    have pa3 : pls h19 a (fl s) l := by
      obtain ⟨u1, u2, u3, u4, u5, u6, u7⟩ := pa2
      unfold pls
      rw [sa.1, sa.2.2.2.1, sa.2.2.1, sb.1, sb.2.1]
      exact ⟨u1, u2, u3, u4, u5, u6, fun i z hz => by rw [sb.2.2.1]; exact u7 i z hz⟩
    rw [zw_2] at km2
    exact zj_vret hG d_Card_go1_22 rfl ⟨rfl, es2, bd2, km_1 km2, pa3, (g0.trans g3).mono (by omega) (by omega), (tk.cc x).trans cc2⟩
  · have ek : cGoK (fl s) l (zi h q 5) (zi h q 6) = tK0 := by unfold cGoK; rw [← hw2]; rfl
    rw [ek]
    refine zj_if_ne (tgt := 22) hG d_Card_go1_11 (by decide) (fun _ => ?_) (fun c => absurd c (by decide))
    exact zj_vret hG d_Card_go1_22 rfl ⟨rfl, es', bd, km, pa2, g0.mono (by omega) (by omega), tk.cc x⟩
def cUwK (l : List Int32) : tK := if l.length = 1 then tK0 else (1, l, [])
def cUwL (l : List Int32) (L H : Int32) : List Int32 := match l with
  | [] => [tnear L H]
  | x :: _ => [x]
set_option maxRecDepth 4000 in
theorem k_Card_unwrap1 (hG : zOK G) (x : cBd h c es) (y : cKm h c es fl K) {s : Nat} (hs : s < 128) (hfl : fl s = true) {a : Nat} {l : List Int32} (pa : pls h a true l) (oa : cOth h c a) {q : Nat} (hq : zt h q = 12) (hqc : za h q 1000 ≠ c) (hl : zi h q 5 ≤ zi h q 6) (hn : zn h + 6 ≤ g0 G + 603072) (hsl : zs h + 28 ≤ 7211114) :
    zJ G 5 m_Card_unwrap1 0 [some (zA c), some (zA a), some (zA q), some (zI (nI s))] [] h (fun o h' => o = zR0 ∧ ∃ es', cBd h' c es' ∧ cKm h' c es' fl (zw K s (cUwK l)) ∧ pls h' a false (cUwL l (zi h q 5) (zi h q 6)) ∧ cOp c a h h' 5 24 ∧ cCc c h h') := by
  have b1 := x.1
  -- the end: the number is set
  have fin : ∀ (hh : zH) (es' : List Nat), cBd hh c es' → cKm hh c es' fl (zw K s (cUwK l)) → pls hh a true l → cOth hh c a → cSm h hh q → cOp c a h hh 5 24 → cCc c h hh → zJ G 5 m_Card_unwrap1 22 [some (zA c), some (zA a), some (zA q), some (zI (nI s))] [] hh (fun o h' => o = zR0 ∧ ∃ es', cBd h' c es' ∧ cKm h' c es' fl (zw K s (cUwK l)) ∧ pls h' a false (cUwL l (zi h q 5) (zi h q 6)) ∧ cOp c a h h' 5 24 ∧ cCc c h h') := by
    intro hh es' bd km pp oo qq gg cc
    have a6 := pp.1
    have hq2 : zt hh q = 12 := by rw [qq.1]; exact hq
    have last : ∀ v, [v] = cUwL l (zi h q 5) (zi h q 6) → zJ G 5 m_Card_unwrap1 44 [some (zA c), some (zA a), some (zA q), some (zI (nI s))] [zI v, zI 0, zA a] hh (fun o h' => o = zR0 ∧ ∃ es', cBd h' c es' ∧ cKm h' c es' fl (zw K s (cUwK l)) ∧ pls h' a false (cUwL l (zi h q 5) (zi h q 6)) ∧ cOp c a h h' 5 24 ∧ cCc c h h') := by
      intro v hv
      refine zj_callP (y' := m_Place_set) hG (zcV (as := [_, _]) hG d_Card_unwrap1_44 c_Place_set (z_w4 88 rfl) (z_w2 228 rfl) (z_w2 229 rfl) ⟨by decide, by decide⟩ a6 (by decide) (by decide) (show _ = some 2 from by decide +kernel) rfl) c_Place_set rfl (by omega) rfl (z_le rfl) (z_le rfl) (k_pl_set hG pp false v) (fun h44 e44 => ?_)
      obtain ⟨p1, p2⟩ := e44
      rw [← hv]
      exact zj_vret hG d_Card_unwrap1_47 rfl ⟨rfl, es', bd.pc p2, km.pc bd p2 a6 oo.1 oo.2 pp.2.1, p1, (gg.trans (cOp.pc p2)).mono (by omega) (by omega), cc.trans (p2.cc bd.1 a6 pp.2.1)⟩
    refine zj_aload_n hG d_Card_unwrap1_22 rfl rfl ?_
    refine zj_iconst (v := 0) hG d_Card_unwrap1_23 rfl ?_
    refine zj_aload_n hG d_Card_unwrap1_24 rfl rfl ?_
    refine zj_getI hG d_Card_unwrap1_25 f_Card_123 (by assumption) rfl ?_
    rw [pp.2.2.2.2.1]
    cases l with
    | nil =>
      refine zj_if_ne (tgt := 38) hG d_Card_unwrap1_28 (by decide) (fun c => absurd rfl c) (fun _ => ?_)
      refine zj_aload_n hG d_Card_unwrap1_31 rfl rfl ?_
      refine zj_callR (y' := m_Prim_zero) hG (zcV (as := []) hG d_Card_unwrap1_32 c_Prim_zero (z_w5 90 rfl) (z_w5 91 rfl) (z_w5 92 rfl) ⟨by decide, by decide⟩ hq2 (by decide) (by decide) (show _ = some 0 from by decide +kernel) rfl) c_Prim_zero rfl (by omega) rfl (z_le rfl) (z_le rfl) (k_Prim_zero hG hq2 (by rw [qq.2.2.1]; exact hl)) ?_
      rw [qq.2.2.1]
      refine zj_goto (tgt := 44) hG d_Card_unwrap1_35 (by decide) ?_
      exact last _ rfl
    | cons v t =>
      have v0 : zi hh (za hh a 3) 0 = v := pp.2.2.2.2.2.2 0 v rfl
      refine zj_if_ne (tgt := 38) hG d_Card_unwrap1_28 (by decide) (fun _ => ?_) (fun c => absurd c (nI_ne0 (by simp) (by have := pp.2.2.2.2.2.1; omega)))
      refine zj_aload_n hG d_Card_unwrap1_38 rfl rfl ?_
      refine zj_getA hG d_Card_unwrap1_39 f_Card_116 (by assumption) rfl ?_
      refine zj_iconst (v := 0) hG d_Card_unwrap1_42 rfl ?_
      refine zj_iald hG d_Card_unwrap1_43 pp.2.1 (pp.in (i := 0) (by omega)) ?_
      rw [show zi hh (za hh a 3) (0 : Int32).toNatClampNeg = v from v0]
      exact last v rfl
  refine zj_aload_n hG d_Card_unwrap1_0 rfl rfl ?_
  refine zj_iload_n hG d_Card_unwrap1_1 rfl rfl ?_
  refine zj_callA (y' := m_Card_take) hG (zcP (as := [_]) hG d_Card_unwrap1_2 c_Card_take (z_w5 86 rfl) (z_w5 88 rfl) (z_w5 87 rfl) (z_w4 69 rfl) rfl ⟨by decide, by decide⟩ b1 (by decide) (by decide) (show _ = some 1 from by decide +kernel) rfl) c_Card_take rfl (by omega) rfl (z_le rfl) (z_le rfl) (k_Card_take hG x y hs) (fun v2 h2 e2 => ?_)
  obtain ⟨e, es', rfl, tk, bd, hpm, km, _⟩ := e2
  obtain ⟨pa2, g0, oa2, sm⟩ := take_go hG x y pa oa tk
  have q2 := sm q (by omega) hqc
  have a6 := pa2.1
  refine zj_pop hG d_Card_unwrap1_5 (by first | exact zc_A _ | rfl) ?_
  refine zj_aload_n hG d_Card_unwrap1_6 rfl rfl ?_
  refine zj_getI hG d_Card_unwrap1_7 f_Card_123 (by assumption) rfl ?_
  refine zj_iconst (v := 1) hG d_Card_unwrap1_10 rfl ?_
  rw [pa2.2.2.2.2.1]
  by_cases h1 : l.length = 1
  · rw [h1]
    refine zj_icmp_eq (tgt := 22) hG d_Card_unwrap1_11 (by decide) (fun _ => ?_) (fun c => absurd rfl c)
    have ek : cUwK l = tK0 := if_pos h1
    rw [← ek] at km
    exact fin h2 es' bd km pa2 oa2 q2 (g0.mono (by omega) (by omega)) (tk.cc x)
  · have ek : cUwK l = (1, l, []) := if_neg h1
    have b18 := bd.1
    have paf : pls h2 a (fl s) l := by rw [hfl]; exact pa2
    refine zj_icmp_eq (tgt := 22) hG d_Card_unwrap1_11 (by decide) (fun c => absurd c (fun g => h1 (nI_inj (a := l.length) (b := 1) (by have := pa2.2.2.2.2.2.1; omega) (by omega) g))) (fun _ => ?_)
    refine zj_aload_n hG d_Card_unwrap1_14 rfl rfl ?_
    refine zj_iload_n hG d_Card_unwrap1_15 rfl rfl ?_
    refine zj_iconst (v := 1) hG d_Card_unwrap1_16 rfl ?_
    refine zj_aload_n hG d_Card_unwrap1_17 rfl rfl ?_
    refine zj_aload_n hG d_Card_unwrap1_18 rfl rfl ?_
    refine zj_callP (y' := m_Card_keep) hG (zcP (as := [_, _, _, _]) hG d_Card_unwrap1_19 c_Card_keep (z_w4 117 rfl) (z_w4 119 rfl) (z_w4 118 rfl) (z_w4 69 rfl) rfl ⟨by decide, by decide⟩ b18 (by decide) (by decide) (show _ = some 4 from by decide +kernel) rfl) c_Card_keep rfl (by omega) rfl (z_le rfl) (z_le rfl) (k_Card_keep hG bd km hs (by rw [zw_s]) true (kd := 1) (by decide) (fun g => by rcases g with g | g <;> exact absurd g (by decide)) paf paf oa2.fg oa2.fg (by have := tk.1; omega) (by have := tk.2.1; omega)) (fun h19 e19 => ?_)
    obtain ⟨es2, bd2, km2, g2, cc2⟩ := e19
    have g3 := cOp.gr g2 (show zt h2 a ≠ 0 by omega) oa2.1 (show zt h2 (za h2 a 3) ≠ 0 by have := pa2.2.1; omega) oa2.2
    have sa := g2.1 a (by omega) oa2.1
    have sb := g2.1 (za h2 a 3) (by have := pa2.2.1; omega) oa2.2
    have pa3 : pls h19 a true l := by
      obtain ⟨u1, u2, u3, u4, u5, u6, u7⟩ := pa2
      unfold pls
      rw [sa.1, sa.2.2.2.1, sa.2.2.1, sb.1, sb.2.1]
      exact ⟨u1, u2, u3, u4, u5, u6, fun i z hz => by rw [sb.2.2.1]; exact u7 i z hz⟩
    rw [zw_2] at km2
    have km3 := km_1 km2
    rw [← ek] at km3
    exact fin h19 es2 bd2 km3 pa3 (oa2.op g3) (q2.trans (g2.1 q (by rw [q2.1]; omega) (by rw [q2.2.2.2.1]; exact hqc))) ((g0.trans g3).mono (by omega) (by omega)) ((tk.cc x).trans cc2)
end AL2
