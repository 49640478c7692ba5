/-! PART 97b: the component: a card's single places (join, turn, turned) -/
section AL4
variable {G : zG} {h : zH} {c : Nat} {es : List Nat} {fl : Nat → Bool} {K : Nat → tK}
set_option maxRecDepth 4000 in
theorem k_Card_join1 (hG : zOK G) {v0 : zV} {a a2 : Nat} {v v2 : Int32} (pa : pls h a false [v]) (pr : pls h a2 false [v2]) {q : Nat} (hq : zt h q = 12) (hn : zn h + 1 ≤ g0 G + 603072) (hs : zs h + 6 ≤ 7211114) :
    zJ G 8 m_Card_join1 0 [some v0, some (zA a), some (zA a2), some (zA q), none, none] [] h (fun o h' => (o = zR0 ∧ tjc 0 (twh v (zi h q 2) v2) (zi h q 5) (zi h q 6) = 0 ∧ pls h' a false [(twh v (zi h q 2) v2).toInt32] ∧ cPc h a h') ∨ ∃ kx ax, o = zX kx ax ∧ (kx = 20 ∧ ax = zn h ∧ h' = znew h 20 6 0 ∧ tjc 0 (twh v (zi h q 2) v2) (zi h q 5) (zi h q 6) = 1)) := by
  have a6 := pa.1
  have r6 := pr.1
  have e0 : zi h (za h a 3) 0 = v := pa.2.2.2.2.2.2 0 v rfl
  have e1 : zi h (za h a2 3) 0 = v2 := pr.2.2.2.2.2.2 0 v2 rfl
  have thr : tjc 0 (twh v (zi h q 2) v2) (zi h q 5) (zi h q 6) = 1 → zJ G 8 m_Card_join1 45 [some v0, some (zA a), some (zA a2), some (zA q), some (zL (twh v (zi h q 2) v2)), none] [] h (fun o h' => (o = zR0 ∧ tjc 0 (twh v (zi h q 2) v2) (zi h q 5) (zi h q 6) = 0 ∧ pls h' a false [(twh v (zi h q 2) v2).toInt32] ∧ cPc h a h') ∨ ∃ kx ax, o = zX kx ax ∧ (kx = 20 ∧ ax = zn h ∧ h' = znew h 20 6 0 ∧ tjc 0 (twh v (zi h q 2) v2) (zi h q 5) (zi h q 6) = 1)) := by
    intro g
    exact zj_throw hG d_Card_join1_45 d_Card_join1_48 d_Card_join1_49 d_Card_join1_51 d_Card_join1_54 tw_join rfl (Nat.le_refl _) hn hs (Or.inr ⟨20, zn h, rfl, rfl, rfl, rfl, g⟩)
  refine zj_aload_n hG d_Card_join1_0 rfl rfl ?_
  refine zj_getA hG d_Card_join1_1 f_Card_116 (by assumption) rfl ?_
  refine zj_iconst (v := 0) hG d_Card_join1_4 rfl ?_
  refine zj_iald hG d_Card_join1_5 pa.2.1 (pa.in (i := 0) (by omega)) ?_
  rw [show zi h (za h a 3) (0 : Int32).toNatClampNeg = v from e0]
  refine zj_i2l hG d_Card_join1_6 ?_
  refine zj_aload_n hG d_Card_join1_7 rfl rfl ?_
  refine zj_getI hG d_Card_join1_8 f_Card_126 (by assumption) rfl ?_
  refine zj_i2l hG d_Card_join1_11 ?_
  refine zj_lmul hG d_Card_join1_12 ?_
  refine zj_aload_n hG d_Card_join1_13 rfl rfl ?_
  refine zj_getA hG d_Card_join1_14 f_Card_116 (by assumption) rfl ?_
  refine zj_iconst (v := 0) hG d_Card_join1_17 rfl ?_
  refine zj_iald hG d_Card_join1_18 pr.2.1 (pr.in (i := 0) (by omega)) ?_
  rw [show zi h (za h a2 3) (0 : Int32).toNatClampNeg = v2 from e1]
  refine zj_i2l hG d_Card_join1_19 ?_
  refine zj_ladd hG d_Card_join1_20 ?_
  rw [show v.toInt64 * (zi h q 2).toInt64 + v2.toInt64 = twh v (zi h q 2) v2 from rfl]
  refine zj_lstore hG d_Card_join1_21 (by decide) rfl rfl ?_
  refine zj_lload hG d_Card_join1_23 rfl ?_
  refine zj_aload_n hG d_Card_join1_25 rfl rfl ?_
  refine zj_getI hG d_Card_join1_26 f_Card_138 (by assumption) rfl ?_
  refine zj_i2l hG d_Card_join1_29 ?_
  refine zj_lcmp hG d_Card_join1_30 ?_
  by_cases c1 : twh v (zi h q 2) v2 < (zi h q 5).toInt64
  · refine zj_if_lt (tgt := 45) hG d_Card_join1_31 (by decide) (fun _ => ?_) (fun c => absurd ((lg_cmp_lt _ _).mpr c1) c)
    exact thr (by unfold tjc; rw [if_pos (Or.inr (Or.inl c1))])
  refine zj_if_lt (tgt := 45) hG d_Card_join1_31 (by decide) (fun c => absurd c (fun g => c1 ((lg_cmp_lt _ _).mp g))) (fun _ => ?_)
  refine zj_lload hG d_Card_join1_34 rfl ?_
  refine zj_aload_n hG d_Card_join1_36 rfl rfl ?_
  refine zj_getI hG d_Card_join1_37 f_Card_139 (by assumption) rfl ?_
  refine zj_i2l hG d_Card_join1_40 ?_
  refine zj_lcmp hG d_Card_join1_41 ?_
  by_cases c2 : twh v (zi h q 2) v2 ≤ (zi h q 6).toInt64
  · have tj : tjc 0 (twh v (zi h q 2) v2) (zi h q 5) (zi h q 6) = 0 := by
      unfold tjc
      rw [if_neg]
      rintro (g | g | g)
      · exact g rfl
      · exact c1 g
      · exact g c2
    refine zj_if_le (tgt := 55) hG d_Card_join1_42 (by decide) (fun _ => ?_) (fun c => absurd (Int32.not_lt.mp (fun g => absurd ((lg_cmp_gt _ _).mp g) (Int64.not_lt.mpr c2))) c)
    refine zj_aload_n hG d_Card_join1_55 rfl rfl ?_
    refine zj_iconst (v := 0) hG d_Card_join1_56 rfl ?_
    refine zj_lload hG d_Card_join1_57 rfl ?_
    refine zj_l2i hG d_Card_join1_59 ?_
    refine zj_callP (y' := m_Place_set) hG (zcV (as := [_, _]) hG d_Card_join1_60 c_Place_set (z_w4 88 rfl) (z_w2 228 rfl) (z_w2 229 rfl) ⟨by decide, by decide⟩ a6 (by decide) (by decide) (show _ = some 2 from by decide +kernel) rfl) c_Place_set rfl (by omega) rfl (z_le rfl) (z_le rfl) (k_pl_set hG pa false _) (fun h60 e60 => ?_)
    obtain ⟨p1, p2⟩ := e60
    exact zj_vret hG d_Card_join1_63 rfl (Or.inl ⟨rfl, tj, p1, p2⟩)
  · refine zj_if_le (tgt := 55) hG d_Card_join1_42 (by decide) (fun c => absurd c (fun g => absurd ((lg_cmp_gt _ _).mpr (Int64.not_le.mp c2)) (Int32.not_lt.mpr g))) (fun _ => ?_)
    exact thr (by unfold tjc; rw [if_pos (Or.inr (Or.inr c2))])
set_option maxRecDepth 4000 in
theorem k_Card_turn1 (hG : zOK G) {v0 : zV} {a : Nat} {b : Bool} {l : List Int32} (pa : pls h a b l) {q : Nat} (hq : zt h q = 12) (hk : zi h q 0 = 6 ∨ zi h q 0 = 7 ∨ zi h q 0 = 8) (h6 : zi h q 0 = 6 → 1 ≤ zi h q 2 ∧ 1 ≤ zi h q 3 ∧ zi h q 5 ≤ zi h q 6) (h67 : zi h q 0 = 6 ∨ zi h q 0 = 7 → ∃ x, l = [x]) (bk : Bool) :
    zJ G 3 m_Card_turn1 0 [some v0, some (zA a), some (zA q), some (zI (tb bk))] [] h (fun o h' => o = zR0 ∧ pls h' a b (tpln l (zi h q 0) (zi h q 2) (zi h q 3) (!bk) (zi h q 5) (zi h q 6)) ∧ cPc h a h') := by
  have a6 := pa.1
  have na := pa.ne
  -- one number written
  have one : ∀ (x w : Int32), l = [x] → pls (zsi h (za h a 3) 0 w) a b [w] ∧ cPc h a (zsi h (za h a 3) 0 w) := by
    intro x w hl
    obtain ⟨u1, u2, u3, u4, u5, u6, u7⟩ := pa
    rw [hl] at u5 u6
    refine ⟨⟨u1, u2, u3, (zu_a na.symm).trans u4, (zu_a na.symm).trans u5, u6, fun i z hz => ?_⟩, ⟨_, rfl, fun d _ g => by funext j; exact zu_a g, fun j _ _ => zu_a na.symm⟩⟩
    cases i with
    | zero =>
      have : w = z := by simpa using hz
      rw [← this]; exact zu_s
    | succ i => simp at hz
  by_cases k6 : zi h q 0 = 6
  · obtain ⟨x, hx⟩ := h67 (Or.inl k6)
    obtain ⟨hA, hB, hL⟩ := h6 k6
    have e0 : zi h (za h a 3) 0 = x := pa.2.2.2.2.2.2 0 x (by rw [hx]; rfl)
    have et : tpln l (zi h q 0) (zi h q 2) (zi h q 3) (!bk) (zi h q 5) (zi h q 6) = [tsc (!bk) x (zi h q 2) (zi h q 3) (zi h q 5) (zi h q 6)] := by
      unfold tpln
      rw [if_pos k6, hx]; rfl
    rw [et]
    obtain ⟨o1, o2⟩ := one x (tsc (!bk) x (zi h q 2) (zi h q 3) (zi h q 5) (zi h q 6)) hx
    refine zj_aload_n hG d_Card_turn1_0 rfl rfl ?_
    refine zj_getI hG d_Card_turn1_1 f_Card_147 (by assumption) rfl ?_
    refine zj_bipush (v := 6) hG d_Card_turn1_4 rfl ?_
    refine zj_icmp_ne (tgt := 45) hG d_Card_turn1_6 (by decide) (fun c => absurd k6 c) (fun _ => ?_)
    refine zj_aload_n hG d_Card_turn1_9 rfl rfl ?_
    refine zj_getA hG d_Card_turn1_10 f_Card_116 (by assumption) rfl ?_
    refine zj_iconst (v := 0) hG d_Card_turn1_13 rfl ?_
    refine zj_iload_n hG d_Card_turn1_14 rfl rfl ?_
    cases bk with
    | true =>
      refine zj_if_eq (tgt := 31) hG d_Card_turn1_15 (by decide) (fun c => absurd c (by decide)) (fun _ => ?_)
      refine zj_aload_n hG d_Card_turn1_18 rfl rfl ?_
      refine zj_aload_n hG d_Card_turn1_19 rfl rfl ?_
      refine zj_getA hG d_Card_turn1_20 f_Card_116 (by assumption) rfl ?_
      refine zj_iconst (v := 0) hG d_Card_turn1_23 rfl ?_
      refine zj_iald hG d_Card_turn1_24 pa.2.1 (pa.in (i := 0) (by omega)) ?_
      rw [show zi h (za h a 3) (0 : Int32).toNatClampNeg = x from e0]
      refine zj_callR (y' := m_Prim_unscaled) hG (zcV (as := [_]) hG d_Card_turn1_25 c_Prim_unscaled (z_w6 41 rfl) (z_w6 42 rfl) (z_w6 43 rfl) ⟨by decide, by decide⟩ hq (by decide) (by decide) (show _ = some 1 from by decide +kernel) rfl) c_Prim_unscaled rfl (by omega) rfl (z_le rfl) (z_le rfl) (k_Prim_unscaled hG hq hA hL x) ?_
      refine zj_goto (tgt := 41) hG d_Card_turn1_28 (by decide) ?_
      refine zj_iast hG d_Card_turn1_41 pa.2.1 (pa.in (i := 0) (by omega)) ?_
      refine zj_goto (tgt := 101) hG d_Card_turn1_42 (by decide) ?_
      exact zj_vret hG d_Card_turn1_101 rfl ⟨rfl, o1, o2⟩
    | false =>
      refine zj_if_eq (tgt := 31) hG d_Card_turn1_15 (by decide) (fun _ => ?_) (fun c => absurd rfl c)
      refine zj_aload_n hG d_Card_turn1_31 rfl rfl ?_
      refine zj_aload_n hG d_Card_turn1_32 rfl rfl ?_
      refine zj_getA hG d_Card_turn1_33 f_Card_116 (by assumption) rfl ?_
      refine zj_iconst (v := 0) hG d_Card_turn1_36 rfl ?_
      refine zj_iald hG d_Card_turn1_37 pa.2.1 (pa.in (i := 0) (by omega)) ?_
      rw [show zi h (za h a 3) (0 : Int32).toNatClampNeg = x from e0]
      refine zj_callR (y' := m_Prim_scaled) hG (zcV (as := [_]) hG d_Card_turn1_38 c_Prim_scaled (z_w6 51 rfl) (z_w3 237 rfl) (z_w3 238 rfl) ⟨by decide, by decide⟩ hq (by decide) (by decide) (show _ = some 1 from by decide +kernel) rfl) c_Prim_scaled rfl (by omega) rfl (z_le rfl) (z_le rfl) (k_Prim_scaled hG hq hB x (zi h q 5) (zi h q 6)) ?_
      refine zj_iast hG d_Card_turn1_41 pa.2.1 (pa.in (i := 0) (by omega)) ?_
      refine zj_goto (tgt := 101) hG d_Card_turn1_42 (by decide) ?_
      exact zj_vret hG d_Card_turn1_101 rfl ⟨rfl, o1, o2⟩
  refine zj_aload_n hG d_Card_turn1_0 rfl rfl ?_
  refine zj_getI hG d_Card_turn1_1 f_Card_147 (by assumption) rfl ?_
  refine zj_bipush (v := 6) hG d_Card_turn1_4 rfl ?_
  refine zj_icmp_ne (tgt := 45) hG d_Card_turn1_6 (by decide) (fun _ => ?_) (fun c => absurd c k6)
  refine zj_aload_n hG d_Card_turn1_45 rfl rfl ?_
  refine zj_getI hG d_Card_turn1_46 f_Card_147 (by assumption) rfl ?_
  refine zj_bipush (v := 7) hG d_Card_turn1_49 rfl ?_
  by_cases k7 : zi h q 0 = 7
  · obtain ⟨x, hx⟩ := h67 (Or.inr k7)
    have e0 : zi h (za h a 3) 0 = x := pa.2.2.2.2.2.2 0 x (by rw [hx]; rfl)
    refine zj_icmp_ne (tgt := 93) hG d_Card_turn1_51 (by decide) (fun c => absurd k7 c) (fun _ => ?_)
    refine zj_aload_n hG d_Card_turn1_54 rfl rfl ?_
    refine zj_getA hG d_Card_turn1_55 f_Card_116 (by assumption) rfl ?_
    refine zj_iconst (v := 0) hG d_Card_turn1_58 rfl ?_
    refine zj_iload_n hG d_Card_turn1_59 rfl rfl ?_
    have same : zJ G 3 m_Card_turn1 83 [some v0, some (zA a), some (zA q), some (zI (tb bk))] [zI 0, zA (za h a 3)] h (fun o h' => o = zR0 ∧ pls h' a b [x] ∧ cPc h a h') := by
      refine zj_aload_n hG d_Card_turn1_83 rfl rfl ?_
      refine zj_getA hG d_Card_turn1_84 f_Card_116 (by assumption) rfl ?_
      refine zj_iconst (v := 0) hG d_Card_turn1_87 rfl ?_
      refine zj_iald hG d_Card_turn1_88 pa.2.1 (pa.in (i := 0) (by omega)) ?_
      rw [show zi h (za h a 3) (0 : Int32).toNatClampNeg = x from e0]
      refine zj_iast hG d_Card_turn1_89 pa.2.1 (pa.in (i := 0) (by omega)) ?_
      refine zj_goto (tgt := 101) hG d_Card_turn1_90 (by decide) ?_
      obtain ⟨o1, o2⟩ := one x x hx
      exact zj_vret hG d_Card_turn1_101 rfl ⟨rfl, o1, o2⟩
    cases bk with
    | true =>
      have et : tpln l (zi h q 0) (zi h q 2) (zi h q 3) (!true) (zi h q 5) (zi h q 6) = [x] := by
        unfold tpln
        rw [if_neg k6, if_neg (by simp), if_neg (by simp), hx]
      rw [et]
      refine zj_if_ne (tgt := 83) hG d_Card_turn1_60 (by decide) (fun _ => ?_) (fun c => absurd c (by decide))
      exact same
    | false =>
      have et : tpln l (zi h q 0) (zi h q 2) (zi h q 3) (!false) (zi h q 5) (zi h q 6) = [if x = zi h q 2 then zi h q 3 else x] := by
        unfold tpln
        rw [if_neg k6, if_pos ⟨k7, rfl⟩, hx]; rfl
      rw [et]
      refine zj_if_ne (tgt := 83) hG d_Card_turn1_60 (by decide) (fun c => absurd rfl c) (fun _ => ?_)
      refine zj_aload_n hG d_Card_turn1_63 rfl rfl ?_
      refine zj_getA hG d_Card_turn1_64 f_Card_116 (by assumption) rfl ?_
      refine zj_iconst (v := 0) hG d_Card_turn1_67 rfl ?_
      refine zj_iald hG d_Card_turn1_68 pa.2.1 (pa.in (i := 0) (by omega)) ?_
      refine zj_aload_n hG d_Card_turn1_69 rfl rfl ?_
      refine zj_getI hG d_Card_turn1_70 f_Card_126 (by assumption) rfl ?_
      rw [show zi h (za h a 3) (0 : Int32).toNatClampNeg = x from e0]
      by_cases c1 : x = zi h q 2
      · rw [if_pos c1]
        refine zj_icmp_ne (tgt := 83) hG d_Card_turn1_73 (by decide) (fun c => absurd c1 c) (fun _ => ?_)
        refine zj_aload_n hG d_Card_turn1_76 rfl rfl ?_
        refine zj_getI hG d_Card_turn1_77 f_Card_157 (by assumption) rfl ?_
        refine zj_goto (tgt := 89) hG d_Card_turn1_80 (by decide) ?_
        refine zj_iast hG d_Card_turn1_89 pa.2.1 (pa.in (i := 0) (by omega)) ?_
        refine zj_goto (tgt := 101) hG d_Card_turn1_90 (by decide) ?_
        obtain ⟨o1, o2⟩ := one x (zi h q 3) hx
        exact zj_vret hG d_Card_turn1_101 rfl ⟨rfl, o1, o2⟩
      · rw [if_neg c1]
        refine zj_icmp_ne (tgt := 83) hG d_Card_turn1_73 (by decide) (fun _ => ?_) (fun c => absurd c c1)
        exact same
  · have k8 : zi h q 0 = 8 := (hk.resolve_left k6).resolve_left k7
    refine zj_icmp_ne (tgt := 93) hG d_Card_turn1_51 (by decide) (fun _ => ?_) (fun c => absurd c k7)
    refine zj_iload_n hG d_Card_turn1_93 rfl rfl ?_
    cases bk with
    | true =>
      have et : tpln l (zi h q 0) (zi h q 2) (zi h q 3) (!true) (zi h q 5) (zi h q 6) = l := by
        unfold tpln
        rw [if_neg k6, if_neg (by simp), if_neg (by simp)]
      rw [et]
      refine zj_if_ne (tgt := 101) hG d_Card_turn1_94 (by decide) (fun _ => ?_) (fun c => absurd c (by decide))
      exact zj_vret hG d_Card_turn1_101 rfl ⟨rfl, pa, cPc.rfl'⟩
    | false =>
      have et : tpln l (zi h q 0) (zi h q 2) (zi h q 3) (!false) (zi h q 5) (zi h q 6) = isrt l := by
        unfold tpln
        rw [if_neg k6, if_neg (by simp [k7]), if_pos ⟨k8, rfl⟩]
      rw [et]
      refine zj_if_ne (tgt := 101) hG d_Card_turn1_94 (by decide) (fun c => absurd rfl c) (fun _ => ?_)
      refine zj_aload_n hG d_Card_turn1_97 rfl rfl ?_
      refine zj_callP (y' := m_Place_sort) hG (zcV (as := []) hG d_Card_turn1_98 c_Place_sort (z_w6 52 rfl) (z_w6 53 rfl) (z_w6 54 rfl) ⟨by decide, by decide⟩ a6 (by decide) (by decide) (show _ = some 0 from by decide +kernel) rfl) c_Place_sort rfl (by omega) rfl (z_le rfl) (z_le rfl) (k_Place_sort hG pa) (fun h98 e98 => ?_)
      exact zj_vret hG d_Card_turn1_101 rfl ⟨rfl, e98.1, e98.2⟩
theorem cKm.pcF {a : Nat} {h' : zH} {b0 : Bool} {l0 : List Int32} (b : cBd h c es) (x : cKm h c es fl K) (y : cPc h a h') (pa : pls h a b0 l0) (f : cFg h c a) : cKm h' c es fl K := by
  have y0 := y
  obtain ⟨I, rfl, y1, y2⟩ := y
  obtain ⟨b1, b2, b3, b4, b5, b6, b7, b8, b9, b10, b11⟩ := b
  obtain ⟨ss, m1, m2, m3, m4, m5, m6⟩ := x
  have ha := pa.1
  have ha3 := pa.2.1
  refine ⟨ss, ?_, m2, m3, m4, m5, fun i s hi => ?_⟩
  · show I c 3 = _
    rw [y1 c (fun e => by rw [← e, b1] at ha; cases ha) (fun e => by rw [← e, b1] at ha3; cases ha3)]; exact m1
  · obtain ⟨e, u1, u2, u3⟩ := m6 i s hi
    obtain ⟨_, k1, k2, k3, k4⟩ := b9 e (List.mem_of_getElem? u1)
    have ec : e ≠ c := fun g => by rw [g, b1] at k1; cases k1
    have ze : I e = zi h e := y1 e (fun g => by rw [← g, k1] at ha; cases ha) (fun g => by rw [← g, k1] at ha3; cases ha3)
    have kp : ∀ (t p : Nat), cPw h c e t p → ∀ (b : Bool) (l : List Int32), pls h p b l → pls (cSi h I) p b l := by
      intro t p w b l hp
      obtain ⟨n1, n2, n3, n4⟩ := f.ne pa w ec
      exact hp.pc y0 n1 n4 n3 n2
    refine ⟨e, u1, by show I e 0 = _; rw [ze]; exact u2, kp _ _ k3 _ _ u3.1, fun g => ⟨?_, kp _ _ k4 _ _ (u3.2 g).2⟩⟩
    show I e 1 = _
    rw [ze]; exact (u3.2 g).1
end AL4
