/-! PART 97c: the component: a card's single places (turned) -/
section AL5
variable {G : zG} {h : zH} {c : Nat} {es : List Nat} {fl : Nat → Bool} {K : Nat → tK}
theorem cPc.gr {p : Nat} {h' : zH} (y : cPc h p h') (h1 : za h p 1000 = c) (h2 : za h (za h p 3) 1000 = c) : cGr c h h' 0 0 := by
  obtain ⟨I, rfl, y1, _⟩ := y
  exact ⟨fun a _ g => ⟨rfl, rfl, y1 a (fun e => g (by rw [e]; exact h1)) (fun e => g (by rw [e]; exact h2)), rfl, rfl⟩, Nat.le_refl _, Nat.le_refl _, Nat.le_refl _, Nat.le_refl _⟩
theorem pls.gr {a n s : Nat} {b : Bool} {l : List Int32} {h' : zH} (x : pls h a b l) (y : cGr c h h' n s) (o : cOth h c a) : pls h' a b l ∧ cOth h' c a := by
  have sa := y.1 a (by have := x.1; omega) o.1
  have sb := y.1 (za h a 3) (by have := x.2.1; omega) o.2
  obtain ⟨u1, u2, u3, u4, u5, u6, u7⟩ := x
  constructor
  · unfold pls
    rw [sa.1, sa.2.2.2.1, sa.2.2.1, sb.1, sb.2.1]
    exact ⟨u1, u2, u3, u4, u5, u6, fun i z hz => by rw [sb.2.2.1]; exact u7 i z hz⟩
  · unfold cOth
    rw [sa.2.2.2.1, sb.2.2.2.1]; exact o
theorem cKm.pcW {p t0 : Nat} {h' : zH} (b : cBd h c es) (x : cKm h c es fl K) (y : cPc h p h') (w0 : cPw h c c t0 p) : cKm h' c es fl K := by
  obtain ⟨I, rfl, i1, i2⟩ := y
  obtain ⟨ss, m1, m2, m3, m4, m5, m6⟩ := x
  have c9 := b.1
  have a6 := w0.1
  have a63 := w0.2.2.2.2.1
  refine ⟨ss, ?_, m2, m3, m4, m5, fun i t hi => ?_⟩
  · show I c 3 = _
    rw [i1 c (fun g => by rw [← g, c9] at a6; cases a6) (fun g => by rw [← g, c9] at a63; cases a63)]; exact m1
  · obtain ⟨f, u1, u2, u3⟩ := m6 i t hi
    obtain ⟨_, k1, k2, k3, k4⟩ := b.2.2.2.2.2.2.2.2.1 f (List.mem_of_getElem? u1)
    have fc : f ≠ c := fun g => by rw [g, c9] at k1; cases k1
    have zf : I f = zi h f := i1 f (fun g => by rw [← g, k1] at a6; cases a6) (fun g => by rw [← g, k1] at a63; cases a63)
    have kp : ∀ (tt p' : Nat), cPw h c f tt p' → ∀ (b : Bool) (l : List Int32), pls h p' b l → pls (cSi h I) p' b l := by
      intro tt p' w b l hp
      obtain ⟨n1, n2, n3, n4⟩ := w.ne w0 (Or.inl fc)
      exact hp.pc ⟨I, rfl, i1, i2⟩ n1 n4 n3 n2
    refine ⟨f, u1, by show I f 0 = _; rw [zf]; exact u2, kp _ _ k3 _ _ u3.1, fun g => ⟨?_, kp _ _ k4 _ _ (u3.2 g).2⟩⟩
    show I f 1 = _
    rw [zf]; exact (u3.2 g).1
/-- what comes of a change, and what is kept for it -/
theorem tch_eq (l : List Int32) (w : tK) (k A B : Int32) (f : Bool) (L H : Int32) : (w.1 = (if f = true then 3 else 2) ∧ l = w.2.2 → tchR l w k A B f L H = w.2.1 ∧ tchK l w k A B f L H = tK0) ∧ (¬ (w.1 = (if f = true then 3 else 2) ∧ l = w.2.2) → tchR l w k A B f L H = tpln l k A B f L H ∧ tchK l w k A B f L H = if tpln (tpln l k A B f L H) k A B (!f) L H = l then tK0 else ((if f = true then 2 else 3), l, tpln l k A B f L H)) := by
  unfold tchR tchK
  constructor
  · intro g; rw [if_pos g, if_pos g]; exact ⟨rfl, rfl⟩
  · intro g; rw [if_neg g, if_neg g]; exact ⟨rfl, rfl⟩
theorem tpln_1 {l : List Int32} {k A B L H : Int32} {f : Bool} (h : ∃ x, l = [x]) : k = 6 ∨ k = 7 → ∃ x, tpln l k A B f L H = [x] := by
  intro hk
  obtain ⟨x, rfl⟩ := h
  unfold tpln
  by_cases k6 : k = 6
  · rw [if_pos k6]; exact ⟨_, rfl⟩
  · rw [if_neg k6]
    by_cases k7 : k = 7 ∧ f = true
    · rw [if_pos k7]; exact ⟨_, rfl⟩
    · rw [if_neg k7, if_neg (by rintro ⟨g, _⟩; rcases hk with e | e; exact k6 e; rw [e] at g; exact absurd g (by decide))]
      exact ⟨x, rfl⟩
set_option maxRecDepth 4000 in
theorem k_Card_turned1 (hG : zOK G) (x : cBd h c es) (y : cKm h c es fl K) {s : Nat} (hs : s < 128) (hkd : (K s).1 = 0 ∨ (K s).1 = 2 ∨ (K s).1 = 3) {a : Nat} {l : List Int32} (pa : pls h a (fl s) l) (oa : cOth h c a) {q : Nat} (hq : zt h q = 12) (hqc : za h q 1000 ≠ c) (hk : zi h q 0 = 6 ∨ zi h q 0 = 7 ∨ zi h q 0 = 8) (h6 : zi h q 0 = 6 → 1 ≤ zi h q 2 ∧ 1 ≤ zi h q 3 ∧ zi h q 5 ≤ zi h q 6) (h67 : zi h q 0 = 6 ∨ zi h q 0 = 7 → ∃ x, l = [x]) (bk : Bool) (hn : zn h + 6 ≤ g0 G + 603072) (hsl : zs h + 28 ≤ 7211114) :
    zJ G 5 m_Card_turned1 0 [some (zA c), some (zA a), some (zA q), some (zI (nI s)), some (zI (tb bk)), none] [] h (fun o h' => o = zR0 ∧ ∃ es', cBd h' c es' ∧ cKm h' c es' fl (zw K s (tchK l (K s) (zi h q 0) (zi h q 2) (zi h q 3) (!bk) (zi h q 5) (zi h q 6))) ∧ pls h' a (fl s) (tchR l (K s) (zi h q 0) (zi h q 2) (zi h q 3) (!bk) (zi h q 5) (zi h q 6)) ∧ cOp c a h h' 5 24 ∧ cCc c h h') := by
  have b1 := x.1
  obtain ⟨tcY, tcN⟩ := tch_eq l (K s) (zi h q 0) (zi h q 2) (zi h q 3) (!bk) (zi h q 5) (zi h q 6)
  refine zj_aload_n hG d_Card_turned1_0 rfl rfl ?_
  refine zj_iload_n hG d_Card_turned1_1 rfl rfl ?_
  refine zj_callA (y' := m_Card_take) hG (zcP (as := [_]) hG d_Card_turned1_2 c_Card_take (z_w5 86 rfl) (z_w5 88 rfl) (z_w5 87 rfl) (z_w4 69 rfl) rfl ⟨by decide, by decide⟩ b1 (by decide) (by decide) (show _ = some 1 from by decide +kernel) rfl) c_Card_take rfl (by omega) rfl (z_le rfl) (z_le rfl) (k_Card_take hG x y hs) (fun v2 h2 e2 => ?_)
  obtain ⟨e, es', rfl, tk, bd, hpm, km, he⟩ := e2
  obtain ⟨pa2, g0, oa2, sm⟩ := take_go hG x y pa oa tk
  have q2 := sm q (by omega) hqc
  have tn := tk.1
  have tsl := tk.2.1
  -- the long way
  have long : ¬ ((K s).1 = (if (!bk) = true then 3 else 2) ∧ l = (K s).2.2) → zJ G 5 m_Card_turned1 44 [some (zA c), some (zA a), some (zA q), some (zI (nI s)), some (zI (tb bk)), some (zA e)] [] h2 (fun o h' => o = zR0 ∧ ∃ es', cBd h' c es' ∧ cKm h' c es' fl (zw K s (tchK l (K s) (zi h q 0) (zi h q 2) (zi h q 3) (!bk) (zi h q 5) (zi h q 6))) ∧ pls h' a (fl s) (tchR l (K s) (zi h q 0) (zi h q 2) (zi h q 3) (!bk) (zi h q 5) (zi h q 6)) ∧ cOp c a h h' 5 24 ∧ cCc c h h') := by
    intro hno
    obtain ⟨eR, eK⟩ := tcN hno
    rw [eR, eK]
    have c9 := bd.1
    have pw4 := bd.2.2.2.2.2.2.2.2.2.1
    have pw5 := bd.2.2.2.2.2.2.2.2.2.2
    have b46 := pw4.1
    have n45 := pw4.ne pw5 (Or.inr (by decide))
    have na4 : za h2 c 4 ≠ a := fun g => oa2.1 (by rw [← g]; exact pw4.2.1)
    have na43 : za h2 (za h2 c 4) 3 ≠ za h2 a 3 := fun g => oa2.2 (by rw [← g]; exact pw4.2.2.2.2.2.2.1)
    refine zj_aload_n hG d_Card_turned1_44 rfl rfl ?_
    refine zj_getA hG d_Card_turned1_45 f_Card_31 (by assumption) rfl ?_
    refine zj_aload_n hG d_Card_turned1_48 rfl rfl ?_
    refine zj_callP (y' := m_Place_copy) hG (zcV (as := [_]) hG d_Card_turned1_49 c_Place_copy (z_w4 143 rfl) (z_w4 114 rfl) (z_w4 115 rfl) ⟨by decide, by decide⟩ b46 (by decide) (by decide) (show _ = some 1 from by decide +kernel) rfl) c_Place_copy rfl (by omega) rfl (z_le rfl) (z_le rfl) (k_Place_copy hG pw4.1 pw4.2.2.2.2.1 pw4.2.2.2.2.2.1 pa2 na4 na43) (fun h49 e49 => ?_)
    obtain ⟨pB, cB⟩ := e49
    have gB := cB.gr pw4.2.1 pw4.2.2.2.2.2.2.1
    obtain ⟨pa3, oa3⟩ := pa2.gr gB oa2
    have g1 := cOp.gr gB (show zt h2 a ≠ 0 by have := pa2.1; omega) oa2.1 (show zt h2 (za h2 a 3) ≠ 0 by have := pa2.2.1; omega) oa2.2
    have bd3 := bd.pc cB
    have fgB : cFg h49 c (za h49 c 4) := Or.inr (Or.inl bd3.2.2.2.2.2.2.2.2.2.1)
    have q3 := q2.trans (gB.1 q (by rw [q2.1]; omega) (by rw [q2.2.2.2.1]; exact hqc))
    have c4e : za h49 c = za h2 c := by obtain ⟨I, rfl, _⟩ := cB; rfl
    have km3 : cKm h49 c es' fl (zw K s tK0) := km.pcW bd cB pw4
    have hq3 : zt h49 q = 12 := by rw [q3.1]; exact hq
    have zq3 : zi h49 q = zi h q := q3.2.2.1
    have c93 := bd3.1
    refine zj_aload_n hG d_Card_turned1_52 rfl rfl ?_
    refine zj_aload_n hG d_Card_turned1_53 rfl rfl ?_
    refine zj_aload_n hG d_Card_turned1_54 rfl rfl ?_
    refine zj_iload hG d_Card_turned1_55 rfl ?_
    refine zj_callP (y' := m_Card_turn1) hG (zcV (as := [_, _, _]) hG d_Card_turned1_57 c_Card_turn1 (z_w6 37 rfl) (z_w6 38 rfl) (z_w6 39 rfl) ⟨by decide, by decide⟩ c93 (by decide) (by decide) (show _ = some 3 from by decide +kernel) rfl) c_Card_turn1 rfl (by omega) rfl (z_le rfl) (z_le rfl) (k_Card_turn1 hG pa3 hq3 (by rw [zq3]; exact hk) (by rw [zq3]; exact h6) (by rw [zq3]; exact h67) bk) (fun h57 e57 => ?_)
    obtain ⟨pa4, cA⟩ := e57
    rw [zq3] at pa4
    have bd4 := bd3.pc cA
    have km4 := km3.pc bd3 cA pa3.1 oa3.1 oa3.2 pa3.2.1
    have g2 := g1.trans (cOp.pc (c := c) cA)
    have oa4 := oa3.op (cOp.pc (c := c) cA)
    have pw44 := bd4.2.2.2.2.2.2.2.2.2.1
    have pw54 := bd4.2.2.2.2.2.2.2.2.2.2
    have c4e2 : za h57 = za h49 := by obtain ⟨I, rfl, _⟩ := cA; rfl
    have nB4 : za h57 c 4 ≠ a := fun g => oa4.1 (by rw [← g]; exact pw44.2.1)
    have nB43 : za h57 (za h57 c 4) 3 ≠ za h57 a 3 := fun g => oa4.2 (by rw [← g]; exact pw44.2.2.2.2.2.2.1)
    have pB4 : pls h57 (za h57 c 4) (fl s) l := by
      have e4 : za h57 c 4 = za h2 c 4 := by rw [c4e2, c4e]
      rw [e4]
      refine pB.pc cA (by rw [← e4]; exact nB4) (fun g => ?_) (fun g => ?_) (by rw [← c4e2, ← e4]; exact nB43)
      · have := pa3.2.1; rw [← g, pB.1] at this; cases this
      · have := pB.2.1; rw [g, pa3.1] at this; cases this
    have q4 : cSm h h57 q := by
      refine q3.trans ?_
      obtain ⟨I, rfl, i1, _⟩ := cA
      exact ⟨rfl, rfl, i1 q (fun g => by have := pa3.1; rw [← g, hq3] at this; cases this) (fun g => by have := pa3.2.1; rw [← g, hq3] at this; cases this), rfl, rfl⟩
    have d56 := pw54.1
    have nD4 : za h57 c 5 ≠ a := fun g => oa4.1 (by rw [← g]; exact pw54.2.1)
    have nD43 : za h57 (za h57 c 5) 3 ≠ za h57 a 3 := fun g => oa4.2 (by rw [← g]; exact pw54.2.2.2.2.2.2.1)
    have c94 := bd4.1
    refine zj_aload_n hG d_Card_turned1_60 rfl rfl ?_
    refine zj_getA hG d_Card_turned1_61 f_Card_35 (by assumption) rfl ?_
    refine zj_aload_n hG d_Card_turned1_64 rfl rfl ?_
    refine zj_callP (y' := m_Place_copy) hG (zcV (as := [_]) hG d_Card_turned1_65 c_Place_copy (z_w4 143 rfl) (z_w4 114 rfl) (z_w4 115 rfl) ⟨by decide, by decide⟩ d56 (by decide) (by decide) (show _ = some 1 from by decide +kernel) rfl) c_Place_copy rfl (by omega) rfl (z_le rfl) (z_le rfl) (k_Place_copy hG pw54.1 pw54.2.2.2.2.1 pw54.2.2.2.2.2.1 pa4 nD4 nD43) (fun h65 e65 => ?_)
    obtain ⟨pD, cD⟩ := e65
    have gD := cD.gr pw54.2.1 pw54.2.2.2.2.2.2.1
    obtain ⟨pa5, oa5⟩ := pa4.gr gD oa4
    have bd5 := bd4.pc cD
    have g3 := cOp.gr gD (show zt h57 a ≠ 0 by have := pa4.1; omega) oa4.1 (show zt h57 (za h57 a 3) ≠ 0 by have := pa4.2.1; omega) oa4.2
    have c5e : za h65 = za h57 := by obtain ⟨I, rfl, _⟩ := cD; rfl
    have fgD : cFg h57 c (za h57 c 5) := Or.inr (Or.inr pw54)
    have n45' := pw44.ne pw54 (Or.inr (by decide))
    have pB5 : pls h65 (za h65 c 4) (fl s) l := by
      rw [c5e]
      exact pB4.pc cD n45'.1 n45'.2.2.2 n45'.2.2.1 n45'.2.1
    have q5 := q4.trans (gD.1 q (by rw [q4.1]; omega) (by rw [q4.2.2.2.1]; exact hqc))
    have hq5 : zt h65 q = 12 := by rw [q5.1]; exact hq
    have zq5 : zi h65 q = zi h q := q5.2.2.1
    have pD5 : pls h65 (za h65 c 5) (fl s) (tpln l (zi h q 0) (zi h q 2) (zi h q 3) (!bk) (zi h q 5) (zi h q 6)) := by rw [c5e]; exact pD
    have c95 := bd5.1
    have km5 := km4.pcW bd4 cD pw54
    have pw55 := bd5.2.2.2.2.2.2.2.2.2.2
    have pw45 := bd5.2.2.2.2.2.2.2.2.2.1
    have n45'' := pw45.ne pw55 (Or.inr (by decide))
    have d66 := pD5.1
    have turn2 : zJ G 5 m_Card_turned1 84 [some (zA c), some (zA a), some (zA q), some (zI (nI s)), some (zI (tb bk)), some (zA e)] [zI (tb (!bk)), zA q, zA (za h65 c 5), zA c] h65 (fun o h' => o = zR0 ∧ ∃ es', cBd h' c es' ∧ cKm h' c es' fl (zw K s (if tpln (tpln l (zi h q 0) (zi h q 2) (zi h q 3) (!bk) (zi h q 5) (zi h q 6)) (zi h q 0) (zi h q 2) (zi h q 3) (!(!bk)) (zi h q 5) (zi h q 6) = l then tK0 else ((if (!bk) = true then 2 else 3), l, tpln l (zi h q 0) (zi h q 2) (zi h q 3) (!bk) (zi h q 5) (zi h q 6)))) ∧ pls h' a (fl s) (tpln l (zi h q 0) (zi h q 2) (zi h q 3) (!bk) (zi h q 5) (zi h q 6)) ∧ cOp c a h h' 5 24 ∧ cCc c h h') := by
      refine zj_callP (y' := m_Card_turn1) hG (zcV (as := [_, _, _]) hG d_Card_turned1_84 c_Card_turn1 (z_w6 37 rfl) (z_w6 38 rfl) (z_w6 39 rfl) ⟨by decide, by decide⟩ c95 (by decide) (by decide) (show _ = some 3 from by decide +kernel) rfl) c_Card_turn1 rfl (by omega) rfl (z_le rfl) (z_le rfl) (k_Card_turn1 hG pD5 hq5 (by rw [zq5]; exact hk) (by rw [zq5]; exact h6) (by rw [zq5]; exact fun g => tpln_1 (h67 g) g) (!bk)) (fun h84 e84 => ?_)
      obtain ⟨pD6, cE⟩ := e84
      rw [zq5] at pD6
      have gE := cE.gr pw55.2.1 pw55.2.2.2.2.2.2.1
      obtain ⟨pa6, oa6⟩ := pa5.gr gE oa5
      have bd6 := bd5.pc cE
      have km6 := km5.pcW bd5 cE pw55
      have g4 := cOp.gr gE (show zt h65 a ≠ 0 by have := pa5.1; omega) oa5.1 (show zt h65 (za h65 a 3) ≠ 0 by have := pa5.2.1; omega) oa5.2
      have c6e : za h84 = za h65 := by obtain ⟨I, rfl, _⟩ := cE; rfl
      have pB6 : pls h84 (za h84 c 4) (fl s) l := by
        rw [c6e]
        exact pB5.pc cE n45''.1 n45''.2.2.2 n45''.2.2.1 n45''.2.1
      have pD6' : pls h84 (za h84 c 5) (fl s) (tpln (tpln l (zi h q 0) (zi h q 2) (zi h q 3) (!bk) (zi h q 5) (zi h q 6)) (zi h q 0) (zi h q 2) (zi h q 3) (!(!bk)) (zi h q 5) (zi h q 6)) := by rw [c6e]; exact pD6
      have c96 := bd6.1
      have d67 := pD6'.1
      have gAll := ((((g0.trans g1).trans (cOp.pc (c := c) cA)).trans g3).trans g4).mono (Nat.le_refl 0) (Nat.le_refl 0)
      have ccAll : cCc c h h84 := ((((tk.cc x).trans (cB.cc c9 pw4.1 pw4.2.2.2.2.1)).trans (cA.cc c93 pa3.1 pa3.2.1)).trans (cD.cc c94 pw54.1 pw54.2.2.2.2.1)).trans (cE.cc c95 pw55.1 pw55.2.2.2.2.1)
      refine zj_aload_n hG d_Card_turned1_87 rfl rfl ?_
      refine zj_getA hG d_Card_turned1_88 f_Card_35 (by assumption) rfl ?_
      refine zj_aload_n hG d_Card_turned1_91 rfl rfl ?_
      refine zj_getA hG d_Card_turned1_92 f_Card_31 (by assumption) rfl ?_
      refine zj_callA (y' := m_Place_isLike) hG (zcV (as := [_]) hG d_Card_turned1_95 c_Place_isLike (z_w6 36 rfl) (z_w4 231 rfl) (z_w4 232 rfl) ⟨by decide, by decide⟩ d67 (by decide) (by decide) (show _ = some 1 from by decide +kernel) rfl) c_Place_isLike rfl (by omega) rfl (z_le rfl) (z_le rfl) (k_Place_isLike hG pD6' pB6) (fun v95 h95 e95 => ?_)
      obtain ⟨w, rfl, rfl, hw⟩ := e95
      rcases w with _ | _
      · have hne : ¬ tpln (tpln l (zi h q 0) (zi h q 2) (zi h q 3) (!bk) (zi h q 5) (zi h q 6)) (zi h q 0) (zi h q 2) (zi h q 3) (!(!bk)) (zi h q 5) (zi h q 6) = l := fun g => by have := hw.mpr ⟨rfl, g⟩; cases this
        rw [if_neg hne]
        refine zj_if_ne (tgt := 113) hG d_Card_turned1_98 (by decide) (fun c => absurd rfl c) (fun _ => ?_)
        refine zj_aload_n hG d_Card_turned1_101 rfl rfl ?_
        refine zj_iload_n hG d_Card_turned1_102 rfl rfl ?_
        refine zj_iload hG d_Card_turned1_103 rfl ?_
        refine zj_aload_n hG d_Card_turned1_105 rfl rfl ?_
        refine zj_getA hG d_Card_turned1_106 f_Card_31 (by assumption) rfl ?_
        refine zj_aload_n hG d_Card_turned1_109 rfl rfl ?_
        have bnd1 : zn h95 = zn h := by have h1 := gAll.2.2.2.1; have h2 := gAll.2.2.2.2.1; omega
        have bnd2 : zs h95 = zs h := by have h1 := gAll.2.2.2.2.2.1; have h2 := gAll.2.2.2.2.2.2; omega
        refine zj_callP (y' := m_Card_keep) hG (zcP (as := [_, _, _, _]) hG d_Card_turned1_110 c_Card_keep (z_w4 117 rfl) (z_w4 119 rfl) (z_w4 118 rfl) (z_w4 69 rfl) rfl ⟨by decide, by decide⟩ c96 (by decide) (by decide) (show _ = some 4 from by decide +kernel) rfl) c_Card_keep rfl (by omega) rfl (z_le rfl) (z_le rfl) (k_Card_keep hG bd6 km6 hs (by rw [zw_s]) bk (kd := if (!bk) = true then 2 else 3) (by cases bk <;> decide) (fun _ => by cases bk <;> decide) pB6 pa6 (Or.inr (Or.inl bd6.2.2.2.2.2.2.2.2.2.1)) oa6.fg (by omega) (by omega)) (fun h110 e110 => ?_)
        obtain ⟨es2, bd7, km7, g7, cc7⟩ := e110
        obtain ⟨pa7, oa7⟩ := pa6.gr g7 oa6
        have g8 := cOp.gr g7 (show zt h95 a ≠ 0 by have := pa6.1; omega) oa6.1 (show zt h95 (za h95 a 3) ≠ 0 by have := pa6.2.1; omega) oa6.2
        rw [zw_2] at km7
        exact zj_vret hG d_Card_turned1_113 rfl ⟨rfl, es2, bd7, km7, pa7, (gAll.trans g8).mono (by omega) (by omega), ccAll.trans cc7⟩
      · have heq : tpln (tpln l (zi h q 0) (zi h q 2) (zi h q 3) (!bk) (zi h q 5) (zi h q 6)) (zi h q 0) (zi h q 2) (zi h q 3) (!(!bk)) (zi h q 5) (zi h q 6) = l := (hw.mp rfl).2
        rw [if_pos heq]
        refine zj_if_ne (tgt := 113) hG d_Card_turned1_98 (by decide) (fun _ => ?_) (fun c => absurd c (by decide))
        exact zj_vret hG d_Card_turned1_113 rfl ⟨rfl, es', bd6, km6, pa6, gAll.mono (by omega) (by omega), ccAll⟩
    refine zj_aload_n hG d_Card_turned1_68 rfl rfl ?_
    refine zj_aload_n hG d_Card_turned1_69 rfl rfl ?_
    refine zj_getA hG d_Card_turned1_70 f_Card_35 (by assumption) rfl ?_
    refine zj_aload_n hG d_Card_turned1_73 rfl rfl ?_
    refine zj_iload hG d_Card_turned1_74 rfl ?_
    cases bk with
    | true =>
      refine zj_if_ne (tgt := 83) hG d_Card_turned1_76 (by decide) (fun _ => ?_) (fun c => absurd c (by decide))
      refine zj_iconst (v := 0) hG d_Card_turned1_83 rfl ?_
      exact turn2
    | false =>
      refine zj_if_ne (tgt := 83) hG d_Card_turned1_76 (by decide) (fun c => absurd rfl c) (fun _ => ?_)
      refine zj_iconst (v := 1) hG d_Card_turned1_79 rfl ?_
      refine zj_goto (tgt := 84) hG d_Card_turned1_80 (by decide) ?_
      exact turn2
  refine zj_astore hG d_Card_turned1_5 (by decide) rfl rfl ?_
  refine zj_aload hG d_Card_turned1_7 rfl ?_
  rcases he with ⟨k0, rfl⟩ | ⟨k0, e0, em, kd⟩
  · refine zj_ifnull (tgt := 44) hG d_Card_turned1_9 (by decide) (fun _ => ?_) (fun c => absurd rfl c)
    refine long (fun g => ?_)
    rw [k0] at g
    cases bk <;> exact absurd g.1 (by decide)
  have hk23 : (K s).1 = 2 ∨ (K s).1 = 3 := hkd.resolve_left k0
  obtain ⟨kb, pc⟩ := kd.2 hk23
  obtain ⟨_, k1, k2, k3, k4⟩ := bd.2.2.2.2.2.2.2.2.1 e (hpm.mem_iff.mpr em)
  have ec : e ≠ c := fun g => by rw [g, bd.1] at k1; cases k1
  have cm6 := pc.1
  have a6 := pa2.1
  obtain ⟨n1, n2, n3, n4⟩ := oa2.fg.ne pa2 k3 ec
  refine zj_ifnull (tgt := 44) hG d_Card_turned1_9 (by decide) (fun c => absurd c e0) (fun _ => ?_)
  refine zj_aload hG d_Card_turned1_12 rfl ?_
  refine zj_getI hG d_Card_turned1_14 f_Card_83 (by assumption) rfl ?_
  refine zj_iload hG d_Card_turned1_17 rfl ?_
  rw [kb]
  by_cases hb : decide ((K s).1 = 3) = bk
  · refine zj_icmp_eq (tgt := 44) hG d_Card_turned1_19 (by decide) (fun _ => ?_) (fun c => absurd (by rw [hb]) c)
    refine long (fun g => ?_)
    have g1 := g.1
    rcases hk23 with e2 | e2 <;> rw [e2] at hb g1 <;> subst hb <;> exact absurd g1 (by decide)
  · have kk : (K s).1 = (if (!bk) = true then 3 else 2) := by
      rcases hk23 with e2 | e2 <;> rw [e2] at hb ⊢ <;> cases bk <;> first | rfl | exact absurd rfl hb
    refine zj_icmp_eq (tgt := 44) hG d_Card_turned1_19 (by decide) (fun c => absurd c (fun g => hb (tb_inj g))) (fun _ => ?_)
    refine zj_aload hG d_Card_turned1_22 rfl ?_
    refine zj_getA hG d_Card_turned1_24 f_Card_90 (by assumption) rfl ?_
    refine zj_aload_n hG d_Card_turned1_27 rfl rfl ?_
    refine zj_callA (y' := m_Place_isLike) hG (zcV (as := [_]) hG d_Card_turned1_28 c_Place_isLike (z_w6 36 rfl) (z_w4 231 rfl) (z_w4 232 rfl) ⟨by decide, by decide⟩ cm6 (by decide) (by decide) (show _ = some 1 from by decide +kernel) rfl) c_Place_isLike rfl (by omega) rfl (z_le rfl) (z_le rfl) (k_Place_isLike hG pc pa2) (fun v28 h28 e28 => ?_)
    obtain ⟨w, rfl, rfl, hw⟩ := e28
    rcases w with _ | _
    · refine zj_if_eq (tgt := 44) hG d_Card_turned1_31 (by decide) (fun _ => ?_) (fun c => absurd rfl c)
      exact long (fun g => by have := hw.mpr ⟨rfl, g.2.symm⟩; cases this)
    · have hl2 : l = (K s).2.2 := (hw.mp rfl).2.symm
      obtain ⟨eR, eK⟩ := tcY ⟨kk, hl2⟩
      rw [eR, eK]
      refine zj_if_eq (tgt := 44) hG d_Card_turned1_31 (by decide) (fun c => absurd c (by decide)) (fun _ => ?_)
      refine zj_aload_n hG d_Card_turned1_34 rfl rfl ?_
      refine zj_aload hG d_Card_turned1_35 rfl ?_
      refine zj_getA hG d_Card_turned1_37 f_Card_87 (by assumption) rfl ?_
      refine zj_callP (y' := m_Place_copy) hG (zcV (as := [_]) hG d_Card_turned1_40 c_Place_copy (z_w4 143 rfl) (z_w4 114 rfl) (z_w4 115 rfl) ⟨by decide, by decide⟩ a6 (by decide) (by decide) (show _ = some 1 from by decide +kernel) rfl) c_Place_copy rfl (by omega) rfl (z_le rfl) (z_le rfl) (k_Place_copy hG pa2.1 pa2.2.1 pa2.2.2.1 kd.1 n1.symm n2.symm) (fun h40 e40 => ?_)
      obtain ⟨p1, p2⟩ := e40
      exact zj_vret hG d_Card_turned1_43 rfl ⟨rfl, es', bd.pc p2, km.pc bd p2 a6 oa2.1 oa2.2 pa2.2.1, p1, (g0.trans (cOp.pc p2)).mono (by omega) (by omega), (tk.cc x).trans (p2.cc bd.1 a6 pa2.2.1)⟩
end AL5
