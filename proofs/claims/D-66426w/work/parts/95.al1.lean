/-! PART 95: the component: default methods of interfaces; a card's single places (come, go) -/
section AL1
variable {G : zG} {h : zH} {c : Nat} {es : List Nat} {fl : Nat → Bool} {K : Nat → tK}
theorem z_lands {s : State} {a : Array Value} {C : String} {x y : MethodName} (h : (Cond.landsInDefault C x y).before a s = true) : ∃ c r m, s.vm.findClass C = some c ∧ s.methodFound? x.cls x.name x.desc = some r ∧ s.methodNamed? y = some m ∧ selectMethod {} s.vm c r = .method m := by
  simp only [Cond.before, Cond.holds, Cond.value] at h
  cases hc : s.vm.findClass C with
  | none => simp [hc] at h
  | some c =>
    cases hr : s.methodFound? x.cls x.name x.desc with
    | none => simp [hc, hr] at h
    | some r =>
      cases hm : s.methodNamed? y with
      | none => simp [hc, hr, hm] at h
      | some m =>
        cases hrm : s.vm.method? r with
        | none => simp [hc, hr, hm, hrm] at h
        | some rm =>
          cases hsel : selectMethod {} s.vm c r with
          | method m' =>
            simp [hc, hr, hm, hrm, hsel] at h
            exact ⟨c, r, m, rfl, rfl, rfl, by rw [hsel, h.1.1.1.1]⟩
          | _ => simp [hc, hr, hm, hrm, hsel] at h
theorem z_selD {C : String} {x : MethodName} (hG : zOK G) (hse : Cond.landsInDefault C x x ∈ flatC (Jvm.Cond.and given_1 narrow_1)) (hx : x.cls ≠ "java/lang/invoke/MethodHandle" ∧ x.cls ≠ "java/lang/invoke/VarHandle") : ∀ (s : State), (gs G).WarmedH s.vm → ∀ (c : ClassId) (r mk : MethodId), s.vm.findClass C = some c → s.methodFound? x.cls x.name x.desc = some r → s.methodNamed? x = some mk → selectMethod {} s.vm c r = .method mk := by
  intro s hs c r mk h1 h2 h3
  obtain ⟨c2, r2, m2, q1, q2, q3, q4⟩ := z_lands (hG.gv hse)
  have al := hs.alike
  have e1 : s.vm.findClass C = some c2 := by rw [al.findClass]; exact q1
  have e2 : ((gs G).setVm s.vm).methodFound? x.cls x.name x.desc = some r2 := by rw [State.methodFound?_setVm_of_named al q3 hx]; exact q2
  have e3 : ((gs G).setVm s.vm).methodNamed? x = some m2 := by rw [State.methodNamed?_setVm al]; exact q3
  have e2 : s.methodFound? x.cls x.name x.desc = some r2 := e2
  have e3 : s.methodNamed? x = some m2 := e3
  cases h1.symm.trans e1
  cases h2.symm.trans e2
  cases h3.symm.trans e3
  rw [al.selectMethod]; exact q4
/-- the same map, where it matters -/
theorem cKm.congr {K' : Nat → tK} (x : cKm h c es fl K) (e : ∀ s, s < 128 → (K' s).1 = (K s).1 ∧ ((K s).1 ≠ 0 → (K' s).2.1 = (K s).2.1) ∧ ((K s).1 = 2 ∨ (K s).1 = 3 → (K' s).2.2 = (K s).2.2)) : cKm h c es fl K' := by
  obtain ⟨ss, m1, m2, m3, m4, m5, m6⟩ := x
  refine ⟨ss, m1, m2, m3, fun s hs => ⟨(m4 s hs).1, ?_⟩, fun s hs hk => m5 s hs ?_, fun i s hi => ?_⟩
  · rw [(e s (m4 s hs).1).1]; exact (m4 s hs).2
  · rw [← (e s hs).1]; exact hk
  · obtain ⟨f, u1, u2, u3⟩ := m6 i s hi
    have sm := m4 s (List.mem_of_getElem? hi)
    obtain ⟨e1, e2, e3⟩ := e s sm.1
    refine ⟨f, u1, u2, ?_, fun g => ?_⟩
    · rw [e2 sm.2]; exact u3.1
    · rw [e1] at g ⊢
      rw [e3 g]; exact u3.2 g
/-- what a card's work on a place a leaves: the card's own cells and the place may have changed -/
def cOp (c a : Nat) (h h' : zH) (n s : Nat) : Prop := (∀ x, zt h x ≠ 0 → za h x 1000 ≠ c → x ≠ a → x ≠ za h a 3 → cSm h h' x) ∧ (zt h' a = zt h a ∧ zl h' a = zl h a ∧ za h' a = za h a ∧ zj h' a = zj h a ∧ zi h' a 0 = zi h a 0) ∧
  (zt h' (za h a 3) = zt h (za h a 3) ∧ zl h' (za h a 3) = zl h (za h a 3) ∧ za h' (za h a 3) = za h (za h a 3) ∧ zj h' (za h a 3) = zj h (za h a 3)) ∧ zn h ≤ zn h' ∧ zn h' ≤ zn h + n ∧ zs h ≤ zs h' ∧ zs h' ≤ zs h + s
theorem cOp.trans {a n s n' s' : Nat} {h1 h2 : zH} (x : cOp c a h h1 n s) (y : cOp c a h1 h2 n' s') : cOp c a h h2 (n + n') (s + s') := by
  obtain ⟨x1, ⟨x2a, x2b, x2c, x2d, x2e⟩, ⟨x3a, x3b, x3c, x3d⟩, x4⟩ := x
  obtain ⟨y1, ⟨y2a, y2b, y2c, y2d, y2e⟩, ⟨y3a, y3b, y3c, y3d⟩, y4⟩ := y
  rw [x2c] at y3a y3b y3c y3d
  refine ⟨fun w h1 h2 h3 h4 => ?_, ⟨y2a.trans x2a, y2b.trans x2b, y2c.trans x2c, y2d.trans x2d, y2e.trans x2e⟩, ⟨y3a.trans x3a, y3b.trans x3b, y3c.trans x3c, y3d.trans x3d⟩, by omega, by omega, by omega, by omega⟩
  have := x1 w h1 h2 h3 h4
  exact this.trans (y1 w (by rw [this.1]; exact h1) (by rw [this.2.2.2.1]; exact h2) h3 (by rw [x2c]; exact h4))
theorem cOp.mono {a n s n' s' : Nat} {h1 : zH} (x : cOp c a h h1 n s) (hn : n ≤ n') (hs : s ≤ s') : cOp c a h h1 n' s' := by
  obtain ⟨x1, x2, x3, x4, x5, x6, x7⟩ := x
  exact ⟨x1, x2, x3, x4, by omega, x6, by omega⟩
theorem cOp.gr {a n s : Nat} {h1 : zH} (x : cGr c h h1 n s) (ha : zt h a ≠ 0) (ha1 : za h a 1000 ≠ c) (hb : zt h (za h a 3) ≠ 0) (hb1 : za h (za h a 3) 1000 ≠ c) : cOp c a h h1 n s := by
  obtain ⟨x1, x2⟩ := x
  have sa := x1 a ha ha1
  have sb := x1 _ hb hb1
  exact ⟨fun w h1 h2 _ _ => x1 w h1 h2, ⟨sa.1, sa.2.1, sa.2.2.2.1, sa.2.2.2.2, by rw [sa.2.2.1]⟩, ⟨sb.1, sb.2.1, sb.2.2.2.1, sb.2.2.2.2⟩, x2⟩
theorem cOp.pc {a : Nat} {h1 : zH} (x : cPc h a h1) : cOp c a h h1 0 0 := by
  obtain ⟨I, rfl, x1, x2⟩ := x
  exact ⟨fun w _ _ h3 h4 => ⟨rfl, rfl, x1 w h3 h4, rfl, rfl⟩, ⟨rfl, rfl, rfl, rfl, x2 0 (by decide) (by decide)⟩, ⟨rfl, rfl, rfl, rfl⟩, Nat.le_refl _, Nat.le_refl _, Nat.le_refl _, Nat.le_refl _⟩
theorem cTk.gr {h' : zH} (y : cTk h c h') (hc : za h c 1000 = c) (hk : za h (za h c 2) 1000 = c) : cGr c h h' 0 0 := by
  obtain ⟨y1, y2, y3, y4, y5, y6, y7, y8, y9⟩ := y
  exact ⟨fun a _ g => ⟨by rw [y3], by rw [y4], y6 a (fun e => g (by rw [e]; exact hc)), y8 a (fun e => g (by rw [e]; exact hk)), by rw [y5]⟩, by omega, by omega, by omega, by omega⟩
/-- the card's cells do not change with a place of another -/
theorem cBd.pc {a : Nat} {h' : zH} (x : cBd h c es) (y : cPc h a h') : cBd h' c es := by
  obtain ⟨I, rfl, _⟩ := y
  exact x
theorem cKm.pc {a : Nat} {h' : zH} (b : cBd h c es) (x : cKm h c es fl K) (y : cPc h a h') (ha : zt h a = 6) (ha1 : za h a 1000 ≠ c) (ha2 : za h (za h a 3) 1000 ≠ c) (ha3 : zt h (za h a 3) = 21) : cKm h' c es fl K := by
  have y0 := y
  obtain ⟨I, rfl, y1, y2⟩ := y
  obtain ⟨b1, b2, b3, b4, b5, b6, b7, b8, b9, b10, b11⟩ := b
  obtain ⟨ss, m1, m2, m3, m4, m5, m6⟩ := x
  refine ⟨ss, ?_, m2, m3, m4, m5, fun i s hi => ?_⟩
  · show I c 3 = _
    rw [y1 c (fun e => by rw [← e, b1] at ha; cases ha) (fun e => by rw [← e, b1] at ha3; cases ha3)]; exact m1
  · obtain ⟨e, u1, u2, u3⟩ := m6 i s hi
    obtain ⟨_, k1, k2, k3, k4⟩ := b9 e (List.mem_of_getElem? u1)
    have ze : I e = zi h e := y1 e (fun g => by rw [← g, k1] at ha; cases ha) (fun g => by rw [← g, k1] at ha3; cases ha3)
    have kp : ∀ (t p : Nat), cPw h c e t p → ∀ (b : Bool) (l : List Int32), pls h p b l → pls (cSi h I) p b l := by
      intro t p w b l hp
      exact hp.pc y0 (fun g => ha1 (by rw [← g]; exact w.2.1)) (fun g => by have := w.1; rw [g, ha3] at this; cases this) (fun g => by have := w.2.2.2.2.1; rw [g, ha] at this; cases this) (fun g => ha2 (by rw [← g]; exact w.2.2.2.2.2.2.1))
    refine ⟨e, u1, by show I e 0 = _; rw [ze]; exact u2, kp _ _ k3 _ _ u3.1, fun g => ⟨?_, kp _ _ k4 _ _ (u3.2 g).2⟩⟩
    show I e 1 = _
    rw [ze]; exact (u3.2 g).1
/-- a place that is another's -/
def cOth (h : zH) (c a : Nat) : Prop := za h a 1000 ≠ c ∧ za h (za h a 3) 1000 ≠ c
theorem cOth.fg {a : Nat} (x : cOth h c a) : cFg h c a := Or.inl x
/-- what comes -/
def cCome (k : tK) (f : Bool) (S L H : Int32) : Bool × List Int32 := if k.1 = 0 then (decide (S = 1), if S = 1 then [] else [tnear L H]) else (f, k.2.1)
set_option maxRecDepth 4000 in
theorem k_Card_come1 (hG : zOK G) (x : cBd h c es) (y : cKm h c es fl K) {s : Nat} (hs : s < 128) {a : Nat} {b : Bool} {l : List Int32} (pa : pls h a b l) (oa : cOth h c a) {q : Nat} (hq : zt h q = 12) (hqc : za h q 1000 ≠ c) (hl : zi h q 5 ≤ zi h q 6) :
    zJ G 3 m_Card_come1 0 [some (zA c), some (zA a), some (zA q), some (zI (nI s)), none] [] h (fun o h' => o = zR0 ∧ ∃ es', cBd h' c es' ∧ cKm h' c es' fl (zw K s tK0) ∧ pls h' a (cCome (K s) (fl s) (zi h q 4) (zi h q 5) (zi h q 6)).1 (cCome (K s) (fl s) (zi h q 4) (zi h q 5) (zi h q 6)).2 ∧ cOp c a h h' 0 0 ∧ cCc c h h') := by
  have b1 := x.1
  have b2 := x.2.1
  have b3 := x.2.2.1
  have b5 := x.2.2.2.2.1
  have aq : zt h a ≠ 0 := by have := pa.1; omega
  have aq3 : zt h (za h a 3) ≠ 0 := by have := pa.2.1; omega
  refine zj_aload_n hG d_Card_come1_0 rfl rfl ?_
  refine zj_iload_n hG d_Card_come1_1 rfl rfl ?_
  refine zj_callA (y' := m_Card_take) hG (zcP (as := [_]) hG d_Card_come1_2 c_Card_take (z_w5 86 rfl) (z_w5 88 rfl) (z_w5 87 rfl) (z_w4 69 rfl) rfl ⟨by decide, by decide⟩ b1 (by decide) (by decide) (show _ = some 1 from by decide +kernel) rfl) c_Card_take rfl (by omega) rfl (z_le rfl) (z_le rfl) (k_Card_take hG x y hs) (fun v2 h2 e2 => ?_)
  obtain ⟨e, es', rfl, tk, bd, hpm, km, he⟩ := e2
  have pa2 := pa.tk tk b1 b3
  have g0 := cOp.gr (tk.gr b2 b5) aq oa.1 aq3 oa.2
  have oa2 : cOth h2 c a := by
    unfold cOth
    rw [g0.2.1.2.2.1, g0.2.2.1.2.2.1]; exact oa
  have q2 : cSm h h2 q := (tk.gr b2 b5).1 q (by omega) hqc
  have hq2 : zt h2 q = 12 := by rw [q2.1]; exact hq
  rcases he with ⟨k0, rfl⟩ | ⟨k0, e0, em, kd⟩
  · have ec : cCome (K s) (fl s) (zi h q 4) (zi h q 5) (zi h q 6) = (decide (zi h q 4 = 1), if zi h q 4 = 1 then [] else [tnear (zi h q 5) (zi h q 6)]) := if_pos k0
    rw [ec]
    refine zj_astore hG d_Card_come1_5 (by decide) rfl rfl ?_
    refine zj_aload hG d_Card_come1_7 rfl ?_
    refine zj_ifnonnull (tgt := 36) hG d_Card_come1_9 (by decide) (fun c => absurd rfl c) (fun _ => ?_)
    refine zj_aload_n hG d_Card_come1_12 rfl rfl ?_
    refine zj_aload_n hG d_Card_come1_13 rfl rfl ?_
    refine zj_getI hG d_Card_come1_14 f_Card_105 (by assumption) rfl ?_
    refine zj_iconst (v := 1) hG d_Card_come1_17 rfl ?_
    rw [q2.2.2.1]
    have hl2 : zi h2 q 5 ≤ zi h2 q 6 := by rw [q2.2.2.1]; exact hl
    have fin : ∀ (w : Bool), w = decide (zi h q 4 = 1) → zJ G 3 m_Card_come1 26 [some (zA c), some (zA a), some (zA q), some (zI (nI s)), some (zA 0)] [zI (tb w), zA a] h2 (fun o h' => o = zR0 ∧ ∃ es', cBd h' c es' ∧ cKm h' c es' fl (zw K s tK0) ∧ pls h' a (decide (zi h q 4 = 1)) (if zi h q 4 = 1 then [] else [tnear (zi h q 5) (zi h q 6)]) ∧ cOp c a h h' 0 0 ∧ cCc c h h') := by
      intro w hw
      have a6 := pa2.1
      refine zj_aload_n hG d_Card_come1_26 rfl rfl ?_
      refine zj_callR (y' := m_Prim_zero) hG (zcV (as := []) hG d_Card_come1_27 c_Prim_zero (z_w5 90 rfl) (z_w5 91 rfl) (z_w5 92 rfl) ⟨by decide, by decide⟩ hq2 (by decide) (by decide) (show _ = some 0 from by decide +kernel) rfl) c_Prim_zero rfl (by omega) rfl (z_le rfl) (z_le rfl) (k_Prim_zero hG hq2 hl2) ?_
      rw [q2.2.2.1]
      refine zj_callP (y' := m_Place_set) hG (zcV (as := [_, _]) hG d_Card_come1_30 c_Place_set (z_w4 88 rfl) (z_w2 228 rfl) (z_w2 229 rfl) ⟨by decide, by decide⟩ a6 (by decide) (by decide) (show _ = some 2 from by decide +kernel) rfl) c_Place_set rfl (by omega) rfl (z_le rfl) (z_le rfl) (k_pl_set hG pa2 w _) (fun h30 e30 => ?_)
      obtain ⟨p1, p2⟩ := e30
      refine zj_goto (tgt := 45) hG d_Card_come1_33 (by decide) ?_
      refine zj_vret hG d_Card_come1_45 rfl ⟨rfl, es', bd.pc p2, km.pc bd p2 a6 oa2.1 oa2.2 pa2.2.1, ?_, (g0.trans (cOp.pc p2)).mono (by omega) (by omega), (tk.cc x).trans (p2.cc bd.1 a6 pa2.2.1)⟩
      rw [hw] at p1
      by_cases e1 : zi h q 4 = 1
      · simpa [e1] using p1
      · simpa [e1] using p1
    by_cases e1 : zi h q 4 = 1
    · refine zj_icmp_ne (tgt := 25) hG d_Card_come1_18 (by decide) (fun c => absurd e1 c) (fun _ => ?_)
      refine zj_iconst (v := 1) hG d_Card_come1_21 rfl ?_
      refine zj_goto (tgt := 26) hG d_Card_come1_22 (by decide) ?_
      exact fin true (decide_eq_true e1).symm
    · refine zj_icmp_ne (tgt := 25) hG d_Card_come1_18 (by decide) (fun _ => ?_) (fun c => absurd c e1)
      refine zj_iconst (v := 0) hG d_Card_come1_25 rfl ?_
      exact fin false (decide_eq_false e1).symm
  · have ec0 : cCome (K s) (fl s) (zi h q 4) (zi h q 5) (zi h q 6) = (fl s, (K s).2.1) := if_neg k0
    rw [ec0]
    have e10 : zt h2 e = 10 := (bd.2.2.2.2.2.2.2.2.1 e (hpm.mem_iff.mpr em)).2.1
    obtain ⟨_, k1, k2, k3, k4⟩ := bd.2.2.2.2.2.2.2.2.1 e (hpm.mem_iff.mpr em)
    have a6 := pa2.1
    have ec : e ≠ c := fun g => by rw [g, bd.1] at e10; cases e10
    obtain ⟨n1, n2, n3, n4⟩ := oa2.fg.ne pa2 k3 ec
    refine zj_astore hG d_Card_come1_5 (by decide) rfl rfl ?_
    refine zj_aload hG d_Card_come1_7 rfl ?_
    refine zj_ifnonnull (tgt := 36) hG d_Card_come1_9 (by decide) (fun _ => ?_) (fun c => absurd c e0)
    refine zj_aload_n hG d_Card_come1_36 rfl rfl ?_
    refine zj_aload hG d_Card_come1_37 rfl ?_
    refine zj_getA hG d_Card_come1_39 f_Card_87 (by assumption) rfl ?_
    refine zj_callP (y' := m_Place_copy) hG (zcV (as := [_]) hG d_Card_come1_42 c_Place_copy (z_w4 143 rfl) (z_w4 114 rfl) (z_w4 115 rfl) ⟨by decide, by decide⟩ a6 (by decide) (by decide) (show _ = some 1 from by decide +kernel) rfl) c_Place_copy rfl (by omega) rfl (z_le rfl) (z_le rfl) (k_Place_copy hG pa2.1 pa2.2.1 pa2.2.2.1 kd.1 n1.symm n2.symm) (fun h42 e42 => ?_)
    obtain ⟨p1, p2⟩ := e42
    exact zj_vret hG d_Card_come1_45 rfl ⟨rfl, es', bd.pc p2, km.pc bd p2 a6 oa2.1 oa2.2 pa2.2.1, p1, (g0.trans (cOp.pc p2)).mono (by omega) (by omega), (tk.cc x).trans (p2.cc bd.1 a6 pa2.2.1)⟩
end AL1
