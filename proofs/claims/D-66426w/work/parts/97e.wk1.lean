/-! PART 97e: the component: a card whole, and what a walker does to it (1) -/
section WK1
variable {G : zG} {h : zH} {c r : Nat} {fl : Nat → Bool} {K : Nat → tK} {P : List pE}
theorem cRr.upd {K0 : Nat} {rs : List Nat} {h' : zH} (x : cRr h K0 r rs) (e : ∀ a, zt h a ≠ 0 → za h a 1000 = r → zt h' a = zt h a ∧ zl h' a = zl h a ∧ za h' a = za h a) (hr : zi h' r = zi h r) (h0 : ∀ a ∈ rs, zi h' a 0 = zi h a 0) : cRr h' K0 r rs := by
  obtain ⟨ks, sp, ⟨⟨hkR, hrt, ho, hc, hsp, hnd, hkn, hm, hl, hpv⟩, hso⟩, rfl⟩ := x
  have er := e r (by omega) ho
  have ek : ∀ k ∈ ks ++ sp, _ := fun k hk => e k (hkn k hk).in.1 (hkn k hk).in.2.1
  have ep : ∀ k ∈ ks ++ sp, _ := fun k hk => e _ (hkn k hk).in.2.2.1 (hkn k hk).in.2.2.2.1
  have pt : ∀ k ∈ ks, cPt h' k = cPt h k := fun k hk => by
    show zi h' (za h' k 0) 0 = zi h (za h k 0) 0
    rw [(ek k (List.mem_append_left _ hk)).2.2]
    exact h0 _ (List.mem_map.mpr ⟨k, hk, rfl⟩)
  refine ⟨ks, sp, ⟨⟨hkR, by rw [er.1]; exact hrt, by rw [er.2.2]; exact ho, ?_, ?_, hnd, fun k hk => ?_, by rw [hr]; exact hm, hl, fun k hk => by rw [pt k hk]; exact hpv k hk⟩, so_congr hso pt⟩, ?_⟩
  · rw [er.2.2]
    exact hc.congr (fun k hk => by show za h' k 1 = za h k 1; rw [(ek k (List.mem_append_left _ hk)).2.2])
  · rw [er.2.2]
    exact hsp.congr (fun k hk => by show za h' k 1 = za h k 1; rw [(ek k (List.mem_append_right _ hk)).2.2])
  · obtain ⟨a1, a2, a3, a4, a5, a6⟩ := hkn k hk
    unfold cKn
    rw [(ek k hk).1, (ek k hk).2.2, (ep k hk).1, (ep k hk).2.2]
    refine ⟨a1, a2, a3, a4, a5, fun e3 => ?_⟩
    have ea := e _ ((hkn k hk).in.2.2.2.2 e3).1 ((hkn k hk).in.2.2.2.2 e3).2
    rw [ea.1, ea.2.1, ea.2.2]
    exact a6 e3
  · apply List.map_congr_left
    intro k hk
    show za h k 0 = za h' k 0
    rw [(ek k (List.mem_append_left _ hk)).2.2]
/-- a card's work on one of its places -/
theorem cPl.op {rs : List Nat} {a n s : Nat} {h' : zH} (x : cRr h 3 r rs) (hw : ∀ a ∈ rs, pls h a (plc h a).1 (plc h a).2) (ha : a ∈ rs) (hrc : r ≠ c) (y : cOp c a h h' n s) {b : Bool} {l : List Int32} (z : pls h' a b l) :
    cRr h' 3 r rs ∧ (∀ a ∈ rs, pls h' a (plc h' a).1 (plc h' a).2) ∧ rs.map (cPe h') = (rs.map (cPe h)).map (fun e => if e.1 = zi h a 0 then (e.1, b, l) else e) := by
  obtain ⟨y1, ⟨y2a, y2b, y2c, y2d, y2e⟩, ⟨y3a, y3b, y3c, y3d⟩, _⟩ := y
  obtain ⟨n1, n2⟩ := x.ne ha
  obtain ⟨n3, n4, n5⟩ := n2 rfl
  have is := x.f.2.2.2.2.2.1
  have f := x.f
  have far : ∀ w, zt h w ≠ 0 → za h w 1000 = r → w ≠ a → w ≠ za h a 3 → cSm h h' w := fun w h1 h2 h3 h4 => y1 w h1 (by rw [h2]; exact hrc) h3 h4
  have x' : cRr h' 3 r rs := x.upd (fun w h1 h2 => by
    by_cases e1 : w = a
    · rw [e1]; exact ⟨y2a, y2b, y2c⟩
    · by_cases e2 : w = za h a 3
      · rw [e2]; exact ⟨y3a, y3b, y3c⟩
      · have := far w h1 h2 e1 e2
        exact ⟨this.1, this.2.1, this.2.2.2.1⟩) (far r (by have := f.2.1; omega) f.2.2.1 n1.symm n3.symm).2.2.1 (fun w hw' => by
    by_cases e1 : w = a
    · rw [e1]; exact y2e
    · rw [(far w (by have := (is w hw').1.1; omega) (is w hw').1.2.1 e1 (fun g => n4 (by rw [← g]; exact hw'))).2.2.1])
  have oth : ∀ w ∈ rs, w ≠ a → cSr 3 h h' w := fun w hw' e => by
    have s1 := far w (by have := (is w hw').1.1; omega) (is w hw').1.2.1 e (fun g => n4 (by rw [← g]; exact hw'))
    have i3 := (is w hw').1.2.2 rfl
    have s2 := far (za h w 3) (by have := i3.1; omega) i3.2.2.1 (fun g => ((x.ne hw').2 rfl).2.1 (by rw [g]; exact ha)) (x.ne2 hw' ha e rfl)
    exact ⟨s1.2.2.1, s1.2.2.2.1, fun _ => s2.2.2.1⟩
  have key : ∀ w ∈ rs, w ≠ a → pls h' w (plc h w).1 (plc h w).2 := fun w hw' e => (hw w hw').sr (oth w hw' e) (x'.f.2.2.2.2.2.1 w hw').1
  refine ⟨x', fun w hw' => ?_, ?_⟩
  · by_cases e : w = a
    · subst e; rw [z.plc]; exact z
    · rw [(key w hw' e).plc]; exact key w hw' e
  · rw [List.map_map]
    apply List.map_congr_left
    intro w hw'
    show cPe h' w = (if (cPe h w).1 = zi h a 0 then ((cPe h w).1, b, l) else cPe h w)
    by_cases e : w = a
    · subst e
      rw [if_pos (show (cPe h w).1 = zi h w 0 from rfl)]
      unfold cPe
      rw [z.plc, y2e]
    · rw [if_neg (show ¬ (cPe h w).1 = zi h a 0 from fun g => e (x.inj hw' ha g))]
      unfold cPe
      rw [(key w hw' e).plc, (oth w hw' e).1]
/-- a card: its places and what is kept -/
def cCd (h : zH) (c r : Nat) (fl : Nat → Bool) (P : List pE) (K : Nat → tK) : Prop := za h c 1 = r ∧ (∃ es, cBd h c es ∧ cKm h c es fl K) ∧ cPl h r P
/-- only the card and its places have changed -/
def cGw (c r : Nat) (h h' : zH) (n s : Nat) : Prop := (∀ a, zt h a ≠ 0 → za h a 1000 ≠ c → za h a 1000 ≠ r → cSm h h' a) ∧ zi h' c 0 = zi h c 0 ∧ zn h ≤ zn h' ∧ zn h' ≤ zn h + n ∧ zs h ≤ zs h' ∧ zs h' ≤ zs h + s
theorem cGw.trans {n s n' s' : Nat} {h1 h2 : zH} (x : cGw c r h h1 n s) (y : cGw c r h1 h2 n' s') : cGw c r h h2 (n + n') (s + s') := by
  obtain ⟨a1, a0, a2, a3, a4, a5⟩ := x
  obtain ⟨b1, b0, b2, b3, b4, b5⟩ := y
  exact ⟨fun a h1 h2 h3 => (a1 a h1 h2 h3).trans (b1 a (by rw [(a1 a h1 h2 h3).1]; exact h1) (by rw [(a1 a h1 h2 h3).2.2.2.1]; exact h2) (by rw [(a1 a h1 h2 h3).2.2.2.1]; exact h3)), b0.trans a0, by omega, by omega, by omega, by omega⟩
theorem cGw.mono {n s n' s' : Nat} {h1 : zH} (x : cGw c r h h1 n s) (hn : n ≤ n') (hs : s ≤ s') : cGw c r h h1 n' s' := by
  obtain ⟨a1, a0, a2, a3, a4, a5⟩ := x
  exact ⟨a1, a0, a2, by omega, a4, by omega⟩
theorem cGw.rfl' : cGw c r h h 0 0 := ⟨fun _ _ _ _ => cSm.rfl', rfl, Nat.le_refl _, Nat.le_refl _, Nat.le_refl _, Nat.le_refl _⟩
/-- the card's body after a change of its places alone -/
theorem cBd.fr {es : List Nat} {h' : zH} (x : cBd h c es) (e : ∀ a, zt h a ≠ 0 → za h a 1000 = c → cSm h h' a) : cBd h' c es := by
  obtain ⟨b1, b2, b3, b4, b5, b6, b7, b8, b9, b10, b11⟩ := x
  have sc := e c (by omega) b2
  have sk := e (za h c 2) (by omega) b5
  have pw : ∀ q t p, cPw h c q t p → cPw h' c q t p := fun q t p z => z.sm (fun a h1 h2 => ⟨(e a h1 h2).1, (e a h1 h2).2.1, (e a h1 h2).2.2.2.1⟩)
  unfold cBd
  rw [sc.1, sc.2.2.2.1, sk.1, sk.2.1, sk.2.2.2.1]
  refine ⟨b1, b2, b3, b4, b5, b6, b7, b8, fun f hf => ?_, pw _ _ _ b10, pw _ _ _ b11⟩
  obtain ⟨f0, k1, k2, k3, k4⟩ := b9 f hf
  have sf := e f (by omega) k2
  refine ⟨f0, ?_⟩
  unfold cKo
  rw [sf.1, sf.2.2.2.1]
  exact ⟨k1, k2, pw _ _ _ k3, pw _ _ _ k4⟩
theorem pls.fr {a : Nat} {b : Bool} {l : List Int32} {h' : zH} (x : pls h a b l) (s1 : cSm h h' a) (s2 : cSm h h' (za h a 3)) : pls h' a b l := by
  obtain ⟨u1, u2, u3, u4, u5, u6, u7⟩ := x
  unfold pls
  rw [s1.1, s1.2.2.2.1, s1.2.2.1, s2.1, s2.2.1]
  exact ⟨u1, u2, u3, u4, u5, u6, fun i z hz => by rw [s2.2.2.1]; exact u7 i z hz⟩
theorem cKm.fr {es : List Nat} {h' : zH} (b : cBd h c es) (x : cKm h c es fl K) (e : ∀ a, zt h a ≠ 0 → za h a 1000 = c → cSm h h' a) : cKm h' c es fl K := by
  obtain ⟨b1, b2, b3, b4, b5, b6, b7, b8, b9, b10, b11⟩ := b
  obtain ⟨ss, m1, m2, m3, m4, m5, m6⟩ := x
  refine ⟨ss, by rw [(e c (by omega) b2).2.2.1]; exact m1, m2, m3, m4, m5, fun i s hi => ?_⟩
  obtain ⟨f, u1, u2, u3⟩ := m6 i s hi
  obtain ⟨_, k1, k2, k3, k4⟩ := b9 f (List.mem_of_getElem? u1)
  have sf := e f (by omega) k2
  have kp : ∀ (t p : Nat), cPw h c f t p → ∀ (b : Bool) (l : List Int32), pls h p b l → pls h' p b l := fun t p w b l hp => hp.fr (e p (by have := w.1; omega) w.2.1) (e _ (by have := w.2.2.2.2.1; omega) w.2.2.2.2.2.2.1)
  refine ⟨f, u1, by rw [sf.2.2.1]; exact u2, ?_, fun g => ⟨by rw [sf.2.2.1]; exact (u3.2 g).1, ?_⟩⟩
  · rw [sf.2.2.2.1]; exact kp _ _ k3 _ _ u3.1
  · rw [sf.2.2.2.1]; exact kp _ _ k4 _ _ (u3.2 g).2
/-- the places alone have changed -/
theorem cCd.pl {h' : zH} {P' : List pE} {n s : Nat} (x : cCd h c r fl P K) (y : cGr r h h' n s) (z : cPl h' r P') : cCd h' c r fl P' K ∧ cGw c r h h' n s := by
  obtain ⟨x1, ⟨es, bd, km⟩, xp⟩ := x
  have rc : c ≠ r := fun e => by have h1 := bd.1; have h2 := xp.f.1; rw [e, h2] at h1; cases h1
  have e : ∀ a, zt h a ≠ 0 → za h a 1000 = c → cSm h h' a := fun a h1 h2 => y.1 a h1 (by rw [h2]; exact rc)
  have sc := e c (by have := bd.1; omega) bd.2.1
  exact ⟨⟨by rw [sc.2.2.2.1]; exact x1, ⟨es, bd.fr e, km.fr bd e⟩, z⟩, fun a h1 _ h3 => y.1 a h1 h3, by rw [sc.2.2.1], y.2⟩
/-- a card's work on one place -/
theorem cCd.op {h' : zH} {rs : List Nat} {a n s : Nat} {K' : Nat → tK} {es' : List Nat} (x1 : za h c 1 = r) (b0 : zt h c = 9) (bo : za h c 1000 = c) (xr : cRr h 3 r rs) (hw : ∀ a ∈ rs, pls h a (plc h a).1 (plc h a).2) (ha : a ∈ rs) (cc : cCc c h h') (y : cOp c a h h' n s) (bd : cBd h' c es') (km : cKm h' c es' fl K') {b : Bool} {l : List Int32} (z : pls h' a b l) :
    cCd h' c r fl ((rs.map (cPe h)).map (fun e => if e.1 = zi h a 0 then (e.1, b, l) else e)) K' ∧ cGw c r h h' n s := by
  have rc : r ≠ c := fun e => by have h2 := xr.f.2.1; rw [e, b0] at h2; cases h2
  obtain ⟨z1, z2, z3⟩ := cPl.op xr hw ha rc y z
  have is := (xr.f.2.2.2.2.2.1 a ha).1
  refine ⟨⟨by rw [cc.1]; exact x1, ⟨es', bd, km⟩, rs, z1, z3.symm, z2⟩, fun w h1 h2 h3 => y.1 w h1 h2 (fun e => h3 (by rw [e]; exact is.2.1)) (fun e => h3 (by rw [e]; exact (is.2.2 rfl).2.2.1)), cc.2, y.2.2.2⟩
end WK1
