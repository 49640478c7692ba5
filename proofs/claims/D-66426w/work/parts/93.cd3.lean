/-! PART 93: the component: cards (keep) -/
theorem nd_bound : ∀ (N : Nat) (l : List Nat), l.Nodup → (∀ x ∈ l, x < N) → l.length ≤ N := by
  intro N
  induction N with
  | zero =>
    intro l _ h
    cases l with
    | nil => exact Nat.le_refl _
    | cons x t => exact absurd (h x List.mem_cons_self) (by omega)
  | succ N ih =>
    intro l hn h
    by_cases m : N ∈ l
    · have := ih (l.erase N) (hn.erase N) (fun x hx => by
        have h1 := h x (List.mem_of_mem_erase hx)
        have h2 : x ≠ N := fun e => by rw [e] at hx; exact (List.Nodup.not_mem_erase hn) hx
        omega)
      rw [List.length_erase_of_mem m] at this
      omega
    · have := ih l hn (fun x hx => by
        have h1 := h x hx
        have h2 : x ≠ N := fun e => m (by rw [← e]; exact hx)
        omega)
      omega
/-- a place that is none of the entries' -/
def cFg (h : zH) (c w : Nat) : Prop := (za h w 1000 ≠ c ∧ za h (za h w 3) 1000 ≠ c) ∨ cPw h c c 4 w ∨ cPw h c c 5 w
theorem cPw.ne {h : zH} {c q t p q' t' p' : Nat} (x : cPw h c q t p) (y : cPw h c q' t' p') (e : q ≠ q' ∨ t ≠ t') : p ≠ p' ∧ za h p 3 ≠ za h p' 3 ∧ za h p 3 ≠ p' ∧ p ≠ za h p' 3 := by
  obtain ⟨a1, a2, a3, a4, a5, a6, a7, a8⟩ := x
  obtain ⟨b1, b2, b3, b4, b5, b6, b7, b8⟩ := y
  have pp : p ≠ p' := fun g => by
    rw [g] at a3 a4
    rcases e with e | e
    · exact e (a3.symm.trans b3)
    · exact e (a4.symm.trans b4)
  refine ⟨pp, fun g => ?_, fun g => ?_, fun g => ?_⟩
  · rw [g, b8] at a8; exact pp a8.symm
  · rw [g, b1] at a5; cases a5
  · rw [← g, a1] at b5; cases b5
theorem cFg.ne {h : zH} {c w e t p : Nat} {b : Bool} {l : List Int32} (x : cFg h c w) (pw : pls h w b l) (y : cPw h c e t p) (he : e ≠ c) : p ≠ w ∧ za h p 3 ≠ za h w 3 ∧ za h p 3 ≠ w ∧ p ≠ za h w 3 := by
  have y0 := y
  obtain ⟨b1, b2, b3, b4, b5, b6, b7, b8⟩ := y
  have k1 : za h p 3 ≠ w := fun g => by rw [g, pw.1] at b5; cases b5
  have k2 : p ≠ za h w 3 := fun g => by have := pw.2.1; rw [← g, b1] at this; cases this
  rcases x with ⟨x1, x2⟩ | x | x
  · exact ⟨fun g => x1 (by rw [← g]; exact b2), fun g => x2 (by rw [← g]; exact b7), k1, k2⟩
  · obtain ⟨g1, g2, g3, g4⟩ := y0.ne x (Or.inl he)
    exact ⟨g1, g2, k1, k2⟩
  · obtain ⟨g1, g2, g3, g4⟩ := y0.ne x (Or.inl he)
    exact ⟨g1, g2, k1, k2⟩
section CD3
variable {G : zG} {h : zH} {c : Nat} {es : List Nat} {fl : Nat → Bool} {K : Nat → tK}
/-- the card itself: its version and its parts are the same -/
def cCc (c : Nat) (h h' : zH) : Prop := za h' c = za h c ∧ zi h' c 0 = zi h c 0
theorem cCc.rfl' : cCc c h h := ⟨rfl, rfl⟩
theorem cCc.trans {h1 h2 : zH} (x : cCc c h h1) (y : cCc c h1 h2) : cCc c h h2 := ⟨y.1.trans x.1, y.2.trans x.2⟩
theorem cTk.cc {h' : zH} (b : cBd h c es) (y : cTk h c h') : cCc c h h' := ⟨y.2.2.2.2.2.2.2.1 c (fun e => by have h1 := b.1; have h3 := b.2.2.1; rw [← e, h1] at h3; cases h3), y.2.2.2.2.2.2.1 0 (by decide)⟩
theorem cPc.cc {a : Nat} {h' : zH} (y : cPc h a h') (hc : zt h c = 9) (ha : zt h a = 6) (h3 : zt h (za h a 3) = 21) : cCc c h h' := by
  obtain ⟨I, rfl, y1, _⟩ := y
  refine ⟨rfl, ?_⟩
  show I c 0 = zi h c 0
  rw [y1 c (fun e => by rw [← e, hc] at ha; cases ha) (fun e => by rw [← e, hc] at h3; cases h3)]
/-- only the numbers of the card's cells have changed -/
def cNb (h : zH) (c : Nat) (h' : zH) : Prop := ∃ I, h' = cSi h I ∧ (∀ a, za h a 1000 ≠ c → I a = zi h a) ∧ I c 0 = zi h c 0
theorem cBd.nb {h' : zH} (x : cBd h c es) (y : cNb h c h') : cBd h' c es := by
  obtain ⟨I, rfl, _⟩ := y
  exact x
theorem cNb.fr {h' : zH} (y : cNb h c h') : cFr c h h' ∧ zn h' = zn h ∧ zs h' = zs h := by
  obtain ⟨I, rfl, y1, _⟩ := y
  exact ⟨fun a _ f => ⟨rfl, rfl, y1 a f, rfl, rfl⟩, rfl, rfl⟩
theorem cNb.cc {h' : zH} (y : cNb h c h') : cCc c h h' := by
  obtain ⟨I, rfl, _, y2⟩ := y
  exact ⟨rfl, y2⟩
set_option maxRecDepth 4000 in
theorem keep_tail (hG : zOK G) (x : cBd h c es) (y : cKm h c es fl K) {s : Nat} (hs : s < 128) (k0 : (K s).1 = 0) (bk : Bool) {kd : Int32} (hkd : kd ≠ 0) (hk2 : kd = 2 ∨ kd = 3 → bk = decide (kd = 3)) {w q : Nat} {lw lq : List Int32} (pw : pls h w (fl s) lw) (pq : pls h q (fl s) lq) (fw : cFg h c w) (fq : cFg h c q)
    (hex : ∃ ss : List Nat, zi h c 3 = nI ss.length ∧ ss.length < es.length ∧ ss.Nodup ∧ (∀ s ∈ ss, s < 128 ∧ (K s).1 ≠ 0) ∧ (∀ s, s < 128 → (K s).1 ≠ 0 → s ∈ ss) ∧ ∀ (i s : Nat), ss[i]? = some s → ∃ e, es[i]? = some e ∧ zi h e 0 = nI s ∧ cKd h e (fl s) (K s)) :
    zJ G 1 m_Card_keep 28 [some (zA c), some (zI (nI s)), some (zI (tb bk)), some (zA w), some (zA q), none] [] h (fun o h' => o = zR0 ∧ cNb h c h' ∧ cBd h' c es ∧ cKm h' c es fl (zw K s (kd, lw, lq))) := by
  have x0 := x
  obtain ⟨b1, b2, b3, b4, b5, b6, b7, b8, b9, b10, b11⟩ := x
  obtain ⟨ss, m1, m2, m3, m4, m5, m6⟩ := hex
  have hne : ss.length < es.length := m2
  have es1 : es[ss.length]? = some es[ss.length] := List.getElem?_eq_getElem hne
  have em : es[ss.length] ∈ es := List.getElem_mem hne
  generalize hE : es[ss.length] = e at es1 em
  obtain ⟨e0, k1, k2, k3, k4⟩ := b9 e em
  have ec : e ≠ c := fun g => by rw [g, b1] at k1; cases k1
  have va : za h (za h c 2) ss.length = e := by rw [b6 _ (by omega), es1]; rfl
  obtain ⟨w1, w2, w3, w4⟩ := fw.ne pw k3 ec
  obtain ⟨q1, q2, q3, q4⟩ := fq.ne pq k3 ec
  obtain ⟨w1', w2', w3', w4'⟩ := fw.ne pw k4 ec
  obtain ⟨q1', q2', q3', q4'⟩ := fq.ne pq k4 ec
  obtain ⟨z1, z2, z3, z4⟩ := k3.ne k4 (Or.inr (by decide))
  have wc : w ≠ c := fun g => by have := pw.1; rw [g, b1] at this; cases this
  have qc : q ≠ c := fun g => by have := pq.1; rw [g, b1] at this; cases this
  have we : w ≠ e := fun g => by have := pw.1; rw [g, k1] at this; cases this
  have qe : q ≠ e := fun g => by have := pq.1; rw [g, k1] at this; cases this
  have wac : za h w 3 ≠ c := fun g => by have := pw.2.1; rw [g, b1] at this; cases this
  have qac : za h q 3 ≠ c := fun g => by have := pq.2.1; rw [g, b1] at this; cases this
  have wae : za h w 3 ≠ e := fun g => by have := pw.2.1; rw [g, k1] at this; cases this
  have qae : za h q 3 ≠ e := fun g => by have := pq.2.1; rw [g, k1] at this; cases this
  refine zj_aload_n hG d_Card_keep_28 rfl rfl ?_
  refine zj_getA hG d_Card_keep_29 f_Card_24 (by assumption) rfl ?_
  refine zj_aload_n hG d_Card_keep_32 rfl rfl ?_
  refine zj_dup hG d_Card_keep_33 (by first | exact zc_A _ | rfl) ?_
  refine zj_getI hG d_Card_keep_34 f_Card_38 (by assumption) rfl ?_
  refine zj_dup_x1 hG d_Card_keep_37 (by first | exact zc_A _ | rfl) (by first | exact zc_A _ | rfl) ?_
  refine zj_iconst (v := 1) hG d_Card_keep_38 rfl ?_
  refine zj_iadd hG d_Card_keep_39 ?_
  rw [m1, nI_1]
  refine zj_putI hG d_Card_keep_40 f_Card_38 (by assumption) rfl rfl ?_
  refine zj_aald hG d_Card_keep_43 b3 (by decide) (by decide) (by rw [b4]; exact nI_in' (by omega) (by decide)) ?_
  rw [nI_clamp (by omega), show za (zsi h c 3 (nI (ss.length + 1))) (za h c 2) ss.length = e from va]
  refine zj_astore hG d_Card_keep_44 (by decide) rfl rfl ?_
  refine zj_aload hG d_Card_keep_46 rfl ?_
  refine zj_iload_n hG d_Card_keep_48 rfl rfl ?_
  refine zj_putI hG d_Card_keep_49 f_Card_80 (by assumption) rfl rfl ?_
  refine zj_aload hG d_Card_keep_52 rfl ?_
  refine zj_iload_n hG d_Card_keep_54 rfl rfl ?_
  refine zj_putZ hG d_Card_keep_55 f_Card_83 k1  rfl rfl  (by cases bk <;> simp [tb]) ?_
  refine zj_aload hG d_Card_keep_58 rfl ?_
  refine zj_getA hG d_Card_keep_60 f_Card_87 (by assumption) rfl ?_
  refine zj_aload_n hG d_Card_keep_63 rfl rfl ?_
  -- the heap before the two copies
  have pw1 : pls (zsi (zsi (zsi h c 3 (nI (ss.length + 1))) e 0 (nI s)) e 1 (tb bk)) w (fl s) lw := pw.of rfl rfl (by funext j; simp [zi, zu, wc, we]) rfl (by funext j; simp [zi, zu, wac, wae])
  refine zj_callP (y' := m_Place_copy) hG (zcV (as := [_]) hG d_Card_keep_64 c_Place_copy (z_w4 143 rfl) (z_w4 114 rfl) (z_w4 115 rfl) ⟨by decide, by decide⟩ k3.1 (by decide) (by decide) (show _ = some 1 from by decide +kernel) rfl) c_Place_copy rfl (by omega) rfl (z_le rfl) (z_le rfl) (k_Place_copy hG k3.1 k3.2.2.2.2.1 k3.2.2.2.2.2.1 pw1 w1 w2) (fun h64 e64 => ?_)
  obtain ⟨pa, ca⟩ := e64
  have ca0 := ca
  obtain ⟨I, rfl, ca1, ca2⟩ := ca
  have pq1 : pls (zsi (zsi (zsi h c 3 (nI (ss.length + 1))) e 0 (nI s)) e 1 (tb bk)) q (fl s) lq := pq.of rfl rfl (by funext j; simp [zi, zu, qc, qe]) rfl (by funext j; simp [zi, zu, qac, qae])
  have pq2 := pq1.pc ca0 q1.symm q3.symm q4.symm q2.symm
  have k10 : zt (cSi (zsi (zsi (zsi h c 3 (nI (ss.length + 1))) e 0 (nI s)) e 1 (tb bk)) I) e = 10 := k1
  have k46 : zt (cSi (zsi (zsi (zsi h c 3 (nI (ss.length + 1))) e 0 (nI s)) e 1 (tb bk)) I) (za h e 3) = 6 := k4.1
  refine zj_aload hG d_Card_keep_67 rfl ?_
  refine zj_getA hG d_Card_keep_69 f_Card_90 (by assumption) rfl ?_
  refine zj_aload hG d_Card_keep_72 rfl ?_
  refine zj_callP (y' := m_Place_copy) hG (zcV (as := [_]) hG d_Card_keep_74 c_Place_copy (z_w4 143 rfl) (z_w4 114 rfl) (z_w4 115 rfl) ⟨by decide, by decide⟩ k46 (by decide) (by decide) (show _ = some 1 from by decide +kernel) rfl) c_Place_copy rfl (by omega) rfl (z_le rfl) (z_le rfl) (k_Place_copy hG k46 k4.2.2.2.2.1 k4.2.2.2.2.2.1 pq2 q1' q2') (fun h74 e74 => ?_)
  obtain ⟨pb, cb⟩ := e74
  have pa2 := pa.pc cb z1 z4 z3 z2
  obtain ⟨J, rfl, cb1, cb2⟩ := cb
  -- what the numbers are now
  have far : ∀ a, a ≠ c → a ≠ e → a ≠ za h e 2 → a ≠ za h (za h e 2) 3 → a ≠ za h e 3 → a ≠ za h (za h e 3) 3 → J a = zi h a := by
    intro a g1 g2 g3 g4 g5 g6
    rw [cb1 a g5 g6]
    show I a = zi h a
    rw [ca1 a g3 g4]
    funext j
    simp [zi, zu, g1, g2]
  have je : J e = fun j => if j = 0 then nI s else if j = 1 then tb bk else zi h e j := by
    rw [cb1 e (fun g => by have := k4.1; rw [← g, k1] at this; cases this) (fun g => by have := k4.2.2.2.2.1; rw [← g, k1] at this; cases this)]
    show I e = _
    rw [ca1 e (fun g => by have := k3.1; rw [← g, k1] at this; cases this) (fun g => by have := k3.2.2.2.2.1; rw [← g, k1] at this; cases this)]
    funext j
    by_cases g1 : j = 1
    · subst g1; simp [zi, zu]
    · by_cases g0 : j = 0
      · subst g0; simp [zi, zu]
      · simp [zi, zu, g1, g0, ec]
  have jc : J c 3 = nI (ss.length + 1) := by
    rw [cb1 c (fun g => by have := k4.1; rw [← g, b1] at this; cases this) (fun g => by have := k4.2.2.2.2.1; rw [← g, b1] at this; cases this)]
    show I c 3 = _
    rw [ca1 c (fun g => by have := k3.1; rw [← g, b1] at this; cases this) (fun g => by have := k3.2.2.2.2.1; rw [← g, b1] at this; cases this)]
    simp [zi, zu, ec.symm]
  have jc0 : J c 0 = zi h c 0 := by
    rw [cb1 c (fun g => by have := k4.1; rw [← g, b1] at this; cases this) (fun g => by have := k4.2.2.2.2.1; rw [← g, b1] at this; cases this)]
    show I c 0 = _
    rw [ca1 c (fun g => by have := k3.1; rw [← g, b1] at this; cases this) (fun g => by have := k3.2.2.2.2.1; rw [← g, b1] at this; cases this)]
    simp [zi, zu, ec.symm]
  have nb : cNb h c (cSi h J) := ⟨J, rfl, fun a g => far a (fun g1 => g (by rw [g1]; exact b2)) (fun g1 => g (by rw [g1]; exact k2)) (fun g1 => g (by rw [g1]; exact k3.2.1)) (fun g1 => g (by rw [g1]; exact k3.2.2.2.2.2.2.1)) (fun g1 => g (by rw [g1]; exact k4.2.1)) (fun g1 => g (by rw [g1]; exact k4.2.2.2.2.2.2.1)), jc0⟩
  have sno : s ∉ ss := fun g => (m4 s g).2 k0
  refine zj_vret hG d_Card_keep_77 rfl ⟨rfl, nb, x0, ss ++ [s], ?_, ?_, ?_, ?_, ?_, ?_⟩
  · rw [List.length_append]; exact jc
  · simp; omega
  · rw [List.nodup_append]
    refine ⟨m3, by simp, fun a ha b hb => ?_⟩
    rw [List.mem_singleton.mp hb]
    exact fun g => sno (by rw [← g]; exact ha)
  · intro t ht
    rcases List.mem_append.mp ht with g | g
    · rw [zw_n (fun g1 => sno (by rw [← g1]; exact g))]; exact m4 t g
    · rw [List.mem_singleton.mp g, zw_s]; exact ⟨hs, hkd⟩
  · intro t ht hk
    by_cases g : t = s
    · rw [g]; exact List.mem_append_right _ List.mem_cons_self
    · rw [zw_n g] at hk; exact List.mem_append_left _ (m5 t ht hk)
  · intro i t hi
    by_cases hil : i < ss.length
    · rw [List.getElem?_append_left hil] at hi
      obtain ⟨e', u1, u2, u3⟩ := m6 i t hi
      have tm : t ∈ ss := List.mem_of_getElem? hi
      have em' : e' ∈ es := List.mem_of_getElem? u1
      have ee' : e' ≠ e := by
        intro g
        have hie : i < es.length := by omega
        rw [List.getElem?_eq_getElem hie] at u1
        have := nd_get b8 hie hne (by rw [hE, Option.some.inj u1, g])
        omega
      obtain ⟨_, v1, v2, v3, v4⟩ := b9 e' em'
      have ec' : e' ≠ c := fun g => by rw [g, b1] at v1; cases v1
      have kp : ∀ (p tt : Nat), cPw h c e' tt p → (∀ (b : Bool) (l : List Int32), pls h p b l → pls (cSi h J) p b l) := by
        intro p tt vp b l hpl
        obtain ⟨n1, n2, n3, n4⟩ := vp.ne k3 (Or.inl ee')
        obtain ⟨n1', n2', n3', n4'⟩ := vp.ne k4 (Or.inl ee')
        have pc : p ≠ c := fun g => by have := vp.1; rw [g, b1] at this; cases this
        have pe : p ≠ e := fun g => by have := vp.1; rw [g, k1] at this; cases this
        have ac : za h p 3 ≠ c := fun g => by have := vp.2.2.2.2.1; rw [g, b1] at this; cases this
        have ae : za h p 3 ≠ e := fun g => by have := vp.2.2.2.2.1; rw [g, k1] at this; cases this
        exact hpl.of rfl rfl (far p pc pe n1 n4 n1' n4') rfl (far _ ac ae n3 n2 n3' n2')
      have ze' : J e' = zi h e' := far e' ec' ee' (fun g => by have := k3.1; rw [← g, v1] at this; cases this) (fun g => by have := k3.2.2.2.2.1; rw [← g, v1] at this; cases this) (fun g => by have := k4.1; rw [← g, v1] at this; cases this) (fun g => by have := k4.2.2.2.2.1; rw [← g, v1] at this; cases this)
      refine ⟨e', u1, by show J e' 0 = _; rw [ze']; exact u2, ?_⟩
      rw [zw_n (fun g1 => sno (by rw [← g1]; exact tm))]
      refine ⟨kp _ _ v3 _ _ u3.1, fun g => ⟨?_, kp _ _ v4 _ _ (u3.2 g).2⟩⟩
      show J e' 1 = _
      rw [ze']; exact (u3.2 g).1
    · have hi2 : i = ss.length := by
        rcases Nat.lt_or_ge i (ss ++ [s]).length with g | g
        · simp at g; omega
        · rw [List.getElem?_eq_none g] at hi; cases hi
      subst hi2
      rw [List.getElem?_append_right (Nat.le_refl _), Nat.sub_self] at hi
      have ts : s = t := by simpa using hi
      subst ts
      refine ⟨e, es1, ?_, ?_⟩
      · show J e 0 = _; rw [je]; rfl
      · rw [zw_s]
        refine ⟨pa2, fun g => ⟨?_, pb⟩⟩
        show J e 1 = _
        rw [je, hk2 g]; rfl
end CD3
