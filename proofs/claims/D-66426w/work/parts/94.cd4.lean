/-! PART 94: the component: cards (keep; entries are made) -/
section CD4
variable {G : zG} {h : zH} {c : Nat} {es : List Nat} {fl : Nat → Bool} {K : Nat → tK}
theorem zn_sa (h : zH) (a k v : Nat) : zn (zsa h a k v) = zn h := rfl
theorem zHR.ghosts {H : Heap} (hH : zHR G h H) {A : Nat → Nat → Nat} (hA : ∀ a, A a = za h a ∨ zt h a ≤ 22 ∧ ∀ j, j < 1000 → A a j = za h a j) : zHR G (cSa h A) H := by
  obtain ⟨q1, q2, q3, q4, q5, q6⟩ := hH
  refine ⟨q1, q2, q3, q4, q5, fun b => ?_⟩
  have hc := q6 b
  rcases hA b with e | ⟨e1, e2⟩
  · exact hc.to rfl rfl rfl e rfl rfl
  · unfold zcell at hc ⊢
    show if zt h b = 0 then True else if zt h b ≤ 15 then t_OB b (gC G (zt h b)) (zN (zt h b)) (gI G (zt h b)) H (zfv (cSa h A) b) else if zt h b ≤ 20 then ∃ cell : Cell, H[b]? = some cell ∧ cell.cls = gC G (zt h b) ∧ cell.vm = .none else H[b]? = some (arrV (gC G (zt h b)) (zl h b) (zav (cSa h A) b))
    split
    · trivial
    rename_i n0
    rw [if_neg n0] at hc
    split
    · rename_i n1
      rw [if_pos n1] at hc
      obtain ⟨cell, c1, c2, c3, c4⟩ := hc
      refine ⟨cell, c1, c2, c3, fun k hk => ?_⟩
      rw [c4 k hk]
      have : zfv (cSa h A) b k = zfv h b k := by
        unfold zfv
        show (if zq (zt h b) k = true then zr (A b k) else Value.int (zi h b k)) = _
        rw [e2 k (by have := zN_le n1; omega)]
      rw [this]
    rename_i n1
    rw [if_neg n1] at hc
    split
    · rename_i n2
      rw [if_pos n2] at hc
      exact hc
    rename_i n2
    rw [if_neg n2] at hc
    rw [hc]
    unfold arrV
    congr 1
    congr 1
    congr 1
    funext i
    unfold zav
    show (if zt h b = 21 then Value.int (zi h b i) else if zt h b = 22 then Value.long (zj h b i) else zr (za h b i)) = (if zt h b = 21 then Value.int (zi h b i) else if zt h b = 22 then Value.long (zj h b i) else zr (A b i))
    split
    · rfl
    split
    · rfl
    · omega
theorem zj_ghosts {d : Nat} {y : zM} {pc : Nat} {ls : List (Option zV)} {st : List zV} {Q : zO → zH → Prop} {A : Nat → Nat → Nat} (hA : ∀ a, A a = za h a ∨ zt h a ≤ 22 ∧ ∀ j, j < 1000 → A a j = za h a j) (k : zJ G d y pc ls st (cSa h A) Q) : zJ G d y pc ls st h Q :=
  fun R s m args below meth c H locs cells slots sB lsR hF hR hl' hH hL => k R s m args below meth c H locs cells slots sB lsR hF hR hl' (hH.ghosts hA) hL
/-- an entry's parts have been made, at N and behind it -/
def cKi (h : zH) (e : Nat) (h' : zH) : Prop := (∀ a, a < zn h → a ≠ e → cSm h h' a) ∧ (zt h' e = zt h e ∧ zl h' e = zl h e ∧ zi h' e = zi h e ∧ zj h' e = zj h e ∧ ∀ j, j ≠ 2 → j ≠ 3 → za h' e j = za h e j) ∧ za h' e 2 = zn h ∧ za h' e 3 = zn h + 2 ∧
  (zt h' (zn h) = 6 ∧ za h' (zn h) 3 = zn h + 1 ∧ zt h' (zn h + 1) = 21 ∧ zl h' (zn h + 1) = 6) ∧ (zt h' (zn h + 2) = 6 ∧ za h' (zn h + 2) 3 = zn h + 3 ∧ zt h' (zn h + 3) = 21 ∧ zl h' (zn h + 3) = 6) ∧ zn h' = zn h + 4 ∧ zs h' = zs h + 20
theorem k_Kept_init (hG : zOK G) {e : Nat} (e0 : e ≠ 0) (he : zt h e = 10) (hel : e < zn h) (hn : zn h + 5 ≤ g0 G + 603072) (hs : zs h + 24 ≤ 7211114) : zJ G 3 m_Kept_init 0 [some (zA e)] [] h (fun o h' => o = zR0 ∧ cKi h e h') := by
  have e1 : e ≠ zn h := by omega
  have e2 : e ≠ zn h + 1 := by omega
  have e3 : e ≠ zn h + 1 + 1 := by omega
  have e4 : e ≠ zn h + 1 + 1 + 1 := by omega
  refine zj_aload_n hG d_Kept_init_0 rfl rfl ?_
  refine zj_objinit hG d_Kept_init_1 (z_w4 125 rfl) (by assumption) (by omega) (z_le rfl) ?_
  refine zj_aload_n hG d_Kept_init_4 rfl rfl ?_
  refine zj_new (k := 6) hG d_Kept_init_5 (z_w4 126 rfl) (z_w1 7 rfl) (by decide) (by decide) (by omega) (by show zs h + 4 ≤ _; omega) ?_
  refine zj_dup hG d_Kept_init_8 (by first | exact zc_A _ | rfl) ?_
  refine zj_wf hG (fun wf => ?_)
  have a6 : zt (znew h 6 (zN 6) 0) (zn h) = 6 := by show zw (zt h) (zn h) 6 (zn h) = 6; rw [zw_s]
  have a0 := (wf (zn h) (by rw [a6]; decide)).1
  refine zj_callV (y' := m_Place_init) hG (zcIN (as := []) hG d_Kept_init_9 rfl (z_w4 127 rfl) (z_w1 94 rfl) (z_w1 95 rfl) ⟨by decide, by decide⟩ a0 (show _ = some 0 from by decide +kernel) rfl) c_Place_init rfl (by omega) rfl (z_le rfl) (z_le rfl) (k_Place_init hG a0 a6 (by show zn h ≠ zn h + 1; omega) (by show zn h + 1 + 1 ≤ _; omega) (by show zs h + 4 + 6 ≤ _; omega)) ?_
  have he1 : zt (zsa (znew (znew h 6 (zN 6) 0) 21 6 6) (zn h) 3 (zn (znew h 6 (zN 6) 0))) e = 10 := by show zw (zw (zt h) (zn h) 6) (zn h + 1) 21 e = 10; rw [zw_n e2, zw_n e1]; exact he
  refine zj_putA hG d_Kept_init_12 f_Kept_10 he1 rfl (Or.inr ⟨rfl, rfl⟩) ?_
  refine zj_aload_n hG d_Kept_init_15 rfl rfl ?_
  refine zj_new (k := 6) hG d_Kept_init_16 (z_w4 126 rfl) (z_w1 7 rfl) (by decide) (by decide) (by show zn h + 1 + 1 + 1 ≤ _; omega) (by show zs h + 4 + 6 + 4 ≤ _; omega) ?_
  refine zj_dup hG d_Kept_init_19 (by first | exact zc_A _ | rfl) ?_
  refine zj_wf hG (fun wf2 => ?_)
  have b6 : zt (znew (zsa (zsa (znew (znew h 6 (zN 6) 0) 21 6 6) (zn h) 3 (zn (znew h 6 (zN 6) 0))) e 2 (zn h)) 6 (zN 6) 0) (zn h + 1 + 1) = 6 := by show zw _ (zn h + 1 + 1) 6 (zn h + 1 + 1) = 6; rw [zw_s]
  have b0 := (wf2 (zn h + 1 + 1) (by rw [b6]; decide)).1
  refine zj_callV (y' := m_Place_init) hG (zcIN (as := []) hG d_Kept_init_20 rfl (z_w4 127 rfl) (z_w1 94 rfl) (z_w1 95 rfl) ⟨by decide, by decide⟩ b0 (show _ = some 0 from by decide +kernel) rfl) c_Place_init rfl (by omega) rfl (z_le rfl) (z_le rfl) (k_Place_init hG b0 b6 (by show zn h + 1 + 1 ≠ zn h + 1 + 1 + 1; omega) (by show zn h + 1 + 1 + 1 + 1 ≤ _; omega) (by show zs h + 4 + 6 + 4 + 6 ≤ _; omega)) ?_
  have he2 : zt (zsa (znew (znew (zsa (zsa (znew (znew h 6 (zN 6) 0) 21 6 6) (zn h) 3 (zn (znew h 6 (zN 6) 0))) e 2 (zn h)) 6 (zN 6) 0) 21 6 6) (zn h + 1 + 1) 3 (zn h + 1 + 1 + 1)) e = 10 := by
    show zw (zw (zw (zw (zt h) (zn h) 6) (zn h + 1) 21) (zn h + 1 + 1) 6) (zn h + 1 + 1 + 1) 21 e = 10
    rw [zw_n e4, zw_n e3, zw_n e2, zw_n e1]; exact he
  refine zj_putA hG d_Kept_init_23 f_Kept_16 he2 rfl (Or.inr ⟨rfl, rfl⟩) ?_
  refine zj_vret hG d_Kept_init_26 rfl ⟨rfl, fun a ha hae => ?_, ⟨?_, ?_, ?_, ?_, fun j j2 j3 => ?_⟩, ?_, ?_, ⟨?_, ?_, ?_, ?_⟩, ⟨?_, ?_, ?_, ?_⟩, rfl, rfl⟩
  · have f1 : a ≠ zn h := by omega
    have f2 : a ≠ zn h + 1 := by omega
    have f3 : a ≠ zn h + 1 + 1 := by omega
    have f4 : a ≠ zn h + 1 + 1 + 1 := by omega
    refine ⟨?_, ?_, ?_, ?_, ?_⟩
    · show zw (zw (zw (zw (zt h) (zn h) 6) (zn h + 1) 21) (zn h + 1 + 1) 6) (zn h + 1 + 1 + 1) 21 a = zt h a
      rw [zw_n f4, zw_n f3, zw_n f2, zw_n f1]
    · show zw (zw (zw (zw (zl h) (zn h) 0) (zn h + 1) 6) (zn h + 1 + 1) 0) (zn h + 1 + 1 + 1) 6 a = zl h a
      rw [zw_n f4, zw_n f3, zw_n f2, zw_n f1]
    · show zw (zw (zw (zw (zi h) (zn h) _) (zn h + 1) _) (zn h + 1 + 1) _) (zn h + 1 + 1 + 1) _ a = zi h a
      rw [zw_n f4, zw_n f3, zw_n f2, zw_n f1]
    · funext j
      show zu (zu (zw (zw (zu (zu (zw (zw (za h) (zn h) _) (zn h + 1) _) (zn h) 3 _) e 2 _) (zn h + 1 + 1) _) (zn h + 1 + 1 + 1) _) (zn h + 1 + 1) 3 _) e 3 _ a j = za h a j
      rw [zu_a hae, zu_a f3, zw_n f4, zw_n f3, zu_a hae, zu_a f1, zw_n f2, zw_n f1]
    · show zw (zw (zw (zw (zj h) (zn h) _) (zn h + 1) _) (zn h + 1 + 1) _) (zn h + 1 + 1 + 1) _ a = zj h a
      rw [zw_n f4, zw_n f3, zw_n f2, zw_n f1]
  · show zw (zw (zw (zw (zt h) (zn h) 6) (zn h + 1) 21) (zn h + 1 + 1) 6) (zn h + 1 + 1 + 1) 21 e = zt h e
    rw [zw_n e4, zw_n e3, zw_n e2, zw_n e1]
  · show zw (zw (zw (zw (zl h) (zn h) 0) (zn h + 1) 6) (zn h + 1 + 1) 0) (zn h + 1 + 1 + 1) 6 e = zl h e
    rw [zw_n e4, zw_n e3, zw_n e2, zw_n e1]
  · show zw (zw (zw (zw (zi h) (zn h) _) (zn h + 1) _) (zn h + 1 + 1) _) (zn h + 1 + 1 + 1) _ e = zi h e
    rw [zw_n e4, zw_n e3, zw_n e2, zw_n e1]
  · show zw (zw (zw (zw (zj h) (zn h) _) (zn h + 1) _) (zn h + 1 + 1) _) (zn h + 1 + 1 + 1) _ e = zj h e
    rw [zw_n e4, zw_n e3, zw_n e2, zw_n e1]
  · show zu (zu (zw (zw (zu (zu (zw (zw (za h) (zn h) _) (zn h + 1) _) (zn h) 3 _) e 2 _) (zn h + 1 + 1) _) (zn h + 1 + 1 + 1) _) (zn h + 1 + 1) 3 _) e 3 _ e j = za h e j
    rw [zu_k j3, zu_a e3, zw_n e4, zw_n e3, zu_k j2, zu_a e1, zw_n e2, zw_n e1]
  · show zu (zu (zw (zw (zu (zu (zw (zw (za h) (zn h) _) (zn h + 1) _) (zn h) 3 _) e 2 _) (zn h + 1 + 1) _) (zn h + 1 + 1 + 1) _) (zn h + 1 + 1) 3 _) e 3 _ e 2 = zn h
    rw [zu_k (by decide), zu_a e3, zw_n e4, zw_n e3, zu_s]
  · exact zu_s
  · show zw (zw (zw (zw (zt h) (zn h) 6) (zn h + 1) 21) (zn h + 1 + 1) 6) (zn h + 1 + 1 + 1) 21 (zn h) = 6
    rw [zw_n (by omega), zw_n (by omega), zw_n (by omega), zw_s]
  · show zu (zu (zw (zw (zu (zu (zw (zw (za h) (zn h) _) (zn h + 1) _) (zn h) 3 (zn h + 1)) e 2 _) (zn h + 1 + 1) _) (zn h + 1 + 1 + 1) _) (zn h + 1 + 1) 3 _) e 3 _ (zn h) 3 = zn h + 1
    rw [zu_a e1.symm, zu_a (by omega), zw_n (by omega), zw_n (by omega), zu_a e1.symm, zu_s]
  · show zw (zw (zw (zw (zt h) (zn h) 6) (zn h + 1) 21) (zn h + 1 + 1) 6) (zn h + 1 + 1 + 1) 21 (zn h + 1) = 21
    rw [zw_n (by omega), zw_n (by omega), zw_s]
  · show zw (zw (zw (zw (zl h) (zn h) 0) (zn h + 1) 6) (zn h + 1 + 1) 0) (zn h + 1 + 1 + 1) 6 (zn h + 1) = 6
    rw [zw_n (by omega), zw_n (by omega), zw_s]
  · show zw (zw (zw (zw (zt h) (zn h) 6) (zn h + 1) 21) (zn h + 1 + 1) 6) (zn h + 1 + 1 + 1) 21 (zn h + 1 + 1) = 6
    rw [zw_n (by omega), zw_s]
  · show zu (zu _ (zn h + 1 + 1) 3 (zn h + 1 + 1 + 1)) e 3 _ (zn h + 1 + 1) 3 = zn h + 3
    rw [zu_a e3.symm, zu_s]
  · show zw (zw (zw (zw (zt h) (zn h) 6) (zn h + 1) 21) (zn h + 1 + 1) 6) (zn h + 1 + 1 + 1) 21 (zn h + 1 + 1 + 1) = 21
    rw [zw_s]
  · show zw (zw (zw (zw (zl h) (zn h) 0) (zn h + 1) 6) (zn h + 1 + 1) 0) (zn h + 1 + 1 + 1) 6 (zn h + 1 + 1 + 1) = 6
    rw [zw_s]
/-- with one entry more -/
theorem cBd.ext {h' : zH} {e n : Nat} (x : cBd h c es) (wf : zWf h) (hn : n = es.length) (hl : es.length < 128) (e0 : e ≠ 0) (he : cKo h' c e) (hne : e ∉ es)
    (sm : ∀ a, a < zn h → zt h' a = zt h a ∧ zl h' a = zl h a ∧ (a ≠ za h c 2 → za h' a = za h a)) (hk : ∀ j, za h' (za h c 2) j = if j = n then e else za h (za h c 2) j) : cBd h' c (es ++ [e]) := by
  obtain ⟨b1, b2, b3, b4, b5, b6, b7, b8, b9, b10, b11⟩ := x
  have lt : ∀ a, zt h a ≠ 0 → a < zn h := fun a g => (wf a g).2
  have ck : c ≠ za h c 2 := fun g => by rw [← g, b1] at b3; cases b3
  obtain ⟨c1, c2, c3⟩ := sm c (lt c (by omega))
  have c3 := c3 ck
  obtain ⟨d1, d2, _⟩ := sm (za h c 2) (lt _ (by omega))
  have pw : ∀ q t p, cPw h c q t p → cPw h' c q t p := by
    intro q t p z
    obtain ⟨a1, a2, a3, a4, a5, a6, a7, a8⟩ := z
    obtain ⟨u1, u2, u3⟩ := sm p (lt p (by omega))
    obtain ⟨w1, w2, w3⟩ := sm (za h p 3) (lt _ (by omega))
    have u3 := u3 (fun g => by rw [g, b3] at a1; cases a1)
    have w3 := w3 (fun g => by rw [g, b3] at a5; cases a5)
    unfold cPw
    rw [u1, u3, w1, w2, w3]
    exact ⟨a1, a2, a3, a4, a5, a6, a7, a8⟩
  unfold cBd
  rw [c1, c3, d1, d2]
  refine ⟨b1, b2, b3, b4, ?_, fun i hi => ?_, by simp; omega, ?_, fun f hf => ?_, pw _ _ _ b10, pw _ _ _ b11⟩
  · rw [hk, if_neg (by omega)]; exact b5
  · rw [hk]
    by_cases g : i = n
    · rw [if_pos g, g, hn, List.getElem?_append_right (Nat.le_refl _), Nat.sub_self]; rfl
    · rw [if_neg g, b6 i hi]
      rcases Nat.lt_or_ge i es.length with g2 | g2
      · rw [List.getElem?_append_left g2]
      · rw [List.getElem?_eq_none g2, List.getElem?_eq_none (by simp; omega)]
  · rw [List.nodup_append]
    refine ⟨b8, by simp, fun a ha b hb => ?_⟩
    rw [List.mem_singleton.mp hb]
    exact fun g => hne (by rw [← g]; exact ha)
  · rcases List.mem_append.mp hf with g | g
    · obtain ⟨f0, k1, k2, k3, k4⟩ := b9 f g
      obtain ⟨u1, u2, u3⟩ := sm f (lt f (by omega))
      have u3 := u3 (fun g => by rw [g, b3] at k1; cases k1)
      refine ⟨f0, ?_⟩
      unfold cKo
      rw [u1, u3]
      exact ⟨k1, k2, pw _ _ _ k3, pw _ _ _ k4⟩
    · rw [List.mem_singleton.mp g]; exact ⟨e0, he⟩
theorem pls.old {h' : zH} {a k : Nat} {b : Bool} {l : List Int32} (x : pls h a b l) (wf : zWf h) (h27 : zt h k = 27) (sm : ∀ a, a < zn h → zt h' a = zt h a ∧ zl h' a = zl h a ∧ zi h' a = zi h a ∧ (a ≠ k → za h' a = za h a)) : pls h' a b l := by
  obtain ⟨a1, a2, a3, a4, a5, a6, a7⟩ := x
  obtain ⟨u1, u2, u3, u4⟩ := sm a (wf a (by omega)).2
  obtain ⟨w1, w2, w3, w4⟩ := sm (za h a 3) (wf _ (by omega)).2
  have u4 := u4 (fun g => by rw [g, h27] at a1; cases a1)
  unfold pls
  rw [u1, u3, u4, w1, w2]
  exact ⟨a1, a2, a3, a4, a5, a6, fun i x hx => by rw [w3]; exact a7 i x hx⟩
set_option maxRecDepth 4000 in
theorem k_Card_keep (hG : zOK G) (x : cBd h c es) (y : cKm h c es fl K) {s : Nat} (hs : s < 128) (k0 : (K s).1 = 0) (bk : Bool) {kd : Int32} (hkd : kd ≠ 0) (hk2 : kd = 2 ∨ kd = 3 → bk = decide (kd = 3)) {w q : Nat} {lw lq : List Int32} (pw : pls h w (fl s) lw) (pq : pls h q (fl s) lq) (fw : cFg h c w) (fq : cFg h c q) (hn : zn h + 6 ≤ g0 G + 603072) (hsl : zs h + 28 ≤ 7211114) :
    zJ G 4 m_Card_keep 0 [some (zA c), some (zI (nI s)), some (zI (tb bk)), some (zA w), some (zA q), none] [] h (fun o h' => o = zR0 ∧ ∃ es', cBd h' c es' ∧ cKm h' c es' fl (zw K s (kd, lw, lq)) ∧ cGr c h h' 5 24 ∧ cCc c h h') := by
  refine zj_wf hG (fun wf => ?_)
  have x0 := x
  obtain ⟨b1, b2, b3, b4, b5, b6, b7, b8, b9, b10, b11⟩ := x
  have y0 := y
  obtain ⟨ss, m1, m2, m3, m4, m5, m6⟩ := y
  have sno : s ∉ ss := fun g => (m4 s g).2 k0
  have h127 : ss.length < 128 := by
    have := nd_bound 128 (s :: ss) (List.nodup_cons.mpr ⟨sno, m3⟩) (fun t ht => by
      rcases List.mem_cons.mp ht with g | g
      · rw [g]; exact hs
      · exact (m4 t g).1)
    simp at this; omega
  refine zj_aload_n hG d_Card_keep_0 rfl rfl ?_
  refine zj_getA hG d_Card_keep_1 f_Card_24 (by assumption) rfl ?_
  refine zj_aload_n hG d_Card_keep_4 rfl rfl ?_
  refine zj_getI hG d_Card_keep_5 f_Card_38 (by assumption) rfl ?_
  rw [m1]
  refine zj_aald hG d_Card_keep_8 b3 (by decide) (by decide) (by rw [b4]; exact nI_in' h127 (by decide)) ?_
  rw [nI_clamp (by omega), b6 _ h127]
  by_cases hlt : ss.length < es.length
  · -- an entry stands there
    rw [List.getElem?_eq_getElem hlt]
    have e0 := (b9 _ (List.getElem_mem hlt)).1
    refine zj_ifnonnull (tgt := 28) hG d_Card_keep_9 (by decide) (fun _ => ?_) (fun c => absurd c e0)
    refine ((keep_tail hG x0 y0 hs k0 bk hkd hk2 pw pq fw fq ⟨ss, m1, hlt, m3, m4, m5, m6⟩).more (by omega)).mono ?_
    rintro o h' ⟨q1, q2, q3, q4⟩
    obtain ⟨f1, f2, f3⟩ := q2.fr
    exact ⟨q1, es, q3, q4, ⟨f1, by omega, by omega, by omega, by omega⟩, q2.cc⟩
  · have hl : es.length = ss.length := by omega
    rw [List.getElem?_eq_none (by omega)]
    refine zj_ifnonnull (tgt := 28) hG d_Card_keep_9 (by decide) (fun c => absurd rfl c) (fun _ => ?_)
    have ck : c ≠ za h c 2 := fun g => by rw [← g, b1] at b3; cases b3
    have cl : c < zn h := (wf c (by omega)).2
    have kl : za h c 2 < zn h := (wf _ (by omega)).2
    refine zj_aload_n hG d_Card_keep_12 rfl rfl ?_
    refine zj_getA hG d_Card_keep_13 f_Card_24 (by assumption) rfl ?_
    refine zj_aload_n hG d_Card_keep_16 rfl rfl ?_
    refine zj_getI hG d_Card_keep_17 f_Card_38 (by assumption) rfl ?_
    rw [m1]
    refine zj_new (k := 10) hG d_Card_keep_20 (z_w1 89 rfl) (z_w1 28 rfl) (by decide) (by decide) (by omega) (by show zs h + 4 ≤ _; omega) ?_
    refine zj_dup hG d_Card_keep_23 (by first | exact zc_A _ | rfl) ?_
    refine zj_wf hG (fun wf0 => ?_)
    have e10 : zt (znew h 10 (zN 10) 0) (zn h) = 10 := by show zw (zt h) (zn h) 10 (zn h) = 10; rw [zw_s]
    have e0 := (wf0 (zn h) (by rw [e10]; decide)).1
    refine zj_callP (y' := m_Kept_init) hG (zcIN (as := []) hG d_Card_keep_24 rfl (z_w4 122 rfl) (z_w4 123 rfl) (z_w4 124 rfl) ⟨by decide, by decide⟩ e0 (show _ = some 0 from by decide +kernel) rfl) c_Kept_init rfl (by omega) rfl (z_le rfl) (z_le rfl) (k_Kept_init hG e0 e10 (by show zn h < zn h + 1; omega) (by show zn h + 1 + 5 ≤ _; omega) (by show zs h + 4 + 24 ≤ _; omega)) (fun h24 e24 => ?_)
    obtain ⟨g1, ⟨g2a, g2b, g2c, g2d, g2e⟩, g3, g4, ⟨g5a, g5b, g5c, g5d⟩, ⟨g6a, g6b, g6c, g6d⟩, g7, g8⟩ := e24
    have g3 : za h24 (zn h) 2 = zn h + 1 := g3
    have g4 : za h24 (zn h) 3 = zn h + 1 + 2 := g4
    have g5a : zt h24 (zn h + 1) = 6 := g5a
    have g5b : za h24 (zn h + 1) 3 = zn h + 1 + 1 := g5b
    have g5c : zt h24 (zn h + 1 + 1) = 21 := g5c
    have g5d : zl h24 (zn h + 1 + 1) = 6 := g5d
    have g6a : zt h24 (zn h + 1 + 2) = 6 := g6a
    have g6b : za h24 (zn h + 1 + 2) 3 = zn h + 1 + 3 := g6b
    have g6c : zt h24 (zn h + 1 + 3) = 21 := g6c
    have g6d : zl h24 (zn h + 1 + 3) = 6 := g6d
    have g7 : zn h24 = zn h + 1 + 4 := g7
    have g8 : zs h24 = zs h + 4 + 20 := g8
    have g2a : zt h24 (zn h) = 10 := by rw [g2a]; exact e10
    -- the old cells
    have old : ∀ a, a < zn h → cSm h h24 a := fun a ha => by
      have s1 : cSm h (znew h 10 (zN 10) 0) a := by
        have f1 : a ≠ zn h := by omega
        refine ⟨?_, ?_, ?_, ?_, ?_⟩
        · exact zw_n f1
        · exact zw_n f1
        · exact zw_n f1
        · exact zw_n f1
        · exact zw_n f1
      exact s1.trans (g1 a (by show a < zn h + 1; omega) (by omega))
    -- whose they are
    refine zj_ghosts (A := fun a j => if j = 1000 ∧ zn h ≤ a ∧ a ≤ zn h + 4 then c else if j = 1001 ∧ (a = zn h + 1 ∨ a = zn h + 3) then zn h else if j = 1001 ∧ a = zn h + 2 then zn h + 1 else if j = 1001 ∧ a = zn h + 4 then zn h + 3 else if j = 1002 ∧ a = zn h + 1 then 2 else if j = 1002 ∧ a = zn h + 3 then 3 else za h24 a j) (fun a => ?_) ?_
    · by_cases hin : zn h ≤ a ∧ a ≤ zn h + 4
      · right
        refine ⟨?_, fun j hj => ?_⟩
        · rcases (show a = zn h ∨ a = zn h + 1 ∨ a = zn h + 1 + 1 ∨ a = zn h + 1 + 2 ∨ a = zn h + 1 + 3 by omega) with g | g | g | g | g <;> rw [g]
          · rw [g2a]; decide
          · rw [g5a]; decide
          · rw [g5c]; decide
          · rw [g6a]; decide
          · rw [g6c]; decide
        · show (if _ then _ else _) = _
          rw [if_neg (by omega), if_neg (by omega), if_neg (by omega), if_neg (by omega), if_neg (by omega), if_neg (by omega)]
      · left
        funext j
        show (if _ then _ else _) = _
        rw [if_neg (by omega), if_neg (by omega), if_neg (by omega), if_neg (by omega), if_neg (by omega), if_neg (by omega)]
    generalize hA : (fun a j => if j = 1000 ∧ zn h ≤ a ∧ a ≤ zn h + 4 then c else if j = 1001 ∧ (a = zn h + 1 ∨ a = zn h + 3) then zn h else if j = 1001 ∧ a = zn h + 2 then zn h + 1 else if j = 1001 ∧ a = zn h + 4 then zn h + 3 else if j = 1002 ∧ a = zn h + 1 then 2 else if j = 1002 ∧ a = zn h + 3 then 3 else za h24 a j) = A
    have Av : ∀ a j, A a j = if j = 1000 ∧ zn h ≤ a ∧ a ≤ zn h + 4 then c else if j = 1001 ∧ (a = zn h + 1 ∨ a = zn h + 3) then zn h else if j = 1001 ∧ a = zn h + 2 then zn h + 1 else if j = 1001 ∧ a = zn h + 4 then zn h + 3 else if j = 1002 ∧ a = zn h + 1 then 2 else if j = 1002 ∧ a = zn h + 3 then 3 else za h24 a j := fun a j => by rw [← hA]
    have Ao : ∀ a, a < zn h → A a = za h a := fun a ha => by
      funext j
      rw [Av, if_neg (by omega), if_neg (by omega), if_neg (by omega), if_neg (by omega), if_neg (by omega), if_neg (by omega), (old a ha).2.2.2.1]
    have As : ∀ a j, j < 1000 → A a j = za h24 a j := fun a j hj => by
      rw [Av, if_neg (by omega), if_neg (by omega), if_neg (by omega), if_neg (by omega), if_neg (by omega), if_neg (by omega)]
    have kt : zt (cSa h24 A) (za h c 2) = 27 := by rw [show zt (cSa h24 A) = zt h24 from rfl, (old _ kl).1]; exact b3
    have kz : zl (cSa h24 A) (za h c 2) = 128 := by rw [show zl (cSa h24 A) = zl h24 from rfl, (old _ kl).2.1]; exact b4
    refine zj_aast hG d_Card_keep_27 kt (by decide) (by decide) (by rw [kz]; exact nI_in' h127 (by decide)) (show zt (cSa h24 A) (zn h) = 10 from g2a) (by decide) (by decide) rfl ?_
    rw [nI_clamp (by omega)]
    have Ak : ∀ a, a ≠ za h c 2 → zu A (za h c 2) ss.length (zn h) a = A a := fun a g => by funext j; exact zu_a g
    have nk : ∀ i, zn h + i ≠ za h c 2 := fun i => by omega
    have ko : cKo (cSa h24 (zu A (za h c 2) ss.length (zn h))) c (zn h) := by
      have z2 : za (cSa h24 (zu A (za h c 2) ss.length (zn h))) (zn h) 2 = zn h + 1 := by show zu A (za h c 2) ss.length (zn h) (zn h) 2 = _; rw [Ak (zn h) (nk 0), As (zn h) 2 (by omega), g3]
      have z3 : za (cSa h24 (zu A (za h c 2) ss.length (zn h))) (zn h) 3 = zn h + 1 + 2 := by show zu A (za h c 2) ss.length (zn h) (zn h) 3 = _; rw [Ak (zn h) (nk 0), As (zn h) 3 (by omega), g4]
      have y2 : za (cSa h24 (zu A (za h c 2) ss.length (zn h))) (zn h + 1) 3 = zn h + 1 + 1 := by show zu A (za h c 2) ss.length (zn h) (zn h + 1) 3 = _; rw [Ak (zn h + 1) (nk 1), As _ 3 (by omega), g5b]
      have y3 : za (cSa h24 (zu A (za h c 2) ss.length (zn h))) (zn h + 1 + 2) 3 = zn h + 1 + 3 := by show zu A (za h c 2) ss.length (zn h) (zn h + 1 + 2) 3 = _; rw [Ak (zn h + 1 + 2) (nk 3), As _ 3 (by omega), g6b]
      have av : ∀ i j, za (cSa h24 (zu A (za h c 2) ss.length (zn h))) (zn h + i) j = A (zn h + i) j := fun i j => by show zu A (za h c 2) ss.length (zn h) (zn h + i) j = _; rw [Ak _ (nk i)]
      unfold cKo cPw
      rw [z2, z3, y2, y3]
      refine ⟨g2a, ?_, ⟨g5a, ?_, ?_, ?_, g5c, g5d, ?_, ?_⟩, g6a, ?_, ?_, ?_, g6c, g6d, ?_, ?_⟩
      · exact (av 0 1000).trans (by rw [Av, if_pos (by omega)])
      · exact (av 1 1000).trans (by rw [Av, if_pos (by omega)])
      · exact (av 1 1001).trans (by rw [Av, if_neg (by omega), if_pos (by omega)])
      · exact (av 1 1002).trans (by rw [Av, if_neg (by omega), if_neg (by omega), if_neg (by omega), if_neg (by omega), if_pos (by omega)])
      · exact (av 2 1000).trans (by rw [Av, if_pos (by omega)])
      · exact (av 2 1001).trans (by rw [Av, if_neg (by omega), if_neg (by omega), if_pos (by omega)])
      · exact (av 3 1000).trans (by rw [Av, if_pos (by omega)])
      · exact (av 3 1001).trans (by rw [Av, if_neg (by omega), if_pos (by omega)])
      · exact (av 3 1002).trans (by rw [Av, if_neg (by omega), if_neg (by omega), if_neg (by omega), if_neg (by omega), if_neg (by omega), if_pos (by omega)])
      · exact (av 4 1000).trans (by rw [Av, if_pos (by omega)])
      · exact (av 4 1001).trans (by rw [Av, if_neg (by omega), if_neg (by omega), if_neg (by omega), if_pos (by omega)])
    have sm : ∀ a, a < zn h → zt (cSa h24 (zu A (za h c 2) ss.length (zn h))) a = zt h a ∧ zl (cSa h24 (zu A (za h c 2) ss.length (zn h))) a = zl h a ∧ zi (cSa h24 (zu A (za h c 2) ss.length (zn h))) a = zi h a ∧ (a ≠ za h c 2 → za (cSa h24 (zu A (za h c 2) ss.length (zn h))) a = za h a) := fun a ha => ⟨(old a ha).1, (old a ha).2.1, (old a ha).2.2.1, fun g => (Ak a g).trans (Ao a ha)⟩
    have ene : zn h ∉ es := fun g => by have := (wf _ (show zt h (zn h) ≠ 0 by have := (b9 _ g).2.1; omega)).2; omega
    have bd := x0.ext wf hl.symm (by omega) e0 ko ene (fun a ha => ⟨(sm a ha).1, (sm a ha).2.1, (sm a ha).2.2.2⟩) (fun j => by
      show zu A (za h c 2) ss.length (zn h) (za h c 2) j = _
      by_cases g : j = ss.length
      · rw [if_pos g, g, zu_s]
      · rw [if_neg g, zu_k g, Ao _ kl])
    have tr : ∀ p, zt h p ≠ 0 → p ≠ za h c 2 → za (cSa h24 (zu A (za h c 2) ss.length (zn h))) p = za h p := fun p g1 g2 => (sm p (wf p g1).2).2.2.2 g2
    have pl : ∀ (p : Nat) (b : Bool) (l : List Int32), pls h p b l → pls (cSa h24 (zu A (za h c 2) ss.length (zn h))) p b l := fun p b l g => g.old wf b3 sm
    have cpw : ∀ q t p, cPw h c q t p → cPw (cSa h24 (zu A (za h c 2) ss.length (zn h))) c q t p := by
      intro q t p z
      obtain ⟨a1, a2, a3, a4, a5, a6, a7, a8⟩ := z
      have u3 := tr p (by omega) (fun g => by rw [g, b3] at a1; cases a1)
      have w3 := tr (za h p 3) (by omega) (fun g => by rw [g, b3] at a5; cases a5)
      obtain ⟨u1, u2, _⟩ := sm p (wf p (by omega)).2
      obtain ⟨w1, w2, _⟩ := sm (za h p 3) (wf _ (by omega)).2
      unfold cPw
      rw [u1, u3, w1, w2, w3]
      exact ⟨a1, a2, a3, a4, a5, a6, a7, a8⟩
    have fg : ∀ (p : Nat) (b : Bool) (l : List Int32), pls h p b l → cFg h c p → cFg (cSa h24 (zu A (za h c 2) ss.length (zn h))) c p := by
      intro p b l hp hf
      have u3 := tr p (by have := hp.1; omega) (fun g => by have := hp.1; rw [g, b3] at this; cases this)
      have w3 := tr (za h p 3) (by have := hp.2.1; omega) (fun g => by have := hp.2.1; rw [g, b3] at this; cases this)
      rcases hf with ⟨f1, f2⟩ | f | f
      · left; rw [u3, w3]; exact ⟨f1, f2⟩
      · right; left; exact cpw _ _ _ f
      · right; right; exact cpw _ _ _ f
    have hci : zi (cSa h24 (zu A (za h c 2) ss.length (zn h))) c 3 = nI ss.length := by rw [(sm c cl).2.2.1]; exact m1
    have hent : ∀ (i t : Nat), ss[i]? = some t → ∃ e, (es ++ [zn h])[i]? = some e ∧ zi (cSa h24 (zu A (za h c 2) ss.length (zn h))) e 0 = nI t ∧ cKd (cSa h24 (zu A (za h c 2) ss.length (zn h))) e (fl t) (K t) := by
      intro i t hi
      obtain ⟨e', u1, u2, u3⟩ := m6 i t hi
      have em' := List.mem_of_getElem? u1
      obtain ⟨_, v1, v2, v3, v4⟩ := b9 e' em'
      have el := (wf e' (by omega)).2
      have z1 := (sm e' el).2.2.1
      have z2 := tr e' (by omega) (fun g => by rw [g, b3] at v1; cases v1)
      refine ⟨e', ?_, by rw [z1]; exact u2, ?_⟩
      · rw [List.getElem?_append_left (by
          rcases Nat.lt_or_ge i es.length with g | g
          · exact g
          · rw [List.getElem?_eq_none g] at u1; cases u1)]
        exact u1
      · unfold cKd
        rw [z1, z2]
        exact ⟨pl _ _ _ u3.1, fun g => ⟨(u3.2 g).1, pl _ _ _ (u3.2 g).2⟩⟩
    have km' : cKm (cSa h24 (zu A (za h c 2) ss.length (zn h))) c (es ++ [zn h]) fl K := ⟨ss, hci, by simp; omega, m3, m4, m5, hent⟩
    refine ((keep_tail hG bd km' hs k0 bk hkd hk2 (pl _ _ _ pw) (pl _ _ _ pq) (fg _ _ _ pw fw) (fg _ _ _ pq fq) ⟨ss, hci, by simp; omega, m3, m4, m5, hent⟩).more (by omega)).mono ?_
    rintro o h' ⟨q1, q2, q3, q4⟩
    obtain ⟨f1, f2, f3⟩ := q2.fr
    have f2 : zn h' = zn h24 := f2
    have f3 : zs h' = zs h24 := f3
    refine ⟨q1, es ++ [zn h], q3, q4, ⟨fun a ha hb => ?_, by omega, by omega, by omega, by omega⟩, cCc.trans ⟨(sm c cl).2.2.2 ck, by rw [(sm c cl).2.2.1]⟩ q2.cc⟩
    have al := (wf a ha).2
    have ak : a ≠ za h c 2 := fun g => hb (by rw [g]; exact b5)
    have s1 : cSm h (cSa h24 (zu A (za h c 2) ss.length (zn h))) a := ⟨(sm a al).1, (sm a al).2.1, (sm a al).2.2.1, (sm a al).2.2.2 ak, (old a al).2.2.2.2⟩
    exact s1.trans (f1 a (by rw [s1.1]; exact ha) (by rw [s1.2.2.2.1]; exact hb))
end CD4
