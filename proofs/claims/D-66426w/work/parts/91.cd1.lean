/-! PART 91: the component: cards, what is kept (what they are; take) -/
/-- a place p of the card c that hangs in q -/
def cPw (h : zH) (c q t p : Nat) : Prop := zt h p = 6 ∧ za h p 1000 = c ∧ za h p 1001 = q ∧ za h p 1002 = t ∧ zt h (za h p 3) = 21 ∧ zl h (za h p 3) = 6 ∧ za h (za h p 3) 1000 = c ∧ za h (za h p 3) 1001 = p
/-- a kept entry -/
def cKo (h : zH) (c e : Nat) : Prop := zt h e = 10 ∧ za h e 1000 = c ∧ cPw h c e 2 (za h e 2) ∧ cPw h c e 3 (za h e 3)
/-- the card's body: the entries that were made -/
def cBd (h : zH) (c : Nat) (es : List Nat) : Prop := zt h c = 9 ∧ za h c 1000 = c ∧ zt h (za h c 2) = 27 ∧ zl h (za h c 2) = 128 ∧ za h (za h c 2) 1000 = c ∧ (∀ i, i < 128 → za h (za h c 2) i = (es[i]?).getD 0) ∧ es.length ≤ 128 ∧ es.Nodup ∧ (∀ e ∈ es, e ≠ 0 ∧ cKo h c e) ∧ cPw h c c 4 (za h c 4) ∧ cPw h c c 5 (za h c 5)
/-- what an entry says -/
def cKd (h : zH) (e : Nat) (b : Bool) (k : tK) : Prop := pls h (za h e 2) b k.2.1 ∧ (k.1 = 2 ∨ k.1 = 3 → zi h e 1 = tb (decide (k.1 = 3)) ∧ pls h (za h e 3) b k.2.2)
/-- the entries hold the map K -/
def cKm (h : zH) (c : Nat) (es : List Nat) (fl : Nat → Bool) (K : Nat → tK) : Prop := ∃ ss : List Nat, zi h c 3 = nI ss.length ∧ ss.length ≤ es.length ∧ ss.Nodup ∧ (∀ s ∈ ss, s < 128 ∧ (K s).1 ≠ 0) ∧ (∀ s, s < 128 → (K s).1 ≠ 0 → s ∈ ss) ∧ ∀ (i s : Nat), ss[i]? = some s → ∃ e, es[i]? = some e ∧ zi h e 0 = nI s ∧ cKd h e (fl s) (K s)
theorem dl_erase {α : Type} {l : List α} {k : Nat} {z : α} (hk : k < l.length) (hz : l.getLast? = some z) : ((l.set k z).dropLast).Perm (l.eraseIdx k) := by
  have hne : l ≠ [] := by intro e; rw [e] at hk; simp at hk
  obtain ⟨t, y, rfl⟩ : ∃ t y, l = t ++ [y] := ⟨l.dropLast, l.getLast hne, (List.dropLast_concat_getLast hne).symm⟩
  have : y = z := by simpa using hz
  subst this
  by_cases hk' : k < t.length
  · rw [List.set_append_left _ _ hk', List.dropLast_concat, List.eraseIdx_append_of_lt_length hk', List.set_eq_take_append_cons_drop, if_pos hk', List.eraseIdx_eq_take_drop_succ, List.append_assoc]
    refine List.Perm.append_left _ ?_
    exact (List.perm_append_singleton y _).symm
  · have e : k = t.length := by simp at hk; omega
    subst e
    rw [List.set_append_right _ _ (Nat.le_refl _), Nat.sub_self]
    simp only [List.set_cons_zero, List.dropLast_concat]
    rw [List.eraseIdx_append_of_length_le (Nat.le_refl _)]
    simp
section CD1
variable {G : zG} {h : zH} {c : Nat} {es : List Nat} {fl : Nat → Bool} {K : Nat → tK}
theorem cPw.sm {h' : zH} {q t p : Nat} (x : cPw h c q t p) (e : ∀ a, zt h a ≠ 0 → za h a 1000 = c → zt h' a = zt h a ∧ zl h' a = zl h a ∧ za h' a = za h a) : cPw h' c q t p := by
  obtain ⟨a1, a2, a3, a4, a5, a6, a7, a8⟩ := x
  obtain ⟨u1, u2, u3⟩ := e p (by omega) a2
  obtain ⟨w1, w2, w3⟩ := e (za h p 3) (by omega) a7
  unfold cPw
  rw [u1, u3, w1, w2, w3]
  exact ⟨a1, a2, a3, a4, a5, a6, a7, a8⟩
set_option maxRecDepth 4000 in
/-- the search -/
theorem k_Card_takeL (hG : zOK G) (x : cBd h c es) {ss : List Nat} (hm : zi h c 3 = nI ss.length) (hle : ss.length ≤ es.length) (hk : ∀ (i s : Nat), ss[i]? = some s → ∃ e, es[i]? = some e ∧ zi h e 0 = nI s) (h128 : ∀ s ∈ ss, s < 128) {s : Nat} (hs : s < 128) {Q : zO → zH → Prop}
    (nx : zJ G 0 m_Card_take 29 [some (zA c), some (zI (nI s)), some (zI (nI (ss.findIdx (fun x => decide (x = s))))), none] [] h Q) : ∀ (m n : Nat), n + m = ss.length → (∀ (j x : Nat), j < n → ss[j]? = some x → x ≠ s) →
    zJ G 0 m_Card_take 2 [some (zA c), some (zI (nI s)), some (zI (nI n)), none] [] h Q := by
  obtain ⟨b1, b2, b3, b4, b5, b6, b7, b8, b9, b10, b11⟩ := x
  intro m
  induction m with
  | zero =>
    intro n hn hno
    have : n = ss.length := by omega
    subst this
    have e : ss.findIdx (fun x => decide (x = s)) = ss.length := by
      apply List.findIdx_eq_length.mpr
      intro x hx
      obtain ⟨j, hj, rfl⟩ := List.mem_iff_getElem.mp hx
      exact decide_eq_false (hno j _ hj (List.getElem?_eq_getElem hj))
    rw [e] at nx
    refine zj_iload_n hG d_Card_take_2 rfl rfl ?_
    refine zj_aload_n hG d_Card_take_3 rfl rfl ?_
    refine zj_getI hG d_Card_take_4 f_Card_38 (by assumption) rfl ?_
    rw [hm]
    refine zj_icmp_ge (tgt := 29) hG d_Card_take_7 (by decide) (fun _ => ?_) (fun c => absurd (Int32.le_refl _) c)
    exact nx
  | succ m ih =>
    intro n hn hno
    have hnl : n < ss.length := by omega
    obtain ⟨e, he, hke⟩ := hk n ss[n] (List.getElem?_eq_getElem hnl)
    have hem : e ∈ es := List.mem_of_getElem? he
    have e10 := (b9 e hem).2.1
    have va : za h (za h c 2) n = e := by rw [b6 n (by omega), he]; rfl
    have hs1 : ss[n] < 128 := h128 _ (List.getElem_mem hnl)
    refine zj_iload_n hG d_Card_take_2 rfl rfl ?_
    refine zj_aload_n hG d_Card_take_3 rfl rfl ?_
    refine zj_getI hG d_Card_take_4 f_Card_38 (by assumption) rfl ?_
    rw [hm]
    refine zj_icmp_ge (tgt := 29) hG d_Card_take_7 (by decide) (fun c => absurd c (nI_ge hnl (by omega))) (fun _ => ?_)
    refine zj_aload_n hG d_Card_take_10 rfl rfl ?_
    refine zj_getA hG d_Card_take_11 f_Card_24 (by assumption) rfl ?_
    refine zj_iload_n hG d_Card_take_14 rfl rfl ?_
    refine zj_aald hG d_Card_take_15 b3 (by decide) (by decide) (by rw [b4]; exact nI_in' (by omega) (by decide)) ?_
    rw [nI_clamp (by omega), va]
    refine zj_getI hG d_Card_take_16 f_Card_80 (by assumption) rfl ?_
    refine zj_iload_n hG d_Card_take_19 rfl rfl ?_
    rw [hke]
    by_cases c20 : ss[n] = s
    · refine zj_icmp_eq (tgt := 29) hG d_Card_take_20 (by decide) (fun _ => ?_) (fun c => absurd (by rw [c20]) c)
      have e2 : ss.findIdx (fun x => decide (x = s)) = n := by
        rw [List.findIdx_eq hnl]
        refine ⟨decide_eq_true c20, fun j hj => decide_eq_false (hno j _ hj (List.getElem?_eq_getElem (by omega)))⟩
      rw [e2] at nx
      exact nx
    · refine zj_icmp_eq (tgt := 29) hG d_Card_take_20 (by decide) (fun c => absurd c (fun g => c20 (nI_inj (by omega) (by omega) g))) (fun _ => ?_)
      refine zj_iinc hG d_Card_take_23 rfl (nI_1 n) (by decide) rfl rfl ?_
      refine zj_goto (tgt := 2) hG d_Card_take_26 (by decide) ?_
      refine ih (n + 1) (by omega) (fun j x hj hx => ?_)
      by_cases ej : j = n
      · subst ej
        rw [List.getElem?_eq_getElem hnl] at hx
        rw [← Option.some.inj hx]; exact c20
      · exact hno j x (by omega) hx
/-- only the card's counter and the order of its entries have changed -/
def cTk (h : zH) (c : Nat) (h' : zH) : Prop := zn h' = zn h ∧ zs h' = zs h ∧ zt h' = zt h ∧ zl h' = zl h ∧ zj h' = zj h ∧ (∀ a, a ≠ c → zi h' a = zi h a) ∧ (∀ j, j ≠ 3 → zi h' c j = zi h c j) ∧ (∀ a, a ≠ za h c 2 → za h' a = za h a) ∧ ∀ j, 128 ≤ j → za h' (za h c 2) j = za h (za h c 2) j
theorem cTk.rfl' : cTk h c h := ⟨rfl, rfl, rfl, rfl, rfl, fun _ _ => rfl, fun _ _ => rfl, fun _ _ => rfl, fun _ _ => rfl⟩
theorem pls.of {h' : zH} {a : Nat} {b : Bool} {l : List Int32} (x : pls h a b l) (t : zt h' = zt h) (tl : zl h' = zl h) (e1 : zi h' a = zi h a) (e2 : za h' a = za h a) (e3 : zi h' (za h a 3) = zi h (za h a 3)) : pls h' a b l := by
  obtain ⟨a1, a2, a3, a4, a5, a6, a7⟩ := x
  unfold pls
  rw [t, tl, e1, e2]
  refine ⟨a1, a2, a3, a4, a5, a6, fun i x hx => ?_⟩
  rw [e3]; exact a7 i x hx
theorem pls.tk {h' : zH} {a : Nat} {b : Bool} {l : List Int32} (x : pls h a b l) (y : cTk h c h') (hc : zt h c = 9) (h2 : zt h (za h c 2) = 27) : pls h' a b l := by
  obtain ⟨y1, y2, y3, y4, y5, y6, y7, y8, y9⟩ := y
  have a1 := x.1
  have a2 := x.2.1
  exact x.of y3 y4 (y6 a (fun e => by rw [e, hc] at a1; cases a1)) (y8 a (fun e => by rw [e, h2] at a1; cases a1)) (y6 _ (fun e => by rw [e, hc] at a2; cases a2))
theorem cKd.tk {h' : zH} {e : Nat} {b : Bool} {k : tK} (x : cKd h e b k) (he : zt h e = 10) (y : cTk h c h') (hc : zt h c = 9) (h2 : zt h (za h c 2) = 27) : cKd h' e b k := by
  have y0 := y
  obtain ⟨y1, y2, y3, y4, y5, y6, y7, y8, y9⟩ := y
  have e1 : zi h' e = zi h e := y6 e (fun g => by rw [g, hc] at he; cases he)
  have e2 : za h' e = za h e := y8 e (fun g => by rw [g, h2] at he; cases he)
  unfold cKd
  rw [e1, e2]
  exact ⟨x.1.tk y0 hc h2, fun g => ⟨(x.2 g).1, (x.2 g).2.tk y0 hc h2⟩⟩
theorem cBd.tk {h' : zH} {es' : List Nat} (x : cBd h c es) (y : cTk h c h') (hp : es'.Perm es) (ha : ∀ i, i < 128 → za h' (za h c 2) i = (es'[i]?).getD 0) : cBd h' c es' := by
  obtain ⟨b1, b2, b3, b4, b5, b6, b7, b8, b9, b10, b11⟩ := x
  obtain ⟨y1, y2, y3, y4, y5, y6, y7, y8, y9⟩ := y
  have ec : za h' c = za h c := y8 c (fun e => by rw [← e, b1] at b3; cases b3)
  have sm : ∀ a, a ≠ za h c 2 → zt h' a = zt h a ∧ zl h' a = zl h a ∧ za h' a = za h a := fun a e => ⟨by rw [y3], by rw [y4], y8 a e⟩
  have pw : ∀ q t p, cPw h c q t p → cPw h' c q t p := by
    intro q t p z
    obtain ⟨a1, a2, a3, a4, a5, a6, a7, a8⟩ := z
    obtain ⟨u1, u2, u3⟩ := sm p (fun e => by rw [e, b3] at a1; cases a1)
    obtain ⟨w1, w2, w3⟩ := sm (za h p 3) (fun e => by rw [e, b3] at a5; cases a5)
    unfold cPw
    rw [u1, u3, w1, w2, w3]
    exact ⟨a1, a2, a3, a4, a5, a6, a7, a8⟩
  unfold cBd
  rw [ec, y3, y4, y9 1000 (by omega)]
  refine ⟨b1, b2, b3, b4, b5, ha, by rw [hp.length_eq]; exact b7, hp.nodup_iff.mpr b8, fun e he => ?_, pw _ _ _ b10, pw _ _ _ b11⟩
  obtain ⟨e0, k1, k2, k3, k4⟩ := b9 e (hp.mem_iff.mp he)
  have ee : za h' e = za h e := y8 e (fun g => by rw [g, b3] at k1; cases k1)
  refine ⟨e0, ?_⟩
  unfold cKo
  rw [ee, y3]
  exact ⟨k1, k2, pw _ _ _ k3, pw _ _ _ k4⟩
end CD1
