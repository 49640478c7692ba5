/-! PART 86: the component: places -/
/-- numbers in an array -/
def cAr (h : zH) (a : Nat) (l : List Int32) : Prop := ∀ (i : Nat) (x : Int32), l[i]? = some x → zi h a i = x
/-- a place holds a number, or a list -/
def pls (h : zH) (a : Nat) (b : Bool) (l : List Int32) : Prop := zt h a = 6 ∧ zt h (za h a 3) = 21 ∧ zl h (za h a 3) = 6 ∧ zi h a 1 = tb b ∧ zi h a 2 = nI l.length ∧ l.length ≤ 6 ∧ cAr h (za h a 3) l
abbrev cSi (h : zH) (I : Nat → Nat → Int32) : zH := (zn h, zs h, zt h, zl h, I, za h, zj h)
/-- only a place's numbers have changed -/
def cPc (h : zH) (a : Nat) (h' : zH) : Prop := ∃ I, h' = cSi h I ∧ (∀ c, c ≠ a → c ≠ za h a 3 → I c = zi h c) ∧ ∀ j, j ≠ 1 → j ≠ 2 → I a j = zi h a j
section PC1
variable {G : zG} {h : zH} {a : Nat} {b : Bool} {l : List Int32}
theorem pls.ne (x : pls h a b l) : za h a 3 ≠ a := fun e => by have := x.2.1; rw [e, x.1] at this; cases this
theorem cPc.rfl' : cPc h a h := ⟨zi h, rfl, fun _ _ _ => rfl, fun _ _ _ => rfl⟩
theorem cPc.trans {h1 h2 : zH} (x : cPc h a h1) (y : cPc h1 a h2) : cPc h a h2 := by
  obtain ⟨I, rfl, x1, x2⟩ := x
  obtain ⟨J, rfl, y1, y2⟩ := y
  exact ⟨J, rfl, fun c e f => (y1 c e f).trans (x1 c e f), fun j e f => (y2 j e f).trans (x2 j e f)⟩
/-- another place is as it was -/
theorem pls.pc {h' : zH} {c : Nat} {b' : Bool} {l' : List Int32} (x : pls h c b' l') (y : cPc h a h') (h1 : c ≠ a) (h2 : c ≠ za h a 3) (h3 : za h c 3 ≠ a) (h4 : za h c 3 ≠ za h a 3) : pls h' c b' l' := by
  obtain ⟨I, rfl, y1, y2⟩ := y
  obtain ⟨a1, a2, a3, a4, a5, a6, a7⟩ := x
  refine ⟨a1, a2, a3, ?_, ?_, a6, fun i x hx => ?_⟩
  · show I c 1 = _; rw [y1 c h1 h2]; exact a4
  · show I c 2 = _; rw [y1 c h1 h2]; exact a5
  · show I (za h c 3) i = x; rw [y1 _ h3 h4]; exact a7 i x hx
theorem k_pl_set (hG : zOK G) (x : pls h a b l) (c : Bool) (v : Int32) : zJ G 0 m_Place_set 0 [some (zA a), some (zI (tb c)), some (zI v)] [] h (fun o h' => o = zR0 ∧ pls h' a c (if c then [] else [v]) ∧ cPc h a h') := by
  have ne := x.ne
  refine (k_Place_set hG x.1 x.2.1 x.2.2.1 c v).mono ?_
  rintro o h' ⟨rfl, rfl⟩
  obtain ⟨a1, a2, a3, a4, a5, a6, a7⟩ := x
  refine ⟨rfl, ⟨a1, a2, a3, ?_, ?_, ?_, ?_⟩, ⟨_, rfl, fun d e f => ?_, fun j e f => ?_⟩⟩
  · unfold cPset; simp [zi, zu, ne, ne.symm]
  · unfold cPset; cases c <;> simp [zi, zu, ne, ne.symm] <;> rfl
  · cases c <;> simp
  · intro i y hy
    cases c
    · simp only [Bool.false_eq_true, if_false] at hy
      cases i with
      | zero => simp at hy; rw [← hy]; unfold cPset; simp [zi, za, zu]
      | succ i => simp at hy
    · simp at hy
  · funext j; simp [zi, zu, e, f]
  · simp [zi, zu, ne, ne.symm, e, f]
theorem pls.in (x : pls h a b l) {i : Nat} (hi : i < 6) : vp_in (nI i) (zl h (za h a 3)) := by rw [x.2.2.1]; exact nI_in' hi (by decide)
set_option maxRecDepth 4000 in
theorem k_Place_copyL (hG : zOK G) {p o : Nat} (hp : zt h p = 6) (hp2 : zt h (za h p 3) = 21) (hp3 : zl h (za h p 3) = 6) (x : pls h o b l) (hne : p ≠ o) (hne2 : za h p 3 ≠ za h o 3) (hne3 : za h p 3 ≠ o) (hne4 : za h o 3 ≠ p) : ∀ (m n : Nat) (I : Nat → Nat → Int32), n + m = l.length → (∀ c, c ≠ p → c ≠ za h p 3 → I c = zi h c) → (∀ j, j ≠ 1 → j ≠ 2 → I p j = zi h p j) → I p 1 = tb b → I p 2 = nI l.length → (∀ i x, i < n → l[i]? = some x → I (za h p 3) i = x) →
    zJ G 0 m_Place_copy 18 [some (zA p), some (zA o), some (zI (nI n))] [] (cSi h I) (fun o' h' => o' = zR0 ∧ pls h' p b l ∧ cPc h p h') := by
  obtain ⟨a1, a2, a3, a4, a5, a6, a7⟩ := x
  have nep : za h p 3 ≠ p := fun e => by rw [e, hp] at hp2; cases hp2
  intro m
  induction m with
  | zero =>
    intro n I hn i1 i2 i3 i4 i5
    have : n = l.length := by omega
    subst this
    have hp' : zt (cSi h I) p = 6 := hp
    refine zj_iload_n hG d_Place_copy_18 rfl rfl ?_
    refine zj_aload_n hG d_Place_copy_19 rfl rfl ?_
    refine zj_getI hG d_Place_copy_20 f_Place_23 (by assumption) rfl ?_
    rw [show zi (cSi h I) p 2 = nI l.length from i4]
    refine zj_icmp_ge (tgt := 44) hG d_Place_copy_23 (by decide) (fun _ => ?_) (fun c => absurd (Int32.le_refl _) c)
    exact zj_vret hG d_Place_copy_44 rfl ⟨rfl, ⟨hp, hp2, hp3, i3, i4, a6, fun i x hx => i5 i x (by rcases Nat.lt_or_ge i l.length with g | g; exact g; rw [List.getElem?_eq_none g] at hx; cases hx) hx⟩, I, rfl, i1, i2⟩
  | succ m ih =>
    intro n I hn i1 i2 i3 i4 i5
    have hnl : n < l.length := by omega
    have hp' : zt (cSi h I) p = 6 := hp
    have ho' : zt (cSi h I) o = 6 := a1
    have ev : I (za h o 3) n = l[n] := by
      rw [i1 _ hne4 hne2.symm]
      exact a7 n _ (List.getElem?_eq_getElem hnl)
    refine zj_iload_n hG d_Place_copy_18 rfl rfl ?_
    refine zj_aload_n hG d_Place_copy_19 rfl rfl ?_
    refine zj_getI hG d_Place_copy_20 f_Place_23 (by assumption) rfl ?_
    rw [show zi (cSi h I) p 2 = nI l.length from i4]
    refine zj_icmp_ge (tgt := 44) hG d_Place_copy_23 (by decide) (fun c => absurd c (nI_ge hnl (by omega))) (fun _ => ?_)
    refine zj_aload_n hG d_Place_copy_26 rfl rfl ?_
    refine zj_getA hG d_Place_copy_27 f_Place_9 (by assumption) rfl ?_
    refine zj_iload_n hG d_Place_copy_30 rfl rfl ?_
    refine zj_aload_n hG d_Place_copy_31 rfl rfl ?_
    refine zj_getA hG d_Place_copy_32 f_Place_9 (by assumption) rfl ?_
    refine zj_iload_n hG d_Place_copy_35 rfl rfl ?_
    refine zj_iald hG d_Place_copy_36 (show zt (cSi h I) (za h o 3) = 21 from a2) (show vp_in (nI n) (zl h (za h o 3)) by rw [a3]; exact nI_in' (by omega) (by decide)) ?_
    rw [show zi (cSi h I) (za h o 3) (nI n).toNatClampNeg = l[n] by rw [nI_clamp (by omega)]; exact ev]
    refine zj_iast hG d_Place_copy_37 (show zt (cSi h I) (za h p 3) = 21 from hp2) (show vp_in (nI n) (zl h (za h p 3)) by rw [hp3]; exact nI_in' (by omega) (by decide)) ?_
    rw [nI_clamp (by omega)]
    refine zj_iinc hG d_Place_copy_38 rfl (nI_1 n) (by decide) rfl rfl ?_
    refine zj_goto (tgt := 18) hG d_Place_copy_41 (by decide) ?_
    refine ih (n + 1) (zu I (za h p 3) n l[n]) (by omega) (fun c e f => ?_) (fun j e f => ?_) ?_ ?_ (fun i x hi hx => ?_)
    · rw [← i1 c e f]; funext j; exact zu_a f
    · rw [zu_a nep.symm]; exact i2 j e f
    · rw [zu_a nep.symm]; exact i3
    · rw [zu_a nep.symm]; exact i4
    · by_cases e : i = n
      · subst e
        rw [zu_s]
        rw [List.getElem?_eq_getElem hnl] at hx
        exact Option.some.inj hx
      · rw [zu_k e]
        exact i5 i x (by omega) hx
theorem k_Place_copy (hG : zOK G) {p o : Nat} (hp : zt h p = 6) (hp2 : zt h (za h p 3) = 21) (hp3 : zl h (za h p 3) = 6) (x : pls h o b l) (hne : p ≠ o) (hne2 : za h p 3 ≠ za h o 3) : zJ G 0 m_Place_copy 0 [some (zA p), some (zA o), none] [] h (fun o' h' => o' = zR0 ∧ pls h' p b l ∧ cPc h p h') := by
  have a1 := x.1
  have a4 := x.2.2.2.1
  have a5 := x.2.2.2.2.1
  have ne1 : za h p 3 ≠ o := fun e => by rw [e, a1] at hp2; cases hp2
  have ne2 : za h o 3 ≠ p := fun e => by have := x.2.1; rw [e, hp] at this; cases this
  have nep : za h p 3 ≠ p := fun e => by rw [e, hp] at hp2; cases hp2
  refine zj_aload_n hG d_Place_copy_0 rfl rfl ?_
  refine zj_aload_n hG d_Place_copy_1 rfl rfl ?_
  refine zj_getI hG d_Place_copy_2 f_Place_19 (by assumption) rfl ?_
  rw [a4]
  refine zj_putZ hG d_Place_copy_5 f_Place_19 hp  rfl rfl  (by cases b <;> simp [tb]) ?_
  refine zj_aload_n hG d_Place_copy_8 rfl rfl ?_
  refine zj_aload_n hG d_Place_copy_9 rfl rfl ?_
  refine zj_getI hG d_Place_copy_10 f_Place_23 (by assumption) rfl ?_
  rw [show zi (zsi h p 1 (tb b)) o 2 = zi h o 2 from zu_a (fun e => hne e.symm), a5]
  refine zj_putI hG d_Place_copy_13 f_Place_23 (by assumption) rfl rfl ?_
  refine zj_iconst (v := 0) hG d_Place_copy_16 rfl ?_
  refine zj_istore_n hG d_Place_copy_17 rfl (by decide) rfl rfl ?_
  refine k_Place_copyL hG hp hp2 hp3 x hne hne2 ne1 ne2 l.length 0 (zu (zu (zi h) p 1 (tb b)) p 2 (nI l.length)) (by omega) (fun c e f => ?_) (fun j e f => ?_) ?_ zu_s (fun i x hi => by omega)
  · funext j; rw [zu_a e, zu_a e]
  · rw [zu_k f, zu_k e]
  · rw [zu_k (by decide), zu_s]
end PC1
