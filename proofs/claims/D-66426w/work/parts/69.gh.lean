/-! PART 69: ghosts: slots from 1000 on are nobody's: they may be written at will (slot 1000: to whom a cell belongs; slot 1001: in what it hangs) -/
section GH
variable {G : zG} {d : Nat} {y : zM} {pc : Nat} {ls : List (Option zV)} {st : List zV} {h : zH} {Q : zO → zH → Prop}
theorem zN_le {k : Nat} (h : k ≤ 15) : zN k ≤ 1000 := by
  rcases (show k = 0 ∨ k = 1 ∨ k = 2 ∨ k = 3 ∨ k = 4 ∨ k = 5 ∨ k = 6 ∨ k = 7 ∨ k = 8 ∨ k = 9 ∨ k = 10 ∨ k = 11 ∨ k = 12 ∨ k = 13 ∨ k = 14 ∨ k = 15 by omega) with e | e | e | e | e | e | e | e | e | e | e | e | e | e | e | e <;> subst e <;> decide
theorem zHR.ghost {H : Heap} (hH : zHR G h H) {a j v : Nat} (hj : 1000 ≤ j) (hl : zt h a ≤ 22 ∨ zl h a ≤ 1000) : zHR G (zsa h a j v) H := by
  obtain ⟨q1, q2, q3, q4, q5, q6⟩ := hH
  refine ⟨q1, q2, q3, q4, q5, fun b => ?_⟩
  have hc := q6 b
  by_cases hb : b = a
  · subst hb
    unfold zcell at hc ⊢
    show if zt h b = 0 then True else if zt h b ≤ 15 then t_OB b (gC G (zt h b)) (zN (zt h b)) (gI G (zt h b)) H (zfv (zsa h b j v) b) else if zt h b ≤ 20 then ∃ cell : Cell, H[b]? = some cell ∧ cell.cls = gC G (zt h b) ∧ cell.vm = .none else H[b]? = some (arrV (gC G (zt h b)) (zl h b) (zav (zsa h b j v) b))
    split
    · trivial
    rename_i n0
    rw [if_neg n0] at hc
    split
    · rename_i n1
      rw [if_pos n1] at hc
      obtain ⟨cell, c1, c2, c3, c4⟩ := hc
      refine ⟨cell, c1, c2, c3, fun k hk => ?_⟩
      rw [c4 k hk]
      have : zfv (zsa h b j v) b k = zfv h b k := by
        unfold zfv
        show (if zq (zt h b) k = true then zr (zu (za h) b j v b k) else Value.int (zi h b k)) = _
        rw [zu_k (show k ≠ j by have := zN_le n1; omega)]
      rw [this]
    rename_i n1
    rw [if_neg n1] at hc
    split
    · rename_i n2
      rw [if_pos n2] at hc
      exact hc
    rename_i n2
    rw [if_neg n2] at hc
    rw [hc]
    unfold arrV
    congr 1
    congr 1
    congr 1
    funext i
    unfold zav
    show (if zt h b = 21 then Value.int (zi h b i) else if zt h b = 22 then Value.long (zj h b i) else zr (za h b i)) = (if zt h b = 21 then Value.int (zi h b i) else if zt h b = 22 then Value.long (zj h b i) else zr (zu (za h) b j v b i))
    split
    · rfl
    split
    · rfl
    · rename_i m1 m2
      have hi : (i : Nat) < zl h b := i.2
      rw [zu_k (show (i : Nat) ≠ j by
        rcases hl with g | g
        · omega
        · omega)]
  · exact hc.to rfl rfl rfl (by show (fun k => zu (za h) a j v b k) = _; funext k; exact zu_a hb) rfl rfl
theorem zj_ghost {a j v : Nat} (hj : 1000 ≤ j) (hl : zt h a ≤ 22 ∨ zl h a ≤ 1000) (k : zJ G d y pc ls st (zsa h a j v) Q) : zJ G d y pc ls st h Q :=
  fun R s m args below meth c H locs cells slots sB lsR hF hR hl' hH hL => k R s m args below meth c H locs cells slots sB lsR hF hR hl' (hH.ghost hj hl) hL
/-- cells lie within the heap -/
def zWf (h : zH) : Prop := ∀ a, zt h a ≠ 0 → a ≠ 0 ∧ a < zn h
theorem zj_wf (hG : zOK G) (k : zWf h → zJ G d y pc ls st h Q) : zJ G d y pc ls st h Q :=
  fun R s m args below meth c H locs cells slots sB lsR hF hR hl' hH hL => k (fun a ha => ⟨hH.ne0 hG ha, (hH.2.2.2.1 a ha).2⟩) R s m args below meth c H locs cells slots sB lsR hF hR hl' hH hL
/-- a call of a void method, whose end is described -/
theorem zj_callP {d' len : Nat} {y' : zM} {as rest stk : List zV} {le : List (Option zV)} {P : zH → Prop} (hG : zOK G) (hc : zCall G y pc len y'.1 as rest stk h) (hy : zCode y') (hh : y.2.2.2.2 = []) (hd1 : d' + 1 ≤ d) (hle : zent as y'.2.2.1 = le) (hlen : (zent0 as).length ≤ y'.2.2.1) (hw : 2 * rest.length + y'.2.2.1 ≤ 53)
    (kc : zJ G d' y' 0 le [] h (fun o h' => o = zR0 ∧ P h')) (kr : ∀ h1, P h1 → zJ G d y (pc + len) ls rest h1 Q) : zJ G d y pc ls stk h Q :=
  zj_call hG hc hy hh hd1 hle hlen hw kc (fun v' h2 e => by obtain ⟨e1, e2⟩ := e; cases e1; exact kr h2 e2) (fun q h2 e => by cases e.1)
/-- a call of a method that answers -/
theorem zj_callA {d' len : Nat} {y' : zM} {as rest stk : List zV} {le : List (Option zV)} {P : zV → zH → Prop} (hG : zOK G) (hc : zCall G y pc len y'.1 as rest stk h) (hy : zCode y') (hh : y.2.2.2.2 = []) (hd1 : d' + 1 ≤ d) (hle : zent as y'.2.2.1 = le) (hlen : (zent0 as).length ≤ y'.2.2.1) (hw : 2 * rest.length + y'.2.2.1 ≤ 53)
    (kc : zJ G d' y' 0 le [] h (fun o h' => ∃ v, o = zR v ∧ P v h')) (kr : ∀ v h1, P v h1 → zJ G d y (pc + len) ls (v :: rest) h1 Q) : zJ G d y pc ls stk h Q :=
  zj_call hG hc hy hh hd1 hle hlen hw kc (fun v' h2 e => by obtain ⟨v, e1, e2⟩ := e; cases e1; exact kr v h2 e2) (fun q h2 e => by obtain ⟨v, e1, -⟩ := e; cases e1)
/-- a call of a void method that may throw -/
theorem zj_callE {d' len : Nat} {y' : zM} {as rest stk : List zV} {le : List (Option zV)} {P : zH → Prop} {E : Nat → Nat → zH → Prop} (hG : zOK G) (hc : zCall G y pc len y'.1 as rest stk h) (hy : zCode y') (hh : y.2.2.2.2 = []) (hd1 : d' + 1 ≤ d) (hle : zent as y'.2.2.1 = le) (hlen : (zent0 as).length ≤ y'.2.2.1) (hw : 2 * rest.length + y'.2.2.1 ≤ 53)
    (kc : zJ G d' y' 0 le [] h (fun o h' => (o = zR0 ∧ P h') ∨ ∃ c a, o = zX c a ∧ E c a h')) (kr : ∀ h1, P h1 → zJ G d y (pc + len) ls rest h1 Q) (ke : ∀ c a h1, E c a h1 → Q (zX c a) h1) : zJ G d y pc ls stk h Q :=
  zj_call hG hc hy hh hd1 hle hlen hw kc (fun v' h2 e => by
    rcases e with ⟨e1, e2⟩ | ⟨c, a, e1, e2⟩
    · cases e1; exact kr h2 e2
    · cases e1) (fun q h2 e => by
    rcases e with ⟨e1, e2⟩ | ⟨c, a, e1, e2⟩
    · cases e1
    · cases e1; exact ke c a h2 e2)
/-- a call of a method that answers or throws -/
theorem zj_callF {d' len : Nat} {y' : zM} {as rest stk : List zV} {le : List (Option zV)} {P : zV → zH → Prop} {E : Nat → Nat → zH → Prop} (hG : zOK G) (hc : zCall G y pc len y'.1 as rest stk h) (hy : zCode y') (hh : y.2.2.2.2 = []) (hd1 : d' + 1 ≤ d) (hle : zent as y'.2.2.1 = le) (hlen : (zent0 as).length ≤ y'.2.2.1) (hw : 2 * rest.length + y'.2.2.1 ≤ 53)
    (kc : zJ G d' y' 0 le [] h (fun o h' => (∃ v, o = zR v ∧ P v h') ∨ ∃ c a, o = zX c a ∧ E c a h')) (kr : ∀ v h1, P v h1 → zJ G d y (pc + len) ls (v :: rest) h1 Q) (ke : ∀ c a h1, E c a h1 → Q (zX c a) h1) : zJ G d y pc ls stk h Q :=
  zj_call hG hc hy hh hd1 hle hlen hw kc (fun v' h2 e => by
    rcases e with ⟨v, e1, e2⟩ | ⟨c, a, e1, e2⟩
    · cases e1; exact kr v h2 e2
    · cases e1) (fun q h2 e => by
    rcases e with ⟨v, e1, e2⟩ | ⟨c, a, e1, e2⟩
    · cases e1
    · cases e1; exact ke c a h2 e2)
end GH
