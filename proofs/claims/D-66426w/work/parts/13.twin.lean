/-! PART 13: the reference (LensPathsModel) as a flat memory: N o i is place i of the cell q + o (o = 0: the object's own int fields by slot; 1 .. 29: its arrays in the order of their making) -/
/-- the array of a field -/
def tO (j : Nat) : Nat := match j with
  | 2 => 1 | 3 => 2 | 4 => 3 | 5 => 4 | 6 => 5 | 9 => 6 | 10 => 7 | 11 => 8 | 12 => 9 | 14 => 10 | 15 => 11 | 16 => 12 | 17 => 13 | 19 => 14 | 20 => 15 | 21 => 16 | 22 => 17 | 23 => 18 | 24 => 19 | 25 => 20 | 26 => 21 | 30 => 22 | 31 => 23 | 32 => 24 | 34 => 25 | 35 => 26 | 36 => 27 | 37 => 28 | 38 => 29
  | _ => 0
/-- how long it is -/
def tLn (o : Nat) : Nat := match o with
  | 1 => 8 | 2 => 192 | 3 => 192 | 4 => 192 | 5 => 192 | 6 => 17 | 7 => 17 | 8 => 17 | 9 => 1088 | 10 => 16 | 11 => 2688 | 12 => 2048 | 13 => 28672 | 14 => 26 | 15 => 26 | 16 => 26 | 17 => 26 | 18 => 182 | 19 => 26 | 20 => 128 | 21 => 1792 | 22 => 1024 | 23 => 5120 | 24 => 24 | 25 => 9 | 26 => 9 | 27 => 8 | 28 => 7 | 29 => 7
  | _ => 0
def twOK (q : Nat) (h : zH) : Prop := zt h q = 15 ∧ (∀ j, j < 39 → zq 15 j = true → za h q j = q + tO j) ∧ ∀ o, 1 ≤ o → o ≤ 29 → zt h (q + o) = 21 ∧ zl h (q + o) = tLn o
def twp (q : Nat) (h : zH) (N : Nat → Nat → Int32) : zH := (zn h, zs h, zt h, zl h, (fun a i => if q ≤ a ∧ a < q + 30 then N (a - q) i else zi h a i), za h, zj h)
theorem twp_rd {q : Nat} {h : zH} {N : Nat → Nat → Int32} {o i : Nat} (ho : o < 30) : zi (twp q h N) (q + o) i = N o i := by
  show (if q ≤ q + o ∧ q + o < q + 30 then N (q + o - q) i else zi h (q + o) i) = N o i
  rw [if_pos ⟨by omega, by omega⟩, Nat.add_sub_cancel_left]
theorem twp_wr {q : Nat} {h : zH} {N : Nat → Nat → Int32} {o i : Nat} {x : Int32} (ho : o < 30) : zsi (twp q h N) (q + o) i x = twp q h (zu N o i x) := by
  unfold twp zsi
  congr 5
  funext a k
  show zu (fun a i => if q ≤ a ∧ a < q + 30 then N (a - q) i else zi h a i) (q + o) i x a k = if q ≤ a ∧ a < q + 30 then zu N o i x (a - q) k else zi h a k
  unfold zu
  by_cases e : a = q + o
  · subst e
    have e2 : q + o - q = o := by omega
    simp [e2, ho]
  · by_cases e2 : q ≤ a ∧ a < q + 30
    · have e3 : ¬ (a - q = o) := by omega
      simp [e, e2, e3]
    · simp [e, e2]
theorem nI_in' {k n : Nat} (hk : k < n) (hn : n < 2 ^ 31) : vp_in (nI k) n := vp_in_nI hk hn
theorem tLn_lt (o : Nat) : tLn o < 2 ^ 31 := by
  unfold tLn
  split <;> decide
section TW
variable {G : zG} {d : Nat} {y : zM} {pc : Nat} {ls : List (Option zV)} {st : List zV} {h : zH} {Q : zO → zH → Prop} {q : Nat} {N : Nat → Nat → Int32}
theorem t_getI {idx j : Nat} (hG : zOK G) (hT : twOK q h) (hd : decode y.2.1 pc = .ok (.getfield idx, 3)) (hf : zFL y.1.cls idx 15 j) (hq : zq 15 j = false) (k : zJ G d y (pc + 3) ls (zI (N 0 j) :: st) (twp q h N) Q) : zJ G d y pc ls (zA q :: st) (twp q h N) Q := by
  refine zj_getI hG hd hf (show zt h q = 15 from hT.1) hq ?_
  rw [show zi (twp q h N) q j = N 0 j from twp_rd (o := 0) (by decide)]
  exact k
theorem t_getA {idx j o : Nat} (hG : zOK G) (hT : twOK q h) (hd : decode y.2.1 pc = .ok (.getfield idx, 3)) (hf : zFL y.1.cls idx 15 j) (hq : zq 15 j = true) (ho : tO j = o) (k : zJ G d y (pc + 3) ls (zA (q + o) :: st) (twp q h N) Q) : zJ G d y pc ls (zA q :: st) (twp q h N) Q := by
  refine zj_getA hG hd hf (show zt h q = 15 from hT.1) hq ?_
  rw [show za (twp q h N) q j = q + o by rw [← ho]; exact hT.2.1 j hf.2.2.1 hq]
  exact k
theorem t_ald {o : Nat} {i : Int32} (n : Nat) (hG : zOK G) (hT : twOK q h) (hd : decode y.2.1 pc = .ok (.iaload, 1)) (h1 : 1 ≤ o) (h2 : o ≤ 29) (hi : i = nI n) (hn : n < tLn o) (k : zJ G d y (pc + 1) ls (zI (N o n) :: st) (twp q h N) Q) : zJ G d y pc ls (zI i :: zA (q + o) :: st) (twp q h N) Q := by
  obtain ⟨g1, g2⟩ := hT.2.2 o h1 h2
  refine zj_iald hG hd (show zt h (q + o) = 21 from g1) (show vp_in i (zl h (q + o)) by rw [g2, hi]; exact vp_in_nI hn (tLn_lt o)) ?_
  rw [hi, nI_clamp (Nat.lt_trans hn (tLn_lt o)), twp_rd (by omega)]
  exact k
theorem t_ast {o : Nat} {i x : Int32} (n : Nat) (hG : zOK G) (hT : twOK q h) (hd : decode y.2.1 pc = .ok (.iastore, 1)) (h1 : 1 ≤ o) (h2 : o ≤ 29) (hi : i = nI n) (hn : n < tLn o) (k : zJ G d y (pc + 1) ls st (twp q h (zu N o n x)) Q) : zJ G d y pc ls (zI x :: zI i :: zA (q + o) :: st) (twp q h N) Q := by
  obtain ⟨g1, g2⟩ := hT.2.2 o h1 h2
  refine zj_iast hG hd (show zt h (q + o) = 21 from g1) (show vp_in i (zl h (q + o)) by rw [g2, hi]; exact vp_in_nI hn (tLn_lt o)) ?_
  rw [hi, nI_clamp (Nat.lt_trans hn (tLn_lt o)), twp_wr (by omega)]
  exact k
theorem t_putI {idx j : Nat} {v : Int32} (hG : zOK G) (hT : twOK q h) (hd : decode y.2.1 pc = .ok (.putfield idx, 3)) (hf : zFL y.1.cls idx 15 j) (hty : zT 15 j = .int) (hfin : (zF 15 j).2.2.2 = false) (k : zJ G d y (pc + 3) ls st (twp q h (zu N 0 j v)) Q) : zJ G d y pc ls (zI v :: zA q :: st) (twp q h N) Q := by
  refine zj_putI hG hd hf (show zt h q = 15 from hT.1) hty hfin ?_
  rw [show zsi (twp q h N) q j v = twp q h (zu N 0 j v) from twp_wr (o := 0) (by decide)]
  exact k
theorem t_putZ {idx j : Nat} {v : Int32} (hG : zOK G) (hT : twOK q h) (hd : decode y.2.1 pc = .ok (.putfield idx, 3)) (hf : zFL y.1.cls idx 15 j) (hty : zT 15 j = .boolean) (hfin : (zF 15 j).2.2.2 = false) (hv : v = 0 ∨ v = 1) (k : zJ G d y (pc + 3) ls st (twp q h (zu N 0 j v)) Q) : zJ G d y pc ls (zI v :: zA q :: st) (twp q h N) Q := by
  refine zj_putZ hG hd hf (show zt h q = 15 from hT.1) hty hfin hv ?_
  rw [show zsi (twp q h N) q j v = twp q h (zu N 0 j v) from twp_wr (o := 0) (by decide)]
  exact k
end TW
section ZC2
variable {G : zG} {d : Nat} {y : zM} {pc : Nat} {ls : List (Option zV)} {h : zH} {Q : zO → zH → Prop}
/-- a call whose answer and heap are known -/
theorem zj_callR {d' len : Nat} {y' : zM} {as rest stk : List zV} {le : List (Option zV)} {v : zV} {h1 : zH} (hG : zOK G) (hc : zCall G y pc len y'.1 as rest stk h) (hy : zCode y') (hh : y.2.2.2.2 = []) (hd1 : d' + 1 ≤ d) (hle : zent as y'.2.2.1 = le) (hlen : (zent0 as).length ≤ y'.2.2.1) (hw : 2 * rest.length + y'.2.2.1 ≤ 53)
    (kc : zJ G d' y' 0 le [] h (fun o h' => o = zR v ∧ h' = h1)) (kr : zJ G d y (pc + len) ls (v :: rest) h1 Q) : zJ G d y pc ls stk h Q :=
  zj_call hG hc hy hh hd1 hle hlen hw kc (fun v' h2 e => by obtain ⟨e1, e2⟩ := e; cases e1; subst e2; exact kr) (fun q h2 e => by obtain ⟨e1, -⟩ := e; cases e1)
theorem zj_callV {d' len : Nat} {y' : zM} {as rest stk : List zV} {le : List (Option zV)} {h1 : zH} (hG : zOK G) (hc : zCall G y pc len y'.1 as rest stk h) (hy : zCode y') (hh : y.2.2.2.2 = []) (hd1 : d' + 1 ≤ d) (hle : zent as y'.2.2.1 = le) (hlen : (zent0 as).length ≤ y'.2.2.1) (hw : 2 * rest.length + y'.2.2.1 ≤ 53)
    (kc : zJ G d' y' 0 le [] h (fun o h' => o = zR0 ∧ h' = h1)) (kr : zJ G d y (pc + len) ls rest h1 Q) : zJ G d y pc ls stk h Q :=
  zj_call hG hc hy hh hd1 hle hlen hw kc (fun v' h2 e => by obtain ⟨e1, e2⟩ := e; cases e1; subst e2; exact kr) (fun q h2 e => by obtain ⟨e1, -⟩ := e; cases e1)
end ZC2
