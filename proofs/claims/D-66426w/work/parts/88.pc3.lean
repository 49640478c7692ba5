/-! PART 88: the component: places (sort) -/
section PC3
variable {G : zG} {h : zH} {a : Nat} {b : Bool} {l : List Int32}
theorem cAr.set {h : zH} {I : Nat → Nat → Int32} {q : Nat} {A : List Int32} (x : cAr (cSi h I) q A) {i : Nat} (hi : i < A.length) (v : Int32) : cAr (cSi h (zu I q i v)) q (A.set i v) := by
  intro j y hy
  show zu I q i v q j = y
  rw [List.getElem?_set] at hy
  split at hy
  · rename_i e
    subst e
    rw [zu_s]; exact Option.some.inj hy
  · rename_i e
    rw [zu_k (fun g => e g.symm)]
    exact x j y hy
theorem pw_last {l : List Int32} {z : Int32} (h : (l ++ [z]).Pairwise (fun a b => a ≤ b)) {x : Int32} (hz : z ≤ x) : ∀ y ∈ l ++ [z], y ≤ x := by
  intro y hy
  rcases List.mem_append.mp hy with g | g
  · exact Int32.le_trans ((List.pairwise_append.mp h).2.2 y g z List.mem_cons_self) hz
  · rw [List.mem_singleton.mp g]; exact hz
set_option maxRecDepth 4000 in
theorem k_Place_sortI (hG : zOK G) (hp : zt h a = 6) (hp2 : zt h (za h a 3) = 21) (hp3 : zl h (za h a 3) = 6) {x : Int32} {k : zV} {rest : List Int32} {s : List Int32} (hs : s.Pairwise (fun a b => a ≤ b)) (h6 : s.length + rest.length + 1 ≤ 6) {Q : zO → zH → Prop}
    (nx : ∀ (I : Nat → Nat → Int32) (p1 p2 : List Int32) (w : zV), s = p1 ++ p2 → (∀ z ∈ p1, z ≤ x) → (∀ z ∈ p2, x ≤ z) → (∀ c, c ≠ za h a 3 → I c = zi h c) → cAr (cSi h I) (za h a 3) (p1 ++ x :: (p2 ++ rest)) → zJ G 0 m_Place_sort 62 [some (zA a), some k, some (zI x), some w] [] (cSi h I) Q) :
    ∀ (n : Nat) (p1 p2 : List Int32) (y : Int32) (I : Nat → Nat → Int32), p1.length = n → s = p1 ++ p2 → (∀ z ∈ p2, x ≤ z) → (∀ c, c ≠ za h a 3 → I c = zi h c) → cAr (cSi h I) (za h a 3) (p1 ++ y :: (p2 ++ rest)) → zJ G 0 m_Place_sort 19 [some (zA a), some k, some (zI x), some (zI (nI n))] [] (cSi h I) Q := by
  -- the end of the inner loop
  have fin : ∀ (n : Nat) (p1 p2 : List Int32) (y : Int32) (I : Nat → Nat → Int32), p1.length = n → s = p1 ++ p2 → (∀ z ∈ p1, z ≤ x) → (∀ z ∈ p2, x ≤ z) → (∀ c, c ≠ za h a 3 → I c = zi h c) → cAr (cSi h I) (za h a 3) (p1 ++ y :: (p2 ++ rest)) → zJ G 0 m_Place_sort 55 [some (zA a), some k, some (zI x), some (zI (nI n))] [] (cSi h I) Q := by
    intro n p1 p2 y I hn hsp h1 h2 hI hA
    have hp' : zt (cSi h I) a = 6 := hp
    have hlen : n < (p1 ++ y :: (p2 ++ rest)).length := by simp; omega
    have n6 : n < 6 := by have := congrArg List.length hsp; simp at this; omega
    refine zj_aload_n hG d_Place_sort_55 rfl rfl ?_
    refine zj_getA hG d_Place_sort_56 f_Place_9 (by assumption) rfl ?_
    refine zj_iload_n hG d_Place_sort_59 rfl rfl ?_
    refine zj_iload_n hG d_Place_sort_60 rfl rfl ?_
    refine zj_iast hG d_Place_sort_61 (show zt (cSi h I) (za h a 3) = 21 from hp2) (show vp_in (nI n) (zl h (za h a 3)) by rw [hp3]; exact nI_in' n6 (by decide)) ?_
    rw [nI_clamp (by omega)]
    refine nx _ p1 p2 _ hsp h1 h2 (fun c e => ?_) ?_
    · rw [← hI c e]; funext j; exact zu_a e
    · have := hA.set hlen x
      rw [List.set_append_right _ _ (by omega), hn, Nat.sub_self] at this
      exact this
  intro n
  induction n with
  | zero =>
    intro p1 p2 y I hn hsp h2 hI hA
    have : p1 = [] := List.eq_nil_of_length_eq_zero hn
    subst this
    refine zj_iload_n hG d_Place_sort_19 rfl rfl ?_
    refine zj_if_le (tgt := 55) hG d_Place_sort_20 (by decide) (fun _ => ?_) (fun c => absurd (by rw [nI_0]; exact Int32.le_refl _) c)
    exact fin 0 [] p2 y I rfl hsp (fun z hz => by cases hz) h2 hI hA
  | succ n ih =>
    intro p1 p2 y I hn hsp h2 hI hA
    have hne : p1 ≠ [] := fun e => by rw [e] at hn; simp at hn
    obtain ⟨p0, z, rfl⟩ : ∃ p0 z, p1 = p0 ++ [z] := ⟨p1.dropLast, p1.getLast hne, (List.dropLast_concat_getLast hne).symm⟩
    have hp0 : p0.length = n := by simpa using hn
    have n6 : n + 1 < 6 := by have := congrArg List.length hsp; simp at this; omega
    have hp' : zt (cSi h I) a = 6 := hp
    have vz : I (za h a 3) n = z := hA n z (by rw [List.append_assoc, List.getElem?_append_right (by omega), hp0, Nat.sub_self]; rfl)
    refine zj_iload_n hG d_Place_sort_19 rfl rfl ?_
    refine zj_if_le (tgt := 55) hG d_Place_sort_20 (by decide) (fun c => absurd c (nI_nle (by omega) (by omega))) (fun _ => ?_)
    refine zj_aload_n hG d_Place_sort_23 rfl rfl ?_
    refine zj_getA hG d_Place_sort_24 f_Place_9 (by assumption) rfl ?_
    refine zj_iload_n hG d_Place_sort_27 rfl rfl ?_
    refine zj_iconst (v := 1) hG d_Place_sort_28 rfl ?_
    refine zj_isub hG d_Place_sort_29 ?_
    rw [nI_pred]
    refine zj_iald hG d_Place_sort_30 (show zt (cSi h I) (za h a 3) = 21 from hp2) (show vp_in (nI n) (zl h (za h a 3)) by rw [hp3]; exact nI_in' (by omega) (by decide)) ?_
    rw [nI_clamp (by omega), show zi (cSi h I) (za h a 3) n = z from vz]
    refine zj_iload_n hG d_Place_sort_31 rfl rfl ?_
    refine zj_icmp_le (tgt := 55) hG d_Place_sort_32 (by decide) (fun c32 => ?_) (fun c32 => ?_)
    · refine fin (n + 1) (p0 ++ [z]) p2 y I hn hsp ?_ h2 hI hA
      rw [hsp] at hs
      exact pw_last (List.pairwise_append.mp hs).1 c32
    · refine zj_aload_n hG d_Place_sort_35 rfl rfl ?_
      refine zj_getA hG d_Place_sort_36 f_Place_9 (by assumption) rfl ?_
      refine zj_iload_n hG d_Place_sort_39 rfl rfl ?_
      refine zj_aload_n hG d_Place_sort_40 rfl rfl ?_
      refine zj_getA hG d_Place_sort_41 f_Place_9 (by assumption) rfl ?_
      refine zj_iload_n hG d_Place_sort_44 rfl rfl ?_
      refine zj_iconst (v := 1) hG d_Place_sort_45 rfl ?_
      refine zj_isub hG d_Place_sort_46 ?_
      rw [nI_pred]
      refine zj_iald hG d_Place_sort_47 (show zt (cSi h I) (za h a 3) = 21 from hp2) (show vp_in (nI n) (zl h (za h a 3)) by rw [hp3]; exact nI_in' (by omega) (by decide)) ?_
      rw [nI_clamp (by omega), show zi (cSi h I) (za h a 3) n = z from vz]
      refine zj_iast hG d_Place_sort_48 (show zt (cSi h I) (za h a 3) = 21 from hp2) (show vp_in (nI (n + 1)) (zl h (za h a 3)) by rw [hp3]; exact nI_in' n6 (by decide)) ?_
      rw [nI_clamp (by omega)]
      refine zj_iinc hG d_Place_sort_49 rfl (show nI (n + 1) + (-1) = nI n by rw [← Int32.sub_eq_add_neg]; exact nI_pred n) (by decide) rfl rfl ?_
      refine zj_goto (tgt := 19) hG d_Place_sort_52 (by decide) ?_
      refine ih p0 (z :: p2) z (zu I (za h a 3) (n + 1) z) hp0 (by rw [hsp]; simp) ?_ (fun c e => ?_) ?_
      · intro w hw
        rcases List.mem_cons.mp hw with g | g
        · rw [g]; exact Int32.le_of_lt (Int32.not_le.mp c32)
        · exact h2 w g
      · rw [← hI c e]; funext j; exact zu_a e
      · have hlen : n + 1 < (p0 ++ [z] ++ y :: (p2 ++ rest)).length := by simp; omega
        have := hA.set hlen z
        rw [List.set_append_right _ _ (by simp; omega), show n + 1 - (p0 ++ [z]).length = 0 by simp; omega] at this
        simpa using this
theorem isrt_of {s l : List Int32} (hs : s.Pairwise (fun a b => a ≤ b)) (hp : s.Perm l) : s = isrt l := by
  have h1 : (isrt l).Pairwise (fun a b => a ≤ b) := by
    have := List.pairwise_mergeSort (le := fun a b : Int32 => decide (a ≤ b)) (fun a b c h1 h2 => by simp at *; exact Int32.le_trans h1 h2) (fun a b => by
      rw [Bool.or_eq_true, decide_eq_true_eq, decide_eq_true_eq]
      exact Int32.le_total a b) l
    exact this.imp (fun h => of_decide_eq_true h)
  exact List.Perm.eq_of_pairwise (fun a b _ _ u v => Int32.le_antisymm u v) hs h1 (hp.trans (List.mergeSort_perm _ _).symm)
set_option maxRecDepth 4000 in
theorem k_Place_sortO (hG : zOK G) (x : pls h a b l) : ∀ (n : Nat) (s rest : List Int32) (I : Nat → Nat → Int32) (v2 v3 : Option zV), rest.length = n → 1 ≤ s.length → (s ++ rest).Perm l → s.Pairwise (fun a b => a ≤ b) → (∀ c, c ≠ za h a 3 → I c = zi h c) → cAr (cSi h I) (za h a 3) (s ++ rest) →
    zJ G 0 m_Place_sort 2 [some (zA a), some (zI (nI s.length)), v2, v3] [] (cSi h I) (fun o h' => o = zR0 ∧ pls h' a b (isrt l) ∧ cPc h a h') := by
  have ne := x.ne
  obtain ⟨a1, a2, a3, a4, a5, a6, a7⟩ := x
  intro n
  induction n with
  | zero =>
    intro s rest I v2 v3 hn h1 hp hs hI hA
    have : rest = [] := List.eq_nil_of_length_eq_zero hn
    subst this
    rw [List.append_nil] at hp hA
    have hp' : zt (cSi h I) a = 6 := a1
    have Ia : I a = zi h a := hI a ne.symm
    refine zj_iload_n hG d_Place_sort_2 rfl rfl ?_
    refine zj_aload_n hG d_Place_sort_3 rfl rfl ?_
    refine zj_getI hG d_Place_sort_4 f_Place_23 (by assumption) rfl ?_
    rw [show zi (cSi h I) a 2 = nI l.length by show I a 2 = _; rw [Ia]; exact a5, hp.length_eq]
    refine zj_icmp_ge (tgt := 68) hG d_Place_sort_7 (by decide) (fun _ => ?_) (fun c => absurd (Int32.le_refl _) c)
    have es := isrt_of hs hp
    rw [es] at hA
    refine zj_vret hG d_Place_sort_68 rfl ⟨rfl, ⟨a1, a2, a3, ?_, ?_, ?_, hA⟩, I, rfl, fun c e f => hI c f, fun j _ _ => by rw [Ia]⟩
    · show I a 1 = _; rw [Ia]; exact a4
    · show I a 2 = _; rw [Ia, a5, ← es, hp.length_eq]
    · rw [← es, hp.length_eq]; exact a6
  | succ n ih =>
    intro s rest I v2 v3 hn h1 hp hs hI hA
    cases rest with
    | nil => simp at hn
    | cons y rest =>
      have hlen : s.length + (rest.length + 1) = l.length := by have := hp.length_eq; simp at this; omega
      have hp' : zt (cSi h I) a = 6 := a1
      have Ia : I a = zi h a := hI a ne.symm
      have vy : I (za h a 3) s.length = y := hA s.length y (by rw [List.getElem?_append_right (Nat.le_refl _), Nat.sub_self]; rfl)
      refine zj_iload_n hG d_Place_sort_2 rfl rfl ?_
      refine zj_aload_n hG d_Place_sort_3 rfl rfl ?_
      refine zj_getI hG d_Place_sort_4 f_Place_23 (by assumption) rfl ?_
      rw [show zi (cSi h I) a 2 = nI l.length by show I a 2 = _; rw [Ia]; exact a5]
      refine zj_icmp_ge (tgt := 68) hG d_Place_sort_7 (by decide) (fun c => absurd c (nI_ge (by omega) (by omega))) (fun _ => ?_)
      refine zj_aload_n hG d_Place_sort_10 rfl rfl ?_
      refine zj_getA hG d_Place_sort_11 f_Place_9 (by assumption) rfl ?_
      refine zj_iload_n hG d_Place_sort_14 rfl rfl ?_
      refine zj_iald hG d_Place_sort_15 (show zt (cSi h I) (za h a 3) = 21 from a2) (show vp_in (nI s.length) (zl h (za h a 3)) by rw [a3]; exact nI_in' (by omega) (by decide)) ?_
      rw [nI_clamp (by omega), show zi (cSi h I) (za h a 3) s.length = y from vy]
      refine zj_istore_n hG d_Place_sort_16 rfl (by decide) rfl rfl ?_
      refine zj_iload_n hG d_Place_sort_17 rfl rfl ?_
      refine zj_istore_n hG d_Place_sort_18 rfl (by decide) rfl rfl ?_
      refine k_Place_sortI hG a1 a2 a3 (k := zI (nI s.length)) (rest := rest) hs (by omega) (fun J p1 p2 w e1 e2 e3 e4 e5 => ?_) s.length s [] y I rfl (by simp) (fun z hz => by cases hz) hI (by simpa using hA)
      refine zj_iinc hG d_Place_sort_62 rfl (nI_1 s.length) (by decide) rfl rfl ?_
      refine zj_goto (tgt := 2) hG d_Place_sort_65 (by decide) ?_
      have hl2 : (p1 ++ y :: p2).length = s.length + 1 := by rw [e1]; simp; omega
      have := ih (p1 ++ y :: p2) rest J (some (zI y)) (some w) (by simpa using hn) (by simp; omega) ?_ ?_ e4 (by simpa using e5)
      · rw [hl2] at this
        exact this
      · refine List.Perm.trans ?_ hp
        rw [e1]
        have q1 : (p1 ++ y :: p2 ++ rest).Perm (y :: (p1 ++ p2 ++ rest)) := by simp only [List.append_assoc, List.cons_append]; exact List.perm_middle
        have q2 : (p1 ++ p2 ++ y :: rest).Perm (y :: (p1 ++ p2 ++ rest)) := List.perm_middle
        exact q1.trans q2.symm
      · rw [e1, List.pairwise_append] at hs
        rw [List.pairwise_append]
        refine ⟨hs.1, List.pairwise_cons.mpr ⟨e3, hs.2.1⟩, fun u hu w hw => ?_⟩
        rcases List.mem_cons.mp hw with g | g
        · rw [g]; exact e2 u hu
        · exact hs.2.2 u hu w g
theorem k_Place_sort (hG : zOK G) (x : pls h a b l) : zJ G 0 m_Place_sort 0 [some (zA a), none, none, none] [] h (fun o h' => o = zR0 ∧ pls h' a b (isrt l) ∧ cPc h a h') := by
  cases hl : l with
  | nil =>
    have a1 := x.1
    have a5 := x.2.2.2.2.1
    rw [hl] at a5
    refine zj_iconst (v := 1) hG d_Place_sort_0 rfl ?_
    refine zj_istore_n hG d_Place_sort_1 rfl (by decide) rfl rfl ?_
    refine zj_iload_n hG d_Place_sort_2 rfl rfl ?_
    refine zj_aload_n hG d_Place_sort_3 rfl rfl ?_
    refine zj_getI hG d_Place_sort_4 f_Place_23 (by assumption) rfl ?_
    rw [a5]
    refine zj_icmp_ge (tgt := 68) hG d_Place_sort_7 (by decide) (fun _ => ?_) (fun c => absurd (by decide) c)
    have e : isrt [] = [] := by simp [isrt]
    rw [e, ← hl]
    exact zj_vret hG d_Place_sort_68 rfl ⟨rfl, x, cPc.rfl'⟩
  | cons y rest =>
    refine zj_iconst (v := 1) hG d_Place_sort_0 rfl ?_
    refine zj_istore_n hG d_Place_sort_1 rfl (by decide) rfl rfl ?_
    have x' := x
    rw [hl] at x'
    exact k_Place_sortO hG x' rest.length [y] rest (zi h) none none rfl (by simp) (by simp) (List.pairwise_singleton _ _) (fun _ _ => rfl) x'.2.2.2.2.2.2
end PC3
