/-! PART 19: the reference: rows and terms that are scaled, mapped, sorted -/
def isrt (l : List Int32) : List Int32 := l.mergeSort (fun a b => decide (a ≤ b))
theorem isrt_eq {l m : List Int32} (h1 : m.Perm l) (h2 : m.Pairwise (fun a b => a ≤ b)) : m = isrt l := by
  refine List.Perm.eq_of_pairwise (fun a b _ _ x y => Int32.le_antisymm x y) h2 ?_ (h1.trans (List.mergeSort_perm l _).symm)
  have := List.pairwise_mergeSort (le := fun (a b : Int32) => decide (a ≤ b)) (fun a b c x y => by simp at *; exact Int32.le_trans x y) (fun a b => by simpa using Int32.le_total a b) l
  exact this.imp (fun h => by simpa using h)
theorem isrt_len (l : List Int32) : (isrt l).length = l.length := (List.mergeSort_perm l _).length_eq
theorem i64_ne {a : Int32} (h : ¬ a = 0) : ¬ a.toInt64 = 0 := by
  intro e
  apply h
  have := congrArg Int64.toInt32 e
  simpa using this
/-- what comes of a row, nothing being kept -/
def tsc (f : Bool) (x a b lo hi : Int32) : Int32 := if f then (tfl (a.toInt64 * x.toInt64) b.toInt64).toInt32 else (twi (tfl (b.toInt64 * x.toInt64) a.toInt64) lo hi).toInt32
def tpln (l : List Int32) (k a b : Int32) (f : Bool) (lo hi : Int32) : List Int32 :=
  if k = 6 then l.map (fun x => tsc f x a b lo hi) else if k = 7 ∧ f = true then l.map (fun x => if x = a then b else x) else if k = 8 ∧ f = true then isrt l else l
theorem tRow.swap {M : Nat → Nat → Int32} {o : Nat} {A D : List Int32} {x y : Int32} (h : tRow M o 0 (A ++ y :: x :: D)) : tRow (zu (zu M o (A.length + 2) y) o (A.length + 1) x) o 0 (A ++ x :: y :: D) := by
  obtain ⟨h1, h2, h3⟩ := h
  refine ⟨?_, by simpa using h2, fun i z hi => ?_⟩
  · rw [zu_k (by omega), zu_k (by omega), h1]
    simp
  · rcases Nat.lt_trichotomy i A.length with g | g | g
    · rw [zu_k (by omega), zu_k (by omega)]
      refine h3 i z ?_
      rw [List.getElem?_append_left g] at hi ⊢
      exact hi
    · subst g
      rw [List.getElem?_append_right (Nat.le_refl _)] at hi
      simp at hi
      subst hi
      rw [show 0 + 1 + A.length = A.length + 1 by omega]
      exact zu_s
    · obtain ⟨m, rfl⟩ : ∃ m, i = A.length + 1 + m := ⟨i - A.length - 1, by omega⟩
      rw [List.getElem?_append_right (by omega), show A.length + 1 + m - A.length = m + 1 by omega] at hi
      cases m with
      | zero =>
        simp at hi
        subst hi
        rw [zu_k (by omega), show 0 + 1 + (A.length + 1 + 0) = A.length + 2 by omega]
        exact zu_s
      | succ m =>
        rw [zu_k (by omega), zu_k (by omega)]
        refine h3 _ z ?_
        rw [List.getElem?_append_right (by omega), show A.length + 1 + (m + 1) - A.length = m + 2 by omega]
        simpa using hi
theorem tRow.nth {M : Nat → Nat → Int32} {o : Nat} {A D : List Int32} {x : Int32} (h : tRow M o 0 (A ++ x :: D)) : M o (A.length + 1) = x := by
  have := h.2.2 A.length x (by rw [List.getElem?_append_right (Nat.le_refl _)]; simp)
  rw [← this]
  congr 1
  omega
section MD6
variable {G : zG} {q : Nat} {h : zH} {N : Nat → Nat → Int32} {L : List tQ} {T : List tE} {K : Nat → tK}
set_option maxRecDepth 4000 in
theorem k_MD_plainI (hG : zOK G) (hT : twOK q h) {o2 : Nat} (ho : o2 = 28 ∨ o2 = 29) {v0 v1 v2 v3 v4 v5 v6 v7 : Option zV} {i : Nat} {C : List Int32} {Q : zO → zH → Prop} {l0 : List Int32}
    (nx : ∀ (M : Nat → Nat → Int32) (l : List Int32) (w1 w2 : Option zV), tRow M o2 0 l → l.Perm l0 → (l.take i).Pairwise (fun a b => a ≤ b) → (∀ o x, o ≠ o2 → M o x = N o x) → zJ G 1 m_MD_plain 185 [v0, v1, v2, v3, v4, v5, v6, v7, some (zA (q + o2)), some (zI (nI i)), w1, w2] [] (twp q h M) Q) :
    ∀ (n : Nat) (A B : List Int32) (x : Int32) (M : Nat → Nat → Int32) (w : Option zV), A.length = n → i = n + 1 + B.length → tRow M o2 0 (A ++ x :: (B ++ C)) → (A ++ x :: (B ++ C)).Perm l0 → (A ++ B).Pairwise (fun a b => a ≤ b) → (∀ b ∈ B, x ≤ b) → (∀ o x, o ≠ o2 → M o x = N o x) →
    zJ G 1 m_MD_plain 130 [v0, v1, v2, v3, v4, v5, v6, v7, some (zA (q + o2)), some (zI (nI i)), some (zI (nI (n + 1))), w] [] (twp q h M) Q := by
  have hlo : tLn o2 = 7 := by rcases ho with rfl | rfl <;> rfl
  intro n
  induction n with
  | zero =>
    intro A B x M w hA hi hr hp hs hb hf
    have hA0 : A = [] := List.length_eq_zero_iff.mp hA
    subst hA0
    refine zj_iload hG d_MD_plain_130 rfl ?_
    refine zj_iconst (v := 1) hG d_MD_plain_132 rfl ?_
    refine zj_icmp_le (tgt := 185) hG d_MD_plain_133 (by decide) (fun c133 => ?_) (fun c133 => ?_)
    · refine nx M _ _ _ hr hp ?_ hf
      have : (([] : List Int32) ++ x :: (B ++ C)).take i = x :: B := by
        rw [hi, List.nil_append, show 0 + 1 + B.length = B.length + 1 by omega, List.take_succ_cons]
        simp
      rw [this]
      exact List.pairwise_cons.mpr ⟨hb, by simpa using hs⟩
    · exact absurd (by decide) c133
  | succ n ih =>
    intro A B x M w hA hi hr hp hs hb hf
    obtain ⟨A', y, rfl⟩ : ∃ A' y, A = A' ++ [y] := by
      rcases List.eq_nil_or_concat A with e | ⟨A', y, e⟩
      · subst e
        simp at hA
      · exact ⟨A', y, by simpa using e⟩
    have hA' : A'.length = n := by simpa using hA
    have hr' : tRow M o2 0 (A' ++ y :: x :: (B ++ C)) := by simpa using hr
    have hn6 : n + 2 ≤ 6 := by
      have := hr'.2.1
      simp at this
      omega
    have r1 : M o2 (n + 1) = y := by
      have := hr'.nth
      rw [hA'] at this
      exact this
    have r2 : M o2 (n + 2) = x := by
      have := hr.nth
      rw [hA] at this
      exact this
    refine zj_iload hG d_MD_plain_130 rfl ?_
    refine zj_iconst (v := 1) hG d_MD_plain_132 rfl ?_
    refine zj_icmp_le (tgt := 185) hG d_MD_plain_133 (by decide) (fun c133 => ?_) (fun c133 => ?_)
    · exact absurd c133 (nI_ge (a := 1) (b := n + 1 + 1) (by omega) (by omega))
    refine zj_aload hG d_MD_plain_136 rfl ?_
    refine zj_iload hG d_MD_plain_138 rfl ?_
    refine t_ald (n + 2) hG hT d_MD_plain_140 (by first | decide | omega) (by first | decide | omega) rfl (by omega) ?_
    refine zj_aload hG d_MD_plain_141 rfl ?_
    refine zj_iload hG d_MD_plain_143 rfl ?_
    refine zj_iconst (v := 1) hG d_MD_plain_145 rfl ?_
    refine zj_isub hG d_MD_plain_146 ?_
    refine t_ald (n + 1) hG hT d_MD_plain_147 (by first | decide | omega) (by first | decide | omega) (nI_pred _) (by omega) ?_
    rw [r1, r2]
    refine zj_icmp_ge (tgt := 185) hG d_MD_plain_148 (by decide) (fun c148 => ?_) (fun c148 => ?_)
    · refine nx M _ _ _ hr hp ?_ hf
      have e : (A' ++ [y] ++ x :: (B ++ C)).take i = A' ++ [y] ++ x :: B := by
        rw [show A' ++ [y] ++ x :: (B ++ C) = (A' ++ [y] ++ x :: B) ++ C by simp, List.take_left' (by simp; omega)]
      rw [e]
      rw [List.pairwise_append] at hs ⊢
      refine ⟨hs.1, List.pairwise_cons.mpr ⟨hb, hs.2.1⟩, fun a ha b hb' => ?_⟩
      have hay : a ≤ y := by
        have h1 := hs.1
        rw [List.pairwise_append] at h1
        rcases List.mem_append.mp ha with g | g
        · exact h1.2.2 a g y (by simp)
        · simp at g
          subst g
          exact Int32.le_refl _
      rcases List.mem_cons.mp hb' with g | g
      · subst g
        exact Int32.le_trans hay c148
      · exact hs.2.2 a ha b g
    · have hxy : x < y := Int32.not_le.mp c148
      refine zj_aload hG d_MD_plain_151 rfl ?_
      refine zj_iload hG d_MD_plain_153 rfl ?_
      refine t_ald (n + 2) hG hT d_MD_plain_155 (by first | decide | omega) (by first | decide | omega) rfl (by omega) ?_
      refine zj_istore hG d_MD_plain_156 (by decide) rfl rfl ?_
      rw [r2]
      refine zj_aload hG d_MD_plain_158 rfl ?_
      refine zj_iload hG d_MD_plain_160 rfl ?_
      refine zj_aload hG d_MD_plain_162 rfl ?_
      refine zj_iload hG d_MD_plain_164 rfl ?_
      refine zj_iconst (v := 1) hG d_MD_plain_166 rfl ?_
      refine zj_isub hG d_MD_plain_167 ?_
      refine t_ald (n + 1) hG hT d_MD_plain_168 (by first | decide | omega) (by first | decide | omega) (nI_pred _) (by omega) ?_
      refine t_ast (n + 2) hG hT d_MD_plain_169 (by first | decide | omega) (by first | decide | omega) rfl (by omega) ?_
      refine zj_aload hG d_MD_plain_170 rfl ?_
      refine zj_iload hG d_MD_plain_172 rfl ?_
      refine zj_iconst (v := 1) hG d_MD_plain_174 rfl ?_
      refine zj_isub hG d_MD_plain_175 ?_
      refine zj_iload hG d_MD_plain_176 rfl ?_
      refine t_ast (n + 1) hG hT d_MD_plain_178 (by first | decide | omega) (by first | decide | omega) (nI_pred _) (by omega) ?_
      refine zj_iinc hG d_MD_plain_179 rfl (pk_m1 _) (by decide) rfl rfl ?_
      refine zj_goto (tgt := 130) hG d_MD_plain_182 (by decide) ?_
      rw [r1]
      have hsw := hr'.swap
      rw [hA'] at hsw
      refine ih A' (y :: B) x _ _ hA' (by simp; omega) hsw ?_ (by simpa using hs) ?_ ?_
      · refine List.Perm.trans ?_ hp
        rw [List.append_assoc]
        exact List.Perm.append_left A' (List.Perm.swap _ _ _)
      · intro b hb'
        rcases List.mem_cons.mp hb' with g | g
        · subst g
          exact Int32.le_of_lt hxy
        · exact hb b g
      · intro o z hz
        rw [zu_a hz, zu_a hz]
        exact hf o z hz
set_option maxRecDepth 4000 in
theorem k_MD_plainS (hG : zOK G) (hT : twOK q h) {o2 : Nat} (ho : o2 = 28 ∨ o2 = 29) {v0 v1 v2 v3 v4 v5 v6 v7 : Option zV} {l0 : List Int32} :
    ∀ (n i : Nat) (M : Nat → Nat → Int32) (l : List Int32) (w1 w2 : Option zV), 1 ≤ i → (i + n = l.length ∨ n = 0 ∧ l.length ≤ i ∧ i ≤ 1) → tRow M o2 0 l → l.Perm l0 → (l.take i).Pairwise (fun a b => a ≤ b) → (∀ o x, o ≠ o2 → M o x = N o x) →
    zJ G 1 m_MD_plain 117 [v0, v1, v2, v3, v4, v5, v6, v7, some (zA (q + o2)), some (zI (nI (i + 1))), w1, w2] [] (twp q h M) (fun o h' => ∃ N', o = zR0 ∧ h' = twp q h N' ∧ (tRow N' o2 0 (isrt l0) ∧ ∀ o i, o ≠ o2 → N' o i = N o i)) := by
  have hlo : tLn o2 = 7 := by rcases ho with rfl | rfl <;> rfl
  intro n
  induction n with
  | zero =>
    intro i M l w1 w2 h1 hi hr hp hs hf
    have hl6 := hr.2.1
    have hile : l.length ≤ i ∧ i ≤ 7 := by omega
    rw [List.take_of_length_le hile.1] at hs
    refine zj_iload hG d_MD_plain_117 rfl ?_
    refine zj_aload hG d_MD_plain_119 rfl ?_
    refine zj_iconst (v := 0) hG d_MD_plain_121 rfl ?_
    refine t_ald (0) hG hT d_MD_plain_122 (by first | decide | omega) (by first | decide | omega) rfl (by omega) ?_
    rw [hr.1]
    refine zj_icmp_gt (tgt := 191) hG d_MD_plain_123 (by decide) (fun c123 => ?_) (fun c123 => ?_)
    · refine zj_vret hG d_MD_plain_191 rfl ⟨M, rfl, rfl, ?_, hf⟩
      rw [← isrt_eq hp hs]
      exact hr
    · exact absurd (nI_lt (a := l.length) (b := i + 1) (by omega) (by omega)) c123
  | succ n ih =>
    intro i M l w1 w2 h1 hi hr hp hs hf
    have hl6 := hr.2.1
    have hi' : i + (n + 1) = l.length := by omega
    refine zj_iload hG d_MD_plain_117 rfl ?_
    refine zj_aload hG d_MD_plain_119 rfl ?_
    refine zj_iconst (v := 0) hG d_MD_plain_121 rfl ?_
    refine t_ald (0) hG hT d_MD_plain_122 (by first | decide | omega) (by first | decide | omega) rfl (by omega) ?_
    rw [hr.1]
    refine zj_icmp_gt (tgt := 191) hG d_MD_plain_123 (by decide) (fun c123 => ?_) (fun c123 => ?_)
    · exact absurd c123 (nI_nlt (a := l.length) (b := i + 1) (by omega) (by omega))
    refine zj_iload hG d_MD_plain_126 rfl ?_
    refine zj_istore hG d_MD_plain_128 (by decide) rfl rfl ?_
    have hdec : l = l.take i ++ l[i] :: ([] ++ l.drop (i + 1)) := by
      rw [List.nil_append, ← List.drop_eq_getElem_cons (by omega), List.take_append_drop]
    refine k_MD_plainI (N := N) hG hT ho (i := i + 1) (C := l.drop (i + 1)) (l0 := l0) ?_ i (l.take i) [] l[i] M w2 (by simp; omega) (by simp) (by rw [← hdec]; exact hr) (by rw [← hdec]; exact hp) (by simpa using hs) (by simp) hf
    intro M' l' w1' w2' k1 k2 k3 k4
    refine zj_iinc hG d_MD_plain_185 rfl (nI_1 _) (by decide) rfl rfl ?_
    refine zj_goto (tgt := 117) hG d_MD_plain_188 (by decide) ?_
    have : l'.length = l.length := (k2.trans hp.symm).length_eq
    exact ih (i + 1) M' l' w1' w2' (by omega) (Or.inl (by omega)) k1 k2 k3 k4
set_option maxRecDepth 4000 in
theorem k_MD_plain (hG : zOK G) (hT : twOK q h) {o1 b1 o2 : Nat} (g1 : 1 ≤ o1 ∧ o1 ≤ 29) (ho : o2 = 28 ∨ o2 = 29) (hne : o1 ≠ o2) (l1 : b1 + 7 ≤ tLn o1) {l : List Int32} (hr : tRow N o1 b1 l) (k a b : Int32) (f : Bool) (lo hi : Int32) (hd : k = 6 → ¬ a = 0 ∧ ¬ b = 0) (hx : k = 6 ∨ k = 7 → ∃ x, l = [x]) :
    zJ G 1 m_MD_plain 0 [some (zA (q + o1)), some (zI (nI b1)), some (zI k), some (zI a), some (zI b), some (zI (tb f)), some (zI lo), some (zI hi), some (zA (q + o2)), none, none, none] [] (twp q h N) (fun o h' => ∃ N', o = zR0 ∧ h' = twp q h N' ∧ (tRow N' o2 0 (tpln l k a b f lo hi) ∧ ∀ o i, o ≠ o2 → N' o i = N o i)) := by
  have hlo : tLn o2 = 7 := by rcases ho with rfl | rfl <;> rfl
  have g2 : 1 ≤ o2 ∧ o2 ≤ 29 := by omega
  refine zj_aload_n hG d_MD_plain_0 rfl rfl ?_
  refine zj_iload_n hG d_MD_plain_1 rfl rfl ?_
  refine zj_aload hG d_MD_plain_2 rfl ?_
  refine zj_iconst (v := 0) hG d_MD_plain_4 rfl ?_
  refine zj_callV (y' := m_MD_copyRow) hG (zcS (as := [_, _, _, _]) hG d_MD_plain_5 c_MD_copyRow (z_w7 103 rfl) (z_w7 104 rfl) (z_w1 11 rfl) ⟨by decide, by decide⟩ (show _ = some 4 from by decide +kernel) rfl) c_MD_copyRow rfl (by omega) rfl (z_le rfl) (z_le rfl) (k_MD_copyRow (b2 := 0) hG hT _ g1 g2 l1 (by omega) (Or.inl hne)) ?_
  generalize hM : tcp N o1 b1 o2 0 7 = M
  have hr2 : tRow M o2 0 l := by rw [← hM]; exact tcp_row hr
  have hf : ∀ o i, o ≠ o2 → M o i = N o i := fun o i e => by rw [← hM]; exact tcp_n (by omega)
  have hr1 : tRow M o1 b1 l := hr.fr (fun i _ _ => hf o1 i hne)
  clear hM
  have hl := hr.2.1
  refine zj_iload_n hG d_MD_plain_8 rfl rfl ?_
  refine zj_bipush (v := 6) hG d_MD_plain_9 rfl ?_
  refine zj_icmp_ne (tgt := 68) hG d_MD_plain_11 (by decide) (fun c11 => ?_) (fun c11 => ?_)
  · refine zj_iload_n hG d_MD_plain_68 rfl rfl ?_
    refine zj_bipush (v := 7) hG d_MD_plain_69 rfl ?_
    have sorted : ∀ (hnm : ¬ (k = 7 ∧ f = true)), zJ G 1 m_MD_plain 103 [some (zA (q + o1)), some (zI (nI b1)), some (zI k), some (zI a), some (zI b), some (zI (tb f)), some (zI lo), some (zI hi), some (zA (q + o2)), none, none, none] [] (twp q h M) (fun o h' => ∃ N', o = zR0 ∧ h' = twp q h N' ∧ (tRow N' o2 0 (tpln l k a b f lo hi) ∧ ∀ o i, o ≠ o2 → N' o i = N o i)) := by
      intro hnm
      refine zj_iload_n hG d_MD_plain_103 rfl rfl ?_
      refine zj_bipush (v := 8) hG d_MD_plain_104 rfl ?_
      refine zj_icmp_ne (tgt := 191) hG d_MD_plain_106 (by decide) (fun c106 => ?_) (fun c106 => ?_)
      · refine zj_vret hG d_MD_plain_191 rfl ⟨M, rfl, rfl, ?_, hf⟩
        rw [tpln, if_neg c11, if_neg hnm, if_neg (fun g => c106 g.1)]
        exact hr2
      refine zj_iload hG d_MD_plain_109 rfl ?_
      refine zj_if_eq (tgt := 191) hG d_MD_plain_111 (by decide) (fun c111 => ?_) (fun c111 => ?_)
      · have hf0 : f = false := by
          cases f
          · rfl
          · exact absurd c111 (by decide)
        refine zj_vret hG d_MD_plain_191 rfl ⟨M, rfl, rfl, ?_, hf⟩
        rw [tpln, if_neg c11, if_neg hnm, if_neg (fun g => by rw [hf0] at g; cases g.2)]
        exact hr2
      have hf1 : f = true := by
        cases f
        · exact absurd rfl c111
        · rfl
      refine zj_iconst (v := 2) hG d_MD_plain_114 rfl ?_
      refine zj_istore hG d_MD_plain_115 (by decide) rfl rfl ?_
      rw [tpln, if_neg c11, if_neg hnm, if_pos ⟨c106, hf1⟩]
      refine k_MD_plainS (N := N) (l0 := l) hG hT ho (l.length - 1) 1 M l _ _ (by omega) (by omega) hr2 (List.Perm.refl _) ?_ hf
      cases l with
      | nil => simp
      | cons z t => simp
    refine zj_icmp_ne (tgt := 103) hG d_MD_plain_71 (by decide) (fun c71 => ?_) (fun c71 => ?_)
    · exact sorted (fun g => c71 g.1)
    refine zj_iload hG d_MD_plain_74 rfl ?_
    refine zj_if_eq (tgt := 103) hG d_MD_plain_76 (by decide) (fun c76 => ?_) (fun c76 => ?_)
    · have hf0 : f = false := by
        cases f
        · rfl
        · exact absurd c76 (by decide)
      exact sorted (fun g => by rw [hf0] at g; cases g.2)
    have hf1 : f = true := by
      cases f
      · exact absurd rfl c76
      · rfl
    obtain ⟨x, rfl⟩ := hx (Or.inr c71)
    have hx1 := hr2.one
    rw [tpln, if_neg c11, if_pos ⟨c71, hf1⟩]
    refine zj_aload hG d_MD_plain_79 rfl ?_
    refine zj_iconst (v := 1) hG d_MD_plain_81 rfl ?_
    refine zj_aload hG d_MD_plain_82 rfl ?_
    refine zj_iconst (v := 1) hG d_MD_plain_84 rfl ?_
    refine t_ald (1) hG hT d_MD_plain_85 (by first | decide | omega) (by first | decide | omega) rfl (by omega) ?_
    refine zj_iload_n hG d_MD_plain_86 rfl rfl ?_
    rw [show M o2 1 = x from hx1]
    refine zj_icmp_ne (tgt := 95) hG d_MD_plain_87 (by decide) (fun c87 => ?_) (fun c87 => ?_)
    · refine zj_aload hG d_MD_plain_95 rfl ?_
      refine zj_iconst (v := 1) hG d_MD_plain_97 rfl ?_
      refine t_ald (1) hG hT d_MD_plain_98 (by first | decide | omega) (by first | decide | omega) rfl (by omega) ?_
      refine t_ast (1) hG hT d_MD_plain_99 (by first | decide | omega) (by first | decide | omega) rfl (by omega) ?_
      refine zj_goto (tgt := 191) hG d_MD_plain_100 (by decide) ?_
      refine zj_vret hG d_MD_plain_191 rfl ⟨_, rfl, rfl, ?_, fun o i e => by rw [zu_a e]; exact hf o i e⟩
      simp only [List.map, if_neg c87]
      refine tRow.of1 ?_ ?_
      · rw [zu_k (by omega)]
        exact hr2.1
      · exact zu_s.trans hx1
    · refine zj_iload hG d_MD_plain_90 rfl ?_
      refine zj_goto (tgt := 99) hG d_MD_plain_92 (by decide) ?_
      refine t_ast (1) hG hT d_MD_plain_99 (by first | decide | omega) (by first | decide | omega) rfl (by omega) ?_
      refine zj_goto (tgt := 191) hG d_MD_plain_100 (by decide) ?_
      refine zj_vret hG d_MD_plain_191 rfl ⟨_, rfl, rfl, ?_, fun o i e => by rw [zu_a e]; exact hf o i e⟩
      simp only [List.map, if_pos c87]
      refine tRow.of1 ?_ ?_
      · rw [zu_k (by omega)]
        exact hr2.1
      · exact zu_s
  · obtain ⟨x, rfl⟩ := hx (Or.inl c11)
    obtain ⟨ha, hb⟩ := hd c11
    have ha' := i64_ne ha
    have hb' := i64_ne hb
    rw [tpln, if_pos c11]
    refine zj_aload_n hG d_MD_plain_14 rfl rfl ?_
    refine zj_iload_n hG d_MD_plain_15 rfl rfl ?_
    refine zj_iconst (v := 1) hG d_MD_plain_16 rfl ?_
    refine zj_iadd hG d_MD_plain_17 ?_
    refine t_ald (b1 + 1) hG hT d_MD_plain_18 (by first | decide | omega) (by first | decide | omega) (nI_1 _) (by omega) ?_
    refine zj_i2l hG d_MD_plain_19 ?_
    rw [hr1.one]
    refine zj_lstore hG d_MD_plain_20 (by decide) rfl rfl ?_
    refine zj_aload hG d_MD_plain_22 rfl ?_
    refine zj_iconst (v := 1) hG d_MD_plain_24 rfl ?_
    refine zj_iload hG d_MD_plain_25 rfl ?_
    refine zj_if_eq (tgt := 45) hG d_MD_plain_27 (by decide) (fun c27 => ?_) (fun c27 => ?_)
    · have hf0 : f = false := by
        cases f
        · rfl
        · exact absurd c27 (by decide)
      refine zj_iload hG d_MD_plain_45 rfl ?_
      refine zj_i2l hG d_MD_plain_47 ?_
      refine zj_lload hG d_MD_plain_48 rfl ?_
      refine zj_lmul hG d_MD_plain_50 ?_
      refine zj_iload_n hG d_MD_plain_51 rfl rfl ?_
      refine zj_i2l hG d_MD_plain_52 ?_
      refine zj_callR (y' := m_MD_floor) hG (zcS (as := [_, _]) hG d_MD_plain_53 c_MD_floor (z_w7 126 rfl) (z_w7 127 rfl) (z_w1 11 rfl) ⟨by decide, by decide⟩ (show _ = some 2 from by decide +kernel) rfl) c_MD_floor rfl (by omega) rfl (z_le rfl) (z_le rfl) (k_MD_floor hG _ _ ha' _) ?_
      refine zj_iload hG d_MD_plain_56 rfl ?_
      refine zj_iload hG d_MD_plain_58 rfl ?_
      refine zj_callR (y' := m_MD_within) hG (zcS (as := [_, _, _]) hG d_MD_plain_60 c_MD_within (z_w7 148 rfl) (z_w7 149 rfl) (z_w1 11 rfl) ⟨by decide, by decide⟩ (show _ = some 3 from by decide +kernel) rfl) c_MD_within rfl (by omega) rfl (z_le rfl) (z_le rfl) (k_MD_within hG _ _ _ _) ?_
      refine zj_l2i hG d_MD_plain_63 ?_
      refine t_ast (1) hG hT d_MD_plain_64 (by first | decide | omega) (by first | decide | omega) rfl (by omega) ?_
      refine zj_goto (tgt := 191) hG d_MD_plain_65 (by decide) ?_
      refine zj_vret hG d_MD_plain_191 rfl ⟨_, rfl, rfl, ?_, fun o i e => by rw [zu_a e]; exact hf o i e⟩
      refine tRow.of1 ?_ ?_
      · rw [zu_k (by omega)]
        exact hr2.1
      · rw [hf0]
        exact zu_s
    · have hf1 : f = true := by
        cases f
        · exact absurd rfl c27
        · rfl
      refine zj_iload_n hG d_MD_plain_30 rfl rfl ?_
      refine zj_i2l hG d_MD_plain_31 ?_
      refine zj_lload hG d_MD_plain_32 rfl ?_
      refine zj_lmul hG d_MD_plain_34 ?_
      refine zj_iload hG d_MD_plain_35 rfl ?_
      refine zj_i2l hG d_MD_plain_37 ?_
      refine zj_callR (y' := m_MD_floor) hG (zcS (as := [_, _]) hG d_MD_plain_38 c_MD_floor (z_w7 126 rfl) (z_w7 127 rfl) (z_w1 11 rfl) ⟨by decide, by decide⟩ (show _ = some 2 from by decide +kernel) rfl) c_MD_floor rfl (by omega) rfl (z_le rfl) (z_le rfl) (k_MD_floor hG _ _ hb' _) ?_
      refine zj_l2i hG d_MD_plain_41 ?_
      refine zj_goto (tgt := 64) hG d_MD_plain_42 (by decide) ?_
      refine t_ast (1) hG hT d_MD_plain_64 (by first | decide | omega) (by first | decide | omega) rfl (by omega) ?_
      refine zj_goto (tgt := 191) hG d_MD_plain_65 (by decide) ?_
      refine zj_vret hG d_MD_plain_191 rfl ⟨_, rfl, rfl, ?_, fun o i e => by rw [zu_a e]; exact hf o i e⟩
      refine tRow.of1 ?_ ?_
      · rw [zu_k (by omega)]
        exact hr2.1
      · rw [hf1]
        exact zu_s
end MD6
