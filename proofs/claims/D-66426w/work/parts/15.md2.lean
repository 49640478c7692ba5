/-! PART 15: the reference: terms, numbers, paths of primitives -/
theorem nI_5 (n : Nat) : (5 : Int32) * nI n = nI (5 * n) := pk_mul 5 n
theorem nI_a2 (n : Nat) : nI n + 2 = nI (n + 2) := nI_add n 2
theorem nI_a3 (n : Nat) : nI n + 3 = nI (n + 3) := nI_add n 3
theorem nI_a4 (n : Nat) : nI n + 4 = nI (n + 4) := nI_add n 4
theorem nI_a5 (n : Nat) : nI n + 5 = nI (n + 5) := nI_add n 5
theorem nI_a6 (n : Nat) : nI n + 6 = nI (n + 6) := nI_add n 6
theorem nI_a7 (n : Nat) : nI n + 7 = nI (n + 7) := nI_add n 7
/-! a call of the reference whose answer and memory are described -/
section ZC3
variable {G : zG} {d : Nat} {y : zM} {pc : Nat} {ls : List (Option zV)} {h : zH} {Q : zO → zH → Prop} {q : Nat} {N : Nat → Nat → Int32}
theorem zj_callT {d' len : Nat} {y' : zM} {as rest stk : List zV} {le : List (Option zV)} {P : Int32 → (Nat → Nat → Int32) → Prop} (hG : zOK G) (hc : zCall G y pc len y'.1 as rest stk (twp q h N)) (hy : zCode y') (hh : y.2.2.2.2 = []) (hd1 : d' + 1 ≤ d) (hle : zent as y'.2.2.1 = le) (hlen : (zent0 as).length ≤ y'.2.2.1) (hw : 2 * rest.length + y'.2.2.1 ≤ 53)
    (kc : zJ G d' y' 0 le [] (twp q h N) (fun o h' => ∃ v N', o = zR (zI v) ∧ h' = twp q h N' ∧ P v N')) (kr : ∀ v N', P v N' → zJ G d y (pc + len) ls (zI v :: rest) (twp q h N') Q) : zJ G d y pc ls stk (twp q h N) Q :=
  zj_call hG hc hy hh hd1 hle hlen hw kc (fun v' h2 e => by obtain ⟨v, N', e1, e2, e3⟩ := e; cases e1; subst e2; exact kr v N' e3) (fun q h2 e => by obtain ⟨v, N', e1, -⟩ := e; cases e1)
theorem zj_callU {d' len : Nat} {y' : zM} {as rest stk : List zV} {le : List (Option zV)} {P : (Nat → Nat → Int32) → Prop} (hG : zOK G) (hc : zCall G y pc len y'.1 as rest stk (twp q h N)) (hy : zCode y') (hh : y.2.2.2.2 = []) (hd1 : d' + 1 ≤ d) (hle : zent as y'.2.2.1 = le) (hlen : (zent0 as).length ≤ y'.2.2.1) (hw : 2 * rest.length + y'.2.2.1 ≤ 53)
    (kc : zJ G d' y' 0 le [] (twp q h N) (fun o h' => ∃ N', o = zR0 ∧ h' = twp q h N' ∧ P N')) (kr : ∀ N', P N' → zJ G d y (pc + len) ls rest (twp q h N') Q) : zJ G d y pc ls stk (twp q h N) Q :=
  zj_call hG hc hy hh hd1 hle hlen hw kc (fun v' h2 e => by obtain ⟨N', e1, e2, e3⟩ := e; cases e1; subst e2; exact kr N' e3) (fun q h2 e => by obtain ⟨N', e1, -⟩ := e; cases e1)
end ZC3
/-- a term's six numbers; the store -/
abbrev tQ : Type := Int32 × Int32 × Int32 × Int32 × Int32 × Int32
def tSto (N : Nat → Nat → Int32) (L : List tQ) : Prop := N 0 29 = nI L.length ∧ L.length ≤ 1024 ∧ ∀ (k : Nat) (x : tQ), L[k]? = some x → N 22 k = x.1 ∧ N 23 (5 * k) = x.2.1 ∧ N 23 (5 * k + 1) = x.2.2.1 ∧ N 23 (5 * k + 2) = x.2.2.2.1 ∧ N 23 (5 * k + 3) = x.2.2.2.2.1 ∧ N 23 (5 * k + 4) = x.2.2.2.2.2
theorem tSto.fr {P : Nat → Nat → Bool} {N N' : Nat → Nat → Int32} {L : List tQ} (h : tSto N L) (f : tFr P N N') (hp : ∀ o i, pS o i = true → P o i = false) : tSto N' L := by
  have g : ∀ o i, pS o i = true → N' o i = N o i := fun o i e => f o i (hp o i e)
  refine ⟨(g 0 29 rfl).trans h.1, h.2.1, fun k e hk => ?_⟩
  obtain ⟨a1, a2, a3, a4, a5, a6⟩ := h.2.2 k e hk
  exact ⟨(g 22 _ rfl).trans a1, (g 23 _ rfl).trans a2, (g 23 _ rfl).trans a3, (g 23 _ rfl).trans a4, (g 23 _ rfl).trans a5, (g 23 _ rfl).trans a6⟩
def tkn (L : List tQ) (x : tQ) : List tQ := if x ∈ L then L else L ++ [x]
theorem idx_no {L : List tQ} {x : tQ} (h : ∀ j : Nat, j < L.length → L[j]? ≠ some x) : x ∉ L := by
  intro hx
  obtain ⟨j, hj⟩ := List.getElem?_of_mem hx
  exact h j (List.getElem?_eq_some_iff.mp hj).1 hj
theorem idx_at {L : List tQ} {x : tQ} {k : Nat} (hk : L[k]? = some x) (h : ∀ j : Nat, j < k → L[j]? ≠ some x) : L.idxOf x = k := by
  have hkl := (List.getElem?_eq_some_iff.mp hk).1
  have hkx := (List.getElem?_eq_some_iff.mp hk).2
  have hx : x ∈ L := List.mem_of_getElem? hk
  have h1 : L.idxOf x < L.length := List.idxOf_lt_length_iff.mpr hx
  have h2 : L[L.idxOf x] = x := List.getElem_idxOf h1
  rcases Nat.lt_trichotomy (L.idxOf x) k with g | g | g
  · exact absurd (by rw [List.getElem?_eq_getElem h1, h2]) (h _ g)
  · exact g
  · have := List.not_of_lt_findIdx (p := fun y => y == x) (xs := L) (i := k) g
    simp [hkx] at this
section MD2
variable {G : zG} {q : Nat} {h : zH} {N : Nat → Nat → Int32} {L : List tQ} {T : List tE}
set_option maxRecDepth 4000 in
theorem k_MD_knownL (hG : zOK G) (hT : twOK q h) (hS : tSto N L) (hl : L.length < 1024) (x : tQ) : ∀ (n k : Nat) (w : Option zV), k + n = L.length → (∀ j : Nat, j < k → L[j]? ≠ some x) →
    zJ G 0 m_MD_known 3 [some (zA q), some (zI x.1), some (zI x.2.1), some (zI x.2.2.1), some (zI x.2.2.2.1), some (zI x.2.2.2.2.1), some (zI x.2.2.2.2.2), some (zI (nI k)), w] [] (twp q h N) (fun o h' => ∃ v N', o = zR (zI v) ∧ h' = twp q h N' ∧ (v = nI (L.idxOf x) ∧ tSto N' (tkn L x) ∧ tFr pS N N')) := by
  obtain ⟨hF, hL, hE⟩ := hS
  intro n
  induction n with
  | zero =>
    intro k w hk hp
    have hno : x ∉ L := idx_no (fun j hj => hp j (by omega))
    refine zj_iload hG d_MD_known_3 rfl ?_
    refine zj_aload_n hG d_MD_known_5 rfl rfl ?_
    refine t_getI hG hT d_MD_known_6 f_MD_143 rfl ?_
    rw [hF]
    refine zj_icmp_ge (tgt := 104) hG d_MD_known_9 (by decide) (fun c9 => ?_) (fun c9 => ?_)
    · refine zj_aload_n hG d_MD_known_104 rfl rfl ?_
      refine t_getA (o := 22) hG hT d_MD_known_105 f_MD_77 rfl rfl ?_
      refine zj_aload_n hG d_MD_known_108 rfl rfl ?_
      refine t_getI hG hT d_MD_known_109 f_MD_143 rfl ?_
      refine zj_iload_n hG d_MD_known_112 rfl rfl ?_
      refine t_ast (L.length) hG hT d_MD_known_113 (by first | decide | omega) (by first | decide | omega) hF (by show L.length < 1024; omega) ?_
      refine zj_aload_n hG d_MD_known_114 rfl rfl ?_
      refine t_getA (o := 23) hG hT d_MD_known_115 f_MD_80 rfl rfl ?_
      refine zj_iconst (v := 5) hG d_MD_known_118 rfl ?_
      refine zj_aload_n hG d_MD_known_119 rfl rfl ?_
      refine t_getI hG hT d_MD_known_120 f_MD_143 rfl ?_
      refine zj_imul hG d_MD_known_123 ?_
      refine zj_iload_n hG d_MD_known_124 rfl rfl ?_
      refine t_ast (5 * L.length) hG hT d_MD_known_125 (by first | decide | omega) (by first | decide | omega) (by simp [zu, hF, nI_5]) (by show _ < 5120; omega) ?_
      refine zj_aload_n hG d_MD_known_126 rfl rfl ?_
      refine t_getA (o := 23) hG hT d_MD_known_127 f_MD_80 rfl rfl ?_
      refine zj_iconst (v := 5) hG d_MD_known_130 rfl ?_
      refine zj_aload_n hG d_MD_known_131 rfl rfl ?_
      refine t_getI hG hT d_MD_known_132 f_MD_143 rfl ?_
      refine zj_imul hG d_MD_known_135 ?_
      refine zj_iconst (v := 1) hG d_MD_known_136 rfl ?_
      refine zj_iadd hG d_MD_known_137 ?_
      refine zj_iload_n hG d_MD_known_138 rfl rfl ?_
      refine t_ast (5 * L.length + 1) hG hT d_MD_known_139 (by first | decide | omega) (by first | decide | omega) (by simp [zu, hF, nI_5, nI_1]) (by show _ < 5120; omega) ?_
      refine zj_aload_n hG d_MD_known_140 rfl rfl ?_
      refine t_getA (o := 23) hG hT d_MD_known_141 f_MD_80 rfl rfl ?_
      refine zj_iconst (v := 5) hG d_MD_known_144 rfl ?_
      refine zj_aload_n hG d_MD_known_145 rfl rfl ?_
      refine t_getI hG hT d_MD_known_146 f_MD_143 rfl ?_
      refine zj_imul hG d_MD_known_149 ?_
      refine zj_iconst (v := 2) hG d_MD_known_150 rfl ?_
      refine zj_iadd hG d_MD_known_151 ?_
      refine zj_iload hG d_MD_known_152 rfl ?_
      refine t_ast (5 * L.length + 2) hG hT d_MD_known_154 (by first | decide | omega) (by first | decide | omega) (by simp [zu, hF, nI_5, nI_a2]) (by show _ < 5120; omega) ?_
      refine zj_aload_n hG d_MD_known_155 rfl rfl ?_
      refine t_getA (o := 23) hG hT d_MD_known_156 f_MD_80 rfl rfl ?_
      refine zj_iconst (v := 5) hG d_MD_known_159 rfl ?_
      refine zj_aload_n hG d_MD_known_160 rfl rfl ?_
      refine t_getI hG hT d_MD_known_161 f_MD_143 rfl ?_
      refine zj_imul hG d_MD_known_164 ?_
      refine zj_iconst (v := 3) hG d_MD_known_165 rfl ?_
      refine zj_iadd hG d_MD_known_166 ?_
      refine zj_iload hG d_MD_known_167 rfl ?_
      refine t_ast (5 * L.length + 3) hG hT d_MD_known_169 (by first | decide | omega) (by first | decide | omega) (by simp [zu, hF, nI_5, nI_a3]) (by show _ < 5120; omega) ?_
      refine zj_aload_n hG d_MD_known_170 rfl rfl ?_
      refine t_getA (o := 23) hG hT d_MD_known_171 f_MD_80 rfl rfl ?_
      refine zj_iconst (v := 5) hG d_MD_known_174 rfl ?_
      refine zj_aload_n hG d_MD_known_175 rfl rfl ?_
      refine t_getI hG hT d_MD_known_176 f_MD_143 rfl ?_
      refine zj_imul hG d_MD_known_179 ?_
      refine zj_iconst (v := 4) hG d_MD_known_180 rfl ?_
      refine zj_iadd hG d_MD_known_181 ?_
      refine zj_iload hG d_MD_known_182 rfl ?_
      refine t_ast (5 * L.length + 4) hG hT d_MD_known_184 (by first | decide | omega) (by first | decide | omega) (by simp [zu, hF, nI_5, nI_a4]) (by show _ < 5120; omega) ?_
      refine zj_aload_n hG d_MD_known_185 rfl rfl ?_
      refine zj_dup hG d_MD_known_186 (by first | exact zc_A _ | rfl) ?_
      refine t_getI hG hT d_MD_known_187 f_MD_143 rfl ?_
      refine zj_iconst (v := 1) hG d_MD_known_190 rfl ?_
      refine zj_iadd hG d_MD_known_191 ?_
      refine t_putI hG hT d_MD_known_192 f_MD_143 rfl rfl ?_
      refine zj_aload_n hG d_MD_known_195 rfl rfl ?_
      refine t_getI hG hT d_MD_known_196 f_MD_143 rfl ?_
      refine zj_iconst (v := 1) hG d_MD_known_199 rfl ?_
      refine zj_isub hG d_MD_known_200 ?_
      refine zj_iret hG d_MD_known_201 rfl rfl ⟨_, _, rfl, rfl, ?_, ?_, ?_⟩
      · rw [List.idxOf_eq_length hno]
        simp [zu, hF]
      · rw [tkn, if_neg hno]
        refine ⟨?_, by simp; omega, fun k y hk => ?_⟩
        · simp [zu, hF, nI_1]
        · rcases Nat.lt_or_ge k L.length with g | g
          · rw [List.getElem?_append_left g] at hk
            obtain ⟨a1, a2, a3, a4, a5, a6⟩ := hE k y hk
            refine ⟨?_, ?_, ?_, ?_, ?_, ?_⟩ <;> simp only [zu] <;> repeat rw [if_neg (by omega)]
            all_goals assumption
          · rw [List.getElem?_append_right g] at hk
            have : k = L.length := by
              have := (List.getElem?_eq_some_iff.mp hk).1
              simp at this
              omega
            subst this
            simp at hk
            subst hk
            refine ⟨?_, ?_, ?_, ?_, ?_, ?_⟩ <;> simp only [zu] <;> repeat (first | rw [if_neg (by omega)] | rw [if_pos ⟨trivial, trivial⟩] | rw [if_pos (by omega)])
      · repeat (refine tFr.put ?_ rfl)
        exact tFr.rfl'
    · exact absurd (nI_le (by omega) (by omega)) c9
  | succ n ih =>
    intro k w hk hp
    have hkl : k < L.length := by omega
    have he : L[k]? = some L[k] := List.getElem?_eq_getElem hkl
    obtain ⟨a1, a2, a3, a4, a5, a6⟩ := hE k _ he
    have nx : ∀ w', L[k] ≠ x → zJ G 0 m_MD_known 98 [some (zA q), some (zI x.1), some (zI x.2.1), some (zI x.2.2.1), some (zI x.2.2.2.1), some (zI x.2.2.2.2.1), some (zI x.2.2.2.2.2), some (zI (nI k)), w'] [] (twp q h N) (fun o h' => ∃ v N', o = zR (zI v) ∧ h' = twp q h N' ∧ (v = nI (L.idxOf x) ∧ tSto N' (tkn L x) ∧ tFr pS N N')) := by
      intro w' hne
      refine zj_iinc hG d_MD_known_98 rfl (nI_1 k) (by decide) rfl rfl ?_
      refine zj_goto (tgt := 3) hG d_MD_known_101 (by decide) ?_
      refine ih (k + 1) w' (by omega) (fun j hj => ?_)
      rcases Nat.lt_or_ge j k with g | g
      · exact hp j g
      · have : j = k := by omega
        subst this
        rw [he]
        intro e
        cases e
        exact hne rfl
    refine zj_iload hG d_MD_known_3 rfl ?_
    refine zj_aload_n hG d_MD_known_5 rfl rfl ?_
    refine t_getI hG hT d_MD_known_6 f_MD_143 rfl ?_
    rw [hF]
    refine zj_icmp_ge (tgt := 104) hG d_MD_known_9 (by decide) (fun c9 => ?_) (fun c9 => ?_)
    · exact absurd c9 (nI_ge hkl (by omega))
    refine zj_iconst (v := 5) hG d_MD_known_12 rfl ?_
    refine zj_iload hG d_MD_known_13 rfl ?_
    refine zj_imul hG d_MD_known_15 ?_
    refine zj_istore hG d_MD_known_16 (by decide) rfl rfl ?_
    refine zj_aload_n hG d_MD_known_18 rfl rfl ?_
    refine t_getA (o := 22) hG hT d_MD_known_19 f_MD_77 rfl rfl ?_
    refine zj_iload hG d_MD_known_22 rfl ?_
    refine t_ald (k) hG hT d_MD_known_24 (by first | decide | omega) (by first | decide | omega) rfl (by show k < 1024; omega) ?_
    refine zj_iload_n hG d_MD_known_25 rfl rfl ?_
    rw [a1, nI_5]
    refine zj_icmp_ne (tgt := 98) hG d_MD_known_26 (by decide) (fun c26 => ?_) (fun c26 => ?_)
    · exact nx _ (fun e => c26 (by rw [e]))
    refine zj_aload_n hG d_MD_known_29 rfl rfl ?_
    refine t_getA (o := 23) hG hT d_MD_known_30 f_MD_80 rfl rfl ?_
    refine zj_iload hG d_MD_known_33 rfl ?_
    refine t_ald (5 * k) hG hT d_MD_known_35 (by first | decide | omega) (by first | decide | omega) rfl (by show _ < 5120; omega) ?_
    refine zj_iload_n hG d_MD_known_36 rfl rfl ?_
    rw [a2]
    refine zj_icmp_ne (tgt := 98) hG d_MD_known_37 (by decide) (fun c37 => ?_) (fun c37 => ?_)
    · exact nx _ (fun e => c37 (by rw [e]))
    refine zj_aload_n hG d_MD_known_40 rfl rfl ?_
    refine t_getA (o := 23) hG hT d_MD_known_41 f_MD_80 rfl rfl ?_
    refine zj_iload hG d_MD_known_44 rfl ?_
    refine zj_iconst (v := 1) hG d_MD_known_46 rfl ?_
    refine zj_iadd hG d_MD_known_47 ?_
    refine t_ald (5 * k + 1) hG hT d_MD_known_48 (by first | decide | omega) (by first | decide | omega) (nI_1 _) (by show _ < 5120; omega) ?_
    refine zj_iload_n hG d_MD_known_49 rfl rfl ?_
    rw [a3]
    refine zj_icmp_ne (tgt := 98) hG d_MD_known_50 (by decide) (fun c50 => ?_) (fun c50 => ?_)
    · exact nx _ (fun e => c50 (by rw [e]))
    refine zj_aload_n hG d_MD_known_53 rfl rfl ?_
    refine t_getA (o := 23) hG hT d_MD_known_54 f_MD_80 rfl rfl ?_
    refine zj_iload hG d_MD_known_57 rfl ?_
    refine zj_iconst (v := 2) hG d_MD_known_59 rfl ?_
    refine zj_iadd hG d_MD_known_60 ?_
    refine t_ald (5 * k + 2) hG hT d_MD_known_61 (by first | decide | omega) (by first | decide | omega) (nI_a2 _) (by show _ < 5120; omega) ?_
    refine zj_iload hG d_MD_known_62 rfl ?_
    rw [a4]
    refine zj_icmp_ne (tgt := 98) hG d_MD_known_64 (by decide) (fun c64 => ?_) (fun c64 => ?_)
    · exact nx _ (fun e => c64 (by rw [e]))
    refine zj_aload_n hG d_MD_known_67 rfl rfl ?_
    refine t_getA (o := 23) hG hT d_MD_known_68 f_MD_80 rfl rfl ?_
    refine zj_iload hG d_MD_known_71 rfl ?_
    refine zj_iconst (v := 3) hG d_MD_known_73 rfl ?_
    refine zj_iadd hG d_MD_known_74 ?_
    refine t_ald (5 * k + 3) hG hT d_MD_known_75 (by first | decide | omega) (by first | decide | omega) (nI_a3 _) (by show _ < 5120; omega) ?_
    refine zj_iload hG d_MD_known_76 rfl ?_
    rw [a5]
    refine zj_icmp_ne (tgt := 98) hG d_MD_known_78 (by decide) (fun c78 => ?_) (fun c78 => ?_)
    · exact nx _ (fun e => c78 (by rw [e]))
    refine zj_aload_n hG d_MD_known_81 rfl rfl ?_
    refine t_getA (o := 23) hG hT d_MD_known_82 f_MD_80 rfl rfl ?_
    refine zj_iload hG d_MD_known_85 rfl ?_
    refine zj_iconst (v := 4) hG d_MD_known_87 rfl ?_
    refine zj_iadd hG d_MD_known_88 ?_
    refine t_ald (5 * k + 4) hG hT d_MD_known_89 (by first | decide | omega) (by first | decide | omega) (nI_a4 _) (by show _ < 5120; omega) ?_
    refine zj_iload hG d_MD_known_90 rfl ?_
    rw [a6]
    refine zj_icmp_ne (tgt := 98) hG d_MD_known_92 (by decide) (fun c92 => ?_) (fun c92 => ?_)
    · exact nx _ (fun e => c92 (by rw [e]))
    have hx : L[k] = x := Prod.ext c26 (Prod.ext c37 (Prod.ext c50 (Prod.ext c64 (Prod.ext c78 c92))))
    rw [hx] at he
    refine zj_iload hG d_MD_known_95 rfl ?_
    refine zj_iret hG d_MD_known_97 rfl rfl ⟨_, _, rfl, rfl, ?_, ?_, tFr.rfl'⟩
    · rw [idx_at he hp]
    · rw [tkn, if_pos (List.mem_of_getElem? he)]
      exact ⟨hF, hL, hE⟩
theorem k_MD_known (hG : zOK G) (hT : twOK q h) (hS : tSto N L) (hl : L.length < 1024) (t a b c d e : Int32) :
    zJ G 0 m_MD_known 0 [some (zA q), some (zI t), some (zI a), some (zI b), some (zI c), some (zI d), some (zI e), none, none] [] (twp q h N) (fun o h' => ∃ v N', o = zR (zI v) ∧ h' = twp q h N' ∧ (v = nI (L.idxOf (t, a, b, c, d, e)) ∧ tSto N' (tkn L (t, a, b, c, d, e)) ∧ tFr pS N N')) := by
  refine zj_iconst (v := 0) hG d_MD_known_0 rfl ?_
  refine zj_istore hG d_MD_known_1 (by decide) rfl rfl ?_
  exact k_MD_knownL hG hT hS hl (t, a, b, c, d, e) L.length 0 none (by omega) (fun j hj => by omega)
theorem k_MD_number (hG : zOK G) (hT : twOK q h) (hS : tSto N L) (hl : L.length < 1024) (a : Int32) :
    zJ G 1 m_MD_number 0 [some (zA q), some (zI a)] [] (twp q h N) (fun o h' => ∃ v N', o = zR (zI v) ∧ h' = twp q h N' ∧ (v = nI (L.idxOf (1, a, 0, 0, 0, 0)) ∧ tSto N' (tkn L (1, a, 0, 0, 0, 0)) ∧ tFr pS N N')) := by
  refine zj_aload_n hG d_MD_number_0 rfl rfl ?_
  refine zj_iconst (v := 1) hG d_MD_number_1 rfl ?_
  refine zj_iload_n hG d_MD_number_2 rfl rfl ?_
  refine zj_iconst (v := 0) hG d_MD_number_3 rfl ?_
  refine zj_iconst (v := 0) hG d_MD_number_4 rfl ?_
  refine zj_iconst (v := 0) hG d_MD_number_5 rfl ?_
  refine zj_iconst (v := 0) hG d_MD_number_6 rfl ?_
  refine zj_callT (y' := m_MD_known) hG (zcP (as := [_, _, _, _, _, _]) hG d_MD_number_7 c_MD_known (z_w7 29 rfl) (z_w7 31 rfl) (z_w7 30 rfl) (z_w7 8 rfl) rfl ⟨by decide, by decide⟩ hT.1 (by decide) (by decide) (show _ = some 6 from by decide +kernel) rfl) c_MD_known rfl (by omega) rfl (z_le rfl) (z_le rfl) (k_MD_known hG hT (by assumption) (by assumption) _ _ _ _ _ _) (fun v7 N7 e7 => ?_)
  exact zj_iret hG d_MD_number_10 rfl rfl ⟨_, _, rfl, rfl, e7⟩
theorem k_MD_isNumber (hG : zOK G) (hT : twOK q h) {k : Nat} (hk : k < 1024) :
    zJ G 0 m_MD_isNumber 0 [some (zA q), some (zI (nI k))] [] (twp q h N) (fun o h' => o = zR (zI (tb (decide (N 22 k = 1)))) ∧ h' = twp q h N) := by
  refine zj_aload_n hG d_MD_isNumber_0 rfl rfl ?_
  refine t_getA (o := 22) hG hT d_MD_isNumber_1 f_MD_77 rfl rfl ?_
  refine zj_iload_n hG d_MD_isNumber_4 rfl rfl ?_
  refine t_ald (k) hG hT d_MD_isNumber_5 (by first | decide | omega) (by first | decide | omega) rfl hk ?_
  refine zj_iconst (v := 1) hG d_MD_isNumber_6 rfl ?_
  refine zj_icmp_ne (tgt := 14) hG d_MD_isNumber_7 (by decide) (fun c7 => ?_) (fun c7 => ?_)
  · refine zj_iconst (v := 0) hG d_MD_isNumber_14 rfl ?_
    exact zj_iret hG d_MD_isNumber_15 rfl (by first | rfl | (split <;> rfl)) ⟨by simp [tb, *], rfl⟩
  · refine zj_iconst (v := 1) hG d_MD_isNumber_10 rfl ?_
    refine zj_goto (tgt := 15) hG d_MD_isNumber_11 (by decide) ?_
    exact zj_iret hG d_MD_isNumber_15 rfl (by first | rfl | (split <;> rfl)) ⟨by simp [tb, *], rfl⟩
theorem k_MD_argument (hG : zOK G) (hT : twOK q h) {k j : Nat} (hk : 5 * k + j < 5120) :
    zJ G 0 m_MD_argument 0 [some (zA q), some (zI (nI k)), some (zI (nI j))] [] (twp q h N) (fun o h' => o = zR (zI (N 23 (5 * k + j))) ∧ h' = twp q h N) := by
  refine zj_aload_n hG d_MD_argument_0 rfl rfl ?_
  refine t_getA (o := 23) hG hT d_MD_argument_1 f_MD_80 rfl rfl ?_
  refine zj_iconst (v := 5) hG d_MD_argument_4 rfl ?_
  refine zj_iload_n hG d_MD_argument_5 rfl rfl ?_
  refine zj_imul hG d_MD_argument_6 ?_
  refine zj_iload_n hG d_MD_argument_7 rfl rfl ?_
  refine zj_iadd hG d_MD_argument_8 ?_
  refine t_ald (5 * k + j) hG hT d_MD_argument_9 (by first | decide | omega) (by first | decide | omega) (by rw [nI_5, nI_add]) hk ?_
  exact zj_iret hG d_MD_argument_10 rfl rfl ⟨rfl, rfl⟩
/-- floored quotients -/
def tfl (a b : Int64) : Int64 := if (a / b) * b ≤ a then a / b else a / b - 1
set_option maxRecDepth 4000 in
theorem k_MD_floor (hG : zOK G) (a b : Int64) (hb : ¬ b = 0) (h : zH) : zJ G 0 m_MD_floor 0 [some (zL a), none, some (zL b), none, none, none] [] h (fun o h' => o = zR (zL (tfl a b)) ∧ h' = h) := by
  refine zj_lload_n hG d_MD_floor_0 rfl rfl ?_
  refine zj_lload_n hG d_MD_floor_1 rfl rfl ?_
  refine zj_ldiv hG d_MD_floor_2 hb ?_
  refine zj_lstore hG d_MD_floor_3 (by decide) rfl rfl ?_
  refine zj_lload hG d_MD_floor_5 rfl ?_
  refine zj_lload_n hG d_MD_floor_7 rfl rfl ?_
  refine zj_lmul hG d_MD_floor_8 ?_
  refine zj_lload_n hG d_MD_floor_9 rfl rfl ?_
  refine zj_lcmp hG d_MD_floor_10 ?_
  refine zj_if_le (tgt := 21) hG d_MD_floor_11 (by decide) (fun c11 => ?_) (fun c11 => ?_)
  · refine zj_lload hG d_MD_floor_21 rfl ?_
    exact zj_lret hG d_MD_floor_23 rfl ⟨by simp only [lg_cmp_le] at c11; simp only [tfl, c11, if_true, if_false], rfl⟩
  · refine zj_lload hG d_MD_floor_14 rfl ?_
    refine zj_lconst (v := 1) hG d_MD_floor_16 rfl ?_
    refine zj_lsub hG d_MD_floor_17 ?_
    refine zj_goto (tgt := 23) hG d_MD_floor_18 (by decide) ?_
    exact zj_lret hG d_MD_floor_23 rfl ⟨by simp only [lg_cmp_le] at c11; simp only [tfl, c11, if_true, if_false], rfl⟩
def tii (a : Int64) : Bool := decide ((-2147483648 : Int64) ≤ a ∧ a ≤ 2147483647)
set_option maxRecDepth 4000 in
theorem k_MD_isInt (hG : zOK G) (a : Int64) (h : zH) : zJ G 0 m_MD_isInt 0 [some (zL a), none] [] h (fun o h' => o = zR (zI (tb (tii a))) ∧ h' = h) := by
  refine zj_lload_n hG d_MD_isInt_0 rfl rfl ?_
  refine zj_ldc2 hG d_MD_isInt_1 (z_w7 164 rfl) ?_
  refine zj_lcmp hG d_MD_isInt_4 ?_
  refine zj_if_lt (tgt := 20) hG d_MD_isInt_5 (by decide) (fun c5 => ?_) (fun c5 => ?_)
  · rw [lg_cmp_lt] at c5
    have e : tii a = false := by
      simp only [tii, decide_eq_false_iff_not]
      exact fun g => Int64.not_le.mpr c5 g.1
    rw [e]
    refine zj_iconst (v := 0) hG d_MD_isInt_20 rfl ?_
    exact zj_iret hG d_MD_isInt_21 rfl rfl ⟨rfl, rfl⟩
  rw [lg_cmp_lt] at c5
  refine zj_lload_n hG d_MD_isInt_8 rfl rfl ?_
  refine zj_ldc2 hG d_MD_isInt_9 (z_w7 165 rfl) ?_
  refine zj_lcmp hG d_MD_isInt_12 ?_
  refine zj_if_gt (tgt := 20) hG d_MD_isInt_13 (by decide) (fun c13 => ?_) (fun c13 => ?_)
  · rw [lg_cmp_gt] at c13
    have e : tii a = false := by
      simp only [tii, decide_eq_false_iff_not]
      exact fun g => Int64.not_le.mpr c13 g.2
    rw [e]
    refine zj_iconst (v := 0) hG d_MD_isInt_20 rfl ?_
    exact zj_iret hG d_MD_isInt_21 rfl rfl ⟨rfl, rfl⟩
  · rw [lg_cmp_gt] at c13
    have e : tii a = true := by
      simp only [tii, decide_eq_true_eq]
      exact ⟨Int64.not_lt.mp c5, Int64.not_lt.mp c13⟩
    rw [e]
    refine zj_iconst (v := 1) hG d_MD_isInt_16 rfl ?_
    refine zj_goto (tgt := 21) hG d_MD_isInt_17 (by decide) ?_
    exact zj_iret hG d_MD_isInt_21 rfl rfl ⟨rfl, rfl⟩
def twi (v : Int64) (a b : Int32) : Int64 := if a.toInt64 ≤ v then (if v ≤ b.toInt64 then v else b.toInt64) else a.toInt64
set_option maxRecDepth 4000 in
theorem k_MD_within (hG : zOK G) (v : Int64) (a b : Int32) (h : zH) : zJ G 0 m_MD_within 0 [some (zL v), none, some (zI a), some (zI b)] [] h (fun o h' => o = zR (zL (twi v a b)) ∧ h' = h) := by
  refine zj_lload_n hG d_MD_within_0 rfl rfl ?_
  refine zj_iload_n hG d_MD_within_1 rfl rfl ?_
  refine zj_i2l hG d_MD_within_2 ?_
  refine zj_lcmp hG d_MD_within_3 ?_
  refine zj_if_ge (tgt := 12) hG d_MD_within_4 (by decide) (fun c4 => ?_) (fun c4 => ?_)
  · refine zj_lload_n hG d_MD_within_12 rfl rfl ?_
    refine zj_iload_n hG d_MD_within_13 rfl rfl ?_
    refine zj_i2l hG d_MD_within_14 ?_
    refine zj_lcmp hG d_MD_within_15 ?_
    refine zj_if_le (tgt := 24) hG d_MD_within_16 (by decide) (fun c16 => ?_) (fun c16 => ?_)
    · refine zj_lload_n hG d_MD_within_24 rfl rfl ?_
      exact zj_lret hG d_MD_within_25 rfl ⟨by simp only [lg_cmp_le, lg_cmp_ge] at *; simp only [twi, if_true, if_false, *], rfl⟩
    · refine zj_iload_n hG d_MD_within_19 rfl rfl ?_
      refine zj_i2l hG d_MD_within_20 ?_
      refine zj_goto (tgt := 25) hG d_MD_within_21 (by decide) ?_
      exact zj_lret hG d_MD_within_25 rfl ⟨by simp only [lg_cmp_le, lg_cmp_ge] at *; simp only [twi, if_true, if_false, *], rfl⟩
  · refine zj_iload_n hG d_MD_within_7 rfl rfl ?_
    refine zj_i2l hG d_MD_within_8 ?_
    refine zj_goto (tgt := 25) hG d_MD_within_9 (by decide) ?_
    exact zj_lret hG d_MD_within_25 rfl ⟨by simp only [lg_cmp_le, lg_cmp_ge] at *; simp only [twi, if_true, if_false, *], rfl⟩
theorem k_MD_at (hG : zOK G) (a b : Nat) (h : zH) (v : zV) : zJ G 0 m_MD_at 0 [some v, some (zI (nI a)), some (zI (nI b))] [] h (fun o h' => o = zR (zI (nI (8 * (8 * a + b)))) ∧ h' = h) := by
  refine zj_bipush (v := 8) hG d_MD_at_0 rfl ?_
  refine zj_bipush (v := 8) hG d_MD_at_2 rfl ?_
  refine zj_iload_n hG d_MD_at_4 rfl rfl ?_
  refine zj_imul hG d_MD_at_5 ?_
  refine zj_iload_n hG d_MD_at_6 rfl rfl ?_
  refine zj_iadd hG d_MD_at_7 ?_
  refine zj_imul hG d_MD_at_8 ?_
  exact zj_iret hG d_MD_at_9 rfl rfl ⟨by rw [show (8 : Int32) = nI 8 from rfl, pk_mul, nI_add, pk_mul], rfl⟩
/-- where a primitive's field is behind it; the rest of a split number -/
def tbeh (k p a : Int32) : Int32 := if k = 0 then tins (tcut p (tdep p - 1)) (tdep p - 1) (a + 1) else if k = 4 then tins (tcut p (tdep p - 2)) (tdep p - 2) (tlast p (tdep p)) else p
set_option maxRecDepth 4000 in
theorem k_MD_pathBehind (hG : zOK G) (k p a : Int32) (h : zH) (v : zV) : zJ G 1 m_MD_pathBehind 0 [some v, some (zI k), some (zI p), some (zI a), none] [] h (fun o h' => o = zR (zI (tbeh k p a)) ∧ h' = h) := by
  refine zj_iload_n hG d_MD_pathBehind_0 rfl rfl ?_
  refine zj_callR (y' := m_MD_depth) hG (zcS (as := [_]) hG d_MD_pathBehind_1 c_MD_depth (z_w7 37 rfl) (z_w7 38 rfl) (z_w1 11 rfl) ⟨by decide, by decide⟩ (show _ = some 1 from by decide +kernel) rfl) c_MD_depth rfl (by omega) rfl (z_le rfl) (z_le rfl) (k_MD_depth hG _ _) ?_
  refine zj_istore hG d_MD_pathBehind_4 (by decide) rfl rfl ?_
  refine zj_iload_n hG d_MD_pathBehind_6 rfl rfl ?_
  refine zj_if_ne (tgt := 29) hG d_MD_pathBehind_7 (by decide) (fun c7 => ?_) (fun c7 => ?_)
  · refine zj_iload_n hG d_MD_pathBehind_29 rfl rfl ?_
    refine zj_iconst (v := 4) hG d_MD_pathBehind_30 rfl ?_
    refine zj_icmp_ne (tgt := 56) hG d_MD_pathBehind_31 (by decide) (fun c31 => ?_) (fun c31 => ?_)
    · refine zj_iload_n hG d_MD_pathBehind_56 rfl rfl ?_
      exact zj_iret hG d_MD_pathBehind_57 rfl rfl ⟨by simp [tbeh, *], rfl⟩
    · refine zj_iload_n hG d_MD_pathBehind_34 rfl rfl ?_
      refine zj_iload hG d_MD_pathBehind_35 rfl ?_
      refine zj_iconst (v := 2) hG d_MD_pathBehind_37 rfl ?_
      refine zj_isub hG d_MD_pathBehind_38 ?_
      refine zj_callR (y' := m_MD_cutTo) hG (zcS (as := [_, _]) hG d_MD_pathBehind_39 c_MD_cutTo (z_w7 40 rfl) (z_w7 41 rfl) (z_w1 11 rfl) ⟨by decide, by decide⟩ (show _ = some 2 from by decide +kernel) rfl) c_MD_cutTo rfl (by omega) rfl (z_le rfl) (z_le rfl) (k_MD_cutTo hG _ _ _) ?_
      refine zj_iload hG d_MD_pathBehind_42 rfl ?_
      refine zj_iconst (v := 2) hG d_MD_pathBehind_44 rfl ?_
      refine zj_isub hG d_MD_pathBehind_45 ?_
      refine zj_iload_n hG d_MD_pathBehind_46 rfl rfl ?_
      refine zj_iload hG d_MD_pathBehind_47 rfl ?_
      refine zj_callR (y' := m_MD_lastName) hG (zcS (as := [_, _]) hG d_MD_pathBehind_49 c_MD_lastName (z_w7 89 rfl) (z_w7 90 rfl) (z_w1 11 rfl) ⟨by decide, by decide⟩ (show _ = some 2 from by decide +kernel) rfl) c_MD_lastName rfl (by omega) rfl (z_le rfl) (z_le rfl) (k_MD_lastName hG _ _ _) ?_
      refine zj_callR (y' := m_MD_inside) hG (zcS (as := [_, _, _]) hG d_MD_pathBehind_52 c_MD_inside (z_w7 86 rfl) (z_w7 87 rfl) (z_w1 11 rfl) ⟨by decide, by decide⟩ (show _ = some 3 from by decide +kernel) rfl) c_MD_inside rfl (by omega) rfl (z_le rfl) (z_le rfl) (k_MD_inside hG _ _ _ _) ?_
      exact zj_iret hG d_MD_pathBehind_55 rfl rfl ⟨by simp [tbeh, *], rfl⟩
  · refine zj_iload_n hG d_MD_pathBehind_10 rfl rfl ?_
    refine zj_iload hG d_MD_pathBehind_11 rfl ?_
    refine zj_iconst (v := 1) hG d_MD_pathBehind_13 rfl ?_
    refine zj_isub hG d_MD_pathBehind_14 ?_
    refine zj_callR (y' := m_MD_cutTo) hG (zcS (as := [_, _]) hG d_MD_pathBehind_15 c_MD_cutTo (z_w7 40 rfl) (z_w7 41 rfl) (z_w1 11 rfl) ⟨by decide, by decide⟩ (show _ = some 2 from by decide +kernel) rfl) c_MD_cutTo rfl (by omega) rfl (z_le rfl) (z_le rfl) (k_MD_cutTo hG _ _ _) ?_
    refine zj_iload hG d_MD_pathBehind_18 rfl ?_
    refine zj_iconst (v := 1) hG d_MD_pathBehind_20 rfl ?_
    refine zj_isub hG d_MD_pathBehind_21 ?_
    refine zj_iload_n hG d_MD_pathBehind_22 rfl rfl ?_
    refine zj_iconst (v := 1) hG d_MD_pathBehind_23 rfl ?_
    refine zj_iadd hG d_MD_pathBehind_24 ?_
    refine zj_callR (y' := m_MD_inside) hG (zcS (as := [_, _, _]) hG d_MD_pathBehind_25 c_MD_inside (z_w7 86 rfl) (z_w7 87 rfl) (z_w1 11 rfl) ⟨by decide, by decide⟩ (show _ = some 3 from by decide +kernel) rfl) c_MD_inside rfl (by omega) rfl (z_le rfl) (z_le rfl) (k_MD_inside hG _ _ _ _) ?_
    exact zj_iret hG d_MD_pathBehind_28 rfl rfl ⟨by simp [tbeh, *], rfl⟩
def tbes (p n : Int32) : Int32 := tins (tcut p (tdep p - 1)) (tdep p - 1) (n + 1)
theorem k_MD_besides (hG : zOK G) (p n : Int32) (h : zH) : zJ G 1 m_MD_besides 0 [some (zI p), some (zI n), none] [] h (fun o h' => o = zR (zI (tbes p n)) ∧ h' = h) := by
  refine zj_iload_n hG d_MD_besides_0 rfl rfl ?_
  refine zj_callR (y' := m_MD_depth) hG (zcS (as := [_]) hG d_MD_besides_1 c_MD_depth (z_w7 37 rfl) (z_w7 38 rfl) (z_w1 11 rfl) ⟨by decide, by decide⟩ (show _ = some 1 from by decide +kernel) rfl) c_MD_depth rfl (by omega) rfl (z_le rfl) (z_le rfl) (k_MD_depth hG _ _) ?_
  refine zj_istore_n hG d_MD_besides_4 rfl (by decide) rfl rfl ?_
  refine zj_iload_n hG d_MD_besides_5 rfl rfl ?_
  refine zj_iload_n hG d_MD_besides_6 rfl rfl ?_
  refine zj_iconst (v := 1) hG d_MD_besides_7 rfl ?_
  refine zj_isub hG d_MD_besides_8 ?_
  refine zj_callR (y' := m_MD_cutTo) hG (zcS (as := [_, _]) hG d_MD_besides_9 c_MD_cutTo (z_w7 40 rfl) (z_w7 41 rfl) (z_w1 11 rfl) ⟨by decide, by decide⟩ (show _ = some 2 from by decide +kernel) rfl) c_MD_cutTo rfl (by omega) rfl (z_le rfl) (z_le rfl) (k_MD_cutTo hG _ _ _) ?_
  refine zj_iload_n hG d_MD_besides_12 rfl rfl ?_
  refine zj_iconst (v := 1) hG d_MD_besides_13 rfl ?_
  refine zj_isub hG d_MD_besides_14 ?_
  refine zj_iload_n hG d_MD_besides_15 rfl rfl ?_
  refine zj_iconst (v := 1) hG d_MD_besides_16 rfl ?_
  refine zj_iadd hG d_MD_besides_17 ?_
  refine zj_callR (y' := m_MD_inside) hG (zcS (as := [_, _, _]) hG d_MD_besides_18 c_MD_inside (z_w7 86 rfl) (z_w7 87 rfl) (z_w1 11 rfl) ⟨by decide, by decide⟩ (show _ = some 3 from by decide +kernel) rfl) c_MD_inside rfl (by omega) rfl (z_le rfl) (z_le rfl) (k_MD_inside hG _ _ _ _) ?_
  exact zj_iret hG d_MD_besides_21 rfl rfl ⟨rfl, rfl⟩
end MD2
