/-! PART 32: the reference: records copied, compared -/
theorem nI_1792 (n : Nat) : (1792 : Int32) * nI n = nI (1792 * n) := pk_mul 1792 n
/-- n numbers copied within an array -/
def tcn (N : Nat → Nat → Int32) (o b1 b2 n : Nat) : Nat → Nat → Int32 := fun o' x => if o' = o ∧ b2 ≤ x ∧ x < b2 + n then N o (b1 + (x - b2)) else N o' x
theorem tcn_s {N : Nat → Nat → Int32} {o b1 b2 n m : Nat} (hd : b1 + m ≤ b2 ∨ b2 + m ≤ b1) (hn : n < m) : zu (tcn N o b1 b2 n) o (b2 + n) (tcn N o b1 b2 n o (b1 + n)) = tcn N o b1 b2 (n + 1) := by
  have e : tcn N o b1 b2 n o (b1 + n) = N o (b1 + n) := if_neg (by omega)
  rw [e]
  funext o' x
  unfold zu tcn
  by_cases g : o' = o ∧ x = b2 + n
  · rw [if_pos g, if_pos (by omega)]
    congr 1
    omega
  · rw [if_neg g]
    by_cases g2 : o' = o ∧ b2 ≤ x ∧ x < b2 + n
    · rw [if_pos g2, if_pos (by omega)]
    · rw [if_neg g2, if_neg (by omega)]
theorem tcn_0 {N : Nat → Nat → Int32} {o b1 b2 : Nat} : tcn N o b1 b2 0 = N := by
  funext o' x
  exact if_neg (by omega)
theorem tcn_n {N : Nat → Nat → Int32} {o b1 b2 n o' x : Nat} (h : ¬ (o' = o ∧ b2 ≤ x ∧ x < b2 + n)) : tcn N o b1 b2 n o' x = N o' x := if_neg h
theorem tcn_at {N : Nat → Nat → Int32} {o b1 b2 n i : Nat} (h : i < n) : tcn N o b1 b2 n o (b2 + i) = N o (b1 + i) := by
  unfold tcn
  rw [if_pos (by omega)]
  congr 1
  omega
theorem tcn_row {N : Nat → Nat → Int32} {o b1 b2 n i : Nat} {l : List Int32} (h : tRow N o (b1 + i) l) (hi : i + 7 ≤ n) : tRow (tcn N o b1 b2 n) o (b2 + i) l := by
  obtain ⟨a, b, c⟩ := h
  refine ⟨?_, b, fun k x hk => ?_⟩
  · rw [tcn_at (by omega), a]
  · have := (List.getElem?_eq_some_iff.mp hk).1
    rw [show b2 + i + 1 + k = b2 + (i + 1 + k) by omega, tcn_at (by omega), ← c k x hk]
    congr 1
    omega
def oCopy (W : sW) (x : Int32) : Int32 × Int32 × sW := match oRec W x with
  | none => (1, 0, W)
  | some r => match oFree W with
    | none => (2, 0, W)
    | some j => (0, nI j, sRs W j (some r))
section MD19
variable {G : zG} {q : Nat} {h : zH} {N : Nat → Nat → Int32} {W : sW}
set_option maxRecDepth 4000 in
theorem k_MD_copy1 (hG : zOK G) (hT : twOK q h) {i j : Nat} (hi : i < 16) (hj : j < 16) (hij : i ≠ j) {w : Option zV} {Q : zO → zH → Prop} (nx : ∀ v, zJ G 1 m_MD_copy 90 [some (zA q), some (zI (nI i)), some (zI (nI j)), some v, w] [] (twp q h (tcn N 11 (168 * i) (168 * j) 168)) Q) : ∀ (n k : Nat), k + n = 168 → zJ G 1 m_MD_copy 53 [some (zA q), some (zI (nI i)), some (zI (nI j)), some (zI (nI k)), w] [] (twp q h (tcn N 11 (168 * i) (168 * j) k)) Q := by
  intro n
  induction n with
  | zero =>
    intro k hk
    have : k = 168 := by omega
    subst this
    refine zj_iload_n hG d_MD_copy_53 rfl rfl ?_
    refine zj_sipush (v := 168) hG d_MD_copy_54 rfl ?_
    refine zj_icmp_ge (tgt := 90) hG d_MD_copy_57 (by decide) (fun _ => ?_) (fun c => absurd (by decide) c)
    exact nx _
  | succ n ih =>
    intro k hk
    refine zj_iload_n hG d_MD_copy_53 rfl rfl ?_
    refine zj_sipush (v := 168) hG d_MD_copy_54 rfl ?_
    refine zj_icmp_ge (tgt := 90) hG d_MD_copy_57 (by decide) (fun c => absurd c (nI_ge (a := k) (b := 168) (by omega) (by omega))) (fun _ => ?_)
    refine zj_aload_n hG d_MD_copy_60 rfl rfl ?_
    refine t_getA (o := 11) hG hT d_MD_copy_61 f_MD_44 rfl rfl ?_
    refine zj_sipush (v := 168) hG d_MD_copy_64 rfl ?_
    refine zj_iload_n hG d_MD_copy_67 rfl rfl ?_
    refine zj_imul hG d_MD_copy_68 ?_
    refine zj_iload_n hG d_MD_copy_69 rfl rfl ?_
    refine zj_iadd hG d_MD_copy_70 ?_
    refine zj_aload_n hG d_MD_copy_71 rfl rfl ?_
    refine t_getA (o := 11) hG hT d_MD_copy_72 f_MD_44 rfl rfl ?_
    refine zj_sipush (v := 168) hG d_MD_copy_75 rfl ?_
    refine zj_iload_n hG d_MD_copy_78 rfl rfl ?_
    refine zj_imul hG d_MD_copy_79 ?_
    refine zj_iload_n hG d_MD_copy_80 rfl rfl ?_
    refine zj_iadd hG d_MD_copy_81 ?_
    refine t_ald (168 * i + k) hG hT d_MD_copy_82 (by first | decide | omega) (by first | decide | omega) (by rw [nI_168, nI_add]) (by show _ < 2688; omega) ?_
    refine t_ast (168 * j + k) hG hT d_MD_copy_83 (by first | decide | omega) (by first | decide | omega) (by rw [nI_168, nI_add]) (by show _ < 2688; omega) ?_
    refine zj_iinc hG d_MD_copy_84 rfl (nI_1 k) (by decide) rfl rfl ?_
    refine zj_goto (tgt := 53) hG d_MD_copy_87 (by decide) ?_
    rw [tcn_s (m := 168) (by omega) (by omega)]
    exact ih (k + 1) (by omega)
set_option maxRecDepth 4000 in
theorem k_MD_copy2 (hG : zOK G) (hT : twOK q h) {i j : Nat} (hi : i < 16) (hj : j < 16) (hij : i ≠ j) {Q : zO → zH → Prop} (nx : ∀ v, zJ G 1 m_MD_copy 131 [some (zA q), some (zI (nI i)), some (zI (nI j)), some (zI 128), some v] [] (twp q h (tcn N 12 (128 * i) (128 * j) 128)) Q) : ∀ (n k : Nat), k + n = 128 → zJ G 1 m_MD_copy 97 [some (zA q), some (zI (nI i)), some (zI (nI j)), some (zI 128), some (zI (nI k))] [] (twp q h (tcn N 12 (128 * i) (128 * j) k)) Q := by
  intro n
  induction n with
  | zero =>
    intro k hk
    have : k = 128 := by omega
    subst this
    refine zj_iload hG d_MD_copy_97 rfl ?_
    refine zj_iload_n hG d_MD_copy_99 rfl rfl ?_
    refine zj_icmp_ge (tgt := 131) hG d_MD_copy_100 (by decide) (fun _ => ?_) (fun c => absurd (by decide) c)
    exact nx _
  | succ n ih =>
    intro k hk
    refine zj_iload hG d_MD_copy_97 rfl ?_
    refine zj_iload_n hG d_MD_copy_99 rfl rfl ?_
    refine zj_icmp_ge (tgt := 131) hG d_MD_copy_100 (by decide) (fun c => absurd c (nI_ge (a := k) (b := 128) (by omega) (by omega))) (fun _ => ?_)
    refine zj_aload_n hG d_MD_copy_103 rfl rfl ?_
    refine t_getA (o := 12) hG hT d_MD_copy_104 f_MD_47 rfl rfl ?_
    refine zj_iload_n hG d_MD_copy_107 rfl rfl ?_
    refine zj_iload_n hG d_MD_copy_108 rfl rfl ?_
    refine zj_imul hG d_MD_copy_109 ?_
    refine zj_iload hG d_MD_copy_110 rfl ?_
    refine zj_iadd hG d_MD_copy_112 ?_
    refine zj_aload_n hG d_MD_copy_113 rfl rfl ?_
    refine t_getA (o := 12) hG hT d_MD_copy_114 f_MD_47 rfl rfl ?_
    refine zj_iload_n hG d_MD_copy_117 rfl rfl ?_
    refine zj_iload_n hG d_MD_copy_118 rfl rfl ?_
    refine zj_imul hG d_MD_copy_119 ?_
    refine zj_iload hG d_MD_copy_120 rfl ?_
    refine zj_iadd hG d_MD_copy_122 ?_
    refine t_ald (128 * i + k) hG hT d_MD_copy_123 (by first | decide | omega) (by first | decide | omega) (by rw [nI_128, nI_add]) (by show _ < 2048; omega) ?_
    refine t_ast (128 * j + k) hG hT d_MD_copy_124 (by first | decide | omega) (by first | decide | omega) (by rw [nI_128, nI_add]) (by show _ < 2048; omega) ?_
    refine zj_iinc hG d_MD_copy_125 rfl (nI_1 k) (by decide) rfl rfl ?_
    refine zj_goto (tgt := 97) hG d_MD_copy_128 (by decide) ?_
    rw [tcn_s (m := 128) (by omega) (by omega)]
    exact ih (k + 1) (by omega)
set_option maxRecDepth 4000 in
theorem k_MD_copy3 (hG : zOK G) (hT : twOK q h) {i j : Nat} (hi : i < 16) (hj : j < 16) (hij : i ≠ j) {Q : zO → zH → Prop} (nx : ∀ v, zJ G 1 m_MD_copy 177 [some (zA q), some (zI (nI i)), some (zI (nI j)), some (zI 128), some v] [] (twp q h (tcn N 13 (1792 * i) (1792 * j) 1792)) Q) : ∀ (n k : Nat), k + n = 1792 → zJ G 1 m_MD_copy 134 [some (zA q), some (zI (nI i)), some (zI (nI j)), some (zI 128), some (zI (nI k))] [] (twp q h (tcn N 13 (1792 * i) (1792 * j) k)) Q := by
  intro n
  induction n with
  | zero =>
    intro k hk
    have : k = 1792 := by omega
    subst this
    refine zj_iload hG d_MD_copy_134 rfl ?_
    refine zj_bipush (v := 14) hG d_MD_copy_136 rfl ?_
    refine zj_iload_n hG d_MD_copy_138 rfl rfl ?_
    refine zj_imul hG d_MD_copy_139 ?_
    refine zj_icmp_ge (tgt := 177) hG d_MD_copy_140 (by decide) (fun _ => ?_) (fun c => absurd (by decide) c)
    exact nx _
  | succ n ih =>
    intro k hk
    refine zj_iload hG d_MD_copy_134 rfl ?_
    refine zj_bipush (v := 14) hG d_MD_copy_136 rfl ?_
    refine zj_iload_n hG d_MD_copy_138 rfl rfl ?_
    refine zj_imul hG d_MD_copy_139 ?_
    refine zj_icmp_ge (tgt := 177) hG d_MD_copy_140 (by decide) (fun c => absurd c (nI_ge (a := k) (b := 1792) (by omega) (by omega))) (fun _ => ?_)
    refine zj_aload_n hG d_MD_copy_143 rfl rfl ?_
    refine t_getA (o := 13) hG hT d_MD_copy_144 f_MD_50 rfl rfl ?_
    refine zj_bipush (v := 14) hG d_MD_copy_147 rfl ?_
    refine zj_iload_n hG d_MD_copy_149 rfl rfl ?_
    refine zj_imul hG d_MD_copy_150 ?_
    refine zj_iload_n hG d_MD_copy_151 rfl rfl ?_
    refine zj_imul hG d_MD_copy_152 ?_
    refine zj_iload hG d_MD_copy_153 rfl ?_
    refine zj_iadd hG d_MD_copy_155 ?_
    refine zj_aload_n hG d_MD_copy_156 rfl rfl ?_
    refine t_getA (o := 13) hG hT d_MD_copy_157 f_MD_50 rfl rfl ?_
    refine zj_bipush (v := 14) hG d_MD_copy_160 rfl ?_
    refine zj_iload_n hG d_MD_copy_162 rfl rfl ?_
    refine zj_imul hG d_MD_copy_163 ?_
    refine zj_iload_n hG d_MD_copy_164 rfl rfl ?_
    refine zj_imul hG d_MD_copy_165 ?_
    refine zj_iload hG d_MD_copy_166 rfl ?_
    refine zj_iadd hG d_MD_copy_168 ?_
    refine t_ald (1792 * i + k) hG hT d_MD_copy_169 (by first | decide | omega) (by first | decide | omega) (by rw [show (14 : Int32) * 128 = 1792 from rfl, nI_1792, nI_add]) (by show _ < 28672; omega) ?_
    refine t_ast (1792 * j + k) hG hT d_MD_copy_170 (by first | decide | omega) (by first | decide | omega) (by rw [show (14 : Int32) * 128 = 1792 from rfl, nI_1792, nI_add]) (by show _ < 28672; omega) ?_
    refine zj_iinc hG d_MD_copy_171 rfl (nI_1 k) (by decide) rfl rfl ?_
    refine zj_goto (tgt := 134) hG d_MD_copy_174 (by decide) ?_
    rw [tcn_s (m := 1792) (by omega) (by omega)]
    exact ih (k + 1) (by omega)
set_option maxRecDepth 4000 in
theorem k_MD_copy (hG : zOK G) (hT : twOK q h) (hA : tA N W) (x : Int32) : zJ G 1 m_MD_copy 0 [some (zA q), some (zI x), none, none, none] [] (twp q h N) (fun o h' => ∃ z N', o = zR (zI z) ∧ h' = twp q h N' ∧ (N' 0 0 = (oCopy W x).1 ∧ z = (oCopy W x).2.1 ∧ tA N' (oCopy W x).2.2)) := by
  have hW := hA.1
  refine zj_aload_n hG d_MD_copy_0 rfl rfl ?_
  refine zj_callR (y' := m_MD_free) hG (zcP (as := []) hG d_MD_copy_1 c_MD_free (z_w7 190 rfl) (z_w7 192 rfl) (z_w7 191 rfl) (z_w7 8 rfl) rfl ⟨by decide, by decide⟩ hT.1 (by decide) (by decide) (show _ = some 0 from by decide +kernel) rfl) c_MD_free rfl (by omega) rfl (z_le rfl) (z_le rfl) (k_MD_free hG hT hW) ?_
  refine zj_istore_n hG d_MD_copy_4 rfl (by decide) rfl rfl ?_
  refine zj_aload_n hG d_MD_copy_5 rfl rfl ?_
  refine zj_aload_n hG d_MD_copy_6 rfl rfl ?_
  refine zj_iload_n hG d_MD_copy_7 rfl rfl ?_
  refine zj_callR (y' := m_MD_isRecordHandle) hG (zcP (as := [_]) hG d_MD_copy_8 c_MD_isRecordHandle (z_w7 198 rfl) (z_w7 200 rfl) (z_w7 199 rfl) (z_w7 8 rfl) rfl ⟨by decide, by decide⟩ hT.1 (by decide) (by decide) (show _ = some 1 from by decide +kernel) rfl) c_MD_isRecordHandle rfl (by omega) rfl (z_le rfl) (z_le rfl) (k_MD_isRecordHandle hG hT hW x) ?_
  rw [oCopy]
  cases hr : oRec W x with
  | none =>
    refine zj_if_ne (tgt := 18) hG d_MD_copy_11 (by decide) (fun c => absurd rfl c) (fun _ => ?_)
    refine zj_iconst (v := 1) hG d_MD_copy_14 rfl ?_
    refine zj_goto (tgt := 27) hG d_MD_copy_15 (by decide) ?_
    refine t_putI hG hT d_MD_copy_27 f_MD_101 rfl rfl ?_
    refine zj_aload_n hG d_MD_copy_30 rfl rfl ?_
    refine t_getI hG hT d_MD_copy_31 f_MD_101 rfl ?_
    rw [zu_s]
    refine zj_if_le (tgt := 39) hG d_MD_copy_34 (by decide) (fun c => absurd c (by decide)) (fun _ => ?_)
    refine zj_iconst (v := 0) hG d_MD_copy_37 rfl ?_
    exact zj_iret hG d_MD_copy_38 rfl rfl ⟨_, _, rfl, rfl, zu_s, rfl, hA.th 1⟩
  | some r =>
    obtain ⟨i, hi, rfl, hr2⟩ := oRec_some hr
    simp only
    refine zj_if_ne (tgt := 18) hG d_MD_copy_11 (by decide) (fun _ => ?_) (fun c => absurd c tb1)
    refine zj_iload_n hG d_MD_copy_18 rfl rfl ?_
    cases hf : oFree W with
    | none =>
      refine zj_if_ge (tgt := 26) hG d_MD_copy_19 (by decide) (fun c => absurd c (by decide)) (fun _ => ?_)
      refine zj_iconst (v := 2) hG d_MD_copy_22 rfl ?_
      refine zj_goto (tgt := 27) hG d_MD_copy_23 (by decide) ?_
      refine t_putI hG hT d_MD_copy_27 f_MD_101 rfl rfl ?_
      refine zj_aload_n hG d_MD_copy_30 rfl rfl ?_
      refine t_getI hG hT d_MD_copy_31 f_MD_101 rfl ?_
      rw [zu_s]
      refine zj_if_le (tgt := 39) hG d_MD_copy_34 (by decide) (fun c => absurd c (by decide)) (fun _ => ?_)
      refine zj_iconst (v := 0) hG d_MD_copy_37 rfl ?_
      exact zj_iret hG d_MD_copy_38 rfl rfl ⟨_, _, rfl, rfl, zu_s, rfl, hA.th 2⟩
    | some j =>
      obtain ⟨hj, hj0⟩ := oFree_lt hf
      have hij : i ≠ j := by
        intro e
        subst e
        rw [hr2] at hj0
        cases hj0
      obtain ⟨hW0, X, hX, hXl⟩ := hA.th 0
      have h24 := hW0.len hi hr2
      obtain ⟨a1, a2, a3, a4⟩ := hW0.r hi hr2
      refine zj_if_ge (tgt := 26) hG d_MD_copy_19 (by decide) (fun _ => ?_) (fun c => absurd (nI_pos' (by omega)) c)
      refine zj_iconst (v := 0) hG d_MD_copy_26 rfl ?_
      refine t_putI hG hT d_MD_copy_27 f_MD_101 rfl rfl ?_
      refine zj_aload_n hG d_MD_copy_30 rfl rfl ?_
      refine t_getI hG hT d_MD_copy_31 f_MD_101 rfl ?_
      rw [zu_s]
      refine zj_if_le (tgt := 39) hG d_MD_copy_34 (by decide) (fun _ => ?_) (fun c => absurd (by decide) c)
      refine zj_aload_n hG d_MD_copy_39 rfl rfl ?_
      refine t_getA (o := 10) hG hT d_MD_copy_40 f_MD_41 rfl rfl ?_
      refine zj_iload_n hG d_MD_copy_43 rfl rfl ?_
      refine zj_aload_n hG d_MD_copy_44 rfl rfl ?_
      refine t_getA (o := 10) hG hT d_MD_copy_45 f_MD_41 rfl rfl ?_
      refine zj_iload_n hG d_MD_copy_48 rfl rfl ?_
      refine t_ald (i) hG hT d_MD_copy_49 (by first | decide | omega) (by first | decide | omega) rfl hi ?_
      refine t_ast (j) hG hT d_MD_copy_50 (by first | decide | omega) (by first | decide | omega) rfl hj ?_
      refine zj_iconst (v := 0) hG d_MD_copy_51 rfl ?_
      refine zj_istore_n hG d_MD_copy_52 rfl (by decide) rfl rfl ?_
      rw [a1]
      generalize hM : zu N 0 0 0 = M at *
      have key := k_MD_copy1 (N := zu M 10 j (nI r.1)) (w := none) hG hT hi hj hij (Q := fun o h' => ∃ z N', o = zR (zI z) ∧ h' = twp q h N' ∧ N' 0 0 = (0 : Int32) ∧ z = nI j ∧ tA N' (sRs W j (some r))) ?_ 168 0 (by omega)
      · rw [tcn_0] at key
        exact key
      intro v1
      refine zj_sipush (v := 128) hG d_MD_copy_90 rfl ?_
      refine zj_istore_n hG d_MD_copy_93 rfl (by decide) rfl rfl ?_
      refine zj_iconst (v := 0) hG d_MD_copy_94 rfl ?_
      refine zj_istore hG d_MD_copy_95 (by decide) rfl rfl ?_
      have key := k_MD_copy2 (N := tcn (zu M 10 j (nI r.1)) 11 (168 * i) (168 * j) 168) hG hT hi hj hij (Q := fun o h' => ∃ z N', o = zR (zI z) ∧ h' = twp q h N' ∧ N' 0 0 = (0 : Int32) ∧ z = nI j ∧ tA N' (sRs W j (some r))) ?_ 128 0 (by omega)
      · rw [tcn_0] at key
        exact key
      intro v2
      refine zj_iconst (v := 0) hG d_MD_copy_131 rfl ?_
      refine zj_istore hG d_MD_copy_132 (by decide) rfl rfl ?_
      have key := k_MD_copy3 (N := tcn (tcn (zu M 10 j (nI r.1)) 11 (168 * i) (168 * j) 168) 12 (128 * i) (128 * j) 128) hG hT hi hj hij (Q := fun o h' => ∃ z N', o = zR (zI z) ∧ h' = twp q h N' ∧ N' 0 0 = (0 : Int32) ∧ z = nI j ∧ tA N' (sRs W j (some r))) ?_ 1792 0 (by omega)
      · rw [tcn_0] at key
        exact key
      intro v3
      refine zj_iload_n hG d_MD_copy_177 rfl rfl ?_
      have f : ∀ o x, ¬ (o = 10 ∧ x = j) → ¬ (o = 11 ∧ 168 * j ≤ x ∧ x < 168 * j + 168) → ¬ (o = 12 ∧ 128 * j ≤ x ∧ x < 128 * j + 128) → ¬ (o = 13 ∧ 1792 * j ≤ x ∧ x < 1792 * j + 1792) → tcn (tcn (tcn (zu M 10 j (nI r.1)) 11 (168 * i) (168 * j) 168) 12 (128 * i) (128 * j) 128) 13 (1792 * i) (1792 * j) 1792 o x = M o x := by
        intro o x e1 e2 e3 e4
        rw [tcn_n (by omega), tcn_n (by omega), tcn_n (by omega), zu, if_neg e1]
      refine zj_iret hG d_MD_copy_178 rfl rfl ⟨_, _, rfl, rfl, ?_, rfl, hW0.rc (fun o x _ e1 e2 e3 e4 => f o x e1 e2 e3 e4) ⟨?_, a2, fun k l hk => ?_, fun s hs => ?_⟩, X, hX.fr2 (P := fun o _ => o == 10 || o == 11 || o == 12 || o == 13) (fun o x e => f o x (by simp at e; omega) (by simp at e; omega) (by simp at e; omega) (by simp at e; omega)) (by intro o i e; simp [pA, pT, pS, pW] at e; simp; omega), hXl⟩
      · rw [f _ _ (by omega) (by omega) (by omega) (by omega), ← hM]
        exact zu_s
      · rw [tcn_n (by omega), tcn_n (by omega), tcn_n (by omega), zu_s]
      · have hk2 := (List.getElem?_eq_some_iff.mp hk).1
        have e := a3 k l hk
        rw [show 7 * (24 * i + k) = 168 * i + 7 * k by omega] at e
        have e2 : tRow (tcn (zu M 10 j (nI r.1)) 11 (168 * i) (168 * j) 168) 11 (168 * j + 7 * k) l := tcn_row (e.fr (fun x _ _ => zu_a (by omega))) (by omega)
        rw [show 7 * (24 * j + k) = 168 * j + 7 * k by omega]
        exact e2.fr (fun x _ _ => by rw [tcn_n (by omega), tcn_n (by omega)])
      · obtain ⟨d1, d2, d3⟩ := a4 s hs
        refine ⟨?_, fun e => ?_, fun e => ?_⟩
        · rw [tcn_n (by omega), tcn_at (by omega), tcn_n (by omega), zu_a (by omega)]
          exact d1
        · have g := d2 e
          rw [show 14 * (128 * i + s) = 1792 * i + 14 * s by omega] at g
          rw [show 14 * (128 * j + s) = 1792 * j + 14 * s by omega]
          exact tcn_row (g.fr (fun x _ _ => by rw [tcn_n (by omega), tcn_n (by omega), zu_a (by omega)])) (by omega)
        · have g := d3 e
          rw [show 14 * (128 * i + s) + 7 = 1792 * i + (14 * s + 7) by omega] at g
          rw [show 14 * (128 * j + s) + 7 = 1792 * j + (14 * s + 7) by omega]
          exact tcn_row (g.fr (fun x _ _ => by rw [tcn_n (by omega), tcn_n (by omega), zu_a (by omega)])) (by omega)
/-- whether two records are the same, for the first fields -/
def oSm (r1 r2 : sRc) (F : List tFd) (n : Nat) : Bool := decide (∀ k, k < n → (F[k]?.map (fun f => f.2.1)) = some 2 ∨ oRow r1 k = oRow r2 k)
def oSame (W : sW) (x y : Int32) : Int32 × Bool := match oRec W x, oRec W y with
  | some r1, some r2 => (0, decide (r1.1 = r2.1) && oSm r1 r2 ((wV W)[r1.1]?.getD []) ((wV W)[r1.1]?.getD []).length)
  | _, _ => (1, false)
theorem oSm_s {r1 r2 : sRc} {F : List tFd} {n : Nat} (h : oSm r1 r2 F n = true) : oSm r1 r2 F (n + 1) = decide ((F[n]?.map (fun f => f.2.1)) = some 2 ∨ oRow r1 n = oRow r2 n) := by
  simp only [oSm, decide_eq_true_eq] at h
  simp only [oSm, decide_eq_decide]
  constructor
  · exact fun g => g n (by omega)
  · intro g k hk
    rcases Nat.lt_or_ge k n with e | e
    · exact h k e
    · have : k = n := by omega
      subst this
      exact g
theorem oSm_f {r1 r2 : sRc} {F : List tFd} {n m : Nat} (h : oSm r1 r2 F n = false) (hm : n ≤ m) : oSm r1 r2 F m = false := by
  cases e : oSm r1 r2 F m with
  | false => rfl
  | true =>
    simp only [oSm, decide_eq_true_eq] at e
    simp only [oSm, decide_eq_false_iff_not] at h
    exact absurd (fun k hk => e k (by omega)) h
set_option maxRecDepth 4000 in
theorem k_MD_sameL (hG : zOK G) (hT : twOK q h) (hW : tW N W) {i j : Nat} {r1 r2 : sRc} {F : List tFd} (hi : i < 16) (hj : j < 16) (h1 : wR W i = some r1) (h2 : wR W j = some r2) (hF : (wV W)[r1.1]? = some F) (hF2 : (wV W)[r2.1]? = some F) : ∀ (n k : Nat), k + n = F.length → oSm r1 r2 F k = true →
    zJ G 1 m_MD_same 58 [some (zA q), some (zI (nI i)), some (zI (nI j)), some (zI 1), some (zI (nI k))] [] (twp q h N) (fun o h' => o = zR (zI (tb (oSm r1 r2 F F.length))) ∧ h' = twp q h N) := by
  obtain ⟨f1, f2, f3⟩ := hW.2.1 _ F hF
  have hv := (List.getElem?_eq_some_iff.mp hF).1
  have h8 := hW.1.2.2
  obtain ⟨a1, ⟨F', e1, e2⟩, a3, a4⟩ := hW.r hi h1
  obtain ⟨b1, ⟨F'', e3, e4⟩, b3, b4⟩ := hW.r hj h2
  rw [hF] at e1
  cases e1
  rw [hF2] at e3
  cases e3
  intro n
  induction n with
  | zero =>
    intro k hk hs
    have : k = F.length := by omega
    subst this
    rw [hs]
    refine zj_iload hG d_MD_same_58 rfl ?_
    refine zj_aload_n hG d_MD_same_60 rfl rfl ?_
    refine t_getA (o := 1) hG hT d_MD_same_61 f_MD_13 rfl rfl ?_
    refine zj_aload_n hG d_MD_same_64 rfl rfl ?_
    refine t_getA (o := 10) hG hT d_MD_same_65 f_MD_41 rfl rfl ?_
    refine zj_iload_n hG d_MD_same_68 rfl rfl ?_
    refine t_ald (i) hG hT d_MD_same_69 (by first | decide | omega) (by first | decide | omega) rfl hi ?_
    refine t_ald (r1.1) hG hT d_MD_same_70 (by first | decide | omega) (by first | decide | omega) a1 (by show _ < 8; omega) ?_
    rw [f1]
    refine zj_icmp_ge (tgt := 139) hG d_MD_same_71 (by decide) (fun _ => ?_) (fun c => absurd (nI_le (by omega) (by omega)) c)
    refine zj_iload_n hG d_MD_same_139 rfl rfl ?_
    exact zj_iret hG d_MD_same_140 rfl rfl ⟨rfl, rfl⟩
  | succ n ih =>
    intro k hk hs
    have hkl : k < F.length := by omega
    have he : F[k]? = some F[k] := List.getElem?_eq_getElem hkl
    obtain ⟨-, c2, -⟩ := f3 k _ he
    have hsn := oSm_s hs
    rw [he] at hsn
    simp only [Option.map_some, Option.some.injEq] at hsn
    have q1 : r1.2.1[k]? = some (oRow r1 k) := by
      rw [oRow, List.getElem?_eq_getElem (by omega)]
      rfl
    have q2 : r2.2.1[k]? = some (oRow r2 k) := by
      rw [oRow, List.getElem?_eq_getElem (by omega)]
      rfl
    have yes : ((F[k]).2.1 = 2 ∨ oRow r1 k = oRow r2 k) → zJ G 1 m_MD_same 127 [some (zA q), some (zI (nI i)), some (zI (nI j)), some (zI 1), some (zI (nI k))] [] (twp q h N) (fun o h' => o = zR (zI (tb (oSm r1 r2 F F.length))) ∧ h' = twp q h N) := by
      intro g
      refine zj_iconst (v := 1) hG d_MD_same_127 rfl ?_
      refine zj_goto (tgt := 132) hG d_MD_same_128 (by decide) ?_
      refine zj_istore_n hG d_MD_same_132 rfl (by decide) rfl rfl ?_
      refine zj_iinc hG d_MD_same_133 rfl (nI_1 k) (by decide) rfl rfl ?_
      refine zj_goto (tgt := 58) hG d_MD_same_136 (by decide) ?_
      exact ih (k + 1) (by omega) (by rw [hsn]; simpa using g)
    refine zj_iload hG d_MD_same_58 rfl ?_
    refine zj_aload_n hG d_MD_same_60 rfl rfl ?_
    refine t_getA (o := 1) hG hT d_MD_same_61 f_MD_13 rfl rfl ?_
    refine zj_aload_n hG d_MD_same_64 rfl rfl ?_
    refine t_getA (o := 10) hG hT d_MD_same_65 f_MD_41 rfl rfl ?_
    refine zj_iload_n hG d_MD_same_68 rfl rfl ?_
    refine t_ald (i) hG hT d_MD_same_69 (by first | decide | omega) (by first | decide | omega) rfl hi ?_
    refine t_ald (r1.1) hG hT d_MD_same_70 (by first | decide | omega) (by first | decide | omega) a1 (by show _ < 8; omega) ?_
    rw [f1]
    refine zj_icmp_ge (tgt := 139) hG d_MD_same_71 (by decide) (fun c => absurd c (nI_ge hkl (by omega))) (fun _ => ?_)
    refine zj_iload_n hG d_MD_same_74 rfl rfl ?_
    refine zj_if_eq (tgt := 139) hG d_MD_same_75 (by decide) (fun c => absurd c (by decide)) (fun _ => ?_)
    refine zj_aload_n hG d_MD_same_78 rfl rfl ?_
    refine t_getA (o := 3) hG hT d_MD_same_79 f_MD_20 rfl rfl ?_
    refine zj_bipush (v := 24) hG d_MD_same_82 rfl ?_
    refine zj_aload_n hG d_MD_same_84 rfl rfl ?_
    refine t_getA (o := 10) hG hT d_MD_same_85 f_MD_41 rfl rfl ?_
    refine zj_iload_n hG d_MD_same_88 rfl rfl ?_
    refine t_ald (i) hG hT d_MD_same_89 (by first | decide | omega) (by first | decide | omega) rfl hi ?_
    refine zj_imul hG d_MD_same_90 ?_
    refine zj_iload hG d_MD_same_91 rfl ?_
    refine zj_iadd hG d_MD_same_93 ?_
    rw [a1]
    refine t_ald (24 * r1.1 + k) hG hT d_MD_same_94 (by first | decide | omega) (by first | decide | omega) (by rw [nI_24, nI_add]) (by show _ < 192; omega) ?_
    refine zj_iconst (v := 2) hG d_MD_same_95 rfl ?_
    rw [c2]
    refine zj_icmp_eq (tgt := 127) hG d_MD_same_96 (by decide) (fun c96 => ?_) (fun c96 => ?_)
    · exact yes (Or.inl c96)
    refine zj_aload_n hG d_MD_same_99 rfl rfl ?_
    refine t_getA (o := 11) hG hT d_MD_same_100 f_MD_44 rfl rfl ?_
    refine zj_aload_n hG d_MD_same_103 rfl rfl ?_
    refine zj_iload_n hG d_MD_same_104 rfl rfl ?_
    refine zj_iload hG d_MD_same_105 rfl ?_
    refine zj_callR (y' := m_MD_rowOf) hG (zcP (as := [_, _]) hG d_MD_same_107 c_MD_rowOf (z_w7 218 rfl) (z_w7 220 rfl) (z_w7 219 rfl) (z_w7 8 rfl) rfl ⟨by decide, by decide⟩ hT.1 (by decide) (by decide) (show _ = some 2 from by decide +kernel) rfl) c_MD_rowOf rfl (by omega) rfl (z_le rfl) (z_le rfl) (k_MD_rowOf hG i k _ _) ?_
    refine zj_aload_n hG d_MD_same_110 rfl rfl ?_
    refine t_getA (o := 11) hG hT d_MD_same_111 f_MD_44 rfl rfl ?_
    refine zj_aload_n hG d_MD_same_114 rfl rfl ?_
    refine zj_iload_n hG d_MD_same_115 rfl rfl ?_
    refine zj_iload hG d_MD_same_116 rfl ?_
    refine zj_callR (y' := m_MD_rowOf) hG (zcP (as := [_, _]) hG d_MD_same_118 c_MD_rowOf (z_w7 218 rfl) (z_w7 220 rfl) (z_w7 219 rfl) (z_w7 8 rfl) rfl ⟨by decide, by decide⟩ hT.1 (by decide) (by decide) (show _ = some 2 from by decide +kernel) rfl) c_MD_rowOf rfl (by omega) rfl (z_le rfl) (z_le rfl) (k_MD_rowOf hG j k _ _) ?_
    refine zj_callR (y' := m_MD_sameRow) hG (zcS (as := [_, _, _, _]) hG d_MD_same_121 c_MD_sameRow (z_w7 151 rfl) (z_w7 152 rfl) (z_w1 11 rfl) ⟨by decide, by decide⟩ (show _ = some 4 from by decide +kernel) rfl) c_MD_sameRow rfl (by omega) rfl (z_le rfl) (z_le rfl) (k_MD_sameRow hG hT (by decide) (by decide) (by show _ ≤ 2688; omega) (by show _ ≤ 2688; omega) (a3 k _ q1) (b3 k _ q2)) ?_
    refine zj_if_eq (tgt := 131) hG d_MD_same_124 (by decide) (fun c124 => ?_) (fun c124 => ?_)
    · have hne := tb_n c124
      have : oSm r1 r2 F F.length = false := oSm_f (n := k + 1) (by rw [hsn]; simp [c96, hne]) (by omega)
      rw [this]
      refine zj_iconst (v := 0) hG d_MD_same_131 rfl ?_
      refine zj_istore_n hG d_MD_same_132 rfl (by decide) rfl rfl ?_
      refine zj_iinc hG d_MD_same_133 rfl (nI_1 k) (by decide) rfl rfl ?_
      refine zj_goto (tgt := 58) hG d_MD_same_136 (by decide) ?_
      refine zj_iload hG d_MD_same_58 rfl ?_
      refine zj_aload_n hG d_MD_same_60 rfl rfl ?_
      refine t_getA (o := 1) hG hT d_MD_same_61 f_MD_13 rfl rfl ?_
      refine zj_aload_n hG d_MD_same_64 rfl rfl ?_
      refine t_getA (o := 10) hG hT d_MD_same_65 f_MD_41 rfl rfl ?_
      refine zj_iload_n hG d_MD_same_68 rfl rfl ?_
      refine t_ald (i) hG hT d_MD_same_69 (by first | decide | omega) (by first | decide | omega) rfl hi ?_
      refine t_ald (r1.1) hG hT d_MD_same_70 (by first | decide | omega) (by first | decide | omega) a1 (by show _ < 8; omega) ?_
      refine zj_icmp_ge (tgt := 139) hG d_MD_same_71 (by decide) (fun c71 => ?_) (fun c71 => ?_)
      · refine zj_iload_n hG d_MD_same_139 rfl rfl ?_
        exact zj_iret hG d_MD_same_140 rfl rfl ⟨rfl, rfl⟩
      · refine zj_iload_n hG d_MD_same_74 rfl rfl ?_
        refine zj_if_eq (tgt := 139) hG d_MD_same_75 (by decide) (fun _ => ?_) (fun c => absurd (by decide) c)
        refine zj_iload_n hG d_MD_same_139 rfl rfl ?_
        exact zj_iret hG d_MD_same_140 rfl rfl ⟨rfl, rfl⟩
    · exact yes (Or.inr (tb_d c124))
set_option maxRecDepth 4000 in
theorem k_MD_same (hG : zOK G) (hT : twOK q h) (hA : tA N W) (x y : Int32) : zJ G 1 m_MD_same 0 [some (zA q), some (zI x), some (zI y), none, none] [] (twp q h N) (fun o h' => ∃ z N', o = zR (zI z) ∧ h' = twp q h N' ∧ (N' 0 0 = (oSame W x y).1 ∧ z = tb (oSame W x y).2 ∧ tA N' W)) := by
  have hW := hA.1
  have bad : (oSame W x y) = (1, false) → zJ G 1 m_MD_same 21 [some (zA q), some (zI x), some (zI y), none, none] [zA q] (twp q h N) (fun o h' => ∃ z N', o = zR (zI z) ∧ h' = twp q h N' ∧ (N' 0 0 = (oSame W x y).1 ∧ z = tb (oSame W x y).2 ∧ tA N' W)) := by
    intro e
    rw [e]
    refine zj_iconst (v := 1) hG d_MD_same_21 rfl ?_
    refine t_putI hG hT d_MD_same_22 f_MD_101 rfl rfl ?_
    refine zj_aload_n hG d_MD_same_25 rfl rfl ?_
    refine t_getI hG hT d_MD_same_26 f_MD_101 rfl ?_
    rw [zu_s]
    refine zj_if_le (tgt := 34) hG d_MD_same_29 (by decide) (fun c => absurd c (by decide)) (fun _ => ?_)
    refine zj_iconst (v := 0) hG d_MD_same_32 rfl ?_
    exact zj_iret hG d_MD_same_33 rfl rfl ⟨_, _, rfl, rfl, zu_s, rfl, hA.th 1⟩
  refine zj_aload_n hG d_MD_same_0 rfl rfl ?_
  refine zj_aload_n hG d_MD_same_1 rfl rfl ?_
  refine zj_iload_n hG d_MD_same_2 rfl rfl ?_
  refine zj_callR (y' := m_MD_isRecordHandle) hG (zcP (as := [_]) hG d_MD_same_3 c_MD_isRecordHandle (z_w7 198 rfl) (z_w7 200 rfl) (z_w7 199 rfl) (z_w7 8 rfl) rfl ⟨by decide, by decide⟩ hT.1 (by decide) (by decide) (show _ = some 1 from by decide +kernel) rfl) c_MD_isRecordHandle rfl (by omega) rfl (z_le rfl) (z_le rfl) (k_MD_isRecordHandle hG hT hW x) ?_
  cases hr1 : oRec W x with
  | none =>
    refine zj_if_eq (tgt := 21) hG d_MD_same_6 (by decide) (fun _ => ?_) (fun c => absurd (by decide) c)
    exact bad (by rw [oSame, hr1])
  | some r1 =>
    refine zj_if_eq (tgt := 21) hG d_MD_same_6 (by decide) (fun c => absurd c tb1) (fun _ => ?_)
    refine zj_aload_n hG d_MD_same_9 rfl rfl ?_
    refine zj_iload_n hG d_MD_same_10 rfl rfl ?_
    refine zj_callR (y' := m_MD_isRecordHandle) hG (zcP (as := [_]) hG d_MD_same_11 c_MD_isRecordHandle (z_w7 198 rfl) (z_w7 200 rfl) (z_w7 199 rfl) (z_w7 8 rfl) rfl ⟨by decide, by decide⟩ hT.1 (by decide) (by decide) (show _ = some 1 from by decide +kernel) rfl) c_MD_isRecordHandle rfl (by omega) rfl (z_le rfl) (z_le rfl) (k_MD_isRecordHandle hG hT hW y) ?_
    cases hr2 : oRec W y with
    | none =>
      refine zj_if_eq (tgt := 21) hG d_MD_same_14 (by decide) (fun _ => ?_) (fun c => absurd (by decide) c)
      exact bad (by rw [oSame, hr1, hr2])
    | some r2 =>
      obtain ⟨i, hi, rfl, g1⟩ := oRec_some hr1
      obtain ⟨j, hj, rfl, g2⟩ := oRec_some hr2
      have hA0 := hA.th 0
      have hW0 := hA0.1
      obtain ⟨a1, ⟨F, e1, e2⟩, -⟩ := hW0.r hi g1
      obtain ⟨b1, ⟨F2, e3, e4⟩, -⟩ := hW0.r hj g2
      have hv1 := (List.getElem?_eq_some_iff.mp e1).1
      have hv2 := (List.getElem?_eq_some_iff.mp e3).1
      have h8 := hW.1.2.2
      have f1 := (hW0.2.1 _ F e1).1
      have f24 := (hW0.2.1 _ F e1).2.1
      rw [oSame, hr1, hr2]
      simp only [e1, Option.getD_some]
      refine zj_if_eq (tgt := 21) hG d_MD_same_14 (by decide) (fun c => absurd c tb1) (fun _ => ?_)
      refine zj_iconst (v := 0) hG d_MD_same_17 rfl ?_
      refine zj_goto (tgt := 22) hG d_MD_same_18 (by decide) ?_
      refine t_putI hG hT d_MD_same_22 f_MD_101 rfl rfl ?_
      refine zj_aload_n hG d_MD_same_25 rfl rfl ?_
      refine t_getI hG hT d_MD_same_26 f_MD_101 rfl ?_
      rw [zu_s]
      refine zj_if_le (tgt := 34) hG d_MD_same_29 (by decide) (fun _ => ?_) (fun c => absurd (by decide) c)
      refine zj_aload_n hG d_MD_same_34 rfl rfl ?_
      refine t_getA (o := 10) hG hT d_MD_same_35 f_MD_41 rfl rfl ?_
      refine zj_iload_n hG d_MD_same_38 rfl rfl ?_
      refine t_ald (i) hG hT d_MD_same_39 (by first | decide | omega) (by first | decide | omega) rfl hi ?_
      refine zj_aload_n hG d_MD_same_40 rfl rfl ?_
      refine t_getA (o := 10) hG hT d_MD_same_41 f_MD_41 rfl rfl ?_
      refine zj_iload_n hG d_MD_same_44 rfl rfl ?_
      refine t_ald (j) hG hT d_MD_same_45 (by first | decide | omega) (by first | decide | omega) rfl hj ?_
      rw [a1, b1]
      refine zj_icmp_ne (tgt := 53) hG d_MD_same_46 (by decide) (fun c46 => ?_) (fun c46 => ?_)
      · have hne : ¬ r1.1 = r2.1 := fun e => c46 (by rw [e])
        refine zj_iconst (v := 0) hG d_MD_same_53 rfl ?_
        refine zj_istore_n hG d_MD_same_54 rfl (by decide) rfl rfl ?_
        refine zj_iconst (v := 0) hG d_MD_same_55 rfl ?_
        refine zj_istore hG d_MD_same_56 (by decide) rfl rfl ?_
        refine zj_iload hG d_MD_same_58 rfl ?_
        refine zj_aload_n hG d_MD_same_60 rfl rfl ?_
        refine t_getA (o := 1) hG hT d_MD_same_61 f_MD_13 rfl rfl ?_
        refine zj_aload_n hG d_MD_same_64 rfl rfl ?_
        refine t_getA (o := 10) hG hT d_MD_same_65 f_MD_41 rfl rfl ?_
        refine zj_iload_n hG d_MD_same_68 rfl rfl ?_
        refine t_ald (i) hG hT d_MD_same_69 (by first | decide | omega) (by first | decide | omega) rfl hi ?_
        refine t_ald (r1.1) hG hT d_MD_same_70 (by first | decide | omega) (by first | decide | omega) a1 (by show _ < 8; omega) ?_
        have : (decide (r1.1 = r2.1) && oSm r1 r2 F F.length) = false := by simp [hne]
        rw [this]
        refine zj_icmp_ge (tgt := 139) hG d_MD_same_71 (by decide) (fun c71 => ?_) (fun c71 => ?_)
        · refine zj_iload_n hG d_MD_same_139 rfl rfl ?_
          exact zj_iret hG d_MD_same_140 rfl rfl ⟨_, _, rfl, rfl, zu_s, rfl, hA0⟩
        · refine zj_iload_n hG d_MD_same_74 rfl rfl ?_
          refine zj_if_eq (tgt := 139) hG d_MD_same_75 (by decide) (fun _ => ?_) (fun c => absurd (by decide) c)
          refine zj_iload_n hG d_MD_same_139 rfl rfl ?_
          exact zj_iret hG d_MD_same_140 rfl rfl ⟨_, _, rfl, rfl, zu_s, rfl, hA0⟩
      · have he : r1.1 = r2.1 := (nI_eq (by omega) (by omega)).mp c46
        refine zj_iconst (v := 1) hG d_MD_same_49 rfl ?_
        refine zj_goto (tgt := 54) hG d_MD_same_50 (by decide) ?_
        refine zj_istore_n hG d_MD_same_54 rfl (by decide) rfl rfl ?_
        refine zj_iconst (v := 0) hG d_MD_same_55 rfl ?_
        refine zj_istore hG d_MD_same_56 (by decide) rfl rfl ?_
        have key := k_MD_sameL hG hT hW0 hi hj g1 g2 e1 (by rw [← he]; exact e1) F.length 0 (by omega) (by simp [oSm])
        refine key.mono ?_
        rintro o h' ⟨k1, k2⟩
        exact ⟨_, _, k1, k2, zu_s, by simp [he], hA0⟩
end MD19
