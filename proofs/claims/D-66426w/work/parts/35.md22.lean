/-! PART 35: the reference: primitives taken in; schemas compared -/
def oNewP (T : List tE) (k p a b c : Int32) : tPm := (k, p, a, b, (if k = 1 then a else eS (tel T p)), (if k = 1 then (if a = 2 then 0 else b) else eL (tel T p)), (if k = 1 then (if a = 2 then 0 else c) else eH (tel T p)))
def oPrim (W : sW) (k p a b c : Int32) : Int32 × Int32 × sW := match wU W with
  | none => (1, 0, W)
  | some u => if u.2.length = 8 then (1, 0, W) else if (0 ≤ k ∧ k ≤ 8) ∧ tcd (tUW W u) k p a b c = true then (0, nI (u.2.length + 1), (wV W, wB W, wS W, some (u.1, u.2 ++ [oNewP (tUW W u) k p a b c]), wR W)) else (2, 0, W)
theorem k_rng {k : Int32} (h : 0 ≤ k ∧ k ≤ 8) : k = 0 ∨ k = 1 ∨ k = 2 ∨ k = 3 ∨ k = 4 ∨ k = 5 ∨ k = 6 ∨ k = 7 ∨ k = 8 := by
  obtain ⟨j, hj, rfl⟩ := nI_of2 (x := k) (M := 8) (n := 8) rfl (Int32.not_lt.mpr h.1) h.2
  rcases (show j = 0 ∨ j = 1 ∨ j = 2 ∨ j = 3 ∨ j = 4 ∨ j = 5 ∨ j = 6 ∨ j = 7 ∨ j = 8 by omega) with e | e | e | e | e | e | e | e | e <;> subst e <;> decide
theorem tcd_ix {T : List tE} {k p a b c : Int32} (h : tcd T k p a b c = true) (hk : ¬ k = 1) : tix T p < T.length := by
  rw [tcd, if_neg hk] at h
  split at h
  · cases h
  · rename_i g
    rcases tfnd_cases T p with ⟨e1, -, -⟩ | ⟨i, hi, e1, e2, e3, -⟩
    · exact absurd (Or.inr (by rw [e1]; decide)) g
    · unfold tix
      rw [List.findIdx_lt_length]
      exact ⟨T[i], List.getElem_mem hi, by simpa using e3⟩
section MD22
variable {G : zG} {q : Nat} {h : zH} {N : Nat → Nat → Int32} {W : sW} {T : List tE}
set_option maxRecDepth 4000 in
theorem k_MD_primitive (hG : zOK G) (hT : twOK q h) (hA : tA N W) (hU : ∀ u, wU W = some u → u.1 < (wV W).length ∧ tCh u.2 (((wV W)[u.1]?.getD []).map tE0)) (k p a b c : Int32) :
    zJ G 6 m_MD_primitive 0 [some (zA q), some (zI k), some (zI p), some (zI a), some (zI b), some (zI c), none, none] [] (twp q h N) (fun o h' => ∃ z N', o = zR (zI z) ∧ h' = twp q h N' ∧ (N' 0 0 = (oPrim W k p a b c).1 ∧ z = (oPrim W k p a b c).2.1 ∧ tA N' (oPrim W k p a b c).2.2)) := by
  have hW := hA.1
  have hs := hW.2.2.2.1.1
  have h16 := hW.2.2.2.1.2
  have bad1 : (oPrim W k p a b c) = (1, 0, W) → zJ G 6 m_MD_primitive 22 [some (zA q), some (zI k), some (zI p), some (zI a), some (zI b), some (zI c), none, none] [zA q] (twp q h N) (fun o h' => ∃ z N', o = zR (zI z) ∧ h' = twp q h N' ∧ (N' 0 0 = (oPrim W k p a b c).1 ∧ z = (oPrim W k p a b c).2.1 ∧ tA N' (oPrim W k p a b c).2.2)) := by
    intro e
    rw [e]
    refine zj_iconst (v := 1) hG d_MD_primitive_22 rfl ?_
    refine zj_goto (tgt := 27) hG d_MD_primitive_23 (by decide) ?_
    refine t_putI hG hT d_MD_primitive_27 f_MD_101 rfl rfl ?_
    refine zj_aload_n hG d_MD_primitive_30 rfl rfl ?_
    refine t_getI hG hT d_MD_primitive_31 f_MD_101 rfl ?_
    rw [zu_s]
    refine zj_if_le (tgt := 39) hG d_MD_primitive_34 (by decide) (fun c => absurd c (by decide)) (fun _ => ?_)
    refine zj_iconst (v := 0) hG d_MD_primitive_37 rfl ?_
    exact zj_iret hG d_MD_primitive_38 rfl rfl ⟨_, _, rfl, rfl, zu_s, rfl, hA.th 1⟩
  refine zj_aload_n hG d_MD_primitive_0 rfl rfl ?_
  refine zj_aload_n hG d_MD_primitive_1 rfl rfl ?_
  refine t_getI hG hT d_MD_primitive_2 f_MD_257 rfl ?_
  rw [hW.2.2.2.2.2.1]
  cases hu : wU W with
  | none =>
    refine zj_if_eq (tgt := 22) hG d_MD_primitive_5 (by decide) (fun _ => ?_) (fun c => absurd (by decide) c)
    exact bad1 (by rw [oPrim, hu])
  | some u =>
    obtain ⟨u1, u2, u3, u4⟩ := hW.2.2.2.2.2.2.1 u hu
    obtain ⟨hf, hc⟩ := hU u hu
    refine zj_if_eq (tgt := 22) hG d_MD_primitive_5 (by decide) (fun c => absurd c tb1) (fun _ => ?_)
    refine zj_aload_n hG d_MD_primitive_8 rfl rfl ?_
    refine t_getA (o := 8) hG hT d_MD_primitive_9 f_MD_35 rfl rfl ?_
    refine zj_aload_n hG d_MD_primitive_12 rfl rfl ?_
    refine t_getI hG hT d_MD_primitive_13 f_MD_260 rfl ?_
    refine t_ald ((wS W).length) hG hT d_MD_primitive_16 (by first | decide | omega) (by first | decide | omega) hs (by show _ < 17; omega) ?_
    refine zj_bipush (v := 8) hG d_MD_primitive_17 rfl ?_
    rw [u2]
    refine zj_icmp_ne (tgt := 26) hG d_MD_primitive_19 (by decide) (fun c19 => ?_) (fun c19 => ?_)
    rotate_left
    · exact bad1 (by rw [oPrim, hu]; simp only; rw [if_pos ((nI_eq (b := 8) (by omega) (by omega)).mp c19)])
    have hn8 : ¬ u.2.length = 8 := fun e => c19 (by rw [e]; rfl)
    refine zj_iconst (v := 0) hG d_MD_primitive_26 rfl ?_
    refine t_putI hG hT d_MD_primitive_27 f_MD_101 rfl rfl ?_
    refine zj_aload_n hG d_MD_primitive_30 rfl rfl ?_
    refine t_getI hG hT d_MD_primitive_31 f_MD_101 rfl ?_
    rw [zu_s]
    refine zj_if_le (tgt := 39) hG d_MD_primitive_34 (by decide) (fun _ => ?_) (fun c => absurd (by decide) c)
    refine zj_aload_n hG d_MD_primitive_39 rfl rfl ?_
    refine zj_callU (y' := m_MD_takeUnderWay) hG (zcP (as := []) hG d_MD_primitive_40 c_MD_takeUnderWay (z_w7 70 rfl) (z_w7 72 rfl) (z_w7 71 rfl) (z_w7 8 rfl) rfl ⟨by decide, by decide⟩ hT.1 (by decide) (by decide) (show _ = some 0 from by decide +kernel) rfl) c_MD_takeUnderWay rfl (by omega) rfl (z_le rfl) (z_le rfl) (k_MD_takeUnderWay hG hT (hA.th 0) hu hf hc) (fun N40 e40 => ?_)
    obtain ⟨⟨Y, rX, rl⟩, r2, r3⟩ := e40
    have hW2 := (hA.th 0).1.pm r2
    have hA2 : tA N40 W := ⟨hW2, _, rX, rl⟩
    have hN2 : tTab N40 (tUW W u) := rX.1
    have hlT := hN2.l
    have hop : oPrim W k p a b c = (if (0 ≤ k ∧ k ≤ 8) ∧ tcd (tUW W u) k p a b c = true then (0, nI (u.2.length + 1), (wV W, wB W, wS W, some (u.1, u.2 ++ [oNewP (tUW W u) k p a b c]), wR W)) else (2, 0, W)) := by
      rw [oPrim, hu]
      simp only [if_neg hn8]
    rw [hop]
    clear hop bad1
    generalize tUW W u = T at *
    have bad2 : ¬ ((0 ≤ k ∧ k ≤ 8) ∧ tcd T k p a b c = true) → zJ G 6 m_MD_primitive 72 [some (zA q), some (zI k), some (zI p), some (zI a), some (zI b), some (zI c), none, none] [zA q] (twp q h N40) (fun o h' => ∃ z N', o = zR (zI z) ∧ h' = twp q h N' ∧ (N' 0 0 = (if (0 ≤ k ∧ k ≤ 8) ∧ tcd T k p a b c = true then ((0 : Int32), nI (u.2.length + 1), ((wV W, wB W, wS W, some (u.1, u.2 ++ [oNewP T k p a b c]), wR W) : sW)) else (2, 0, W)).1 ∧ z = (if (0 ≤ k ∧ k ≤ 8) ∧ tcd T k p a b c = true then ((0 : Int32), nI (u.2.length + 1), ((wV W, wB W, wS W, some (u.1, u.2 ++ [oNewP T k p a b c]), wR W) : sW)) else (2, 0, W)).2.1 ∧ tA N' (if (0 ≤ k ∧ k ≤ 8) ∧ tcd T k p a b c = true then ((0 : Int32), nI (u.2.length + 1), ((wV W, wB W, wS W, some (u.1, u.2 ++ [oNewP T k p a b c]), wR W) : sW)) else (2, 0, W)).2.2)) := by
      intro e
      simp only [if_neg e]
      refine zj_iconst (v := 2) hG d_MD_primitive_72 rfl ?_
      refine t_putI hG hT d_MD_primitive_73 f_MD_101 rfl rfl ?_
      refine zj_aload_n hG d_MD_primitive_76 rfl rfl ?_
      refine t_getI hG hT d_MD_primitive_77 f_MD_101 rfl ?_
      rw [zu_s]
      refine zj_if_le (tgt := 85) hG d_MD_primitive_80 (by decide) (fun c => absurd c (by decide)) (fun _ => ?_)
      refine zj_iconst (v := 0) hG d_MD_primitive_83 rfl ?_
      exact zj_iret hG d_MD_primitive_84 rfl rfl ⟨_, _, rfl, rfl, zu_s, rfl, hA2.th 2⟩
    refine zj_aload_n hG d_MD_primitive_43 rfl rfl ?_
    refine zj_iload_n hG d_MD_primitive_44 rfl rfl ?_
    refine zj_if_lt (tgt := 72) hG d_MD_primitive_45 (by decide) (fun c45 => ?_) (fun c45 => ?_)
    · exact bad2 (fun g => Int32.not_le.mpr c45 g.1.1)
    refine zj_iload_n hG d_MD_primitive_48 rfl rfl ?_
    refine zj_bipush (v := 8) hG d_MD_primitive_49 rfl ?_
    refine zj_icmp_gt (tgt := 72) hG d_MD_primitive_51 (by decide) (fun c51 => ?_) (fun c51 => ?_)
    · exact bad2 (fun g => Int32.not_le.mpr c51 g.1.2)
    have hk8 : 0 ≤ k ∧ k ≤ 8 := ⟨Int32.not_lt.mp c45, Int32.not_lt.mp c51⟩
    refine zj_aload_n hG d_MD_primitive_54 rfl rfl ?_
    refine zj_iload_n hG d_MD_primitive_55 rfl rfl ?_
    refine zj_iload_n hG d_MD_primitive_56 rfl rfl ?_
    refine zj_iload_n hG d_MD_primitive_57 rfl rfl ?_
    refine zj_iload hG d_MD_primitive_58 rfl ?_
    refine zj_iload hG d_MD_primitive_60 rfl ?_
    refine zj_callR (y' := m_MD_canDo) hG (zcP (as := [_, _, _, _, _]) hG d_MD_primitive_62 c_MD_canDo (z_w7 157 rfl) (z_w7 159 rfl) (z_w7 158 rfl) (z_w7 8 rfl) rfl ⟨by decide, by decide⟩ hT.1 (by decide) (by decide) (show _ = some 5 from by decide +kernel) rfl) c_MD_canDo rfl (by omega) rfl (z_le rfl) (z_le rfl) (k_MD_canDo hG hT hN2 k p a b c (k_rng hk8)) ?_
    refine zj_if_eq (tgt := 72) hG d_MD_primitive_65 (by decide) (fun c65 => ?_) (fun c65 => ?_)
    · exact bad2 (fun g => by rw [tb_f c65] at g; cases g.2)
    have hcd := tb_t c65
    simp only [if_pos (show (0 ≤ k ∧ k ≤ 8) ∧ tcd T k p a b c = true from ⟨hk8, hcd⟩)]
    clear bad2
    have hA3 := hA2.th 0
    have hN3 : tTab (zu N40 0 0 0) T := hN2.fr (P := fun o i => o == 0 && i == 0) (tFr.put tFr.rfl' rfl) (by intro o i e; simp [pT] at e; simp; omega)
    have hW3 := hA3.1
    have z0 : (zu N40 0 0 0) 0 0 = 0 := zu_s
    refine zj_iconst (v := 0) hG d_MD_primitive_68 rfl ?_
    refine zj_goto (tgt := 73) hG d_MD_primitive_69 (by decide) ?_
    refine t_putI hG hT d_MD_primitive_73 f_MD_101 rfl rfl ?_
    refine zj_aload_n hG d_MD_primitive_76 rfl rfl ?_
    refine t_getI hG hT d_MD_primitive_77 f_MD_101 rfl ?_
    generalize zu N40 0 0 0 = M at *
    have hs3 := hW3.2.2.2.1.1
    obtain ⟨w1, w2, w3, w4⟩ := hW3.2.2.2.2.2.2.1 u hu
    rw [z0]
    refine zj_if_le (tgt := 85) hG d_MD_primitive_80 (by decide) (fun _ => ?_) (fun c => absurd (by decide) c)
    refine zj_aload_n hG d_MD_primitive_85 rfl rfl ?_
    refine zj_aload_n hG d_MD_primitive_86 rfl rfl ?_
    refine t_getI hG hT d_MD_primitive_87 f_MD_260 rfl ?_
    refine zj_aload_n hG d_MD_primitive_90 rfl rfl ?_
    refine t_getA (o := 8) hG hT d_MD_primitive_91 f_MD_35 rfl rfl ?_
    refine zj_aload_n hG d_MD_primitive_94 rfl rfl ?_
    refine t_getI hG hT d_MD_primitive_95 f_MD_260 rfl ?_
    refine t_ald ((wS W).length) hG hT d_MD_primitive_98 (by first | decide | omega) (by first | decide | omega) hs3 (by show _ < 17; omega) ?_
    rw [hs3, w2]
    refine zj_callR (y' := m_MD_at) hG (zcP (as := [_, _]) hG d_MD_primitive_99 c_MD_at (z_w7 78 rfl) (z_w7 80 rfl) (z_w7 79 rfl) (z_w7 8 rfl) rfl ⟨by decide, by decide⟩ hT.1 (by decide) (by decide) (show _ = some 2 from by decide +kernel) rfl) c_MD_at rfl (by omega) rfl (z_le rfl) (z_le rfl) (k_MD_at hG _ _ _ _) ?_
    refine zj_istore hG d_MD_primitive_102 (by decide) rfl rfl ?_
    refine zj_aload_n hG d_MD_primitive_104 rfl rfl ?_
    refine zj_iload_n hG d_MD_primitive_105 rfl rfl ?_
    refine zj_callR (y' := m_MD_find) hG (zcP (as := [_]) hG d_MD_primitive_106 c_MD_find (z_w7 47 rfl) (z_w7 49 rfl) (z_w7 48 rfl) (z_w7 8 rfl) rfl ⟨by decide, by decide⟩ hT.1 (by decide) (by decide) (show _ = some 1 from by decide +kernel) rfl) c_MD_find rfl (by omega) rfl (z_le rfl) (z_le rfl) (k_MD_find hG hT hN3 _) ?_
    generalize hr : 8 * (8 * (wS W).length + u.2.length) = r
    have hr2 : r + 7 < 1088 := by omega
    refine zj_istore hG d_MD_primitive_109 (by decide) rfl rfl ?_
    refine zj_aload_n hG d_MD_primitive_111 rfl rfl ?_
    refine t_getA (o := 9) hG hT d_MD_primitive_112 f_MD_38 rfl rfl ?_
    refine zj_iload hG d_MD_primitive_115 rfl ?_
    refine zj_iload_n hG d_MD_primitive_117 rfl rfl ?_
    refine t_ast (r) hG hT d_MD_primitive_118 (by first | decide | omega) (by first | decide | omega) rfl (by show _ < 1088; omega) ?_
    refine zj_aload_n hG d_MD_primitive_119 rfl rfl ?_
    refine t_getA (o := 9) hG hT d_MD_primitive_120 f_MD_38 rfl rfl ?_
    refine zj_iload hG d_MD_primitive_123 rfl ?_
    refine zj_iconst (v := 1) hG d_MD_primitive_125 rfl ?_
    refine zj_iadd hG d_MD_primitive_126 ?_
    refine zj_iload_n hG d_MD_primitive_127 rfl rfl ?_
    refine t_ast (r + 1) hG hT d_MD_primitive_128 (by first | decide | omega) (by first | decide | omega) (nI_1 _) (by show _ < 1088; omega) ?_
    refine zj_aload_n hG d_MD_primitive_129 rfl rfl ?_
    refine t_getA (o := 9) hG hT d_MD_primitive_130 f_MD_38 rfl rfl ?_
    refine zj_iload hG d_MD_primitive_133 rfl ?_
    refine zj_iconst (v := 2) hG d_MD_primitive_135 rfl ?_
    refine zj_iadd hG d_MD_primitive_136 ?_
    refine zj_iload_n hG d_MD_primitive_137 rfl rfl ?_
    refine t_ast (r + 2) hG hT d_MD_primitive_138 (by first | decide | omega) (by first | decide | omega) (nI_a2 _) (by show _ < 1088; omega) ?_
    refine zj_aload_n hG d_MD_primitive_139 rfl rfl ?_
    refine t_getA (o := 9) hG hT d_MD_primitive_140 f_MD_38 rfl rfl ?_
    refine zj_iload hG d_MD_primitive_143 rfl ?_
    refine zj_iconst (v := 3) hG d_MD_primitive_145 rfl ?_
    refine zj_iadd hG d_MD_primitive_146 ?_
    refine zj_iload hG d_MD_primitive_147 rfl ?_
    refine t_ast (r + 3) hG hT d_MD_primitive_149 (by first | decide | omega) (by first | decide | omega) (nI_a3 _) (by show _ < 1088; omega) ?_
    refine zj_aload_n hG d_MD_primitive_150 rfl rfl ?_
    refine t_getA (o := 9) hG hT d_MD_primitive_151 f_MD_38 rfl rfl ?_
    refine zj_iload hG d_MD_primitive_154 rfl ?_
    refine zj_iconst (v := 5) hG d_MD_primitive_156 rfl ?_
    refine zj_iadd hG d_MD_primitive_157 ?_
    refine zj_iload_n hG d_MD_primitive_158 rfl rfl ?_
    refine zj_iconst (v := 1) hG d_MD_primitive_159 rfl ?_
    have hfx : ¬ k = 1 → tfnd T p = nI (tix T p) ∧ tix T p < T.length := fun e => ⟨tix_fnd (tcd_ix hcd e), tcd_ix hcd e⟩
    generalize hM1 : zu (zu (zu (zu M 9 r k) 9 (r + 1) p) 9 (r + 2) a) 9 (r + 3) b = M1
    have hM1f : ∀ o i, o ≠ 9 → M1 o i = M o i := by
      intro o i e
      rw [← hM1, zu_a e, zu_a e, zu_a e, zu_a e]
    have hM1s : ∀ o i, ¬ (o = 9 ∧ 64 * (wS W).length ≤ i) → M1 o i = M o i := by
      intro o i e
      rw [← hM1]
      simp only [zu]
      repeat rw [if_neg (by omega)]
    have q0 : M1 9 r = k := by rw [← hM1]; simp [zu]
    have q1 : M1 9 (r + 1) = p := by rw [← hM1]; simp [zu]
    have q2 : M1 9 (r + 2) = a := by rw [← hM1]; simp [zu]
    have q3 : M1 9 (r + 3) = b := by rw [← hM1]; simp [zu]
    have q9 : ∀ i, i < r → M1 9 i = M 9 i := by
      intro i hi
      rw [← hM1]
      simp only [zu]
      repeat rw [if_neg (by omega)]
    clear hM1
    -- the last part: bounds written, the step grows
    have fin : ∀ (s l t : Int32) (M2 : Nat → Nat → Int32), M2 = zu (zu (zu M1 9 (r + 5) s) 9 (r + 6) l) 9 (r + 7) t → (s, l, t) = ((oNewP T k p a b c).2.2.2.2.1, (oNewP T k p a b c).2.2.2.2.2.1, (oNewP T k p a b c).2.2.2.2.2.2) → ∀ ls, ls = [some (zA q), some (zI k), some (zI p), some (zI a), some (zI b), some (zI c), some (zI (nI r)), some (zI (tfnd T p))] → zJ G 6 m_MD_primitive 247 ls [] (twp q h M2) (fun o h' => ∃ z N', o = zR (zI z) ∧ h' = twp q h N' ∧ (N' 0 0 = (0 : Int32) ∧ z = nI (u.2.length + 1) ∧ tA N' (wV W, wB W, wS W, some (u.1, u.2 ++ [oNewP T k p a b c]), wR W))) := by
      intro s l t M2 hM2 hslt ls hls
      subst hls
      simp only [Prod.mk.injEq] at hslt
      obtain ⟨t5, t6, t7⟩ := hslt
      have hf2 : ∀ o i, o ≠ 9 → M2 o i = M o i := by
        intro o i e
        rw [hM2, zu_a e, zu_a e, zu_a e, hM1f o i e]
      refine zj_aload_n hG d_MD_primitive_247 rfl rfl ?_
      refine t_getA (o := 8) hG hT d_MD_primitive_248 f_MD_35 rfl rfl ?_
      refine zj_aload_n hG d_MD_primitive_251 rfl rfl ?_
      refine t_getI hG hT d_MD_primitive_252 f_MD_260 rfl ?_
      refine zj_dup2 hG d_MD_primitive_255 (by first | exact zc_A _ | rfl) (by first | exact zc_A _ | rfl) ?_
      refine t_ald ((wS W).length) hG hT d_MD_primitive_256 (by first | decide | omega) (by first | decide | omega) (by rw [hf2 _ _ (by omega)]; exact hs3) (by show _ < 17; omega) ?_
      refine zj_iconst (v := 1) hG d_MD_primitive_257 rfl ?_
      refine zj_iadd hG d_MD_primitive_258 ?_
      refine t_ast ((wS W).length) hG hT d_MD_primitive_259 (by first | decide | omega) (by first | decide | omega) (by rw [hf2 _ _ (by omega)]; exact hs3) (by show _ < 17; omega) ?_
      refine zj_aload_n hG d_MD_primitive_260 rfl rfl ?_
      refine t_getA (o := 8) hG hT d_MD_primitive_261 f_MD_35 rfl rfl ?_
      refine zj_aload_n hG d_MD_primitive_264 rfl rfl ?_
      refine t_getI hG hT d_MD_primitive_265 f_MD_260 rfl ?_
      refine t_ald ((wS W).length) hG hT d_MD_primitive_268 (by first | decide | omega) (by first | decide | omega) (by rw [zu_a (by omega), hf2 _ _ (by omega)]; exact hs3) (by show _ < 17; omega) ?_
      rw [zu_s, hf2 8 _ (by omega), w2, nI_1]
      have g9 : ∀ i, i < r → M2 9 i = M 9 i := by
        intro i hi
        rw [hM2, zu_k (by omega), zu_k (by omega), zu_k (by omega), q9 i hi]
      refine zj_iret hG d_MD_primitive_269 rfl rfl ⟨_, _, rfl, rfl, by rw [zu_a (by omega), hf2 _ _ (by omega), z0], rfl, hA3.un (fun o i e1 e2 e3 e4 => ?_) ?_ ?_ (fun u' hu' => ?_)⟩
      · rw [zu, if_neg (by omega)]
        by_cases e : o = 9
        · subst e
          exact g9 i (by omega)
        · exact hf2 o i e
      · rw [zu_a (by omega), hf2 _ _ (by omega)]
        exact hW3.2.2.1
      · rw [zu_a (by omega), hf2 _ _ (by omega), hW3.2.2.2.2.2.1, hu]
        rfl
      · cases hu'
        refine ⟨?_, ?_, by simp; omega, fun i p' hp' => ?_⟩
        · rw [zu_a (by omega), hf2 _ _ (by omega)]
          exact w1
        · rw [zu_s]
          simp
        · rcases Nat.lt_or_ge i u.2.length with g | g
          · rw [List.getElem?_append_left g] at hp'
            obtain ⟨d0, d1, d2, d3, d5, d6, d7⟩ := w4 i p' hp'
            refine ⟨?_, ?_, ?_, ?_, ?_, ?_, ?_⟩ <;> rw [zu_a (by omega), g9 _ (by omega)] <;> assumption
          · rw [List.getElem?_append_right g] at hp'
            have : i = u.2.length := by
              have := (List.getElem?_eq_some_iff.mp hp').1
              simp at this
              omega
            subst this
            simp at hp'
            subst hp'
            rw [hr]
            refine ⟨?_, ?_, ?_, ?_, ?_, ?_, ?_⟩
            · rw [zu_a (by omega), hM2, zu_k (by omega), zu_k (by omega), zu_k (by omega), q0]
              rfl
            · rw [zu_a (by omega), hM2, zu_k (by omega), zu_k (by omega), zu_k (by omega), q1]
              rfl
            · rw [zu_a (by omega), hM2, zu_k (by omega), zu_k (by omega), zu_k (by omega), q2]
              rfl
            · rw [zu_a (by omega), hM2, zu_k (by omega), zu_k (by omega), zu_k (by omega), q3]
              rfl
            · rw [zu_a (by omega), hM2, zu_k (by omega), zu_k (by omega), zu_s, t5]
            · rw [zu_a (by omega), hM2, zu_k (by omega), zu_s, t6]
            · rw [zu_a (by omega), hM2, zu_s, t7]
    by_cases hk1 : k = 1
    · refine zj_icmp_ne (tgt := 167) hG d_MD_primitive_160 (by decide) (fun c => absurd hk1 c) (fun _ => ?_)
      refine zj_iload_n hG d_MD_primitive_163 rfl rfl ?_
      refine zj_goto (tgt := 174) hG d_MD_primitive_164 (by decide) ?_
      refine t_ast (r + 5) hG hT d_MD_primitive_174 (by first | decide | omega) (by first | decide | omega) (nI_a5 _) (by show _ < 1088; omega) ?_
      refine zj_aload_n hG d_MD_primitive_175 rfl rfl ?_
      refine t_getA (o := 9) hG hT d_MD_primitive_176 f_MD_38 rfl rfl ?_
      refine zj_iload hG d_MD_primitive_179 rfl ?_
      refine zj_bipush (v := 6) hG d_MD_primitive_181 rfl ?_
      refine zj_iadd hG d_MD_primitive_183 ?_
      refine zj_iload_n hG d_MD_primitive_184 rfl rfl ?_
      refine zj_iconst (v := 1) hG d_MD_primitive_185 rfl ?_
      refine zj_icmp_ne (tgt := 203) hG d_MD_primitive_186 (by decide) (fun c => absurd hk1 c) (fun _ => ?_)
      refine zj_iload_n hG d_MD_primitive_189 rfl rfl ?_
      refine zj_iconst (v := 2) hG d_MD_primitive_190 rfl ?_
      by_cases ha2 : a = 2
      · refine zj_icmp_ne (tgt := 198) hG d_MD_primitive_191 (by decide) (fun c => absurd ha2 c) (fun _ => ?_)
        refine zj_iconst (v := 0) hG d_MD_primitive_194 rfl ?_
        refine zj_goto (tgt := 210) hG d_MD_primitive_195 (by decide) ?_
        refine t_ast (r + 6) hG hT d_MD_primitive_210 (by first | decide | omega) (by first | decide | omega) (nI_a6 _) (by show _ < 1088; omega) ?_
        refine zj_aload_n hG d_MD_primitive_211 rfl rfl ?_
        refine t_getA (o := 9) hG hT d_MD_primitive_212 f_MD_38 rfl rfl ?_
        refine zj_iload hG d_MD_primitive_215 rfl ?_
        refine zj_bipush (v := 7) hG d_MD_primitive_217 rfl ?_
        refine zj_iadd hG d_MD_primitive_219 ?_
        refine zj_iload_n hG d_MD_primitive_220 rfl rfl ?_
        refine zj_iconst (v := 1) hG d_MD_primitive_221 rfl ?_
        refine zj_icmp_ne (tgt := 239) hG d_MD_primitive_222 (by decide) (fun c => absurd hk1 c) (fun _ => ?_)
        refine zj_iload_n hG d_MD_primitive_225 rfl rfl ?_
        refine zj_iconst (v := 2) hG d_MD_primitive_226 rfl ?_
        refine zj_icmp_ne (tgt := 234) hG d_MD_primitive_227 (by decide) (fun c => absurd ha2 c) (fun _ => ?_)
        refine zj_iconst (v := 0) hG d_MD_primitive_230 rfl ?_
        refine zj_goto (tgt := 246) hG d_MD_primitive_231 (by decide) ?_
        refine t_ast (r + 7) hG hT d_MD_primitive_246 (by first | decide | omega) (by first | decide | omega) (nI_a7 _) (by show _ < 1088; omega) ?_
        exact fin _ _ _ _ rfl (by simp [oNewP, hk1, ha2]) _ rfl
      · refine zj_icmp_ne (tgt := 198) hG d_MD_primitive_191 (by decide) (fun _ => ?_) (fun c => absurd c ha2)
        refine zj_iload hG d_MD_primitive_198 rfl ?_
        refine zj_goto (tgt := 210) hG d_MD_primitive_200 (by decide) ?_
        refine t_ast (r + 6) hG hT d_MD_primitive_210 (by first | decide | omega) (by first | decide | omega) (nI_a6 _) (by show _ < 1088; omega) ?_
        refine zj_aload_n hG d_MD_primitive_211 rfl rfl ?_
        refine t_getA (o := 9) hG hT d_MD_primitive_212 f_MD_38 rfl rfl ?_
        refine zj_iload hG d_MD_primitive_215 rfl ?_
        refine zj_bipush (v := 7) hG d_MD_primitive_217 rfl ?_
        refine zj_iadd hG d_MD_primitive_219 ?_
        refine zj_iload_n hG d_MD_primitive_220 rfl rfl ?_
        refine zj_iconst (v := 1) hG d_MD_primitive_221 rfl ?_
        refine zj_icmp_ne (tgt := 239) hG d_MD_primitive_222 (by decide) (fun c => absurd hk1 c) (fun _ => ?_)
        refine zj_iload_n hG d_MD_primitive_225 rfl rfl ?_
        refine zj_iconst (v := 2) hG d_MD_primitive_226 rfl ?_
        refine zj_icmp_ne (tgt := 234) hG d_MD_primitive_227 (by decide) (fun _ => ?_) (fun c => absurd c ha2)
        refine zj_iload hG d_MD_primitive_234 rfl ?_
        refine zj_goto (tgt := 246) hG d_MD_primitive_236 (by decide) ?_
        refine t_ast (r + 7) hG hT d_MD_primitive_246 (by first | decide | omega) (by first | decide | omega) (nI_a7 _) (by show _ < 1088; omega) ?_
        exact fin _ _ _ _ rfl (by simp [oNewP, hk1, ha2]) _ rfl
    · obtain ⟨hfn, hix⟩ := hfx hk1
      obtain ⟨a1, a2, a3, a4, a5, a8⟩ := hN3.at hix
      rw [← tel_eq hix] at a2 a3 a4
      refine zj_icmp_ne (tgt := 167) hG d_MD_primitive_160 (by decide) (fun _ => ?_) (fun c => absurd c hk1)
      refine zj_aload_n hG d_MD_primitive_167 rfl rfl ?_
      refine t_getA (o := 15) hG hT d_MD_primitive_168 f_MD_56 rfl rfl ?_
      refine zj_iload hG d_MD_primitive_171 rfl ?_
      refine t_ald (tix T p) hG hT d_MD_primitive_173 (by first | decide | omega) (by first | decide | omega) hfn (by show _ < 26; omega) ?_
      refine t_ast (r + 5) hG hT d_MD_primitive_174 (by first | decide | omega) (by first | decide | omega) (nI_a5 _) (by show _ < 1088; omega) ?_
      refine zj_aload_n hG d_MD_primitive_175 rfl rfl ?_
      refine t_getA (o := 9) hG hT d_MD_primitive_176 f_MD_38 rfl rfl ?_
      refine zj_iload hG d_MD_primitive_179 rfl ?_
      refine zj_bipush (v := 6) hG d_MD_primitive_181 rfl ?_
      refine zj_iadd hG d_MD_primitive_183 ?_
      refine zj_iload_n hG d_MD_primitive_184 rfl rfl ?_
      refine zj_iconst (v := 1) hG d_MD_primitive_185 rfl ?_
      rw [hM1f _ _ (by omega), a2]
      refine zj_icmp_ne (tgt := 203) hG d_MD_primitive_186 (by decide) (fun _ => ?_) (fun c => absurd c hk1)
      refine zj_aload_n hG d_MD_primitive_203 rfl rfl ?_
      refine t_getA (o := 16) hG hT d_MD_primitive_204 f_MD_59 rfl rfl ?_
      refine zj_iload hG d_MD_primitive_207 rfl ?_
      refine t_ald (tix T p) hG hT d_MD_primitive_209 (by first | decide | omega) (by first | decide | omega) hfn (by show _ < 26; omega) ?_
      refine t_ast (r + 6) hG hT d_MD_primitive_210 (by first | decide | omega) (by first | decide | omega) (nI_a6 _) (by show _ < 1088; omega) ?_
      refine zj_aload_n hG d_MD_primitive_211 rfl rfl ?_
      refine t_getA (o := 9) hG hT d_MD_primitive_212 f_MD_38 rfl rfl ?_
      refine zj_iload hG d_MD_primitive_215 rfl ?_
      refine zj_bipush (v := 7) hG d_MD_primitive_217 rfl ?_
      refine zj_iadd hG d_MD_primitive_219 ?_
      refine zj_iload_n hG d_MD_primitive_220 rfl rfl ?_
      refine zj_iconst (v := 1) hG d_MD_primitive_221 rfl ?_
      rw [zu_a (by omega), hM1f _ _ (by omega), a3]
      refine zj_icmp_ne (tgt := 239) hG d_MD_primitive_222 (by decide) (fun _ => ?_) (fun c => absurd c hk1)
      refine zj_aload_n hG d_MD_primitive_239 rfl rfl ?_
      refine t_getA (o := 17) hG hT d_MD_primitive_240 f_MD_62 rfl rfl ?_
      refine zj_iload hG d_MD_primitive_243 rfl ?_
      refine t_ald (tix T p) hG hT d_MD_primitive_245 (by first | decide | omega) (by first | decide | omega) hfn (by show _ < 26; omega) ?_
      refine t_ast (r + 7) hG hT d_MD_primitive_246 (by first | decide | omega) (by first | decide | omega) (nI_a7 _) (by show _ < 1088; omega) ?_
      rw [zu_a (by omega), zu_a (by omega), hM1f _ _ (by omega), a4]
      exact fin _ _ _ _ rfl (by simp [oNewP, hk1]) _ rfl
end MD22
