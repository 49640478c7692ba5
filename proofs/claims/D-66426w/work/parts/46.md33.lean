/-! PART 46: the reference: clash as a whole -/
section MD33
variable {G : zG} {q : Nat} {h : zH} {N : Nat → Nat → Int32} {W : sW}
set_option maxRecDepth 4000 in
theorem k_MD_clash (hG : zOK G) (hT : twOK q h) (hA : tA N W) (hS : sSw W) (x : Int32) (hK : ∀ b, b < (wV W).length → tDK W x b (tdis W x b))
    (hR : ∀ (i : Nat) (s : sSt), x = nI i → (wS W)[i]? = some s → tGo 2 (tacs i s.2.2 true 0 s.2.2.length) ((oTm W s.1 []).1, (oTm W s.1 []).2, fun _ => tK0, 0) ∧ (∀ f ∈ ((wV W)[s.2.1]?.getD []), tix (oClX W i s).1 f.1 < (oClX W i s).1.length) ∧ (oClX W i s).2.1.length ≤ 900 ∧
      ∀ z, oWay W x s.1 s.2.1 = some z → (∀ u ∈ z.1, u < 8) ∧ (∀ s ∈ z.2, s < (wS W).length) ∧ tGo 2 (trac (wS W) z.1 z.2) ((oTm W s.1 (oClX W i s).2.1).1, (oTm W s.1 (oClX W i s).2.1).2, fun _ => tK0, 0) ∧ (∀ f ∈ ((wV W)[s.2.1]?.getD []), tix (oClY W i s z).1 f.1 < (oClY W i s z).1.length) ∧ (oClY W i s z).2.1.length ≤ 900) :
    zJ G 6 m_MD_clash 0 [some (zA q), some (zI x), none, none, none, none] [] (twp q h N) (fun o h' => ∃ y N', o = zR (zI y) ∧ h' = twp q h N' ∧ (N' 0 0 = (oClash W x).1 ∧ y = (oClash W x).2 ∧ tA N' W)) := by
  have hW := hA.1
  have h8 := hW.1.2.2
  have h16 := hW.2.2.2.1.2
  have bad : ¬ (0 ≤ x ∧ x < nI (wS W).length) → zJ G 6 m_MD_clash 17 [some (zA q), some (zI x), none, none, none, none] [zA q] (twp q h N) (fun o h' => ∃ y N', o = zR (zI y) ∧ h' = twp q h N' ∧ (N' 0 0 = (oClash W x).1 ∧ y = (oClash W x).2 ∧ tA N' W)) := by
    intro e
    rw [oClash, if_neg e]
    refine zj_iconst (v := 1) hG d_MD_clash_17 rfl ?_
    refine t_putI hG hT d_MD_clash_18 f_MD_101 rfl rfl ?_
    refine zj_aload_n hG d_MD_clash_21 rfl rfl ?_
    refine t_getI hG hT d_MD_clash_22 f_MD_101 rfl ?_
    rw [zu_s]
    refine zj_if_le (tgt := 30) hG d_MD_clash_25 (by decide) (fun c => absurd c (by decide)) (fun _ => ?_)
    refine zj_iconst (v := 0) hG d_MD_clash_28 rfl ?_
    exact zj_iret hG d_MD_clash_29 rfl rfl ⟨_, _, rfl, rfl, zu_s, rfl, hA.th 1⟩
  refine zj_aload_n hG d_MD_clash_0 rfl rfl ?_
  refine zj_iload_n hG d_MD_clash_1 rfl rfl ?_
  refine zj_if_lt (tgt := 17) hG d_MD_clash_2 (by decide) (fun c2 => ?_) (fun c2 => ?_)
  · exact bad (fun g => Int32.not_le.mpr c2 g.1)
  refine zj_iload_n hG d_MD_clash_5 rfl rfl ?_
  refine zj_aload_n hG d_MD_clash_6 rfl rfl ?_
  refine t_getI hG hT d_MD_clash_7 f_MD_260 rfl ?_
  rw [hW.2.2.2.1.1]
  refine zj_icmp_ge (tgt := 17) hG d_MD_clash_10 (by decide) (fun c10 => ?_) (fun c10 => ?_)
  · exact bad (fun g => Int32.not_lt.mpr c10 g.2)
  have hx2 : 0 ≤ x ∧ x < nI (wS W).length := ⟨Int32.not_lt.mp c2, Int32.not_le.mp c10⟩
  obtain ⟨i, hi, rfl⟩ : ∃ i, i < (wS W).length ∧ x = nI i := by
    rcases pk_ix x (n := (wS W).length) (by omega) with e | e | e
    · exact absurd e c2
    · exact absurd e c10
    · exact e
  have hs : (wS W)[i]? = some (wS W)[i] := List.getElem?_eq_getElem hi
  obtain ⟨g1, g2, g3, g4⟩ := hR i _ rfl hs
  obtain ⟨b1, b2⟩ := hS _ (List.getElem_mem hi)
  rw [oClash, if_pos hx2, nI_clamp (by omega), hs]
  simp only
  generalize hss : (wS W)[i] = s at *
  have hFf : (wV W)[s.1]? = some (wV W)[s.1] := List.getElem?_eq_getElem b1
  have hFt : (wV W)[s.2.1]? = some (wV W)[s.2.1] := List.getElem?_eq_getElem b2
  rw [hFt] at g2 ⊢
  simp only [Option.getD_some] at g2 ⊢
  generalize hXX : oClX W i s = X2 at *
  obtain ⟨hW0, X, hX0, hXl⟩ := hA.th 0
  obtain ⟨e1, e2, e3⟩ := hW0.2.2.2.2.1 i s hs
  have z0 : zu N 0 0 0 0 0 = 0 := zu_s
  refine zj_iconst (v := 0) hG d_MD_clash_13 rfl ?_
  refine zj_goto (tgt := 18) hG d_MD_clash_14 (by decide) ?_
  refine t_putI hG hT d_MD_clash_18 f_MD_101 rfl rfl ?_
  refine zj_aload_n hG d_MD_clash_21 rfl rfl ?_
  refine t_getI hG hT d_MD_clash_22 f_MD_101 rfl ?_
  rw [zu_s]
  refine zj_if_le (tgt := 30) hG d_MD_clash_25 (by decide) (fun _ => ?_) (fun c => absurd (by decide) c)
  generalize zu N 0 0 0 = M at *
  refine zj_aload_n hG d_MD_clash_30 rfl rfl ?_
  refine t_getA (o := 6) hG hT d_MD_clash_31 f_MD_29 rfl rfl ?_
  refine zj_iload_n hG d_MD_clash_34 rfl rfl ?_
  refine t_ald (i) hG hT d_MD_clash_35 (by first | decide | omega) (by first | decide | omega) rfl (by show _ < 17; omega) ?_
  refine zj_istore_n hG d_MD_clash_36 rfl (by decide) rfl rfl ?_
  refine zj_aload_n hG d_MD_clash_37 rfl rfl ?_
  refine t_getA (o := 7) hG hT d_MD_clash_38 f_MD_32 rfl rfl ?_
  refine zj_iload_n hG d_MD_clash_41 rfl rfl ?_
  refine t_ald (i) hG hT d_MD_clash_42 (by first | decide | omega) (by first | decide | omega) rfl (by show _ < 17; omega) ?_
  refine zj_istore_n hG d_MD_clash_43 rfl (by decide) rfl rfl ?_
  rw [e1, e2]
  have hX1 : tX (zu M 0 29 0) (X.1, [], X.2.2) := by
    have f : tFr (fun o k => o == 0 && k == 29) M (zu M 0 29 0) := tFr.put tFr.rfl' rfl
    exact ⟨hX0.1.fr f (by intro o i e; simp [pT] at e; simp; omega), ⟨zu_s, by simp, fun k y hk => by simp at hk⟩, hX0.2.2.1.fr f (by intro o i e; simp [pK] at e; simp; omega), (f 0 28 rfl).trans hX0.2.2.2⟩
  have fm1 : tFr pM M (zu M 0 29 0) := tFr.put tFr.rfl' rfl
  have hVf := (hW0.pm fm1).2.1 _ _ hFf
  have h24f := hVf.2.1
  refine zj_aload_n hG d_MD_clash_44 rfl rfl ?_
  refine zj_iconst (v := 0) hG d_MD_clash_45 rfl ?_
  refine t_putI hG hT d_MD_clash_46 f_MD_143 rfl rfl ?_
  refine zj_aload_n hG d_MD_clash_49 rfl rfl ?_
  refine zj_iload_n hG d_MD_clash_50 rfl rfl ?_
  refine zj_callU (y' := m_MD_takeTerms) hG (zcP (as := [_]) hG d_MD_clash_51 c_MD_takeTerms (z_w8 58 rfl) (z_w8 60 rfl) (z_w8 59 rfl) (z_w7 8 rfl) rfl ⟨by decide, by decide⟩ hT.1 (by decide) (by decide) (show _ = some 1 from by decide +kernel) rfl) c_MD_takeTerms rfl (by omega) rfl (z_le rfl) (z_le rfl) (k_MD_takeTerms hG hT hX1 (by omega) hVf (by simp; omega)) (fun N51 e51 => ?_)
  obtain ⟨t1, t2, t3⟩ := e51
  have f51 : tFr pM M N51 := fm1.trans t2
  have hW51 := hW0.pm f51
  have htm : ∀ L, oTm W s.1 L = ((ttt (ttk 2 L (wV W)[s.1]).2 (ttk 2 L (wV W)[s.1]).1).1, (ttt (ttk 2 L (wV W)[s.1]).2 (ttk 2 L (wV W)[s.1]).1).2.1) := by
    intro L
    rw [oTm, hFf]
    rfl
  have t1' : tX N51 ((oTm W s.1 []).1, (oTm W s.1 []).2, X.2.2.1, X.2.2.2) := by
    rw [htm]
    exact t1
  refine zj_iconst (v := 0) hG d_MD_clash_54 rfl ?_
  refine zj_istore hG d_MD_clash_55 (by decide) rfl rfl ?_
  refine k_MD_cl1 hG hT hW51 t3 hs (X0 := (X2.1, X2.2.1, X.2.2.1, X.2.2.2)) ?_ s.2.2.length 0 N51 _ (by omega) tFr.rfl' t1' (tGo_2 _ _ _ _ _ _ _ g1) ?_
  rotate_left
  · rw [trun_2 _ _ _ _ (fun _ => tK0) _ 0, ← hXX]
    rfl
  intro M2 w2 fA2 hX2
  have f2 : tFr pM M M2 := f51.trans (fA2.mono pA_M)
  have hW2 := hW0.pm f2
  refine zj_iconst (v := 0) hG d_MD_clash_81 rfl ?_
  refine zj_istore hG d_MD_clash_82 (by decide) rfl rfl ?_
  refine k_MD_cl2 (N := M2) (T := X2.1) (F := (wV W)[s.2.1]) hG hT (by omega) (hW2.2.1 _ _ hFt) hX2.1 g2 ?_ _ 0 M2 (Nat.zero_add _) (fun _ _ _ => rfl) (fun _ _ e => by omega)
  intro M3 w3 f3 d3
  have f3' : tFr (fun o _ => o == 24) M2 M3 := fun o j e => f3 o j (by simpa using e)
  have hW3 : tW M3 W := hW2.fr f3' (by intro o j e; simp [pP] at e; simp; omega)
  have hX3 : tX M3 (X2.1, X2.2.1, X.2.2.1, X.2.2.2) := hX2.fr2 f3' (by intro o i e; simp [pA, pT, pS, pW] at e; simp; omega)
  refine zj_aload_n hG d_MD_clash_129 rfl rfl ?_
  refine zj_iload_n hG d_MD_clash_130 rfl rfl ?_
  refine zj_iload_n hG d_MD_clash_131 rfl rfl ?_
  refine zj_iload_n hG d_MD_clash_132 rfl rfl ?_
  refine zj_callT (y' := m_MD_findRoute) hG (zcP (as := [_, _, _]) hG d_MD_clash_133 c_MD_findRoute (z_w8 18 rfl) (z_w8 20 rfl) (z_w8 19 rfl) (z_w7 8 rfl) rfl ⟨by decide, by decide⟩ hT.1 (by decide) (by decide) (show _ = some 3 from by decide +kernel) rfl) c_MD_findRoute rfl (by omega) rfl (z_le rfl) (z_le rfl) (k_MD_findRoute hG hT hW3 hS b1 b2 (nI i) (hK _ (by split <;> assumption))) (fun v133 N133 e133 => ?_)
  obtain ⟨r1, r2, r3⟩ := e133
  subst r1
  have hW4 := hW3.pr r2
  have hX4 : tX N133 (X2.1, X2.2.1, X.2.2.1, X.2.2.2) := hX3.fr2 r2 (by intro o i e; simp [pA, pT, pS, pW] at e; simp [pR]; omega)
  have z4 : N133 0 0 = 0 := (r2 0 0 rfl).trans ((f3 0 0 (by omega)).trans ((f2 0 0 rfl).trans z0))
  cases hw : oWay W (nI i) s.1 s.2.1 with
  | none =>
    refine zj_if_ne (tgt := 141) hG d_MD_clash_136 (by decide) (fun c => absurd rfl c) (fun _ => ?_)
    refine zj_iconst (v := -1) hG d_MD_clash_139 rfl ?_
    exact zj_iret hG d_MD_clash_140 rfl rfl ⟨_, _, rfl, rfl, z4, rfl, hW4, _, hX4, g3⟩
  | some z =>
    obtain ⟨s1, s2, s3⟩ := r3 z hw
    obtain ⟨p1, p2, p3, p4, p5⟩ := g4 z hw
    obtain ⟨q1, q2⟩ := oWay_len hK b1 b2 hw
    rw [hFt] at p4
    simp only [Option.getD_some] at p4 ⊢
    have hYY : oClY W i s z = trun 2 (trac (wS W) z.1 z.2) ((oTm W s.1 X2.2.1).1, (oTm W s.1 X2.2.1).2, fun _ => tK0, 0) := by rw [oClY, hXX]
    generalize oClY W i s z = Y at *
    refine zj_if_ne (tgt := 141) hG d_MD_clash_136 (by decide) (fun _ => ?_) (fun c => absurd c tb1)
    refine zj_aload_n hG d_MD_clash_141 rfl rfl ?_
    refine zj_iload_n hG d_MD_clash_142 rfl rfl ?_
    refine zj_callU (y' := m_MD_takeTerms) hG (zcP (as := [_]) hG d_MD_clash_143 c_MD_takeTerms (z_w8 58 rfl) (z_w8 60 rfl) (z_w8 59 rfl) (z_w7 8 rfl) rfl ⟨by decide, by decide⟩ hT.1 (by decide) (by decide) (show _ = some 1 from by decide +kernel) rfl) c_MD_takeTerms rfl (by omega) rfl (z_le rfl) (z_le rfl) (k_MD_takeTerms hG hT hX4 (by omega) (hW4.2.1 _ _ hFf) (by simp only; omega)) (fun N143 e143 => ?_)
    obtain ⟨k1, k2, k3⟩ := e143
    have k1' : tX N143 ((oTm W s.1 X2.2.1).1, (oTm W s.1 X2.2.1).2, X.2.2.1, X.2.2.2) := by
      rw [htm]
      exact k1
    have hW5 := hW4.pm k2
    refine zj_aload_n hG d_MD_clash_146 rfl rfl ?_
    refine zj_callU (y' := m_MD_goRoute) hG (zcP (as := []) hG d_MD_clash_147 c_MD_goRoute (z_w8 30 rfl) (z_w8 32 rfl) (z_w8 31 rfl) (z_w7 8 rfl) rfl ⟨by decide, by decide⟩ hT.1 (by decide) (by decide) (show _ = some 0 from by decide +kernel) rfl) c_MD_goRoute rfl (by omega) rfl (z_le rfl) (z_le rfl) (k_MD_goRoute hG hT hW5 hS q1 (by omega) ((k2 0 33 rfl).trans s1) (fun a b c => (k2 25 a rfl).trans (s2 a b c)) (fun a b c => (k2 26 a rfl).trans (s3 a b c)) p1 p2 k1' (by rw [k3]; exact tGo_2 _ _ _ _ _ _ _ p3)) (fun N147 e147 => ?_)
    obtain ⟨m1, m2⟩ := e147
    rw [k3, trun_2 _ _ _ _ (fun _ => tK0) _ 0, ← hYY] at m1
    have hW6 := hW5.pa m2
    have d6 : ∀ k (hk : k < ((wV W)[s.2.1]).length), N147 24 k = eT (tel X2.1 (((wV W)[s.2.1])[k]).1) := by
      intro k hk
      rw [m2 24 k rfl, k2 24 k rfl, r2 24 k rfl]
      exact d3 k hk
    have z6 : N147 0 0 = 0 := (m2 0 0 rfl).trans ((k2 0 0 rfl).trans z4)
    refine zj_iconst (v := 1) hG d_MD_clash_150 rfl ?_
    refine zj_istore hG d_MD_clash_151 (by decide) rfl rfl ?_
    refine zj_iconst (v := 0) hG d_MD_clash_153 rfl ?_
    refine zj_istore hG d_MD_clash_154 (by decide) rfl rfl ?_
    refine (k_MD_cl3 (N := N147) (T1 := X2.1) (T2 := Y.1) (F := (wV W)[s.2.1]) hG hT (by omega) (hW6.2.1 _ _ hFt) m1.1 p4 d6 _ 0 (Nat.zero_add _)).mono ?_
    rintro o h' ⟨k4, k5⟩
    exact ⟨_, _, k4, k5, z6, rfl, hW6, _, m1, p5⟩
end MD33
