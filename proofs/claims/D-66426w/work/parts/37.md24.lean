/-! PART 37: the reference: fields of the first version; what is asked of versions -/
def oField (W : sW) (p s a b : Int32) : Int32 × Int32 × sW :=
  let F := (wV W)[0]?.getD []
  let T := F.map tE0
  if wB W = true ∨ F.length = 24 then (1, 0, W) else if tca T p s a b = true then (0, nI (F.length + 1), ((wV W).set 0 (stl (T ++ [tE0 (p, s, (if s = 2 then 0 else a), (if s = 2 then 0 else b))])), wB W, wS W, wU W, wR W)) else (2, 0, W)
/-- how many lie in a path, itself not -/
def tcnt (T : List tE) (p : Int32) (n : Nat) : Nat := (T.take n).countP (fun e => decide (eP e ≠ p) && decide (tcut (eP e) (tdep p) = p))
theorem tcnt_s {T : List tE} {p : Int32} {n : Nat} (hn : n < T.length) : tcnt T p (n + 1) = tcnt T p n + (if (decide (eP T[n] ≠ p) && decide (tcut (eP T[n]) (tdep p) = p)) = true then 1 else 0) := by
  unfold tcnt
  rw [List.take_succ_eq_append_getElem hn, List.countP_append, List.countP_singleton]
def oAbout (W : sW) (v p x : Int32) : Int32 × Int32 :=
  let T := ((wV W)[v.toNatClampNeg]?.getD []).map tE0
  if oVer W v = true then (if x < 0 ∨ 3 < x then (2, 0) else (0,
    if x = 0 then (if p = 0 then 2 else if tfnd T p < 0 then -1 else eS (tel T p))
    else if x < 3 then (if p = 0 ∨ tfnd T p < 0 then 0 else if x = 1 then eL (tel T p) else eH (tel T p))
    else if p = 0 ∨ 0 ≤ tfnd T p then nI (tcnt T p T.length) else 0)) else (1, 0)
section MD24
variable {G : zG} {q : Nat} {h : zH} {N : Nat → Nat → Int32} {W : sW} {T : List tE}
/-- the first version is written anew -/
theorem tA.v0 {N' : Nat → Nat → Int32} (hA : tA N W) {F : List tFd} (hF : tVer N' 0 F) (hR : ∀ j r, j < 16 → wR W j = some r → r.1 ≠ 0) (g : ∀ o i, ¬ (o = 0 ∧ i = 0) → ¬ (o = 1 ∧ i = 0) → ¬ (2 ≤ o ∧ o ≤ 5 ∧ i < 24) → N' o i = N o i) : tA N' ((wV W).set 0 F, wB W, wS W, wU W, wR W) := by
  obtain ⟨hW, X, hX, hX2⟩ := hA
  have hW' := hW
  obtain ⟨⟨a1, a2, a3⟩, b, c, ⟨d1, d2⟩, e, uu, v, w⟩ := hW'
  have gp : ∀ {s : Nat} {ps : List tPm}, tPs N s ps → tPs N' s ps := fun z =>
    ⟨(g 8 _ (by omega) (by omega) (by omega)).trans z.1, z.2.1, fun i p hp => (z.2.2 i p hp).fr (P := fun o _ => !(o == 9)) (fun o j e => by simp at e; subst e; exact g 9 j (by omega) (by omega) (by omega)) (fun _ => rfl)⟩
  refine ⟨⟨⟨?_, ?_, ?_⟩, fun i f hf => ?_, (g 0 7 (by omega) (by omega) (by omega)).trans c, ⟨(g 0 8 (by omega) (by omega) (by omega)).trans d1, d2⟩, fun s x hx => ?_, (g 0 13 (by omega) (by omega) (by omega)).trans uu, fun z hz => ?_, fun j hj => ?_⟩, X, hX.fr2 (P := fun o i => (1 ≤ o && o ≤ 5) || (o == 0 && i == 0)) (fun o i e => g o i (by simp at e; omega) (by simp at e; omega) (by simp at e; omega)) (by intro o i e; simp [pA, pT, pS, pW] at e; simp; omega), hX2⟩
  · show N' 0 1 = nI ((wV W).set 0 F).length
    rw [g 0 1 (by omega) (by omega) (by omega), a1]
    simp
  · show 1 ≤ ((wV W).set 0 F).length
    simpa using a2
  · show ((wV W).set 0 F).length ≤ 8
    simpa using a3
  · change ((wV W).set 0 F)[i]? = some f at hf
    rw [List.getElem?_set] at hf
    by_cases e0 : 0 = i
    · subst e0
      rw [if_pos rfl, if_pos (by omega)] at hf
      cases hf
      exact hF
    · rw [if_neg e0] at hf
      obtain ⟨z1, z2, z3⟩ := b i f hf
      refine ⟨(g 1 i (by omega) (by omega) (by omega)).trans z1, z2, fun k x hk => ?_⟩
      obtain ⟨y1, y2, y3, y4⟩ := z3 k x hk
      exact ⟨(g 2 _ (by omega) (by omega) (by omega)).trans y1, (g 3 _ (by omega) (by omega) (by omega)).trans y2, (g 4 _ (by omega) (by omega) (by omega)).trans y3, (g 5 _ (by omega) (by omega) (by omega)).trans y4⟩
  · obtain ⟨e1, e2, e3⟩ := e s x hx
    exact ⟨(g 6 s (by omega) (by omega) (by omega)).trans e1, (g 7 s (by omega) (by omega) (by omega)).trans e2, gp e3⟩
  · obtain ⟨e1, e2⟩ := v z hz
    exact ⟨(g 6 _ (by omega) (by omega) (by omega)).trans e1, gp e2⟩
  · have := w j hj
    show tRo N' ((wV W).set 0 F) j (wR W j)
    cases hr : wR W j with
    | none =>
      rw [hr] at this
      exact (g 10 j (by omega) (by omega) (by omega)).trans this
    | some r =>
      rw [hr] at this
      have hr0 := hR j r hj hr
      obtain ⟨z1, ⟨f, z2, z3⟩, z4⟩ := tRc.fr (N' := N') this (g 10 j (by omega) (by omega) (by omega)) (fun i _ _ => g 11 i (by omega) (by omega) (by omega)) (fun i _ _ => g 12 i (by omega) (by omega) (by omega)) (fun i _ _ => g 13 i (by omega) (by omega) (by omega)) (hW.len hj hr)
      exact ⟨z1, ⟨f, by rw [List.getElem?_set_ne (fun e => hr0 e.symm)]; exact z2, z3⟩, z4⟩
set_option maxRecDepth 4000 in
/-- the table is taken (mode 0) -/
theorem k_MD_take0 (hG : zOK G) (hT : twOK q h) (hA : tA N W) {v : Nat} (hv : v < (wV W).length) (hm : N 0 27 = 0) :
    zJ G 3 m_MD_take 0 [some (zA q), some (zI (nI v)), none] [] (twp q h N) (fun o h' => ∃ N', o = zR0 ∧ h' = twp q h N' ∧ (tTab N' (((wV W)[v]).map tE0) ∧ tA N' W ∧ tFr pTS N N' ∧ ∃ Y, tX N' (((wV W)[v]).map tE0, Y) ∧ Y.1.length ≤ 900)) := by
  obtain ⟨hW, X, hX, hXl⟩ := hA
  have h8 := hW.1.2.2
  have hV := hW.2.1 v _ (List.getElem?_eq_getElem hv)
  have h24 := hV.2.1
  refine (k_MD_takeX hG hT hX (by omega) hV (by omega)).mono ?_
  rintro o h' ⟨N', e1, e2, e3, e4⟩
  rw [hm, ttk_0 (by decide)] at e3
  exact ⟨N', e1, e2, e3.1, ⟨hW.ts e4, _, e3, hXl⟩, e4, X.2, e3, hXl⟩
set_option maxRecDepth 4000 in
theorem k_MD_field (hG : zOK G) (hT : twOK q h) (hA : tA N W) (p s a b : Int32) (hR : wB W = false → ∀ j, j < 16 → wR W j = none) (hS : tca (((wV W)[0]?.getD []).map tE0) p s a b = true → ((wV W)[0]?.getD []).length < 24 → tSet (((wV W)[0]?.getD []).map tE0 ++ [tE0 (p, s, (if s = 2 then 0 else a), (if s = 2 then 0 else b))])) :
    zJ G 4 m_MD_field 0 [some (zA q), some (zI p), some (zI s), some (zI a), some (zI b)] [] (twp q h N) (fun o h' => ∃ z N', o = zR (zI z) ∧ h' = twp q h N' ∧ (N' 0 0 = (oField W p s a b).1 ∧ z = (oField W p s a b).2.1 ∧ tA N' (oField W p s a b).2.2)) := by
  have hW := hA.1
  have hv0 : 0 < (wV W).length := hW.1.2.1
  have h8 := hW.1.2.2
  have hF : (wV W)[0]? = some (wV W)[0] := List.getElem?_eq_getElem hv0
  have hV := hW.2.1 0 _ hF
  rw [hF] at hS
  rw [oField, hF]
  simp only [Option.getD_some] at hS ⊢
  generalize hFF : (wV W)[0] = F at *
  have h24 := hV.2.1
  generalize hRR : (if wB W = true ∨ F.length = 24 then ((1, 0, W) : Int32 × Int32 × sW) else if tca (F.map tE0) p s a b = true then (0, nI (F.length + 1), ((wV W).set 0 (stl (F.map tE0 ++ [tE0 (p, s, (if s = 2 then 0 else a), (if s = 2 then 0 else b))])), wB W, wS W, wU W, wR W)) else (2, 0, W)) = R
  have bad : (wB W = true ∨ F.length = 24) → zJ G 4 m_MD_field 19 [some (zA q), some (zI p), some (zI s), some (zI a), some (zI b)] [zA q] (twp q h N) (fun o h' => ∃ z N', o = zR (zI z) ∧ h' = twp q h N' ∧ (N' 0 0 = R.1 ∧ z = R.2.1 ∧ tA N' R.2.2)) := by
    intro e
    rw [if_pos e] at hRR
    rw [← hRR]
    refine zj_iconst (v := 1) hG d_MD_field_19 rfl ?_
    refine zj_goto (tgt := 24) hG d_MD_field_20 (by decide) ?_
    refine t_putI hG hT d_MD_field_24 f_MD_101 rfl rfl ?_
    refine zj_aload_n hG d_MD_field_27 rfl rfl ?_
    refine t_getI hG hT d_MD_field_28 f_MD_101 rfl ?_
    rw [zu_s]
    refine zj_if_le (tgt := 36) hG d_MD_field_31 (by decide) (fun c => absurd c (by decide)) (fun _ => ?_)
    refine zj_iconst (v := 0) hG d_MD_field_34 rfl ?_
    exact zj_iret hG d_MD_field_35 rfl rfl ⟨_, _, rfl, rfl, zu_s, rfl, hA.th 1⟩
  refine zj_aload_n hG d_MD_field_0 rfl rfl ?_
  refine zj_aload_n hG d_MD_field_1 rfl rfl ?_
  refine t_getI hG hT d_MD_field_2 f_MD_234 rfl ?_
  rw [hW.2.2.1]
  refine zj_if_ne (tgt := 19) hG d_MD_field_5 (by decide) (fun c5 => ?_) (fun c5 => ?_)
  · exact bad (Or.inl (tb_t c5))
  have hB := tb_f c5
  refine zj_aload_n hG d_MD_field_8 rfl rfl ?_
  refine t_getA (o := 1) hG hT d_MD_field_9 f_MD_13 rfl rfl ?_
  refine zj_iconst (v := 0) hG d_MD_field_12 rfl ?_
  refine t_ald (0) hG hT d_MD_field_13 (by first | decide | omega) (by first | decide | omega) rfl (by decide) ?_
  refine zj_bipush (v := 24) hG d_MD_field_14 rfl ?_
  rw [hV.1]
  refine zj_icmp_ne (tgt := 23) hG d_MD_field_16 (by decide) (fun c16 => ?_) (fun c16 => ?_)
  rotate_left
  · exact bad (Or.inr ((nI_eq (b := 24) (by omega) (by omega)).mp c16))
  have hl24 : F.length < 24 := by
    have : ¬ F.length = 24 := fun e => c16 (by rw [e]; rfl)
    omega
  rw [if_neg (fun g => by rcases g with g | g; rw [hB] at g; cases g; omega)] at hRR
  refine zj_iconst (v := 0) hG d_MD_field_23 rfl ?_
  refine t_putI hG hT d_MD_field_24 f_MD_101 rfl rfl ?_
  refine zj_aload_n hG d_MD_field_27 rfl rfl ?_
  refine t_getI hG hT d_MD_field_28 f_MD_101 rfl ?_
  rw [zu_s]
  refine zj_if_le (tgt := 36) hG d_MD_field_31 (by decide) (fun _ => ?_) (fun c => absurd (by decide) c)
  refine zj_aload_n hG d_MD_field_36 rfl rfl ?_
  refine zj_iconst (v := 0) hG d_MD_field_37 rfl ?_
  refine t_putI hG hT d_MD_field_38 f_MD_118 rfl rfl ?_
  refine zj_aload_n hG d_MD_field_41 rfl rfl ?_
  refine zj_iconst (v := 0) hG d_MD_field_42 rfl ?_
  have hA1 : tA (zu (zu N 0 0 0) 0 27 0) W := (hA.th 0).sc (by omega) 0
  refine zj_callU (y' := m_MD_take) hG (zcP (as := [_]) hG d_MD_field_43 c_MD_take (z_w7 14 rfl) (z_w7 16 rfl) (z_w7 15 rfl) (z_w7 8 rfl) rfl ⟨by decide, by decide⟩ hT.1 (by decide) (by decide) (show _ = some 1 from by decide +kernel) rfl) c_MD_take rfl (by omega) rfl (z_le rfl) (z_le rfl) (k_MD_take0 (v := 0) hG hT hA1 hv0 zu_s) (fun N43 e43 => ?_)
  obtain ⟨r1, r2, r3, r4⟩ := e43
  rw [hFF] at r1 r4
  refine zj_aload_n hG d_MD_field_46 rfl rfl ?_
  refine zj_aload_n hG d_MD_field_47 rfl rfl ?_
  refine zj_iload_n hG d_MD_field_48 rfl rfl ?_
  refine zj_iload_n hG d_MD_field_49 rfl rfl ?_
  refine zj_iload_n hG d_MD_field_50 rfl rfl ?_
  refine zj_iload hG d_MD_field_51 rfl ?_
  refine zj_callR (y' := m_MD_canAdd) hG (zcP (as := [_, _, _, _]) hG d_MD_field_53 c_MD_canAdd (z_w7 33 rfl) (z_w7 35 rfl) (z_w7 34 rfl) (z_w7 8 rfl) rfl ⟨by decide, by decide⟩ hT.1 (by decide) (by decide) (show _ = some 4 from by decide +kernel) rfl) c_MD_canAdd rfl (by omega) rfl (z_le rfl) (z_le rfl) (k_MD_canAdd hG hT r1 _ _ _ _) ?_
  refine zj_if_eq (tgt := 63) hG d_MD_field_56 (by decide) (fun c56 => ?_) (fun c56 => ?_)
  · rw [if_neg (by rw [tb_f c56]; decide)] at hRR
    rw [← hRR]
    refine zj_iconst (v := 2) hG d_MD_field_63 rfl ?_
    refine t_putI hG hT d_MD_field_64 f_MD_101 rfl rfl ?_
    refine zj_aload_n hG d_MD_field_67 rfl rfl ?_
    refine t_getI hG hT d_MD_field_68 f_MD_101 rfl ?_
    rw [zu_s]
    refine zj_if_le (tgt := 76) hG d_MD_field_71 (by decide) (fun c => absurd c (by decide)) (fun _ => ?_)
    refine zj_iconst (v := 0) hG d_MD_field_74 rfl ?_
    exact zj_iret hG d_MD_field_75 rfl rfl ⟨_, _, rfl, rfl, zu_s, rfl, r2.th 2⟩
  have hca := tb_t c56
  have hset := hS hca hl24
  rw [if_pos hca] at hRR
  refine zj_iconst (v := 0) hG d_MD_field_59 rfl ?_
  refine zj_goto (tgt := 64) hG d_MD_field_60 (by decide) ?_
  refine t_putI hG hT d_MD_field_64 f_MD_101 rfl rfl ?_
  refine zj_aload_n hG d_MD_field_67 rfl rfl ?_
  refine t_getI hG hT d_MD_field_68 f_MD_101 rfl ?_
  rw [zu_s]
  refine zj_if_le (tgt := 76) hG d_MD_field_71 (by decide) (fun _ => ?_) (fun c => absurd (by decide) c)
  have hA2 := r2.th 0
  obtain ⟨Y, rX, rl⟩ := r4
  have rX2 : tX (zu N43 0 0 0) (F.map tE0, Y) := rX.fr2 (P := fun o i => o == 0 && i == 0) (tFr.put tFr.rfl' rfl) (by intro o i e; simp [pA, pT, pS, pW] at e; simp; omega)
  have hm : (zu N43 0 0 0) 0 27 = 0 := by
    rw [zu_k (by omega), r3 0 27 rfl]
    exact zu_s
  have z0 : (zu N43 0 0 0) 0 0 = 0 := zu_s
  generalize zu N43 0 0 0 = M at *
  have fin : ∀ (x y : Int32), x = (if s = 2 then 0 else a) → y = (if s = 2 then 0 else b) → zJ G 4 m_MD_field 100 [some (zA q), some (zI p), some (zI s), some (zI a), some (zI b)] [zI y, zI x, zI s, zI p, zA q] (twp q h M) (fun o h' => ∃ z N', o = zR (zI z) ∧ h' = twp q h N' ∧ (N' 0 0 = R.1 ∧ z = R.2.1 ∧ tA N' R.2.2)) := by
    intro x y hx hy
    refine zj_callT (y' := m_MD_come) hG (zcP (as := [_, _, _, _]) hG d_MD_field_100 c_MD_come (z_w7 18 rfl) (z_w7 20 rfl) (z_w7 19 rfl) (z_w7 8 rfl) rfl ⟨by decide, by decide⟩ hT.1 (by decide) (by decide) (show _ = some 4 from by decide +kernel) rfl) c_MD_come rfl (by omega) rfl (z_le rfl) (z_le rfl) (k_MD_come hG hT rX2.1 rX2.2.1 (by simp; omega) (by simp only; omega) _ _ _ _) (fun v100 N100 e100 => ?_)
    obtain ⟨k1, k2, k3, k4⟩ := e100
    have hnew : tnew (M 0 27) Y.1 p s x y = tE0 (p, s, (if s = 2 then 0 else a), (if s = 2 then 0 else b)) := by
      rw [hm, hx, hy]
      rfl
    have hnewL : tnewL (M 0 27) Y.1 s x y = Y.1 := by
      rw [hm]
      rfl
    rw [hnew] at k2
    rw [hnewL] at k3
    have hA3 : tA N100 W := ⟨hA2.1.ts k4, (_, Y), ⟨k2, k3, rX2.2.2.1.fr k4 (by intro o i e; simp [pK] at e; simp [pTS, pT, pS]; omega), (k4 0 28 rfl).trans rX2.2.2.2⟩, rl⟩
    refine zj_pop hG d_MD_field_103 (by first | exact zc_A _ | rfl) ?_
    refine zj_aload_n hG d_MD_field_104 rfl rfl ?_
    refine zj_iconst (v := 0) hG d_MD_field_105 rfl ?_
    refine zj_callU (y' := m_MD_settle) hG (zcP (as := [_]) hG d_MD_field_106 c_MD_settle (z_w7 51 rfl) (z_w7 53 rfl) (z_w7 52 rfl) (z_w7 8 rfl) rfl ⟨by decide, by decide⟩ hT.1 (by decide) (by decide) (show _ = some 1 from by decide +kernel) rfl) c_MD_settle rfl (by omega) rfl (z_le rfl) (z_le rfl) (k_MD_settle (v := 0) hG hT k2 hset.1 (by decide) hset.2.1 hset.2.2.1 (stl_len _) hset.2.2.2) (fun N106 e106 => ?_)
    obtain ⟨m1, m2⟩ := e106
    have hl := m1.1
    rw [stl_len] at hl
    refine zj_aload_n hG d_MD_field_109 rfl rfl ?_
    refine t_getA (o := 1) hG hT d_MD_field_110 f_MD_13 rfl rfl ?_
    refine zj_iconst (v := 0) hG d_MD_field_113 rfl ?_
    refine t_ald (0) hG hT d_MD_field_114 (by first | decide | omega) (by first | decide | omega) rfl (by decide) ?_
    rw [hl]
    refine zj_iret hG d_MD_field_115 rfl rfl ⟨_, _, rfl, rfl, ?_, ?_, ?_⟩
    · rw [← hRR, m2 _ _ (by omega) (by omega), k4 0 0 rfl, z0]
    · rw [← hRR]
      simp
    · rw [← hRR]
      exact hA3.v0 m1 (fun j r hj hr => by rw [hR hB j hj] at hr; cases hr) (fun o i _ e2 e3 => m2 o i e2 (by omega))
  refine zj_aload_n hG d_MD_field_76 rfl rfl ?_
  refine zj_iload_n hG d_MD_field_77 rfl rfl ?_
  refine zj_iload_n hG d_MD_field_78 rfl rfl ?_
  refine zj_iload_n hG d_MD_field_79 rfl rfl ?_
  refine zj_iconst (v := 2) hG d_MD_field_80 rfl ?_
  by_cases hs2 : s = 2
  · refine zj_icmp_ne (tgt := 88) hG d_MD_field_81 (by decide) (fun c => absurd hs2 c) (fun _ => ?_)
    refine zj_iconst (v := 0) hG d_MD_field_84 rfl ?_
    refine zj_goto (tgt := 89) hG d_MD_field_85 (by decide) ?_
    refine zj_iload_n hG d_MD_field_89 rfl rfl ?_
    refine zj_iconst (v := 2) hG d_MD_field_90 rfl ?_
    refine zj_icmp_ne (tgt := 98) hG d_MD_field_91 (by decide) (fun c => absurd hs2 c) (fun _ => ?_)
    refine zj_iconst (v := 0) hG d_MD_field_94 rfl ?_
    refine zj_goto (tgt := 100) hG d_MD_field_95 (by decide) ?_
    exact fin 0 0 (by rw [if_pos hs2]) (by rw [if_pos hs2])
  · refine zj_icmp_ne (tgt := 88) hG d_MD_field_81 (by decide) (fun _ => ?_) (fun c => absurd c hs2)
    refine zj_iload_n hG d_MD_field_88 rfl rfl ?_
    refine zj_iload_n hG d_MD_field_89 rfl rfl ?_
    refine zj_iconst (v := 2) hG d_MD_field_90 rfl ?_
    refine zj_icmp_ne (tgt := 98) hG d_MD_field_91 (by decide) (fun _ => ?_) (fun c => absurd c hs2)
    refine zj_iload hG d_MD_field_98 rfl ?_
    exact fin a b (by rw [if_neg hs2]) (by rw [if_neg hs2])
set_option maxRecDepth 4000 in
theorem k_MD_aboutL (hG : zOK G) (hT : twOK q h) (hN : tTab N T) {v1 v3 : zV} {x4 : Int32} {p : Int32} : ∀ (n j : Nat), j + n = T.length → zJ G 4 m_MD_about 152 [some (zA q), some v1, some (zI p), some v3, some (zI x4), some (zI 1), some (zI (nI (tcnt T p j))), some (zI (nI j))] [] (twp q h N) (fun o h' => o = zR (zI (nI (tcnt T p T.length))) ∧ h' = twp q h N) := by
  have hl := hN.l
  intro n
  induction n with
  | zero =>
    intro j hj
    have : j = T.length := by omega
    subst this
    refine zj_iload hG d_MD_about_152 rfl ?_
    refine zj_aload_n hG d_MD_about_154 rfl rfl ?_
    refine t_getI hG hT d_MD_about_155 f_MD_108 rfl ?_
    rw [hN.1]
    refine zj_icmp_ge (tgt := 212) hG d_MD_about_158 (by decide) (fun _ => ?_) (fun c => absurd (nI_le (by omega) (by omega)) c)
    refine zj_iload hG d_MD_about_212 rfl ?_
    exact zj_iret hG d_MD_about_214 rfl rfl ⟨rfl, rfl⟩
  | succ n ih =>
    intro j hj
    have hjl : j < T.length := by omega
    have i := ih (j + 1) (by omega)
    rw [tcnt_s hjl] at i
    have hpj := (hN.at hjl).1
    refine zj_iload hG d_MD_about_152 rfl ?_
    refine zj_aload_n hG d_MD_about_154 rfl rfl ?_
    refine t_getI hG hT d_MD_about_155 f_MD_108 rfl ?_
    rw [hN.1]
    refine zj_icmp_ge (tgt := 212) hG d_MD_about_158 (by decide) (fun c => absurd c (nI_ge hjl (by omega))) (fun _ => ?_)
    refine zj_iload hG d_MD_about_161 rfl ?_
    refine zj_if_eq (tgt := 212) hG d_MD_about_163 (by decide) (fun c => absurd c (by decide)) (fun _ => ?_)
    refine zj_aload_n hG d_MD_about_166 rfl rfl ?_
    refine t_getA (o := 14) hG hT d_MD_about_167 f_MD_53 rfl rfl ?_
    refine zj_iload hG d_MD_about_170 rfl ?_
    refine t_ald (j) hG hT d_MD_about_172 (by first | decide | omega) (by first | decide | omega) rfl (by show _ < 26; omega) ?_
    refine zj_iload_n hG d_MD_about_173 rfl rfl ?_
    rw [hpj]
    refine zj_icmp_eq (tgt := 202) hG d_MD_about_174 (by decide) (fun c174 => ?_) (fun c174 => ?_)
    · rw [show (decide (eP T[j] ≠ p) && decide (tcut (eP T[j]) (tdep p) = p)) = false by simp [c174]] at i
      refine zj_iload hG d_MD_about_202 rfl ?_
      refine zj_istore hG d_MD_about_204 (by decide) rfl rfl ?_
      refine zj_iinc hG d_MD_about_206 rfl (nI_1 j) (by decide) rfl rfl ?_
      refine zj_goto (tgt := 152) hG d_MD_about_209 (by decide) ?_
      exact i
    refine zj_aload_n hG d_MD_about_177 rfl rfl ?_
    refine t_getA (o := 14) hG hT d_MD_about_178 f_MD_53 rfl rfl ?_
    refine zj_iload hG d_MD_about_181 rfl ?_
    refine t_ald (j) hG hT d_MD_about_183 (by first | decide | omega) (by first | decide | omega) rfl (by show _ < 26; omega) ?_
    refine zj_iload_n hG d_MD_about_184 rfl rfl ?_
    refine zj_iload_n hG d_MD_about_185 rfl rfl ?_
    rw [hpj]
    refine zj_callR (y' := m_MD_depth) hG (zcS (as := [_]) hG d_MD_about_186 c_MD_depth (z_w7 37 rfl) (z_w7 38 rfl) (z_w1 11 rfl) ⟨by decide, by decide⟩ (show _ = some 1 from by decide +kernel) rfl) c_MD_depth rfl (by omega) rfl (z_le rfl) (z_le rfl) (k_MD_depth hG _ _) ?_
    refine zj_callR (y' := m_MD_isIn) hG (zcS (as := [_, _, _]) hG d_MD_about_189 c_MD_isIn (z_w7 96 rfl) (z_w7 97 rfl) (z_w1 11 rfl) ⟨by decide, by decide⟩ (show _ = some 3 from by decide +kernel) rfl) c_MD_isIn rfl (by omega) rfl (z_le rfl) (z_le rfl) (k_MD_isIn hG _ _ _ _) ?_
    refine zj_if_eq (tgt := 202) hG d_MD_about_192 (by decide) (fun c192 => ?_) (fun c192 => ?_)
    · rw [show (decide (eP T[j] ≠ p) && decide (tcut (eP T[j]) (tdep p) = p)) = false by simp [tb_n c192]] at i
      refine zj_iload hG d_MD_about_202 rfl ?_
      refine zj_istore hG d_MD_about_204 (by decide) rfl rfl ?_
      refine zj_iinc hG d_MD_about_206 rfl (nI_1 j) (by decide) rfl rfl ?_
      refine zj_goto (tgt := 152) hG d_MD_about_209 (by decide) ?_
      exact i
    · rw [show (decide (eP T[j] ≠ p) && decide (tcut (eP T[j]) (tdep p) = p)) = true by simp [c174, tb_d c192]] at i
      refine zj_iload hG d_MD_about_195 rfl ?_
      refine zj_iconst (v := 1) hG d_MD_about_197 rfl ?_
      refine zj_iadd hG d_MD_about_198 ?_
      refine zj_goto (tgt := 204) hG d_MD_about_199 (by decide) ?_
      rw [nI_1]
      refine zj_istore hG d_MD_about_204 (by decide) rfl rfl ?_
      refine zj_iinc hG d_MD_about_206 rfl (nI_1 j) (by decide) rfl rfl ?_
      refine zj_goto (tgt := 152) hG d_MD_about_209 (by decide) ?_
      exact i
set_option maxRecDepth 4000 in
theorem k_MD_about (hG : zOK G) (hT : twOK q h) (hA : tA N W) (v p x : Int32) :
    zJ G 4 m_MD_about 0 [some (zA q), some (zI v), some (zI p), some (zI x), none, none, none, none] [] (twp q h N) (fun o h' => ∃ z N', o = zR (zI z) ∧ h' = twp q h N' ∧ (N' 0 0 = (oAbout W v p x).1 ∧ z = (oAbout W v p x).2 ∧ tA N' W)) := by
  have hW := hA.1
  have h8 := hW.1.2.2
  refine zj_aload_n hG d_MD_about_0 rfl rfl ?_
  refine zj_aload_n hG d_MD_about_1 rfl rfl ?_
  refine zj_iload_n hG d_MD_about_2 rfl rfl ?_
  refine zj_callR (y' := m_MD_isVersion) hG (zcP (as := [_]) hG d_MD_about_3 c_MD_isVersion (z_w7 62 rfl) (z_w7 64 rfl) (z_w7 63 rfl) (z_w7 8 rfl) rfl ⟨by decide, by decide⟩ hT.1 (by decide) (by decide) (show _ = some 1 from by decide +kernel) rfl) c_MD_isVersion rfl (by omega) rfl (z_le rfl) (z_le rfl) (k_MD_isVersion hG hT hW v) ?_
  rw [oAbout]
  refine zj_if_ne (tgt := 13) hG d_MD_about_6 (by decide) (fun c6 => ?_) (fun c6 => ?_)
  rotate_left
  · have hv := tb_f c6
    rw [if_neg (by rw [hv]; decide)]
    refine zj_iconst (v := 1) hG d_MD_about_9 rfl ?_
    refine zj_goto (tgt := 27) hG d_MD_about_10 (by decide) ?_
    refine t_putI hG hT d_MD_about_27 f_MD_101 rfl rfl ?_
    refine zj_aload_n hG d_MD_about_30 rfl rfl ?_
    refine t_getI hG hT d_MD_about_31 f_MD_101 rfl ?_
    rw [zu_s]
    refine zj_if_le (tgt := 39) hG d_MD_about_34 (by decide) (fun c => absurd c (by decide)) (fun _ => ?_)
    refine zj_iconst (v := 0) hG d_MD_about_37 rfl ?_
    exact zj_iret hG d_MD_about_38 rfl rfl ⟨_, _, rfl, rfl, zu_s, rfl, hA.th 1⟩
  have hv := tb_t c6
  rw [if_pos hv]
  obtain ⟨n, hn, rfl⟩ := oVer_n h8 hv
  rw [nI_clamp (by omega), List.getElem?_eq_getElem hn]
  simp only [Option.getD_some]
  have bad : (x < 0 ∨ 3 < x) → zJ G 4 m_MD_about 22 [some (zA q), some (zI (nI n)), some (zI p), some (zI x), none, none, none, none] [zA q] (twp q h N) (fun o h' => ∃ z N', o = zR (zI z) ∧ h' = twp q h N' ∧ (N' 0 0 = (2 : Int32) ∧ z = (0 : Int32) ∧ tA N' W)) := by
    intro e
    refine zj_iconst (v := 2) hG d_MD_about_22 rfl ?_
    refine zj_goto (tgt := 27) hG d_MD_about_23 (by decide) ?_
    refine t_putI hG hT d_MD_about_27 f_MD_101 rfl rfl ?_
    refine zj_aload_n hG d_MD_about_30 rfl rfl ?_
    refine t_getI hG hT d_MD_about_31 f_MD_101 rfl ?_
    rw [zu_s]
    refine zj_if_le (tgt := 39) hG d_MD_about_34 (by decide) (fun c => absurd c (by decide)) (fun _ => ?_)
    refine zj_iconst (v := 0) hG d_MD_about_37 rfl ?_
    exact zj_iret hG d_MD_about_38 rfl rfl ⟨_, _, rfl, rfl, zu_s, rfl, hA.th 2⟩
  refine zj_iload_n hG d_MD_about_13 rfl rfl ?_
  refine zj_if_lt (tgt := 22) hG d_MD_about_14 (by decide) (fun c14 => ?_) (fun c14 => ?_)
  · rw [if_pos (Or.inl c14)]
    exact bad (Or.inl c14)
  refine zj_iload_n hG d_MD_about_17 rfl rfl ?_
  refine zj_iconst (v := 3) hG d_MD_about_18 rfl ?_
  refine zj_icmp_le (tgt := 26) hG d_MD_about_19 (by decide) (fun c19 => ?_) (fun c19 => ?_)
  rotate_left
  · rw [if_pos (Or.inr (Int32.not_le.mp c19))]
    exact bad (Or.inr (Int32.not_le.mp c19))
  rw [if_neg (fun g => by rcases g with g | g; exact c14 g; exact Int32.not_lt.mpr c19 g)]
  refine zj_iconst (v := 0) hG d_MD_about_26 rfl ?_
  refine t_putI hG hT d_MD_about_27 f_MD_101 rfl rfl ?_
  refine zj_aload_n hG d_MD_about_30 rfl rfl ?_
  refine t_getI hG hT d_MD_about_31 f_MD_101 rfl ?_
  rw [zu_s]
  refine zj_if_le (tgt := 39) hG d_MD_about_34 (by decide) (fun _ => ?_) (fun c => absurd (by decide) c)
  refine zj_aload_n hG d_MD_about_39 rfl rfl ?_
  refine zj_iconst (v := 0) hG d_MD_about_40 rfl ?_
  refine t_putI hG hT d_MD_about_41 f_MD_118 rfl rfl ?_
  refine zj_aload_n hG d_MD_about_44 rfl rfl ?_
  refine zj_iload_n hG d_MD_about_45 rfl rfl ?_
  refine zj_callU (y' := m_MD_take) hG (zcP (as := [_]) hG d_MD_about_46 c_MD_take (z_w7 14 rfl) (z_w7 16 rfl) (z_w7 15 rfl) (z_w7 8 rfl) rfl ⟨by decide, by decide⟩ hT.1 (by decide) (by decide) (show _ = some 1 from by decide +kernel) rfl) c_MD_take rfl (by omega) rfl (z_le rfl) (z_le rfl) (k_MD_take0 hG hT ((hA.th 0).sc (by omega) 0) hn zu_s) (fun N46 e46 => ?_)
  obtain ⟨r1, r2, r3, r4⟩ := e46
  have z0 : N46 0 0 = 0 := (r3 0 0 rfl).trans (by simp [zu])
  generalize ((wV W)[n]).map tE0 = T at *
  have hlT := r1.l
  refine zj_iload_n hG d_MD_about_49 rfl rfl ?_
  -- what stands in places 4 and 5
  have rest : ∀ (k : Int32) (th : Bool), (k = if p = 0 then -1 else tfnd T p) → th = decide (p = 0 ∨ 0 ≤ tfnd T p) → ∀ y : Int32, y = tb th → zJ G 4 m_MD_about 78 [some (zA q), some (zI (nI n)), some (zI p), some (zI x), some (zI k), none, none, none] [zI y] (twp q h N46) (fun o h' => ∃ z N', o = zR (zI z) ∧ h' = twp q h N' ∧ (N' 0 0 = (0 : Int32) ∧ z = (if x = 0 then (if p = 0 then 2 else if tfnd T p < 0 then -1 else eS (tel T p)) else if x < 3 then (if p = 0 ∨ tfnd T p < 0 then 0 else if x = 1 then eL (tel T p) else eH (tel T p)) else if p = 0 ∨ 0 ≤ tfnd T p then nI (tcnt T p T.length) else 0) ∧ tA N' W)) := by
    intro k th hk hth y hy
    subst hy
    have hfx : ¬ tfnd T p < 0 → tfnd T p = nI (tix T p) ∧ tix T p < T.length := by
      intro e
      rcases tfnd_cases T p with ⟨e1, -, -⟩ | ⟨i, hi, e1, e2, e3, -⟩
      · exact absurd (by rw [e1]; decide) e
      · have : tix T p < T.length := by
          unfold tix
          rw [List.findIdx_lt_length]
          exact ⟨T[i], List.getElem_mem hi, by simpa using e3⟩
        exact ⟨tix_fnd this, this⟩
    refine zj_istore hG d_MD_about_78 (by decide) rfl rfl ?_
    refine zj_iload_n hG d_MD_about_80 rfl rfl ?_
    refine zj_if_ne (tgt := 109) hG d_MD_about_81 (by decide) (fun c81 => ?_) (fun c81 => ?_)
    · rw [if_neg c81]
      refine zj_iload_n hG d_MD_about_109 rfl rfl ?_
      refine zj_iconst (v := 3) hG d_MD_about_110 rfl ?_
      refine zj_icmp_ge (tgt := 146) hG d_MD_about_111 (by decide) (fun c111 => ?_) (fun c111 => ?_)
      · rw [if_neg (Int32.not_lt.mpr c111)]
        by_cases hp : p = 0 ∨ 0 ≤ tfnd T p
        · rw [if_pos hp]
          rw [decide_eq_true hp] at hth
          subst hth
          refine zj_iconst (v := 0) hG d_MD_about_146 rfl ?_
          refine zj_istore hG d_MD_about_147 (by decide) rfl rfl ?_
          refine zj_iconst (v := 0) hG d_MD_about_149 rfl ?_
          refine zj_istore hG d_MD_about_150 (by decide) rfl rfl ?_
          refine (k_MD_aboutL hG hT r1 T.length 0 (by omega)).mono ?_
          rintro o h' ⟨e1, e2⟩
          exact ⟨_, _, e1, e2, z0, rfl, r2⟩
        · rw [if_neg hp]
          rw [decide_eq_false hp] at hth
          subst hth
          refine zj_iconst (v := 0) hG d_MD_about_146 rfl ?_
          refine zj_istore hG d_MD_about_147 (by decide) rfl rfl ?_
          refine zj_iconst (v := 0) hG d_MD_about_149 rfl ?_
          refine zj_istore hG d_MD_about_150 (by decide) rfl rfl ?_
          refine zj_iload hG d_MD_about_152 rfl ?_
          refine zj_aload_n hG d_MD_about_154 rfl rfl ?_
          refine t_getI hG hT d_MD_about_155 f_MD_108 rfl ?_
          refine zj_icmp_ge (tgt := 212) hG d_MD_about_158 (by decide) (fun c158 => ?_) (fun c158 => ?_)
          · refine zj_iload hG d_MD_about_212 rfl ?_
            exact zj_iret hG d_MD_about_214 rfl rfl ⟨_, _, rfl, rfl, z0, rfl, r2⟩
          · refine zj_iload hG d_MD_about_161 rfl ?_
            refine zj_if_eq (tgt := 212) hG d_MD_about_163 (by decide) (fun _ => ?_) (fun c => absurd (by decide) c)
            refine zj_iload hG d_MD_about_212 rfl ?_
            exact zj_iret hG d_MD_about_214 rfl rfl ⟨_, _, rfl, rfl, z0, rfl, r2⟩
      · rw [if_pos (Int32.not_le.mp c111)]
        refine zj_iload hG d_MD_about_114 rfl ?_
        by_cases hp : p = 0 ∨ tfnd T p < 0
        · rw [if_pos hp]
          have hk0 : k < 0 := by
            rw [hk]
            split
            · decide
            · rename_i e
              rcases hp with g | g
              · exact absurd g e
              · exact g
          refine zj_if_ge (tgt := 123) hG d_MD_about_116 (by decide) (fun c => absurd c (Int32.not_le.mpr hk0)) (fun _ => ?_)
          refine zj_iconst (v := 0) hG d_MD_about_119 rfl ?_
          refine zj_goto (tgt := 145) hG d_MD_about_120 (by decide) ?_
          exact zj_iret hG d_MD_about_145 rfl rfl ⟨_, _, rfl, rfl, z0, rfl, r2⟩
        · rw [if_neg hp]
          have hp1 : ¬ p = 0 := fun e => hp (Or.inl e)
          obtain ⟨e1, e2⟩ := hfx (fun e => hp (Or.inr e))
          rw [if_neg hp1, e1] at hk
          subst hk
          obtain ⟨a1, a2, a3, a4, a5, a8⟩ := r1.at e2
          rw [← tel_eq e2] at a2 a3 a4
          refine zj_if_ge (tgt := 123) hG d_MD_about_116 (by decide) (fun _ => ?_) (fun c => absurd (nI_pos' (by omega)) c)
          refine zj_iload_n hG d_MD_about_123 rfl rfl ?_
          refine zj_iconst (v := 1) hG d_MD_about_124 rfl ?_
          refine zj_icmp_ne (tgt := 138) hG d_MD_about_125 (by decide) (fun c125 => ?_) (fun c125 => ?_)
          · rw [if_neg c125]
            refine zj_aload_n hG d_MD_about_138 rfl rfl ?_
            refine t_getA (o := 17) hG hT d_MD_about_139 f_MD_62 rfl rfl ?_
            refine zj_iload hG d_MD_about_142 rfl ?_
            refine t_ald (tix T p) hG hT d_MD_about_144 (by first | decide | omega) (by first | decide | omega) rfl (by show _ < 26; omega) ?_
            rw [a4]
            exact zj_iret hG d_MD_about_145 rfl rfl ⟨_, _, rfl, rfl, z0, rfl, r2⟩
          · rw [if_pos c125]
            refine zj_aload_n hG d_MD_about_128 rfl rfl ?_
            refine t_getA (o := 16) hG hT d_MD_about_129 f_MD_59 rfl rfl ?_
            refine zj_iload hG d_MD_about_132 rfl ?_
            refine t_ald (tix T p) hG hT d_MD_about_134 (by first | decide | omega) (by first | decide | omega) rfl (by show _ < 26; omega) ?_
            refine zj_goto (tgt := 145) hG d_MD_about_135 (by decide) ?_
            rw [a3]
            exact zj_iret hG d_MD_about_145 rfl rfl ⟨_, _, rfl, rfl, z0, rfl, r2⟩
    · rw [if_pos c81]
      refine zj_iload hG d_MD_about_84 rfl ?_
      by_cases hp : p = 0
      · rw [if_pos hp]
        rw [decide_eq_true (show p = 0 ∨ 0 ≤ tfnd T p from Or.inl hp)] at hth
        subst hth
        refine zj_if_ne (tgt := 93) hG d_MD_about_86 (by decide) (fun _ => ?_) (fun c => absurd c tb1)
        refine zj_iload_n hG d_MD_about_93 rfl rfl ?_
        refine zj_if_ne (tgt := 101) hG d_MD_about_94 (by decide) (fun c => absurd hp c) (fun _ => ?_)
        refine zj_iconst (v := 2) hG d_MD_about_97 rfl ?_
        refine zj_goto (tgt := 108) hG d_MD_about_98 (by decide) ?_
        exact zj_iret hG d_MD_about_108 rfl rfl ⟨_, _, rfl, rfl, z0, rfl, r2⟩
      · rw [if_neg hp]
        by_cases hf : tfnd T p < 0
        · rw [if_pos hf]
          rw [decide_eq_false (show ¬ (p = 0 ∨ 0 ≤ tfnd T p) from fun g => by rcases g with g | g; exact hp g; exact Int32.not_le.mpr hf g)] at hth
          subst hth
          refine zj_if_ne (tgt := 93) hG d_MD_about_86 (by decide) (fun c => absurd rfl c) (fun _ => ?_)
          refine zj_iconst (v := -1) hG d_MD_about_89 rfl ?_
          refine zj_goto (tgt := 108) hG d_MD_about_90 (by decide) ?_
          exact zj_iret hG d_MD_about_108 rfl rfl ⟨_, _, rfl, rfl, z0, rfl, r2⟩
        · rw [if_neg hf]
          rw [decide_eq_true (show p = 0 ∨ 0 ≤ tfnd T p from Or.inr (Int32.not_lt.mp hf))] at hth
          subst hth
          obtain ⟨e1, e2⟩ := hfx hf
          rw [if_neg hp, e1] at hk
          subst hk
          obtain ⟨a1, a2, -⟩ := r1.at e2
          rw [← tel_eq e2] at a2
          refine zj_if_ne (tgt := 93) hG d_MD_about_86 (by decide) (fun _ => ?_) (fun c => absurd c tb1)
          refine zj_iload_n hG d_MD_about_93 rfl rfl ?_
          refine zj_if_ne (tgt := 101) hG d_MD_about_94 (by decide) (fun _ => ?_) (fun c => absurd c hp)
          refine zj_aload_n hG d_MD_about_101 rfl rfl ?_
          refine t_getA (o := 15) hG hT d_MD_about_102 f_MD_56 rfl rfl ?_
          refine zj_iload hG d_MD_about_105 rfl ?_
          refine t_ald (tix T p) hG hT d_MD_about_107 (by first | decide | omega) (by first | decide | omega) rfl (by show _ < 26; omega) ?_
          rw [a2]
          exact zj_iret hG d_MD_about_108 rfl rfl ⟨_, _, rfl, rfl, z0, rfl, r2⟩
  by_cases hp : p = 0
  · refine zj_if_ne (tgt := 57) hG d_MD_about_50 (by decide) (fun c => absurd hp c) (fun _ => ?_)
    refine zj_iconst (v := -1) hG d_MD_about_53 rfl ?_
    refine zj_goto (tgt := 62) hG d_MD_about_54 (by decide) ?_
    refine zj_istore hG d_MD_about_62 (by decide) rfl rfl ?_
    refine zj_iload_n hG d_MD_about_64 rfl rfl ?_
    refine zj_if_eq (tgt := 73) hG d_MD_about_65 (by decide) (fun _ => ?_) (fun c => absurd hp c)
    refine zj_iconst (v := 1) hG d_MD_about_73 rfl ?_
    refine zj_goto (tgt := 78) hG d_MD_about_74 (by decide) ?_
    exact rest (-1) true (by rw [if_pos hp]) (decide_eq_true (show p = 0 ∨ 0 ≤ tfnd T p from Or.inl hp)).symm _ rfl
  · refine zj_if_ne (tgt := 57) hG d_MD_about_50 (by decide) (fun _ => ?_) (fun c => absurd c hp)
    refine zj_aload_n hG d_MD_about_57 rfl rfl ?_
    refine zj_iload_n hG d_MD_about_58 rfl rfl ?_
    refine zj_callR (y' := m_MD_find) hG (zcP (as := [_]) hG d_MD_about_59 c_MD_find (z_w7 47 rfl) (z_w7 49 rfl) (z_w7 48 rfl) (z_w7 8 rfl) rfl ⟨by decide, by decide⟩ hT.1 (by decide) (by decide) (show _ = some 1 from by decide +kernel) rfl) c_MD_find rfl (by omega) rfl (z_le rfl) (z_le rfl) (k_MD_find hG hT r1 _) ?_
    refine zj_istore hG d_MD_about_62 (by decide) rfl rfl ?_
    refine zj_iload_n hG d_MD_about_64 rfl rfl ?_
    refine zj_if_eq (tgt := 73) hG d_MD_about_65 (by decide) (fun c => absurd c hp) (fun _ => ?_)
    refine zj_iload hG d_MD_about_68 rfl ?_
    refine zj_if_lt (tgt := 77) hG d_MD_about_70 (by decide) (fun c70 => ?_) (fun c70 => ?_)
    · refine zj_iconst (v := 0) hG d_MD_about_77 rfl ?_
      exact rest _ false (by rw [if_neg hp]) (decide_eq_false (show ¬ (p = 0 ∨ 0 ≤ tfnd T p) from fun g => by rcases g with g | g; exact hp g; exact Int32.not_le.mpr c70 g)).symm _ rfl
    · refine zj_iconst (v := 1) hG d_MD_about_73 rfl ?_
      refine zj_goto (tgt := 78) hG d_MD_about_74 (by decide) ?_
      exact rest _ true (by rw [if_neg hp]) (decide_eq_true (show p = 0 ∨ 0 ≤ tfnd T p from Or.inr (Int32.not_lt.mp c70))).symm _ rfl
end MD24
