/-! PART 34: the reference: the schema under way; what can be done to it -/
/-- forth without rows or terms -/
def tf0 (p : tPm) (T : List tE) : List tE := (tfo 0 p 0 (T, [], fun _ => tK0, 0)).1
theorem tfo_0 (p : tPm) (s : Nat) (X : tXt) : tfo 0 p s X = (tf0 p X.1, X.2) := by
  have h1 : ¬ (0 : Int32) = 1 := by decide
  have h2 : ¬ (0 : Int32) = 2 := by decide
  rw [tf0, tfo, tfo]
  simp only
  split
  · rfl
  · split
    · simp [tarr, tnew, tnewL, h1, h2]
    · split
      · simp [tdpt, h1]
      · split
        · simp [twrp, h1, h2]
        · split
          · simp [tsp, tnew, tnewL, h1, h2]
          · split
            · simp [tbnd, tch, h1, h2]
            · simp [tch, h1, h2]
def tf0s (ps : List tPm) (T : List tE) : List tE := ps.foldl (fun T p => tf0 p T) T
/-- each can be done to what the earlier ones make -/
def tCh (ps : List tPm) (T : List tE) : Prop := ∀ (i : Nat) (p : tPm), ps[i]? = some p → tfK p (tf0s (ps.take i) T)
/-- the table of the step under way -/
def tUW (W : sW) (u : Nat × List tPm) : List tE := tf0s u.2 (((wV W)[u.1]?.getD []).map tE0)
def pM (o i : Nat) : Bool := pA o i || (o == 0 && i == 27)
section MD21
variable {G : zG} {q : Nat} {h : zH} {N : Nat → Nat → Int32} {W : sW} {T : List tE}
theorem pTS_M (o i : Nat) (e : pM o i = false) : pTS o i = false := by
  simp [pM] at e
  exact pTS_A o i e.1
theorem pA_M (o i : Nat) (e : pM o i = false) : pA o i = false := by
  simp [pM] at e
  exact e.1
theorem tW.pm {N' : Nat → Nat → Int32} (hW : tW N W) (f : tFr pM N N') : tW N' W := hW.fr f (by intro o i e; simp [pP] at e; simp [pM, pA, pT, pS, pW]; omega)
set_option maxRecDepth 4000 in
theorem k_MD_takeUnderWayL (hG : zOK G) (hT : twOK q h) (hW : tW N W) {u : Nat × List tPm} (hu : wU W = some u) {T0 : List tE} {Y : List tQ × (Nat → tK) × Int32} (hY : Y.1.length ≤ 900) (hc : tCh u.2 T0) : ∀ (n i : Nat) (M : Nat → Nat → Int32), i + n = u.2.length → tX M (tf0s (u.2.take i) T0, Y) → tFr pM N M → M 0 27 = 0 →
    zJ G 5 m_MD_takeUnderWay 20 [some (zA q), some (zI (nI i))] [] (twp q h M) (fun o h' => ∃ N', o = zR0 ∧ h' = twp q h N' ∧ (tX N' (tf0s u.2 T0, Y) ∧ tFr pM N N' ∧ N' 0 27 = 0)) := by
  obtain ⟨u1, u2, u3, u4⟩ := hW.2.2.2.2.2.2.1 u hu
  have hs := hW.2.2.2.1.1
  have h16 := hW.2.2.2.1.2
  intro n
  induction n with
  | zero =>
    intro i M hi hX f hm
    have hs' : M 0 8 = nI (wS W).length := (f 0 8 rfl).trans hs
    have u2' : M 8 (wS W).length = nI u.2.length := (f 8 _ rfl).trans u2
    rw [List.take_of_length_le (by omega)] at hX
    refine zj_iload_n hG d_MD_takeUnderWay_20 rfl rfl ?_
    refine zj_aload_n hG d_MD_takeUnderWay_21 rfl rfl ?_
    refine t_getA (o := 8) hG hT d_MD_takeUnderWay_22 f_MD_35 rfl rfl ?_
    refine zj_aload_n hG d_MD_takeUnderWay_25 rfl rfl ?_
    refine t_getI hG hT d_MD_takeUnderWay_26 f_MD_260 rfl ?_
    refine t_ald ((wS W).length) hG hT d_MD_takeUnderWay_29 (by first | decide | omega) (by first | decide | omega) hs' (by show _ < 17; omega) ?_
    rw [u2']
    refine zj_icmp_ge (tgt := 48) hG d_MD_takeUnderWay_30 (by decide) (fun _ => ?_) (fun c => absurd (nI_le (by omega) (by omega)) c)
    exact zj_vret hG d_MD_takeUnderWay_48 rfl ⟨M, rfl, rfl, hX, f, hm⟩
  | succ n ih =>
    intro i M hi hX f hm
    have hs' : M 0 8 = nI (wS W).length := (f 0 8 rfl).trans hs
    have u2' : M 8 (wS W).length = nI u.2.length := (f 8 _ rfl).trans u2
    have hil : i < u.2.length := by omega
    have hp := (u4 i _ (List.getElem?_eq_getElem hil)).fr f (fun _ => rfl)
    have hK := hc i _ (List.getElem?_eq_getElem hil)
    refine zj_iload_n hG d_MD_takeUnderWay_20 rfl rfl ?_
    refine zj_aload_n hG d_MD_takeUnderWay_21 rfl rfl ?_
    refine t_getA (o := 8) hG hT d_MD_takeUnderWay_22 f_MD_35 rfl rfl ?_
    refine zj_aload_n hG d_MD_takeUnderWay_25 rfl rfl ?_
    refine t_getI hG hT d_MD_takeUnderWay_26 f_MD_260 rfl ?_
    refine t_ald ((wS W).length) hG hT d_MD_takeUnderWay_29 (by first | decide | omega) (by first | decide | omega) hs' (by show _ < 17; omega) ?_
    rw [u2']
    refine zj_icmp_ge (tgt := 48) hG d_MD_takeUnderWay_30 (by decide) (fun c => absurd c (nI_ge hil (by omega))) (fun _ => ?_)
    refine zj_aload_n hG d_MD_takeUnderWay_33 rfl rfl ?_
    refine zj_aload_n hG d_MD_takeUnderWay_34 rfl rfl ?_
    refine t_getI hG hT d_MD_takeUnderWay_35 f_MD_260 rfl ?_
    refine zj_iload_n hG d_MD_takeUnderWay_38 rfl rfl ?_
    rw [hs']
    refine zj_callU (y' := m_MD_forth) hG (zcP (as := [_, _]) hG d_MD_takeUnderWay_39 c_MD_forth (z_w7 74 rfl) (z_w7 76 rfl) (z_w7 75 rfl) (z_w7 8 rfl) rfl ⟨by decide, by decide⟩ hT.1 (by decide) (by decide) (show _ = some 2 from by decide +kernel) rfl) c_MD_forth rfl (by omega) rfl (z_le rfl) (z_le rfl) (k_MD_forth hG hT hX (by rw [hm]; exact ⟨fun e => absurd e (by decide), fun e => absurd e (by decide)⟩) (by simp only; omega) (by omega) hp (by rw [hm]; intro e; exact absurd e (by decide)) hK) (fun N39 e39 => ?_)
    obtain ⟨r1, r2⟩ := e39
    rw [hm, tfo_0] at r1
    refine zj_iinc hG d_MD_takeUnderWay_42 rfl (nI_1 i) (by decide) rfl rfl ?_
    refine zj_goto (tgt := 20) hG d_MD_takeUnderWay_45 (by decide) ?_
    refine ih (i + 1) N39 (by omega) ?_ (f.trans (r2.mono pA_M)) ((r2 0 27 rfl).trans hm)
    have e : tf0s (u.2.take (i + 1)) T0 = tf0 u.2[i] (tf0s (u.2.take i) T0) := by
      rw [tf0s, List.take_succ_eq_append_getElem hil, List.foldl_append]
      rfl
    rw [e]
    exact r1
set_option maxRecDepth 4000 in
theorem k_MD_takeUnderWay (hG : zOK G) (hT : twOK q h) (hA : tA N W) {u : Nat × List tPm} (hu : wU W = some u) (hf : u.1 < (wV W).length) (hc : tCh u.2 (((wV W)[u.1]?.getD []).map tE0)) :
    zJ G 5 m_MD_takeUnderWay 0 [some (zA q), none] [] (twp q h N) (fun o h' => ∃ N', o = zR0 ∧ h' = twp q h N' ∧ ((∃ Y, tX N' (tUW W u, Y) ∧ Y.1.length ≤ 900) ∧ tFr pM N N' ∧ N' 0 27 = 0)) := by
  obtain ⟨hW, X, hX, hXl⟩ := hA
  obtain ⟨u1, u2, u3, u4⟩ := hW.2.2.2.2.2.2.1 u hu
  have hs := hW.2.2.2.1.1
  have h16 := hW.2.2.2.1.2
  have h8 := hW.1.2.2
  have hF : (wV W)[u.1]? = some (wV W)[u.1] := List.getElem?_eq_getElem hf
  have f0 : tFr pM N (zu N 0 27 0) := tFr.put tFr.rfl' rfl
  have hX0 : tX (zu N 0 27 0) X := hX.fr2 (P := fun o i => o == 0 && i == 27) (tFr.put tFr.rfl' rfl) (by intro o i e; simp [pA, pT, pS, pW] at e; simp; omega)
  have hV0 := (hW.pm f0).2.1 _ _ hF
  have hFl := hV0.2.1
  refine zj_aload_n hG d_MD_takeUnderWay_0 rfl rfl ?_
  refine zj_iconst (v := 0) hG d_MD_takeUnderWay_1 rfl ?_
  refine t_putI hG hT d_MD_takeUnderWay_2 f_MD_118 rfl rfl ?_
  refine zj_aload_n hG d_MD_takeUnderWay_5 rfl rfl ?_
  refine zj_aload_n hG d_MD_takeUnderWay_6 rfl rfl ?_
  refine t_getA (o := 6) hG hT d_MD_takeUnderWay_7 f_MD_29 rfl rfl ?_
  refine zj_aload_n hG d_MD_takeUnderWay_10 rfl rfl ?_
  refine t_getI hG hT d_MD_takeUnderWay_11 f_MD_260 rfl ?_
  refine t_ald ((wS W).length) hG hT d_MD_takeUnderWay_14 (by first | decide | omega) (by first | decide | omega) (by rw [zu_k (by omega)]; exact hs) (by show _ < 17; omega) ?_
  rw [zu_a (by omega), u1]
  refine zj_callU (y' := m_MD_take) hG (zcP (as := [_]) hG d_MD_takeUnderWay_15 c_MD_take (z_w7 14 rfl) (z_w7 16 rfl) (z_w7 15 rfl) (z_w7 8 rfl) rfl ⟨by decide, by decide⟩ hT.1 (by decide) (by decide) (show _ = some 1 from by decide +kernel) rfl) c_MD_take rfl (by omega) rfl (z_le rfl) (z_le rfl) (k_MD_takeX hG hT hX0 (by omega) hV0 (by omega)) (fun N15 e15 => ?_)
  obtain ⟨r1, r2⟩ := e15
  rw [show zu N 0 27 0 0 27 = 0 from zu_s, ttk_0 (by decide)] at r1
  refine zj_iconst (v := 0) hG d_MD_takeUnderWay_18 rfl ?_
  refine zj_istore_n hG d_MD_takeUnderWay_19 rfl (by decide) rfl rfl ?_
  rw [hF] at hc
  refine (k_MD_takeUnderWayL (Y := X.2) hG hT hW hu hXl hc u.2.length 0 N15 (by omega) ?_ (f0.trans (r2.mono pTS_M)) ((r2 0 27 rfl).trans zu_s)).mono ?_
  · simpa [tf0s] using r1
  · rintro o h' ⟨N', e1, e2, e3, e4, e5⟩
    refine ⟨N', e1, e2, ⟨X.2, ?_, hXl⟩, e4, e5⟩
    rw [tUW, hF]
    exact e3
/-- something lies in it -/
def tinn (T : List tE) (k : Nat) (p : Int32) (n : Nat) : Bool := (List.range n).any (fun j => decide (j ≠ k) && decide (tcut (eP ((T[j]?).getD tdE)) (tdep p) = p))
theorem tinn_s (T : List tE) (k : Nat) (p : Int32) {n : Nat} (hn : n < T.length) : tinn T k p (n + 1) = (tinn T k p n || (decide (n ≠ k) && decide (tcut (eP T[n]) (tdep p) = p))) := by
  unfold tinn
  rw [List.range_succ, List.any_append]
  simp only [List.any_cons, List.any_nil, Bool.or_false, List.getElem?_eq_getElem hn, Option.getD_some]
def tcd (T : List tE) (k p a b c : Int32) : Bool :=
  if k = 1 then tca T p a b c && decide (T.length < 24)
  else if tdep p ≤ 0 ∨ tfnd T p < 0 then false
  else if k = 0 then decide (0 ≤ a ∧ a ≤ 99) && decide (tfnd T (tbeh k p a) < 0)
  else if k = 2 then !(tinn T (tix T p) p T.length)
  else if k = 3 then decide (eS (tel T p) = 0)
  else if k = 4 then decide (1 < tdep p) && decide (tfnd T (tbeh k p a) < 0)
  else if k = 5 then decide (eS (tel T p) = 0 ∧ 2 ≤ a ∧ a ≤ 1000 ∧ 0 ≤ b ∧ b ≤ 99 ∧ tfnd T (tbes p b) < 0 ∧ T.length < 24)
  else if k = 6 then decide (eS (tel T p) = 0 ∧ 1 ≤ a ∧ a ≤ 1000 ∧ 1 ≤ b ∧ b ≤ 1000) && tii (tfl (a.toInt64 * (eL (tel T p)).toInt64) b.toInt64) && tii (tfl (a.toInt64 * (eH (tel T p)).toInt64) b.toInt64)
  else if k = 7 then decide (eS (tel T p) = 0 ∧ a ≠ b ∧ eL (tel T p) ≤ a ∧ a ≤ eH (tel T p) ∧ eL (tel T p) ≤ b ∧ b ≤ eH (tel T p))
  else if k = 8 then decide (eS (tel T p) = 1) else false
set_option maxRecDepth 4000 in
theorem k_MD_canDoL (hG : zOK G) (hT : twOK q h) (hN : tTab N T) {v1 v3 v4 v5 : zV} {x8 : Int32} {p : Int32} {k : Nat} (hk : k < T.length) {Q : zO → zH → Prop} (nx : ∀ w, zJ G 3 m_MD_canDo 135 [some (zA q), some v1, some (zI p), some v3, some v4, some v5, some (zI (tdep p)), some (zI (nI k)), some (zI x8), some (zI (tb (tinn T k p T.length))), some w] [] (twp q h N) Q) : ∀ (n j : Nat), j + n = T.length → zJ G 3 m_MD_canDo 85 [some (zA q), some v1, some (zI p), some v3, some v4, some v5, some (zI (tdep p)), some (zI (nI k)), some (zI x8), some (zI (tb (tinn T k p j))), some (zI (nI j))] [] (twp q h N) Q := by
  have hl := hN.l
  intro n
  induction n with
  | zero =>
    intro j hj
    have : j = T.length := by omega
    subst this
    refine zj_iload hG d_MD_canDo_85 rfl ?_
    refine zj_aload_n hG d_MD_canDo_87 rfl rfl ?_
    refine t_getI hG hT d_MD_canDo_88 f_MD_108 rfl ?_
    rw [hN.1]
    refine zj_icmp_ge (tgt := 135) hG d_MD_canDo_91 (by decide) (fun _ => ?_) (fun c => absurd (nI_le (by omega) (by omega)) c)
    exact nx _
  | succ n ih =>
    intro j hj
    have hjl : j < T.length := by omega
    have i := ih (j + 1) (by omega)
    rw [tinn_s T k p hjl] at i
    refine zj_iload hG d_MD_canDo_85 rfl ?_
    refine zj_aload_n hG d_MD_canDo_87 rfl rfl ?_
    refine t_getI hG hT d_MD_canDo_88 f_MD_108 rfl ?_
    rw [hN.1]
    refine zj_icmp_ge (tgt := 135) hG d_MD_canDo_91 (by decide) (fun c => absurd c (nI_ge hjl (by omega))) (fun _ => ?_)
    refine zj_iload hG d_MD_canDo_94 rfl ?_
    refine zj_if_ne (tgt := 122) hG d_MD_canDo_96 (by decide) (fun c96 => ?_) (fun c96 => ?_)
    · rw [tb_t c96] at i
      refine zj_iconst (v := 1) hG d_MD_canDo_122 rfl ?_
      refine zj_goto (tgt := 127) hG d_MD_canDo_123 (by decide) ?_
      refine zj_istore hG d_MD_canDo_127 (by decide) rfl rfl ?_
      refine zj_iinc hG d_MD_canDo_129 rfl (nI_1 j) (by decide) rfl rfl ?_
      refine zj_goto (tgt := 85) hG d_MD_canDo_132 (by decide) ?_
      exact i
    have e0 := tb_f c96
    rw [e0] at i
    refine zj_iload hG d_MD_canDo_99 rfl ?_
    refine zj_iload hG d_MD_canDo_101 rfl ?_
    refine zj_icmp_eq (tgt := 126) hG d_MD_canDo_103 (by decide) (fun c103 => ?_) (fun c103 => ?_)
    · have : j = k := (nI_eq (by omega) (by omega)).mp c103
      rw [show (false || (decide (j ≠ k) && decide (tcut (eP T[j]) (tdep p) = p))) = false by simp [this]] at i
      refine zj_iconst (v := 0) hG d_MD_canDo_126 rfl ?_
      refine zj_istore hG d_MD_canDo_127 (by decide) rfl rfl ?_
      refine zj_iinc hG d_MD_canDo_129 rfl (nI_1 j) (by decide) rfl rfl ?_
      refine zj_goto (tgt := 85) hG d_MD_canDo_132 (by decide) ?_
      exact i
    have hne : j ≠ k := fun e => c103 (by rw [e])
    refine zj_aload_n hG d_MD_canDo_106 rfl rfl ?_
    refine t_getA (o := 14) hG hT d_MD_canDo_107 f_MD_53 rfl rfl ?_
    refine zj_iload hG d_MD_canDo_110 rfl ?_
    refine t_ald (j) hG hT d_MD_canDo_112 (by first | decide | omega) (by first | decide | omega) rfl (by show _ < 26; omega) ?_
    refine zj_iload_n hG d_MD_canDo_113 rfl rfl ?_
    refine zj_iload hG d_MD_canDo_114 rfl ?_
    rw [(hN.at hjl).1]
    refine zj_callR (y' := m_MD_isIn) hG (zcS (as := [_, _, _]) hG d_MD_canDo_116 c_MD_isIn (z_w7 96 rfl) (z_w7 97 rfl) (z_w1 11 rfl) ⟨by decide, by decide⟩ (show _ = some 3 from by decide +kernel) rfl) c_MD_isIn rfl (by omega) rfl (z_le rfl) (z_le rfl) (k_MD_isIn hG _ _ _ _) ?_
    refine zj_if_eq (tgt := 126) hG d_MD_canDo_119 (by decide) (fun c119 => ?_) (fun c119 => ?_)
    · rw [show (false || (decide (j ≠ k) && decide (tcut (eP T[j]) (tdep p) = p))) = false by simp [tb_n c119]] at i
      refine zj_iconst (v := 0) hG d_MD_canDo_126 rfl ?_
      refine zj_istore hG d_MD_canDo_127 (by decide) rfl rfl ?_
      refine zj_iinc hG d_MD_canDo_129 rfl (nI_1 j) (by decide) rfl rfl ?_
      refine zj_goto (tgt := 85) hG d_MD_canDo_132 (by decide) ?_
      exact i
    · rw [show (false || (decide (j ≠ k) && decide (tcut (eP T[j]) (tdep p) = p))) = true by simp [hne, tb_d c119]] at i
      refine zj_iconst (v := 1) hG d_MD_canDo_122 rfl ?_
      refine zj_goto (tgt := 127) hG d_MD_canDo_123 (by decide) ?_
      refine zj_istore hG d_MD_canDo_127 (by decide) rfl rfl ?_
      refine zj_iinc hG d_MD_canDo_129 rfl (nI_1 j) (by decide) rfl rfl ?_
      refine zj_goto (tgt := 85) hG d_MD_canDo_132 (by decide) ?_
      exact i
set_option maxRecDepth 4000 in
theorem k_MD_canDo (hG : zOK G) (hT : twOK q h) (hN : tTab N T) (k p a b c : Int32) (hk8 : k = 0 ∨ k = 1 ∨ k = 2 ∨ k = 3 ∨ k = 4 ∨ k = 5 ∨ k = 6 ∨ k = 7 ∨ k = 8) : zJ G 3 m_MD_canDo 0 [some (zA q), some (zI k), some (zI p), some (zI a), some (zI b), some (zI c), none, none, none, none, none] [] (twp q h N) (fun o h' => o = zR (zI (tb (tcd T k p a b c))) ∧ h' = twp q h N) := by
  have hl := hN.l
  by_cases hk1 : k = 1
  · rw [tcd, if_pos hk1]
    refine zj_iload_n hG d_MD_canDo_0 rfl rfl ?_
    refine zj_iconst (v := 1) hG d_MD_canDo_1 rfl ?_
    refine zj_icmp_ne (tgt := 33) hG d_MD_canDo_2 (by decide) (fun c => absurd hk1 c) (fun _ => ?_)
    refine zj_aload_n hG d_MD_canDo_5 rfl rfl ?_
    refine zj_iload_n hG d_MD_canDo_6 rfl rfl ?_
    refine zj_iload_n hG d_MD_canDo_7 rfl rfl ?_
    refine zj_iload hG d_MD_canDo_8 rfl ?_
    refine zj_iload hG d_MD_canDo_10 rfl ?_
    refine zj_callR (y' := m_MD_canAdd) hG (zcP (as := [_, _, _, _]) hG d_MD_canDo_12 c_MD_canAdd (z_w7 33 rfl) (z_w7 35 rfl) (z_w7 34 rfl) (z_w7 8 rfl) rfl ⟨by decide, by decide⟩ hT.1 (by decide) (by decide) (show _ = some 4 from by decide +kernel) rfl) c_MD_canAdd rfl (by omega) rfl (z_le rfl) (z_le rfl) (k_MD_canAdd hG hT hN _ _ _ _) ?_
    refine zj_if_eq (tgt := 31) hG d_MD_canDo_15 (by decide) (fun c15 => ?_) (fun c15 => ?_)
    · rw [tb_f c15]
      refine zj_iconst (v := 0) hG d_MD_canDo_31 rfl ?_
      exact zj_iret hG d_MD_canDo_32 rfl rfl ⟨rfl, rfl⟩
    rw [tb_t c15]
    refine zj_aload_n hG d_MD_canDo_18 rfl rfl ?_
    refine t_getI hG hT d_MD_canDo_19 f_MD_108 rfl ?_
    refine zj_bipush (v := 24) hG d_MD_canDo_22 rfl ?_
    rw [hN.1]
    refine zj_icmp_ge (tgt := 31) hG d_MD_canDo_24 (by decide) (fun c24 => ?_) (fun c24 => ?_)
    · have : ¬ T.length < 24 := fun e => nI_ge (a := T.length) (b := 24) e (by omega) c24
      rw [show (true && decide (T.length < 24)) = false by simp [this]]
      refine zj_iconst (v := 0) hG d_MD_canDo_31 rfl ?_
      exact zj_iret hG d_MD_canDo_32 rfl rfl ⟨rfl, rfl⟩
    · have : T.length < 24 := by
        rcases Nat.lt_or_ge T.length 24 with g | g
        · exact g
        · exact absurd (nI_le (a := 24) g (by omega)) c24
      rw [show (true && decide (T.length < 24)) = true by simp [this]]
      refine zj_iconst (v := 1) hG d_MD_canDo_27 rfl ?_
      refine zj_goto (tgt := 32) hG d_MD_canDo_28 (by decide) ?_
      exact zj_iret hG d_MD_canDo_32 rfl rfl ⟨rfl, rfl⟩
  rw [tcd, if_neg hk1]
  have none1 : (tdep p ≤ 0 ∨ tfnd T p < 0) → ∀ x : Int32, x < 0 → zJ G 3 m_MD_canDo 53 [some (zA q), some (zI k), some (zI p), some (zI a), some (zI b), some (zI c), some (zI (tdep p)), none, none, none, none] [zI x] (twp q h N) (fun o h' => o = zR (zI (tb false)) ∧ h' = twp q h N) := by
    intro e x hx
    refine zj_istore hG d_MD_canDo_53 (by decide) rfl rfl ?_
    refine zj_iload hG d_MD_canDo_55 rfl ?_
    refine zj_if_ge (tgt := 62) hG d_MD_canDo_57 (by decide) (fun c => absurd c (Int32.not_le.mpr hx)) (fun _ => ?_)
    refine zj_iconst (v := 0) hG d_MD_canDo_60 rfl ?_
    exact zj_iret hG d_MD_canDo_61 rfl rfl ⟨rfl, rfl⟩
  refine zj_iload_n hG d_MD_canDo_0 rfl rfl ?_
  refine zj_iconst (v := 1) hG d_MD_canDo_1 rfl ?_
  refine zj_icmp_ne (tgt := 33) hG d_MD_canDo_2 (by decide) (fun _ => ?_) (fun c => absurd c hk1)
  refine zj_iload_n hG d_MD_canDo_33 rfl rfl ?_
  refine zj_callR (y' := m_MD_depth) hG (zcS (as := [_]) hG d_MD_canDo_34 c_MD_depth (z_w7 37 rfl) (z_w7 38 rfl) (z_w1 11 rfl) ⟨by decide, by decide⟩ (show _ = some 1 from by decide +kernel) rfl) c_MD_depth rfl (by omega) rfl (z_le rfl) (z_le rfl) (k_MD_depth hG _ _) ?_
  refine zj_istore hG d_MD_canDo_37 (by decide) rfl rfl ?_
  refine zj_iload hG d_MD_canDo_39 rfl ?_
  refine zj_if_le (tgt := 52) hG d_MD_canDo_41 (by decide) (fun c41 => ?_) (fun c41 => ?_)
  · rw [if_pos (Or.inl c41)]
    refine zj_iconst (v := -1) hG d_MD_canDo_52 rfl ?_
    exact none1 (Or.inl c41) _ (by decide)
  refine zj_aload_n hG d_MD_canDo_44 rfl rfl ?_
  refine zj_iload_n hG d_MD_canDo_45 rfl rfl ?_
  refine zj_callR (y' := m_MD_find) hG (zcP (as := [_]) hG d_MD_canDo_46 c_MD_find (z_w7 47 rfl) (z_w7 49 rfl) (z_w7 48 rfl) (z_w7 8 rfl) rfl ⟨by decide, by decide⟩ hT.1 (by decide) (by decide) (show _ = some 1 from by decide +kernel) rfl) c_MD_find rfl (by omega) rfl (z_le rfl) (z_le rfl) (k_MD_find hG hT hN _) ?_
  refine zj_goto (tgt := 53) hG d_MD_canDo_49 (by decide) ?_
  by_cases hneg : tfnd T p < 0
  · rw [if_pos (Or.inr hneg)]
    exact none1 (Or.inr hneg) _ hneg
  rw [if_neg (fun g => by rcases g with g | g; exact c41 g; exact hneg g)]
  have hix : tix T p < T.length := by
    rcases tfnd_cases T p with ⟨e1, -, -⟩ | ⟨i, hi, e1, e2, e3, -⟩
    · exact absurd (by rw [e1]; decide) hneg
    · unfold tix
      rw [List.findIdx_lt_length]
      exact ⟨T[i], List.getElem_mem hi, by simpa using e3⟩
  have hfn := tix_fnd hix
  have hel := tel_eq hix
  rw [hfn]
  generalize hke : tix T p = i at *
  obtain ⟨a1, a2, a3, a4, a5, a8⟩ := hN.at hix
  rw [← hel] at a2 a3 a4
  refine zj_istore hG d_MD_canDo_53 (by decide) rfl rfl ?_
  refine zj_iload hG d_MD_canDo_55 rfl ?_
  refine zj_if_ge (tgt := 62) hG d_MD_canDo_57 (by decide) (fun _ => ?_) (fun c => absurd (nI_pos' (by omega)) c)
  have nm : ∀ (b0 : Bool), b0 = decide (0 ≤ a ∧ a ≤ 99) → ∀ x : Int32, x = tb b0 → zJ G 3 m_MD_canDo 77 [some (zA q), some (zI k), some (zI p), some (zI a), some (zI b), some (zI c), some (zI (tdep p)), some (zI (nI i)), none, none, none] [zI x] (twp q h N) (fun o h' => o = zR (zI (tb (if k = 0 then decide (0 ≤ a ∧ a ≤ 99) && decide (tfnd T (tbeh k p a) < 0) else if k = 2 then !(tinn T i p T.length) else if k = 3 then decide (eS (tel T p) = 0) else if k = 4 then decide (1 < tdep p) && decide (tfnd T (tbeh k p a) < 0) else if k = 5 then decide (eS (tel T p) = 0 ∧ 2 ≤ a ∧ a ≤ 1000 ∧ 0 ≤ b ∧ b ≤ 99 ∧ tfnd T (tbes p b) < 0 ∧ T.length < 24) else if k = 6 then decide (eS (tel T p) = 0 ∧ 1 ≤ a ∧ a ≤ 1000 ∧ 1 ≤ b ∧ b ≤ 1000) && tii (tfl (a.toInt64 * (eL (tel T p)).toInt64) b.toInt64) && tii (tfl (a.toInt64 * (eH (tel T p)).toInt64) b.toInt64) else if k = 7 then decide (eS (tel T p) = 0 ∧ a ≠ b ∧ eL (tel T p) ≤ a ∧ a ≤ eH (tel T p) ∧ eL (tel T p) ≤ b ∧ b ≤ eH (tel T p)) else if k = 8 then decide (eS (tel T p) = 1) else false))) ∧ h' = twp q h N) := by
    intro b0 hb0 x hx
    subst hx
    refine zj_istore hG d_MD_canDo_77 (by decide) rfl rfl ?_
    refine zj_iconst (v := 0) hG d_MD_canDo_79 rfl ?_
    refine zj_istore hG d_MD_canDo_80 (by decide) rfl rfl ?_
    refine zj_iconst (v := 0) hG d_MD_canDo_82 rfl ?_
    refine zj_istore hG d_MD_canDo_83 (by decide) rfl rfl ?_
    refine k_MD_canDoL (p := p) hG hT hN hix ?_ T.length 0 (by omega)
    intro w
    generalize hin : tinn T i p T.length = inn
    refine zj_iload_n hG d_MD_canDo_135 rfl rfl ?_
    rcases hk8 with g | g | g | g | g | g | g | g | g
    · -- renamed
      have hpb := k_MD_pathBehind (G := G) hG k p a (twp q h N) (zA q)
      subst g
      simp only [if_pos]
      refine zj_tableIn (off := 52) (tgt := 188) hG d_MD_canDo_136 (by decide) (by decide) rfl rfl ?_
      refine zj_iload hG d_MD_canDo_188 rfl ?_
      refine zj_if_eq (tgt := 211) hG d_MD_canDo_190 (by decide) (fun c190 => ?_) (fun c190 => ?_)
      · rw [← hb0, tb_f c190]
        refine zj_iconst (v := 0) hG d_MD_canDo_211 rfl ?_
        exact zj_iret hG d_MD_canDo_212 rfl rfl ⟨rfl, rfl⟩
      rw [← hb0, tb_t c190]
      refine zj_aload_n hG d_MD_canDo_193 rfl rfl ?_
      refine zj_aload_n hG d_MD_canDo_194 rfl rfl ?_
      refine zj_iload_n hG d_MD_canDo_195 rfl rfl ?_
      refine zj_iload_n hG d_MD_canDo_196 rfl rfl ?_
      refine zj_iload_n hG d_MD_canDo_197 rfl rfl ?_
      refine zj_callR (y' := m_MD_pathBehind) hG (zcP (as := [_, _, _]) hG d_MD_canDo_198 c_MD_pathBehind (z_w7 82 rfl) (z_w7 84 rfl) (z_w7 83 rfl) (z_w7 8 rfl) rfl ⟨by decide, by decide⟩ hT.1 (by decide) (by decide) (show _ = some 3 from by decide +kernel) rfl) c_MD_pathBehind rfl (by omega) rfl (z_le rfl) (z_le rfl) hpb ?_
      refine zj_callR (y' := m_MD_find) hG (zcP (as := [_]) hG d_MD_canDo_201 c_MD_find (z_w7 47 rfl) (z_w7 49 rfl) (z_w7 48 rfl) (z_w7 8 rfl) rfl ⟨by decide, by decide⟩ hT.1 (by decide) (by decide) (show _ = some 1 from by decide +kernel) rfl) c_MD_find rfl (by omega) rfl (z_le rfl) (z_le rfl) (k_MD_find hG hT hN _) ?_
      refine zj_if_ge (tgt := 211) hG d_MD_canDo_204 (by decide) (fun c204 => ?_) (fun c204 => ?_)
      · rw [show (true && decide (tfnd T (tbeh 0 p a) < 0)) = false by simp [Int32.not_lt.mpr c204]]
        refine zj_iconst (v := 0) hG d_MD_canDo_211 rfl ?_
        exact zj_iret hG d_MD_canDo_212 rfl rfl ⟨rfl, rfl⟩
      · rw [show (true && decide (tfnd T (tbeh 0 p a) < 0)) = true by simp [Int32.not_le.mp c204]]
        refine zj_iconst (v := 1) hG d_MD_canDo_207 rfl ?_
        refine zj_goto (tgt := 212) hG d_MD_canDo_208 (by decide) ?_
        exact zj_iret hG d_MD_canDo_212 rfl rfl ⟨rfl, rfl⟩
    · exact absurd g hk1
    · subst g
      simp only [show ¬ (2 : Int32) = 0 by decide, if_false, if_pos]
      refine zj_tableIn (off := 77) (tgt := 213) hG d_MD_canDo_136 (by decide) (by decide) rfl rfl ?_
      refine zj_iload hG d_MD_canDo_213 rfl ?_
      refine zj_if_ne (tgt := 222) hG d_MD_canDo_215 (by decide) (fun c215 => ?_) (fun c215 => ?_)
      · rw [tb_t c215]
        refine zj_iconst (v := 0) hG d_MD_canDo_222 rfl ?_
        exact zj_iret hG d_MD_canDo_223 rfl rfl ⟨rfl, rfl⟩
      · rw [tb_f c215]
        refine zj_iconst (v := 1) hG d_MD_canDo_218 rfl ?_
        refine zj_goto (tgt := 223) hG d_MD_canDo_219 (by decide) ?_
        exact zj_iret hG d_MD_canDo_223 rfl rfl ⟨rfl, rfl⟩
    · subst g
      simp only [show ¬ (3 : Int32) = 0 by decide, show ¬ (3 : Int32) = 2 by decide, if_false, if_pos]
      refine zj_tableIn (off := 88) (tgt := 224) hG d_MD_canDo_136 (by decide) (by decide) rfl rfl ?_
      refine zj_aload_n hG d_MD_canDo_224 rfl rfl ?_
      refine t_getA (o := 15) hG hT d_MD_canDo_225 f_MD_56 rfl rfl ?_
      refine zj_iload hG d_MD_canDo_228 rfl ?_
      refine t_ald (i) hG hT d_MD_canDo_230 (by first | decide | omega) (by first | decide | omega) rfl (by show _ < 26; omega) ?_
      rw [a2]
      refine zj_if_ne (tgt := 238) hG d_MD_canDo_231 (by decide) (fun c231 => ?_) (fun c231 => ?_)
      · rw [show decide (eS (tel T p) = 0) = false by simp [c231]]
        refine zj_iconst (v := 0) hG d_MD_canDo_238 rfl ?_
        exact zj_iret hG d_MD_canDo_239 rfl rfl ⟨rfl, rfl⟩
      · rw [show decide (eS (tel T p) = 0) = true by simp [c231]]
        refine zj_iconst (v := 1) hG d_MD_canDo_234 rfl ?_
        refine zj_goto (tgt := 239) hG d_MD_canDo_235 (by decide) ?_
        exact zj_iret hG d_MD_canDo_239 rfl rfl ⟨rfl, rfl⟩
    · have hpb := k_MD_pathBehind (G := G) hG k p a (twp q h N) (zA q)
      subst g
      simp only [show ¬ (4 : Int32) = 0 by decide, show ¬ (4 : Int32) = 2 by decide, show ¬ (4 : Int32) = 3 by decide, if_false, if_pos]
      refine zj_tableIn (off := 104) (tgt := 240) hG d_MD_canDo_136 (by decide) (by decide) rfl rfl ?_
      refine zj_iload hG d_MD_canDo_240 rfl ?_
      refine zj_iconst (v := 1) hG d_MD_canDo_242 rfl ?_
      refine zj_icmp_le (tgt := 264) hG d_MD_canDo_243 (by decide) (fun c243 => ?_) (fun c243 => ?_)
      · rw [show decide (1 < tdep p) = false by simp [Int32.not_lt.mpr c243]]
        refine zj_iconst (v := 0) hG d_MD_canDo_264 rfl ?_
        exact zj_iret hG d_MD_canDo_265 rfl rfl ⟨rfl, rfl⟩
      rw [show decide (1 < tdep p) = true by simp [Int32.not_le.mp c243]]
      refine zj_aload_n hG d_MD_canDo_246 rfl rfl ?_
      refine zj_aload_n hG d_MD_canDo_247 rfl rfl ?_
      refine zj_iload_n hG d_MD_canDo_248 rfl rfl ?_
      refine zj_iload_n hG d_MD_canDo_249 rfl rfl ?_
      refine zj_iload_n hG d_MD_canDo_250 rfl rfl ?_
      refine zj_callR (y' := m_MD_pathBehind) hG (zcP (as := [_, _, _]) hG d_MD_canDo_251 c_MD_pathBehind (z_w7 82 rfl) (z_w7 84 rfl) (z_w7 83 rfl) (z_w7 8 rfl) rfl ⟨by decide, by decide⟩ hT.1 (by decide) (by decide) (show _ = some 3 from by decide +kernel) rfl) c_MD_pathBehind rfl (by omega) rfl (z_le rfl) (z_le rfl) hpb ?_
      refine zj_callR (y' := m_MD_find) hG (zcP (as := [_]) hG d_MD_canDo_254 c_MD_find (z_w7 47 rfl) (z_w7 49 rfl) (z_w7 48 rfl) (z_w7 8 rfl) rfl ⟨by decide, by decide⟩ hT.1 (by decide) (by decide) (show _ = some 1 from by decide +kernel) rfl) c_MD_find rfl (by omega) rfl (z_le rfl) (z_le rfl) (k_MD_find hG hT hN _) ?_
      refine zj_if_ge (tgt := 264) hG d_MD_canDo_257 (by decide) (fun c257 => ?_) (fun c257 => ?_)
      · rw [show (true && decide (tfnd T (tbeh 4 p a) < 0)) = false by simp [Int32.not_lt.mpr c257]]
        refine zj_iconst (v := 0) hG d_MD_canDo_264 rfl ?_
        exact zj_iret hG d_MD_canDo_265 rfl rfl ⟨rfl, rfl⟩
      · rw [show (true && decide (tfnd T (tbeh 4 p a) < 0)) = true by simp [Int32.not_le.mp c257]]
        refine zj_iconst (v := 1) hG d_MD_canDo_260 rfl ?_
        refine zj_goto (tgt := 265) hG d_MD_canDo_261 (by decide) ?_
        exact zj_iret hG d_MD_canDo_265 rfl rfl ⟨rfl, rfl⟩
    · subst g
      simp only [show ¬ (5 : Int32) = 0 by decide, show ¬ (5 : Int32) = 2 by decide, show ¬ (5 : Int32) = 3 by decide, show ¬ (5 : Int32) = 4 by decide, if_false, if_pos]
      refine zj_tableIn (off := 130) (tgt := 266) hG d_MD_canDo_136 (by decide) (by decide) rfl rfl ?_
      have no : ¬ (eS (tel T p) = 0 ∧ 2 ≤ a ∧ a ≤ 1000 ∧ 0 ≤ b ∧ b ≤ 99 ∧ tfnd T (tbes p b) < 0 ∧ T.length < 24) → ∀ ls, zJ G 3 m_MD_canDo 326 ls [] (twp q h N) (fun o h' => o = zR (zI (tb (decide (eS (tel T p) = 0 ∧ 2 ≤ a ∧ a ≤ 1000 ∧ 0 ≤ b ∧ b ≤ 99 ∧ tfnd T (tbes p b) < 0 ∧ T.length < 24)))) ∧ h' = twp q h N) := by
        intro e ls
        rw [decide_eq_false e]
        refine zj_iconst (v := 0) hG d_MD_canDo_326 rfl ?_
        exact zj_iret hG d_MD_canDo_327 rfl rfl ⟨rfl, rfl⟩
      refine zj_aload_n hG d_MD_canDo_266 rfl rfl ?_
      refine t_getA (o := 15) hG hT d_MD_canDo_267 f_MD_56 rfl rfl ?_
      refine zj_iload hG d_MD_canDo_270 rfl ?_
      refine t_ald (i) hG hT d_MD_canDo_272 (by first | decide | omega) (by first | decide | omega) rfl (by show _ < 26; omega) ?_
      rw [a2]
      refine zj_if_ne (tgt := 326) hG d_MD_canDo_273 (by decide) (fun c273 => ?_) (fun c273 => ?_)
      · exact no (fun g => c273 g.1) _
      refine zj_iload_n hG d_MD_canDo_276 rfl rfl ?_
      refine zj_iconst (v := 2) hG d_MD_canDo_277 rfl ?_
      refine zj_icmp_lt (tgt := 326) hG d_MD_canDo_278 (by decide) (fun c278 => ?_) (fun c278 => ?_)
      · exact no (fun g => Int32.not_le.mpr c278 g.2.1) _
      refine zj_iload_n hG d_MD_canDo_281 rfl rfl ?_
      refine zj_sipush (v := 1000) hG d_MD_canDo_282 rfl ?_
      refine zj_icmp_gt (tgt := 326) hG d_MD_canDo_285 (by decide) (fun c285 => ?_) (fun c285 => ?_)
      · exact no (fun g => Int32.not_le.mpr c285 g.2.2.1) _
      refine zj_iload hG d_MD_canDo_288 rfl ?_
      refine zj_if_lt (tgt := 326) hG d_MD_canDo_290 (by decide) (fun c290 => ?_) (fun c290 => ?_)
      · exact no (fun g => Int32.not_le.mpr c290 g.2.2.2.1) _
      refine zj_iload hG d_MD_canDo_293 rfl ?_
      refine zj_bipush (v := 99) hG d_MD_canDo_295 rfl ?_
      refine zj_icmp_gt (tgt := 326) hG d_MD_canDo_297 (by decide) (fun c297 => ?_) (fun c297 => ?_)
      · exact no (fun g => Int32.not_le.mpr c297 g.2.2.2.2.1) _
      refine zj_aload_n hG d_MD_canDo_300 rfl rfl ?_
      refine zj_iload_n hG d_MD_canDo_301 rfl rfl ?_
      refine zj_iload hG d_MD_canDo_302 rfl ?_
      refine zj_callR (y' := m_MD_besides) hG (zcS (as := [_, _]) hG d_MD_canDo_304 c_MD_besides (z_w7 129 rfl) (z_w7 130 rfl) (z_w1 11 rfl) ⟨by decide, by decide⟩ (show _ = some 2 from by decide +kernel) rfl) c_MD_besides rfl (by omega) rfl (z_le rfl) (z_le rfl) (k_MD_besides hG _ _ _) ?_
      refine zj_callR (y' := m_MD_find) hG (zcP (as := [_]) hG d_MD_canDo_307 c_MD_find (z_w7 47 rfl) (z_w7 49 rfl) (z_w7 48 rfl) (z_w7 8 rfl) rfl ⟨by decide, by decide⟩ hT.1 (by decide) (by decide) (show _ = some 1 from by decide +kernel) rfl) c_MD_find rfl (by omega) rfl (z_le rfl) (z_le rfl) (k_MD_find hG hT hN _) ?_
      refine zj_if_ge (tgt := 326) hG d_MD_canDo_310 (by decide) (fun c310 => ?_) (fun c310 => ?_)
      · exact no (fun g => Int32.not_le.mpr g.2.2.2.2.2.1 c310) _
      refine zj_aload_n hG d_MD_canDo_313 rfl rfl ?_
      refine t_getI hG hT d_MD_canDo_314 f_MD_108 rfl ?_
      refine zj_bipush (v := 24) hG d_MD_canDo_317 rfl ?_
      rw [hN.1]
      refine zj_icmp_ge (tgt := 326) hG d_MD_canDo_319 (by decide) (fun c319 => ?_) (fun c319 => ?_)
      · exact no (fun g => nI_ge (a := T.length) (b := 24) g.2.2.2.2.2.2 (by omega) c319) _
      · have : T.length < 24 := by
          rcases Nat.lt_or_ge T.length 24 with g | g
          · exact g
          · exact absurd (nI_le (a := 24) g (by omega)) c319
        rw [decide_eq_true (show eS (tel T p) = 0 ∧ 2 ≤ a ∧ a ≤ 1000 ∧ 0 ≤ b ∧ b ≤ 99 ∧ tfnd T (tbes p b) < 0 ∧ T.length < 24 from ⟨c273, Int32.not_lt.mp c278, Int32.not_lt.mp c285, Int32.not_lt.mp c290, Int32.not_lt.mp c297, Int32.not_le.mp c310, this⟩)]
        refine zj_iconst (v := 1) hG d_MD_canDo_322 rfl ?_
        refine zj_goto (tgt := 327) hG d_MD_canDo_323 (by decide) ?_
        exact zj_iret hG d_MD_canDo_327 rfl rfl ⟨rfl, rfl⟩
    · subst g
      simp only [show ¬ (6 : Int32) = 0 by decide, show ¬ (6 : Int32) = 2 by decide, show ¬ (6 : Int32) = 3 by decide, show ¬ (6 : Int32) = 4 by decide, show ¬ (6 : Int32) = 5 by decide, if_false, if_pos]
      refine zj_tableIn (off := 192) (tgt := 328) hG d_MD_canDo_136 (by decide) (by decide) rfl rfl ?_
      generalize hres : (decide (eS (tel T p) = 0 ∧ 1 ≤ a ∧ a ≤ 1000 ∧ 1 ≤ b ∧ b ≤ 1000) && tii (tfl (a.toInt64 * (eL (tel T p)).toInt64) b.toInt64) && tii (tfl (a.toInt64 * (eH (tel T p)).toInt64) b.toInt64)) = res
      have no : res = false → ∀ ls, zJ G 3 m_MD_canDo 414 ls [] (twp q h N) (fun o h' => o = zR (zI (tb res)) ∧ h' = twp q h N) := by
        intro e ls
        rw [e]
        refine zj_iconst (v := 0) hG d_MD_canDo_414 rfl ?_
        exact zj_iret hG d_MD_canDo_415 rfl rfl ⟨rfl, rfl⟩
      refine zj_aload_n hG d_MD_canDo_328 rfl rfl ?_
      refine t_getA (o := 15) hG hT d_MD_canDo_329 f_MD_56 rfl rfl ?_
      refine zj_iload hG d_MD_canDo_332 rfl ?_
      refine t_ald (i) hG hT d_MD_canDo_334 (by first | decide | omega) (by first | decide | omega) rfl (by show _ < 26; omega) ?_
      rw [a2]
      refine zj_if_ne (tgt := 414) hG d_MD_canDo_335 (by decide) (fun c335 => ?_) (fun c335 => ?_)
      · exact no (by rw [← hres]; simp [c335]) _
      refine zj_iload_n hG d_MD_canDo_338 rfl rfl ?_
      refine zj_iconst (v := 1) hG d_MD_canDo_339 rfl ?_
      refine zj_icmp_lt (tgt := 414) hG d_MD_canDo_340 (by decide) (fun c340 => ?_) (fun c340 => ?_)
      · exact no (by rw [← hres]; simp [Int32.not_le.mpr c340]) _
      refine zj_iload_n hG d_MD_canDo_343 rfl rfl ?_
      refine zj_sipush (v := 1000) hG d_MD_canDo_344 rfl ?_
      refine zj_icmp_gt (tgt := 414) hG d_MD_canDo_347 (by decide) (fun c347 => ?_) (fun c347 => ?_)
      · exact no (by rw [← hres]; simp [Int32.not_le.mpr c347]) _
      refine zj_iload hG d_MD_canDo_350 rfl ?_
      refine zj_iconst (v := 1) hG d_MD_canDo_352 rfl ?_
      refine zj_icmp_lt (tgt := 414) hG d_MD_canDo_353 (by decide) (fun c353 => ?_) (fun c353 => ?_)
      · exact no (by rw [← hres]; simp [Int32.not_le.mpr c353]) _
      refine zj_iload hG d_MD_canDo_356 rfl ?_
      refine zj_sipush (v := 1000) hG d_MD_canDo_358 rfl ?_
      refine zj_icmp_gt (tgt := 414) hG d_MD_canDo_361 (by decide) (fun c361 => ?_) (fun c361 => ?_)
      · exact no (by rw [← hres]; simp [Int32.not_le.mpr c361]) _
      have hb0' : ¬ b.toInt64 = 0 := i64_ne (fun e => c353 (by rw [e]; decide))
      refine zj_iload_n hG d_MD_canDo_364 rfl rfl ?_
      refine zj_i2l hG d_MD_canDo_365 ?_
      refine zj_aload_n hG d_MD_canDo_366 rfl rfl ?_
      refine t_getA (o := 16) hG hT d_MD_canDo_367 f_MD_59 rfl rfl ?_
      refine zj_iload hG d_MD_canDo_370 rfl ?_
      refine t_ald (i) hG hT d_MD_canDo_372 (by first | decide | omega) (by first | decide | omega) rfl (by show _ < 26; omega) ?_
      refine zj_i2l hG d_MD_canDo_373 ?_
      refine zj_lmul hG d_MD_canDo_374 ?_
      refine zj_iload hG d_MD_canDo_375 rfl ?_
      refine zj_i2l hG d_MD_canDo_377 ?_
      rw [a3]
      refine zj_callR (y' := m_MD_floor) hG (zcS (as := [_, _]) hG d_MD_canDo_378 c_MD_floor (z_w7 126 rfl) (z_w7 127 rfl) (z_w1 11 rfl) ⟨by decide, by decide⟩ (show _ = some 2 from by decide +kernel) rfl) c_MD_floor rfl (by omega) rfl (z_le rfl) (z_le rfl) (k_MD_floor hG _ _ hb0' _) ?_
      refine zj_callR (y' := m_MD_isInt) hG (zcS (as := [_]) hG d_MD_canDo_381 c_MD_isInt (z_w7 161 rfl) (z_w7 162 rfl) (z_w1 11 rfl) ⟨by decide, by decide⟩ (show _ = some 1 from by decide +kernel) rfl) c_MD_isInt rfl (by omega) rfl (z_le rfl) (z_le rfl) (k_MD_isInt hG _ _) ?_
      refine zj_if_eq (tgt := 414) hG d_MD_canDo_384 (by decide) (fun c384 => ?_) (fun c384 => ?_)
      · exact no (by rw [← hres]; simp [tb_f c384]) _
      refine zj_iload_n hG d_MD_canDo_387 rfl rfl ?_
      refine zj_i2l hG d_MD_canDo_388 ?_
      refine zj_aload_n hG d_MD_canDo_389 rfl rfl ?_
      refine t_getA (o := 17) hG hT d_MD_canDo_390 f_MD_62 rfl rfl ?_
      refine zj_iload hG d_MD_canDo_393 rfl ?_
      refine t_ald (i) hG hT d_MD_canDo_395 (by first | decide | omega) (by first | decide | omega) rfl (by show _ < 26; omega) ?_
      refine zj_i2l hG d_MD_canDo_396 ?_
      refine zj_lmul hG d_MD_canDo_397 ?_
      refine zj_iload hG d_MD_canDo_398 rfl ?_
      refine zj_i2l hG d_MD_canDo_400 ?_
      rw [a4]
      refine zj_callR (y' := m_MD_floor) hG (zcS (as := [_, _]) hG d_MD_canDo_401 c_MD_floor (z_w7 126 rfl) (z_w7 127 rfl) (z_w1 11 rfl) ⟨by decide, by decide⟩ (show _ = some 2 from by decide +kernel) rfl) c_MD_floor rfl (by omega) rfl (z_le rfl) (z_le rfl) (k_MD_floor hG _ _ hb0' _) ?_
      refine zj_callR (y' := m_MD_isInt) hG (zcS (as := [_]) hG d_MD_canDo_404 c_MD_isInt (z_w7 161 rfl) (z_w7 162 rfl) (z_w1 11 rfl) ⟨by decide, by decide⟩ (show _ = some 1 from by decide +kernel) rfl) c_MD_isInt rfl (by omega) rfl (z_le rfl) (z_le rfl) (k_MD_isInt hG _ _) ?_
      refine zj_if_eq (tgt := 414) hG d_MD_canDo_407 (by decide) (fun c407 => ?_) (fun c407 => ?_)
      · exact no (by rw [← hres]; simp [tb_f c407]) _
      · have : res = true := by
          rw [← hres, tb_t c384, tb_t c407, decide_eq_true (show eS (tel T p) = 0 ∧ 1 ≤ a ∧ a ≤ 1000 ∧ 1 ≤ b ∧ b ≤ 1000 from ⟨c335, Int32.not_lt.mp c340, Int32.not_lt.mp c347, Int32.not_lt.mp c353, Int32.not_lt.mp c361⟩)]
          rfl
        rw [this]
        refine zj_iconst (v := 1) hG d_MD_canDo_410 rfl ?_
        refine zj_goto (tgt := 415) hG d_MD_canDo_411 (by decide) ?_
        exact zj_iret hG d_MD_canDo_415 rfl rfl ⟨rfl, rfl⟩
    · subst g
      simp only [show ¬ (7 : Int32) = 0 by decide, show ¬ (7 : Int32) = 2 by decide, show ¬ (7 : Int32) = 3 by decide, show ¬ (7 : Int32) = 4 by decide, show ¬ (7 : Int32) = 5 by decide, show ¬ (7 : Int32) = 6 by decide, if_false, if_pos]
      refine zj_tableIn (off := 280) (tgt := 416) hG d_MD_canDo_136 (by decide) (by decide) rfl rfl ?_
      have no : ¬ (eS (tel T p) = 0 ∧ a ≠ b ∧ eL (tel T p) ≤ a ∧ a ≤ eH (tel T p) ∧ eL (tel T p) ≤ b ∧ b ≤ eH (tel T p)) → ∀ ls, zJ G 3 m_MD_canDo 482 ls [] (twp q h N) (fun o h' => o = zR (zI (tb (decide (eS (tel T p) = 0 ∧ a ≠ b ∧ eL (tel T p) ≤ a ∧ a ≤ eH (tel T p) ∧ eL (tel T p) ≤ b ∧ b ≤ eH (tel T p))))) ∧ h' = twp q h N) := by
        intro e ls
        rw [decide_eq_false e]
        refine zj_iconst (v := 0) hG d_MD_canDo_482 rfl ?_
        exact zj_iret hG d_MD_canDo_483 rfl rfl ⟨rfl, rfl⟩
      refine zj_aload_n hG d_MD_canDo_416 rfl rfl ?_
      refine t_getA (o := 15) hG hT d_MD_canDo_417 f_MD_56 rfl rfl ?_
      refine zj_iload hG d_MD_canDo_420 rfl ?_
      refine t_ald (i) hG hT d_MD_canDo_422 (by first | decide | omega) (by first | decide | omega) rfl (by show _ < 26; omega) ?_
      rw [a2]
      refine zj_if_ne (tgt := 482) hG d_MD_canDo_423 (by decide) (fun c423 => ?_) (fun c423 => ?_)
      · exact no (fun g => c423 g.1) _
      refine zj_iload_n hG d_MD_canDo_426 rfl rfl ?_
      refine zj_iload hG d_MD_canDo_427 rfl ?_
      refine zj_icmp_eq (tgt := 482) hG d_MD_canDo_429 (by decide) (fun c429 => ?_) (fun c429 => ?_)
      · exact no (fun g => g.2.1 c429) _
      refine zj_iload_n hG d_MD_canDo_432 rfl rfl ?_
      refine zj_aload_n hG d_MD_canDo_433 rfl rfl ?_
      refine t_getA (o := 16) hG hT d_MD_canDo_434 f_MD_59 rfl rfl ?_
      refine zj_iload hG d_MD_canDo_437 rfl ?_
      refine t_ald (i) hG hT d_MD_canDo_439 (by first | decide | omega) (by first | decide | omega) rfl (by show _ < 26; omega) ?_
      rw [a3]
      refine zj_icmp_lt (tgt := 482) hG d_MD_canDo_440 (by decide) (fun c440 => ?_) (fun c440 => ?_)
      · exact no (fun g => Int32.not_le.mpr c440 g.2.2.1) _
      refine zj_iload_n hG d_MD_canDo_443 rfl rfl ?_
      refine zj_aload_n hG d_MD_canDo_444 rfl rfl ?_
      refine t_getA (o := 17) hG hT d_MD_canDo_445 f_MD_62 rfl rfl ?_
      refine zj_iload hG d_MD_canDo_448 rfl ?_
      refine t_ald (i) hG hT d_MD_canDo_450 (by first | decide | omega) (by first | decide | omega) rfl (by show _ < 26; omega) ?_
      rw [a4]
      refine zj_icmp_gt (tgt := 482) hG d_MD_canDo_451 (by decide) (fun c451 => ?_) (fun c451 => ?_)
      · exact no (fun g => Int32.not_le.mpr c451 g.2.2.2.1) _
      refine zj_iload hG d_MD_canDo_454 rfl ?_
      refine zj_aload_n hG d_MD_canDo_456 rfl rfl ?_
      refine t_getA (o := 16) hG hT d_MD_canDo_457 f_MD_59 rfl rfl ?_
      refine zj_iload hG d_MD_canDo_460 rfl ?_
      refine t_ald (i) hG hT d_MD_canDo_462 (by first | decide | omega) (by first | decide | omega) rfl (by show _ < 26; omega) ?_
      rw [a3]
      refine zj_icmp_lt (tgt := 482) hG d_MD_canDo_463 (by decide) (fun c463 => ?_) (fun c463 => ?_)
      · exact no (fun g => Int32.not_le.mpr c463 g.2.2.2.2.1) _
      refine zj_iload hG d_MD_canDo_466 rfl ?_
      refine zj_aload_n hG d_MD_canDo_468 rfl rfl ?_
      refine t_getA (o := 17) hG hT d_MD_canDo_469 f_MD_62 rfl rfl ?_
      refine zj_iload hG d_MD_canDo_472 rfl ?_
      refine t_ald (i) hG hT d_MD_canDo_474 (by first | decide | omega) (by first | decide | omega) rfl (by show _ < 26; omega) ?_
      rw [a4]
      refine zj_icmp_gt (tgt := 482) hG d_MD_canDo_475 (by decide) (fun c475 => ?_) (fun c475 => ?_)
      · exact no (fun g => Int32.not_le.mpr c475 g.2.2.2.2.2) _
      · rw [decide_eq_true (show eS (tel T p) = 0 ∧ a ≠ b ∧ eL (tel T p) ≤ a ∧ a ≤ eH (tel T p) ∧ eL (tel T p) ≤ b ∧ b ≤ eH (tel T p) from ⟨c423, c429, Int32.not_lt.mp c440, Int32.not_lt.mp c451, Int32.not_lt.mp c463, Int32.not_lt.mp c475⟩)]
        refine zj_iconst (v := 1) hG d_MD_canDo_478 rfl ?_
        refine zj_goto (tgt := 483) hG d_MD_canDo_479 (by decide) ?_
        exact zj_iret hG d_MD_canDo_483 rfl rfl ⟨rfl, rfl⟩
    · subst g
      simp only [show ¬ (8 : Int32) = 0 by decide, show ¬ (8 : Int32) = 2 by decide, show ¬ (8 : Int32) = 3 by decide, show ¬ (8 : Int32) = 4 by decide, show ¬ (8 : Int32) = 5 by decide, show ¬ (8 : Int32) = 6 by decide, show ¬ (8 : Int32) = 7 by decide, if_false, if_pos]
      refine zj_tableIn (off := 348) (tgt := 484) hG d_MD_canDo_136 (by decide) (by decide) rfl rfl ?_
      refine zj_aload_n hG d_MD_canDo_484 rfl rfl ?_
      refine t_getA (o := 15) hG hT d_MD_canDo_485 f_MD_56 rfl rfl ?_
      refine zj_iload hG d_MD_canDo_488 rfl ?_
      refine t_ald (i) hG hT d_MD_canDo_490 (by first | decide | omega) (by first | decide | omega) rfl (by show _ < 26; omega) ?_
      refine zj_iconst (v := 1) hG d_MD_canDo_491 rfl ?_
      rw [a2]
      refine zj_icmp_ne (tgt := 499) hG d_MD_canDo_492 (by decide) (fun c492 => ?_) (fun c492 => ?_)
      · rw [show decide (eS (tel T p) = 1) = false by simp [c492]]
        refine zj_iconst (v := 0) hG d_MD_canDo_499 rfl ?_
        exact zj_iret hG d_MD_canDo_500 rfl rfl ⟨rfl, rfl⟩
      · rw [show decide (eS (tel T p) = 1) = true by simp [c492]]
        refine zj_iconst (v := 1) hG d_MD_canDo_495 rfl ?_
        refine zj_goto (tgt := 500) hG d_MD_canDo_496 (by decide) ?_
        exact zj_iret hG d_MD_canDo_500 rfl rfl ⟨rfl, rfl⟩
  refine zj_iload_n hG d_MD_canDo_62 rfl rfl ?_
  refine zj_if_lt (tgt := 76) hG d_MD_canDo_63 (by decide) (fun c63 => ?_) (fun c63 => ?_)
  · refine zj_iconst (v := 0) hG d_MD_canDo_76 rfl ?_
    exact nm false (decide_eq_false (fun g => Int32.not_le.mpr c63 g.1)).symm _ rfl
  refine zj_iload_n hG d_MD_canDo_66 rfl rfl ?_
  refine zj_bipush (v := 99) hG d_MD_canDo_67 rfl ?_
  refine zj_icmp_gt (tgt := 76) hG d_MD_canDo_69 (by decide) (fun c69 => ?_) (fun c69 => ?_)
  · refine zj_iconst (v := 0) hG d_MD_canDo_76 rfl ?_
    exact nm false (decide_eq_false (fun g => Int32.not_le.mpr c69 g.2)).symm _ rfl
  · refine zj_iconst (v := 1) hG d_MD_canDo_72 rfl ?_
    refine zj_goto (tgt := 77) hG d_MD_canDo_73 (by decide) ?_
    exact nm true (decide_eq_true (show 0 ≤ a ∧ a ≤ 99 from ⟨Int32.not_lt.mp c63, Int32.not_lt.mp c69⟩)).symm _ rfl
end MD21
