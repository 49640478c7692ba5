/-! PART 22: the reference: terms opened; what is split and joined -/
/-- a term opened -/
def topn (L : List tQ) (j : Nat) (x : tQ) (lo hi : Int32) : Int32 × List tQ := if x.1 = 3 then (x.2.1, L) else if x.1 = 2 then tkq L (1, tnear lo hi, 0, 0, 0, 0) else tkq L (4, nI j, 0, 0, 0, 0)
section MD9
variable {G : zG} {q : Nat} {h : zH} {N : Nat → Nat → Int32} {X : tXt} {T : List tE} {L : List tQ}
set_option maxRecDepth 4000 in
theorem k_MD_opened (hG : zOK G) (hT : twOK q h) (hN : tTab N T) (hS : tSto N L) (hl : L.length < 1024) {k j : Nat} {x : tQ} (hk : k < T.length) (ht : eT T[k] = nI j) (hj : L[j]? = some x) :
    zJ G 2 m_MD_opened 0 [some (zA q), some (zI (nI k)), none] [] (twp q h N) (fun o h' => ∃ v N', o = zR (zI v) ∧ h' = twp q h N' ∧ (v = (topn L j x (eL T[k]) (eH T[k])).1 ∧ tSto N' (topn L j x (eL T[k]) (eH T[k])).2 ∧ tFr pS N N')) := by
  have hlT := hN.l
  have hjl := (List.getElem?_eq_some_iff.mp hj).1
  obtain ⟨x1, x2, x3, x4, x5, x6⟩ := hS.2.2 j x hj
  obtain ⟨a1, a2, a3, a4, a5, a8⟩ := hN.at hk
  rw [ht] at a8
  refine zj_aload_n hG d_MD_opened_0 rfl rfl ?_
  refine t_getA (o := 19) hG hT d_MD_opened_1 f_MD_68 rfl rfl ?_
  refine zj_iload_n hG d_MD_opened_4 rfl rfl ?_
  refine t_ald (k) hG hT d_MD_opened_5 (by first | decide | omega) (by first | decide | omega) rfl (by show _ < 26; omega) ?_
  rw [a8]
  refine zj_istore_n hG d_MD_opened_6 rfl (by decide) rfl rfl ?_
  refine zj_aload_n hG d_MD_opened_7 rfl rfl ?_
  refine t_getA (o := 22) hG hT d_MD_opened_8 f_MD_77 rfl rfl ?_
  refine zj_iload_n hG d_MD_opened_11 rfl rfl ?_
  refine t_ald (j) hG hT d_MD_opened_12 (by first | decide | omega) (by first | decide | omega) rfl (by show _ < 1024; omega) ?_
  refine zj_iconst (v := 3) hG d_MD_opened_13 rfl ?_
  rw [x1]
  refine zj_icmp_ne (tgt := 26) hG d_MD_opened_14 (by decide) (fun c14 => ?_) (fun c14 => ?_)
  · rw [topn, if_neg c14]
    refine zj_aload_n hG d_MD_opened_26 rfl rfl ?_
    refine t_getA (o := 22) hG hT d_MD_opened_27 f_MD_77 rfl rfl ?_
    refine zj_iload_n hG d_MD_opened_30 rfl rfl ?_
    refine t_ald (j) hG hT d_MD_opened_31 (by first | decide | omega) (by first | decide | omega) rfl (by show _ < 1024; omega) ?_
    refine zj_iconst (v := 2) hG d_MD_opened_32 rfl ?_
    rw [x1]
    refine zj_icmp_ne (tgt := 58) hG d_MD_opened_33 (by decide) (fun c33 => ?_) (fun c33 => ?_)
    · rw [if_neg c33]
      refine zj_aload_n hG d_MD_opened_58 rfl rfl ?_
      refine zj_iconst (v := 4) hG d_MD_opened_59 rfl ?_
      refine zj_iload_n hG d_MD_opened_60 rfl rfl ?_
      refine zj_iconst (v := 0) hG d_MD_opened_61 rfl ?_
      refine zj_iconst (v := 0) hG d_MD_opened_62 rfl ?_
      refine zj_iconst (v := 0) hG d_MD_opened_63 rfl ?_
      refine zj_iconst (v := 0) hG d_MD_opened_64 rfl ?_
      refine zj_callT (y' := m_MD_known) hG (zcP (as := [_, _, _, _, _, _]) hG d_MD_opened_65 c_MD_known (z_w7 29 rfl) (z_w7 31 rfl) (z_w7 30 rfl) (z_w7 8 rfl) rfl ⟨by decide, by decide⟩ hT.1 (by decide) (by decide) (show _ = some 6 from by decide +kernel) rfl) c_MD_known rfl (by omega) rfl (z_le rfl) (z_le rfl) (k_MD_known hG hT hS hl _ _ _ _ _ _) (fun v65 N65 e65 => ?_)
      exact zj_iret hG d_MD_opened_68 rfl rfl ⟨_, _, rfl, rfl, e65⟩
    · rw [if_pos c33]
      refine zj_aload_n hG d_MD_opened_36 rfl rfl ?_
      refine zj_aload_n hG d_MD_opened_37 rfl rfl ?_
      refine t_getA (o := 16) hG hT d_MD_opened_38 f_MD_59 rfl rfl ?_
      refine zj_iload_n hG d_MD_opened_41 rfl rfl ?_
      refine t_ald (k) hG hT d_MD_opened_42 (by first | decide | omega) (by first | decide | omega) rfl (by show _ < 26; omega) ?_
      refine zj_aload_n hG d_MD_opened_43 rfl rfl ?_
      refine t_getA (o := 17) hG hT d_MD_opened_44 f_MD_62 rfl rfl ?_
      refine zj_iload_n hG d_MD_opened_47 rfl rfl ?_
      refine t_ald (k) hG hT d_MD_opened_48 (by first | decide | omega) (by first | decide | omega) rfl (by show _ < 26; omega) ?_
      rw [a3, a4]
      refine zj_callR (y' := m_MD_nearest) hG (zcS (as := [_, _]) hG d_MD_opened_49 c_MD_nearest (z_w7 22 rfl) (z_w7 23 rfl) (z_w1 11 rfl) ⟨by decide, by decide⟩ (show _ = some 2 from by decide +kernel) rfl) c_MD_nearest rfl (by omega) rfl (z_le rfl) (z_le rfl) (k_MD_nearest hG _ _ _) ?_
      refine zj_callT (y' := m_MD_number) hG (zcP (as := [_]) hG d_MD_opened_52 c_MD_number (z_w7 25 rfl) (z_w7 27 rfl) (z_w7 26 rfl) (z_w7 8 rfl) rfl ⟨by decide, by decide⟩ hT.1 (by decide) (by decide) (show _ = some 1 from by decide +kernel) rfl) c_MD_number rfl (by omega) rfl (z_le rfl) (z_le rfl) (k_MD_number hG hT hS hl _) (fun v52 N52 e52 => ?_)
      refine zj_goto (tgt := 68) hG d_MD_opened_55 (by decide) ?_
      exact zj_iret hG d_MD_opened_68 rfl rfl ⟨_, _, rfl, rfl, e52⟩
  · rw [topn, if_pos c14]
    refine zj_aload_n hG d_MD_opened_17 rfl rfl ?_
    refine zj_iload_n hG d_MD_opened_18 rfl rfl ?_
    refine zj_iconst (v := 0) hG d_MD_opened_19 rfl ?_
    refine zj_callR (y' := m_MD_argument) hG (zcP (as := [_, _]) hG d_MD_opened_20 c_MD_argument (z_w7 136 rfl) (z_w7 138 rfl) (z_w7 137 rfl) (z_w7 8 rfl) rfl ⟨by decide, by decide⟩ hT.1 (by decide) (by decide) (show _ = some 2 from by decide +kernel) rfl) c_MD_argument rfl (by omega) rfl (z_le rfl) (z_le rfl) (k_MD_argument (j := 0) hG hT (k := j) (by omega)) ?_
    rw [show 5 * j + 0 = 5 * j from rfl, x2]
    refine zj_goto (tgt := 68) hG d_MD_opened_23 (by decide) ?_
    exact zj_iret hG d_MD_opened_68 rfl rfl ⟨_, N, rfl, rfl, rfl, hS, tFr.rfl'⟩
set_option maxRecDepth 4000 in
/-- terms alone (mode 2), or nothing (mode 0) -/
theorem k_MD_change2 (hG : zOK G) (hT : twOK q h) (hN : tTab N T) (hS : tSto N L) (hl : L.length < 1024) (hm : N 0 27 = 2) {i s r j : Nat} {x : tQ} (hi : i < T.length) (hr : r + 7 < 1088) (ht : eT T[i] = nI j) (hj : L[j]? = some x) (k a b : Int32) (f : Bool) (hd : k = 6 → ¬ a = 0 ∧ ¬ b = 0) :
    zJ G 3 m_MD_change 0 [some (zA q), some (zI (nI i)), some (zI k), some (zI a), some (zI b), some (zI (tb f)), some (zI (nI s)), some (zI (nI r)), none, none] [] (twp q h N) (fun o h' => ∃ N', o = zR0 ∧ h' = twp q h N' ∧ (tTab N' (tsetT T i (tchd L j x k a b f (N 9 (r + 6)) (N 9 (r + 7))).1) ∧ tSto N' (tchd L j x k a b f (N 9 (r + 6)) (N 9 (r + 7))).2 ∧ tFr pTS N N')) := by
  have hlT := hN.l
  obtain ⟨a1, a2, a3, a4, a5, a8⟩ := hN.at hi
  rw [ht] at a8
  refine zj_aload_n hG d_MD_change_0 rfl rfl ?_
  refine t_getI hG hT d_MD_change_1 f_MD_118 rfl ?_
  refine zj_iconst (v := 2) hG d_MD_change_4 rfl ?_
  rw [hm]
  refine zj_icmp_ne (tgt := 50) hG d_MD_change_5 (by decide) (fun c5 => ?_) (fun c5 => ?_)
  · exact absurd rfl c5
  refine zj_aload_n hG d_MD_change_8 rfl rfl ?_
  refine t_getA (o := 19) hG hT d_MD_change_9 f_MD_68 rfl rfl ?_
  refine zj_iload_n hG d_MD_change_12 rfl rfl ?_
  refine zj_aload_n hG d_MD_change_13 rfl rfl ?_
  refine zj_aload_n hG d_MD_change_14 rfl rfl ?_
  refine t_getA (o := 19) hG hT d_MD_change_15 f_MD_68 rfl rfl ?_
  refine zj_iload_n hG d_MD_change_18 rfl rfl ?_
  refine t_ald (i) hG hT d_MD_change_19 (by first | decide | omega) (by first | decide | omega) rfl (by show _ < 26; omega) ?_
  refine zj_iload_n hG d_MD_change_20 rfl rfl ?_
  refine zj_iload_n hG d_MD_change_21 rfl rfl ?_
  refine zj_iload hG d_MD_change_22 rfl ?_
  refine zj_iload hG d_MD_change_24 rfl ?_
  refine zj_aload_n hG d_MD_change_26 rfl rfl ?_
  refine t_getA (o := 9) hG hT d_MD_change_27 f_MD_38 rfl rfl ?_
  refine zj_iload hG d_MD_change_30 rfl ?_
  refine zj_bipush (v := 6) hG d_MD_change_32 rfl ?_
  refine zj_iadd hG d_MD_change_34 ?_
  refine t_ald (r + 6) hG hT d_MD_change_35 (by first | decide | omega) (by first | decide | omega) (nI_a6 _) (by show _ < 1088; omega) ?_
  refine zj_aload_n hG d_MD_change_36 rfl rfl ?_
  refine t_getA (o := 9) hG hT d_MD_change_37 f_MD_38 rfl rfl ?_
  refine zj_iload hG d_MD_change_40 rfl ?_
  refine zj_bipush (v := 7) hG d_MD_change_42 rfl ?_
  refine zj_iadd hG d_MD_change_44 ?_
  refine t_ald (r + 7) hG hT d_MD_change_45 (by first | decide | omega) (by first | decide | omega) (nI_a7 _) (by show _ < 1088; omega) ?_
  rw [a8]
  refine zj_callT (y' := m_MD_changed) hG (zcP (as := [_, _, _, _, _, _, _]) hG d_MD_change_46 c_MD_changed (z_w7 144 rfl) (z_w7 146 rfl) (z_w7 145 rfl) (z_w7 8 rfl) rfl ⟨by decide, by decide⟩ hT.1 (by decide) (by decide) (show _ = some 7 from by decide +kernel) rfl) c_MD_changed rfl (by omega) rfl (z_le rfl) (z_le rfl) (k_MD_changed hG hT hS hl hj k a b f _ _ hd) (fun v46 N46 e46 => ?_)
  obtain ⟨r1, r2, r3⟩ := e46
  have hN2 : tTab N46 T := hN.fr r3 (by intro o i e; simp [pT] at e; simp [pS]; omega)
  have hm2 : N46 0 27 = 2 := (r3 0 27 rfl).trans hm
  refine t_ast (i) hG hT d_MD_change_49 (by first | decide | omega) (by first | decide | omega) rfl (by show _ < 26; omega) ?_
  refine zj_aload_n hG d_MD_change_50 rfl rfl ?_
  refine t_getI hG hT d_MD_change_51 f_MD_118 rfl ?_
  refine zj_iconst (v := 1) hG d_MD_change_54 rfl ?_
  rw [zu_a (by omega), hm2]
  refine zj_icmp_eq (tgt := 59) hG d_MD_change_55 (by decide) (fun c55 => ?_) (fun c55 => ?_)
  · exact absurd c55 (by decide)
  have f2 : tFr pT N46 (zu N46 19 i v46) := tFr.put tFr.rfl' rfl
  refine zj_vret hG d_MD_change_58 rfl ⟨_, rfl, rfl, ?_, r2.fr f2 (by intro o i e; simp [pS] at e; simp [pT]; omega), (r3.mono (by intro o i e; simp [pTS] at e; exact e.2)).trans (f2.mono (by intro o i e; simp [pTS] at e; exact e.1))⟩
  rw [tsetT_eq hi, ← r1]
  exact hN2.t hi v46
set_option maxRecDepth 4000 in
theorem k_MD_change0 (hG : zOK G) (hm1 : ¬ N 0 27 = 1) (hm2 : ¬ N 0 27 = 2) (hT : twOK q h) (v1 v2 v3 v4 v5 v6 v7 : zV) :
    zJ G 3 m_MD_change 0 [some (zA q), some v1, some v2, some v3, some v4, some v5, some v6, some v7, none, none] [] (twp q h N) (fun o h' => o = zR0 ∧ h' = twp q h N) := by
  refine zj_aload_n hG d_MD_change_0 rfl rfl ?_
  refine t_getI hG hT d_MD_change_1 f_MD_118 rfl ?_
  refine zj_iconst (v := 2) hG d_MD_change_4 rfl ?_
  refine zj_icmp_ne (tgt := 50) hG d_MD_change_5 (by decide) (fun c5 => ?_) (fun c5 => ?_)
  · refine zj_aload_n hG d_MD_change_50 rfl rfl ?_
    refine t_getI hG hT d_MD_change_51 f_MD_118 rfl ?_
    refine zj_iconst (v := 1) hG d_MD_change_54 rfl ?_
    refine zj_icmp_eq (tgt := 59) hG d_MD_change_55 (by decide) (fun c55 => ?_) (fun c55 => ?_)
    · exact absurd c55 hm1
    · exact zj_vret hG d_MD_change_58 rfl ⟨rfl, rfl⟩
  · exact absurd c5 hm2
/-- numbers split: the quotient, the rest -/
def tqo (x a : Int32) : Int32 := (tfl x.toInt64 a.toInt64).toInt32
def tre (x a : Int32) : Int32 := (x.toInt64 - a.toInt64 * tfl x.toInt64 a.toInt64).toInt32
/-- terms split -/
def tspl (L : List tQ) (j : Nat) (x : tQ) (a : Int32) : Int32 × Int32 × List tQ :=
  if x.1 = 1 then ((tkq L (1, tqo x.2.1 a, 0, 0, 0, 0)).1, (tkq (tkn L (1, tqo x.2.1 a, 0, 0, 0, 0)) (1, tre x.2.1 a, 0, 0, 0, 0)).1, (tkq (tkn L (1, tqo x.2.1 a, 0, 0, 0, 0)) (1, tre x.2.1 a, 0, 0, 0, 0)).2)
  else if x.1 = 7 ∧ x.2.2.2.1 = a then (x.2.1, x.2.2.1, L)
  else ((tkq L (5, nI j, a, 0, 0, 0)).1, (tkq (tkn L (5, nI j, a, 0, 0, 0)) (6, nI j, a, 0, 0, 0)).1, (tkq (tkn L (5, nI j, a, 0, 0, 0)) (6, nI j, a, 0, 0, 0)).2)
/-- the table with one split: place k of it (field e), the rest behind -/
def tsp (m : Int32) (k : Nat) (e : tE) (x : tQ) (j : Nat) (p a b : Int32) (X : tXt) : tXt :=
  let y := (eR e).headD 0
  let z := tnew m X.2.1 (tbes p b) 0 0 (a - 1)
  let L1 := tnewL m X.2.1 0 0 (a - 1)
  ((X.1.set k (e.1, e.2.1, tqo (eL e) a, tqo (eH e) a, (if m = 1 then [tqo y a] else eR e), (if m = 2 then (tspl L1 j x a).1 else eT e))) ++ [(z.1, z.2.1, z.2.2.1, z.2.2.2.1, (if m = 1 then [tre y a] else z.2.2.2.2.1), (if m = 2 then (tspl L1 j x a).2.1 else z.2.2.2.2.2))], (if m = 2 then (tspl L1 j x a).2.2 else L1), X.2.2.1, X.2.2.2)
theorem sp_a {T : List tE} {k : Nat} (hk : k < T.length) (e1 e2 z : tE) : (T.set k e1 ++ [z]).set k e2 = T.set k e2 ++ [z] := by
  rw [List.set_append_left _ _ (by simpa using hk), List.set_set]
theorem sp_b {T : List tE} {k : Nat} (e1 z z2 : tE) : (T.set k e1 ++ [z]).set T.length z2 = T.set k e1 ++ [z2] := by
  rw [List.set_append_right _ _ (by simp)]
  simp
theorem sp_c {T : List tE} {k : Nat} (hk : k < T.length) (e1 z : tE) (h' : k < (T.set k e1 ++ [z]).length) : (T.set k e1 ++ [z])[k] = e1 := by
  rw [List.getElem_append_left (by simpa using hk)]
  simp
theorem sp_d {T : List tE} {k : Nat} (e1 z : tE) (h' : T.length < (T.set k e1 ++ [z]).length) : (T.set k e1 ++ [z])[T.length] = z := by
  rw [List.getElem_append_right (by simp)]
  simp
theorem tkn_get {L : List tQ} {y x : tQ} {j : Nat} (h : L[j]? = some x) : (tkn L y)[j]? = some x := by
  unfold tkn
  split
  · exact h
  · rw [List.getElem?_append_left (List.getElem?_eq_some_iff.mp h).1]
    exact h
theorem tnewL_get {L : List tQ} {x : tQ} {j : Nat} {m s a b : Int32} (h : L[j]? = some x) : (tnewL m L s a b)[j]? = some x := by
  unfold tnewL
  split
  · exact tkn_get h
  · exact h
set_option maxRecDepth 4000 in
theorem k_MD_split (hG : zOK G) (hT : twOK q h) (hX : tX N X) {k j : Nat} {x : tQ} (hk : k < X.1.length) (h24 : X.1.length ≤ 24) (hl : X.2.1.length + 3 ≤ 1024) (p a b : Int32) (ha : ¬ a = 0) (h1 : N 0 27 = 1 → ∃ y, eR X.1[k] = [y]) (h2 : N 0 27 = 2 → eT X.1[k] = nI j ∧ X.2.1[j]? = some x) :
    zJ G 3 m_MD_split 0 [some (zA q), some (zI (nI k)), some (zI p), some (zI a), some (zI b), none, none, none, none, none] [] (twp q h N) (fun o h' => ∃ N', o = zR0 ∧ h' = twp q h N' ∧ (tX N' (tsp (N 0 27) k X.1[k] x j p a b X) ∧ tFr pA N N')) := by
  obtain ⟨T, L, K, c⟩ := X
  obtain ⟨hN, hS, hK, hc⟩ := hX
  simp only at hN hS hK hc hk h24 hl h1 h2
  show zJ G 3 m_MD_split 0 [some (zA q), some (zI (nI k)), some (zI p), some (zI a), some (zI b), none, none, none, none, none] [] (twp q h N) (fun o h' => ∃ N', o = zR0 ∧ h' = twp q h N' ∧ (tX N' (tsp (N 0 27) k T[k] x j p a b (T, L, K, c)) ∧ tFr pA N N'))
  have ha' := i64_ne ha
  obtain ⟨a1, a2, a3, a4, a5, a8⟩ := hN.at hk
  refine zj_aload_n hG d_MD_split_0 rfl rfl ?_
  refine t_getA (o := 18) hG hT d_MD_split_1 f_MD_65 rfl rfl ?_
  refine zj_bipush (v := 7) hG d_MD_split_4 rfl ?_
  refine zj_iload_n hG d_MD_split_6 rfl rfl ?_
  refine zj_imul hG d_MD_split_7 ?_
  refine zj_iconst (v := 1) hG d_MD_split_8 rfl ?_
  refine zj_iadd hG d_MD_split_9 ?_
  refine t_ald (7 * k + 1) hG hT d_MD_split_10 (by first | decide | omega) (by first | decide | omega) (by rw [nI_7, nI_1]) (by show _ < 182; omega) ?_
  refine zj_istore hG d_MD_split_11 (by decide) rfl rfl ?_
  refine zj_aload_n hG d_MD_split_13 rfl rfl ?_
  refine t_getA (o := 19) hG hT d_MD_split_14 f_MD_68 rfl rfl ?_
  refine zj_iload_n hG d_MD_split_17 rfl rfl ?_
  refine t_ald (k) hG hT d_MD_split_18 (by first | decide | omega) (by first | decide | omega) rfl (by show _ < 26; omega) ?_
  refine zj_istore hG d_MD_split_19 (by decide) rfl rfl ?_
  refine zj_aload_n hG d_MD_split_21 rfl rfl ?_
  refine t_getA (o := 16) hG hT d_MD_split_22 f_MD_59 rfl rfl ?_
  refine zj_iload_n hG d_MD_split_25 rfl rfl ?_
  refine zj_aload_n hG d_MD_split_26 rfl rfl ?_
  refine t_getA (o := 16) hG hT d_MD_split_27 f_MD_59 rfl rfl ?_
  refine zj_iload_n hG d_MD_split_30 rfl rfl ?_
  refine t_ald (k) hG hT d_MD_split_31 (by first | decide | omega) (by first | decide | omega) rfl (by show _ < 26; omega) ?_
  refine zj_i2l hG d_MD_split_32 ?_
  refine zj_iload_n hG d_MD_split_33 rfl rfl ?_
  refine zj_i2l hG d_MD_split_34 ?_
  rw [a3, a8]
  generalize hy : N 18 (7 * k + 1) = y
  refine zj_callR (y' := m_MD_floor) hG (zcS (as := [_, _]) hG d_MD_split_35 c_MD_floor (z_w7 126 rfl) (z_w7 127 rfl) (z_w1 11 rfl) ⟨by decide, by decide⟩ (show _ = some 2 from by decide +kernel) rfl) c_MD_floor rfl (by omega) rfl (z_le rfl) (z_le rfl) (k_MD_floor hG _ _ ha' _) ?_
  refine zj_l2i hG d_MD_split_38 ?_
  refine t_ast (k) hG hT d_MD_split_39 (by first | decide | omega) (by first | decide | omega) rfl (by show _ < 26; omega) ?_
  refine zj_aload_n hG d_MD_split_40 rfl rfl ?_
  refine t_getA (o := 17) hG hT d_MD_split_41 f_MD_62 rfl rfl ?_
  refine zj_iload_n hG d_MD_split_44 rfl rfl ?_
  refine zj_aload_n hG d_MD_split_45 rfl rfl ?_
  refine t_getA (o := 17) hG hT d_MD_split_46 f_MD_62 rfl rfl ?_
  refine zj_iload_n hG d_MD_split_49 rfl rfl ?_
  refine t_ald (k) hG hT d_MD_split_50 (by first | decide | omega) (by first | decide | omega) rfl (by show _ < 26; omega) ?_
  refine zj_i2l hG d_MD_split_51 ?_
  refine zj_iload_n hG d_MD_split_52 rfl rfl ?_
  refine zj_i2l hG d_MD_split_53 ?_
  rw [zu_a (by omega), a4]
  refine zj_callR (y' := m_MD_floor) hG (zcS (as := [_, _]) hG d_MD_split_54 c_MD_floor (z_w7 126 rfl) (z_w7 127 rfl) (z_w1 11 rfl) ⟨by decide, by decide⟩ (show _ = some 2 from by decide +kernel) rfl) c_MD_floor rfl (by omega) rfl (z_le rfl) (z_le rfl) (k_MD_floor hG _ _ ha' _) ?_
  refine zj_l2i hG d_MD_split_57 ?_
  refine t_ast (k) hG hT d_MD_split_58 (by first | decide | omega) (by first | decide | omega) rfl (by show _ < 26; omega) ?_
  refine zj_aload_n hG d_MD_split_59 rfl rfl ?_
  refine zj_iload_n hG d_MD_split_60 rfl rfl ?_
  refine zj_iload hG d_MD_split_61 rfl ?_
  refine zj_callR (y' := m_MD_besides) hG (zcS (as := [_, _]) hG d_MD_split_63 c_MD_besides (z_w7 129 rfl) (z_w7 130 rfl) (z_w1 11 rfl) ⟨by decide, by decide⟩ (show _ = some 2 from by decide +kernel) rfl) c_MD_besides rfl (by omega) rfl (z_le rfl) (z_le rfl) (k_MD_besides hG _ _ _) ?_
  refine zj_iconst (v := 0) hG d_MD_split_66 rfl ?_
  refine zj_iconst (v := 0) hG d_MD_split_67 rfl ?_
  refine zj_iload_n hG d_MD_split_68 rfl rfl ?_
  refine zj_iconst (v := 1) hG d_MD_split_69 rfl ?_
  refine zj_isub hG d_MD_split_70 ?_
  generalize hM : zu (zu N 16 k (tfl (eL T[k]).toInt64 a.toInt64).toInt32) 17 k (tfl (eH T[k]).toInt64 a.toInt64).toInt32 = M
  have fM : tFr pT N M := by
    rw [← hM]
    exact tFr.put (tFr.put tFr.rfl' rfl) rfl
  have tM : tTab M (T.set k (T[k].1, T[k].2.1, tqo (eL T[k]) a, tqo (eH T[k]) a, eR T[k], eT T[k])) := by
    have u := (hN.lo hk (tqo (eL T[k]) a)).hi (k := k) (by simpa using hk) (tqo (eH T[k]) a)
    rw [List.set_set] at u
    simp only [List.getElem_set_self] at u
    rw [← hM]
    exact u
  clear hM
  have sM : tSto M L := hS.fr fM (by intro o i e; simp [pS] at e; simp [pT]; omega)
  have kM : tWk M K := hK.fr fM (by intro o i e; simp [pK] at e; simp [pT]; omega)
  refine zj_callT (y' := m_MD_come) hG (zcP (as := [_, _, _, _]) hG d_MD_split_71 c_MD_come (z_w7 18 rfl) (z_w7 20 rfl) (z_w7 19 rfl) (z_w7 8 rfl) rfl ⟨by decide, by decide⟩ hT.1 (by decide) (by decide) (show _ = some 4 from by decide +kernel) rfl) c_MD_come rfl (by omega) rfl (z_le rfl) (z_le rfl) (k_MD_come hG hT tM sM (by simpa using h24) (by omega) _ _ _ _) (fun v71 N71 e71 => ?_)
  obtain ⟨r1, r2, r3, r4⟩ := e71
  rw [List.length_set] at r1
  subst r1
  have hmm : M 0 27 = N 0 27 := fM 0 27 rfl
  rw [hmm] at r2 r3
  have f71 : tFr pA N N71 := (fM.mono (by intro o i e; simp [pA] at e; exact e.1.1)).trans (r4.mono (by intro o i e; simp [pA] at e; simp [pTS]; exact e.1))
  have hm : N71 0 27 = N 0 27 := f71 0 27 rfl
  have k71 : tWk N71 K := kM.fr r4 (by intro o i e; simp [pK] at e; simp [pTS, pT, pS]; omega)
  have c71 : N71 0 28 = c := (r4 0 28 rfl).trans ((fM 0 28 rfl).trans hc)
  generalize hz : tnew (N 0 27) L (tbes p b) 0 0 (a - 1) = z at r2
  have hzr : eR z = [tnear 0 (a - 1)] := by rw [← hz]; rfl
  generalize hL1 : tnewL (N 0 27) L 0 0 (a - 1) = L1 at r3
  have hL1l : L1.length ≤ L.length + 1 := by rw [← hL1]; exact tnewL_len _ _ _ _ _
  have hkk : k < (T.set k (T[k].1, T[k].2.1, tqo (eL T[k]) a, tqo (eH T[k]) a, eR T[k], eT T[k]) ++ [z]).length := by simp; omega
  have hkr : T.length < (T.set k (T[k].1, T[k].2.1, tqo (eL T[k]) a, tqo (eH T[k]) a, eR T[k], eT T[k]) ++ [z]).length := by simp
  have hsp : ∀ m, m = N 0 27 → tsp (N 0 27) k T[k] x j p a b (T, L, K, c) = ((T.set k (T[k].1, T[k].2.1, tqo (eL T[k]) a, tqo (eH T[k]) a, (if m = 1 then [tqo ((eR T[k]).headD 0) a] else eR T[k]), (if m = 2 then (tspl L1 j x a).1 else eT T[k]))) ++ [(z.1, z.2.1, z.2.2.1, z.2.2.2.1, (if m = 1 then [tre ((eR T[k]).headD 0) a] else z.2.2.2.2.1), (if m = 2 then (tspl L1 j x a).2.1 else z.2.2.2.2.2))], (if m = 2 then (tspl L1 j x a).2.2 else L1), K, c) := by
    intro m hm
    subst hm
    rw [tsp]
    simp only [hz, hL1]
  rw [hsp _ rfl]
  clear hsp
  refine zj_istore hG d_MD_split_74 (by decide) rfl rfl ?_
  refine zj_aload_n hG d_MD_split_76 rfl rfl ?_
  refine t_getI hG hT d_MD_split_77 f_MD_118 rfl ?_
  refine zj_iconst (v := 1) hG d_MD_split_80 rfl ?_
  rw [hm]
  refine zj_icmp_ne (tgt := 132) hG d_MD_split_81 (by decide) (fun c81 => ?_) (fun c81 => ?_)
  · -- no rows
    simp only [if_neg c81]
    refine zj_aload_n hG d_MD_split_132 rfl rfl ?_
    refine t_getI hG hT d_MD_split_133 f_MD_118 rfl ?_
    refine zj_iconst (v := 2) hG d_MD_split_136 rfl ?_
    rw [hm]
    refine zj_icmp_eq (tgt := 141) hG d_MD_split_137 (by decide) (fun c137 => ?_) (fun c137 => ?_)
    · simp only [if_pos c137]
      obtain ⟨ht, hj⟩ := h2 c137
      have hj1 : L1[j]? = some x := by rw [← hL1]; exact tnewL_get hj
      have hjl := (List.getElem?_eq_some_iff.mp hj1).1
      obtain ⟨x1, x2, x3, x4, x5, x6⟩ := r3.2.2 j x hj1
      rw [ht]
      -- the end: both terms are written
      have fin : ∀ (M1 M2 : Nat → Nat → Int32) (t1 t2 : Int32) (L2 : List tQ) (st : List (Option zV)), tFr pS N71 M1 → tFr pS (zu M1 19 k t1) M2 → tSto M2 L2 → tX (zu M2 19 T.length t2) (T.set k (T[k].1, T[k].2.1, tqo (eL T[k]) a, tqo (eH T[k]) a, eR T[k], t1) ++ [(z.1, z.2.1, z.2.2.1, z.2.2.2.1, z.2.2.2.2.1, t2)], L2, K, c) ∧ tFr pA N (zu M2 19 T.length t2) := by
        intro M1 M2 t1 t2 L2 st g1 g2 g3
        have u1 : tTab M1 (T.set k (T[k].1, T[k].2.1, tqo (eL T[k]) a, tqo (eH T[k]) a, eR T[k], eT T[k]) ++ [z]) := r2.fr g1 (by intro o i e; simp [pT] at e; simp [pS]; omega)
        have u2 := u1.t hkk t1
        rw [sp_a hk, sp_c hk] at u2
        have u3 := u2.fr g2 (by intro o i e; simp [pT] at e; simp [pS]; omega)
        have u4 := u3.t (k := T.length) (by simp) t2
        rw [sp_b, sp_d] at u4
        have w1 : tFr pTS N71 (zu M2 19 T.length t2) := by
          refine tFr.put ?_ rfl
          exact (tFr.put (g1.mono (by intro o i e; simp [pTS] at e; exact e.2)) rfl).trans (g2.mono (by intro o i e; simp [pTS] at e; exact e.2))
        refine ⟨⟨u4, ?_, ?_, ?_⟩, f71.trans (w1.mono (by intro o i e; simp [pA] at e; simp [pTS]; exact e.1))⟩
        · exact g3.fr (P := pT) (tFr.put tFr.rfl' rfl) (by intro o i e; simp [pS] at e; simp [pT]; omega)
        · exact k71.fr w1 (by intro o i e; simp [pK] at e; simp [pTS, pT, pS]; omega)
        · exact (w1 0 28 rfl).trans c71
      have hnum := k_MD_isNumber (N := N71) hG hT (k := j) (by omega)
      rw [x1] at hnum
      refine zj_aload_n hG d_MD_split_141 rfl rfl ?_
      refine zj_iload hG d_MD_split_142 rfl ?_
      refine zj_callR (y' := m_MD_isNumber) hG (zcP (as := [_]) hG d_MD_split_144 c_MD_isNumber (z_w7 132 rfl) (z_w7 134 rfl) (z_w7 133 rfl) (z_w7 8 rfl) rfl ⟨by decide, by decide⟩ hT.1 (by decide) (by decide) (show _ = some 1 from by decide +kernel) rfl) c_MD_isNumber rfl (by omega) rfl (z_le rfl) (z_le rfl) hnum ?_
      refine zj_if_eq (tgt := 206) hG d_MD_split_147 (by decide) (fun c147 => ?_) (fun c147 => ?_)
      · have hn1 := tb_n c147
        have other : ¬ (x.1 = 7 ∧ x.2.2.2.1 = a) → ∀ w1 w2 : Option zV, zJ G 3 m_MD_split 259 [some (zA q), some (zI (nI k)), some (zI p), some (zI a), some (zI b), some (zI y), some (zI (nI j)), some (zI (nI T.length)), w1, w2] [] (twp q h N71) (fun o h' => ∃ N', o = zR0 ∧ h' = twp q h N' ∧ (tX N' (T.set k (T[k].1, T[k].2.1, tqo (eL T[k]) a, tqo (eH T[k]) a, eR T[k], (tspl L1 j x a).1) ++ [(z.1, z.2.1, z.2.2.1, z.2.2.2.1, z.2.2.2.2.1, (tspl L1 j x a).2.1)], (tspl L1 j x a).2.2, K, c) ∧ tFr pA N N')) := by
          intro hno w1 w2
          rw [tspl, if_neg hn1, if_neg hno]
          refine zj_aload_n hG d_MD_split_259 rfl rfl ?_
          refine t_getA (o := 19) hG hT d_MD_split_260 f_MD_68 rfl rfl ?_
          refine zj_iload_n hG d_MD_split_263 rfl rfl ?_
          refine zj_aload_n hG d_MD_split_264 rfl rfl ?_
          refine zj_iconst (v := 5) hG d_MD_split_265 rfl ?_
          refine zj_iload hG d_MD_split_266 rfl ?_
          refine zj_iload_n hG d_MD_split_268 rfl rfl ?_
          refine zj_iconst (v := 0) hG d_MD_split_269 rfl ?_
          refine zj_iconst (v := 0) hG d_MD_split_270 rfl ?_
          refine zj_iconst (v := 0) hG d_MD_split_271 rfl ?_
          refine zj_callT (y' := m_MD_known) hG (zcP (as := [_, _, _, _, _, _]) hG d_MD_split_272 c_MD_known (z_w7 29 rfl) (z_w7 31 rfl) (z_w7 30 rfl) (z_w7 8 rfl) rfl ⟨by decide, by decide⟩ hT.1 (by decide) (by decide) (show _ = some 6 from by decide +kernel) rfl) c_MD_known rfl (by omega) rfl (z_le rfl) (z_le rfl) (k_MD_known hG hT r3 (by omega) _ _ _ _ _ _) (fun v272 N272 e272 => ?_)
          obtain ⟨s1, s2, s3⟩ := e272
          have hs2 := tkn_len L1 (5, nI j, a, 0, 0, 0)
          refine t_ast (k) hG hT d_MD_split_275 (by first | decide | omega) (by first | decide | omega) rfl (by show _ < 26; omega) ?_
          refine zj_aload_n hG d_MD_split_276 rfl rfl ?_
          refine t_getA (o := 19) hG hT d_MD_split_277 f_MD_68 rfl rfl ?_
          refine zj_iload hG d_MD_split_280 rfl ?_
          refine zj_aload_n hG d_MD_split_282 rfl rfl ?_
          refine zj_bipush (v := 6) hG d_MD_split_283 rfl ?_
          refine zj_iload hG d_MD_split_285 rfl ?_
          refine zj_iload_n hG d_MD_split_287 rfl rfl ?_
          refine zj_iconst (v := 0) hG d_MD_split_288 rfl ?_
          refine zj_iconst (v := 0) hG d_MD_split_289 rfl ?_
          refine zj_iconst (v := 0) hG d_MD_split_290 rfl ?_
          refine zj_callT (y' := m_MD_known) hG (zcP (as := [_, _, _, _, _, _]) hG d_MD_split_291 c_MD_known (z_w7 29 rfl) (z_w7 31 rfl) (z_w7 30 rfl) (z_w7 8 rfl) rfl ⟨by decide, by decide⟩ hT.1 (by decide) (by decide) (show _ = some 6 from by decide +kernel) rfl) c_MD_known rfl (by omega) rfl (z_le rfl) (z_le rfl) (k_MD_known hG hT (s2.fr (P := pT) (tFr.put tFr.rfl' rfl) (by intro o i e; simp [pS] at e; simp [pT]; omega)) (by omega) _ _ _ _ _ _) (fun v291 N291 e291 => ?_)
          obtain ⟨s4, s5, s6⟩ := e291
          refine t_ast (T.length) hG hT d_MD_split_294 (by first | decide | omega) (by first | decide | omega) rfl (by show _ < 26; omega) ?_
          refine zj_vret hG d_MD_split_295 rfl ⟨_, rfl, rfl, ?_⟩
          subst s1
          subst s4
          exact fin N272 N291 _ _ _ [] s3 s6 s5
        refine zj_aload_n hG d_MD_split_206 rfl rfl ?_
        refine t_getA (o := 22) hG hT d_MD_split_207 f_MD_77 rfl rfl ?_
        refine zj_iload hG d_MD_split_210 rfl ?_
        refine t_ald (j) hG hT d_MD_split_212 (by first | decide | omega) (by first | decide | omega) rfl (by show _ < 1024; omega) ?_
        refine zj_bipush (v := 7) hG d_MD_split_213 rfl ?_
        rw [x1]
        refine zj_icmp_ne (tgt := 259) hG d_MD_split_215 (by decide) (fun c215 => ?_) (fun c215 => ?_)
        · exact other (fun g => c215 g.1) _ _
        refine zj_aload_n hG d_MD_split_218 rfl rfl ?_
        refine zj_iload hG d_MD_split_219 rfl ?_
        refine zj_iconst (v := 2) hG d_MD_split_221 rfl ?_
        refine zj_callR (y' := m_MD_argument) hG (zcP (as := [_, _]) hG d_MD_split_222 c_MD_argument (z_w7 136 rfl) (z_w7 138 rfl) (z_w7 137 rfl) (z_w7 8 rfl) rfl ⟨by decide, by decide⟩ hT.1 (by decide) (by decide) (show _ = some 2 from by decide +kernel) rfl) c_MD_argument rfl (by omega) rfl (z_le rfl) (z_le rfl) (k_MD_argument (j := 2) hG hT (k := j) (by omega)) ?_
        rw [x4]
        refine zj_iload_n hG d_MD_split_225 rfl rfl ?_
        refine zj_icmp_ne (tgt := 259) hG d_MD_split_226 (by decide) (fun c226 => ?_) (fun c226 => ?_)
        · exact other (fun g => c226 g.2) _ _
        rw [tspl, if_neg hn1, if_pos ⟨c215, c226⟩]
        refine zj_aload_n hG d_MD_split_229 rfl rfl ?_
        refine t_getA (o := 19) hG hT d_MD_split_230 f_MD_68 rfl rfl ?_
        refine zj_iload_n hG d_MD_split_233 rfl rfl ?_
        refine zj_aload_n hG d_MD_split_234 rfl rfl ?_
        refine zj_iload hG d_MD_split_235 rfl ?_
        refine zj_iconst (v := 0) hG d_MD_split_237 rfl ?_
        refine zj_callR (y' := m_MD_argument) hG (zcP (as := [_, _]) hG d_MD_split_238 c_MD_argument (z_w7 136 rfl) (z_w7 138 rfl) (z_w7 137 rfl) (z_w7 8 rfl) rfl ⟨by decide, by decide⟩ hT.1 (by decide) (by decide) (show _ = some 2 from by decide +kernel) rfl) c_MD_argument rfl (by omega) rfl (z_le rfl) (z_le rfl) (k_MD_argument (j := 0) hG hT (k := j) (by omega)) ?_
        rw [show 5 * j + 0 = 5 * j from rfl, x2]
        refine t_ast (k) hG hT d_MD_split_241 (by first | decide | omega) (by first | decide | omega) rfl (by show _ < 26; omega) ?_
        refine zj_aload_n hG d_MD_split_242 rfl rfl ?_
        refine t_getA (o := 19) hG hT d_MD_split_243 f_MD_68 rfl rfl ?_
        refine zj_iload hG d_MD_split_246 rfl ?_
        refine zj_aload_n hG d_MD_split_248 rfl rfl ?_
        refine zj_iload hG d_MD_split_249 rfl ?_
        refine zj_iconst (v := 1) hG d_MD_split_251 rfl ?_
        refine zj_callR (y' := m_MD_argument) hG (zcP (as := [_, _]) hG d_MD_split_252 c_MD_argument (z_w7 136 rfl) (z_w7 138 rfl) (z_w7 137 rfl) (z_w7 8 rfl) rfl ⟨by decide, by decide⟩ hT.1 (by decide) (by decide) (show _ = some 2 from by decide +kernel) rfl) c_MD_argument rfl (by omega) rfl (z_le rfl) (z_le rfl) (k_MD_argument (j := 1) hG hT (k := j) (by omega)) ?_
        rw [zu_a (show (23 : Nat) ≠ 19 by omega), x3]
        refine t_ast (T.length) hG hT d_MD_split_255 (by first | decide | omega) (by first | decide | omega) rfl (by show _ < 26; omega) ?_
        refine zj_goto (tgt := 295) hG d_MD_split_256 (by decide) ?_
        exact zj_vret hG d_MD_split_295 rfl ⟨_, rfl, rfl, fin N71 _ _ _ _ [] tFr.rfl' tFr.rfl' (r3.fr (P := pT) (tFr.put tFr.rfl' rfl) (by intro o i e; simp [pS] at e; simp [pT]; omega))⟩
      · have hn1 := tb_d c147
        rw [tspl, if_pos hn1]
        refine zj_aload_n hG d_MD_split_150 rfl rfl ?_
        refine zj_iload hG d_MD_split_151 rfl ?_
        refine zj_iconst (v := 0) hG d_MD_split_153 rfl ?_
        refine zj_callR (y' := m_MD_argument) hG (zcP (as := [_, _]) hG d_MD_split_154 c_MD_argument (z_w7 136 rfl) (z_w7 138 rfl) (z_w7 137 rfl) (z_w7 8 rfl) rfl ⟨by decide, by decide⟩ hT.1 (by decide) (by decide) (show _ = some 2 from by decide +kernel) rfl) c_MD_argument rfl (by omega) rfl (z_le rfl) (z_le rfl) (k_MD_argument (j := 0) hG hT (k := j) (by omega)) ?_
        rw [show 5 * j + 0 = 5 * j from rfl, x2]
        refine zj_i2l hG d_MD_split_157 ?_
        refine zj_lstore hG d_MD_split_158 (by decide) rfl rfl ?_
        refine zj_aload_n hG d_MD_split_160 rfl rfl ?_
        refine t_getA (o := 19) hG hT d_MD_split_161 f_MD_68 rfl rfl ?_
        refine zj_iload_n hG d_MD_split_164 rfl rfl ?_
        refine zj_aload_n hG d_MD_split_165 rfl rfl ?_
        refine zj_lload hG d_MD_split_166 rfl ?_
        refine zj_iload_n hG d_MD_split_168 rfl rfl ?_
        refine zj_i2l hG d_MD_split_169 ?_
        refine zj_callR (y' := m_MD_floor) hG (zcS (as := [_, _]) hG d_MD_split_170 c_MD_floor (z_w7 126 rfl) (z_w7 127 rfl) (z_w1 11 rfl) ⟨by decide, by decide⟩ (show _ = some 2 from by decide +kernel) rfl) c_MD_floor rfl (by omega) rfl (z_le rfl) (z_le rfl) (k_MD_floor hG _ _ ha' _) ?_
        refine zj_l2i hG d_MD_split_173 ?_
        refine zj_callT (y' := m_MD_number) hG (zcP (as := [_]) hG d_MD_split_174 c_MD_number (z_w7 25 rfl) (z_w7 27 rfl) (z_w7 26 rfl) (z_w7 8 rfl) rfl ⟨by decide, by decide⟩ hT.1 (by decide) (by decide) (show _ = some 1 from by decide +kernel) rfl) c_MD_number rfl (by omega) rfl (z_le rfl) (z_le rfl) (k_MD_number hG hT r3 (by omega) _) (fun v174 N174 e174 => ?_)
        obtain ⟨s1, s2, s3⟩ := e174
        have hs2 := tkn_len L1 (1, (tfl x.2.1.toInt64 a.toInt64).toInt32, 0, 0, 0, 0)
        refine t_ast (k) hG hT d_MD_split_177 (by first | decide | omega) (by first | decide | omega) rfl (by show _ < 26; omega) ?_
        refine zj_aload_n hG d_MD_split_178 rfl rfl ?_
        refine t_getA (o := 19) hG hT d_MD_split_179 f_MD_68 rfl rfl ?_
        refine zj_iload hG d_MD_split_182 rfl ?_
        refine zj_aload_n hG d_MD_split_184 rfl rfl ?_
        refine zj_lload hG d_MD_split_185 rfl ?_
        refine zj_iload_n hG d_MD_split_187 rfl rfl ?_
        refine zj_i2l hG d_MD_split_188 ?_
        refine zj_lload hG d_MD_split_189 rfl ?_
        refine zj_iload_n hG d_MD_split_191 rfl rfl ?_
        refine zj_i2l hG d_MD_split_192 ?_
        refine zj_callR (y' := m_MD_floor) hG (zcS (as := [_, _]) hG d_MD_split_193 c_MD_floor (z_w7 126 rfl) (z_w7 127 rfl) (z_w1 11 rfl) ⟨by decide, by decide⟩ (show _ = some 2 from by decide +kernel) rfl) c_MD_floor rfl (by omega) rfl (z_le rfl) (z_le rfl) (k_MD_floor hG _ _ ha' _) ?_
        refine zj_lmul hG d_MD_split_196 ?_
        refine zj_lsub hG d_MD_split_197 ?_
        refine zj_l2i hG d_MD_split_198 ?_
        refine zj_callT (y' := m_MD_number) hG (zcP (as := [_]) hG d_MD_split_199 c_MD_number (z_w7 25 rfl) (z_w7 27 rfl) (z_w7 26 rfl) (z_w7 8 rfl) rfl ⟨by decide, by decide⟩ hT.1 (by decide) (by decide) (show _ = some 1 from by decide +kernel) rfl) c_MD_number rfl (by omega) rfl (z_le rfl) (z_le rfl) (k_MD_number hG hT (s2.fr (P := pT) (tFr.put tFr.rfl' rfl) (by intro o i e; simp [pS] at e; simp [pT]; omega)) (by omega) _) (fun v199 N199 e199 => ?_)
        obtain ⟨s4, s5, s6⟩ := e199
        refine t_ast (T.length) hG hT d_MD_split_202 (by first | decide | omega) (by first | decide | omega) rfl (by show _ < 26; omega) ?_
        refine zj_goto (tgt := 295) hG d_MD_split_203 (by decide) ?_
        refine zj_vret hG d_MD_split_295 rfl ⟨_, rfl, rfl, ?_⟩
        subst s1
        subst s4
        exact fin N174 N199 _ _ _ [] s3 s6 s5
    · simp only [if_neg c137]
      refine zj_vret hG d_MD_split_140 rfl ⟨_, rfl, rfl, ⟨r2, r3, k71, c71⟩, f71⟩
  · have c812 : ¬ N 0 27 = 2 := by rw [c81]; decide
    obtain ⟨y', hy'⟩ := h1 c81
    rw [hy'] at a5
    have hyy : y' = y := by rw [← hy]; exact a5.one.symm
    subst hyy
    simp only [if_pos c81, if_neg c812, hy', List.headD_cons]
    refine zj_aload_n hG d_MD_split_84 rfl rfl ?_
    refine t_getA (o := 18) hG hT d_MD_split_85 f_MD_65 rfl rfl ?_
    refine zj_bipush (v := 7) hG d_MD_split_88 rfl ?_
    refine zj_iload_n hG d_MD_split_90 rfl rfl ?_
    refine zj_imul hG d_MD_split_91 ?_
    refine zj_iconst (v := 1) hG d_MD_split_92 rfl ?_
    refine zj_iadd hG d_MD_split_93 ?_
    refine zj_iload hG d_MD_split_94 rfl ?_
    refine zj_i2l hG d_MD_split_96 ?_
    refine zj_iload_n hG d_MD_split_97 rfl rfl ?_
    refine zj_i2l hG d_MD_split_98 ?_
    refine zj_callR (y' := m_MD_floor) hG (zcS (as := [_, _]) hG d_MD_split_99 c_MD_floor (z_w7 126 rfl) (z_w7 127 rfl) (z_w1 11 rfl) ⟨by decide, by decide⟩ (show _ = some 2 from by decide +kernel) rfl) c_MD_floor rfl (by omega) rfl (z_le rfl) (z_le rfl) (k_MD_floor hG _ _ ha' _) ?_
    refine zj_l2i hG d_MD_split_102 ?_
    refine t_ast (7 * k + 1) hG hT d_MD_split_103 (by first | decide | omega) (by first | decide | omega) (by rw [nI_7, nI_1]) (by show _ < 182; omega) ?_
    refine zj_aload_n hG d_MD_split_104 rfl rfl ?_
    refine t_getA (o := 18) hG hT d_MD_split_105 f_MD_65 rfl rfl ?_
    refine zj_bipush (v := 7) hG d_MD_split_108 rfl ?_
    refine zj_iload hG d_MD_split_110 rfl ?_
    refine zj_imul hG d_MD_split_112 ?_
    refine zj_iconst (v := 1) hG d_MD_split_113 rfl ?_
    refine zj_iadd hG d_MD_split_114 ?_
    refine zj_iload hG d_MD_split_115 rfl ?_
    refine zj_i2l hG d_MD_split_117 ?_
    refine zj_iload_n hG d_MD_split_118 rfl rfl ?_
    refine zj_i2l hG d_MD_split_119 ?_
    refine zj_iload hG d_MD_split_120 rfl ?_
    refine zj_i2l hG d_MD_split_122 ?_
    refine zj_iload_n hG d_MD_split_123 rfl rfl ?_
    refine zj_i2l hG d_MD_split_124 ?_
    refine zj_callR (y' := m_MD_floor) hG (zcS (as := [_, _]) hG d_MD_split_125 c_MD_floor (z_w7 126 rfl) (z_w7 127 rfl) (z_w1 11 rfl) ⟨by decide, by decide⟩ (show _ = some 2 from by decide +kernel) rfl) c_MD_floor rfl (by omega) rfl (z_le rfl) (z_le rfl) (k_MD_floor hG _ _ ha' _) ?_
    refine zj_lmul hG d_MD_split_128 ?_
    refine zj_lsub hG d_MD_split_129 ?_
    refine zj_l2i hG d_MD_split_130 ?_
    refine t_ast (7 * T.length + 1) hG hT d_MD_split_131 (by first | decide | omega) (by first | decide | omega) (by rw [nI_7, nI_1]) (by show _ < 182; omega) ?_
    refine zj_aload_n hG d_MD_split_132 rfl rfl ?_
    refine t_getI hG hT d_MD_split_133 f_MD_118 rfl ?_
    refine zj_iconst (v := 2) hG d_MD_split_136 rfl ?_
    rw [zu_a (by omega), zu_a (by omega), hm]
    refine zj_icmp_eq (tgt := 141) hG d_MD_split_137 (by decide) (fun c137 => ?_) (fun c137 => ?_)
    · exact absurd c137 c812
    have b5 := (r2.at hkk).2.2.2.2.1
    rw [sp_c hk] at b5
    have b6 := (r2.at hkr).2.2.2.2.1
    rw [sp_d, hzr] at b6
    simp only [hy'] at b5
    have u1 := r2.r (N' := zu N71 18 (7 * k + 1) (tqo y' a)) (l := [tqo y' a]) hkk (fun o i _ g => if_neg (by omega)) (tRow.of1 (by rw [zu_k (by omega)]; exact b5.1) zu_s)
    rw [sp_a hk, sp_c hk] at u1
    have b7 : tRow (zu N71 18 (7 * k + 1) (tqo y' a)) 18 (7 * T.length) [tnear 0 (a - 1)] := b6.fr (fun i _ _ => zu_k (by omega))
    have u2 := u1.r (k := T.length) (N' := zu (zu N71 18 (7 * k + 1) (tqo y' a)) 18 (7 * T.length + 1) (tre y' a)) (l := [tre y' a]) (by simp) (fun o i _ g => if_neg (by omega)) (tRow.of1 (by rw [zu_k (by omega)]; exact b7.1) zu_s)
    rw [sp_b, sp_d] at u2
    have w1 : tFr pT N71 (zu (zu N71 18 (7 * k + 1) (tqo y' a)) 18 (7 * T.length + 1) (tre y' a)) := tFr.put (tFr.put tFr.rfl' rfl) rfl
    refine zj_vret hG d_MD_split_140 rfl ⟨_, rfl, rfl, ⟨u2, r3.fr w1 (by intro o i e; simp [pS] at e; simp [pT]; omega), k71.fr w1 (by intro o i e; simp [pK] at e; simp [pT]; omega), (w1 0 28 rfl).trans c71⟩, f71.trans (w1.mono (by intro o i e; simp [pA] at e; exact e.1.1))⟩
end MD9
