/-! PART 30: the reference: counting, leaving, beginning -/
def oFree (W : sW) : Option Nat := ((List.range 16).map (fun j => (wR W j).isNone)).findIdx? (fun b => b)
theorem oFree_s {W : sW} {k : Nat} (hk : k < 16) (h1 : wR W k = none) (h2 : ∀ j, j < k → (wR W j).isSome = true) : oFree W = some k := by
  rw [oFree, List.findIdx?_eq_some_iff_getElem]
  refine ⟨by simpa using hk, by simp [h1], fun j hj => ?_⟩
  have := h2 j hj
  simp only [List.getElem_map, List.getElem_range]
  cases hw : wR W j with
  | none =>
    rw [hw] at this
    cases this
  | some r => simp
theorem oFree_n {W : sW} (h2 : ∀ j, j < 16 → (wR W j).isSome = true) : oFree W = none := by
  rw [oFree, List.findIdx?_eq_none_iff]
  intro b hb
  simp only [List.mem_map, List.mem_range] at hb
  obtain ⟨j, hj, rfl⟩ := hb
  have := h2 j hj
  simp [this]
theorem oFree_lt {W : sW} {k : Nat} (h : oFree W = some k) : k < 16 ∧ wR W k = none := by
  rw [oFree, List.findIdx?_eq_some_iff_getElem] at h
  obtain ⟨h1, h2, -⟩ := h
  have : k < 16 := by simpa using h1
  exact ⟨this, by simpa using h2⟩
section MD17
variable {G : zG} {q : Nat} {h : zH} {N : Nat → Nat → Int32} {W : sW}
set_option maxRecDepth 4000 in
theorem k_MD_freeL (hG : zOK G) (hT : twOK q h) (hW : tW N W) : ∀ (n k : Nat), k + n = 16 → (∀ j, j < k → (wR W j).isSome = true) → zJ G 0 m_MD_free 2 [some (zA q), some (zI (nI k))] [] (twp q h N) (fun o h' => o = zR (zI (tfi (oFree W))) ∧ h' = twp q h N) := by
  intro n
  induction n with
  | zero =>
    intro k hk hs
    have : k = 16 := by omega
    subst this
    rw [oFree_n hs]
    refine zj_iload_n hG d_MD_free_2 rfl rfl ?_
    refine zj_bipush (v := 16) hG d_MD_free_3 rfl ?_
    refine zj_icmp_ge (tgt := 25) hG d_MD_free_5 (by decide) (fun _ => ?_) (fun c => absurd (by decide) c)
    refine zj_iconst (v := -1) hG d_MD_free_25 rfl ?_
    exact zj_iret hG d_MD_free_26 rfl rfl ⟨rfl, rfl⟩
  | succ n ih =>
    intro k hk hs
    have hr := hW.2.2.2.2.2.2.2 k (by omega)
    have hn := tRo_neg hr hW.1.2.2
    refine zj_iload_n hG d_MD_free_2 rfl rfl ?_
    refine zj_bipush (v := 16) hG d_MD_free_3 rfl ?_
    refine zj_icmp_ge (tgt := 25) hG d_MD_free_5 (by decide) (fun c => absurd c (nI_ge (a := k) (b := 16) (by omega) (by omega))) (fun _ => ?_)
    refine zj_aload_n hG d_MD_free_8 rfl rfl ?_
    refine t_getA (o := 10) hG hT d_MD_free_9 f_MD_41 rfl rfl ?_
    refine zj_iload_n hG d_MD_free_12 rfl rfl ?_
    refine t_ald (k) hG hT d_MD_free_13 (by first | decide | omega) (by first | decide | omega) rfl (by show _ < 16; omega) ?_
    refine zj_if_ge (tgt := 19) hG d_MD_free_14 (by decide) (fun c14 => ?_) (fun c14 => ?_)
    · refine zj_iinc hG d_MD_free_19 rfl (nI_1 k) (by decide) rfl rfl ?_
      refine zj_goto (tgt := 2) hG d_MD_free_22 (by decide) ?_
      refine ih (k + 1) (by omega) (fun j hj => ?_)
      rcases Nat.lt_or_ge j k with g | g
      · exact hs j g
      · have : j = k := by omega
        subst this
        cases hw : wR W j with
        | none => exact absurd c14 (Int32.not_le.mpr (hn.mpr hw))
        | some r => rfl
    · rw [oFree_s (by omega) (hn.mp (Int32.not_le.mp c14)) hs]
      refine zj_iload_n hG d_MD_free_17 rfl rfl ?_
      exact zj_iret hG d_MD_free_18 rfl rfl ⟨rfl, rfl⟩
theorem k_MD_free (hG : zOK G) (hT : twOK q h) (hW : tW N W) : zJ G 0 m_MD_free 0 [some (zA q), none] [] (twp q h N) (fun o h' => o = zR (zI (tfi (oFree W))) ∧ h' = twp q h N) := by
  refine zj_iconst (v := 0) hG d_MD_free_0 rfl ?_
  refine zj_istore_n hG d_MD_free_1 rfl (by decide) rfl rfl ?_
  exact k_MD_freeL hG hT hW 16 0 (by omega) (fun j hj => by omega)
/-- the step under way, and whether it has begun, are changed -/
theorem tA.un {N' : Nat → Nat → Int32} (hA : tA N W) {B : Bool} {U : Option (Nat × List tPm)} (g : ∀ o i, ¬ (o = 0 ∧ (i = 0 ∨ i = 7 ∨ i = 13)) → ¬ (o = 6 ∧ i = (wS W).length) → ¬ (o = 8 ∧ i = (wS W).length) → ¬ (o = 9 ∧ 64 * (wS W).length ≤ i) → N' o i = N o i) (h7 : N' 0 7 = tb B) (h13 : N' 0 13 = tb U.isSome) (hu : ∀ u, U = some u → tUn N' (wS W).length u) : tA N' (wV W, B, wS W, U, wR W) := by
  obtain ⟨hW, X, hX, hX2⟩ := hA
  have hW' := hW
  obtain ⟨⟨a1, a2, a3⟩, b, c, ⟨d1, d2⟩, e, u, v, w⟩ := hW'
  refine ⟨⟨⟨(g 0 1 (by omega) (by omega) (by omega) (by omega)).trans a1, a2, a3⟩, fun i z hz => (b i z hz).fr (P := fun o i => !(pV o i)) (fun o i e => g o i (by simp [pV] at e; omega) (by simp [pV] at e; omega) (by simp [pV] at e; omega) (by simp [pV] at e; omega)) (fun o i e => by simp [e]), h7, ⟨(g 0 8 (by omega) (by omega) (by omega) (by omega)).trans d1, d2⟩, fun s z hz => ?_, h13, hu, fun j hj => ?_⟩, X, ?_, hX2⟩
  · have hs := (List.getElem?_eq_some_iff.mp hz).1
    have hs' : s < (wS W).length := hs
    obtain ⟨e1, e2, e3, e4, e5⟩ := e s z hz
    refine ⟨(g 6 s (by omega) (by omega) (by omega) (by omega)).trans e1, (g 7 s (by omega) (by omega) (by omega) (by omega)).trans e2, (g 8 s (by omega) (by omega) (by omega) (by omega)).trans e3, e4, fun i p hp => ?_⟩
    have hi := (List.getElem?_eq_some_iff.mp hp).1
    obtain ⟨q0, q1, q2, q3, q5, q6, q7⟩ := e5 i p hp
    exact ⟨(g 9 _ (by omega) (by omega) (by omega) (by omega)).trans q0, (g 9 _ (by omega) (by omega) (by omega) (by omega)).trans q1, (g 9 _ (by omega) (by omega) (by omega) (by omega)).trans q2, (g 9 _ (by omega) (by omega) (by omega) (by omega)).trans q3, (g 9 _ (by omega) (by omega) (by omega) (by omega)).trans q5, (g 9 _ (by omega) (by omega) (by omega) (by omega)).trans q6, (g 9 _ (by omega) (by omega) (by omega) (by omega)).trans q7⟩
  · have := w j hj
    cases hr : wR W j with
    | none =>
      rw [hr] at this
      exact (g 10 j (by omega) (by omega) (by omega) (by omega)).trans this
    | some r =>
      rw [hr] at this
      exact tRc.fr this (g 10 j (by omega) (by omega) (by omega) (by omega)) (fun i _ _ => g 11 i (by omega) (by omega) (by omega) (by omega)) (fun i _ _ => g 12 i (by omega) (by omega) (by omega) (by omega)) (fun i _ _ => g 13 i (by omega) (by omega) (by omega) (by omega)) (hW.len hj hr)
  · exact hX.fr2 (P := fun o i => o == 6 || o == 8 || o == 9 || (o == 0 && (i == 0 || i == 7 || i == 13))) (fun o i e => g o i (by simp at e; omega) (by simp at e; omega) (by simp at e; omega) (by simp at e; omega)) (by intro o i e; simp [pA, pT, pS, pW] at e; simp; omega)
def oLeave (W : sW) : sW := (wV W, wB W, wS W, none, wR W)
set_option maxRecDepth 4000 in
theorem k_MD_leave (hG : zOK G) (hT : twOK q h) (hA : tA N W) : zJ G 0 m_MD_leave 0 [some (zA q), none] [] (twp q h N) (fun o h' => ∃ v N', o = zR (zI v) ∧ h' = twp q h N' ∧ (v = tb (wU W).isSome ∧ tA N' (oLeave W))) := by
  have hW := hA.1
  have hu := hW.2.2.2.2.2.1
  have hb := hW.2.2.1
  refine zj_aload_n hG d_MD_leave_0 rfl rfl ?_
  refine zj_iconst (v := 0) hG d_MD_leave_1 rfl ?_
  refine t_putI hG hT d_MD_leave_2 f_MD_101 rfl rfl ?_
  refine zj_aload_n hG d_MD_leave_5 rfl rfl ?_
  refine t_getI hG hT d_MD_leave_6 f_MD_257 rfl ?_
  rw [zu_k (by omega), hu]
  refine zj_istore_n hG d_MD_leave_9 rfl (by decide) rfl rfl ?_
  refine zj_aload_n hG d_MD_leave_10 rfl rfl ?_
  refine zj_iconst (v := 0) hG d_MD_leave_11 rfl ?_
  refine t_putZ hG hT d_MD_leave_12 f_MD_257 rfl rfl (by simp) ?_
  refine zj_iload_n hG d_MD_leave_15 rfl rfl ?_
  refine zj_iret hG d_MD_leave_16 rfl ?_ ⟨_, _, rfl, rfl, rfl, hA.un (U := none) (B := wB W) (fun o i g1 _ _ _ => by rw [zu, if_neg (by omega), zu, if_neg (by omega)]) ?_ zu_s (fun u e => by cases e)⟩
  · cases (wU W).isSome <;> rfl
  · rw [zu_k (by omega), zu_k (by omega)]
    exact hb
def oBegin (W : sW) (v : Int32) : Int32 × sW := if oVer W v = true then (if (wU W).isSome = true then (2, W) else (0, (wV W, true, wS W, some (v.toNatClampNeg, []), wR W))) else (1, W)
theorem oVer_n {W : sW} {v : Int32} (h8 : (wV W).length ≤ 8) (h : oVer W v = true) : ∃ n, n < (wV W).length ∧ v = nI n := by
  simp only [oVer, decide_eq_true_eq] at h
  rcases pk_ix v (n := (wV W).length) (by omega) with e | e | e
  · exact absurd h.1 (Int32.not_le.mpr e)
  · exact absurd h.2 (Int32.not_lt.mpr e)
  · exact e
set_option maxRecDepth 4000 in
theorem k_MD_begin (hG : zOK G) (hT : twOK q h) (hA : tA N W) (v : Int32) : zJ G 1 m_MD_begin 0 [some (zA q), some (zI v)] [] (twp q h N) (fun o h' => ∃ N', o = zR0 ∧ h' = twp q h N' ∧ (N' 0 0 = (oBegin W v).1 ∧ tA N' (oBegin W v).2)) := by
  have hW := hA.1
  have hu := hW.2.2.2.2.2.1
  have hs := hW.2.2.2.1.1
  have hs16 := hW.2.2.2.1.2
  rw [oBegin]
  refine zj_aload_n hG d_MD_begin_0 rfl rfl ?_
  refine zj_aload_n hG d_MD_begin_1 rfl rfl ?_
  refine zj_iload_n hG d_MD_begin_2 rfl rfl ?_
  refine zj_callR (y' := m_MD_isVersion) hG (zcP (as := [_]) hG d_MD_begin_3 c_MD_isVersion (z_w7 62 rfl) (z_w7 64 rfl) (z_w7 63 rfl) (z_w7 8 rfl) rfl ⟨by decide, by decide⟩ hT.1 (by decide) (by decide) (show _ = some 1 from by decide +kernel) rfl) c_MD_isVersion rfl (by omega) rfl (z_le rfl) (z_le rfl) (k_MD_isVersion hG hT hW v) ?_
  refine zj_if_ne (tgt := 13) hG d_MD_begin_6 (by decide) (fun c6 => ?_) (fun c6 => ?_)
  · have hv := tb_t c6
    rw [if_pos hv]
    obtain ⟨n, hn, rfl⟩ := oVer_n hW.1.2.2 hv
    have h8 := hW.1.2.2
    refine zj_aload_n hG d_MD_begin_13 rfl rfl ?_
    refine t_getI hG hT d_MD_begin_14 f_MD_257 rfl ?_
    rw [hu]
    refine zj_if_eq (tgt := 24) hG d_MD_begin_17 (by decide) (fun c17 => ?_) (fun c17 => ?_)
    · have hu0 := tb_f c17
      rw [if_neg (by rw [hu0]; decide)]
      refine zj_iconst (v := 0) hG d_MD_begin_24 rfl ?_
      refine t_putI hG hT d_MD_begin_25 f_MD_101 rfl rfl ?_
      refine zj_aload_n hG d_MD_begin_28 rfl rfl ?_
      refine t_getI hG hT d_MD_begin_29 f_MD_101 rfl ?_
      rw [zu_s]
      refine zj_if_le (tgt := 36) hG d_MD_begin_32 (by decide) (fun _ => ?_) (fun c => absurd (by decide) c)
      refine zj_aload_n hG d_MD_begin_36 rfl rfl ?_
      refine zj_iconst (v := 1) hG d_MD_begin_37 rfl ?_
      refine t_putZ hG hT d_MD_begin_38 f_MD_257 rfl rfl (Or.inr rfl) ?_
      refine zj_aload_n hG d_MD_begin_41 rfl rfl ?_
      refine zj_iconst (v := 1) hG d_MD_begin_42 rfl ?_
      refine t_putZ hG hT d_MD_begin_43 f_MD_234 rfl rfl (Or.inr rfl) ?_
      refine zj_aload_n hG d_MD_begin_46 rfl rfl ?_
      refine t_getA (o := 6) hG hT d_MD_begin_47 f_MD_29 rfl rfl ?_
      refine zj_aload_n hG d_MD_begin_50 rfl rfl ?_
      refine t_getI hG hT d_MD_begin_51 f_MD_260 rfl ?_
      refine zj_iload_n hG d_MD_begin_54 rfl rfl ?_
      refine t_ast ((wS W).length) hG hT d_MD_begin_55 (by first | decide | omega) (by first | decide | omega) (by rw [zu_k (by omega), zu_k (by omega), zu_k (by omega), hs]) (by show _ < 17; omega) ?_
      refine zj_aload_n hG d_MD_begin_56 rfl rfl ?_
      refine t_getA (o := 8) hG hT d_MD_begin_57 f_MD_35 rfl rfl ?_
      refine zj_aload_n hG d_MD_begin_60 rfl rfl ?_
      refine t_getI hG hT d_MD_begin_61 f_MD_260 rfl ?_
      refine zj_iconst (v := 0) hG d_MD_begin_64 rfl ?_
      refine t_ast ((wS W).length) hG hT d_MD_begin_65 (by first | decide | omega) (by first | decide | omega) (by rw [zu_a (by omega), zu_k (by omega), zu_k (by omega), zu_k (by omega), hs]) (by show _ < 17; omega) ?_
      rw [nI_clamp (by omega)]
      refine zj_vret hG d_MD_begin_66 rfl ⟨_, rfl, rfl, by simp [zu], hA.un (B := true) (U := some (n, [])) (fun o i g1 g2 g3 _ => ?_) (by simp [zu]; rfl) (by simp [zu]; rfl) (fun u e => ?_)⟩
      · simp only [zu]
        repeat rw [if_neg (by omega)]
      · cases e
        refine ⟨by simp [zu], by simp [zu]; rfl, by simp, fun i p hp => by simp at hp⟩
    · have hu1 := tb_t c17
      rw [if_pos hu1]
      refine zj_iconst (v := 2) hG d_MD_begin_20 rfl ?_
      refine zj_goto (tgt := 25) hG d_MD_begin_21 (by decide) ?_
      refine t_putI hG hT d_MD_begin_25 f_MD_101 rfl rfl ?_
      refine zj_aload_n hG d_MD_begin_28 rfl rfl ?_
      refine t_getI hG hT d_MD_begin_29 f_MD_101 rfl ?_
      rw [zu_s]
      refine zj_if_le (tgt := 36) hG d_MD_begin_32 (by decide) (fun c => absurd c (by decide)) (fun _ => ?_)
      exact zj_vret hG d_MD_begin_35 rfl ⟨_, rfl, rfl, zu_s, hA.th 2⟩
  · have hv := tb_f c6
    rw [if_neg (by rw [hv]; decide)]
    refine zj_iconst (v := 1) hG d_MD_begin_9 rfl ?_
    refine zj_goto (tgt := 25) hG d_MD_begin_10 (by decide) ?_
    refine t_putI hG hT d_MD_begin_25 f_MD_101 rfl rfl ?_
    refine zj_aload_n hG d_MD_begin_28 rfl rfl ?_
    refine t_getI hG hT d_MD_begin_29 f_MD_101 rfl ?_
    rw [zu_s]
    refine zj_if_le (tgt := 36) hG d_MD_begin_32 (by decide) (fun c => absurd c (by decide)) (fun _ => ?_)
    exact zj_vret hG d_MD_begin_35 rfl ⟨_, rfl, rfl, zu_s, hA.th 1⟩
/-- how many records there are -/
def oRecs (W : sW) (n : Nat) : Nat := (List.range n).countP (fun j => (wR W j).isSome)
theorem oRecs_s (W : sW) (n : Nat) : oRecs W (n + 1) = oRecs W n + (if (wR W n).isSome = true then 1 else 0) := by
  unfold oRecs
  rw [List.range_succ, List.countP_append, List.countP_singleton]
def oCount (W : sW) (x : Int32) : Int32 × Int32 := if x < 0 ∨ 3 < x then (1, 0) else (0, if x = 0 then nI (wV W).length else if x = 1 then nI (wS W).length else if x = 2 then nI (oRecs W 16) else match wU W with
  | none => -1
  | some u => nI u.2.length)
set_option maxRecDepth 4000 in
theorem k_MD_countL (hG : zOK G) (hT : twOK q h) (hW : tW N W) (x : Int32) {Q : zO → zH → Prop} (nx : ∀ w, zJ G 0 m_MD_count 60 [some (zA q), some (zI x), some (zI (nI (oRecs W 16))), some w] [] (twp q h N) Q) : ∀ (n k : Nat), k + n = 16 → zJ G 0 m_MD_count 31 [some (zA q), some (zI x), some (zI (nI (oRecs W k))), some (zI (nI k))] [] (twp q h N) Q := by
  intro n
  induction n with
  | zero =>
    intro k hk
    have : k = 16 := by omega
    subst this
    refine zj_iload_n hG d_MD_count_31 rfl rfl ?_
    refine zj_bipush (v := 16) hG d_MD_count_32 rfl ?_
    refine zj_icmp_ge (tgt := 60) hG d_MD_count_34 (by decide) (fun _ => ?_) (fun c => absurd (by decide) c)
    exact nx _
  | succ n ih =>
    intro k hk
    have hr := hW.2.2.2.2.2.2.2 k (by omega)
    have hn := tRo_neg hr hW.1.2.2
    have := oRecs_s W k
    refine zj_iload_n hG d_MD_count_31 rfl rfl ?_
    refine zj_bipush (v := 16) hG d_MD_count_32 rfl ?_
    refine zj_icmp_ge (tgt := 60) hG d_MD_count_34 (by decide) (fun c => absurd c (nI_ge (a := k) (b := 16) (by omega) (by omega))) (fun _ => ?_)
    refine zj_aload_n hG d_MD_count_37 rfl rfl ?_
    refine t_getA (o := 10) hG hT d_MD_count_38 f_MD_41 rfl rfl ?_
    refine zj_iload_n hG d_MD_count_41 rfl rfl ?_
    refine t_ald (k) hG hT d_MD_count_42 (by first | decide | omega) (by first | decide | omega) rfl (by show _ < 16; omega) ?_
    refine zj_if_lt (tgt := 52) hG d_MD_count_43 (by decide) (fun c43 => ?_) (fun c43 => ?_)
    · rw [hn.mp c43] at this
      refine zj_iload_n hG d_MD_count_52 rfl rfl ?_
      refine zj_istore_n hG d_MD_count_53 rfl (by decide) rfl rfl ?_
      refine zj_iinc hG d_MD_count_54 rfl (nI_1 k) (by decide) rfl rfl ?_
      refine zj_goto (tgt := 31) hG d_MD_count_57 (by decide) ?_
      have i := ih (k + 1) (by omega)
      rw [this] at i
      exact i
    · have hs : (wR W k).isSome = true := by
        cases hw : wR W k with
        | none => exact absurd (hn.mpr hw) c43
        | some r => rfl
      rw [hs] at this
      refine zj_iload_n hG d_MD_count_46 rfl rfl ?_
      refine zj_iconst (v := 1) hG d_MD_count_47 rfl ?_
      refine zj_iadd hG d_MD_count_48 ?_
      refine zj_goto (tgt := 53) hG d_MD_count_49 (by decide) ?_
      rw [nI_1]
      refine zj_istore_n hG d_MD_count_53 rfl (by decide) rfl rfl ?_
      refine zj_iinc hG d_MD_count_54 rfl (nI_1 k) (by decide) rfl rfl ?_
      refine zj_goto (tgt := 31) hG d_MD_count_57 (by decide) ?_
      have i := ih (k + 1) (by omega)
      rw [this] at i
      exact i
set_option maxRecDepth 4000 in
theorem k_MD_count (hG : zOK G) (hT : twOK q h) (hA : tA N W) (x : Int32) : zJ G 0 m_MD_count 0 [some (zA q), some (zI x), none, none] [] (twp q h N) (fun o h' => ∃ v N', o = zR (zI v) ∧ h' = twp q h N' ∧ (N' 0 0 = (oCount W x).1 ∧ v = (oCount W x).2 ∧ tA N' W)) := by
  have bad : (x < 0 ∨ 3 < x) → zJ G 0 m_MD_count 10 [some (zA q), some (zI x), none, none] [zA q] (twp q h N) (fun o h' => ∃ v N', o = zR (zI v) ∧ h' = twp q h N' ∧ (N' 0 0 = (oCount W x).1 ∧ v = (oCount W x).2 ∧ tA N' W)) := by
    intro g
    rw [oCount, if_pos g]
    refine zj_iconst (v := 1) hG d_MD_count_10 rfl ?_
    refine zj_goto (tgt := 15) hG d_MD_count_11 (by decide) ?_
    refine t_putI hG hT d_MD_count_15 f_MD_101 rfl rfl ?_
    refine zj_aload_n hG d_MD_count_18 rfl rfl ?_
    refine t_getI hG hT d_MD_count_19 f_MD_101 rfl ?_
    rw [zu_s]
    refine zj_if_le (tgt := 27) hG d_MD_count_22 (by decide) (fun c => absurd c (by decide)) (fun _ => ?_)
    refine zj_iconst (v := 0) hG d_MD_count_25 rfl ?_
    exact zj_iret hG d_MD_count_26 rfl rfl ⟨_, _, rfl, rfl, zu_s, rfl, hA.th 1⟩
  refine zj_aload_n hG d_MD_count_0 rfl rfl ?_
  refine zj_iload_n hG d_MD_count_1 rfl rfl ?_
  refine zj_if_lt (tgt := 10) hG d_MD_count_2 (by decide) (fun c2 => ?_) (fun c2 => ?_)
  · exact bad (Or.inl c2)
  refine zj_iload_n hG d_MD_count_5 rfl rfl ?_
  refine zj_iconst (v := 3) hG d_MD_count_6 rfl ?_
  refine zj_icmp_le (tgt := 14) hG d_MD_count_7 (by decide) (fun c7 => ?_) (fun c7 => ?_)
  rotate_left
  · exact bad (Or.inr (Int32.not_le.mp c7))
  have hA0 := hA.th 0
  have hW := hA0.1
  rw [oCount, if_neg (fun g => by rcases g with g | g; exact c2 g; exact Int32.not_lt.mpr c7 g)]
  refine zj_iconst (v := 0) hG d_MD_count_14 rfl ?_
  refine t_putI hG hT d_MD_count_15 f_MD_101 rfl rfl ?_
  refine zj_aload_n hG d_MD_count_18 rfl rfl ?_
  refine t_getI hG hT d_MD_count_19 f_MD_101 rfl ?_
  rw [zu_s]
  refine zj_if_le (tgt := 27) hG d_MD_count_22 (by decide) (fun _ => ?_) (fun c => absurd (by decide) c)
  refine zj_iconst (v := 0) hG d_MD_count_27 rfl ?_
  refine zj_istore_n hG d_MD_count_28 rfl (by decide) rfl rfl ?_
  refine zj_iconst (v := 0) hG d_MD_count_29 rfl ?_
  refine zj_istore_n hG d_MD_count_30 rfl (by decide) rfl rfl ?_
  refine k_MD_countL hG hT hW x (fun w => ?_) 16 0 (by omega)
  generalize hM : zu N 0 0 0 = M at *
  have hM0 : M 0 0 = 0 := by rw [← hM]; exact zu_s
  refine zj_iload_n hG d_MD_count_60 rfl rfl ?_
  refine zj_if_ne (tgt := 71) hG d_MD_count_61 (by decide) (fun c61 => ?_) (fun c61 => ?_)
  · refine zj_iload_n hG d_MD_count_71 rfl rfl ?_
    refine zj_iconst (v := 1) hG d_MD_count_72 rfl ?_
    refine zj_icmp_ne (tgt := 83) hG d_MD_count_73 (by decide) (fun c73 => ?_) (fun c73 => ?_)
    · refine zj_iload_n hG d_MD_count_83 rfl rfl ?_
      refine zj_iconst (v := 2) hG d_MD_count_84 rfl ?_
      refine zj_icmp_ne (tgt := 92) hG d_MD_count_85 (by decide) (fun c85 => ?_) (fun c85 => ?_)
      · rw [if_neg c61, if_neg c73, if_neg c85]
        refine zj_aload_n hG d_MD_count_92 rfl rfl ?_
        refine t_getI hG hT d_MD_count_93 f_MD_257 rfl ?_
        rw [hW.2.2.2.2.2.1]
        cases hu : wU W with
        | none =>
          refine zj_if_eq (tgt := 111) hG d_MD_count_96 (by decide) (fun _ => ?_) (fun c => absurd (by decide) c)
          refine zj_iconst (v := -1) hG d_MD_count_111 rfl ?_
          exact zj_iret hG d_MD_count_112 rfl rfl ⟨_, _, rfl, rfl, hM0, rfl, hA0⟩
        | some u =>
          have h16 := hW.2.2.2.1.2
          obtain ⟨e1, e2, -⟩ := hW.2.2.2.2.2.2.1 u hu
          refine zj_if_eq (tgt := 111) hG d_MD_count_96 (by decide) (fun c => absurd c tb1) (fun _ => ?_)
          refine zj_aload_n hG d_MD_count_99 rfl rfl ?_
          refine t_getA (o := 8) hG hT d_MD_count_100 f_MD_35 rfl rfl ?_
          refine zj_aload_n hG d_MD_count_103 rfl rfl ?_
          refine t_getI hG hT d_MD_count_104 f_MD_260 rfl ?_
          refine t_ald ((wS W).length) hG hT d_MD_count_107 (by first | decide | omega) (by first | decide | omega) hW.2.2.2.1.1 (by show _ < 17; omega) ?_
          refine zj_goto (tgt := 112) hG d_MD_count_108 (by decide) ?_
          rw [e2]
          exact zj_iret hG d_MD_count_112 rfl rfl ⟨_, _, rfl, rfl, hM0, rfl, hA0⟩
      · rw [if_neg c61, if_neg c73, if_pos c85]
        refine zj_iload_n hG d_MD_count_88 rfl rfl ?_
        refine zj_goto (tgt := 112) hG d_MD_count_89 (by decide) ?_
        exact zj_iret hG d_MD_count_112 rfl rfl ⟨_, _, rfl, rfl, hM0, rfl, hA0⟩
    · rw [if_neg c61, if_pos c73]
      refine zj_aload_n hG d_MD_count_76 rfl rfl ?_
      refine t_getI hG hT d_MD_count_77 f_MD_260 rfl ?_
      refine zj_goto (tgt := 112) hG d_MD_count_80 (by decide) ?_
      rw [hW.2.2.2.1.1]
      exact zj_iret hG d_MD_count_112 rfl rfl ⟨_, _, rfl, rfl, hM0, rfl, hA0⟩
  · rw [if_pos c61]
    refine zj_aload_n hG d_MD_count_64 rfl rfl ?_
    refine t_getI hG hT d_MD_count_65 f_MD_7 rfl ?_
    refine zj_goto (tgt := 112) hG d_MD_count_68 (by decide) ?_
    rw [hW.1.1]
    exact zj_iret hG d_MD_count_112 rfl rfl ⟨_, _, rfl, rfl, hM0, rfl, hA0⟩
end MD17
