/-! PART 31: the reference: records made -/
theorem nI_128 (n : Nat) : (128 : Int32) * nI n = nI (128 * n) := pk_mul 128 n
theorem nI_168 (n : Nat) : (168 : Int32) * nI n = nI (168 * n) := pk_mul 168 n
def oKeptN (r : sRc) (n : Nat) : Nat := (List.range n).countP (fun s => decide (0 < (r.2.2 s).1))
theorem oKeptN_s (r : sRc) (n : Nat) : oKeptN r (n + 1) = oKeptN r n + (if 0 < (r.2.2 n).1 then 1 else 0) := by
  unfold oKeptN
  rw [List.range_succ, List.countP_append, List.countP_singleton]
  simp
def oKept (W : sW) (x : Int32) : Int32 × Int32 := match oRec W x with
  | none => (1, 0)
  | some r => (0, nI (oKeptN r 128))
/-- a version's fields as a table, without terms -/
def tE0 (f : tFd) : tE := (f.1, f.2.1, f.2.2.1, f.2.2.2, trow0 f.2.1 f.2.2.1 f.2.2.2, 0)
theorem ttk_0 {m : Int32} (hm : ¬ m = 2) (L : List tQ) (V : List tFd) : ttk m L V = (V.map tE0, L) := by
  have : ∀ (V : List tFd) (T : List tE), V.foldl (ttk1 m) (T, L) = (T ++ V.map tE0, L) := by
    intro V
    induction V with
    | nil => intro T; simp
    | cons f V ih =>
      intro T
      rw [List.foldl_cons]
      have : ttk1 m (T, L) f = (T ++ [tE0 f], L) := by
        simp [ttk1, tnew, tnewL, hm, tE0]
      rw [this, ih]
      simp
  rw [ttk, this]
  simp
section MD18
variable {G : zG} {q : Nat} {h : zH} {N : Nat → Nat → Int32} {W : sW} {X : tXt}
theorem tA.sc (hA : tA N W) {i : Nat} (hi : i = 0 ∨ i = 27 ∨ i = 33) (x : Int32) : tA (zu N 0 i x) W := by
  have f : tFr (fun o k => o == 0 && k == i) N (zu N 0 i x) := tFr.put tFr.rfl' (by simp)
  obtain ⟨a, X, b, c⟩ := hA
  exact ⟨a.fr f (by intro o k e; simp [pP] at e; simp; omega), X, b.fr2 f (by intro o k e; simp [pA, pT, pS, pW] at e; simp; omega), c⟩
set_option maxRecDepth 4000 in
theorem k_MD_keptL (hG : zOK G) (hT : twOK q h) (hW : tW N W) {j : Nat} {r : sRc} (hj : j < 16) (hr : wR W j = some r) (h0 : N 0 0 = 0) : ∀ (n k : Nat), k + n = 128 → zJ G 1 m_MD_kept 21 [some (zA q), some (zI (nI j)), some (zI (nI (oKeptN r k))), some (zI (nI k))] [] (twp q h N) (fun o h' => o = zR (zI (nI (oKeptN r 128))) ∧ h' = twp q h N) := by
  intro n
  induction n with
  | zero =>
    intro k hk
    have : k = 128 := by omega
    subst this
    refine zj_iload_n hG d_MD_kept_21 rfl rfl ?_
    refine zj_sipush (v := 128) hG d_MD_kept_22 rfl ?_
    refine zj_icmp_ge (tgt := 64) hG d_MD_kept_25 (by decide) (fun _ => ?_) (fun c => absurd (by decide) c)
    refine zj_iload_n hG d_MD_kept_64 rfl rfl ?_
    exact zj_iret hG d_MD_kept_65 rfl rfl ⟨rfl, rfl⟩
  | succ n ih =>
    intro k hk
    have e := oKeptN_s r k
    have i := ih (k + 1) (by omega)
    obtain ⟨d1, -⟩ := (hW.r hj hr).2.2.2 k (by omega)
    refine zj_iload_n hG d_MD_kept_21 rfl rfl ?_
    refine zj_sipush (v := 128) hG d_MD_kept_22 rfl ?_
    refine zj_icmp_ge (tgt := 64) hG d_MD_kept_25 (by decide) (fun c => absurd c (nI_ge (a := k) (b := 128) (by omega) (by omega))) (fun _ => ?_)
    refine zj_aload_n hG d_MD_kept_28 rfl rfl ?_
    refine t_getI hG hT d_MD_kept_29 f_MD_101 rfl ?_
    rw [h0]
    refine zj_if_ne (tgt := 64) hG d_MD_kept_32 (by decide) (fun c => absurd rfl c) (fun _ => ?_)
    refine zj_aload_n hG d_MD_kept_35 rfl rfl ?_
    refine t_getA (o := 12) hG hT d_MD_kept_36 f_MD_47 rfl rfl ?_
    refine zj_sipush (v := 128) hG d_MD_kept_39 rfl ?_
    refine zj_iload_n hG d_MD_kept_42 rfl rfl ?_
    refine zj_imul hG d_MD_kept_43 ?_
    refine zj_iload_n hG d_MD_kept_44 rfl rfl ?_
    refine zj_iadd hG d_MD_kept_45 ?_
    refine t_ald (128 * j + k) hG hT d_MD_kept_46 (by first | decide | omega) (by first | decide | omega) (by rw [nI_128, nI_add]) (by show _ < 2048; omega) ?_
    rw [d1]
    refine zj_if_le (tgt := 56) hG d_MD_kept_47 (by decide) (fun c47 => ?_) (fun c47 => ?_)
    · rw [if_neg (Int32.not_lt.mpr c47)] at e
      refine zj_iload_n hG d_MD_kept_56 rfl rfl ?_
      refine zj_istore_n hG d_MD_kept_57 rfl (by decide) rfl rfl ?_
      refine zj_iinc hG d_MD_kept_58 rfl (nI_1 k) (by decide) rfl rfl ?_
      refine zj_goto (tgt := 21) hG d_MD_kept_61 (by decide) ?_
      rw [e] at i
      exact i
    · rw [if_pos (Int32.not_le.mp c47)] at e
      refine zj_iload_n hG d_MD_kept_50 rfl rfl ?_
      refine zj_iconst (v := 1) hG d_MD_kept_51 rfl ?_
      refine zj_iadd hG d_MD_kept_52 ?_
      refine zj_goto (tgt := 57) hG d_MD_kept_53 (by decide) ?_
      rw [nI_1]
      refine zj_istore_n hG d_MD_kept_57 rfl (by decide) rfl rfl ?_
      refine zj_iinc hG d_MD_kept_58 rfl (nI_1 k) (by decide) rfl rfl ?_
      refine zj_goto (tgt := 21) hG d_MD_kept_61 (by decide) ?_
      rw [e] at i
      exact i
set_option maxRecDepth 4000 in
theorem k_MD_kept (hG : zOK G) (hT : twOK q h) (hA : tA N W) (x : Int32) : zJ G 1 m_MD_kept 0 [some (zA q), some (zI x), none, none] [] (twp q h N) (fun o h' => ∃ v N', o = zR (zI v) ∧ h' = twp q h N' ∧ (N' 0 0 = (oKept W x).1 ∧ v = (oKept W x).2 ∧ tA N' W)) := by
  have hW := hA.1
  refine zj_aload_n hG d_MD_kept_0 rfl rfl ?_
  refine zj_aload_n hG d_MD_kept_1 rfl rfl ?_
  refine zj_iload_n hG d_MD_kept_2 rfl rfl ?_
  refine zj_callR (y' := m_MD_isRecordHandle) hG (zcP (as := [_]) hG d_MD_kept_3 c_MD_isRecordHandle (z_w7 198 rfl) (z_w7 200 rfl) (z_w7 199 rfl) (z_w7 8 rfl) rfl ⟨by decide, by decide⟩ hT.1 (by decide) (by decide) (show _ = some 1 from by decide +kernel) rfl) c_MD_isRecordHandle rfl (by omega) rfl (z_le rfl) (z_le rfl) (k_MD_isRecordHandle hG hT hW _) ?_
  rw [oKept]
  cases hr : oRec W x with
  | none =>
    refine zj_if_eq (tgt := 13) hG d_MD_kept_6 (by decide) (fun _ => ?_) (fun c => absurd (by decide) c)
    refine zj_iconst (v := 1) hG d_MD_kept_13 rfl ?_
    refine t_putI hG hT d_MD_kept_14 f_MD_101 rfl rfl ?_
    refine zj_iconst (v := 0) hG d_MD_kept_17 rfl ?_
    refine zj_istore_n hG d_MD_kept_18 rfl (by decide) rfl rfl ?_
    refine zj_iconst (v := 0) hG d_MD_kept_19 rfl ?_
    refine zj_istore_n hG d_MD_kept_20 rfl (by decide) rfl rfl ?_
    refine zj_iload_n hG d_MD_kept_21 rfl rfl ?_
    refine zj_sipush (v := 128) hG d_MD_kept_22 rfl ?_
    refine zj_icmp_ge (tgt := 64) hG d_MD_kept_25 (by decide) (fun c => absurd c (by decide)) (fun _ => ?_)
    refine zj_aload_n hG d_MD_kept_28 rfl rfl ?_
    refine t_getI hG hT d_MD_kept_29 f_MD_101 rfl ?_
    rw [zu_s]
    refine zj_if_ne (tgt := 64) hG d_MD_kept_32 (by decide) (fun _ => ?_) (fun c => absurd c (by decide))
    refine zj_iload_n hG d_MD_kept_64 rfl rfl ?_
    exact zj_iret hG d_MD_kept_65 rfl rfl ⟨_, _, rfl, rfl, zu_s, rfl, hA.th 1⟩
  | some r =>
    obtain ⟨j, hj, rfl, hr2⟩ := oRec_some hr
    refine zj_if_eq (tgt := 13) hG d_MD_kept_6 (by decide) (fun c => absurd c tb1) (fun _ => ?_)
    refine zj_iconst (v := 0) hG d_MD_kept_9 rfl ?_
    refine zj_goto (tgt := 14) hG d_MD_kept_10 (by decide) ?_
    refine t_putI hG hT d_MD_kept_14 f_MD_101 rfl rfl ?_
    refine zj_iconst (v := 0) hG d_MD_kept_17 rfl ?_
    refine zj_istore_n hG d_MD_kept_18 rfl (by decide) rfl rfl ?_
    refine zj_iconst (v := 0) hG d_MD_kept_19 rfl ?_
    refine zj_istore_n hG d_MD_kept_20 rfl (by decide) rfl rfl ?_
    refine (k_MD_keptL hG hT (hA.th 0).1 hj hr2 zu_s 128 0 (by omega)).mono ?_
    rintro o h' ⟨e1, e2⟩
    exact ⟨_, _, e1, e2, zu_s, rfl, hA.th 0⟩
theorem k_MD_takeX (hG : zOK G) (hT : twOK q h) (hX : tX N X) {v : Nat} {F : List tFd} (hv : v < 8) (hV : tVer N v F) (hl : X.2.1.length + F.length < 1024) :
    zJ G 3 m_MD_take 0 [some (zA q), some (zI (nI v)), none] [] (twp q h N) (fun o h' => ∃ N', o = zR0 ∧ h' = twp q h N' ∧ (tX N' ((ttk (N 0 27) X.2.1 F).1, (ttk (N 0 27) X.2.1 F).2, X.2.2) ∧ tFr pTS N N')) := by
  refine (k_MD_take hG hT hv hV hX.2.1 hl).mono ?_
  rintro o h' ⟨N', e1, e2, e3, e4, e5⟩
  exact ⟨N', e1, e2, ⟨e3, e4, hX.2.2.1.fr e5 (by intro o i e; simp [pK] at e; simp [pTS, pT, pS]; omega), (e5 0 28 rfl).trans hX.2.2.2⟩, e5⟩
/-- the reference's part that stays, through work on the table -/
theorem tW.ts {N' : Nat → Nat → Int32} (hW : tW N W) (f : tFr pTS N N') : tW N' W := hW.fr f (by intro o i e; simp [pP] at e; simp [pTS, pT, pS]; omega)
theorem tW.pa {N' : Nat → Nat → Int32} (hW : tW N W) (f : tFr pA N N') : tW N' W := hW.fr f (by intro o i e; simp [pP] at e; simp [pA, pT, pS, pW]; omega)
def oRecord (W : sW) (v : Int32) : Int32 × Int32 × sW := if oVer W v = true then (match oFree W with
  | none => (2, 0, W)
  | some j => (0, nI j, sRs (wV W, true, wS W, wU W, wR W) j (some (v.toNatClampNeg, ((wV W)[v.toNatClampNeg]?.getD []).map (fun f => trow0 f.2.1 f.2.2.1 f.2.2.2), fun _ => tK0)))) else (1, 0, W)
set_option maxRecDepth 4000 in
theorem k_MD_recordK (hG : zOK G) (hT : twOK q h) {v : zV} {j : Nat} (hj : j < 16) {Q : zO → zH → Prop} (nx : ∀ w, zJ G 4 m_MD_record 129 [some (zA q), some v, some (zI (nI j)), some w] [] (twp q h (tcl N 12 (128 * j) 128)) Q) : ∀ (n k : Nat), k + n = 128 → zJ G 4 m_MD_record 103 [some (zA q), some v, some (zI (nI j)), some (zI (nI k))] [] (twp q h (tcl N 12 (128 * j) k)) Q := by
  intro n
  induction n with
  | zero =>
    intro k hk
    have : k = 128 := by omega
    subst this
    refine zj_iload_n hG d_MD_record_103 rfl rfl ?_
    refine zj_sipush (v := 128) hG d_MD_record_104 rfl ?_
    refine zj_icmp_ge (tgt := 129) hG d_MD_record_107 (by decide) (fun _ => ?_) (fun c => absurd (by decide) c)
    exact nx _
  | succ n ih =>
    intro k hk
    refine zj_iload_n hG d_MD_record_103 rfl rfl ?_
    refine zj_sipush (v := 128) hG d_MD_record_104 rfl ?_
    refine zj_icmp_ge (tgt := 129) hG d_MD_record_107 (by decide) (fun c => absurd c (nI_ge (a := k) (b := 128) (by omega) (by omega))) (fun _ => ?_)
    refine zj_aload_n hG d_MD_record_110 rfl rfl ?_
    refine t_getA (o := 12) hG hT d_MD_record_111 f_MD_47 rfl rfl ?_
    refine zj_sipush (v := 128) hG d_MD_record_114 rfl ?_
    refine zj_iload_n hG d_MD_record_117 rfl rfl ?_
    refine zj_imul hG d_MD_record_118 ?_
    refine zj_iload_n hG d_MD_record_119 rfl rfl ?_
    refine zj_iadd hG d_MD_record_120 ?_
    refine zj_iconst (v := 0) hG d_MD_record_121 rfl ?_
    refine t_ast (128 * j + k) hG hT d_MD_record_122 (by first | decide | omega) (by first | decide | omega) (by rw [nI_128, nI_add]) (by show _ < 2048; omega) ?_
    refine zj_iinc hG d_MD_record_123 rfl (nI_1 k) (by decide) rfl rfl ?_
    refine zj_goto (tgt := 103) hG d_MD_record_126 (by decide) ?_
    rw [tcl_s]
    exact ih (k + 1) (by omega)
set_option maxRecDepth 4000 in
theorem k_MD_recordR (hG : zOK G) (hT : twOK q h) {T : List tE} {v : zV} {j : Nat} (hj : j < 16) (h24 : T.length ≤ 24) {Q : zO → zH → Prop} (nx : ∀ (M : Nat → Nat → Int32) (w : zV), tTab M T → (∀ k (hk : k < T.length), tRow M 11 (7 * (24 * j + k)) (eR T[k])) → (∀ o i, ¬ (o = 11 ∧ 168 * j ≤ i ∧ i < 168 * j + 168) → M o i = N o i) → zJ G 4 m_MD_record 101 [some (zA q), some v, some (zI (nI j)), some w] [] (twp q h M) Q) :
    ∀ (n k : Nat) (M : Nat → Nat → Int32), k + n = T.length → tTab M T → (∀ k' (hk : k' < T.length), k' < k → tRow M 11 (7 * (24 * j + k')) (eR T[k'])) → (∀ o i, ¬ (o = 11 ∧ 168 * j ≤ i ∧ i < 168 * j + 168) → M o i = N o i) → zJ G 4 m_MD_record 63 [some (zA q), some v, some (zI (nI j)), some (zI (nI k))] [] (twp q h M) Q := by
  intro n
  induction n with
  | zero =>
    intro k M hk h1 h2 h3
    refine zj_iload_n hG d_MD_record_63 rfl rfl ?_
    refine zj_aload_n hG d_MD_record_64 rfl rfl ?_
    refine t_getI hG hT d_MD_record_65 f_MD_108 rfl ?_
    rw [h1.1]
    refine zj_icmp_ge (tgt := 101) hG d_MD_record_68 (by decide) (fun _ => ?_) (fun c => absurd (nI_le (by omega) (by omega)) c)
    exact nx M _ h1 (fun k' hk' => h2 k' hk' (by omega)) h3
  | succ n ih =>
    intro k M hk h1 h2 h3
    have hkl : k < T.length := by omega
    obtain ⟨a1, a2, a3, a4, a5, a8⟩ := h1.at hkl
    refine zj_iload_n hG d_MD_record_63 rfl rfl ?_
    refine zj_aload_n hG d_MD_record_64 rfl rfl ?_
    refine t_getI hG hT d_MD_record_65 f_MD_108 rfl ?_
    rw [h1.1]
    refine zj_icmp_ge (tgt := 101) hG d_MD_record_68 (by decide) (fun c => absurd c (nI_ge hkl (by omega))) (fun _ => ?_)
    refine zj_aload_n hG d_MD_record_71 rfl rfl ?_
    refine t_getA (o := 18) hG hT d_MD_record_72 f_MD_65 rfl rfl ?_
    refine zj_bipush (v := 7) hG d_MD_record_75 rfl ?_
    refine zj_iload_n hG d_MD_record_77 rfl rfl ?_
    refine zj_imul hG d_MD_record_78 ?_
    refine zj_aload_n hG d_MD_record_79 rfl rfl ?_
    refine t_getA (o := 11) hG hT d_MD_record_80 f_MD_44 rfl rfl ?_
    refine zj_bipush (v := 7) hG d_MD_record_83 rfl ?_
    refine zj_bipush (v := 24) hG d_MD_record_85 rfl ?_
    refine zj_iload_n hG d_MD_record_87 rfl rfl ?_
    refine zj_imul hG d_MD_record_88 ?_
    refine zj_iload_n hG d_MD_record_89 rfl rfl ?_
    refine zj_iadd hG d_MD_record_90 ?_
    refine zj_imul hG d_MD_record_91 ?_
    rw [nI_7, nI_24, nI_add, nI_7]
    refine zj_callV (y' := m_MD_copyRow) hG (zcS (as := [_, _, _, _]) hG d_MD_record_92 c_MD_copyRow (z_w7 103 rfl) (z_w7 104 rfl) (z_w1 11 rfl) ⟨by decide, by decide⟩ (show _ = some 4 from by decide +kernel) rfl) c_MD_copyRow rfl (by omega) rfl (z_le rfl) (z_le rfl) (k_MD_copyRow hG hT _ (by decide) (by decide) (by show _ ≤ 182; omega) (by show _ ≤ 2688; omega) (by omega)) ?_
    refine zj_iinc hG d_MD_record_95 rfl (nI_1 k) (by decide) rfl rfl ?_
    refine zj_goto (tgt := 63) hG d_MD_record_98 (by decide) ?_
    refine ih (k + 1) _ (by omega) (h1.fr (P := fun o _ => o == 11) (fun o i e => tcp_n (by simp at e; omega)) (by intro o i e; simp [pT] at e; simp; omega)) (fun k' hk' g => ?_) (fun o i g => ?_)
    · by_cases e : k' = k
      · subst e
        exact tcp_row a5
      · exact (h2 k' hk' (by omega)).fr (fun i _ _ => tcp_n (by omega))
    · rw [tcp_n (by omega)]
      exact h3 o i g
set_option maxRecDepth 4000 in
theorem k_MD_record (hG : zOK G) (hT : twOK q h) (hA : tA N W) (v : Int32) : zJ G 4 m_MD_record 0 [some (zA q), some (zI v), none, none] [] (twp q h N) (fun o h' => ∃ z N', o = zR (zI z) ∧ h' = twp q h N' ∧ (N' 0 0 = (oRecord W v).1 ∧ z = (oRecord W v).2.1 ∧ tA N' (oRecord W v).2.2)) := by
  have hW := hA.1
  refine zj_aload_n hG d_MD_record_0 rfl rfl ?_
  refine zj_callR (y' := m_MD_free) hG (zcP (as := []) hG d_MD_record_1 c_MD_free (z_w7 190 rfl) (z_w7 192 rfl) (z_w7 191 rfl) (z_w7 8 rfl) rfl ⟨by decide, by decide⟩ hT.1 (by decide) (by decide) (show _ = some 0 from by decide +kernel) rfl) c_MD_free rfl (by omega) rfl (z_le rfl) (z_le rfl) (k_MD_free hG hT hW) ?_
  refine zj_istore_n hG d_MD_record_4 rfl (by decide) rfl rfl ?_
  refine zj_aload_n hG d_MD_record_5 rfl rfl ?_
  refine zj_aload_n hG d_MD_record_6 rfl rfl ?_
  refine zj_iload_n hG d_MD_record_7 rfl rfl ?_
  refine zj_callR (y' := m_MD_isVersion) hG (zcP (as := [_]) hG d_MD_record_8 c_MD_isVersion (z_w7 62 rfl) (z_w7 64 rfl) (z_w7 63 rfl) (z_w7 8 rfl) rfl ⟨by decide, by decide⟩ hT.1 (by decide) (by decide) (show _ = some 1 from by decide +kernel) rfl) c_MD_isVersion rfl (by omega) rfl (z_le rfl) (z_le rfl) (k_MD_isVersion hG hT hW v) ?_
  rw [oRecord]
  refine zj_if_ne (tgt := 18) hG d_MD_record_11 (by decide) (fun c11 => ?_) (fun c11 => ?_)
  · have hv := tb_t c11
    rw [if_pos hv]
    obtain ⟨n, hn, rfl⟩ := oVer_n hW.1.2.2 hv
    have h8 := hW.1.2.2
    rw [nI_clamp (by omega)]
    refine zj_iload_n hG d_MD_record_18 rfl rfl ?_
    cases hf : oFree W with
    | none =>
      refine zj_if_ge (tgt := 26) hG d_MD_record_19 (by decide) (fun c => absurd c (by decide)) (fun _ => ?_)
      refine zj_iconst (v := 2) hG d_MD_record_22 rfl ?_
      refine zj_goto (tgt := 27) hG d_MD_record_23 (by decide) ?_
      refine t_putI hG hT d_MD_record_27 f_MD_101 rfl rfl ?_
      refine zj_aload_n hG d_MD_record_30 rfl rfl ?_
      refine t_getI hG hT d_MD_record_31 f_MD_101 rfl ?_
      rw [zu_s]
      refine zj_if_le (tgt := 39) hG d_MD_record_34 (by decide) (fun c => absurd c (by decide)) (fun _ => ?_)
      refine zj_iconst (v := 0) hG d_MD_record_37 rfl ?_
      exact zj_iret hG d_MD_record_38 rfl rfl ⟨_, _, rfl, rfl, zu_s, rfl, hA.th 2⟩
    | some j =>
      obtain ⟨hj, hj0⟩ := oFree_lt hf
      have hF : (wV W)[n]? = some (wV W)[n] := List.getElem?_eq_getElem hn
      simp only [hF, Option.getD_some]
      refine zj_if_ge (tgt := 26) hG d_MD_record_19 (by decide) (fun _ => ?_) (fun c => absurd (nI_pos' (by omega)) c)
      refine zj_iconst (v := 0) hG d_MD_record_26 rfl ?_
      refine t_putI hG hT d_MD_record_27 f_MD_101 rfl rfl ?_
      refine zj_aload_n hG d_MD_record_30 rfl rfl ?_
      refine t_getI hG hT d_MD_record_31 f_MD_101 rfl ?_
      rw [zu_s]
      refine zj_if_le (tgt := 39) hG d_MD_record_34 (by decide) (fun _ => ?_) (fun c => absurd (by decide) c)
      refine zj_aload_n hG d_MD_record_39 rfl rfl ?_
      refine zj_iconst (v := 1) hG d_MD_record_40 rfl ?_
      refine t_putZ hG hT d_MD_record_41 f_MD_234 rfl rfl (Or.inr rfl) ?_
      refine zj_aload_n hG d_MD_record_44 rfl rfl ?_
      refine zj_iconst (v := 0) hG d_MD_record_45 rfl ?_
      refine t_putI hG hT d_MD_record_46 f_MD_118 rfl rfl ?_
      refine zj_aload_n hG d_MD_record_49 rfl rfl ?_
      refine zj_iload_n hG d_MD_record_50 rfl rfl ?_
      have hA1 : tA (zu (zu (zu N 0 0 0) 0 7 1) 0 27 0) (wV W, true, wS W, wU W, wR W) := by
        refine tA.sc (tA.un (N := N) hA (fun o i g1 _ _ _ => by simp only [zu]; repeat rw [if_neg (by omega)]) (by simp [zu]; rfl) (by simp [zu]; exact hW.2.2.2.2.2.1) (fun u hu => ?_)) (by omega) 0
        have := hW.2.2.2.2.2.2.1 u hu
        have f : tFr (fun o _ => o == 0) N (zu (zu N 0 0 0) 0 7 1) := tFr.put (tFr.put tFr.rfl' rfl) rfl
        exact ⟨(f 6 _ rfl).trans this.1, (f 8 _ rfl).trans this.2.1, this.2.2.1, fun i p hp => (this.2.2.2 i p hp).fr f (fun _ => rfl)⟩
      obtain ⟨hW1, X, hX, hXl⟩ := hA1
      have hV1 := hW1.2.1 n _ hF
      have hFl := hV1.2.1
      refine zj_callU (y' := m_MD_take) hG (zcP (as := [_]) hG d_MD_record_51 c_MD_take (z_w7 14 rfl) (z_w7 16 rfl) (z_w7 15 rfl) (z_w7 8 rfl) rfl ⟨by decide, by decide⟩ hT.1 (by decide) (by decide) (show _ = some 1 from by decide +kernel) rfl) c_MD_take rfl (by omega) rfl (z_le rfl) (z_le rfl) (k_MD_takeX hG hT hX (by omega) hV1 (by omega)) (fun N51 e51 => ?_)
      obtain ⟨r1, r2⟩ := e51
      rw [show zu (zu (zu N 0 0 0) 0 7 1) 0 27 0 0 27 = 0 from zu_s, ttk_0 (by decide)] at r1
      have hW2 := hW1.ts r2
      have hth : N51 0 0 = 0 := (r2 0 0 rfl).trans (by simp [zu])
      refine zj_aload_n hG d_MD_record_54 rfl rfl ?_
      refine t_getA (o := 10) hG hT d_MD_record_55 f_MD_41 rfl rfl ?_
      refine zj_iload_n hG d_MD_record_58 rfl rfl ?_
      refine zj_iload_n hG d_MD_record_59 rfl rfl ?_
      refine t_ast (j) hG hT d_MD_record_60 (by first | decide | omega) (by first | decide | omega) rfl hj ?_
      refine zj_iconst (v := 0) hG d_MD_record_61 rfl ?_
      refine zj_istore_n hG d_MD_record_62 rfl (by decide) rfl rfl ?_
      have tz : tTab (zu N51 10 j (nI n)) (((wV W)[n]).map tE0) := r1.1.fr (P := fun o _ => o == 10) (tFr.put tFr.rfl' rfl) (by intro o i e; simp [pT] at e; simp; omega)
      refine k_MD_recordR (N := zu N51 10 j (nI n)) hG hT (T := ((wV W)[n]).map tE0) hj (by simpa using hFl) ?_ _ 0 _ (Nat.zero_add _) tz (fun _ _ e => by omega) (fun _ _ _ => rfl)
      intro M w g1 g2 g3
      refine zj_iconst (v := 0) hG d_MD_record_101 rfl ?_
      refine zj_istore_n hG d_MD_record_102 rfl (by decide) rfl rfl ?_
      have key := k_MD_recordK (N := M) (v := zI (nI n)) hG hT hj (Q := fun o h' => ∃ z N', o = zR (zI z) ∧ h' = twp q h N' ∧ N' 0 0 = (0 : Int32) ∧ z = nI j ∧ tA N' (sRs (wV W, true, wS W, wU W, wR W) j (some (n, ((wV W)[n]).map (fun f => trow0 f.2.1 f.2.2.1 f.2.2.2), fun _ => tK0)))) ?_ 128 0 (by omega)
      · rw [tcl_0] at key
        exact key
      intro w2
      have f : ∀ o i, ¬ (o = 10 ∧ i = j) → ¬ (o = 11 ∧ 168 * j ≤ i ∧ i < 168 * j + 168) → ¬ (o = 12 ∧ 128 * j ≤ i ∧ i < 128 * j + 128) → tcl M 12 (128 * j) 128 o i = N51 o i := by
        intro o i e1 e2 e3
        rw [tcl, if_neg (by omega), g3 o i e2, zu, if_neg e1]
      have f12 : ∀ o i, o ≠ 12 → tcl M 12 (128 * j) 128 o i = M o i := fun o i e => if_neg (by omega)
      refine zj_iload_n hG d_MD_record_129 rfl rfl ?_
      refine zj_iret hG d_MD_record_130 rfl rfl ⟨_, _, rfl, rfl, ?_, rfl, ?_, _, r1.fr2 (P := fun o _ => o == 10 || o == 11 || o == 12) (fun o i e => f o i (by simp at e; omega) (by simp at e; omega) (by simp at e; omega)) (by intro o i e; simp [pA, pT, pS, pW] at e; simp; omega), hXl⟩
      · rw [f _ _ (by omega) (by omega) (by omega)]
        exact hth
      · refine hW2.rc (fun o i _ e1 e2 e3 _ => f o i e1 e2 e3) ⟨?_, ⟨_, hF, by simp⟩, fun k l hk => ?_, fun s hs => ⟨?_, fun e => absurd rfl e, fun e => by rcases e with e | e <;> exact absurd (show (0 : Int32) = _ from e) (by decide)⟩⟩
        · rw [f12 _ _ (by omega), g3 _ _ (by omega), zu_s]
        · have hk2 := (List.getElem?_eq_some_iff.mp hk).1
          have hk3 : k < ((wV W)[n]).length := by simpa using hk2
          have := g2 k (by simpa using hk3)
          simp only [List.getElem_map] at this
          simp only [List.getElem?_map, List.getElem?_eq_getElem hk3, Option.map_some, Option.some.injEq] at hk
          rw [← hk]
          exact this.fr (fun i _ _ => f12 11 i (by omega))
        · exact if_pos (by omega)
  · have hv := tb_f c11
    rw [if_neg (by rw [hv]; decide)]
    refine zj_iconst (v := 1) hG d_MD_record_14 rfl ?_
    refine zj_goto (tgt := 27) hG d_MD_record_15 (by decide) ?_
    refine t_putI hG hT d_MD_record_27 f_MD_101 rfl rfl ?_
    refine zj_aload_n hG d_MD_record_30 rfl rfl ?_
    refine t_getI hG hT d_MD_record_31 f_MD_101 rfl ?_
    rw [zu_s]
    refine zj_if_le (tgt := 39) hG d_MD_record_34 (by decide) (fun c => absurd c (by decide)) (fun _ => ?_)
    refine zj_iconst (v := 0) hG d_MD_record_37 rfl ?_
    exact zj_iret hG d_MD_record_38 rfl rfl ⟨_, _, rfl, rfl, zu_s, rfl, hA.th 1⟩
end MD18
