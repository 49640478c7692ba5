/-! PART 36: the reference: a step ended -/
/-- a table agrees with a version's first fields -/
def tlk (T : List tE) (f : tFd) : Bool := match tget T f.1 with
  | none => false
  | some e => decide (eS e = f.2.1 ∧ eL e = f.2.2.1 ∧ eH e = f.2.2.2)
def tisS (T : List tE) (F : List tFd) (n : Nat) : Bool := decide (T.length = F.length) && (F.take n).all (tlk T)
theorem tisS_s {T : List tE} {F : List tFd} {n : Nat} (hn : n < F.length) : tisS T F (n + 1) = (tisS T F n && tlk T F[n]) := by
  unfold tisS
  rw [List.take_succ_eq_append_getElem hn, List.all_append]
  simp [Bool.and_assoc]
theorem tisS_f {T : List tE} {F : List tFd} {n : Nat} (h : tisS T F n = false) : ∀ m, n ≤ m → tisS T F m = false := by
  intro m hm
  cases e : tisS T F m with
  | false => rfl
  | true =>
    unfold tisS at e h
    rw [Bool.and_eq_true] at e
    rw [e.1, Bool.true_and, List.all_eq_false] at h
    obtain ⟨x, hx, hx2⟩ := h
    rw [List.all_eq_true] at e
    exact absurd (e.2 x ((List.take_subset_take_left _ hm) hx)) hx2
/-- the table as a schema, in order -/
def stl (T : List tE) : List tFd := (T.map tfd).mergeSort (fun f g => !(tbf 5 (pnat g.1) (pnat f.1)))
/-- what settling needs -/
def tSet (T : List tE) : Prop := (∀ e ∈ T, 0 ≤ eP e) ∧ T.length ≤ 24 ∧ (∀ k (hk : k < T.length), (stl T)[tpl T (eP T[k]) T.length]? = some (tfd T[k])) ∧ ∀ i, i < (stl T).length → ∃ k, ∃ hk : k < T.length, tpl T (eP T[k]) T.length = i
theorem stl_len (T : List tE) : (stl T).length = T.length := by
  unfold stl
  rw [(List.mergeSort_perm _ _).length_eq]
  simp
def oEnd (W : sW) (t : Int32) : Int32 × Int32 × sW := match wU W with
  | none => (1, 0, W)
  | some u => if ¬ t = -1 ∧ oVer W t = false then (2, 0, W)
    else if ¬ t = -1 ∧ (t = nI u.1 ∨ tisS (tUW W u) ((wV W)[t.toNatClampNeg]?.getD []) ((wV W)[t.toNatClampNeg]?.getD []).length = false) then (3, 0, W)
    else if t = -1 ∧ (wV W).length = 8 ∨ (wS W).length = 16 then (4, 0, W)
    else if t = -1 then (0, nI (wV W).length, (wV W ++ [stl (tUW W u)], wB W, wS W ++ [(u.1, (wV W).length, u.2)], none, wR W))
    else (0, t, (wV W, wB W, wS W ++ [(u.1, t.toNatClampNeg, u.2)], none, wR W))
section MD23
variable {G : zG} {q : Nat} {h : zH} {N : Nat → Nat → Int32} {W : sW} {T : List tE}
set_option maxRecDepth 4000 in
theorem k_MD_isSchemaL (hG : zOK G) (hT : twOK q h) (hN : tTab N T) {v : Nat} {F : List tFd} (hv : v < 8) (hF : tVer N v F) : ∀ (n k : Nat) (w : Option zV), k + n = F.length → tisS T F k = true →
    zJ G 1 m_MD_isSchema 21 [some (zA q), some (zI (nI v)), some (zI 1), some (zI (nI k)), w] [] (twp q h N) (fun o h' => o = zR (zI (tb (tisS T F F.length))) ∧ h' = twp q h N) := by
  have hl := hN.l
  obtain ⟨f1, f2, f3⟩ := hF
  intro n
  induction n with
  | zero =>
    intro k w hk hs
    have : k = F.length := by omega
    subst this
    rw [hs]
    refine zj_iload_n hG d_MD_isSchema_21 rfl rfl ?_
    refine zj_aload_n hG d_MD_isSchema_22 rfl rfl ?_
    refine t_getA (o := 1) hG hT d_MD_isSchema_23 f_MD_13 rfl rfl ?_
    refine zj_iload_n hG d_MD_isSchema_26 rfl rfl ?_
    refine t_ald (v) hG hT d_MD_isSchema_27 (by first | decide | omega) (by first | decide | omega) rfl hv ?_
    rw [f1]
    refine zj_icmp_ge (tgt := 132) hG d_MD_isSchema_28 (by decide) (fun _ => ?_) (fun c => absurd (nI_le (by omega) (by omega)) c)
    refine zj_iload_n hG d_MD_isSchema_132 rfl rfl ?_
    exact zj_iret hG d_MD_isSchema_133 rfl rfl ⟨rfl, rfl⟩
  | succ n ih =>
    intro k w hk hs
    have hkl : k < F.length := by omega
    obtain ⟨b1, b2, b3, b4⟩ := f3 k _ (List.getElem?_eq_getElem hkl)
    have hsn := tisS_s (T := T) hkl
    rw [hs, Bool.true_and] at hsn
    have no : tlk T F[k] = false → ∀ w : zV, zJ G 1 m_MD_isSchema 124 [some (zA q), some (zI (nI v)), some (zI 1), some (zI (nI k)), some w] [] (twp q h N) (fun o h' => o = zR (zI (tb (tisS T F F.length))) ∧ h' = twp q h N) := by
      intro e w
      rw [tisS_f (n := k + 1) (by rw [hsn, e]) _ (by omega)]
      refine zj_iconst (v := 0) hG d_MD_isSchema_124 rfl ?_
      refine zj_istore_n hG d_MD_isSchema_125 rfl (by decide) rfl rfl ?_
      refine zj_iinc hG d_MD_isSchema_126 rfl (nI_1 k) (by decide) rfl rfl ?_
      refine zj_goto (tgt := 21) hG d_MD_isSchema_129 (by decide) ?_
      refine zj_iload_n hG d_MD_isSchema_21 rfl rfl ?_
      refine zj_aload_n hG d_MD_isSchema_22 rfl rfl ?_
      refine t_getA (o := 1) hG hT d_MD_isSchema_23 f_MD_13 rfl rfl ?_
      refine zj_iload_n hG d_MD_isSchema_26 rfl rfl ?_
      refine t_ald (v) hG hT d_MD_isSchema_27 (by first | decide | omega) (by first | decide | omega) rfl hv ?_
      refine zj_icmp_ge (tgt := 132) hG d_MD_isSchema_28 (by decide) (fun c28 => ?_) (fun c28 => ?_)
      · refine zj_iload_n hG d_MD_isSchema_132 rfl rfl ?_
        exact zj_iret hG d_MD_isSchema_133 rfl rfl ⟨rfl, rfl⟩
      · refine zj_iload_n hG d_MD_isSchema_31 rfl rfl ?_
        refine zj_if_eq (tgt := 132) hG d_MD_isSchema_32 (by decide) (fun _ => ?_) (fun c => absurd (by decide) c)
        refine zj_iload_n hG d_MD_isSchema_132 rfl rfl ?_
        exact zj_iret hG d_MD_isSchema_133 rfl rfl ⟨rfl, rfl⟩
    refine zj_iload_n hG d_MD_isSchema_21 rfl rfl ?_
    refine zj_aload_n hG d_MD_isSchema_22 rfl rfl ?_
    refine t_getA (o := 1) hG hT d_MD_isSchema_23 f_MD_13 rfl rfl ?_
    refine zj_iload_n hG d_MD_isSchema_26 rfl rfl ?_
    refine t_ald (v) hG hT d_MD_isSchema_27 (by first | decide | omega) (by first | decide | omega) rfl hv ?_
    rw [f1]
    refine zj_icmp_ge (tgt := 132) hG d_MD_isSchema_28 (by decide) (fun c => absurd c (nI_ge hkl (by omega))) (fun _ => ?_)
    refine zj_iload_n hG d_MD_isSchema_31 rfl rfl ?_
    refine zj_if_eq (tgt := 132) hG d_MD_isSchema_32 (by decide) (fun c => absurd c (by decide)) (fun _ => ?_)
    refine zj_aload_n hG d_MD_isSchema_35 rfl rfl ?_
    refine zj_aload_n hG d_MD_isSchema_36 rfl rfl ?_
    refine t_getA (o := 2) hG hT d_MD_isSchema_37 f_MD_17 rfl rfl ?_
    refine zj_bipush (v := 24) hG d_MD_isSchema_40 rfl ?_
    refine zj_iload_n hG d_MD_isSchema_42 rfl rfl ?_
    refine zj_imul hG d_MD_isSchema_43 ?_
    refine zj_iload_n hG d_MD_isSchema_44 rfl rfl ?_
    refine zj_iadd hG d_MD_isSchema_45 ?_
    refine t_ald (24 * v + k) hG hT d_MD_isSchema_46 (by first | decide | omega) (by first | decide | omega) (by rw [nI_24, nI_add]) (by show _ < 192; omega) ?_
    rw [b1]
    refine zj_callR (y' := m_MD_find) hG (zcP (as := [_]) hG d_MD_isSchema_47 c_MD_find (z_w7 47 rfl) (z_w7 49 rfl) (z_w7 48 rfl) (z_w7 8 rfl) rfl ⟨by decide, by decide⟩ hT.1 (by decide) (by decide) (show _ = some 1 from by decide +kernel) rfl) c_MD_find rfl (by omega) rfl (z_le rfl) (z_le rfl) (k_MD_find hG hT hN _) ?_
    refine zj_istore hG d_MD_isSchema_50 (by decide) rfl rfl ?_
    refine zj_iload hG d_MD_isSchema_52 rfl ?_
    rcases tfnd_cases T (F[k]).1 with ⟨e1, e2, -⟩ | ⟨i, hi, e1, e2, -⟩
    · rw [e1]
      refine zj_if_lt (tgt := 124) hG d_MD_isSchema_54 (by decide) (fun _ => ?_) (fun c => absurd (by decide) c)
      exact no (by rw [tlk, e2]) _
    · rw [e1]
      obtain ⟨a1, a2, a3, a4, a5, a8⟩ := hN.at hi
      have hlk : tlk T F[k] = decide (eS T[i] = (F[k]).2.1 ∧ eL T[i] = (F[k]).2.2.1 ∧ eH T[i] = (F[k]).2.2.2) := by rw [tlk, e2]
      refine zj_if_lt (tgt := 124) hG d_MD_isSchema_54 (by decide) (fun c => absurd c (nI_pos (by omega))) (fun _ => ?_)
      refine zj_aload_n hG d_MD_isSchema_57 rfl rfl ?_
      refine t_getA (o := 15) hG hT d_MD_isSchema_58 f_MD_56 rfl rfl ?_
      refine zj_iload hG d_MD_isSchema_61 rfl ?_
      refine t_ald (i) hG hT d_MD_isSchema_63 (by first | decide | omega) (by first | decide | omega) rfl (by show _ < 26; omega) ?_
      refine zj_aload_n hG d_MD_isSchema_64 rfl rfl ?_
      refine t_getA (o := 3) hG hT d_MD_isSchema_65 f_MD_20 rfl rfl ?_
      refine zj_bipush (v := 24) hG d_MD_isSchema_68 rfl ?_
      refine zj_iload_n hG d_MD_isSchema_70 rfl rfl ?_
      refine zj_imul hG d_MD_isSchema_71 ?_
      refine zj_iload_n hG d_MD_isSchema_72 rfl rfl ?_
      refine zj_iadd hG d_MD_isSchema_73 ?_
      refine t_ald (24 * v + k) hG hT d_MD_isSchema_74 (by first | decide | omega) (by first | decide | omega) (by rw [nI_24, nI_add]) (by show _ < 192; omega) ?_
      rw [a2, b2]
      refine zj_icmp_ne (tgt := 124) hG d_MD_isSchema_75 (by decide) (fun c75 => ?_) (fun c75 => ?_)
      · exact no (by rw [hlk, decide_eq_false (fun g => c75 g.1)]) _
      refine zj_aload_n hG d_MD_isSchema_78 rfl rfl ?_
      refine t_getA (o := 16) hG hT d_MD_isSchema_79 f_MD_59 rfl rfl ?_
      refine zj_iload hG d_MD_isSchema_82 rfl ?_
      refine t_ald (i) hG hT d_MD_isSchema_84 (by first | decide | omega) (by first | decide | omega) rfl (by show _ < 26; omega) ?_
      refine zj_aload_n hG d_MD_isSchema_85 rfl rfl ?_
      refine t_getA (o := 4) hG hT d_MD_isSchema_86 f_MD_23 rfl rfl ?_
      refine zj_bipush (v := 24) hG d_MD_isSchema_89 rfl ?_
      refine zj_iload_n hG d_MD_isSchema_91 rfl rfl ?_
      refine zj_imul hG d_MD_isSchema_92 ?_
      refine zj_iload_n hG d_MD_isSchema_93 rfl rfl ?_
      refine zj_iadd hG d_MD_isSchema_94 ?_
      refine t_ald (24 * v + k) hG hT d_MD_isSchema_95 (by first | decide | omega) (by first | decide | omega) (by rw [nI_24, nI_add]) (by show _ < 192; omega) ?_
      rw [a3, b3]
      refine zj_icmp_ne (tgt := 124) hG d_MD_isSchema_96 (by decide) (fun c96 => ?_) (fun c96 => ?_)
      · exact no (by rw [hlk, decide_eq_false (fun g => c96 g.2.1)]) _
      refine zj_aload_n hG d_MD_isSchema_99 rfl rfl ?_
      refine t_getA (o := 17) hG hT d_MD_isSchema_100 f_MD_62 rfl rfl ?_
      refine zj_iload hG d_MD_isSchema_103 rfl ?_
      refine t_ald (i) hG hT d_MD_isSchema_105 (by first | decide | omega) (by first | decide | omega) rfl (by show _ < 26; omega) ?_
      refine zj_aload_n hG d_MD_isSchema_106 rfl rfl ?_
      refine t_getA (o := 5) hG hT d_MD_isSchema_107 f_MD_26 rfl rfl ?_
      refine zj_bipush (v := 24) hG d_MD_isSchema_110 rfl ?_
      refine zj_iload_n hG d_MD_isSchema_112 rfl rfl ?_
      refine zj_imul hG d_MD_isSchema_113 ?_
      refine zj_iload_n hG d_MD_isSchema_114 rfl rfl ?_
      refine zj_iadd hG d_MD_isSchema_115 ?_
      refine t_ald (24 * v + k) hG hT d_MD_isSchema_116 (by first | decide | omega) (by first | decide | omega) (by rw [nI_24, nI_add]) (by show _ < 192; omega) ?_
      rw [a4, b4]
      refine zj_icmp_ne (tgt := 124) hG d_MD_isSchema_117 (by decide) (fun c117 => ?_) (fun c117 => ?_)
      · exact no (by rw [hlk, decide_eq_false (fun g => c117 g.2.2)]) _
      refine zj_iconst (v := 1) hG d_MD_isSchema_120 rfl ?_
      refine zj_goto (tgt := 125) hG d_MD_isSchema_121 (by decide) ?_
      refine zj_istore_n hG d_MD_isSchema_125 rfl (by decide) rfl rfl ?_
      refine zj_iinc hG d_MD_isSchema_126 rfl (nI_1 k) (by decide) rfl rfl ?_
      refine zj_goto (tgt := 21) hG d_MD_isSchema_129 (by decide) ?_
      exact ih (k + 1) _ (by omega) (by rw [hsn, hlk, decide_eq_true (show eS T[i] = (F[k]).2.1 ∧ eL T[i] = (F[k]).2.2.1 ∧ eH T[i] = (F[k]).2.2.2 from ⟨c75, c96, c117⟩)])
set_option maxRecDepth 4000 in
theorem k_MD_isSchema (hG : zOK G) (hT : twOK q h) (hN : tTab N T) {v : Nat} {F : List tFd} (hv : v < 8) (hF : tVer N v F) :
    zJ G 1 m_MD_isSchema 0 [some (zA q), some (zI (nI v)), none, none, none] [] (twp q h N) (fun o h' => o = zR (zI (tb (tisS T F F.length))) ∧ h' = twp q h N) := by
  have hl := hN.l
  have h24 := hF.2.1
  refine zj_aload_n hG d_MD_isSchema_0 rfl rfl ?_
  refine t_getI hG hT d_MD_isSchema_1 f_MD_108 rfl ?_
  refine zj_aload_n hG d_MD_isSchema_4 rfl rfl ?_
  refine t_getA (o := 1) hG hT d_MD_isSchema_5 f_MD_13 rfl rfl ?_
  refine zj_iload_n hG d_MD_isSchema_8 rfl rfl ?_
  refine t_ald (v) hG hT d_MD_isSchema_9 (by first | decide | omega) (by first | decide | omega) rfl hv ?_
  rw [hN.1, hF.1]
  refine zj_icmp_ne (tgt := 17) hG d_MD_isSchema_10 (by decide) (fun c10 => ?_) (fun c10 => ?_)
  · have hne : ¬ T.length = F.length := fun e => c10 (by rw [e])
    have : tisS T F F.length = false := by simp [tisS, hne]
    rw [this]
    refine zj_iconst (v := 0) hG d_MD_isSchema_17 rfl ?_
    refine zj_istore_n hG d_MD_isSchema_18 rfl (by decide) rfl rfl ?_
    refine zj_iconst (v := 0) hG d_MD_isSchema_19 rfl ?_
    refine zj_istore_n hG d_MD_isSchema_20 rfl (by decide) rfl rfl ?_
    refine zj_iload_n hG d_MD_isSchema_21 rfl rfl ?_
    refine zj_aload_n hG d_MD_isSchema_22 rfl rfl ?_
    refine t_getA (o := 1) hG hT d_MD_isSchema_23 f_MD_13 rfl rfl ?_
    refine zj_iload_n hG d_MD_isSchema_26 rfl rfl ?_
    refine t_ald (v) hG hT d_MD_isSchema_27 (by first | decide | omega) (by first | decide | omega) rfl hv ?_
    refine zj_icmp_ge (tgt := 132) hG d_MD_isSchema_28 (by decide) (fun c28 => ?_) (fun c28 => ?_)
    · refine zj_iload_n hG d_MD_isSchema_132 rfl rfl ?_
      exact zj_iret hG d_MD_isSchema_133 rfl rfl ⟨rfl, rfl⟩
    · refine zj_iload_n hG d_MD_isSchema_31 rfl rfl ?_
      refine zj_if_eq (tgt := 132) hG d_MD_isSchema_32 (by decide) (fun _ => ?_) (fun c => absurd (by decide) c)
      refine zj_iload_n hG d_MD_isSchema_132 rfl rfl ?_
      exact zj_iret hG d_MD_isSchema_133 rfl rfl ⟨rfl, rfl⟩
  · have he : T.length = F.length := (nI_eq (by omega) (by omega)).mp c10
    refine zj_iconst (v := 1) hG d_MD_isSchema_13 rfl ?_
    refine zj_goto (tgt := 18) hG d_MD_isSchema_14 (by decide) ?_
    refine zj_istore_n hG d_MD_isSchema_18 rfl (by decide) rfl rfl ?_
    refine zj_iconst (v := 0) hG d_MD_isSchema_19 rfl ?_
    refine zj_istore_n hG d_MD_isSchema_20 rfl (by decide) rfl rfl ?_
    exact k_MD_isSchemaL hG hT hN hv hF F.length 0 _ (by omega) (by simp [tisS, he])
theorem tA.en {N' : Nat → Nat → Int32} (hA : tA N W) {u : Nat × List tPm} (hu : wU W = some u) {V' : List (List tFd)} {t : Nat} (hV : V' = wV W ∨ ∃ F, V' = wV W ++ [F] ∧ tVer N' (wV W).length F) (h8 : V'.length ≤ 8) (h16 : (wS W).length < 16)
    (g : ∀ o i, ¬ (o = 0 ∧ (i = 0 ∨ i = 1 ∨ i = 8 ∨ i = 13)) → ¬ (o = 1 ∧ i = (wV W).length) → ¬ (2 ≤ o ∧ o ≤ 5 ∧ 24 * (wV W).length ≤ i) → ¬ (o = 7 ∧ i = (wS W).length) → N' o i = N o i)
    (g1 : N' 0 1 = nI V'.length) (g8 : N' 0 8 = nI ((wS W).length + 1)) (g13 : N' 0 13 = 0) (g7 : N' 7 (wS W).length = nI t) : tA N' (V', wB W, wS W ++ [(u.1, t, u.2)], none, wR W) := by
  obtain ⟨hW, X, hX, hX2⟩ := hA
  have hW' := hW
  obtain ⟨⟨a1, a2, a3⟩, b, c, ⟨d1, d2⟩, e, uu, v, w⟩ := hW'
  have hget : ∀ (i : Nat) (f : List tFd), (wV W)[i]? = some f → V'[i]? = some f := by
    intro i f hf
    rcases hV with e | ⟨F, e, -⟩
    · rw [e]; exact hf
    · rw [e, List.getElem?_append_left (List.getElem?_eq_some_iff.mp hf).1]
      exact hf
  have gv : ∀ (i : Nat) (f : List tFd), (wV W)[i]? = some f → tVer N' i f := by
    intro i f hf
    have hi := (List.getElem?_eq_some_iff.mp hf).1
    have hi' : i < (wV W).length := hi
    obtain ⟨z1, z2, z3⟩ := b i f hf
    refine ⟨(g 1 i (by omega) (by omega) (by omega) (by omega)).trans z1, z2, fun k x hk => ?_⟩
    have hk2 := (List.getElem?_eq_some_iff.mp hk).1
    obtain ⟨y1, y2, y3, y4⟩ := z3 k x hk
    exact ⟨(g 2 _ (by omega) (by omega) (by omega) (by omega)).trans y1, (g 3 _ (by omega) (by omega) (by omega) (by omega)).trans y2, (g 4 _ (by omega) (by omega) (by omega) (by omega)).trans y3, (g 5 _ (by omega) (by omega) (by omega) (by omega)).trans y4⟩
  have gp : ∀ {s : Nat} {ps : List tPm}, tPs N s ps → tPs N' s ps := fun z =>
    ⟨(g 8 _ (by omega) (by omega) (by omega) (by omega)).trans z.1, z.2.1, fun i p hp => (z.2.2 i p hp).fr (P := fun o _ => !(o == 9)) (fun o j e => by simp at e; subst e; exact g 9 j (by omega) (by omega) (by omega) (by omega)) (fun _ => rfl)⟩
  refine ⟨⟨⟨g1, ?_, h8⟩, fun i f hf => ?_, (g 0 7 (by omega) (by omega) (by omega) (by omega)).trans c, ⟨?_, ?_⟩, fun s x hx => ?_, g13, (fun z hz => by cases hz), fun j hj => ?_⟩, X, hX.fr2 (P := fun o i => (1 ≤ o && o ≤ 13) || (o == 0 && (i == 0 || i == 1 || i == 8 || i == 13))) (fun o i e => g o i (by simp at e; omega) (by simp at e; omega) (by simp at e; omega) (by simp at e; omega)) (by intro o i e; simp [pA, pT, pS, pW] at e; simp; omega), hX2⟩
  · show 1 ≤ V'.length
    rcases hV with e | ⟨F, e, -⟩
    · rw [e]
      exact a2
    · rw [e]
      simp
  · show tVer N' i f
    change V'[i]? = some f at hf
    rcases hV with e | ⟨F, e, hF⟩
    · rw [e] at hf
      exact gv i f hf
    · rw [e] at hf
      rcases Nat.lt_or_ge i (wV W).length with g' | g'
      · rw [List.getElem?_append_left g'] at hf
        exact gv i f hf
      · have hi := (List.getElem?_eq_some_iff.mp hf).1
        have : i = (wV W).length := by
          simp at hi
          omega
        subst this
        simp at hf
        subst hf
        exact hF
  · show N' 0 8 = nI (wS W ++ [(u.1, t, u.2)]).length
    rw [g8]
    simp
  · show (wS W ++ [(u.1, t, u.2)]).length ≤ 16
    simp
    omega
  · change (wS W ++ [(u.1, t, u.2)])[s]? = some x at hx
    rcases Nat.lt_or_ge s (wS W).length with g' | g'
    · rw [List.getElem?_append_left g'] at hx
      obtain ⟨e1, e2, e3⟩ := e s x hx
      exact ⟨(g 6 s (by omega) (by omega) (by omega) (by omega)).trans e1, (g 7 s (by omega) (by omega) (by omega) (by omega)).trans e2, gp e3⟩
    · have hi := (List.getElem?_eq_some_iff.mp hx).1
      have : s = (wS W).length := by
        simp at hi
        omega
      subst this
      simp at hx
      subst hx
      obtain ⟨e1, e2⟩ := v u hu
      exact ⟨(g 6 _ (by omega) (by omega) (by omega) (by omega)).trans e1, g7, gp e2⟩
  · have := w j hj
    show tRo N' V' j (wR W j)
    cases hr : wR W j with
    | none =>
      rw [hr] at this
      exact (g 10 j (by omega) (by omega) (by omega) (by omega)).trans this
    | some r =>
      rw [hr] at this
      obtain ⟨z1, ⟨f, z2, z3⟩, z4⟩ := tRc.fr (N' := N') this (g 10 j (by omega) (by omega) (by omega) (by omega)) (fun i _ _ => g 11 i (by omega) (by omega) (by omega) (by omega)) (fun i _ _ => g 12 i (by omega) (by omega) (by omega) (by omega)) (fun i _ _ => g 13 i (by omega) (by omega) (by omega) (by omega)) (hW.len hj hr)
      exact ⟨z1, ⟨f, hget _ f z2, z3⟩, z4⟩
set_option maxRecDepth 4000 in
theorem k_MD_end (hG : zOK G) (hT : twOK q h) (hA : tA N W) (hU : ∀ u, wU W = some u → u.1 < (wV W).length ∧ tCh u.2 (((wV W)[u.1]?.getD []).map tE0) ∧ tSet (tUW W u)) (t : Int32) :
    zJ G 6 m_MD_end 0 [some (zA q), some (zI t), none] [] (twp q h N) (fun o h' => ∃ z N', o = zR (zI z) ∧ h' = twp q h N' ∧ (N' 0 0 = (oEnd W t).1 ∧ z = (oEnd W t).2.1 ∧ tA N' (oEnd W t).2.2)) := by
  have hW := hA.1
  have hs := hW.2.2.2.1.1
  have h16 := hW.2.2.2.1.2
  have h8 := hW.1.2.2
  have bad : ∀ (x : Int32), (0 < x) → (oEnd W t) = (x, 0, W) → zJ G 6 m_MD_end 30 [some (zA q), some (zI t), none] [zI x, zA q] (twp q h N) (fun o h' => ∃ z N', o = zR (zI z) ∧ h' = twp q h N' ∧ (N' 0 0 = (oEnd W t).1 ∧ z = (oEnd W t).2.1 ∧ tA N' (oEnd W t).2.2)) := by
    intro x hx e
    rw [e]
    refine t_putI hG hT d_MD_end_30 f_MD_101 rfl rfl ?_
    refine zj_aload_n hG d_MD_end_33 rfl rfl ?_
    refine t_getI hG hT d_MD_end_34 f_MD_101 rfl ?_
    rw [zu_s]
    refine zj_if_le (tgt := 42) hG d_MD_end_37 (by decide) (fun c => absurd c (Int32.not_le.mpr hx)) (fun _ => ?_)
    refine zj_iconst (v := 0) hG d_MD_end_40 rfl ?_
    exact zj_iret hG d_MD_end_41 rfl rfl ⟨_, _, rfl, rfl, zu_s, rfl, hA.th x⟩
  refine zj_aload_n hG d_MD_end_0 rfl rfl ?_
  refine zj_aload_n hG d_MD_end_1 rfl rfl ?_
  refine t_getI hG hT d_MD_end_2 f_MD_257 rfl ?_
  rw [hW.2.2.2.2.2.1]
  cases hu : wU W with
  | none =>
    refine zj_if_ne (tgt := 12) hG d_MD_end_5 (by decide) (fun c => absurd rfl c) (fun _ => ?_)
    refine zj_iconst (v := 1) hG d_MD_end_8 rfl ?_
    refine zj_goto (tgt := 30) hG d_MD_end_9 (by decide) ?_
    exact bad 1 (by decide) (by rw [oEnd, hu])
  | some u =>
    obtain ⟨hf, hc, hset⟩ := hU u hu
    refine zj_if_ne (tgt := 12) hG d_MD_end_5 (by decide) (fun _ => ?_) (fun c => absurd c tb1)
    refine zj_iload_n hG d_MD_end_12 rfl rfl ?_
    refine zj_iconst (v := -1) hG d_MD_end_13 rfl ?_
    -- the version is right
    have main : (t = -1 ∨ oVer W t = true) → zJ G 6 m_MD_end 29 [some (zA q), some (zI t), none] [zA q] (twp q h N) (fun o h' => ∃ z N', o = zR (zI z) ∧ h' = twp q h N' ∧ (N' 0 0 = (oEnd W t).1 ∧ z = (oEnd W t).2.1 ∧ tA N' (oEnd W t).2.2)) := by
      intro hto
      have n2 : ¬ (¬ t = -1 ∧ oVer W t = false) := by
        intro g
        rcases hto with e | e
        · exact g.1 e
        · rw [e] at g
          cases g.2
      refine zj_iconst (v := 0) hG d_MD_end_29 rfl ?_
      refine t_putI hG hT d_MD_end_30 f_MD_101 rfl rfl ?_
      refine zj_aload_n hG d_MD_end_33 rfl rfl ?_
      refine t_getI hG hT d_MD_end_34 f_MD_101 rfl ?_
      rw [zu_s]
      refine zj_if_le (tgt := 42) hG d_MD_end_37 (by decide) (fun _ => ?_) (fun c => absurd (by decide) c)
      refine zj_aload_n hG d_MD_end_42 rfl rfl ?_
      refine zj_callU (y' := m_MD_takeUnderWay) hG (zcP (as := []) hG d_MD_end_43 c_MD_takeUnderWay (z_w7 70 rfl) (z_w7 72 rfl) (z_w7 71 rfl) (z_w7 8 rfl) rfl ⟨by decide, by decide⟩ hT.1 (by decide) (by decide) (show _ = some 0 from by decide +kernel) rfl) c_MD_takeUnderWay rfl (by omega) rfl (z_le rfl) (z_le rfl) (k_MD_takeUnderWay hG hT (hA.th 0) hu hf hc) (fun N43 e43 => ?_)
      obtain ⟨⟨Y, rX, rl⟩, r2, r3⟩ := e43
      have hW2 := (hA.th 0).1.pm r2
      have hA2 : tA N43 W := ⟨hW2, _, rX, rl⟩
      have hN2 : tTab N43 (tUW W u) := rX.1
      have hop : oEnd W t = (if ¬ t = -1 ∧ (t = nI u.1 ∨ tisS (tUW W u) ((wV W)[t.toNatClampNeg]?.getD []) ((wV W)[t.toNatClampNeg]?.getD []).length = false) then (3, 0, W) else if t = -1 ∧ (wV W).length = 8 ∨ (wS W).length = 16 then (4, 0, W) else if t = -1 then (0, nI (wV W).length, (wV W ++ [stl (tUW W u)], wB W, wS W ++ [(u.1, (wV W).length, u.2)], none, wR W)) else (0, t, (wV W, wB W, wS W ++ [(u.1, t.toNatClampNeg, u.2)], none, wR W))) := by
        rw [oEnd, hu]
        simp only [if_neg n2]
      rw [hop]
      clear hop bad
      generalize tUW W u = T at *
      obtain ⟨w1, w2, w3, w4⟩ := hW2.2.2.2.2.2.2.1 u hu
      have hs2 := hW2.2.2.2.1.1
      generalize hR : (if ¬ t = -1 ∧ (t = nI u.1 ∨ tisS T ((wV W)[t.toNatClampNeg]?.getD []) ((wV W)[t.toNatClampNeg]?.getD []).length = false) then ((3, 0, W) : Int32 × Int32 × sW) else if t = -1 ∧ (wV W).length = 8 ∨ (wS W).length = 16 then (4, 0, W) else if t = -1 then (0, nI (wV W).length, (wV W ++ [stl T], wB W, wS W ++ [(u.1, (wV W).length, u.2)], none, wR W)) else (0, t, (wV W, wB W, wS W ++ [(u.1, t.toNatClampNeg, u.2)], none, wR W))) = R
      have bad2 : ∀ (x : Int32), (0 < x) → R = (x, 0, W) → zJ G 6 m_MD_end 105 [some (zA q), some (zI t), none] [zI x, zA q] (twp q h N43) (fun o h' => ∃ z N', o = zR (zI z) ∧ h' = twp q h N' ∧ (N' 0 0 = R.1 ∧ z = R.2.1 ∧ tA N' R.2.2)) := by
        intro x hx e
        rw [e]
        refine t_putI hG hT d_MD_end_105 f_MD_101 rfl rfl ?_
        refine zj_aload_n hG d_MD_end_108 rfl rfl ?_
        refine t_getI hG hT d_MD_end_109 f_MD_101 rfl ?_
        rw [zu_s]
        refine zj_if_le (tgt := 117) hG d_MD_end_112 (by decide) (fun c => absurd c (Int32.not_le.mpr hx)) (fun _ => ?_)
        refine zj_iconst (v := 0) hG d_MD_end_115 rfl ?_
        exact zj_iret hG d_MD_end_116 rfl rfl ⟨_, _, rfl, rfl, zu_s, rfl, hA2.th x⟩
      have bad3 : ¬ t = -1 ∧ (t = nI u.1 ∨ tisS T ((wV W)[t.toNatClampNeg]?.getD []) ((wV W)[t.toNatClampNeg]?.getD []).length = false) → zJ G 6 m_MD_end 73 [some (zA q), some (zI t), none] [zA q] (twp q h N43) (fun o h' => ∃ z N', o = zR (zI z) ∧ h' = twp q h N' ∧ (N' 0 0 = R.1 ∧ z = R.2.1 ∧ tA N' R.2.2)) := by
        intro e
        refine zj_iconst (v := 3) hG d_MD_end_73 rfl ?_
        refine zj_goto (tgt := 105) hG d_MD_end_74 (by decide) ?_
        exact bad2 3 (by decide) (by rw [← hR, if_pos e])
      -- room is looked for
      have room : ¬ (¬ t = -1 ∧ (t = nI u.1 ∨ tisS T ((wV W)[t.toNatClampNeg]?.getD []) ((wV W)[t.toNatClampNeg]?.getD []).length = false)) → zJ G 6 m_MD_end 77 [some (zA q), some (zI t), none] [zA q] (twp q h N43) (fun o h' => ∃ z N', o = zR (zI z) ∧ h' = twp q h N' ∧ (N' 0 0 = R.1 ∧ z = R.2.1 ∧ tA N' R.2.2)) := by
        intro n3
        rw [if_neg n3] at hR
        have bad4 : (t = -1 ∧ (wV W).length = 8 ∨ (wS W).length = 16) → zJ G 6 m_MD_end 100 [some (zA q), some (zI t), none] [zA q] (twp q h N43) (fun o h' => ∃ z N', o = zR (zI z) ∧ h' = twp q h N' ∧ (N' 0 0 = R.1 ∧ z = R.2.1 ∧ tA N' R.2.2)) := by
          intro e
          refine zj_iconst (v := 4) hG d_MD_end_100 rfl ?_
          refine zj_goto (tgt := 105) hG d_MD_end_101 (by decide) ?_
          exact bad2 4 (by decide) (by rw [← hR, if_pos e])
        have hA3 := hA2.th 0
        have hW3 := hA3.1
        have hN3 : tTab (zu N43 0 0 0) T := hN2.fr (P := fun o i => o == 0 && i == 0) (tFr.put tFr.rfl' rfl) (by intro o i e; simp [pT] at e; simp; omega)
        have z0 : (zu N43 0 0 0) 0 0 = 0 := zu_s
        have good : ¬ (t = -1 ∧ (wV W).length = 8 ∨ (wS W).length = 16) → zJ G 6 m_MD_end 104 [some (zA q), some (zI t), none] [zA q] (twp q h N43) (fun o h' => ∃ z N', o = zR (zI z) ∧ h' = twp q h N' ∧ (N' 0 0 = R.1 ∧ z = R.2.1 ∧ tA N' R.2.2)) := by
          intro n4
          rw [if_neg n4] at hR
          refine zj_iconst (v := 0) hG d_MD_end_104 rfl ?_
          refine t_putI hG hT d_MD_end_105 f_MD_101 rfl rfl ?_
          refine zj_aload_n hG d_MD_end_108 rfl rfl ?_
          refine t_getI hG hT d_MD_end_109 f_MD_101 rfl ?_
          rw [zu_s]
          refine zj_if_le (tgt := 117) hG d_MD_end_112 (by decide) (fun _ => ?_) (fun c => absurd (by decide) c)
          generalize zu N43 0 0 0 = M at *
          have hs3 := hW3.2.2.2.1.1
          have hv3 := hW3.1.1
          by_cases ht : t = -1
          · have h8' : (wV W).length < 8 := by
              have : ¬ (wV W).length = 8 := fun e => n4 (Or.inl ⟨ht, e⟩)
              omega
            have h16' : (wS W).length < 16 := by
              have : ¬ (wS W).length = 16 := fun e => n4 (Or.inr e)
              omega
            rw [if_pos ht] at hR
            refine zj_iload_n hG d_MD_end_117 rfl rfl ?_
            refine zj_istore_n hG d_MD_end_118 rfl (by decide) rfl rfl ?_
            refine zj_iload_n hG d_MD_end_119 rfl rfl ?_
            refine zj_iconst (v := -1) hG d_MD_end_120 rfl ?_
            refine zj_icmp_ne (tgt := 144) hG d_MD_end_121 (by decide) (fun c => absurd ht c) (fun _ => ?_)
            refine zj_aload_n hG d_MD_end_124 rfl rfl ?_
            refine t_getI hG hT d_MD_end_125 f_MD_7 rfl ?_
            refine zj_istore_n hG d_MD_end_128 rfl (by decide) rfl rfl ?_
            refine zj_aload_n hG d_MD_end_129 rfl rfl ?_
            refine zj_dup hG d_MD_end_130 (by first | exact zc_A _ | rfl) ?_
            refine t_getI hG hT d_MD_end_131 f_MD_7 rfl ?_
            refine zj_iconst (v := 1) hG d_MD_end_134 rfl ?_
            refine zj_iadd hG d_MD_end_135 ?_
            refine t_putI hG hT d_MD_end_136 f_MD_7 rfl rfl ?_
            refine zj_aload_n hG d_MD_end_139 rfl rfl ?_
            refine zj_iload_n hG d_MD_end_140 rfl rfl ?_
            rw [hv3, nI_1]
            refine zj_callU (y' := m_MD_settle) hG (zcP (as := [_]) hG d_MD_end_141 c_MD_settle (z_w7 51 rfl) (z_w7 53 rfl) (z_w7 52 rfl) (z_w7 8 rfl) rfl ⟨by decide, by decide⟩ hT.1 (by decide) (by decide) (show _ = some 1 from by decide +kernel) rfl) c_MD_settle rfl (by omega) rfl (z_le rfl) (z_le rfl) (k_MD_settle hG hT (hN3.fr (P := fun o i => o == 0 && i == 1) (tFr.put tFr.rfl' rfl) (by intro o i e; simp [pT] at e; simp; omega)) hset.1 h8' hset.2.1 hset.2.2.1 (stl_len T) hset.2.2.2) (fun N141 e141 => ?_)
            obtain ⟨k1, k2⟩ := e141
            have kf : ∀ o i, ¬ (o = 0 ∧ i = 1) → ¬ (o = 1 ∧ i = (wV W).length) → ¬ (2 ≤ o ∧ o ≤ 5 ∧ 24 * (wV W).length ≤ i ∧ i < 24 * (wV W).length + 24) → N141 o i = M o i := by
              intro o i e1 e2 e3
              rw [k2 o i e2 e3, zu, if_neg e1]
            have kv : N141 0 1 = nI ((wV W).length + 1) := by
              rw [k2 _ _ (by omega) (by omega)]
              exact zu_s
            have ks : N141 0 8 = nI (wS W).length := by rw [kf _ _ (by omega) (by omega) (by omega)]; exact hs3
            refine zj_aload_n hG d_MD_end_144 rfl rfl ?_
            refine t_getA (o := 7) hG hT d_MD_end_145 f_MD_32 rfl rfl ?_
            refine zj_aload_n hG d_MD_end_148 rfl rfl ?_
            refine t_getI hG hT d_MD_end_149 f_MD_260 rfl ?_
            refine zj_iload_n hG d_MD_end_152 rfl rfl ?_
            refine t_ast ((wS W).length) hG hT d_MD_end_153 (by first | decide | omega) (by first | decide | omega) ks (by show _ < 17; omega) ?_
            refine zj_aload_n hG d_MD_end_154 rfl rfl ?_
            refine zj_dup hG d_MD_end_155 (by first | exact zc_A _ | rfl) ?_
            refine t_getI hG hT d_MD_end_156 f_MD_260 rfl ?_
            refine zj_iconst (v := 1) hG d_MD_end_159 rfl ?_
            refine zj_iadd hG d_MD_end_160 ?_
            rw [zu_a (show (0 : Nat) ≠ 7 by omega), ks, nI_1]
            refine t_putI hG hT d_MD_end_161 f_MD_260 rfl rfl ?_
            refine zj_aload_n hG d_MD_end_164 rfl rfl ?_
            refine zj_iconst (v := 0) hG d_MD_end_165 rfl ?_
            refine t_putZ hG hT d_MD_end_166 f_MD_257 rfl rfl (by simp) ?_
            refine zj_iload_n hG d_MD_end_169 rfl rfl ?_
            refine zj_iret hG d_MD_end_170 rfl rfl ⟨_, _, rfl, rfl, ?_, ?_, ?_⟩
            · rw [← hR, zu_k (by omega), zu_k (by omega), zu_a (by omega), kf _ _ (by omega) (by omega) (by omega), z0]
            · rw [← hR]
            · rw [← hR]
              refine hA3.en hu (Or.inr ⟨stl T, rfl, ?_⟩) (by simp; omega) h16' (fun o i e1 e2 e3 e4 => ?_) ?_ ?_ zu_s ?_
              · exact k1.fr (P := fun o i => o == 7 || o == 0) (tFr.put (tFr.put (tFr.put tFr.rfl' rfl) rfl) rfl) (by intro o i e; simp [pV] at e; simp; omega)
              · rw [zu, if_neg (by omega), zu, if_neg (by omega), zu, if_neg (by omega)]
                exact kf o i (by omega) e2 (by omega)
              · rw [zu_k (by omega), zu_k (by omega), zu_a (by omega), kv]
                simp
              · rw [zu_k (by omega), zu_s]
              · rw [zu_a (by omega), zu_a (by omega), zu_s]
          · have hto' : oVer W t = true := by
              rcases hto with e | e
              · exact absurd e ht
              · exact e
            obtain ⟨n, hn, rfl⟩ := oVer_n h8 hto'
            have h16' : (wS W).length < 16 := by
              have : ¬ (wS W).length = 16 := fun e => n4 (Or.inr e)
              omega
            rw [if_neg ht, nI_clamp (by omega)] at hR
            refine zj_iload_n hG d_MD_end_117 rfl rfl ?_
            refine zj_istore_n hG d_MD_end_118 rfl (by decide) rfl rfl ?_
            refine zj_iload_n hG d_MD_end_119 rfl rfl ?_
            refine zj_iconst (v := -1) hG d_MD_end_120 rfl ?_
            refine zj_icmp_ne (tgt := 144) hG d_MD_end_121 (by decide) (fun _ => ?_) (fun c => absurd c ht)
            refine zj_aload_n hG d_MD_end_144 rfl rfl ?_
            refine t_getA (o := 7) hG hT d_MD_end_145 f_MD_32 rfl rfl ?_
            refine zj_aload_n hG d_MD_end_148 rfl rfl ?_
            refine t_getI hG hT d_MD_end_149 f_MD_260 rfl ?_
            refine zj_iload_n hG d_MD_end_152 rfl rfl ?_
            refine t_ast ((wS W).length) hG hT d_MD_end_153 (by first | decide | omega) (by first | decide | omega) hs3 (by show _ < 17; omega) ?_
            refine zj_aload_n hG d_MD_end_154 rfl rfl ?_
            refine zj_dup hG d_MD_end_155 (by first | exact zc_A _ | rfl) ?_
            refine t_getI hG hT d_MD_end_156 f_MD_260 rfl ?_
            refine zj_iconst (v := 1) hG d_MD_end_159 rfl ?_
            refine zj_iadd hG d_MD_end_160 ?_
            rw [zu_a (show (0 : Nat) ≠ 7 by omega), hs3, nI_1]
            refine t_putI hG hT d_MD_end_161 f_MD_260 rfl rfl ?_
            refine zj_aload_n hG d_MD_end_164 rfl rfl ?_
            refine zj_iconst (v := 0) hG d_MD_end_165 rfl ?_
            refine t_putZ hG hT d_MD_end_166 f_MD_257 rfl rfl (by simp) ?_
            refine zj_iload_n hG d_MD_end_169 rfl rfl ?_
            refine zj_iret hG d_MD_end_170 rfl rfl ⟨_, _, rfl, rfl, ?_, ?_, ?_⟩
            · rw [← hR, zu_k (by omega), zu_k (by omega), zu_a (by omega), z0]
            · rw [← hR]
            · rw [← hR]
              refine hA3.en hu (Or.inl rfl) h8 h16' (fun o i e1 e2 e3 e4 => ?_) ?_ ?_ zu_s ?_
              · rw [zu, if_neg (by omega), zu, if_neg (by omega), zu, if_neg (by omega)]
              · rw [zu_k (by omega), zu_k (by omega), zu_a (by omega), hv3]
              · rw [zu_k (by omega), zu_s]
              · rw [zu_a (by omega), zu_a (by omega), zu_s]
        have step16 : (t = -1 → ¬ (wV W).length = 8) → zJ G 6 m_MD_end 91 [some (zA q), some (zI t), none] [zA q] (twp q h N43) (fun o h' => ∃ z N', o = zR (zI z) ∧ h' = twp q h N' ∧ (N' 0 0 = R.1 ∧ z = R.2.1 ∧ tA N' R.2.2)) := by
          intro nv
          refine zj_aload_n hG d_MD_end_91 rfl rfl ?_
          refine t_getI hG hT d_MD_end_92 f_MD_260 rfl ?_
          refine zj_bipush (v := 16) hG d_MD_end_95 rfl ?_
          rw [hs2]
          refine zj_icmp_ne (tgt := 104) hG d_MD_end_97 (by decide) (fun c97 => ?_) (fun c97 => ?_)
          · refine good (fun g => ?_)
            rcases g with g | g
            · exact nv g.1 g.2
            · exact c97 (by rw [g]; rfl)
          · exact bad4 (Or.inr ((nI_eq (b := 16) (by omega) (by omega)).mp c97))
        refine zj_iload_n hG d_MD_end_77 rfl rfl ?_
        refine zj_iconst (v := -1) hG d_MD_end_78 rfl ?_
        refine zj_icmp_ne (tgt := 91) hG d_MD_end_79 (by decide) (fun c79 => ?_) (fun c79 => ?_)
        · exact step16 (fun e => absurd e c79)
        · refine zj_aload_n hG d_MD_end_82 rfl rfl ?_
          refine t_getI hG hT d_MD_end_83 f_MD_7 rfl ?_
          refine zj_bipush (v := 8) hG d_MD_end_86 rfl ?_
          rw [hW2.1.1]
          refine zj_icmp_eq (tgt := 100) hG d_MD_end_88 (by decide) (fun c88 => ?_) (fun c88 => ?_)
          · exact bad4 (Or.inl ⟨c79, (nI_eq (b := 8) (by omega) (by omega)).mp c88⟩)
          · exact step16 (fun _ e => c88 (by rw [e]; rfl))
      refine zj_aload_n hG d_MD_end_46 rfl rfl ?_
      refine zj_iload_n hG d_MD_end_47 rfl rfl ?_
      refine zj_iconst (v := -1) hG d_MD_end_48 rfl ?_
      refine zj_icmp_eq (tgt := 77) hG d_MD_end_49 (by decide) (fun c49 => ?_) (fun c49 => ?_)
      · exact room (fun g => g.1 c49)
      have hto' : oVer W t = true := by
        rcases hto with e | e
        · exact absurd e c49
        · exact e
      obtain ⟨n, hn, hnt⟩ := oVer_n h8 hto'
      have hFn : (wV W)[t.toNatClampNeg]? = some (wV W)[n] := by
        rw [hnt, nI_clamp (by omega)]
        exact List.getElem?_eq_getElem hn
      refine zj_iload_n hG d_MD_end_52 rfl rfl ?_
      refine zj_aload_n hG d_MD_end_53 rfl rfl ?_
      refine t_getA (o := 6) hG hT d_MD_end_54 f_MD_29 rfl rfl ?_
      refine zj_aload_n hG d_MD_end_57 rfl rfl ?_
      refine t_getI hG hT d_MD_end_58 f_MD_260 rfl ?_
      refine t_ald ((wS W).length) hG hT d_MD_end_61 (by first | decide | omega) (by first | decide | omega) hs2 (by show _ < 17; omega) ?_
      rw [w1]
      refine zj_icmp_eq (tgt := 73) hG d_MD_end_62 (by decide) (fun c62 => ?_) (fun c62 => ?_)
      · exact bad3 ⟨c49, Or.inl c62⟩
      have hsch := k_MD_isSchema hG hT hN2 (v := n) (by omega) (hW2.2.1 n _ (List.getElem?_eq_getElem hn))
      rw [← hnt] at hsch
      rw [hFn] at bad3 room
      refine zj_aload_n hG d_MD_end_65 rfl rfl ?_
      refine zj_iload_n hG d_MD_end_66 rfl rfl ?_
      refine zj_callR (y' := m_MD_isSchema) hG (zcP (as := [_]) hG d_MD_end_67 c_MD_isSchema (z_w7 170 rfl) (z_w7 172 rfl) (z_w7 171 rfl) (z_w7 8 rfl) rfl ⟨by decide, by decide⟩ hT.1 (by decide) (by decide) (show _ = some 1 from by decide +kernel) rfl) c_MD_isSchema rfl (by omega) rfl (z_le rfl) (z_le rfl) hsch ?_
      refine zj_if_ne (tgt := 77) hG d_MD_end_70 (by decide) (fun c70 => ?_) (fun c70 => ?_)
      · exact room (fun g => by rcases g.2 with e | e; exact c62 e; simp only [Option.getD_some] at e; rw [tb_t c70] at e; cases e)
      · exact bad3 ⟨c49, Or.inr (tb_f c70)⟩
    refine zj_icmp_eq (tgt := 29) hG d_MD_end_14 (by decide) (fun c14 => ?_) (fun c14 => ?_)
    · exact main (Or.inl c14)
    refine zj_aload_n hG d_MD_end_17 rfl rfl ?_
    refine zj_iload_n hG d_MD_end_18 rfl rfl ?_
    refine zj_callR (y' := m_MD_isVersion) hG (zcP (as := [_]) hG d_MD_end_19 c_MD_isVersion (z_w7 62 rfl) (z_w7 64 rfl) (z_w7 63 rfl) (z_w7 8 rfl) rfl ⟨by decide, by decide⟩ hT.1 (by decide) (by decide) (show _ = some 1 from by decide +kernel) rfl) c_MD_isVersion rfl (by omega) rfl (z_le rfl) (z_le rfl) (k_MD_isVersion hG hT hW t) ?_
    refine zj_if_ne (tgt := 29) hG d_MD_end_22 (by decide) (fun c22 => ?_) (fun c22 => ?_)
    · exact main (Or.inr (tb_t c22))
    · refine zj_iconst (v := 2) hG d_MD_end_25 rfl ?_
      refine zj_goto (tgt := 30) hG d_MD_end_26 (by decide) ?_
      exact bad 2 (by decide) (by rw [oEnd, hu]; simp only; rw [if_pos ⟨c14, tb_f c22⟩])
end MD23
