/-! PART 29: the reference: what is written into records -/
def oSetR (W : sW) (j : Nat) (r : sRc) (k : Nat) (l : List Int32) : sW := sRs W j (some (r.1, r.2.1.set k l, r.2.2))
def oSet (W : sW) (x p v : Int32) : Int32 × sW := match oRec W x with
  | none => (1, W)
  | some r => match oFld (wV W) r.1 p 0 with
    | none => (2, W)
    | some k => if oFit (wV W) r.1 k v then (0, oSetR W x.toNatClampNeg r k [v]) else (2, W)
def oCut (W : sW) (x p n : Int32) : Int32 × sW := match oRec W x with
  | none => (1, W)
  | some r => match oFld (wV W) r.1 p 1 with
    | none => (2, W)
    | some k => if 0 ≤ n ∧ n ≤ nI (oRow r k).length then (0, oSetR W x.toNatClampNeg r k ((oRow r k).take n.toNatClampNeg)) else (2, W)
def oPutL (l : List Int32) (i : Nat) (v : Int32) : List Int32 := if i = l.length then l ++ [v] else l.set i v
def oPut (W : sW) (x p i v : Int32) : Int32 × Int32 × sW := match oRec W x with
  | none => (1, 0, W)
  | some r => match oFld (wV W) r.1 p 1 with
    | none => (2, 0, W)
    | some k => if 0 ≤ i ∧ i ≤ nI (oRow r k).length ∧ i ≠ 6 ∧ oFit (wV W) r.1 k v = true then (0, nI (oPutL (oRow r k) i.toNatClampNeg v).length, oSetR W x.toNatClampNeg r k (oPutL (oRow r k) i.toNatClampNeg v)) else (2, 0, W)
section MD16
variable {G : zG} {q : Nat} {h : zH} {N : Nat → Nat → Int32} {W : sW}
theorem tA.row {N' : Nat → Nat → Int32} (hA : tA N W) {j k : Nat} {r : sRc} {l : List Int32} (hj : j < 16) (hr : wR W j = some r) (hk : k < r.2.1.length) (g : ∀ o i, ¬ (o = 0 ∧ i = 0) → ¬ (o = 11 ∧ 7 * (24 * j + k) ≤ i ∧ i < 7 * (24 * j + k) + 7) → N' o i = N o i) (hl : tRow N' 11 (7 * (24 * j + k)) l) : tA N' (oSetR W j r k l) := by
  obtain ⟨hW, X, hX, hX2⟩ := hA
  have h24 := hW.len hj hr
  refine ⟨hW.rc (fun o i e1 e2 e3 e4 e5 => g o i (by simp [pP] at e1; omega) (by omega)) ?_, X, hX.fr2 (P := fun o i => o == 11 || (o == 0 && i == 0)) (fun o i e => g o i (by simp at e; omega) (by simp at e; omega)) (by intro o i e; simp [pA, pT, pS, pW] at e; simp; omega), hX2⟩
  obtain ⟨a, ⟨F, hF, hlF⟩, c, d⟩ := hW.r hj hr
  refine ⟨(g 10 j (by omega) (by omega)).trans a, ⟨F, hF, by simpa using hlF⟩, fun k' l' hk' => ?_, fun s hs => ?_⟩
  · simp only [List.getElem?_set] at hk'
    by_cases e : k = k'
    · subst e
      rw [if_pos rfl, if_pos hk] at hk'
      cases hk'
      exact hl
    · rw [if_neg e] at hk'
      exact (c k' l' hk').fr (fun i _ _ => g 11 i (by omega) (by omega))
  · obtain ⟨d1, d2, d3⟩ := d s hs
    exact ⟨(g 12 _ (by omega) (by omega)).trans d1, fun e => (d2 e).fr (fun i _ _ => g 13 i (by omega) (by omega)), fun e => (d3 e).fr (fun i _ _ => g 13 i (by omega) (by omega))⟩
set_option maxRecDepth 4000 in
theorem k_MD_set (hG : zOK G) (hT : twOK q h) (hA : tA N W) (hRw : sRw W) (x p v : Int32) : zJ G 1 m_MD_set 0 [some (zA q), some (zI x), some (zI p), some (zI v), none] [] (twp q h N) (fun o h' => ∃ N', o = zR0 ∧ h' = twp q h N' ∧ (N' 0 0 = (oSet W x p v).1 ∧ tA N' (oSet W x p v).2)) := by
  have hW := hA.1
  have hrh := k_MD_isRecordHandle hG hT hW x
  rw [oSet]
  cases hr : oRec W x with
  | none =>
    rw [hr] at hrh
    refine zj_aload_n hG d_MD_set_0 rfl rfl ?_
    refine zj_iload_n hG d_MD_set_1 rfl rfl ?_
    refine zj_callR (y' := m_MD_isRecordHandle) hG (zcP (as := [_]) hG d_MD_set_2 c_MD_isRecordHandle (z_w7 198 rfl) (z_w7 200 rfl) (z_w7 199 rfl) (z_w7 8 rfl) rfl ⟨by decide, by decide⟩ hT.1 (by decide) (by decide) (show _ = some 1 from by decide +kernel) rfl) c_MD_isRecordHandle rfl (by omega) rfl (z_le rfl) (z_le rfl) hrh ?_
    refine zj_if_eq (tgt := 18) hG d_MD_set_5 (by decide) (fun _ => ?_) (fun c => absurd (by decide) c)
    refine zj_iconst (v := -1) hG d_MD_set_18 rfl ?_
    refine zj_istore hG d_MD_set_19 (by decide) rfl rfl ?_
    refine zj_aload_n hG d_MD_set_21 rfl rfl ?_
    refine zj_aload_n hG d_MD_set_22 rfl rfl ?_
    refine zj_iload_n hG d_MD_set_23 rfl rfl ?_
    refine zj_callR (y' := m_MD_isRecordHandle) hG (zcP (as := [_]) hG d_MD_set_24 c_MD_isRecordHandle (z_w7 198 rfl) (z_w7 200 rfl) (z_w7 199 rfl) (z_w7 8 rfl) rfl ⟨by decide, by decide⟩ hT.1 (by decide) (by decide) (show _ = some 1 from by decide +kernel) rfl) c_MD_isRecordHandle rfl (by omega) rfl (z_le rfl) (z_le rfl) hrh ?_
    refine zj_if_ne (tgt := 34) hG d_MD_set_27 (by decide) (fun c => absurd rfl c) (fun _ => ?_)
    refine zj_iconst (v := 1) hG d_MD_set_30 rfl ?_
    refine zj_goto (tgt := 55) hG d_MD_set_31 (by decide) ?_
    refine t_putI hG hT d_MD_set_55 f_MD_101 rfl rfl ?_
    refine zj_aload_n hG d_MD_set_58 rfl rfl ?_
    refine t_getI hG hT d_MD_set_59 f_MD_101 rfl ?_
    rw [zu_s]
    refine zj_if_ne (tgt := 80) hG d_MD_set_62 (by decide) (fun _ => ?_) (fun c => absurd c (by decide))
    exact zj_vret hG d_MD_set_80 rfl ⟨_, rfl, rfl, zu_s, hA.th 1⟩
  | some r =>
    rw [hr] at hrh
    obtain ⟨j, hj, rfl, hr2⟩ := oRec_some hr
    have hfo := k_MD_fieldOf hG hT hW hj hr2 p 0
    simp only
    refine zj_aload_n hG d_MD_set_0 rfl rfl ?_
    refine zj_iload_n hG d_MD_set_1 rfl rfl ?_
    refine zj_callR (y' := m_MD_isRecordHandle) hG (zcP (as := [_]) hG d_MD_set_2 c_MD_isRecordHandle (z_w7 198 rfl) (z_w7 200 rfl) (z_w7 199 rfl) (z_w7 8 rfl) rfl ⟨by decide, by decide⟩ hT.1 (by decide) (by decide) (show _ = some 1 from by decide +kernel) rfl) c_MD_isRecordHandle rfl (by omega) rfl (z_le rfl) (z_le rfl) hrh ?_
    refine zj_if_eq (tgt := 18) hG d_MD_set_5 (by decide) (fun c => absurd c tb1) (fun _ => ?_)
    refine zj_aload_n hG d_MD_set_8 rfl rfl ?_
    refine zj_iload_n hG d_MD_set_9 rfl rfl ?_
    refine zj_iload_n hG d_MD_set_10 rfl rfl ?_
    refine zj_iconst (v := 0) hG d_MD_set_11 rfl ?_
    refine zj_callR (y' := m_MD_fieldOf) hG (zcP (as := [_, _, _]) hG d_MD_set_12 c_MD_fieldOf (z_w7 210 rfl) (z_w7 212 rfl) (z_w7 211 rfl) (z_w7 8 rfl) rfl ⟨by decide, by decide⟩ hT.1 (by decide) (by decide) (show _ = some 3 from by decide +kernel) rfl) c_MD_fieldOf rfl (by omega) rfl (z_le rfl) (z_le rfl) hfo ?_
    refine zj_goto (tgt := 19) hG d_MD_set_15 (by decide) ?_
    refine zj_istore hG d_MD_set_19 (by decide) rfl rfl ?_
    refine zj_aload_n hG d_MD_set_21 rfl rfl ?_
    refine zj_aload_n hG d_MD_set_22 rfl rfl ?_
    refine zj_iload_n hG d_MD_set_23 rfl rfl ?_
    refine zj_callR (y' := m_MD_isRecordHandle) hG (zcP (as := [_]) hG d_MD_set_24 c_MD_isRecordHandle (z_w7 198 rfl) (z_w7 200 rfl) (z_w7 199 rfl) (z_w7 8 rfl) rfl ⟨by decide, by decide⟩ hT.1 (by decide) (by decide) (show _ = some 1 from by decide +kernel) rfl) c_MD_isRecordHandle rfl (by omega) rfl (z_le rfl) (z_le rfl) hrh ?_
    refine zj_if_ne (tgt := 34) hG d_MD_set_27 (by decide) (fun _ => ?_) (fun c => absurd c tb1)
    refine zj_iload hG d_MD_set_34 rfl ?_
    have bad : ∀ w : zV, zJ G 1 m_MD_set 50 [some (zA q), some (zI (nI j)), some (zI p), some (zI v), some w] [zA q] (twp q h N) (fun o h' => ∃ N', o = zR0 ∧ h' = twp q h N' ∧ (N' 0 0 = (2 : Int32) ∧ tA N' W)) := by
      intro w
      refine zj_iconst (v := 2) hG d_MD_set_50 rfl ?_
      refine zj_goto (tgt := 55) hG d_MD_set_51 (by decide) ?_
      refine t_putI hG hT d_MD_set_55 f_MD_101 rfl rfl ?_
      refine zj_aload_n hG d_MD_set_58 rfl rfl ?_
      refine t_getI hG hT d_MD_set_59 f_MD_101 rfl ?_
      rw [zu_s]
      refine zj_if_ne (tgt := 80) hG d_MD_set_62 (by decide) (fun _ => ?_) (fun c => absurd c (by decide))
      exact zj_vret hG d_MD_set_80 rfl ⟨_, rfl, rfl, zu_s, hA.th 2⟩
    cases hf : oFld (wV W) r.1 p 0 with
    | none =>
      refine zj_if_lt (tgt := 50) hG d_MD_set_36 (by decide) (fun _ => ?_) (fun c => absurd (by decide) c)
      exact bad _
    | some k =>
      obtain ⟨F, hk, hF, h24, hs, he, hrow⟩ := hW.row hj hr2 hf
      obtain ⟨y, hy⟩ := hRw j r F hj hr2 hF k _ _ (List.getElem?_eq_getElem hk) he hs
      rw [hy] at hrow
      simp only
      refine zj_if_lt (tgt := 50) hG d_MD_set_36 (by decide) (fun c => absurd c (nI_pos (by omega))) (fun _ => ?_)
      refine zj_aload_n hG d_MD_set_39 rfl rfl ?_
      refine zj_iload_n hG d_MD_set_40 rfl rfl ?_
      refine zj_iload hG d_MD_set_41 rfl ?_
      refine zj_iload_n hG d_MD_set_43 rfl rfl ?_
      refine zj_callR (y' := m_MD_fits) hG (zcP (as := [_, _, _]) hG d_MD_set_44 c_MD_fits (z_w7 214 rfl) (z_w7 216 rfl) (z_w7 215 rfl) (z_w7 8 rfl) rfl ⟨by decide, by decide⟩ hT.1 (by decide) (by decide) (show _ = some 3 from by decide +kernel) rfl) c_MD_fits rfl (by omega) rfl (z_le rfl) (z_le rfl) (k_MD_fits hG hT hW hj hr2 hF hk v) ?_
      refine zj_if_ne (tgt := 54) hG d_MD_set_47 (by decide) (fun c47 => ?_) (fun c47 => ?_)
      · rw [if_pos (tb_t c47), nI_clamp (by omega)]
        refine zj_iconst (v := 0) hG d_MD_set_54 rfl ?_
        refine t_putI hG hT d_MD_set_55 f_MD_101 rfl rfl ?_
        refine zj_aload_n hG d_MD_set_58 rfl rfl ?_
        refine t_getI hG hT d_MD_set_59 f_MD_101 rfl ?_
        rw [zu_s]
        refine zj_if_ne (tgt := 80) hG d_MD_set_62 (by decide) (fun c => absurd rfl c) (fun _ => ?_)
        refine zj_aload_n hG d_MD_set_65 rfl rfl ?_
        refine t_getA (o := 11) hG hT d_MD_set_66 f_MD_44 rfl rfl ?_
        refine zj_aload_n hG d_MD_set_69 rfl rfl ?_
        refine zj_iload_n hG d_MD_set_70 rfl rfl ?_
        refine zj_iload hG d_MD_set_71 rfl ?_
        refine zj_callR (y' := m_MD_rowOf) hG (zcP (as := [_, _]) hG d_MD_set_73 c_MD_rowOf (z_w7 218 rfl) (z_w7 220 rfl) (z_w7 219 rfl) (z_w7 8 rfl) rfl ⟨by decide, by decide⟩ hT.1 (by decide) (by decide) (show _ = some 2 from by decide +kernel) rfl) c_MD_rowOf rfl (by omega) rfl (z_le rfl) (z_le rfl) (k_MD_rowOf hG j k _ _) ?_
        refine zj_iconst (v := 1) hG d_MD_set_76 rfl ?_
        refine zj_iadd hG d_MD_set_77 ?_
        refine zj_iload_n hG d_MD_set_78 rfl rfl ?_
        refine t_ast (7 * (24 * j + k) + 1) hG hT d_MD_set_79 (by first | decide | omega) (by first | decide | omega) (nI_1 _) (by show _ < 2688; omega) ?_
        refine zj_vret hG d_MD_set_80 rfl ⟨_, rfl, rfl, by rw [zu_a (by omega), zu_s], hA.row hj hr2 (List.getElem?_eq_some_iff.mp he).1 (fun o i g1 g2 => by rw [zu, if_neg (by omega), zu, if_neg (by omega)]) (tRow.of1 ?_ zu_s)⟩
        rw [zu_k (by omega), zu_a (by omega)]
        exact hrow.1
      · rw [if_neg (by rw [tb_f c47]; decide)]
        exact bad _
set_option maxRecDepth 4000 in
theorem k_MD_cut (hG : zOK G) (hT : twOK q h) (hA : tA N W) (x p n : Int32) : zJ G 1 m_MD_cut 0 [some (zA q), some (zI x), some (zI p), some (zI n), none] [] (twp q h N) (fun o h' => ∃ N', o = zR0 ∧ h' = twp q h N' ∧ (N' 0 0 = (oCut W x p n).1 ∧ tA N' (oCut W x p n).2)) := by
  have hW := hA.1
  have hrh := k_MD_isRecordHandle hG hT hW x
  rw [oCut]
  cases hr : oRec W x with
  | none =>
    rw [hr] at hrh
    refine zj_aload_n hG d_MD_cut_0 rfl rfl ?_
    refine zj_iload_n hG d_MD_cut_1 rfl rfl ?_
    refine zj_callR (y' := m_MD_isRecordHandle) hG (zcP (as := [_]) hG d_MD_cut_2 c_MD_isRecordHandle (z_w7 198 rfl) (z_w7 200 rfl) (z_w7 199 rfl) (z_w7 8 rfl) rfl ⟨by decide, by decide⟩ hT.1 (by decide) (by decide) (show _ = some 1 from by decide +kernel) rfl) c_MD_isRecordHandle rfl (by omega) rfl (z_le rfl) (z_le rfl) hrh ?_
    refine zj_if_eq (tgt := 18) hG d_MD_cut_5 (by decide) (fun _ => ?_) (fun c => absurd (by decide) c)
    refine zj_iconst (v := -1) hG d_MD_cut_18 rfl ?_
    refine zj_istore hG d_MD_cut_19 (by decide) rfl rfl ?_
    refine zj_aload_n hG d_MD_cut_21 rfl rfl ?_
    refine zj_aload_n hG d_MD_cut_22 rfl rfl ?_
    refine zj_iload_n hG d_MD_cut_23 rfl rfl ?_
    refine zj_callR (y' := m_MD_isRecordHandle) hG (zcP (as := [_]) hG d_MD_cut_24 c_MD_isRecordHandle (z_w7 198 rfl) (z_w7 200 rfl) (z_w7 199 rfl) (z_w7 8 rfl) rfl ⟨by decide, by decide⟩ hT.1 (by decide) (by decide) (show _ = some 1 from by decide +kernel) rfl) c_MD_isRecordHandle rfl (by omega) rfl (z_le rfl) (z_le rfl) hrh ?_
    refine zj_if_ne (tgt := 34) hG d_MD_cut_27 (by decide) (fun c => absurd rfl c) (fun _ => ?_)
    refine zj_iconst (v := 1) hG d_MD_cut_30 rfl ?_
    refine zj_goto (tgt := 64) hG d_MD_cut_31 (by decide) ?_
    refine t_putI hG hT d_MD_cut_64 f_MD_101 rfl rfl ?_
    refine zj_aload_n hG d_MD_cut_67 rfl rfl ?_
    refine t_getI hG hT d_MD_cut_68 f_MD_101 rfl ?_
    rw [zu_s]
    refine zj_if_ne (tgt := 87) hG d_MD_cut_71 (by decide) (fun _ => ?_) (fun c => absurd c (by decide))
    exact zj_vret hG d_MD_cut_87 rfl ⟨_, rfl, rfl, zu_s, hA.th 1⟩
  | some r =>
    rw [hr] at hrh
    obtain ⟨j, hj, rfl, hr2⟩ := oRec_some hr
    have hfo := k_MD_fieldOf hG hT hW hj hr2 p 1
    simp only
    refine zj_aload_n hG d_MD_cut_0 rfl rfl ?_
    refine zj_iload_n hG d_MD_cut_1 rfl rfl ?_
    refine zj_callR (y' := m_MD_isRecordHandle) hG (zcP (as := [_]) hG d_MD_cut_2 c_MD_isRecordHandle (z_w7 198 rfl) (z_w7 200 rfl) (z_w7 199 rfl) (z_w7 8 rfl) rfl ⟨by decide, by decide⟩ hT.1 (by decide) (by decide) (show _ = some 1 from by decide +kernel) rfl) c_MD_isRecordHandle rfl (by omega) rfl (z_le rfl) (z_le rfl) hrh ?_
    refine zj_if_eq (tgt := 18) hG d_MD_cut_5 (by decide) (fun c => absurd c tb1) (fun _ => ?_)
    refine zj_aload_n hG d_MD_cut_8 rfl rfl ?_
    refine zj_iload_n hG d_MD_cut_9 rfl rfl ?_
    refine zj_iload_n hG d_MD_cut_10 rfl rfl ?_
    refine zj_iconst (v := 1) hG d_MD_cut_11 rfl ?_
    refine zj_callR (y' := m_MD_fieldOf) hG (zcP (as := [_, _, _]) hG d_MD_cut_12 c_MD_fieldOf (z_w7 210 rfl) (z_w7 212 rfl) (z_w7 211 rfl) (z_w7 8 rfl) rfl ⟨by decide, by decide⟩ hT.1 (by decide) (by decide) (show _ = some 3 from by decide +kernel) rfl) c_MD_fieldOf rfl (by omega) rfl (z_le rfl) (z_le rfl) hfo ?_
    refine zj_goto (tgt := 19) hG d_MD_cut_15 (by decide) ?_
    refine zj_istore hG d_MD_cut_19 (by decide) rfl rfl ?_
    refine zj_aload_n hG d_MD_cut_21 rfl rfl ?_
    refine zj_aload_n hG d_MD_cut_22 rfl rfl ?_
    refine zj_iload_n hG d_MD_cut_23 rfl rfl ?_
    refine zj_callR (y' := m_MD_isRecordHandle) hG (zcP (as := [_]) hG d_MD_cut_24 c_MD_isRecordHandle (z_w7 198 rfl) (z_w7 200 rfl) (z_w7 199 rfl) (z_w7 8 rfl) rfl ⟨by decide, by decide⟩ hT.1 (by decide) (by decide) (show _ = some 1 from by decide +kernel) rfl) c_MD_isRecordHandle rfl (by omega) rfl (z_le rfl) (z_le rfl) hrh ?_
    refine zj_if_ne (tgt := 34) hG d_MD_cut_27 (by decide) (fun _ => ?_) (fun c => absurd c tb1)
    refine zj_iload hG d_MD_cut_34 rfl ?_
    have bad : ∀ w : zV, zJ G 1 m_MD_cut 59 [some (zA q), some (zI (nI j)), some (zI p), some (zI n), some w] [zA q] (twp q h N) (fun o h' => ∃ N', o = zR0 ∧ h' = twp q h N' ∧ (N' 0 0 = (2 : Int32) ∧ tA N' W)) := by
      intro w
      refine zj_iconst (v := 2) hG d_MD_cut_59 rfl ?_
      refine zj_goto (tgt := 64) hG d_MD_cut_60 (by decide) ?_
      refine t_putI hG hT d_MD_cut_64 f_MD_101 rfl rfl ?_
      refine zj_aload_n hG d_MD_cut_67 rfl rfl ?_
      refine t_getI hG hT d_MD_cut_68 f_MD_101 rfl ?_
      rw [zu_s]
      refine zj_if_ne (tgt := 87) hG d_MD_cut_71 (by decide) (fun _ => ?_) (fun c => absurd c (by decide))
      exact zj_vret hG d_MD_cut_87 rfl ⟨_, rfl, rfl, zu_s, hA.th 2⟩
    cases hf : oFld (wV W) r.1 p 1 with
    | none =>
      refine zj_if_lt (tgt := 59) hG d_MD_cut_36 (by decide) (fun _ => ?_) (fun c => absurd (by decide) c)
      exact bad _
    | some k =>
      obtain ⟨F, hk, hF, h24, hs, he, hrow⟩ := hW.row hj hr2 hf
      have hl6 := hrow.2.1
      simp only
      refine zj_if_lt (tgt := 59) hG d_MD_cut_36 (by decide) (fun c => absurd c (nI_pos (by omega))) (fun _ => ?_)
      refine zj_iload_n hG d_MD_cut_39 rfl rfl ?_
      refine zj_if_lt (tgt := 59) hG d_MD_cut_40 (by decide) (fun c40 => ?_) (fun c40 => ?_)
      · rw [if_neg (fun g => Int32.not_le.mpr c40 g.1)]
        exact bad _
      refine zj_iload_n hG d_MD_cut_43 rfl rfl ?_
      refine zj_aload_n hG d_MD_cut_44 rfl rfl ?_
      refine t_getA (o := 11) hG hT d_MD_cut_45 f_MD_44 rfl rfl ?_
      refine zj_aload_n hG d_MD_cut_48 rfl rfl ?_
      refine zj_iload_n hG d_MD_cut_49 rfl rfl ?_
      refine zj_iload hG d_MD_cut_50 rfl ?_
      refine zj_callR (y' := m_MD_rowOf) hG (zcP (as := [_, _]) hG d_MD_cut_52 c_MD_rowOf (z_w7 218 rfl) (z_w7 220 rfl) (z_w7 219 rfl) (z_w7 8 rfl) rfl ⟨by decide, by decide⟩ hT.1 (by decide) (by decide) (show _ = some 2 from by decide +kernel) rfl) c_MD_rowOf rfl (by omega) rfl (z_le rfl) (z_le rfl) (k_MD_rowOf hG j k _ _) ?_
      refine t_ald (7 * (24 * j + k)) hG hT d_MD_cut_55 (by first | decide | omega) (by first | decide | omega) rfl (by show _ < 2688; omega) ?_
      rw [hrow.1]
      refine zj_icmp_le (tgt := 63) hG d_MD_cut_56 (by decide) (fun c56 => ?_) (fun c56 => ?_)
      · rw [if_pos ⟨Int32.not_lt.mp c40, c56⟩, nI_clamp (n := j) (by omega)]
        obtain ⟨m, hm, rfl⟩ : ∃ m, m ≤ (oRow r k).length ∧ n = nI m := by
          rcases pk_ix n (n := (oRow r k).length + 1) (by omega) with e | e | ⟨m, hm, e⟩
          · exact absurd e c40
          · exact absurd (Int32.le_trans e c56) (nI_ge (a := (oRow r k).length) (b := (oRow r k).length + 1) (by omega) (by omega))
          · exact ⟨m, by omega, e⟩
        refine zj_iconst (v := 0) hG d_MD_cut_63 rfl ?_
        refine t_putI hG hT d_MD_cut_64 f_MD_101 rfl rfl ?_
        refine zj_aload_n hG d_MD_cut_67 rfl rfl ?_
        refine t_getI hG hT d_MD_cut_68 f_MD_101 rfl ?_
        rw [zu_s]
        refine zj_if_ne (tgt := 87) hG d_MD_cut_71 (by decide) (fun c => absurd rfl c) (fun _ => ?_)
        refine zj_aload_n hG d_MD_cut_74 rfl rfl ?_
        refine t_getA (o := 11) hG hT d_MD_cut_75 f_MD_44 rfl rfl ?_
        refine zj_aload_n hG d_MD_cut_78 rfl rfl ?_
        refine zj_iload_n hG d_MD_cut_79 rfl rfl ?_
        refine zj_iload hG d_MD_cut_80 rfl ?_
        refine zj_callR (y' := m_MD_rowOf) hG (zcP (as := [_, _]) hG d_MD_cut_82 c_MD_rowOf (z_w7 218 rfl) (z_w7 220 rfl) (z_w7 219 rfl) (z_w7 8 rfl) rfl ⟨by decide, by decide⟩ hT.1 (by decide) (by decide) (show _ = some 2 from by decide +kernel) rfl) c_MD_rowOf rfl (by omega) rfl (z_le rfl) (z_le rfl) (k_MD_rowOf hG j k _ _) ?_
        refine zj_iload_n hG d_MD_cut_85 rfl rfl ?_
        refine t_ast (7 * (24 * j + k)) hG hT d_MD_cut_86 (by first | decide | omega) (by first | decide | omega) rfl (by show _ < 2688; omega) ?_
        rw [nI_clamp (by omega)]
        refine zj_vret hG d_MD_cut_87 rfl ⟨_, rfl, rfl, by rw [zu_a (by omega), zu_s], hA.row hj hr2 (List.getElem?_eq_some_iff.mp he).1 (fun o i g1 g2 => by rw [zu, if_neg (by omega), zu, if_neg (by omega)]) ⟨?_, by simp; omega, fun i y hi => ?_⟩⟩
        · rw [zu_s, List.length_take, Nat.min_eq_left hm]
        · rw [zu_k (by omega), zu_a (by omega)]
          rw [List.getElem?_take] at hi
          split at hi
          · exact hrow.2.2 i y hi
          · cases hi
      · rw [if_neg (fun g => c56 g.2)]
        exact bad _
set_option maxRecDepth 4000 in
theorem k_MD_put (hG : zOK G) (hT : twOK q h) (hA : tA N W) (x p i v : Int32) : zJ G 1 m_MD_put 0 [some (zA q), some (zI x), some (zI p), some (zI i), some (zI v), none, none] [] (twp q h N) (fun o h' => ∃ z N', o = zR (zI z) ∧ h' = twp q h N' ∧ (N' 0 0 = (oPut W x p i v).1 ∧ z = (oPut W x p i v).2.1 ∧ tA N' (oPut W x p i v).2.2)) := by
  have hW := hA.1
  have hrh := k_MD_isRecordHandle hG hT hW x
  rw [oPut]
  cases hr : oRec W x with
  | none =>
    rw [hr] at hrh
    refine zj_aload_n hG d_MD_put_0 rfl rfl ?_
    refine zj_iload_n hG d_MD_put_1 rfl rfl ?_
    refine zj_callR (y' := m_MD_isRecordHandle) hG (zcP (as := [_]) hG d_MD_put_2 c_MD_isRecordHandle (z_w7 198 rfl) (z_w7 200 rfl) (z_w7 199 rfl) (z_w7 8 rfl) rfl ⟨by decide, by decide⟩ hT.1 (by decide) (by decide) (show _ = some 1 from by decide +kernel) rfl) c_MD_isRecordHandle rfl (by omega) rfl (z_le rfl) (z_le rfl) hrh ?_
    refine zj_if_eq (tgt := 18) hG d_MD_put_5 (by decide) (fun _ => ?_) (fun c => absurd (by decide) c)
    refine zj_iconst (v := -1) hG d_MD_put_18 rfl ?_
    refine zj_istore hG d_MD_put_19 (by decide) rfl rfl ?_
    refine zj_aload_n hG d_MD_put_21 rfl rfl ?_
    refine zj_aload_n hG d_MD_put_22 rfl rfl ?_
    refine zj_iload_n hG d_MD_put_23 rfl rfl ?_
    refine zj_callR (y' := m_MD_isRecordHandle) hG (zcP (as := [_]) hG d_MD_put_24 c_MD_isRecordHandle (z_w7 198 rfl) (z_w7 200 rfl) (z_w7 199 rfl) (z_w7 8 rfl) rfl ⟨by decide, by decide⟩ hT.1 (by decide) (by decide) (show _ = some 1 from by decide +kernel) rfl) c_MD_isRecordHandle rfl (by omega) rfl (z_le rfl) (z_le rfl) hrh ?_
    refine zj_if_ne (tgt := 34) hG d_MD_put_27 (by decide) (fun c => absurd rfl c) (fun _ => ?_)
    refine zj_iconst (v := 1) hG d_MD_put_30 rfl ?_
    refine zj_goto (tgt := 82) hG d_MD_put_31 (by decide) ?_
    refine t_putI hG hT d_MD_put_82 f_MD_101 rfl rfl ?_
    refine zj_aload_n hG d_MD_put_85 rfl rfl ?_
    refine t_getI hG hT d_MD_put_86 f_MD_101 rfl ?_
    rw [zu_s]
    refine zj_if_le (tgt := 94) hG d_MD_put_89 (by decide) (fun c => absurd c (by decide)) (fun _ => ?_)
    refine zj_iconst (v := 0) hG d_MD_put_92 rfl ?_
    exact zj_iret hG d_MD_put_93 rfl rfl ⟨_, _, rfl, rfl, zu_s, rfl, hA.th 1⟩
  | some r =>
    rw [hr] at hrh
    obtain ⟨j, hj, rfl, hr2⟩ := oRec_some hr
    have hfo := k_MD_fieldOf hG hT hW hj hr2 p 1
    simp only
    refine zj_aload_n hG d_MD_put_0 rfl rfl ?_
    refine zj_iload_n hG d_MD_put_1 rfl rfl ?_
    refine zj_callR (y' := m_MD_isRecordHandle) hG (zcP (as := [_]) hG d_MD_put_2 c_MD_isRecordHandle (z_w7 198 rfl) (z_w7 200 rfl) (z_w7 199 rfl) (z_w7 8 rfl) rfl ⟨by decide, by decide⟩ hT.1 (by decide) (by decide) (show _ = some 1 from by decide +kernel) rfl) c_MD_isRecordHandle rfl (by omega) rfl (z_le rfl) (z_le rfl) hrh ?_
    refine zj_if_eq (tgt := 18) hG d_MD_put_5 (by decide) (fun c => absurd c tb1) (fun _ => ?_)
    refine zj_aload_n hG d_MD_put_8 rfl rfl ?_
    refine zj_iload_n hG d_MD_put_9 rfl rfl ?_
    refine zj_iload_n hG d_MD_put_10 rfl rfl ?_
    refine zj_iconst (v := 1) hG d_MD_put_11 rfl ?_
    refine zj_callR (y' := m_MD_fieldOf) hG (zcP (as := [_, _, _]) hG d_MD_put_12 c_MD_fieldOf (z_w7 210 rfl) (z_w7 212 rfl) (z_w7 211 rfl) (z_w7 8 rfl) rfl ⟨by decide, by decide⟩ hT.1 (by decide) (by decide) (show _ = some 3 from by decide +kernel) rfl) c_MD_fieldOf rfl (by omega) rfl (z_le rfl) (z_le rfl) hfo ?_
    refine zj_goto (tgt := 19) hG d_MD_put_15 (by decide) ?_
    refine zj_istore hG d_MD_put_19 (by decide) rfl rfl ?_
    refine zj_aload_n hG d_MD_put_21 rfl rfl ?_
    refine zj_aload_n hG d_MD_put_22 rfl rfl ?_
    refine zj_iload_n hG d_MD_put_23 rfl rfl ?_
    refine zj_callR (y' := m_MD_isRecordHandle) hG (zcP (as := [_]) hG d_MD_put_24 c_MD_isRecordHandle (z_w7 198 rfl) (z_w7 200 rfl) (z_w7 199 rfl) (z_w7 8 rfl) rfl ⟨by decide, by decide⟩ hT.1 (by decide) (by decide) (show _ = some 1 from by decide +kernel) rfl) c_MD_isRecordHandle rfl (by omega) rfl (z_le rfl) (z_le rfl) hrh ?_
    refine zj_if_ne (tgt := 34) hG d_MD_put_27 (by decide) (fun _ => ?_) (fun c => absurd c tb1)
    refine zj_iload hG d_MD_put_34 rfl ?_
    have bad : ∀ w : zV, zJ G 1 m_MD_put 77 [some (zA q), some (zI (nI j)), some (zI p), some (zI i), some (zI v), some w, none] [zA q] (twp q h N) (fun o h' => ∃ z N', o = zR (zI z) ∧ h' = twp q h N' ∧ (N' 0 0 = (2 : Int32) ∧ z = (0 : Int32) ∧ tA N' W)) := by
      intro w
      refine zj_iconst (v := 2) hG d_MD_put_77 rfl ?_
      refine zj_goto (tgt := 82) hG d_MD_put_78 (by decide) ?_
      refine t_putI hG hT d_MD_put_82 f_MD_101 rfl rfl ?_
      refine zj_aload_n hG d_MD_put_85 rfl rfl ?_
      refine t_getI hG hT d_MD_put_86 f_MD_101 rfl ?_
      rw [zu_s]
      refine zj_if_le (tgt := 94) hG d_MD_put_89 (by decide) (fun c => absurd c (by decide)) (fun _ => ?_)
      refine zj_iconst (v := 0) hG d_MD_put_92 rfl ?_
      exact zj_iret hG d_MD_put_93 rfl rfl ⟨_, _, rfl, rfl, zu_s, rfl, hA.th 2⟩
    cases hf : oFld (wV W) r.1 p 1 with
    | none =>
      refine zj_if_lt (tgt := 77) hG d_MD_put_36 (by decide) (fun _ => ?_) (fun c => absurd (by decide) c)
      exact bad _
    | some k =>
      obtain ⟨F, hk, hF, h24, hs, he, hrow⟩ := hW.row hj hr2 hf
      have hl6 := hrow.2.1
      simp only
      refine zj_if_lt (tgt := 77) hG d_MD_put_36 (by decide) (fun c => absurd c (nI_pos (by omega))) (fun _ => ?_)
      refine zj_iload_n hG d_MD_put_39 rfl rfl ?_
      refine zj_if_lt (tgt := 77) hG d_MD_put_40 (by decide) (fun c40 => ?_) (fun c40 => ?_)
      · rw [if_neg (fun g => Int32.not_le.mpr c40 g.1)]
        exact bad _
      refine zj_iload_n hG d_MD_put_43 rfl rfl ?_
      refine zj_aload_n hG d_MD_put_44 rfl rfl ?_
      refine t_getA (o := 11) hG hT d_MD_put_45 f_MD_44 rfl rfl ?_
      refine zj_aload_n hG d_MD_put_48 rfl rfl ?_
      refine zj_iload_n hG d_MD_put_49 rfl rfl ?_
      refine zj_iload hG d_MD_put_50 rfl ?_
      refine zj_callR (y' := m_MD_rowOf) hG (zcP (as := [_, _]) hG d_MD_put_52 c_MD_rowOf (z_w7 218 rfl) (z_w7 220 rfl) (z_w7 219 rfl) (z_w7 8 rfl) rfl ⟨by decide, by decide⟩ hT.1 (by decide) (by decide) (show _ = some 2 from by decide +kernel) rfl) c_MD_rowOf rfl (by omega) rfl (z_le rfl) (z_le rfl) (k_MD_rowOf hG j k _ _) ?_
      refine t_ald (7 * (24 * j + k)) hG hT d_MD_put_55 (by first | decide | omega) (by first | decide | omega) rfl (by show _ < 2688; omega) ?_
      rw [hrow.1]
      refine zj_icmp_gt (tgt := 77) hG d_MD_put_56 (by decide) (fun c56 => ?_) (fun c56 => ?_)
      · rw [if_neg (fun g => Int32.not_le.mpr c56 g.2.1)]
        exact bad _
      refine zj_iload_n hG d_MD_put_59 rfl rfl ?_
      refine zj_bipush (v := 6) hG d_MD_put_60 rfl ?_
      refine zj_icmp_eq (tgt := 77) hG d_MD_put_62 (by decide) (fun c62 => ?_) (fun c62 => ?_)
      · rw [if_neg (fun g => g.2.2.1 c62)]
        exact bad _
      refine zj_aload_n hG d_MD_put_65 rfl rfl ?_
      refine zj_iload_n hG d_MD_put_66 rfl rfl ?_
      refine zj_iload hG d_MD_put_67 rfl ?_
      refine zj_iload hG d_MD_put_69 rfl ?_
      refine zj_callR (y' := m_MD_fits) hG (zcP (as := [_, _, _]) hG d_MD_put_71 c_MD_fits (z_w7 214 rfl) (z_w7 216 rfl) (z_w7 215 rfl) (z_w7 8 rfl) rfl ⟨by decide, by decide⟩ hT.1 (by decide) (by decide) (show _ = some 3 from by decide +kernel) rfl) c_MD_fits rfl (by omega) rfl (z_le rfl) (z_le rfl) (k_MD_fits hG hT hW hj hr2 hF hk v) ?_
      refine zj_if_ne (tgt := 81) hG d_MD_put_74 (by decide) (fun c74 => ?_) (fun c74 => ?_)
      · rw [if_pos ⟨Int32.not_lt.mp c40, Int32.not_lt.mp c56, c62, tb_t c74⟩, nI_clamp (n := j) (by omega)]
        obtain ⟨m, hm, rfl⟩ : ∃ m, m ≤ (oRow r k).length ∧ i = nI m := by
          rcases pk_ix i (n := (oRow r k).length + 1) (by omega) with e | e | ⟨m, hm, e⟩
          · exact absurd e c40
          · exact absurd (Int32.le_trans e (Int32.not_lt.mp c56)) (nI_ge (a := (oRow r k).length) (b := (oRow r k).length + 1) (by omega) (by omega))
          · exact ⟨m, by omega, e⟩
        have hm5 : m ≤ 5 := by
          have : m ≠ 6 := fun e => c62 (by rw [e]; rfl)
          omega
        have hlen : (oPutL (oRow r k) m v).length = (if m = (oRow r k).length then m + 1 else (oRow r k).length) := by
          unfold oPutL
          split
          · rename_i e
            simp [e]
          · simp
        rw [nI_clamp (by omega)]
        refine zj_iconst (v := 0) hG d_MD_put_81 rfl ?_
        refine t_putI hG hT d_MD_put_82 f_MD_101 rfl rfl ?_
        refine zj_aload_n hG d_MD_put_85 rfl rfl ?_
        refine t_getI hG hT d_MD_put_86 f_MD_101 rfl ?_
        rw [zu_s]
        refine zj_if_le (tgt := 94) hG d_MD_put_89 (by decide) (fun _ => ?_) (fun c => absurd (by decide) c)
        refine zj_aload_n hG d_MD_put_94 rfl rfl ?_
        refine zj_iload_n hG d_MD_put_95 rfl rfl ?_
        refine zj_iload hG d_MD_put_96 rfl ?_
        refine zj_callR (y' := m_MD_rowOf) hG (zcP (as := [_, _]) hG d_MD_put_98 c_MD_rowOf (z_w7 218 rfl) (z_w7 220 rfl) (z_w7 219 rfl) (z_w7 8 rfl) rfl ⟨by decide, by decide⟩ hT.1 (by decide) (by decide) (show _ = some 2 from by decide +kernel) rfl) c_MD_rowOf rfl (by omega) rfl (z_le rfl) (z_le rfl) (k_MD_rowOf hG j k _ _) ?_
        have wr : ∀ c : Int32, c = nI (oPutL (oRow r k) m v).length → zJ G 1 m_MD_put 133 [some (zA q), some (zI (nI j)), some (zI p), some (zI (nI m)), some (zI v), some (zI (nI k)), some (zI (nI (7 * (24 * j + k))))] [zI c, zI (nI (7 * (24 * j + k))), zA (q + 11)] (twp q h (zu N 0 0 0)) (fun o h' => ∃ z N', o = zR (zI z) ∧ h' = twp q h N' ∧ (N' 0 0 = (0 : Int32) ∧ z = nI (oPutL (oRow r k) m v).length ∧ tA N' (oSetR W j r k (oPutL (oRow r k) m v)))) := by
          intro c hc
          subst hc
          refine t_ast (7 * (24 * j + k)) hG hT d_MD_put_133 (by first | decide | omega) (by first | decide | omega) rfl (by show _ < 2688; omega) ?_
          refine zj_aload_n hG d_MD_put_134 rfl rfl ?_
          refine t_getA (o := 11) hG hT d_MD_put_135 f_MD_44 rfl rfl ?_
          refine zj_iload hG d_MD_put_138 rfl ?_
          refine zj_iconst (v := 1) hG d_MD_put_140 rfl ?_
          refine zj_iadd hG d_MD_put_141 ?_
          refine zj_iload_n hG d_MD_put_142 rfl rfl ?_
          refine zj_iadd hG d_MD_put_143 ?_
          refine zj_iload hG d_MD_put_144 rfl ?_
          refine t_ast (7 * (24 * j + k) + 1 + m) hG hT d_MD_put_146 (by first | decide | omega) (by first | decide | omega) (by rw [nI_1, nI_add]) (by show _ < 2688; omega) ?_
          refine zj_aload_n hG d_MD_put_147 rfl rfl ?_
          refine t_getA (o := 11) hG hT d_MD_put_148 f_MD_44 rfl rfl ?_
          refine zj_iload hG d_MD_put_151 rfl ?_
          refine t_ald (7 * (24 * j + k)) hG hT d_MD_put_153 (by first | decide | omega) (by first | decide | omega) rfl (by show _ < 2688; omega) ?_
          rw [zu_k (by omega), zu_s]
          refine zj_iret hG d_MD_put_154 rfl rfl ⟨_, _, rfl, rfl, by rw [zu_a (by omega), zu_a (by omega), zu_s], rfl, hA.row hj hr2 (List.getElem?_eq_some_iff.mp he).1 (fun o i g1 g2 => by rw [zu, if_neg (by omega), zu, if_neg (by omega), zu, if_neg (by omega)]) ⟨?_, by rw [hlen]; split <;> omega, fun i y hi => ?_⟩⟩
          · rw [zu_k (by omega), zu_s]
          · by_cases e : i = m
            · subst e
              have : y = v := by
                unfold oPutL at hi
                split at hi
                · rename_i e2
                  rw [List.getElem?_append_right (by omega)] at hi
                  simp [e2] at hi
                  exact hi.symm
                · rw [List.getElem?_set_self (by omega)] at hi
                  cases hi
                  rfl
              rw [this]
              exact zu_s
            · rw [zu_k (by omega), zu_k (by omega), zu_a (by omega)]
              refine hrow.2.2 i y ?_
              unfold oPutL at hi
              split at hi
              · rename_i e2
                have := (List.getElem?_eq_some_iff.mp hi).1
                simp at this
                rw [List.getElem?_append_left (by omega)] at hi
                exact hi
              · rw [List.getElem?_set_ne (fun g => e g.symm)] at hi
                exact hi
        refine zj_istore hG d_MD_put_101 (by decide) rfl rfl ?_
        refine zj_aload_n hG d_MD_put_103 rfl rfl ?_
        refine t_getA (o := 11) hG hT d_MD_put_104 f_MD_44 rfl rfl ?_
        refine zj_iload hG d_MD_put_107 rfl ?_
        refine zj_iload_n hG d_MD_put_109 rfl rfl ?_
        refine zj_aload_n hG d_MD_put_110 rfl rfl ?_
        refine t_getA (o := 11) hG hT d_MD_put_111 f_MD_44 rfl rfl ?_
        refine zj_iload hG d_MD_put_114 rfl ?_
        refine t_ald (7 * (24 * j + k)) hG hT d_MD_put_116 (by first | decide | omega) (by first | decide | omega) rfl (by show _ < 2688; omega) ?_
        rw [zu_a (by omega), hrow.1]
        refine zj_icmp_ne (tgt := 126) hG d_MD_put_117 (by decide) (fun c117 => ?_) (fun c117 => ?_)
        · refine zj_aload_n hG d_MD_put_126 rfl rfl ?_
          refine t_getA (o := 11) hG hT d_MD_put_127 f_MD_44 rfl rfl ?_
          refine zj_iload hG d_MD_put_130 rfl ?_
          refine t_ald (7 * (24 * j + k)) hG hT d_MD_put_132 (by first | decide | omega) (by first | decide | omega) rfl (by show _ < 2688; omega) ?_
          rw [zu_a (by omega), hrow.1]
          exact wr _ (by rw [hlen, if_neg (fun e => c117 (by rw [e]))])
        · refine zj_iload_n hG d_MD_put_120 rfl rfl ?_
          refine zj_iconst (v := 1) hG d_MD_put_121 rfl ?_
          refine zj_iadd hG d_MD_put_122 ?_
          refine zj_goto (tgt := 133) hG d_MD_put_123 (by decide) ?_
          rw [nI_1]
          exact wr _ (by rw [hlen, if_pos ((nI_eq (by omega) (by omega)).mp c117)])
      · rw [if_neg (fun g => by rw [tb_f c74] at g; cases g.2.2.2)]
        exact bad _
end MD16
