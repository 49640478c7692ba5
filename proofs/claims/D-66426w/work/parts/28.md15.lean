/-! PART 28: the reference: what is read of records -/
theorem oFld_at {V : List (List tFd)} {v : Nat} {p s : Int32} {k : Nat} {F : List tFd} (hF : V[v]? = some F) (h : oFld V v p s = some k) : ∃ hk : k < F.length, (F[k]).1 = p ∧ (F[k]).2.1 = s := by
  rw [oFld, hF] at h
  obtain ⟨h1, h2, -⟩ := List.findIdx?_eq_some_iff_getElem.mp h
  exact ⟨h1, by simpa using h2⟩
/-- the rows of numbers hold one number -/
def sRw (W : sW) : Prop := ∀ (j : Nat) (r : sRc) (F : List tFd), j < 16 → wR W j = some r → (wV W)[r.1]? = some F → ∀ (k : Nat) (f : tFd) (l : List Int32), F[k]? = some f → r.2.1[k]? = some l → f.2.1 = 0 → ∃ x, l = [x]
/-- a row of a record -/
def oRow (r : sRc) (k : Nat) : List Int32 := (r.2.1[k]?).getD []
def oGet (W : sW) (x p : Int32) : Int32 × Int32 := match oRec W x with
  | none => (1, 0)
  | some r => match oFld (wV W) r.1 p 0 with
    | none => (2, 0)
    | some k => (0, (oRow r k).headD 0)
def oSize (W : sW) (x p : Int32) : Int32 × Int32 := match oRec W x with
  | none => (1, 0)
  | some r => match oFld (wV W) r.1 p 1 with
    | none => (2, 0)
    | some k => (0, nI (oRow r k).length)
def oItem (W : sW) (x p i : Int32) : Int32 × Int32 := match oRec W x with
  | none => (1, 0)
  | some r => match oFld (wV W) r.1 p 1 with
    | none => (2, 0)
    | some k => if 0 ≤ i ∧ i < nI (oRow r k).length then (0, (oRow r k)[i.toNatClampNeg]?.getD 0) else (2, 0)
section MD15
variable {G : zG} {q : Nat} {h : zH} {N : Nat → Nat → Int32} {W : sW}
theorem tW.row (hW : tW N W) {j k : Nat} {r : sRc} {p s : Int32} (hj : j < 16) (hr : wR W j = some r) (hf : oFld (wV W) r.1 p s = some k) : ∃ F, ∃ hk : k < F.length, (wV W)[r.1]? = some F ∧ F.length ≤ 24 ∧ (F[k]).2.1 = s ∧ r.2.1[k]? = some (oRow r k) ∧ tRow N 11 (7 * (24 * j + k)) (oRow r k) := by
  obtain ⟨a, ⟨F, hF, hl⟩, b, -⟩ := hW.r hj hr
  obtain ⟨hk, -, hs⟩ := oFld_at hF hf
  have e : r.2.1[k]? = some (oRow r k) := by
    rw [oRow, List.getElem?_eq_getElem (by omega)]
    rfl
  exact ⟨F, hk, hF, (hW.2.1 _ F hF).2.1, hs, e, b k _ e⟩
set_option maxRecDepth 4000 in
theorem k_MD_get (hG : zOK G) (hT : twOK q h) (hA : tA N W) (hRw : sRw W) (x p : Int32) : zJ G 1 m_MD_get 0 [some (zA q), some (zI x), some (zI p), none] [] (twp q h N) (fun o h' => ∃ v N', o = zR (zI v) ∧ h' = twp q h N' ∧ (N' 0 0 = (oGet W x p).1 ∧ v = (oGet W x p).2 ∧ tA N' W)) := by
  have hW := hA.1
  have hrh := k_MD_isRecordHandle hG hT hW x
  rw [oGet]
  cases hr : oRec W x with
  | none =>
    rw [hr] at hrh
    refine zj_aload_n hG d_MD_get_0 rfl rfl ?_
    refine zj_iload_n hG d_MD_get_1 rfl rfl ?_
    refine zj_callR (y' := m_MD_isRecordHandle) hG (zcP (as := [_]) hG d_MD_get_2 c_MD_isRecordHandle (z_w7 198 rfl) (z_w7 200 rfl) (z_w7 199 rfl) (z_w7 8 rfl) rfl ⟨by decide, by decide⟩ hT.1 (by decide) (by decide) (show _ = some 1 from by decide +kernel) rfl) c_MD_isRecordHandle rfl (by omega) rfl (z_le rfl) (z_le rfl) hrh ?_
    refine zj_if_eq (tgt := 18) hG d_MD_get_5 (by decide) (fun _ => ?_) (fun c => absurd (by decide) c)
    refine zj_iconst (v := -1) hG d_MD_get_18 rfl ?_
    refine zj_istore_n hG d_MD_get_19 rfl (by decide) rfl rfl ?_
    refine zj_aload_n hG d_MD_get_20 rfl rfl ?_
    refine zj_aload_n hG d_MD_get_21 rfl rfl ?_
    refine zj_iload_n hG d_MD_get_22 rfl rfl ?_
    refine zj_callR (y' := m_MD_isRecordHandle) hG (zcP (as := [_]) hG d_MD_get_23 c_MD_isRecordHandle (z_w7 198 rfl) (z_w7 200 rfl) (z_w7 199 rfl) (z_w7 8 rfl) rfl ⟨by decide, by decide⟩ hT.1 (by decide) (by decide) (show _ = some 1 from by decide +kernel) rfl) c_MD_isRecordHandle rfl (by omega) rfl (z_le rfl) (z_le rfl) hrh ?_
    refine zj_if_ne (tgt := 33) hG d_MD_get_26 (by decide) (fun c => absurd rfl c) (fun _ => ?_)
    refine zj_iconst (v := 1) hG d_MD_get_29 rfl ?_
    refine zj_goto (tgt := 42) hG d_MD_get_30 (by decide) ?_
    refine t_putI hG hT d_MD_get_42 f_MD_101 rfl rfl ?_
    refine zj_aload_n hG d_MD_get_45 rfl rfl ?_
    refine t_getI hG hT d_MD_get_46 f_MD_101 rfl ?_
    rw [zu_s]
    refine zj_if_le (tgt := 56) hG d_MD_get_49 (by decide) (fun c => absurd c (by decide)) (fun _ => ?_)
    refine zj_iconst (v := 0) hG d_MD_get_52 rfl ?_
    refine zj_goto (tgt := 69) hG d_MD_get_53 (by decide) ?_
    exact zj_iret hG d_MD_get_69 rfl rfl ⟨_, _, rfl, rfl, zu_s, rfl, hA.th 1⟩
  | some r =>
    rw [hr] at hrh
    obtain ⟨j, hj, rfl, hr2⟩ := oRec_some hr
    have hfo := k_MD_fieldOf hG hT hW hj hr2 p 0
    simp only
    refine zj_aload_n hG d_MD_get_0 rfl rfl ?_
    refine zj_iload_n hG d_MD_get_1 rfl rfl ?_
    refine zj_callR (y' := m_MD_isRecordHandle) hG (zcP (as := [_]) hG d_MD_get_2 c_MD_isRecordHandle (z_w7 198 rfl) (z_w7 200 rfl) (z_w7 199 rfl) (z_w7 8 rfl) rfl ⟨by decide, by decide⟩ hT.1 (by decide) (by decide) (show _ = some 1 from by decide +kernel) rfl) c_MD_isRecordHandle rfl (by omega) rfl (z_le rfl) (z_le rfl) hrh ?_
    refine zj_if_eq (tgt := 18) hG d_MD_get_5 (by decide) (fun c => absurd c tb1) (fun _ => ?_)
    refine zj_aload_n hG d_MD_get_8 rfl rfl ?_
    refine zj_iload_n hG d_MD_get_9 rfl rfl ?_
    refine zj_iload_n hG d_MD_get_10 rfl rfl ?_
    refine zj_iconst (v := 0) hG d_MD_get_11 rfl ?_
    refine zj_callR (y' := m_MD_fieldOf) hG (zcP (as := [_, _, _]) hG d_MD_get_12 c_MD_fieldOf (z_w7 210 rfl) (z_w7 212 rfl) (z_w7 211 rfl) (z_w7 8 rfl) rfl ⟨by decide, by decide⟩ hT.1 (by decide) (by decide) (show _ = some 3 from by decide +kernel) rfl) c_MD_fieldOf rfl (by omega) rfl (z_le rfl) (z_le rfl) hfo ?_
    refine zj_goto (tgt := 19) hG d_MD_get_15 (by decide) ?_
    refine zj_istore_n hG d_MD_get_19 rfl (by decide) rfl rfl ?_
    refine zj_aload_n hG d_MD_get_20 rfl rfl ?_
    refine zj_aload_n hG d_MD_get_21 rfl rfl ?_
    refine zj_iload_n hG d_MD_get_22 rfl rfl ?_
    refine zj_callR (y' := m_MD_isRecordHandle) hG (zcP (as := [_]) hG d_MD_get_23 c_MD_isRecordHandle (z_w7 198 rfl) (z_w7 200 rfl) (z_w7 199 rfl) (z_w7 8 rfl) rfl ⟨by decide, by decide⟩ hT.1 (by decide) (by decide) (show _ = some 1 from by decide +kernel) rfl) c_MD_isRecordHandle rfl (by omega) rfl (z_le rfl) (z_le rfl) hrh ?_
    refine zj_if_ne (tgt := 33) hG d_MD_get_26 (by decide) (fun _ => ?_) (fun c => absurd c tb1)
    refine zj_iload_n hG d_MD_get_33 rfl rfl ?_
    cases hf : oFld (wV W) r.1 p 0 with
    | none =>
      refine zj_if_ge (tgt := 41) hG d_MD_get_34 (by decide) (fun c => absurd c (by decide)) (fun _ => ?_)
      refine zj_iconst (v := 2) hG d_MD_get_37 rfl ?_
      refine zj_goto (tgt := 42) hG d_MD_get_38 (by decide) ?_
      refine t_putI hG hT d_MD_get_42 f_MD_101 rfl rfl ?_
      refine zj_aload_n hG d_MD_get_45 rfl rfl ?_
      refine t_getI hG hT d_MD_get_46 f_MD_101 rfl ?_
      rw [zu_s]
      refine zj_if_le (tgt := 56) hG d_MD_get_49 (by decide) (fun c => absurd c (by decide)) (fun _ => ?_)
      refine zj_iconst (v := 0) hG d_MD_get_52 rfl ?_
      refine zj_goto (tgt := 69) hG d_MD_get_53 (by decide) ?_
      exact zj_iret hG d_MD_get_69 rfl rfl ⟨_, _, rfl, rfl, zu_s, rfl, hA.th 2⟩
    | some k =>
      obtain ⟨F, hk, hF, h24, hs, he, hrow⟩ := hW.row hj hr2 hf
      refine zj_if_ge (tgt := 41) hG d_MD_get_34 (by decide) (fun _ => ?_) (fun c => absurd (nI_pos' (by omega)) c)
      refine zj_iconst (v := 0) hG d_MD_get_41 rfl ?_
      refine t_putI hG hT d_MD_get_42 f_MD_101 rfl rfl ?_
      refine zj_aload_n hG d_MD_get_45 rfl rfl ?_
      refine t_getI hG hT d_MD_get_46 f_MD_101 rfl ?_
      rw [zu_s]
      refine zj_if_le (tgt := 56) hG d_MD_get_49 (by decide) (fun _ => ?_) (fun c => absurd (by decide) c)
      refine zj_aload_n hG d_MD_get_56 rfl rfl ?_
      refine t_getA (o := 11) hG hT d_MD_get_57 f_MD_44 rfl rfl ?_
      refine zj_aload_n hG d_MD_get_60 rfl rfl ?_
      refine zj_iload_n hG d_MD_get_61 rfl rfl ?_
      refine zj_iload_n hG d_MD_get_62 rfl rfl ?_
      refine zj_callR (y' := m_MD_rowOf) hG (zcP (as := [_, _]) hG d_MD_get_63 c_MD_rowOf (z_w7 218 rfl) (z_w7 220 rfl) (z_w7 219 rfl) (z_w7 8 rfl) rfl ⟨by decide, by decide⟩ hT.1 (by decide) (by decide) (show _ = some 2 from by decide +kernel) rfl) c_MD_rowOf rfl (by omega) rfl (z_le rfl) (z_le rfl) (k_MD_rowOf hG j k _ _) ?_
      obtain ⟨y, hy⟩ := hRw j r F hj hr2 hF k _ _ (List.getElem?_eq_getElem hk) he hs
      rw [hy] at hrow
      refine zj_iconst (v := 1) hG d_MD_get_66 rfl ?_
      refine zj_iadd hG d_MD_get_67 ?_
      refine t_ald (7 * (24 * j + k) + 1) hG hT d_MD_get_68 (by first | decide | omega) (by first | decide | omega) (nI_1 _) (by show _ < 2688; omega) ?_
      rw [zu_a (by omega), hrow.one]
      exact zj_iret hG d_MD_get_69 rfl rfl ⟨_, _, rfl, rfl, zu_s, by simp only [hy]; rfl, hA.th 0⟩
set_option maxRecDepth 4000 in
theorem k_MD_size (hG : zOK G) (hT : twOK q h) (hA : tA N W) (x p : Int32) : zJ G 1 m_MD_size 0 [some (zA q), some (zI x), some (zI p), none] [] (twp q h N) (fun o h' => ∃ v N', o = zR (zI v) ∧ h' = twp q h N' ∧ (N' 0 0 = (oSize W x p).1 ∧ v = (oSize W x p).2 ∧ tA N' W)) := by
  have hW := hA.1
  have hrh := k_MD_isRecordHandle hG hT hW x
  rw [oSize]
  cases hr : oRec W x with
  | none =>
    rw [hr] at hrh
    refine zj_aload_n hG d_MD_size_0 rfl rfl ?_
    refine zj_iload_n hG d_MD_size_1 rfl rfl ?_
    refine zj_callR (y' := m_MD_isRecordHandle) hG (zcP (as := [_]) hG d_MD_size_2 c_MD_isRecordHandle (z_w7 198 rfl) (z_w7 200 rfl) (z_w7 199 rfl) (z_w7 8 rfl) rfl ⟨by decide, by decide⟩ hT.1 (by decide) (by decide) (show _ = some 1 from by decide +kernel) rfl) c_MD_isRecordHandle rfl (by omega) rfl (z_le rfl) (z_le rfl) hrh ?_
    refine zj_if_eq (tgt := 18) hG d_MD_size_5 (by decide) (fun _ => ?_) (fun c => absurd (by decide) c)
    refine zj_iconst (v := -1) hG d_MD_size_18 rfl ?_
    refine zj_istore_n hG d_MD_size_19 rfl (by decide) rfl rfl ?_
    refine zj_aload_n hG d_MD_size_20 rfl rfl ?_
    refine zj_aload_n hG d_MD_size_21 rfl rfl ?_
    refine zj_iload_n hG d_MD_size_22 rfl rfl ?_
    refine zj_callR (y' := m_MD_isRecordHandle) hG (zcP (as := [_]) hG d_MD_size_23 c_MD_isRecordHandle (z_w7 198 rfl) (z_w7 200 rfl) (z_w7 199 rfl) (z_w7 8 rfl) rfl ⟨by decide, by decide⟩ hT.1 (by decide) (by decide) (show _ = some 1 from by decide +kernel) rfl) c_MD_isRecordHandle rfl (by omega) rfl (z_le rfl) (z_le rfl) hrh ?_
    refine zj_if_ne (tgt := 33) hG d_MD_size_26 (by decide) (fun c => absurd rfl c) (fun _ => ?_)
    refine zj_iconst (v := 1) hG d_MD_size_29 rfl ?_
    refine zj_goto (tgt := 42) hG d_MD_size_30 (by decide) ?_
    refine t_putI hG hT d_MD_size_42 f_MD_101 rfl rfl ?_
    refine zj_aload_n hG d_MD_size_45 rfl rfl ?_
    refine t_getI hG hT d_MD_size_46 f_MD_101 rfl ?_
    rw [zu_s]
    refine zj_if_le (tgt := 56) hG d_MD_size_49 (by decide) (fun c => absurd c (by decide)) (fun _ => ?_)
    refine zj_iconst (v := 0) hG d_MD_size_52 rfl ?_
    refine zj_goto (tgt := 67) hG d_MD_size_53 (by decide) ?_
    exact zj_iret hG d_MD_size_67 rfl rfl ⟨_, _, rfl, rfl, zu_s, rfl, hA.th 1⟩
  | some r =>
    rw [hr] at hrh
    obtain ⟨j, hj, rfl, hr2⟩ := oRec_some hr
    have hfo := k_MD_fieldOf hG hT hW hj hr2 p 1
    simp only
    refine zj_aload_n hG d_MD_size_0 rfl rfl ?_
    refine zj_iload_n hG d_MD_size_1 rfl rfl ?_
    refine zj_callR (y' := m_MD_isRecordHandle) hG (zcP (as := [_]) hG d_MD_size_2 c_MD_isRecordHandle (z_w7 198 rfl) (z_w7 200 rfl) (z_w7 199 rfl) (z_w7 8 rfl) rfl ⟨by decide, by decide⟩ hT.1 (by decide) (by decide) (show _ = some 1 from by decide +kernel) rfl) c_MD_isRecordHandle rfl (by omega) rfl (z_le rfl) (z_le rfl) hrh ?_
    refine zj_if_eq (tgt := 18) hG d_MD_size_5 (by decide) (fun c => absurd c tb1) (fun _ => ?_)
    refine zj_aload_n hG d_MD_size_8 rfl rfl ?_
    refine zj_iload_n hG d_MD_size_9 rfl rfl ?_
    refine zj_iload_n hG d_MD_size_10 rfl rfl ?_
    refine zj_iconst (v := 1) hG d_MD_size_11 rfl ?_
    refine zj_callR (y' := m_MD_fieldOf) hG (zcP (as := [_, _, _]) hG d_MD_size_12 c_MD_fieldOf (z_w7 210 rfl) (z_w7 212 rfl) (z_w7 211 rfl) (z_w7 8 rfl) rfl ⟨by decide, by decide⟩ hT.1 (by decide) (by decide) (show _ = some 3 from by decide +kernel) rfl) c_MD_fieldOf rfl (by omega) rfl (z_le rfl) (z_le rfl) hfo ?_
    refine zj_goto (tgt := 19) hG d_MD_size_15 (by decide) ?_
    refine zj_istore_n hG d_MD_size_19 rfl (by decide) rfl rfl ?_
    refine zj_aload_n hG d_MD_size_20 rfl rfl ?_
    refine zj_aload_n hG d_MD_size_21 rfl rfl ?_
    refine zj_iload_n hG d_MD_size_22 rfl rfl ?_
    refine zj_callR (y' := m_MD_isRecordHandle) hG (zcP (as := [_]) hG d_MD_size_23 c_MD_isRecordHandle (z_w7 198 rfl) (z_w7 200 rfl) (z_w7 199 rfl) (z_w7 8 rfl) rfl ⟨by decide, by decide⟩ hT.1 (by decide) (by decide) (show _ = some 1 from by decide +kernel) rfl) c_MD_isRecordHandle rfl (by omega) rfl (z_le rfl) (z_le rfl) hrh ?_
    refine zj_if_ne (tgt := 33) hG d_MD_size_26 (by decide) (fun _ => ?_) (fun c => absurd c tb1)
    refine zj_iload_n hG d_MD_size_33 rfl rfl ?_
    cases hf : oFld (wV W) r.1 p 1 with
    | none =>
      refine zj_if_ge (tgt := 41) hG d_MD_size_34 (by decide) (fun c => absurd c (by decide)) (fun _ => ?_)
      refine zj_iconst (v := 2) hG d_MD_size_37 rfl ?_
      refine zj_goto (tgt := 42) hG d_MD_size_38 (by decide) ?_
      refine t_putI hG hT d_MD_size_42 f_MD_101 rfl rfl ?_
      refine zj_aload_n hG d_MD_size_45 rfl rfl ?_
      refine t_getI hG hT d_MD_size_46 f_MD_101 rfl ?_
      rw [zu_s]
      refine zj_if_le (tgt := 56) hG d_MD_size_49 (by decide) (fun c => absurd c (by decide)) (fun _ => ?_)
      refine zj_iconst (v := 0) hG d_MD_size_52 rfl ?_
      refine zj_goto (tgt := 67) hG d_MD_size_53 (by decide) ?_
      exact zj_iret hG d_MD_size_67 rfl rfl ⟨_, _, rfl, rfl, zu_s, rfl, hA.th 2⟩
    | some k =>
      obtain ⟨F, hk, hF, h24, hs, he, hrow⟩ := hW.row hj hr2 hf
      refine zj_if_ge (tgt := 41) hG d_MD_size_34 (by decide) (fun _ => ?_) (fun c => absurd (nI_pos' (by omega)) c)
      refine zj_iconst (v := 0) hG d_MD_size_41 rfl ?_
      refine t_putI hG hT d_MD_size_42 f_MD_101 rfl rfl ?_
      refine zj_aload_n hG d_MD_size_45 rfl rfl ?_
      refine t_getI hG hT d_MD_size_46 f_MD_101 rfl ?_
      rw [zu_s]
      refine zj_if_le (tgt := 56) hG d_MD_size_49 (by decide) (fun _ => ?_) (fun c => absurd (by decide) c)
      refine zj_aload_n hG d_MD_size_56 rfl rfl ?_
      refine t_getA (o := 11) hG hT d_MD_size_57 f_MD_44 rfl rfl ?_
      refine zj_aload_n hG d_MD_size_60 rfl rfl ?_
      refine zj_iload_n hG d_MD_size_61 rfl rfl ?_
      refine zj_iload_n hG d_MD_size_62 rfl rfl ?_
      refine zj_callR (y' := m_MD_rowOf) hG (zcP (as := [_, _]) hG d_MD_size_63 c_MD_rowOf (z_w7 218 rfl) (z_w7 220 rfl) (z_w7 219 rfl) (z_w7 8 rfl) rfl ⟨by decide, by decide⟩ hT.1 (by decide) (by decide) (show _ = some 2 from by decide +kernel) rfl) c_MD_rowOf rfl (by omega) rfl (z_le rfl) (z_le rfl) (k_MD_rowOf hG j k _ _) ?_
      refine t_ald (7 * (24 * j + k)) hG hT d_MD_size_66 (by first | decide | omega) (by first | decide | omega) rfl (by show _ < 2688; omega) ?_
      rw [zu_a (by omega), hrow.1]
      exact zj_iret hG d_MD_size_67 rfl rfl ⟨_, _, rfl, rfl, zu_s, rfl, hA.th 0⟩
set_option maxRecDepth 4000 in
theorem k_MD_item (hG : zOK G) (hT : twOK q h) (hA : tA N W) (x p i : Int32) : zJ G 1 m_MD_item 0 [some (zA q), some (zI x), some (zI p), some (zI i), none] [] (twp q h N) (fun o h' => ∃ v N', o = zR (zI v) ∧ h' = twp q h N' ∧ (N' 0 0 = (oItem W x p i).1 ∧ v = (oItem W x p i).2 ∧ tA N' W)) := by
  have hW := hA.1
  have hrh := k_MD_isRecordHandle hG hT hW x
  rw [oItem]
  cases hr : oRec W x with
  | none =>
    rw [hr] at hrh
    refine zj_aload_n hG d_MD_item_0 rfl rfl ?_
    refine zj_iload_n hG d_MD_item_1 rfl rfl ?_
    refine zj_callR (y' := m_MD_isRecordHandle) hG (zcP (as := [_]) hG d_MD_item_2 c_MD_isRecordHandle (z_w7 198 rfl) (z_w7 200 rfl) (z_w7 199 rfl) (z_w7 8 rfl) rfl ⟨by decide, by decide⟩ hT.1 (by decide) (by decide) (show _ = some 1 from by decide +kernel) rfl) c_MD_isRecordHandle rfl (by omega) rfl (z_le rfl) (z_le rfl) hrh ?_
    refine zj_if_eq (tgt := 18) hG d_MD_item_5 (by decide) (fun _ => ?_) (fun c => absurd (by decide) c)
    refine zj_iconst (v := -1) hG d_MD_item_18 rfl ?_
    refine zj_istore hG d_MD_item_19 (by decide) rfl rfl ?_
    refine zj_aload_n hG d_MD_item_21 rfl rfl ?_
    refine zj_aload_n hG d_MD_item_22 rfl rfl ?_
    refine zj_iload_n hG d_MD_item_23 rfl rfl ?_
    refine zj_callR (y' := m_MD_isRecordHandle) hG (zcP (as := [_]) hG d_MD_item_24 c_MD_isRecordHandle (z_w7 198 rfl) (z_w7 200 rfl) (z_w7 199 rfl) (z_w7 8 rfl) rfl ⟨by decide, by decide⟩ hT.1 (by decide) (by decide) (show _ = some 1 from by decide +kernel) rfl) c_MD_isRecordHandle rfl (by omega) rfl (z_le rfl) (z_le rfl) hrh ?_
    refine zj_if_ne (tgt := 34) hG d_MD_item_27 (by decide) (fun c => absurd rfl c) (fun _ => ?_)
    refine zj_iconst (v := 1) hG d_MD_item_30 rfl ?_
    refine zj_goto (tgt := 64) hG d_MD_item_31 (by decide) ?_
    refine t_putI hG hT d_MD_item_64 f_MD_101 rfl rfl ?_
    refine zj_aload_n hG d_MD_item_67 rfl rfl ?_
    refine t_getI hG hT d_MD_item_68 f_MD_101 rfl ?_
    rw [zu_s]
    refine zj_if_le (tgt := 78) hG d_MD_item_71 (by decide) (fun c => absurd c (by decide)) (fun _ => ?_)
    refine zj_iconst (v := 0) hG d_MD_item_74 rfl ?_
    refine zj_goto (tgt := 94) hG d_MD_item_75 (by decide) ?_
    exact zj_iret hG d_MD_item_94 rfl rfl ⟨_, _, rfl, rfl, zu_s, rfl, hA.th 1⟩
  | some r =>
    rw [hr] at hrh
    obtain ⟨j, hj, rfl, hr2⟩ := oRec_some hr
    have hfo := k_MD_fieldOf hG hT hW hj hr2 p 1
    simp only
    refine zj_aload_n hG d_MD_item_0 rfl rfl ?_
    refine zj_iload_n hG d_MD_item_1 rfl rfl ?_
    refine zj_callR (y' := m_MD_isRecordHandle) hG (zcP (as := [_]) hG d_MD_item_2 c_MD_isRecordHandle (z_w7 198 rfl) (z_w7 200 rfl) (z_w7 199 rfl) (z_w7 8 rfl) rfl ⟨by decide, by decide⟩ hT.1 (by decide) (by decide) (show _ = some 1 from by decide +kernel) rfl) c_MD_isRecordHandle rfl (by omega) rfl (z_le rfl) (z_le rfl) hrh ?_
    refine zj_if_eq (tgt := 18) hG d_MD_item_5 (by decide) (fun c => absurd c tb1) (fun _ => ?_)
    refine zj_aload_n hG d_MD_item_8 rfl rfl ?_
    refine zj_iload_n hG d_MD_item_9 rfl rfl ?_
    refine zj_iload_n hG d_MD_item_10 rfl rfl ?_
    refine zj_iconst (v := 1) hG d_MD_item_11 rfl ?_
    refine zj_callR (y' := m_MD_fieldOf) hG (zcP (as := [_, _, _]) hG d_MD_item_12 c_MD_fieldOf (z_w7 210 rfl) (z_w7 212 rfl) (z_w7 211 rfl) (z_w7 8 rfl) rfl ⟨by decide, by decide⟩ hT.1 (by decide) (by decide) (show _ = some 3 from by decide +kernel) rfl) c_MD_fieldOf rfl (by omega) rfl (z_le rfl) (z_le rfl) hfo ?_
    refine zj_goto (tgt := 19) hG d_MD_item_15 (by decide) ?_
    refine zj_istore hG d_MD_item_19 (by decide) rfl rfl ?_
    refine zj_aload_n hG d_MD_item_21 rfl rfl ?_
    refine zj_aload_n hG d_MD_item_22 rfl rfl ?_
    refine zj_iload_n hG d_MD_item_23 rfl rfl ?_
    refine zj_callR (y' := m_MD_isRecordHandle) hG (zcP (as := [_]) hG d_MD_item_24 c_MD_isRecordHandle (z_w7 198 rfl) (z_w7 200 rfl) (z_w7 199 rfl) (z_w7 8 rfl) rfl ⟨by decide, by decide⟩ hT.1 (by decide) (by decide) (show _ = some 1 from by decide +kernel) rfl) c_MD_isRecordHandle rfl (by omega) rfl (z_le rfl) (z_le rfl) hrh ?_
    refine zj_if_ne (tgt := 34) hG d_MD_item_27 (by decide) (fun _ => ?_) (fun c => absurd c tb1)
    refine zj_iload hG d_MD_item_34 rfl ?_
    have bad : ∀ w : zV, zJ G 1 m_MD_item 59 [some (zA q), some (zI (nI j)), some (zI p), some (zI i), some w] [zA q] (twp q h N) (fun o h' => ∃ v N', o = zR (zI v) ∧ h' = twp q h N' ∧ (N' 0 0 = (2 : Int32) ∧ v = (0 : Int32) ∧ tA N' W)) := by
      intro w
      refine zj_iconst (v := 2) hG d_MD_item_59 rfl ?_
      refine zj_goto (tgt := 64) hG d_MD_item_60 (by decide) ?_
      refine t_putI hG hT d_MD_item_64 f_MD_101 rfl rfl ?_
      refine zj_aload_n hG d_MD_item_67 rfl rfl ?_
      refine t_getI hG hT d_MD_item_68 f_MD_101 rfl ?_
      rw [zu_s]
      refine zj_if_le (tgt := 78) hG d_MD_item_71 (by decide) (fun c => absurd c (by decide)) (fun _ => ?_)
      refine zj_iconst (v := 0) hG d_MD_item_74 rfl ?_
      refine zj_goto (tgt := 94) hG d_MD_item_75 (by decide) ?_
      exact zj_iret hG d_MD_item_94 rfl rfl ⟨_, _, rfl, rfl, zu_s, rfl, hA.th 2⟩
    cases hf : oFld (wV W) r.1 p 1 with
    | none =>
      refine zj_if_lt (tgt := 59) hG d_MD_item_36 (by decide) (fun _ => ?_) (fun c => absurd (by decide) c)
      exact bad _
    | some k =>
      obtain ⟨F, hk, hF, h24, hs, he, hrow⟩ := hW.row hj hr2 hf
      have hl6 := hrow.2.1
      simp only
      refine zj_if_lt (tgt := 59) hG d_MD_item_36 (by decide) (fun c => absurd c (nI_pos (by omega))) (fun _ => ?_)
      refine zj_iload_n hG d_MD_item_39 rfl rfl ?_
      refine zj_if_lt (tgt := 59) hG d_MD_item_40 (by decide) (fun c40 => ?_) (fun c40 => ?_)
      · rw [if_neg (fun g => Int32.not_le.mpr c40 g.1)]
        exact bad _
      refine zj_iload_n hG d_MD_item_43 rfl rfl ?_
      refine zj_aload_n hG d_MD_item_44 rfl rfl ?_
      refine t_getA (o := 11) hG hT d_MD_item_45 f_MD_44 rfl rfl ?_
      refine zj_aload_n hG d_MD_item_48 rfl rfl ?_
      refine zj_iload_n hG d_MD_item_49 rfl rfl ?_
      refine zj_iload hG d_MD_item_50 rfl ?_
      refine zj_callR (y' := m_MD_rowOf) hG (zcP (as := [_, _]) hG d_MD_item_52 c_MD_rowOf (z_w7 218 rfl) (z_w7 220 rfl) (z_w7 219 rfl) (z_w7 8 rfl) rfl ⟨by decide, by decide⟩ hT.1 (by decide) (by decide) (show _ = some 2 from by decide +kernel) rfl) c_MD_rowOf rfl (by omega) rfl (z_le rfl) (z_le rfl) (k_MD_rowOf hG j k _ _) ?_
      refine t_ald (7 * (24 * j + k)) hG hT d_MD_item_55 (by first | decide | omega) (by first | decide | omega) rfl (by show _ < 2688; omega) ?_
      rw [hrow.1]
      refine zj_icmp_lt (tgt := 63) hG d_MD_item_56 (by decide) (fun c56 => ?_) (fun c56 => ?_)
      · rw [if_pos ⟨Int32.not_lt.mp c40, c56⟩]
        obtain ⟨m, hm, rfl⟩ : ∃ m, m < (oRow r k).length ∧ i = nI m := by
          rcases pk_ix i (n := (oRow r k).length) (by omega) with e | e | e
          · exact absurd e c40
          · exact absurd c56 (Int32.not_lt.mpr e)
          · exact e
        refine zj_iconst (v := 0) hG d_MD_item_63 rfl ?_
        refine t_putI hG hT d_MD_item_64 f_MD_101 rfl rfl ?_
        refine zj_aload_n hG d_MD_item_67 rfl rfl ?_
        refine t_getI hG hT d_MD_item_68 f_MD_101 rfl ?_
        rw [zu_s]
        refine zj_if_le (tgt := 78) hG d_MD_item_71 (by decide) (fun _ => ?_) (fun c => absurd (by decide) c)
        refine zj_aload_n hG d_MD_item_78 rfl rfl ?_
        refine t_getA (o := 11) hG hT d_MD_item_79 f_MD_44 rfl rfl ?_
        refine zj_aload_n hG d_MD_item_82 rfl rfl ?_
        refine zj_iload_n hG d_MD_item_83 rfl rfl ?_
        refine zj_iload hG d_MD_item_84 rfl ?_
        refine zj_callR (y' := m_MD_rowOf) hG (zcP (as := [_, _]) hG d_MD_item_86 c_MD_rowOf (z_w7 218 rfl) (z_w7 220 rfl) (z_w7 219 rfl) (z_w7 8 rfl) rfl ⟨by decide, by decide⟩ hT.1 (by decide) (by decide) (show _ = some 2 from by decide +kernel) rfl) c_MD_rowOf rfl (by omega) rfl (z_le rfl) (z_le rfl) (k_MD_rowOf hG j k _ _) ?_
        refine zj_iconst (v := 1) hG d_MD_item_89 rfl ?_
        refine zj_iadd hG d_MD_item_90 ?_
        refine zj_iload_n hG d_MD_item_91 rfl rfl ?_
        refine zj_iadd hG d_MD_item_92 ?_
        refine t_ald (7 * (24 * j + k) + 1 + m) hG hT d_MD_item_93 (by first | decide | omega) (by first | decide | omega) (by rw [nI_1, nI_add]) (by show _ < 2688; omega) ?_
        rw [zu_a (by omega), hrow.2.2 m _ (List.getElem?_eq_getElem hm)]
        exact zj_iret hG d_MD_item_94 rfl rfl ⟨_, _, rfl, rfl, zu_s, by rw [nI_clamp (by omega), List.getElem?_eq_getElem hm]; rfl, hA.th 0⟩
      · rw [if_neg (fun g => c56 g.2)]
        exact bad _
end MD15
