/-! PART 27: the reference: records -/
/-- all of it, with what it works upon -/
def tA (N : Nat → Nat → Int32) (W : sW) : Prop := tW N W ∧ ∃ X, tX N X ∧ X.2.1.length ≤ 900
theorem tX.fr2 {P : Nat → Nat → Bool} {N N' : Nat → Nat → Int32} {X : tXt} (h : tX N X) (f : tFr P N N') (hp : ∀ o i, pA o i = true → P o i = false) : tX N' X :=
  ⟨h.1.fr f (fun o i e => hp o i (by simp [pA, e])), h.2.1.fr f (fun o i e => hp o i (by simp [pA, e])), h.2.2.1.fr f (fun o i e => hp o i (by simp [pK] at e; simp [pA, pW]; omega)), (f 0 28 (hp 0 28 rfl)).trans h.2.2.2⟩
theorem tA.th {N : Nat → Nat → Int32} {W : sW} (h : tA N W) (x : Int32) : tA (zu N 0 0 x) W := by
  have f : tFr (fun o i => o == 0 && i == 0) N (zu N 0 0 x) := tFr.put tFr.rfl' rfl
  obtain ⟨a, X, b, c⟩ := h
  exact ⟨a.fr f (by intro o i e; simp [pP] at e; simp; omega), X, b.fr2 f (by intro o i e; simp [pA, pT, pS, pW] at e; simp; omega), c⟩
theorem tb1 : ¬ tb true = 0 := by decide
def tfi : Option Nat → Int32
  | none => -1
  | some k => nI k
section MD14
variable {G : zG} {q : Nat} {h : zH} {N : Nat → Nat → Int32} {W : sW}
theorem oRec_some {W : sW} {x : Int32} {r : sRc} (h : oRec W x = some r) : ∃ j, j < 16 ∧ x = nI j ∧ wR W j = some r := by
  rcases pk_ix x (n := 16) (by omega) with e | e | ⟨j, hj, rfl⟩
  · rw [oRec_n (Or.inl e)] at h
    cases h
  · rw [oRec_n (Or.inr e)] at h
    cases h
  · rw [oRec_i hj] at h
    exact ⟨j, hj, rfl, h⟩
theorem tW.r (hW : tW N W) {j : Nat} {r : sRc} (hj : j < 16) (hr : wR W j = some r) : tRc N (wV W) j r := by
  have := hW.2.2.2.2.2.2.2 j hj
  rw [hr] at this
  exact this
set_option maxRecDepth 4000 in
theorem k_MD_fieldOfL (hG : zOK G) (hT : twOK q h) {v : Nat} {F : List tFd} (hv : v < 8) (hF : tVer N v F) (x p s : Int32) : ∀ (n k : Nat), k + n = F.length → (∀ (j : Nat) (f : tFd), j < k → F[j]? = some f → ¬ (f.1 = p ∧ f.2.1 = s)) →
    zJ G 0 m_MD_fieldOf 11 [some (zA q), some (zI x), some (zI p), some (zI s), some (zI (nI v)), some (zI (nI k))] [] (twp q h N) (fun o h' => o = zR (zI (tfi (F.findIdx? (fun f => decide (f.1 = p ∧ f.2.1 = s))))) ∧ h' = twp q h N) := by
  obtain ⟨f1, f2, f3⟩ := hF
  intro n
  induction n with
  | zero =>
    intro k hk hno
    have : F.findIdx? (fun f => decide (f.1 = p ∧ f.2.1 = s)) = none := by
      rw [List.findIdx?_eq_none_iff]
      intro f hf
      obtain ⟨j, hj⟩ := List.getElem?_of_mem hf
      have := hno j f (by have := (List.getElem?_eq_some_iff.mp hj).1; omega) hj
      simpa using this
    rw [this]
    refine zj_iload hG d_MD_fieldOf_11 rfl ?_
    refine zj_aload_n hG d_MD_fieldOf_13 rfl rfl ?_
    refine t_getA (o := 1) hG hT d_MD_fieldOf_14 f_MD_13 rfl rfl ?_
    refine zj_iload hG d_MD_fieldOf_17 rfl ?_
    refine t_ald (v) hG hT d_MD_fieldOf_19 (by first | decide | omega) (by first | decide | omega) rfl hv ?_
    rw [f1]
    refine zj_icmp_ge (tgt := 66) hG d_MD_fieldOf_20 (by decide) (fun _ => ?_) (fun c => absurd (nI_le (by omega) (by omega)) c)
    refine zj_iconst (v := -1) hG d_MD_fieldOf_66 rfl ?_
    exact zj_iret hG d_MD_fieldOf_67 rfl rfl ⟨rfl, rfl⟩
  | succ n ih =>
    intro k hk hno
    have hkl : k < F.length := by omega
    have he : F[k]? = some F[k] := List.getElem?_eq_getElem hkl
    obtain ⟨b1, b2, -⟩ := f3 k _ he
    have nx : ¬ ((F[k]).1 = p ∧ (F[k]).2.1 = s) → zJ G 0 m_MD_fieldOf 60 [some (zA q), some (zI x), some (zI p), some (zI s), some (zI (nI v)), some (zI (nI k))] [] (twp q h N) (fun o h' => o = zR (zI (tfi (F.findIdx? (fun f => decide (f.1 = p ∧ f.2.1 = s))))) ∧ h' = twp q h N) := by
      intro hne
      refine zj_iinc hG d_MD_fieldOf_60 rfl (nI_1 k) (by decide) rfl rfl ?_
      refine zj_goto (tgt := 11) hG d_MD_fieldOf_63 (by decide) ?_
      refine ih (k + 1) (by omega) (fun j f hj hf => ?_)
      rcases Nat.lt_or_ge j k with g | g
      · exact hno j f g hf
      · have : j = k := by omega
        subst this
        rw [he] at hf
        cases hf
        exact hne
    refine zj_iload hG d_MD_fieldOf_11 rfl ?_
    refine zj_aload_n hG d_MD_fieldOf_13 rfl rfl ?_
    refine t_getA (o := 1) hG hT d_MD_fieldOf_14 f_MD_13 rfl rfl ?_
    refine zj_iload hG d_MD_fieldOf_17 rfl ?_
    refine t_ald (v) hG hT d_MD_fieldOf_19 (by first | decide | omega) (by first | decide | omega) rfl hv ?_
    rw [f1]
    refine zj_icmp_ge (tgt := 66) hG d_MD_fieldOf_20 (by decide) (fun c => absurd c (nI_ge hkl (by omega))) (fun _ => ?_)
    refine zj_aload_n hG d_MD_fieldOf_23 rfl rfl ?_
    refine t_getA (o := 2) hG hT d_MD_fieldOf_24 f_MD_17 rfl rfl ?_
    refine zj_bipush (v := 24) hG d_MD_fieldOf_27 rfl ?_
    refine zj_iload hG d_MD_fieldOf_29 rfl ?_
    refine zj_imul hG d_MD_fieldOf_31 ?_
    refine zj_iload hG d_MD_fieldOf_32 rfl ?_
    refine zj_iadd hG d_MD_fieldOf_34 ?_
    refine t_ald (24 * v + k) hG hT d_MD_fieldOf_35 (by first | decide | omega) (by first | decide | omega) (by rw [nI_24, nI_add]) (by show _ < 192; omega) ?_
    refine zj_iload_n hG d_MD_fieldOf_36 rfl rfl ?_
    rw [b1]
    refine zj_icmp_ne (tgt := 60) hG d_MD_fieldOf_37 (by decide) (fun c37 => ?_) (fun c37 => ?_)
    · exact nx (fun g => c37 g.1)
    refine zj_aload_n hG d_MD_fieldOf_40 rfl rfl ?_
    refine t_getA (o := 3) hG hT d_MD_fieldOf_41 f_MD_20 rfl rfl ?_
    refine zj_bipush (v := 24) hG d_MD_fieldOf_44 rfl ?_
    refine zj_iload hG d_MD_fieldOf_46 rfl ?_
    refine zj_imul hG d_MD_fieldOf_48 ?_
    refine zj_iload hG d_MD_fieldOf_49 rfl ?_
    refine zj_iadd hG d_MD_fieldOf_51 ?_
    refine t_ald (24 * v + k) hG hT d_MD_fieldOf_52 (by first | decide | omega) (by first | decide | omega) (by rw [nI_24, nI_add]) (by show _ < 192; omega) ?_
    refine zj_iload_n hG d_MD_fieldOf_53 rfl rfl ?_
    rw [b2]
    refine zj_icmp_ne (tgt := 60) hG d_MD_fieldOf_54 (by decide) (fun c54 => ?_) (fun c54 => ?_)
    · exact nx (fun g => c54 g.2)
    have : F.findIdx? (fun f => decide (f.1 = p ∧ f.2.1 = s)) = some k := by
      rw [List.findIdx?_eq_some_iff_getElem]
      refine ⟨hkl, by simp [c37, c54], fun j hj => ?_⟩
      have := hno j (F[j]) hj (List.getElem?_eq_getElem (by omega))
      simpa using this
    rw [this]
    refine zj_iload hG d_MD_fieldOf_57 rfl ?_
    exact zj_iret hG d_MD_fieldOf_59 rfl rfl ⟨rfl, rfl⟩
theorem k_MD_fieldOf (hG : zOK G) (hT : twOK q h) (hW : tW N W) {j : Nat} {r : sRc} (hj : j < 16) (hr : wR W j = some r) (p s : Int32) :
    zJ G 0 m_MD_fieldOf 0 [some (zA q), some (zI (nI j)), some (zI p), some (zI s), none, none] [] (twp q h N) (fun o h' => o = zR (zI (tfi (oFld (wV W) r.1 p s))) ∧ h' = twp q h N) := by
  obtain ⟨a, ⟨f, hf, hl⟩, -⟩ := hW.r hj hr
  have h8 := hW.1.2.2
  have hv := (List.getElem?_eq_some_iff.mp hf).1
  refine zj_aload_n hG d_MD_fieldOf_0 rfl rfl ?_
  refine t_getA (o := 10) hG hT d_MD_fieldOf_1 f_MD_41 rfl rfl ?_
  refine zj_iload_n hG d_MD_fieldOf_4 rfl rfl ?_
  refine t_ald (j) hG hT d_MD_fieldOf_5 (by first | decide | omega) (by first | decide | omega) rfl hj ?_
  refine zj_istore hG d_MD_fieldOf_6 (by decide) rfl rfl ?_
  refine zj_iconst (v := 0) hG d_MD_fieldOf_8 rfl ?_
  refine zj_istore hG d_MD_fieldOf_9 (by decide) rfl rfl ?_
  rw [a, oFld, hf]
  exact k_MD_fieldOfL hG hT (by omega) (hW.2.1 _ f hf) _ p s f.length 0 (by omega) (fun _ _ e => by omega)
theorem k_MD_rowOf (hG : zOK G) (a b : Nat) (h : zH) (v : zV) : zJ G 0 m_MD_rowOf 0 [some v, some (zI (nI a)), some (zI (nI b))] [] h (fun o h' => o = zR (zI (nI (7 * (24 * a + b)))) ∧ h' = h) := by
  refine zj_bipush (v := 7) hG d_MD_rowOf_0 rfl ?_
  refine zj_bipush (v := 24) hG d_MD_rowOf_2 rfl ?_
  refine zj_iload_n hG d_MD_rowOf_4 rfl rfl ?_
  refine zj_imul hG d_MD_rowOf_5 ?_
  refine zj_iload_n hG d_MD_rowOf_6 rfl rfl ?_
  refine zj_iadd hG d_MD_rowOf_7 ?_
  refine zj_imul hG d_MD_rowOf_8 ?_
  exact zj_iret hG d_MD_rowOf_9 rfl rfl ⟨by rw [nI_24, nI_add, nI_7], rfl⟩
/-- a value fits the bounds of a field -/
def oFit (V : List (List tFd)) (v k : Nat) (x : Int32) : Bool := match (V[v]?.getD [])[k]? with
  | none => false
  | some f => decide (f.2.2.1 ≤ x ∧ x ≤ f.2.2.2)
set_option maxRecDepth 4000 in
theorem k_MD_fits (hG : zOK G) (hT : twOK q h) (hW : tW N W) {j k : Nat} {r : sRc} (hj : j < 16) (hr : wR W j = some r) {F : List tFd} (hF : (wV W)[r.1]? = some F) (hk : k < F.length) (x : Int32) :
    zJ G 0 m_MD_fits 0 [some (zA q), some (zI (nI j)), some (zI (nI k)), some (zI x), none] [] (twp q h N) (fun o h' => o = zR (zI (tb (oFit (wV W) r.1 k x))) ∧ h' = twp q h N) := by
  obtain ⟨a, -⟩ := hW.r hj hr
  have h8 := hW.1.2.2
  have hv := (List.getElem?_eq_some_iff.mp hF).1
  obtain ⟨f1, f2, f3⟩ := hW.2.1 _ F hF
  obtain ⟨-, -, b3, b4⟩ := f3 k _ (List.getElem?_eq_getElem hk)
  have hfit : oFit (wV W) r.1 k x = decide ((F[k]).2.2.1 ≤ x ∧ x ≤ (F[k]).2.2.2) := by
    rw [oFit, hF]
    simp [hk]
  rw [hfit]
  refine zj_aload_n hG d_MD_fits_0 rfl rfl ?_
  refine t_getA (o := 10) hG hT d_MD_fits_1 f_MD_41 rfl rfl ?_
  refine zj_iload_n hG d_MD_fits_4 rfl rfl ?_
  refine t_ald (j) hG hT d_MD_fits_5 (by first | decide | omega) (by first | decide | omega) rfl hj ?_
  rw [a]
  refine zj_istore hG d_MD_fits_6 (by decide) rfl rfl ?_
  refine zj_iload_n hG d_MD_fits_8 rfl rfl ?_
  refine zj_aload_n hG d_MD_fits_9 rfl rfl ?_
  refine t_getA (o := 4) hG hT d_MD_fits_10 f_MD_23 rfl rfl ?_
  refine zj_bipush (v := 24) hG d_MD_fits_13 rfl ?_
  refine zj_iload hG d_MD_fits_15 rfl ?_
  refine zj_imul hG d_MD_fits_17 ?_
  refine zj_iload_n hG d_MD_fits_18 rfl rfl ?_
  refine zj_iadd hG d_MD_fits_19 ?_
  refine t_ald (24 * r.1 + k) hG hT d_MD_fits_20 (by first | decide | omega) (by first | decide | omega) (by rw [nI_24, nI_add]) (by show _ < 192; omega) ?_
  rw [b3]
  refine zj_icmp_lt (tgt := 44) hG d_MD_fits_21 (by decide) (fun c21 => ?_) (fun c21 => ?_)
  · refine zj_iconst (v := 0) hG d_MD_fits_44 rfl ?_
    exact zj_iret hG d_MD_fits_45 rfl rfl ⟨by rw [show decide ((F[k]).2.2.1 ≤ x ∧ x ≤ (F[k]).2.2.2) = false by simp only [decide_eq_false_iff_not]; exact fun g => Int32.not_le.mpr c21 g.1]; rfl, rfl⟩
  refine zj_iload_n hG d_MD_fits_24 rfl rfl ?_
  refine zj_aload_n hG d_MD_fits_25 rfl rfl ?_
  refine t_getA (o := 5) hG hT d_MD_fits_26 f_MD_26 rfl rfl ?_
  refine zj_bipush (v := 24) hG d_MD_fits_29 rfl ?_
  refine zj_iload hG d_MD_fits_31 rfl ?_
  refine zj_imul hG d_MD_fits_33 ?_
  refine zj_iload_n hG d_MD_fits_34 rfl rfl ?_
  refine zj_iadd hG d_MD_fits_35 ?_
  refine t_ald (24 * r.1 + k) hG hT d_MD_fits_36 (by first | decide | omega) (by first | decide | omega) (by rw [nI_24, nI_add]) (by show _ < 192; omega) ?_
  rw [b4]
  refine zj_icmp_gt (tgt := 44) hG d_MD_fits_37 (by decide) (fun c37 => ?_) (fun c37 => ?_)
  · refine zj_iconst (v := 0) hG d_MD_fits_44 rfl ?_
    exact zj_iret hG d_MD_fits_45 rfl rfl ⟨by rw [show decide ((F[k]).2.2.1 ≤ x ∧ x ≤ (F[k]).2.2.2) = false by simp only [decide_eq_false_iff_not]; exact fun g => Int32.not_le.mpr c37 g.2]; rfl, rfl⟩
  · refine zj_iconst (v := 1) hG d_MD_fits_40 rfl ?_
    refine zj_goto (tgt := 45) hG d_MD_fits_41 (by decide) ?_
    exact zj_iret hG d_MD_fits_45 rfl rfl ⟨by rw [show decide ((F[k]).2.2.1 ≤ x ∧ x ≤ (F[k]).2.2.2) = true by simp only [decide_eq_true_eq]; exact ⟨Int32.not_lt.mp c21, Int32.not_lt.mp c37⟩]; rfl, rfl⟩
/-- the calls: what is thrown, what is answered, what stands then -/
def oVersion (W : sW) (x : Int32) : Int32 × Int32 := match oRec W x with
  | none => (1, 0)
  | some r => (0, nI r.1)
set_option maxRecDepth 4000 in
theorem k_MD_version (hG : zOK G) (hT : twOK q h) (hA : tA N W) (x : Int32) : zJ G 1 m_MD_version 0 [some (zA q), some (zI x)] [] (twp q h N) (fun o h' => ∃ v N', o = zR (zI v) ∧ h' = twp q h N' ∧ (N' 0 0 = (oVersion W x).1 ∧ v = (oVersion W x).2 ∧ tA N' W)) := by
  have hW := hA.1
  refine zj_aload_n hG d_MD_version_0 rfl rfl ?_
  refine zj_aload_n hG d_MD_version_1 rfl rfl ?_
  refine zj_iload_n hG d_MD_version_2 rfl rfl ?_
  refine zj_callR (y' := m_MD_isRecordHandle) hG (zcP (as := [_]) hG d_MD_version_3 c_MD_isRecordHandle (z_w7 198 rfl) (z_w7 200 rfl) (z_w7 199 rfl) (z_w7 8 rfl) rfl ⟨by decide, by decide⟩ hT.1 (by decide) (by decide) (show _ = some 1 from by decide +kernel) rfl) c_MD_isRecordHandle rfl (by omega) rfl (z_le rfl) (z_le rfl) (k_MD_isRecordHandle hG hT hW _) ?_
  rw [oVersion]
  cases hr : oRec W x with
  | none =>
    refine zj_if_eq (tgt := 13) hG d_MD_version_6 (by decide) (fun _ => ?_) (fun c => absurd (by decide) c)
    refine zj_iconst (v := 1) hG d_MD_version_13 rfl ?_
    refine t_putI hG hT d_MD_version_14 f_MD_101 rfl rfl ?_
    refine zj_aload_n hG d_MD_version_17 rfl rfl ?_
    refine t_getI hG hT d_MD_version_18 f_MD_101 rfl ?_
    rw [zu_s]
    refine zj_if_le (tgt := 28) hG d_MD_version_21 (by decide) (fun c => absurd c (by decide)) (fun _ => ?_)
    refine zj_iconst (v := 0) hG d_MD_version_24 rfl ?_
    refine zj_goto (tgt := 34) hG d_MD_version_25 (by decide) ?_
    exact zj_iret hG d_MD_version_34 rfl rfl ⟨_, _, rfl, rfl, zu_s, rfl, hA.th 1⟩
  | some r =>
    obtain ⟨j, hj, rfl, hr2⟩ := oRec_some hr
    obtain ⟨a, -⟩ := hW.r hj hr2
    refine zj_if_eq (tgt := 13) hG d_MD_version_6 (by decide) (fun c => absurd c tb1) (fun _ => ?_)
    refine zj_iconst (v := 0) hG d_MD_version_9 rfl ?_
    refine zj_goto (tgt := 14) hG d_MD_version_10 (by decide) ?_
    refine t_putI hG hT d_MD_version_14 f_MD_101 rfl rfl ?_
    refine zj_aload_n hG d_MD_version_17 rfl rfl ?_
    refine t_getI hG hT d_MD_version_18 f_MD_101 rfl ?_
    rw [zu_s]
    refine zj_if_le (tgt := 28) hG d_MD_version_21 (by decide) (fun _ => ?_) (fun c => absurd (by decide) c)
    refine zj_aload_n hG d_MD_version_28 rfl rfl ?_
    refine t_getA (o := 10) hG hT d_MD_version_29 f_MD_41 rfl rfl ?_
    refine zj_iload_n hG d_MD_version_32 rfl rfl ?_
    refine t_ald (j) hG hT d_MD_version_33 (by first | decide | omega) (by first | decide | omega) rfl hj ?_
    rw [zu_a (by omega), a]
    exact zj_iret hG d_MD_version_34 rfl rfl ⟨_, _, rfl, rfl, zu_s, rfl, hA.th 0⟩
def oDrop (W : sW) (x : Int32) : Int32 × sW := match oRec W x with
  | none => (1, W)
  | some _ => (0, sRs W x.toNatClampNeg none)
set_option maxRecDepth 4000 in
theorem k_MD_drop (hG : zOK G) (hT : twOK q h) (hA : tA N W) (x : Int32) : zJ G 1 m_MD_drop 0 [some (zA q), some (zI x)] [] (twp q h N) (fun o h' => ∃ N', o = zR0 ∧ h' = twp q h N' ∧ (N' 0 0 = (oDrop W x).1 ∧ tA N' (oDrop W x).2)) := by
  have hW := hA.1
  refine zj_aload_n hG d_MD_drop_0 rfl rfl ?_
  refine zj_aload_n hG d_MD_drop_1 rfl rfl ?_
  refine zj_iload_n hG d_MD_drop_2 rfl rfl ?_
  refine zj_callR (y' := m_MD_isRecordHandle) hG (zcP (as := [_]) hG d_MD_drop_3 c_MD_isRecordHandle (z_w7 198 rfl) (z_w7 200 rfl) (z_w7 199 rfl) (z_w7 8 rfl) rfl ⟨by decide, by decide⟩ hT.1 (by decide) (by decide) (show _ = some 1 from by decide +kernel) rfl) c_MD_isRecordHandle rfl (by omega) rfl (z_le rfl) (z_le rfl) (k_MD_isRecordHandle hG hT hW _) ?_
  rw [oDrop]
  cases hr : oRec W x with
  | none =>
    refine zj_if_eq (tgt := 13) hG d_MD_drop_6 (by decide) (fun _ => ?_) (fun c => absurd (by decide) c)
    refine zj_iconst (v := 1) hG d_MD_drop_13 rfl ?_
    refine t_putI hG hT d_MD_drop_14 f_MD_101 rfl rfl ?_
    refine zj_aload_n hG d_MD_drop_17 rfl rfl ?_
    refine t_getI hG hT d_MD_drop_18 f_MD_101 rfl ?_
    rw [zu_s]
    refine zj_if_ne (tgt := 31) hG d_MD_drop_21 (by decide) (fun _ => ?_) (fun c => absurd c (by decide))
    exact zj_vret hG d_MD_drop_31 rfl ⟨_, rfl, rfl, zu_s, hA.th 1⟩
  | some r =>
    obtain ⟨j, hj, rfl, hr2⟩ := oRec_some hr
    refine zj_if_eq (tgt := 13) hG d_MD_drop_6 (by decide) (fun c => absurd c tb1) (fun _ => ?_)
    refine zj_iconst (v := 0) hG d_MD_drop_9 rfl ?_
    refine zj_goto (tgt := 14) hG d_MD_drop_10 (by decide) ?_
    refine t_putI hG hT d_MD_drop_14 f_MD_101 rfl rfl ?_
    refine zj_aload_n hG d_MD_drop_17 rfl rfl ?_
    refine t_getI hG hT d_MD_drop_18 f_MD_101 rfl ?_
    rw [zu_s]
    refine zj_if_ne (tgt := 31) hG d_MD_drop_21 (by decide) (fun c => absurd rfl c) (fun _ => ?_)
    refine zj_aload_n hG d_MD_drop_24 rfl rfl ?_
    refine t_getA (o := 10) hG hT d_MD_drop_25 f_MD_41 rfl rfl ?_
    refine zj_iload_n hG d_MD_drop_28 rfl rfl ?_
    refine zj_iconst (v := -1) hG d_MD_drop_29 rfl ?_
    refine t_ast (j) hG hT d_MD_drop_30 (by first | decide | omega) (by first | decide | omega) rfl hj ?_
    simp only
    rw [nI_clamp (by omega)]
    have h0 := hA.th 0
    obtain ⟨w, X, hX, hl⟩ := h0
    refine zj_vret hG d_MD_drop_31 rfl ⟨_, rfl, rfl, by rw [zu_a (by omega), zu_s], ⟨w.rc (h := j) (r := none) (fun o i _ e _ _ _ => if_neg e) zu_s, X, hX.fr2 (P := fun o _ => o == 10) (tFr.put tFr.rfl' rfl) (by intro o i e; simp [pA, pT, pS, pW] at e; simp; omega), hl⟩⟩
end MD14
