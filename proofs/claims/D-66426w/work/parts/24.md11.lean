/-! PART 24: the reference: a primitive forth -/
def tdE : tE := (0, 0, 0, 0, [], 0)
def tdQ : tQ := (0, 0, 0, 0, 0, 0)
def tix (T : List tE) (p : Int32) : Nat := T.findIdx (fun e => decide (eP e = p))
def tel (T : List tE) (p : Int32) : tE := (T[tix T p]?).getD tdE
def tjx (e : tE) : Nat := (eT e).toNatClampNeg
def txx (L : List tQ) (e : tE) : tQ := (L[tjx e]?).getD tdQ
theorem tix_fnd {T : List tE} {p : Int32} (h : tix T p < T.length) : tfnd T p = nI (tix T p) := by
  have : T.findIdx? (fun e => decide (eP e = p)) = some (tix T p) := by
    rw [List.findIdx?_eq_some_iff_findIdx_eq]
    exact ⟨h, rfl⟩
  simp [tfnd, this]
theorem tel_eq {T : List tE} {p : Int32} (h : tix T p < T.length) : tel T p = T[tix T p] := by
  unfold tel
  rw [List.getElem?_eq_getElem h]
  rfl
theorem tel_mem {T : List tE} {p : Int32} (h : tix T p < T.length) : tel T p ∈ T := by
  rw [tel_eq h]
  exact List.getElem_mem h
/-- terms and rows are as they must be -/
def tInv (m : Int32) (X : tXt) : Prop := (m = 2 → ∀ e ∈ X.1, ∃ j, j < X.2.1.length ∧ eT e = nI j) ∧ (m = 1 → ∀ e ∈ X.1, eS e ≠ 1 → eS e ≠ 2 → ∃ y, eR e = [y])
theorem tInv.t {m : Int32} {X : tXt} (h : tInv m X) (hm : m = 2) (hl : X.2.1.length ≤ 1024) {e : tE} (he : e ∈ X.1) : eT e = nI (tjx e) ∧ X.2.1[tjx e]? = some (txx X.2.1 e) := by
  obtain ⟨j, h1, h2⟩ := h.1 hm e he
  have : tjx e = j := by
    unfold tjx
    rw [h2]
    exact nI_clamp (by omega)
  rw [txx, this]
  refine ⟨h2, ?_⟩
  rw [List.getElem?_eq_getElem h1]
  rfl
theorem pTS_A (o i : Nat) (e : pA o i = false) : pTS o i = false := by
  simp [pA] at e
  simp [pTS]
  exact e.1
theorem pB_A (o i : Nat) (e : pA o i = false) : pB o i = false := by
  simp [pA, pW] at e
  simp [pB, e.1.1]
  omega
theorem pT_A (o i : Nat) (e : pA o i = false) : pT o i = false := by
  simp [pA] at e
  exact e.1.1
/-- scaled, mapped or sorted -/
def tch (m : Int32) (k : Nat) (e : tE) (s : Nat) (p : tPm) (f : Bool) (X : tXt) : tXt :=
  (X.1.set k (e.1, e.2.1, e.2.2.1, e.2.2.2.1, (if m = 1 then tchR (eR e) (X.2.2.1 s) p.1 p.2.2.1 p.2.2.2.1 f p.2.2.2.2.2.1 p.2.2.2.2.2.2 else eR e), (if m = 2 then (tchd X.2.1 (tjx e) (txx X.2.1 e) p.1 p.2.2.1 p.2.2.2.1 f p.2.2.2.2.2.1 p.2.2.2.2.2.2).1 else eT e)),
   (if m = 2 then (tchd X.2.1 (tjx e) (txx X.2.1 e) p.1 p.2.2.1 p.2.2.2.1 f p.2.2.2.2.2.1 p.2.2.2.2.2.2).2 else X.2.1),
   (if m = 1 then zw X.2.2.1 s (tchK (eR e) (X.2.2.1 s) p.1 p.2.2.1 p.2.2.2.1 f p.2.2.2.2.2.1 p.2.2.2.2.2.2) else X.2.2.1), X.2.2.2)
section MD11
variable {G : zG} {q : Nat} {h : zH} {N : Nat → Nat → Int32} {X : tXt}
theorem k_MD_change (hG : zOK G) (hT : twOK q h) (hX : tX N X) (hI : tInv (N 0 27) X) (hl : X.2.1.length < 1024) {i s r : Nat} (hs : N 0 27 = 1 → s < 128) (hi : i < X.1.length) (hr : r + 7 < 1088) {p : tPm} (hp : tPr N r p) (f : Bool) (hd : p.1 = 6 → ¬ p.2.2.1 = 0 ∧ ¬ p.2.2.2.1 = 0) (hx : p.1 = 6 ∨ p.1 = 7 → eS X.1[i] = 0) :
    zJ G 3 m_MD_change 0 [some (zA q), some (zI (nI i)), some (zI p.1), some (zI p.2.2.1), some (zI p.2.2.2.1), some (zI (tb f)), some (zI (nI s)), some (zI (nI r)), none, none] [] (twp q h N) (fun o h' => ∃ N', o = zR0 ∧ h' = twp q h N' ∧ (tX N' (tch (N 0 27) i X.1[i] s p f X) ∧ tFr pA N N')) := by
  have hp' := hp
  obtain ⟨p0, p1, p2, p3, p5, p6, p7⟩ := hp
  by_cases m1 : N 0 27 = 1
  · have m2 : ¬ N 0 27 = 2 := by rw [m1]; decide
    refine (k_MD_change1 hG hT hX.1 hX.2.2.1 m1 (hs m1) hi hr p.1 p.2.2.1 p.2.2.2.1 f hd (fun g => ?_)).mono ?_
    · have g0 := hx g
      exact hI.2 m1 _ (List.getElem_mem hi) (by rw [g0]; decide) (by rw [g0]; decide)
    · rintro o h' ⟨N', e1, e2, e3, e4, e5⟩
      refine ⟨N', e1, e2, ?_, e5.mono pB_A⟩
      rw [p6, p7] at e3 e4
      rw [tch]
      simp only [if_pos m1, if_neg m2]
      rw [tsetR_eq hi] at e3
      exact ⟨e3, hX.2.1.fr e5 (by intro o i e; simp [pS] at e; simp [pB, pT]; omega), e4, (e5 0 28 rfl).trans hX.2.2.2⟩
    -- ^ frames
  · by_cases m2 : N 0 27 = 2
    · obtain ⟨t1, t2⟩ := hI.t m2 (by omega) (List.getElem_mem hi)
      refine (k_MD_change2 (s := s) hG hT hX.1 hX.2.1 hl m2 hi hr t1 t2 p.1 p.2.2.1 p.2.2.2.1 f hd).mono ?_
      rintro o h' ⟨N', e1, e2, e3, e4, e5⟩
      refine ⟨N', e1, e2, ?_, e5.mono pTS_A⟩
      rw [p6, p7] at e3 e4
      rw [tch]
      simp only [if_neg m1, if_pos m2]
      rw [tsetT_eq hi] at e3
      exact ⟨e3, e4, hX.2.2.1.fr e5 (by intro o i e; simp [pK] at e; simp [pTS, pT, pS]; omega), (e5 0 28 rfl).trans hX.2.2.2⟩
    · refine (k_MD_change0 hG m1 m2 hT _ _ _ _ _ _ _).mono ?_
      rintro o h' ⟨e1, e2⟩
      refine ⟨N, e1, e2, ?_, tFr.rfl'⟩
      rw [tch]
      simp only [if_neg m1, if_neg m2]
      rw [show ((X.1[i]).1, (X.1[i]).2.1, (X.1[i]).2.2.1, (X.1[i]).2.2.2.1, eR X.1[i], eT X.1[i]) = X.1[i] from rfl, List.set_getElem_self]
      exact hX
/-- wrapped -/
def twrp (m : Int32) (k : Nat) (e : tE) (s : Nat) (X : tXt) : tXt :=
  (X.1.set k (e.1, 1, e.2.2.1, e.2.2.2.1, (if m = 1 then twr e (X.2.2.1 s) ((eR e).headD 0) else eR e), (if m = 2 then nI (X.2.1.idxOf (3, eT e, 0, 0, 0, 0)) else 0)),
   (if m = 2 then tkn X.2.1 (3, eT e, 0, 0, 0, 0) else X.2.1), (if m = 1 then zw X.2.2.1 s tK0 else X.2.2.1), X.2.2.2)
/-- bounds of a table's field -/
def tbnd (k : Nat) (lo hi : Int32) (X : tXt) : tXt := (X.1.modify k (fun e => (e.1, e.2.1, lo, hi, e.2.2.2.2)), X.2)
/-- a primitive forth -/
def tfo (m : Int32) (p : tPm) (s : Nat) (X : tXt) : tXt :=
  let e := tel X.1 p.2.1
  let k := tix X.1 p.2.1
  if p.1 = 0 ∨ p.1 = 4 then (X.1.map (tmv p.2.1 (tbeh p.1 p.2.1 p.2.2.1)), X.2)
  else if p.1 = 1 then tarr m p s X
  else if p.1 = 2 then tdpt m s k e X
  else if p.1 = 3 then twrp m k e s X
  else if p.1 = 5 then tsp m k e (txx X.2.1 e) (tjx e) p.2.1 p.2.2.1 p.2.2.2.1 X
  else if p.1 = 6 then tbnd k (tsc true (eL e) p.2.2.1 p.2.2.2.1 0 0) (tsc true (eH e) p.2.2.1 p.2.2.2.1 0 0) (tch m k e s p true X)
  else tch m k e s p true X
/-- when it can be done -/
def tfK (p : tPm) (T : List tE) : Prop := T.length ≤ 24 ∧ (p.1 = 0 ∨ p.1 = 4 ∨ p.1 = 1 ∨ tix T p.2.1 < T.length ∧ (p.1 = 2 ∨ p.1 = 8 ∨ (p.1 = 3 ∨ p.1 = 5 ∧ ¬ p.2.2.1 = 0 ∨ p.1 = 6 ∧ ¬ p.2.2.1 = 0 ∧ ¬ p.2.2.2.1 = 0 ∨ p.1 = 7) ∧ eS (tel T p.2.1) = 0))
theorem modify_set {T : List tE} {k : Nat} (hk : k < T.length) (f : tE → tE) : T.modify k f = T.set k (f T[k]) := by
  apply List.ext_getElem?
  intro j
  rw [List.getElem?_modify, List.getElem?_set]
  by_cases g : k = j
  · subst g
    simp [hk]
  · simp [g]
theorem tX.fr {P : Nat → Nat → Bool} {N' : Nat → Nat → Int32} {T' : List tE} (h : tX N X) (f : tFr P N N') (hp : ∀ o i, pS o i = true ∨ pK o i = true ∨ o = 0 ∧ i = 28 → P o i = false) (ht : tTab N' T') : tX N' (T', X.2) :=
  ⟨ht, h.2.1.fr f (fun o i e => hp o i (Or.inl e)), h.2.2.1.fr f (fun o i e => hp o i (Or.inr (Or.inl e))), (f 0 28 (hp 0 28 (Or.inr (Or.inr ⟨rfl, rfl⟩)))).trans h.2.2.2⟩
theorem pT_SK (o i : Nat) (e : pS o i = true ∨ pK o i = true ∨ o = 0 ∧ i = 28) : pT o i = false := by
  simp [pS, pK] at e
  simp [pT]
  omega
set_option maxRecDepth 4000 in
theorem k_MD_forth (hG : zOK G) (hT : twOK q h) (hX : tX N X) (hI : tInv (N 0 27) X) (hl : X.2.1.length + 3 ≤ 1024) {st i : Nat} (hs : 8 * st + i < 136) {p : tPm} (hp : tPr N (8 * (8 * st + i)) p) (hm : N 0 27 = 1 → 8 * st + i < 128) (hK : tfK p X.1) :
    zJ G 4 m_MD_forth 0 [some (zA q), some (zI (nI st)), some (zI (nI i)), none, none, none, none, none, none, none] [] (twp q h N) (fun o h' => ∃ N', o = zR0 ∧ h' = twp q h N' ∧ (tX N' (tfo (N 0 27) p (8 * st + i) X) ∧ tFr pA N N')) := by
  obtain ⟨hN, hS, hW, hc⟩ := id hX
  have hlT := hN.l
  have hp' := hp
  obtain ⟨p0, p1, p2, p3, p5, p6, p7⟩ := hp'
  have hl' : X.2.1.length < 1024 := by omega
  refine zj_aload_n hG d_MD_forth_0 rfl rfl ?_
  refine zj_iload_n hG d_MD_forth_1 rfl rfl ?_
  refine zj_iload_n hG d_MD_forth_2 rfl rfl ?_
  refine zj_callR (y' := m_MD_at) hG (zcP (as := [_, _]) hG d_MD_forth_3 c_MD_at (z_w7 78 rfl) (z_w7 80 rfl) (z_w7 79 rfl) (z_w7 8 rfl) rfl ⟨by decide, by decide⟩ hT.1 (by decide) (by decide) (show _ = some 2 from by decide +kernel) rfl) c_MD_at rfl (by omega) rfl (z_le rfl) (z_le rfl) (k_MD_at hG st i _ _) ?_
  generalize hr : 8 * (8 * st + i) = r at *
  generalize hsl : 8 * st + i = s at *
  have hr7 : r + 7 < 1088 := by omega
  refine zj_istore_n hG d_MD_forth_6 rfl (by decide) rfl rfl ?_
  refine zj_aload_n hG d_MD_forth_7 rfl rfl ?_
  refine t_getA (o := 9) hG hT d_MD_forth_8 f_MD_38 rfl rfl ?_
  refine zj_iload_n hG d_MD_forth_11 rfl rfl ?_
  refine t_ald (r) hG hT d_MD_forth_12 (by first | decide | omega) (by first | decide | omega) rfl (by show _ < 1088; omega) ?_
  refine zj_istore hG d_MD_forth_13 (by decide) rfl rfl ?_
  refine zj_aload_n hG d_MD_forth_15 rfl rfl ?_
  refine t_getA (o := 9) hG hT d_MD_forth_16 f_MD_38 rfl rfl ?_
  refine zj_iload_n hG d_MD_forth_19 rfl rfl ?_
  refine zj_iconst (v := 1) hG d_MD_forth_20 rfl ?_
  refine zj_iadd hG d_MD_forth_21 ?_
  refine t_ald (r + 1) hG hT d_MD_forth_22 (by first | decide | omega) (by first | decide | omega) (nI_1 _) (by show _ < 1088; omega) ?_
  refine zj_istore hG d_MD_forth_23 (by decide) rfl rfl ?_
  refine zj_aload_n hG d_MD_forth_25 rfl rfl ?_
  refine t_getA (o := 9) hG hT d_MD_forth_26 f_MD_38 rfl rfl ?_
  refine zj_iload_n hG d_MD_forth_29 rfl rfl ?_
  refine zj_iconst (v := 2) hG d_MD_forth_30 rfl ?_
  refine zj_iadd hG d_MD_forth_31 ?_
  refine t_ald (r + 2) hG hT d_MD_forth_32 (by first | decide | omega) (by first | decide | omega) (nI_a2 _) (by show _ < 1088; omega) ?_
  refine zj_istore hG d_MD_forth_33 (by decide) rfl rfl ?_
  refine zj_aload_n hG d_MD_forth_35 rfl rfl ?_
  refine t_getA (o := 9) hG hT d_MD_forth_36 f_MD_38 rfl rfl ?_
  refine zj_iload_n hG d_MD_forth_39 rfl rfl ?_
  refine zj_iconst (v := 3) hG d_MD_forth_40 rfl ?_
  refine zj_iadd hG d_MD_forth_41 ?_
  refine t_ald (r + 3) hG hT d_MD_forth_42 (by first | decide | omega) (by first | decide | omega) (nI_a3 _) (by show _ < 1088; omega) ?_
  refine zj_istore hG d_MD_forth_43 (by decide) rfl rfl ?_
  refine zj_bipush (v := 8) hG d_MD_forth_45 rfl ?_
  refine zj_iload_n hG d_MD_forth_47 rfl rfl ?_
  refine zj_imul hG d_MD_forth_48 ?_
  refine zj_iload_n hG d_MD_forth_49 rfl rfl ?_
  refine zj_iadd hG d_MD_forth_50 ?_
  refine zj_istore hG d_MD_forth_51 (by decide) rfl rfl ?_
  refine zj_aload_n hG d_MD_forth_53 rfl rfl ?_
  refine zj_iload hG d_MD_forth_54 rfl ?_
  rw [p0, p1, p2, p3, show (8 : Int32) * nI st + nI i = nI s by rw [nI_8, nI_add, hsl]]
  refine zj_callR (y' := m_MD_find) hG (zcP (as := [_]) hG d_MD_forth_56 c_MD_find (z_w7 47 rfl) (z_w7 49 rfl) (z_w7 48 rfl) (z_w7 8 rfl) rfl ⟨by decide, by decide⟩ hT.1 (by decide) (by decide) (show _ = some 1 from by decide +kernel) rfl) c_MD_find rfl (by omega) rfl (z_le rfl) (z_le rfl) (k_MD_find hG hT hN _) ?_
  refine zj_istore hG d_MD_forth_59 (by decide) rfl rfl ?_
  refine zj_iload hG d_MD_forth_61 rfl ?_
  have ret : ∀ (M : Nat → Nat → Int32) (ls : List (Option zV)), tX M (tfo (N 0 27) p s X) → tFr pA N M → zJ G 4 m_MD_forth 308 ls [] (twp q h M) (fun o h' => ∃ N', o = zR0 ∧ h' = twp q h N' ∧ (tX N' (tfo (N 0 27) p s X) ∧ tFr pA N N')) := by
    intro M ls g1 g2
    exact zj_vret hG d_MD_forth_308 rfl ⟨M, rfl, rfl, g1, g2⟩
  have ne : ∀ {a b : Int32}, a = b → ∀ {c : Int32}, ¬ b = c → ¬ a = c := fun e c g h => g (e ▸ h)
  obtain ⟨h24, hK⟩ := hK
  have mv : (p.1 = 0 ∨ p.1 = 4) → ∀ v : zV, zJ G 4 m_MD_forth 104 [some (zA q), some (zI (nI st)), some (zI (nI i)), some (zI (nI r)), some (zI p.1), some (zI p.2.1), some (zI p.2.2.1), some (zI p.2.2.2.1), some (zI (nI s)), some v] [] (twp q h N) (fun o h' => ∃ N', o = zR0 ∧ h' = twp q h N' ∧ (tX N' (tfo (N 0 27) p s X) ∧ tFr pA N N')) := by
    intro g v
    refine zj_aload_n hG d_MD_forth_104 rfl rfl ?_
    refine zj_iload hG d_MD_forth_105 rfl ?_
    refine zj_aload_n hG d_MD_forth_107 rfl rfl ?_
    refine zj_iload hG d_MD_forth_108 rfl ?_
    refine zj_iload hG d_MD_forth_110 rfl ?_
    refine zj_iload hG d_MD_forth_112 rfl ?_
    refine zj_callR (y' := m_MD_pathBehind) hG (zcP (as := [_, _, _]) hG d_MD_forth_114 c_MD_pathBehind (z_w7 82 rfl) (z_w7 84 rfl) (z_w7 83 rfl) (z_w7 8 rfl) rfl ⟨by decide, by decide⟩ hT.1 (by decide) (by decide) (show _ = some 3 from by decide +kernel) rfl) c_MD_pathBehind rfl (by omega) rfl (z_le rfl) (z_le rfl) (k_MD_pathBehind hG _ _ _ _ _) ?_
    refine zj_callU (y' := m_MD_move) hG (zcP (as := [_, _]) hG d_MD_forth_117 c_MD_move (z_w7 92 rfl) (z_w7 94 rfl) (z_w7 93 rfl) (z_w7 8 rfl) rfl ⟨by decide, by decide⟩ hT.1 (by decide) (by decide) (show _ = some 2 from by decide +kernel) rfl) c_MD_move rfl (by omega) rfl (z_le rfl) (z_le rfl) (k_MD_move hG hT hN _ _) (fun N117 e117 => ?_)
    obtain ⟨r1, r2⟩ := e117
    refine zj_goto (tgt := 308) hG d_MD_forth_120 (by decide) ?_
    refine ret _ _ ?_ (r2.mono pT_A)
    rw [tfo]
    simp only [if_pos g]
    exact hX.fr r2 pT_SK r1
  rcases hK with g | g | g | ⟨hk, hK⟩
  · have := mv (Or.inl g) (zI (tfnd X.1 p.2.1))
    rw [g] at this ⊢
    exact zj_tableIn (off := 41) (tgt := 104) hG d_MD_forth_63 (by decide) (by decide) rfl rfl this
  · have := mv (Or.inr g) (zI (tfnd X.1 p.2.1))
    rw [g] at this ⊢
    exact zj_tableIn (off := 41) (tgt := 104) hG d_MD_forth_63 (by decide) (by decide) rfl rfl this
  · have n0 : ¬ (p.1 = 0 ∨ p.1 = 4) := by rw [g]; decide
    rw [g]
    refine zj_tableIn (off := 60) (tgt := 123) hG d_MD_forth_63 (by decide) (by decide) rfl rfl ?_
    refine zj_aload_n hG d_MD_forth_123 rfl rfl ?_
    refine zj_iload_n hG d_MD_forth_124 rfl rfl ?_
    refine zj_iload hG d_MD_forth_125 rfl ?_
    refine zj_callU (y' := m_MD_arrive) hG (zcP (as := [_, _]) hG d_MD_forth_127 c_MD_arrive (z_w7 99 rfl) (z_w7 101 rfl) (z_w7 100 rfl) (z_w7 8 rfl) rfl ⟨by decide, by decide⟩ hT.1 (by decide) (by decide) (show _ = some 2 from by decide +kernel) rfl) c_MD_arrive rfl (by omega) rfl (z_le rfl) (z_le rfl) (k_MD_arrive hG hT hX h24 hl' hm hr7 hp) (fun N127 e127 => ?_)
    obtain ⟨r1, r2⟩ := e127
    refine zj_goto (tgt := 308) hG d_MD_forth_130 (by decide) ?_
    refine ret _ _ ?_ r2
    rw [tfo]
    simp only [if_neg n0, if_pos g]
    exact r1
  have hfn := tix_fnd hk
  have hel := tel_eq hk
  rw [hfn]
  have chg : ∀ (hd : p.1 = 6 → ¬ p.2.2.1 = 0 ∧ ¬ p.2.2.2.1 = 0) (hx : p.1 = 6 ∨ p.1 = 7 → eS (tel X.1 p.2.1) = 0), zJ G 3 m_MD_change 0 [some (zA q), some (zI (nI (tix X.1 p.2.1))), some (zI p.1), some (zI p.2.2.1), some (zI p.2.2.2.1), some (zI 1), some (zI (nI s)), some (zI (nI r)), none, none] [] (twp q h N) (fun o h' => ∃ N', o = zR0 ∧ h' = twp q h N' ∧ (tX N' (tch (N 0 27) (tix X.1 p.2.1) (tel X.1 p.2.1) s p true X) ∧ tFr pA N N')) := by
    intro hd hx
    rw [hel] at hx ⊢
    exact k_MD_change hG hT hX hI hl' hm hk hr7 hp true hd hx
  rcases hK with g | g | ⟨hK, hsort⟩
  · have n0 : ¬ (p.1 = 0 ∨ p.1 = 4) := by rw [g]; decide
    have n1 : ¬ p.1 = 1 := by rw [g]; decide
    rw [g]
    refine zj_tableIn (off := 70) (tgt := 133) hG d_MD_forth_63 (by decide) (by decide) rfl rfl ?_
    refine zj_aload_n hG d_MD_forth_133 rfl rfl ?_
    refine zj_iload hG d_MD_forth_134 rfl ?_
    refine zj_iload hG d_MD_forth_136 rfl ?_
    refine zj_callU (y' := m_MD_depart) hG (zcP (as := [_, _]) hG d_MD_forth_138 c_MD_depart (z_w7 106 rfl) (z_w7 108 rfl) (z_w7 107 rfl) (z_w7 8 rfl) rfl ⟨by decide, by decide⟩ hT.1 (by decide) (by decide) (show _ = some 2 from by decide +kernel) rfl) c_MD_depart rfl (by omega) rfl (z_le rfl) (z_le rfl) (k_MD_depart hG hT hX hm hk hfn (fun m1 => hI.2 m1 _ (List.getElem_mem hk))) (fun N138 e138 => ?_)
    obtain ⟨r1, r2⟩ := e138
    refine zj_goto (tgt := 308) hG d_MD_forth_141 (by decide) ?_
    refine ret _ _ ?_ r2
    rw [tfo]
    simp only [if_neg n0, if_neg n1, if_pos g]
    rw [hel]
    exact r1
  · have n0 : ¬ (p.1 = 0 ∨ p.1 = 4) := by rw [g]; decide
    have n1 : ¬ p.1 = 1 := by rw [g]; decide
    have n2 : ¬ p.1 = 2 := by rw [g]; decide
    have n3 : ¬ p.1 = 3 := by rw [g]; decide
    have n5 : ¬ p.1 = 5 := by rw [g]; decide
    have n6 : ¬ p.1 = 6 := by rw [g]; decide
    have n7 : ¬ p.1 = 7 := by rw [g]; decide
    have ch := chg (fun e => absurd e n6) (fun e => absurd e (by simp [n6, n7]))
    rw [g] at ch ⊢
    refine zj_tableOut (tgt := 292) hG d_MD_forth_63 (Or.inr (by decide)) rfl ?_
    refine zj_aload_n hG d_MD_forth_292 rfl rfl ?_
    refine zj_iload hG d_MD_forth_293 rfl ?_
    refine zj_iload hG d_MD_forth_295 rfl ?_
    refine zj_iload hG d_MD_forth_297 rfl ?_
    refine zj_iload hG d_MD_forth_299 rfl ?_
    refine zj_iconst (v := 1) hG d_MD_forth_301 rfl ?_
    refine zj_iload hG d_MD_forth_302 rfl ?_
    refine zj_iload_n hG d_MD_forth_304 rfl rfl ?_
    refine zj_callU (y' := m_MD_change) hG (zcP (as := [_, _, _, _, _, _, _]) hG d_MD_forth_305 c_MD_change (z_w7 140 rfl) (z_w7 142 rfl) (z_w7 141 rfl) (z_w7 8 rfl) rfl ⟨by decide, by decide⟩ hT.1 (by decide) (by decide) (show _ = some 7 from by decide +kernel) rfl) c_MD_change rfl (by omega) rfl (z_le rfl) (z_le rfl) ch (fun N305 e305 => ?_)
    obtain ⟨r1, r2⟩ := e305
    refine ret _ _ ?_ r2
    rw [tfo]
    simp only [if_neg n0, if_neg n1, if_neg n2, if_neg n3, if_neg n5, if_neg n6]
    exact r1
  have hsk : eS X.1[tix X.1 p.2.1] = 0 := by rw [← hel]; exact hsort
  have hrow : N 0 27 = 1 → ∃ y, eR X.1[tix X.1 p.2.1] = [y] := fun m1 => hI.2 m1 _ (List.getElem_mem hk) (by rw [hsk]; decide) (by rw [hsk]; decide)
  rcases hK with g | ⟨g, ga⟩ | ⟨g, ga, gb⟩ | g
  · -- wrapped
    have n0 : ¬ (p.1 = 0 ∨ p.1 = 4) := by rw [g]; decide
    have n1 : ¬ p.1 = 1 := by rw [g]; decide
    have n2 : ¬ p.1 = 2 := by rw [g]; decide
    have htf : tfo (N 0 27) p s X = twrp (N 0 27) (tix X.1 p.2.1) X.1[tix X.1 p.2.1] s X := by
      rw [tfo]
      simp only [if_neg n0, if_neg n1, if_neg n2, if_pos g]
      rw [hel]
    rw [htf] at ret ⊢
    generalize hke : tix X.1 p.2.1 = k at *
    have t1 := hN.s hk 1
    have f1 : tFr pT N (zu N 15 k 1) := tFr.put tFr.rfl' rfl
    have hk1 : k < (X.1.set k ((X.1[k]).1, 1, (X.1[k]).2.2)).length := by simpa using hk
    have m1 : zu N 15 k 1 0 27 = N 0 27 := zu_a (by omega)
    rw [g]
    refine zj_tableIn (off := 81) (tgt := 144) hG d_MD_forth_63 (by decide) (by decide) rfl rfl ?_
    -- the term comes last
    have trm : ∀ (M : Nat → Nat → Int32) (e : tE) (K2 : Nat → tK), tFr pA N M → M 0 27 = N 0 27 → tTab M (X.1.set k e) → tSto M X.2.1 → tWk M K2 → M 0 28 = X.2.2.2 → (e.1, e.2.1, e.2.2.1, e.2.2.2.1, eR e) = ((X.1[k]).1, (1 : Int32), (X.1[k]).2.2.1, (X.1[k]).2.2.2.1, (if N 0 27 = 1 then twr X.1[k] (X.2.2.1 s) ((eR X.1[k]).headD 0) else eR X.1[k])) → eT e = eT X.1[k] → K2 = (if N 0 27 = 1 then zw X.2.2.1 s tK0 else X.2.2.1) → zJ G 4 m_MD_forth 168 [some (zA q), some (zI (nI st)), some (zI (nI i)), some (zI (nI r)), some (zI 3), some (zI p.2.1), some (zI p.2.2.1), some (zI p.2.2.2.1), some (zI (nI s)), some (zI (nI k))] [] (twp q h M) (fun o h' => ∃ N', o = zR0 ∧ h' = twp q h N' ∧ (tX N' (twrp (N 0 27) k X.1[k] s X) ∧ tFr pA N N')) := by
      intro M e K2 fM mM tM sM kM cM he het hK2
      have hke2 : k < (X.1.set k e).length := by simpa using hk
      have wr : ∀ (M2 : Nat → Nat → Int32) (t : Int32) (L2 : List tQ), tFr pS M M2 → tSto M2 L2 → t = (if N 0 27 = 2 then nI (X.2.1.idxOf (3, eT X.1[k], 0, 0, 0, 0)) else 0) → L2 = (if N 0 27 = 2 then tkn X.2.1 (3, eT X.1[k], 0, 0, 0, 0) else X.2.1) → zJ G 4 m_MD_forth 202 [some (zA q), some (zI (nI st)), some (zI (nI i)), some (zI (nI r)), some (zI 3), some (zI p.2.1), some (zI p.2.2.1), some (zI p.2.2.2.1), some (zI (nI s)), some (zI (nI k))] [zI t, zI (nI k), zA (q + 19)] (twp q h M2) (fun o h' => ∃ N', o = zR0 ∧ h' = twp q h N' ∧ (tX N' (twrp (N 0 27) k X.1[k] s X) ∧ tFr pA N N')) := by
        intro M2 t L2 g1 g2 g3 g4
        have g5 : tFr pTS M (zu M2 19 k t) := tFr.put (g1.mono (by intro o i e; simp [pTS] at e; exact e.2)) rfl
        refine t_ast (k) hG hT d_MD_forth_202 (by first | decide | omega) (by first | decide | omega) rfl (by show _ < 26; omega) ?_
        refine zj_goto (tgt := 308) hG d_MD_forth_203 (by decide) ?_
        refine ret _ _ ⟨?_, ?_, ?_, ?_⟩ (fM.trans (g5.mono pTS_A))
        · have u := (tM.fr g1 (by intro o i e; simp [pT] at e; simp [pS]; omega)).t hke2 t
          rw [List.set_set] at u
          simp only [List.getElem_set_self] at u
          obtain ⟨e1, e2, e3, e4, e5, e6⟩ := e
          simp only [Prod.mk.injEq] at he
          obtain ⟨rfl, rfl, rfl, rfl, he5⟩ := he
          simp only at u he5
          rw [show e5 = _ from he5] at u
          rw [twrp]
          simp only [← g3]
          exact u
        · show tSto _ (if N 0 27 = 2 then _ else _)
          rw [← g4]
          exact g2.fr (P := pT) (tFr.put tFr.rfl' rfl) (by intro o i e; simp [pS] at e; simp [pT]; omega)
        · show tWk _ (if N 0 27 = 1 then _ else _)
          rw [← hK2]
          exact kM.fr g5 (by intro o i e; simp [pK] at e; simp [pTS, pT, pS]; omega)
        · exact (g5 0 28 rfl).trans cM
      have ht : M 19 k = eT X.1[k] := by
        have := (tM.at hke2).2.2.2.2.2
        simp only [List.getElem_set_self] at this
        rw [this, het]
      refine zj_aload_n hG d_MD_forth_168 rfl rfl ?_
      refine t_getA (o := 19) hG hT d_MD_forth_169 f_MD_68 rfl rfl ?_
      refine zj_iload hG d_MD_forth_172 rfl ?_
      refine zj_aload_n hG d_MD_forth_174 rfl rfl ?_
      refine t_getI hG hT d_MD_forth_175 f_MD_118 rfl ?_
      refine zj_iconst (v := 2) hG d_MD_forth_178 rfl ?_
      rw [mM]
      refine zj_icmp_ne (tgt := 201) hG d_MD_forth_179 (by decide) (fun c179 => ?_) (fun c179 => ?_)
      · refine zj_iconst (v := 0) hG d_MD_forth_201 rfl ?_
        exact wr M 0 _ tFr.rfl' sM (by rw [if_neg c179]) (by rw [if_neg c179])
      · refine zj_aload_n hG d_MD_forth_182 rfl rfl ?_
        refine zj_iconst (v := 3) hG d_MD_forth_183 rfl ?_
        refine zj_aload_n hG d_MD_forth_184 rfl rfl ?_
        refine t_getA (o := 19) hG hT d_MD_forth_185 f_MD_68 rfl rfl ?_
        refine zj_iload hG d_MD_forth_188 rfl ?_
        refine t_ald (k) hG hT d_MD_forth_190 (by first | decide | omega) (by first | decide | omega) rfl (by show _ < 26; omega) ?_
        refine zj_iconst (v := 0) hG d_MD_forth_191 rfl ?_
        refine zj_iconst (v := 0) hG d_MD_forth_192 rfl ?_
        refine zj_iconst (v := 0) hG d_MD_forth_193 rfl ?_
        refine zj_iconst (v := 0) hG d_MD_forth_194 rfl ?_
        rw [ht]
        refine zj_callT (y' := m_MD_known) hG (zcP (as := [_, _, _, _, _, _]) hG d_MD_forth_195 c_MD_known (z_w7 29 rfl) (z_w7 31 rfl) (z_w7 30 rfl) (z_w7 8 rfl) rfl ⟨by decide, by decide⟩ hT.1 (by decide) (by decide) (show _ = some 6 from by decide +kernel) rfl) c_MD_known rfl (by omega) rfl (z_le rfl) (z_le rfl) (k_MD_known hG hT sM hl' _ _ _ _ _ _) (fun v195 N195 e195 => ?_)
        obtain ⟨r1, r2, r3⟩ := e195
        refine zj_goto (tgt := 202) hG d_MD_forth_198 (by decide) ?_
        exact wr N195 v195 _ r3 r2 (by rw [if_pos c179, r1]) (by rw [if_pos c179])
    refine zj_aload_n hG d_MD_forth_144 rfl rfl ?_
    refine t_getA (o := 15) hG hT d_MD_forth_145 f_MD_56 rfl rfl ?_
    refine zj_iload hG d_MD_forth_148 rfl ?_
    refine zj_iconst (v := 1) hG d_MD_forth_150 rfl ?_
    refine t_ast (k) hG hT d_MD_forth_151 (by first | decide | omega) (by first | decide | omega) rfl (by show _ < 26; omega) ?_
    refine zj_aload_n hG d_MD_forth_152 rfl rfl ?_
    refine t_getI hG hT d_MD_forth_153 f_MD_118 rfl ?_
    refine zj_iconst (v := 1) hG d_MD_forth_156 rfl ?_
    rw [m1]
    refine zj_icmp_ne (tgt := 168) hG d_MD_forth_157 (by decide) (fun c157 => ?_) (fun c157 => ?_)
    · refine trm _ _ X.2.2.1 (f1.mono pT_A) m1 t1 (hS.fr f1 (by intro o i e; simp [pS] at e; simp [pT]; omega)) (hW.fr f1 (by intro o i e; simp [pK] at e; simp [pT]; omega)) ((f1 0 28 rfl).trans hc) ?_ rfl (by rw [if_neg c157])
      rw [if_neg c157]
    · obtain ⟨y, hy⟩ := hrow c157
      refine zj_aload_n hG d_MD_forth_160 rfl rfl ?_
      refine zj_iload hG d_MD_forth_161 rfl ?_
      refine zj_iload hG d_MD_forth_163 rfl ?_
      refine zj_callU (y' := m_MD_wrap) hG (zcP (as := [_, _]) hG d_MD_forth_165 c_MD_wrap (z_w7 118 rfl) (z_w7 120 rfl) (z_w7 119 rfl) (z_w7 8 rfl) rfl ⟨by decide, by decide⟩ hT.1 (by decide) (by decide) (show _ = some 2 from by decide +kernel) rfl) c_MD_wrap rfl (by omega) rfl (z_le rfl) (z_le rfl) (k_MD_wrap (x := y) hG hT t1 (hW.fr f1 (by intro o i e; simp [pK] at e; simp [pT]; omega)) (hm c157) hk1 (by simpa using hy)) (fun N165 e165 => ?_)
      obtain ⟨r1, r2, r3⟩ := e165
      rw [tsetR_eq hk1, List.set_set] at r1
      simp only [List.getElem_set_self] at r1
      refine trm _ _ _ ((f1.mono pT_A).trans (r3.mono pB_A)) ((r3 0 27 rfl).trans m1) r1 ((hS.fr f1 (by intro o i e; simp [pS] at e; simp [pT]; omega)).fr r3 (by intro o i e; simp [pS] at e; simp [pB, pT]; omega)) r2 ((r3 0 28 rfl).trans ((f1 0 28 rfl).trans hc)) ?_ rfl (by rw [if_pos c157])
      rw [if_pos c157, hy]
      rfl
  · have n0 : ¬ (p.1 = 0 ∨ p.1 = 4) := by rw [g]; decide
    have n1 : ¬ p.1 = 1 := by rw [g]; decide
    have n2 : ¬ p.1 = 2 := by rw [g]; decide
    have n3 : ¬ p.1 = 3 := by rw [g]; decide
    rw [g]
    refine zj_tableIn (off := 143) (tgt := 206) hG d_MD_forth_63 (by decide) (by decide) rfl rfl ?_
    refine zj_aload_n hG d_MD_forth_206 rfl rfl ?_
    refine zj_iload hG d_MD_forth_207 rfl ?_
    refine zj_iload hG d_MD_forth_209 rfl ?_
    refine zj_iload hG d_MD_forth_211 rfl ?_
    refine zj_iload hG d_MD_forth_213 rfl ?_
    refine zj_callU (y' := m_MD_split) hG (zcP (as := [_, _, _, _]) hG d_MD_forth_215 c_MD_split (z_w7 122 rfl) (z_w7 124 rfl) (z_w7 123 rfl) (z_w7 8 rfl) rfl ⟨by decide, by decide⟩ hT.1 (by decide) (by decide) (show _ = some 4 from by decide +kernel) rfl) c_MD_split rfl (by omega) rfl (z_le rfl) (z_le rfl) (k_MD_split (j := tjx X.1[tix X.1 p.2.1]) (x := txx X.2.1 X.1[tix X.1 p.2.1]) hG hT hX hk h24 hl p.2.1 p.2.2.1 p.2.2.2.1 ga hrow (fun m2 => hI.t m2 (by omega) (List.getElem_mem hk))) (fun N215 e215 => ?_)
    obtain ⟨r1, r2⟩ := e215
    refine zj_goto (tgt := 308) hG d_MD_forth_218 (by decide) ?_
    refine ret _ _ ?_ r2
    rw [tfo]
    simp only [if_neg n0, if_neg n1, if_neg n2, if_neg n3, if_pos g]
    rw [hel]
    exact r1
  · have n0 : ¬ (p.1 = 0 ∨ p.1 = 4) := by rw [g]; decide
    have n1 : ¬ p.1 = 1 := by rw [g]; decide
    have n2 : ¬ p.1 = 2 := by rw [g]; decide
    have n3 : ¬ p.1 = 3 := by rw [g]; decide
    have n5 : ¬ p.1 = 5 := by rw [g]; decide
    have gb' := i64_ne gb
    have ch := chg (fun _ => ⟨ga, gb⟩) (fun _ => hsort)
    have htf : tfo (N 0 27) p s X = tbnd (tix X.1 p.2.1) (tsc true (eL X.1[tix X.1 p.2.1]) p.2.2.1 p.2.2.2.1 0 0) (tsc true (eH X.1[tix X.1 p.2.1]) p.2.2.1 p.2.2.2.1 0 0) (tch (N 0 27) (tix X.1 p.2.1) X.1[tix X.1 p.2.1] s p true X) := by
      rw [tfo]
      simp only [if_neg n0, if_neg n1, if_neg n2, if_neg n3, if_neg n5, if_pos g]
      rw [hel]
    rw [htf] at ret ⊢
    rw [hel] at ch
    generalize hke : tix X.1 p.2.1 = k at *
    rw [g] at ch ⊢
    refine zj_tableIn (off := 158) (tgt := 221) hG d_MD_forth_63 (by decide) (by decide) rfl rfl ?_
    refine zj_aload_n hG d_MD_forth_221 rfl rfl ?_
    refine zj_iload hG d_MD_forth_222 rfl ?_
    refine zj_iload hG d_MD_forth_224 rfl ?_
    refine zj_iload hG d_MD_forth_226 rfl ?_
    refine zj_iload hG d_MD_forth_228 rfl ?_
    refine zj_iconst (v := 1) hG d_MD_forth_230 rfl ?_
    refine zj_iload hG d_MD_forth_231 rfl ?_
    refine zj_iload_n hG d_MD_forth_233 rfl rfl ?_
    refine zj_callU (y' := m_MD_change) hG (zcP (as := [_, _, _, _, _, _, _]) hG d_MD_forth_234 c_MD_change (z_w7 140 rfl) (z_w7 142 rfl) (z_w7 141 rfl) (z_w7 8 rfl) rfl ⟨by decide, by decide⟩ hT.1 (by decide) (by decide) (show _ = some 7 from by decide +kernel) rfl) c_MD_change rfl (by omega) rfl (z_le rfl) (z_le rfl) ch (fun N234 e234 => ?_)
    obtain ⟨r1, r2⟩ := e234
    have hkc : k < (tch (N 0 27) k X.1[k] s p true X).1.length := by
      rw [tch]
      simpa using hk
    have hkg : (eL (tch (N 0 27) k X.1[k] s p true X).1[k]) = eL X.1[k] ∧ (eH (tch (N 0 27) k X.1[k] s p true X).1[k]) = eH X.1[k] := by
      simp [tch]
    have b3 := (r1.1.at hkc).2.2.1
    have b4 := (r1.1.at hkc).2.2.2.1
    rw [hkg.1] at b3
    rw [hkg.2] at b4
    refine zj_aload_n hG d_MD_forth_237 rfl rfl ?_
    refine t_getA (o := 16) hG hT d_MD_forth_238 f_MD_59 rfl rfl ?_
    refine zj_iload hG d_MD_forth_241 rfl ?_
    refine zj_iload hG d_MD_forth_243 rfl ?_
    refine zj_i2l hG d_MD_forth_245 ?_
    refine zj_aload_n hG d_MD_forth_246 rfl rfl ?_
    refine t_getA (o := 16) hG hT d_MD_forth_247 f_MD_59 rfl rfl ?_
    refine zj_iload hG d_MD_forth_250 rfl ?_
    refine t_ald (k) hG hT d_MD_forth_252 (by first | decide | omega) (by first | decide | omega) rfl (by show _ < 26; omega) ?_
    refine zj_i2l hG d_MD_forth_253 ?_
    refine zj_lmul hG d_MD_forth_254 ?_
    refine zj_iload hG d_MD_forth_255 rfl ?_
    refine zj_i2l hG d_MD_forth_257 ?_
    rw [b3]
    refine zj_callR (y' := m_MD_floor) hG (zcS (as := [_, _]) hG d_MD_forth_258 c_MD_floor (z_w7 126 rfl) (z_w7 127 rfl) (z_w1 11 rfl) ⟨by decide, by decide⟩ (show _ = some 2 from by decide +kernel) rfl) c_MD_floor rfl (by omega) rfl (z_le rfl) (z_le rfl) (k_MD_floor hG _ _ gb' _) ?_
    refine zj_l2i hG d_MD_forth_261 ?_
    refine t_ast (k) hG hT d_MD_forth_262 (by first | decide | omega) (by first | decide | omega) rfl (by show _ < 26; omega) ?_
    refine zj_aload_n hG d_MD_forth_263 rfl rfl ?_
    refine t_getA (o := 17) hG hT d_MD_forth_264 f_MD_62 rfl rfl ?_
    refine zj_iload hG d_MD_forth_267 rfl ?_
    refine zj_iload hG d_MD_forth_269 rfl ?_
    refine zj_i2l hG d_MD_forth_271 ?_
    refine zj_aload_n hG d_MD_forth_272 rfl rfl ?_
    refine t_getA (o := 17) hG hT d_MD_forth_273 f_MD_62 rfl rfl ?_
    refine zj_iload hG d_MD_forth_276 rfl ?_
    refine t_ald (k) hG hT d_MD_forth_278 (by first | decide | omega) (by first | decide | omega) rfl (by show _ < 26; omega) ?_
    refine zj_i2l hG d_MD_forth_279 ?_
    refine zj_lmul hG d_MD_forth_280 ?_
    refine zj_iload hG d_MD_forth_281 rfl ?_
    refine zj_i2l hG d_MD_forth_283 ?_
    rw [zu_a (by omega), b4]
    refine zj_callR (y' := m_MD_floor) hG (zcS (as := [_, _]) hG d_MD_forth_284 c_MD_floor (z_w7 126 rfl) (z_w7 127 rfl) (z_w1 11 rfl) ⟨by decide, by decide⟩ (show _ = some 2 from by decide +kernel) rfl) c_MD_floor rfl (by omega) rfl (z_le rfl) (z_le rfl) (k_MD_floor hG _ _ gb' _) ?_
    refine zj_l2i hG d_MD_forth_287 ?_
    refine t_ast (k) hG hT d_MD_forth_288 (by first | decide | omega) (by first | decide | omega) rfl (by show _ < 26; omega) ?_
    refine zj_goto (tgt := 308) hG d_MD_forth_289 (by decide) ?_
    have f2 : tFr pT N234 (zu (zu N234 16 k (tsc true (eL X.1[k]) p.2.2.1 p.2.2.2.1 0 0)) 17 k (tsc true (eH X.1[k]) p.2.2.1 p.2.2.2.1 0 0)) := tFr.put (tFr.put tFr.rfl' rfl) rfl
    refine ret _ _ ?_ (r2.trans (f2.mono pT_A))
    refine r1.fr f2 pT_SK ?_
    rw [modify_set hkc]
    have u := (r1.1.lo hkc (tsc true (eL X.1[k]) p.2.2.1 p.2.2.2.1 0 0)).hi (k := k) (by simpa using hkc) (tsc true (eH X.1[k]) p.2.2.1 p.2.2.2.1 0 0)
    rw [List.set_set] at u
    simp only [List.getElem_set_self] at u
    exact u
  · have n0 : ¬ (p.1 = 0 ∨ p.1 = 4) := by rw [g]; decide
    have n1 : ¬ p.1 = 1 := by rw [g]; decide
    have n2 : ¬ p.1 = 2 := by rw [g]; decide
    have n3 : ¬ p.1 = 3 := by rw [g]; decide
    have n5 : ¬ p.1 = 5 := by rw [g]; decide
    have n6 : ¬ p.1 = 6 := by rw [g]; decide
    have ch := chg (fun e => absurd e n6) (fun _ => hsort)
    rw [g] at ch ⊢
    refine zj_tableOut (tgt := 292) hG d_MD_forth_63 (Or.inr (by decide)) rfl ?_
    refine zj_aload_n hG d_MD_forth_292 rfl rfl ?_
    refine zj_iload hG d_MD_forth_293 rfl ?_
    refine zj_iload hG d_MD_forth_295 rfl ?_
    refine zj_iload hG d_MD_forth_297 rfl ?_
    refine zj_iload hG d_MD_forth_299 rfl ?_
    refine zj_iconst (v := 1) hG d_MD_forth_301 rfl ?_
    refine zj_iload hG d_MD_forth_302 rfl ?_
    refine zj_iload_n hG d_MD_forth_304 rfl rfl ?_
    refine zj_callU (y' := m_MD_change) hG (zcP (as := [_, _, _, _, _, _, _]) hG d_MD_forth_305 c_MD_change (z_w7 140 rfl) (z_w7 142 rfl) (z_w7 141 rfl) (z_w7 8 rfl) rfl ⟨by decide, by decide⟩ hT.1 (by decide) (by decide) (show _ = some 7 from by decide +kernel) rfl) c_MD_change rfl (by omega) rfl (z_le rfl) (z_le rfl) ch (fun N305 e305 => ?_)
    obtain ⟨r1, r2⟩ := e305
    refine ret _ _ ?_ r2
    rw [tfo]
    simp only [if_neg n0, if_neg n1, if_neg n2, if_neg n3, if_neg n5, if_neg n6]
    exact r1
end MD11
