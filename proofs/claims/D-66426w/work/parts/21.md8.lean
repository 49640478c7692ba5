/-! PART 21: the reference: what works on the table as a whole -/
/-- the table, the store, what is kept, whether it cannot be -/
abbrev tXt : Type := List tE × List tQ × (Nat → tK) × Int32
def tX (N : Nat → Nat → Int32) (X : tXt) : Prop := tTab N X.1 ∧ tSto N X.2.1 ∧ tWk N X.2.2.1 ∧ N 0 28 = X.2.2.2
/-- a primitive: kind, path, a, b, and its field's sort and bounds -/
abbrev tPm : Type := Int32 × Int32 × Int32 × Int32 × Int32 × Int32 × Int32
def tPr (N : Nat → Nat → Int32) (r : Nat) (p : tPm) : Prop := N 9 r = p.1 ∧ N 9 (r + 1) = p.2.1 ∧ N 9 (r + 2) = p.2.2.1 ∧ N 9 (r + 3) = p.2.2.2.1 ∧ N 9 (r + 5) = p.2.2.2.2.1 ∧ N 9 (r + 6) = p.2.2.2.2.2.1 ∧ N 9 (r + 7) = p.2.2.2.2.2.2
theorem tPr.fr {P : Nat → Nat → Bool} {N N' : Nat → Nat → Int32} {r : Nat} {p : tPm} (h : tPr N r p) (f : tFr P N N') (hp : ∀ i, P 9 i = false) : tPr N' r p :=
  ⟨(f 9 _ (hp _)).trans h.1, (f 9 _ (hp _)).trans h.2.1, (f 9 _ (hp _)).trans h.2.2.1, (f 9 _ (hp _)).trans h.2.2.2.1, (f 9 _ (hp _)).trans h.2.2.2.2.1, (f 9 _ (hp _)).trans h.2.2.2.2.2.1, (f 9 _ (hp _)).trans h.2.2.2.2.2.2⟩
/-- a field comes, with what was kept for it -/
def tarr (m : Int32) (p : tPm) (s : Nat) (X : tXt) : tXt :=
  let e := tnew m X.2.1 p.2.1 p.2.2.2.2.1 p.2.2.2.2.2.1 p.2.2.2.2.2.2
  (X.1 ++ [(e.1, e.2.1, e.2.2.1, e.2.2.2.1, (if m = 1 ∧ (X.2.2.1 s).1 = 1 then (X.2.2.1 s).2.1 else e.2.2.2.2.1), e.2.2.2.2.2)], tnewL m X.2.1 p.2.2.2.2.1 p.2.2.2.2.2.1 p.2.2.2.2.2.2, (if m = 1 then zw X.2.2.1 s tK0 else X.2.2.1), X.2.2.2)
/-- it holds nothing but what stands by itself -/
def tpl0 (e : tE) : Bool := decide (eS e = 2) || (if eS e = 1 then decide (eR e = []) else decide (eR e = [tnear (eL e) (eH e)]))
def tdpt (m : Int32) (s k : Nat) (e : tE) (X : tXt) : tXt := (tgo X.1 k, X.2.1, (if m = 1 then zw X.2.2.1 s (if tpl0 e then tK0 else (1, eR e, [])) else X.2.2.1), X.2.2.2)
theorem pTS_9 (i : Nat) : pTS 9 i = false := rfl
theorem pA_9 (i : Nat) : pA 9 i = false := rfl
section MD8
variable {G : zG} {q : Nat} {h : zH} {N : Nat → Nat → Int32} {X : tXt}
set_option maxRecDepth 4000 in
theorem k_MD_arrive (hG : zOK G) (hT : twOK q h) (hX : tX N X) (h24 : X.1.length ≤ 24) (hl : X.2.1.length < 1024) {r s : Nat} {p : tPm} (hs : N 0 27 = 1 → s < 128) (hr : r + 7 < 1088) (hp : tPr N r p) :
    zJ G 3 m_MD_arrive 0 [some (zA q), some (zI (nI r)), some (zI (nI s)), none] [] (twp q h N) (fun o h' => ∃ N', o = zR0 ∧ h' = twp q h N' ∧ (tX N' (tarr (N 0 27) p s X) ∧ tFr pA N N')) := by
  obtain ⟨T, L, K, c⟩ := X
  obtain ⟨hN, hS, hK, hc⟩ := hX
  simp only at hN hS hK hc h24 hl
  obtain ⟨p0, p1, p2, p3, p5, p6, p7⟩ := hp
  refine zj_aload_n hG d_MD_arrive_0 rfl rfl ?_
  refine zj_aload_n hG d_MD_arrive_1 rfl rfl ?_
  refine t_getA (o := 9) hG hT d_MD_arrive_2 f_MD_38 rfl rfl ?_
  refine zj_iload_n hG d_MD_arrive_5 rfl rfl ?_
  refine zj_iconst (v := 1) hG d_MD_arrive_6 rfl ?_
  refine zj_iadd hG d_MD_arrive_7 ?_
  refine t_ald (r + 1) hG hT d_MD_arrive_8 (by first | decide | omega) (by first | decide | omega) (nI_1 _) (by show _ < 1088; omega) ?_
  refine zj_aload_n hG d_MD_arrive_9 rfl rfl ?_
  refine t_getA (o := 9) hG hT d_MD_arrive_10 f_MD_38 rfl rfl ?_
  refine zj_iload_n hG d_MD_arrive_13 rfl rfl ?_
  refine zj_iconst (v := 5) hG d_MD_arrive_14 rfl ?_
  refine zj_iadd hG d_MD_arrive_15 ?_
  refine t_ald (r + 5) hG hT d_MD_arrive_16 (by first | decide | omega) (by first | decide | omega) (nI_a5 _) (by show _ < 1088; omega) ?_
  refine zj_aload_n hG d_MD_arrive_17 rfl rfl ?_
  refine t_getA (o := 9) hG hT d_MD_arrive_18 f_MD_38 rfl rfl ?_
  refine zj_iload_n hG d_MD_arrive_21 rfl rfl ?_
  refine zj_bipush (v := 6) hG d_MD_arrive_22 rfl ?_
  refine zj_iadd hG d_MD_arrive_24 ?_
  refine t_ald (r + 6) hG hT d_MD_arrive_25 (by first | decide | omega) (by first | decide | omega) (nI_a6 _) (by show _ < 1088; omega) ?_
  refine zj_aload_n hG d_MD_arrive_26 rfl rfl ?_
  refine t_getA (o := 9) hG hT d_MD_arrive_27 f_MD_38 rfl rfl ?_
  refine zj_iload_n hG d_MD_arrive_30 rfl rfl ?_
  refine zj_bipush (v := 7) hG d_MD_arrive_31 rfl ?_
  refine zj_iadd hG d_MD_arrive_33 ?_
  refine t_ald (r + 7) hG hT d_MD_arrive_34 (by first | decide | omega) (by first | decide | omega) (nI_a7 _) (by show _ < 1088; omega) ?_
  rw [p1, p5, p6, p7]
  refine zj_callT (y' := m_MD_come) hG (zcP (as := [_, _, _, _]) hG d_MD_arrive_35 c_MD_come (z_w7 18 rfl) (z_w7 20 rfl) (z_w7 19 rfl) (z_w7 8 rfl) rfl ⟨by decide, by decide⟩ hT.1 (by decide) (by decide) (show _ = some 4 from by decide +kernel) rfl) c_MD_come rfl (by omega) rfl (z_le rfl) (z_le rfl) (k_MD_come hG hT hN hS h24 hl _ _ _ _) (fun v35 N35 e35 => ?_)
  obtain ⟨r1, r2, r3, r4⟩ := e35
  subst r1
  have hm : N35 0 27 = N 0 27 := r4 0 27 rfl
  have hK2 : tWk N35 K := hK.fr r4 (by intro o i e; simp [pK] at e; simp [pTS, pT, pS]; omega)
  have hc2 : N35 0 28 = c := (r4 0 28 rfl).trans hc
  have r4' : tFr pA N N35 := r4.mono (by intro o i e; simp [pA] at e; simp [pTS]; exact e.1)
  refine zj_istore_n hG d_MD_arrive_38 rfl (by decide) rfl rfl ?_
  refine zj_aload_n hG d_MD_arrive_39 rfl rfl ?_
  refine t_getI hG hT d_MD_arrive_40 f_MD_118 rfl ?_
  refine zj_iconst (v := 1) hG d_MD_arrive_43 rfl ?_
  rw [hm]
  refine zj_icmp_ne (tgt := 83) hG d_MD_arrive_44 (by decide) (fun c44 => ?_) (fun c44 => ?_)
  · refine zj_vret hG d_MD_arrive_83 rfl ⟨_, rfl, rfl, ⟨?_, r3, ?_, hc2⟩, r4'⟩
    · rw [tarr]
      simp only [c44, false_and, if_false]
      exact r2
    · rw [tarr]
      simp only [c44, if_false]
      exact hK2
  replace hs := hs c44
  have hmK : (tarr (N 0 27) p s (T, L, K, c)).2.2.1 = zw K s tK0 := by
    rw [tarr]
    simp only [c44, if_true]
  refine zj_aload_n hG d_MD_arrive_47 rfl rfl ?_
  refine t_getA (o := 20) hG hT d_MD_arrive_48 f_MD_71 rfl rfl ?_
  refine zj_iload_n hG d_MD_arrive_51 rfl rfl ?_
  refine t_ald (s) hG hT d_MD_arrive_52 (by first | decide | omega) (by first | decide | omega) rfl hs ?_
  refine zj_iconst (v := 1) hG d_MD_arrive_53 rfl ?_
  rw [(hK2 s hs).1]
  have fin : ∀ M : Nat → Nat → Int32, (∀ o i, o ≠ 18 → M o i = N35 o i) → tTab M (tarr (N 0 27) p s (T, L, K, c)).1 → zJ G 3 m_MD_arrive 76 [some (zA q), some (zI (nI r)), some (zI (nI s)), some (zI (nI T.length))] [] (twp q h M) (fun o h' => ∃ N', o = zR0 ∧ h' = twp q h N' ∧ (tX N' (tarr (N 0 27) p s (T, L, K, c)) ∧ tFr pA N N')) := by
    intro M f hM
    have f2 : tFr pT N35 M := fun o i e => f o i (by simp [pT] at e; omega)
    have f3 : tFr pK M (zu M 20 s 0) := tFr.put tFr.rfl' rfl
    refine zj_aload_n hG d_MD_arrive_76 rfl rfl ?_
    refine t_getA (o := 20) hG hT d_MD_arrive_77 f_MD_71 rfl rfl ?_
    refine zj_iload_n hG d_MD_arrive_80 rfl rfl ?_
    refine zj_iconst (v := 0) hG d_MD_arrive_81 rfl ?_
    refine t_ast (s) hG hT d_MD_arrive_82 (by first | decide | omega) (by first | decide | omega) rfl hs ?_
    refine zj_vret hG d_MD_arrive_83 rfl ⟨_, rfl, rfl, ⟨hM.fr f3 (by intro o i e; simp [pT] at e; simp [pK]; omega), ?_, ?_, ?_⟩, ?_⟩
    · exact (r3.fr f2 (by intro o i e; simp [pS] at e; simp [pT]; omega)).fr f3 (by intro o i e; simp [pS] at e; simp [pK]; omega)
    · rw [hmK]
      exact (hK2.fr f2 (by intro o i e; simp [pK] at e; simp [pT]; omega)).z s
    · rw [zu_a (by omega), f _ _ (by omega), hc2]
      rfl
    · refine r4'.trans (tFr.put ?_ rfl)
      exact f2.mono (by intro o i e; simp [pA] at e; exact e.1.1)
  refine zj_icmp_ne (tgt := 76) hG d_MD_arrive_54 (by decide) (fun c54 => ?_) (fun c54 => ?_)
  · refine fin N35 (fun _ _ _ => rfl) ?_
    rw [tarr]
    simp only [c54, and_false, if_false]
    exact r2
  have hr3 : tRow N35 21 (14 * s) (K s).2.1 := (hK2 s hs).2.1 (by rw [c54]; decide)
  refine zj_aload_n hG d_MD_arrive_57 rfl rfl ?_
  refine t_getA (o := 21) hG hT d_MD_arrive_58 f_MD_74 rfl rfl ?_
  refine zj_bipush (v := 14) hG d_MD_arrive_61 rfl ?_
  refine zj_iload_n hG d_MD_arrive_63 rfl rfl ?_
  refine zj_imul hG d_MD_arrive_64 ?_
  refine zj_aload_n hG d_MD_arrive_65 rfl rfl ?_
  refine t_getA (o := 18) hG hT d_MD_arrive_66 f_MD_65 rfl rfl ?_
  refine zj_bipush (v := 7) hG d_MD_arrive_69 rfl ?_
  refine zj_iload_n hG d_MD_arrive_71 rfl rfl ?_
  refine zj_imul hG d_MD_arrive_72 ?_
  rw [nI_14, nI_7]
  refine zj_callV (y' := m_MD_copyRow) hG (zcS (as := [_, _, _, _]) hG d_MD_arrive_73 c_MD_copyRow (z_w7 103 rfl) (z_w7 104 rfl) (z_w1 11 rfl) ⟨by decide, by decide⟩ (show _ = some 4 from by decide +kernel) rfl) c_MD_copyRow rfl (by omega) rfl (z_le rfl) (z_le rfl) (k_MD_copyRow hG hT _ (by decide) (by decide) (by show _ ≤ 1792; omega) (by show _ ≤ 182; omega) (by omega)) ?_
  refine fin _ (fun o i e => tcp_n (by omega)) ?_
  have := r2.r (k := T.length) (N' := tcp N35 21 (14 * s) 18 (7 * T.length) 7) (l := (K s).2.1) (by simp) (fun o i _ g => tcp_n g) (tcp_row hr3)
  rw [tarr]
  simp only [c44, c54, and_self, if_true]
  rw [List.set_append_right _ _ (by omega)] at this
  simpa [c44] using this
set_option maxRecDepth 4000 in
theorem k_MD_depart (hG : zOK G) (hT : twOK q h) (hX : tX N X) {s k : Nat} (hs : N 0 27 = 1 → s < 128) (hk : k < X.1.length) {p : Int32} (hp : tfnd X.1 p = nI k) (hx : N 0 27 = 1 → eS X.1[k] ≠ 1 → eS X.1[k] ≠ 2 → ∃ x, eR X.1[k] = [x]) :
    zJ G 2 m_MD_depart 0 [some (zA q), some (zI p), some (zI (nI s)), none, none] [] (twp q h N) (fun o h' => ∃ N', o = zR0 ∧ h' = twp q h N' ∧ (tX N' (tdpt (N 0 27) s k X.1[k] X) ∧ tFr pA N N')) := by
  obtain ⟨T, L, K, c⟩ := X
  obtain ⟨hN, hS, hK, hc⟩ := hX
  simp only at hN hS hK hc hk hp hx
  show zJ G 2 m_MD_depart 0 [some (zA q), some (zI p), some (zI (nI s)), none, none] [] (twp q h N) (fun o h' => ∃ N', o = zR0 ∧ h' = twp q h N' ∧ (tX N' (tdpt (N 0 27) s k T[k] (T, L, K, c)) ∧ tFr pA N N'))
  have hlT := hN.l
  obtain ⟨a1, a2, a3, a4, a5, a8⟩ := hN.at hk
  refine zj_aload_n hG d_MD_depart_0 rfl rfl ?_
  refine zj_iload_n hG d_MD_depart_1 rfl rfl ?_
  refine zj_callR (y' := m_MD_find) hG (zcP (as := [_]) hG d_MD_depart_2 c_MD_find (z_w7 47 rfl) (z_w7 49 rfl) (z_w7 48 rfl) (z_w7 8 rfl) rfl ⟨by decide, by decide⟩ hT.1 (by decide) (by decide) (show _ = some 1 from by decide +kernel) rfl) c_MD_find rfl (by omega) rfl (z_le rfl) (z_le rfl) (k_MD_find hG hT hN _) ?_
  rw [hp]
  have fin : ∀ (M : Nat → Nat → Int32) (w : Option zV), tFr pK N M → tWk M (tdpt (N 0 27) s k T[k] (T, L, K, c)).2.2.1 → zJ G 2 m_MD_depart 103 [some (zA q), some (zI p), some (zI (nI s)), some (zI (nI k)), w] [] (twp q h M) (fun o h' => ∃ N', o = zR0 ∧ h' = twp q h N' ∧ (tX N' (tdpt (N 0 27) s k T[k] (T, L, K, c)) ∧ tFr pA N N')) := by
    intro M w f hM
    have hN2 : tTab M T := hN.fr f (by intro o i e; simp [pT] at e; simp [pK]; omega)
    refine zj_aload_n hG d_MD_depart_103 rfl rfl ?_
    refine zj_iload_n hG d_MD_depart_104 rfl rfl ?_
    refine zj_callU (y' := m_MD_go) hG (zcP (as := [_]) hG d_MD_depart_105 c_MD_go (z_w7 114 rfl) (z_w7 116 rfl) (z_w7 115 rfl) (z_w7 8 rfl) rfl ⟨by decide, by decide⟩ hT.1 (by decide) (by decide) (show _ = some 1 from by decide +kernel) rfl) c_MD_go rfl (by omega) rfl (z_le rfl) (z_le rfl) (k_MD_go hG hT hN2 hk) (fun N105 e105 => ?_)
    obtain ⟨g1, g2⟩ := e105
    refine zj_vret hG d_MD_depart_108 rfl ⟨_, rfl, rfl, ⟨g1, ?_, ?_, ?_⟩, ?_⟩
    · exact (hS.fr f (by intro o i e; simp [pS] at e; simp [pK]; omega)).fr g2 (by intro o i e; simp [pS] at e; simp [pT]; omega)
    · exact hM.fr g2 (by intro o i e; simp [pK] at e; simp [pT]; omega)
    · exact (g2 0 28 rfl).trans ((f 0 28 rfl).trans hc)
    · exact (f.mono (by intro o i e; simp [pA, pW] at e; simp [pK]; omega)).trans (g2.mono (by intro o i e; simp [pA] at e; exact e.1.1))
  refine zj_istore_n hG d_MD_depart_5 rfl (by decide) rfl rfl ?_
  refine zj_aload_n hG d_MD_depart_6 rfl rfl ?_
  refine t_getI hG hT d_MD_depart_7 f_MD_118 rfl ?_
  refine zj_iconst (v := 1) hG d_MD_depart_10 rfl ?_
  refine zj_icmp_ne (tgt := 103) hG d_MD_depart_11 (by decide) (fun c11 => ?_) (fun c11 => ?_)
  · refine fin N _ tFr.rfl' ?_
    rw [tdpt]
    simp only [c11, if_false]
    exact hK
  replace hs := hs c11
  have fz : tFr pK N (zu N 20 s 0) := tFr.put tFr.rfl' rfl
  have hN3 : tTab (zu N 20 s 0) T := hN.fr fz (by intro o i e; simp [pT] at e; simp [pK]; omega)
  have e18 : ∀ o i, o ≠ 20 → zu N 20 s 0 o i = N o i := fun o i e => zu_a e
  have fin2 : ∀ (b : Bool) (v : Int32), b = tpl0 T[k] → v = tb b → zJ G 2 m_MD_depart 90 [some (zA q), some (zI p), some (zI (nI s)), some (zI (nI k)), none] [zI v] (twp q h (zu N 20 s 0)) (fun o h' => ∃ N', o = zR0 ∧ h' = twp q h N' ∧ (tX N' (tdpt (N 0 27) s k T[k] (T, L, K, c)) ∧ tFr pA N N')) := by
    intro b v hb hv
    subst hv
    refine zj_istore hG d_MD_depart_90 (by decide) rfl rfl ?_
    refine zj_iload hG d_MD_depart_92 rfl ?_
    refine zj_if_ne (tgt := 103) hG d_MD_depart_94 (by decide) (fun c94 => ?_) (fun c94 => ?_)
    · refine fin _ _ fz ?_
      rw [tdpt]
      simp only [c11, if_true, ← hb, tb_t c94]
      exact hK.z s
    · refine zj_aload_n hG d_MD_depart_97 rfl rfl ?_
      refine zj_iload_n hG d_MD_depart_98 rfl rfl ?_
      refine zj_iload_n hG d_MD_depart_99 rfl rfl ?_
      refine zj_callU (y' := m_MD_keepOne) hG (zcP (as := [_, _]) hG d_MD_depart_100 c_MD_keepOne (z_w7 110 rfl) (z_w7 112 rfl) (z_w7 111 rfl) (z_w7 8 rfl) rfl ⟨by decide, by decide⟩ hT.1 (by decide) (by decide) (show _ = some 2 from by decide +kernel) rfl) c_MD_keepOne rfl (by omega) rfl (z_le rfl) (z_le rfl) (k_MD_keepOne hG hT hN3 (hK.z s) hs hk) (fun N100 e100 => ?_)
      obtain ⟨g1, g2⟩ := e100
      refine fin _ _ (fz.trans g2) ?_
      rw [tdpt]
      simp only [c11, if_true, ← hb, tb_f c94]
      have : zw (zw K s tK0) s (1, eR T[k], []) = zw K s (1, eR T[k], []) := by
        funext j
        unfold zw
        split <;> rfl
      rw [this] at g1
      simpa using g1
  refine zj_aload_n hG d_MD_depart_14 rfl rfl ?_
  refine t_getA (o := 20) hG hT d_MD_depart_15 f_MD_71 rfl rfl ?_
  refine zj_iload_n hG d_MD_depart_18 rfl rfl ?_
  refine zj_iconst (v := 0) hG d_MD_depart_19 rfl ?_
  refine t_ast (s) hG hT d_MD_depart_20 (by first | decide | omega) (by first | decide | omega) rfl hs ?_
  refine zj_aload_n hG d_MD_depart_21 rfl rfl ?_
  refine t_getA (o := 15) hG hT d_MD_depart_22 f_MD_56 rfl rfl ?_
  refine zj_iload_n hG d_MD_depart_25 rfl rfl ?_
  refine t_ald (k) hG hT d_MD_depart_26 (by first | decide | omega) (by first | decide | omega) rfl (by show _ < 26; omega) ?_
  refine zj_iconst (v := 2) hG d_MD_depart_27 rfl ?_
  rw [e18 _ _ (by omega), a2]
  refine zj_icmp_eq (tgt := 85) hG d_MD_depart_28 (by decide) (fun c28 => ?_) (fun c28 => ?_)
  · refine zj_iconst (v := 1) hG d_MD_depart_85 rfl ?_
    refine zj_goto (tgt := 90) hG d_MD_depart_86 (by decide) ?_
    exact fin2 true 1 (by simp [tpl0, c28]) rfl
  refine zj_aload_n hG d_MD_depart_31 rfl rfl ?_
  refine t_getA (o := 15) hG hT d_MD_depart_32 f_MD_56 rfl rfl ?_
  refine zj_iload_n hG d_MD_depart_35 rfl rfl ?_
  refine t_ald (k) hG hT d_MD_depart_36 (by first | decide | omega) (by first | decide | omega) rfl (by show _ < 26; omega) ?_
  refine zj_iconst (v := 1) hG d_MD_depart_37 rfl ?_
  rw [e18 _ _ (by omega), a2]
  refine zj_icmp_ne (tgt := 56) hG d_MD_depart_38 (by decide) (fun c38 => ?_) (fun c38 => ?_)
  · obtain ⟨x, hx1⟩ := hx c11 c38 c28
    rw [hx1] at a5
    refine zj_aload_n hG d_MD_depart_56 rfl rfl ?_
    refine t_getA (o := 18) hG hT d_MD_depart_57 f_MD_65 rfl rfl ?_
    refine zj_bipush (v := 7) hG d_MD_depart_60 rfl ?_
    refine zj_iload_n hG d_MD_depart_62 rfl rfl ?_
    refine zj_imul hG d_MD_depart_63 ?_
    refine zj_iconst (v := 1) hG d_MD_depart_64 rfl ?_
    refine zj_iadd hG d_MD_depart_65 ?_
    refine t_ald (7 * k + 1) hG hT d_MD_depart_66 (by first | decide | omega) (by first | decide | omega) (by rw [nI_7, nI_1]) (by show _ < 182; omega) ?_
    refine zj_aload_n hG d_MD_depart_67 rfl rfl ?_
    refine t_getA (o := 16) hG hT d_MD_depart_68 f_MD_59 rfl rfl ?_
    refine zj_iload_n hG d_MD_depart_71 rfl rfl ?_
    refine t_ald (k) hG hT d_MD_depart_72 (by first | decide | omega) (by first | decide | omega) rfl (by show _ < 26; omega) ?_
    refine zj_aload_n hG d_MD_depart_73 rfl rfl ?_
    refine t_getA (o := 17) hG hT d_MD_depart_74 f_MD_62 rfl rfl ?_
    refine zj_iload_n hG d_MD_depart_77 rfl rfl ?_
    refine t_ald (k) hG hT d_MD_depart_78 (by first | decide | omega) (by first | decide | omega) rfl (by show _ < 26; omega) ?_
    rw [e18 _ _ (by omega), e18 _ _ (by omega), e18 _ _ (by omega), a3, a4, a5.one]
    refine zj_callR (y' := m_MD_nearest) hG (zcS (as := [_, _]) hG d_MD_depart_79 c_MD_nearest (z_w7 22 rfl) (z_w7 23 rfl) (z_w1 11 rfl) ⟨by decide, by decide⟩ (show _ = some 2 from by decide +kernel) rfl) c_MD_nearest rfl (by omega) rfl (z_le rfl) (z_le rfl) (k_MD_nearest hG _ _ _) ?_
    refine zj_icmp_ne (tgt := 89) hG d_MD_depart_82 (by decide) (fun c82 => ?_) (fun c82 => ?_)
    · refine zj_iconst (v := 0) hG d_MD_depart_89 rfl ?_
      exact fin2 false 0 (by simp [tpl0, c28, c38, hx1, c82]) rfl
    · refine zj_iconst (v := 1) hG d_MD_depart_85 rfl ?_
      refine zj_goto (tgt := 90) hG d_MD_depart_86 (by decide) ?_
      exact fin2 true 1 (by simp [tpl0, c28, c38, hx1, c82]) rfl
  · refine zj_aload_n hG d_MD_depart_41 rfl rfl ?_
    refine t_getA (o := 18) hG hT d_MD_depart_42 f_MD_65 rfl rfl ?_
    refine zj_bipush (v := 7) hG d_MD_depart_45 rfl ?_
    refine zj_iload_n hG d_MD_depart_47 rfl rfl ?_
    refine zj_imul hG d_MD_depart_48 ?_
    refine t_ald (7 * k) hG hT d_MD_depart_49 (by first | decide | omega) (by first | decide | omega) (nI_7 _) (by show _ < 182; omega) ?_
    rw [e18 _ _ (by omega)]
    refine zj_if_ne (tgt := 89) hG d_MD_depart_50 (by decide) (fun c50 => ?_) (fun c50 => ?_)
    · refine zj_iconst (v := 0) hG d_MD_depart_89 rfl ?_
      have : ¬ eR T[k] = [] := fun e => c50 (a5.cnt0.mpr e)
      exact fin2 false 0 (by simp [tpl0, c28, c38, this]) rfl
    · have := a5.cnt0.mp c50
      refine zj_goto (tgt := 85) hG d_MD_depart_53 (by decide) ?_
      refine zj_iconst (v := 1) hG d_MD_depart_85 rfl ?_
      refine zj_goto (tgt := 90) hG d_MD_depart_86 (by decide) ?_
      exact fin2 true 1 (by simp [tpl0, c28, c38, this]) rfl
end MD8
