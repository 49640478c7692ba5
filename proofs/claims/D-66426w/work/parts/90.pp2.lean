/-! PART 90: the component: places (copy, isLike) -/
section PP2
variable {G : zG} {h : zH} {r : Nat} {P : List pE}
theorem pso_eq {P P' : List pE} (h : P.Pairwise (fun e g => pk e.1 < pk g.1)) (h' : P'.Pairwise (fun e g => pk e.1 < pk g.1)) (hp : P.Perm P') : P = P' := by
  refine List.Perm.eq_of_pairwise (fun a b _ _ u v => ?_) h h' hp
  omega
/-- the new one takes its value -/
theorem pl_put {P Q : List pE} {p : Int32} {b c : Bool} {l m : List Int32} (hp : Q.Perm ((p, c, m) :: P)) (hno : ∀ e ∈ P, e.1 ≠ p) : (Q.map (fun e => if e.1 = p then (e.1, b, l) else e)).Perm ((p, b, l) :: P) := by
  refine (hp.map _).trans (List.Perm.of_eq ?_)
  rw [List.map_cons, if_pos rfl]
  congr 1
  conv => rhs; rw [← List.map_id P]
  apply List.map_congr_left
  intro e he
  rw [if_neg (hno e he)]; rfl
theorem k_Places_copyL (hG : zOK G) {o r : Nat} {P : List pE} (hor : o ≠ r) (h24 : P.length ≤ 24) : ∀ (m n : Nat) (h : zH) (P' : List pE) (v : Option zV), n + m = P.length → cPl h o P → cPl h r P' → P'.Perm (P.take n) → zn h + 3 * m + 5 ≤ g0 G + 603072 → zs h + 12 * m + 20 ≤ 7211114 →
    zJ G 8 m_Places_copy 6 [some (zA r), some (zA o), some (zI (nI n)), v] [] h (fun o' h' => o' = zR0 ∧ cPl h' r P ∧ cGr r h h' (3 * m) (12 * m)) := by
  intro m
  induction m with
  | zero =>
    intro n h P' v hn xo xr hp _ _
    have hr := xo.f.1
    have hm := xo.f.2.2.1
    have : n = P.length := by omega
    subst this
    rw [List.take_length] at hp
    refine zj_iload_n hG d_Places_copy_6 rfl rfl ?_
    refine zj_aload_n hG d_Places_copy_7 rfl rfl ?_
    refine zj_getI hG d_Places_copy_8 f_Places_15 (by assumption) rfl ?_
    rw [hm]
    refine zj_icmp_ge (tgt := 44) hG d_Places_copy_11 (by decide) (fun _ => ?_) (fun c => absurd (Int32.le_refl _) c)
    have e : P' = P := pso_eq xr.f.2.2.2.2.2 xo.f.2.2.2.2.2 hp
    rw [e] at xr
    exact zj_vret hG d_Places_copy_44 rfl ⟨rfl, xr, cGr.rfl'⟩
  | succ m ih =>
    intro n h P' v hn xo xr hp hz hs
    have hr := xo.f.1
    have hm := xo.f.2.2.1
    have hr' := xr.f.1
    have hnl : n < P.length := by omega
    refine zj_iload_n hG d_Places_copy_6 rfl rfl ?_
    refine zj_aload_n hG d_Places_copy_7 rfl rfl ?_
    refine zj_getI hG d_Places_copy_8 f_Places_15 (by assumption) rfl ?_
    rw [hm]
    refine zj_icmp_ge (tgt := 44) hG d_Places_copy_11 (by decide) (fun c => absurd c (nI_ge hnl (by omega))) (fun _ => ?_)
    refine zj_aload_n hG d_Places_copy_14 rfl rfl ?_
    refine zj_iload_n hG d_Places_copy_15 rfl rfl ?_
    have nd := pl_nd xo
    have xo0 := xo
    obtain ⟨rs, xo1, eP, hw⟩ := xo
    have hnr : n < rs.length := by rw [eP] at hnl; simpa using hnl
    refine zj_callR (y' := m_Rows_get) hG (zcU (as := [_]) (owner := "LensPaths$Rows") hG d_Places_copy_16 c_Rows_get (z_w4 109 rfl) (z_w4 110 rfl) (z_w3 96 rfl) (z_w3 98 rfl) (z_w4 111 rfl) ⟨by decide, by decide⟩ hr (by decide) (by decide) (show _ = some 1 from by decide +kernel) rfl) c_Rows_get rfl (by omega) rfl (z_le rfl) (z_le rfl) (k_r_get hG xo1 hnr) ?_
    have am : rs[n] ∈ rs := List.getElem_mem hnr
    have a6 := (xo1.f.2.2.2.2.2.1 _ am).1.1
    have fe : cPe h rs[n] = P[n] := by simp [eP]
    have pv : cPv (zi h rs[n] 0) := (xo1.f.2.2.2.2.2.1 _ am).2
    have p1 : P[n].1 = zi h rs[n] 0 := by rw [← fe]; rfl
    have hno : ∀ f ∈ P', f.1 ≠ zi h rs[n] 0 := by
      intro f hf e
      have hf := hp.mem_iff.mp hf
      obtain ⟨j, hj, rfl⟩ := List.mem_iff_getElem.mp hf
      have hj' : j < n := by have := hj; simp at this; omega
      rw [List.getElem_take] at e
      unfold List.Nodup at nd
      rw [List.pairwise_map, List.pairwise_iff_getElem] at nd
      exact nd j n (by omega) hnl hj' (by rw [e, p1])
    have hlP' : P'.length < 100 := by rw [hp.length_eq, List.length_take]; omega
    refine zj_cast (k := 6) hG d_Places_copy_19 (z_w2 147 rfl) (by decide) (by decide) (fun _ => a6) ?_
    refine zj_astore_n hG d_Places_copy_22 rfl (by decide) rfl rfl ?_
    refine zj_aload_n hG d_Places_copy_23 rfl rfl ?_
    refine zj_aload_n hG d_Places_copy_24 rfl rfl ?_
    refine zj_getI hG d_Places_copy_25 f_Places_23 (by assumption) rfl ?_
    refine zj_callA (y' := m_Rows_add) hG (zcU (as := [_]) (owner := "LensPaths$Rows") hG d_Places_copy_28 c_Rows_add (z_w4 112 rfl) (z_w4 77 rfl) (z_w2 131 rfl) (z_w2 133 rfl) (z_w4 78 rfl) ⟨by decide, by decide⟩ hr' (by decide) (by decide) (show _ = some 1 from by decide +kernel) rfl) c_Rows_add rfl (by omega) rfl (z_le rfl) (z_le rfl) (k_pl_add hG xr hlP' pv hno (by omega) (by omega)) (fun v28 h28 e28 => ?_)
    obtain ⟨q, rs2, rfl, x2, hw2, qm, pq, zq0, p2, g2⟩ := e28
    have xo2 : cPl h28 o P := xo0.fr2 hor g2.1
    have in2 := g2.1 _ (show zt h rs[n] ≠ 0 by omega) (by rw [(xo1.f.2.2.2.2.2.1 _ am).1.2.1]; exact hor)
    have plo : pls h28 rs[n] (plc h rs[n]).1 (plc h rs[n]).2 := by
      have i3 := (xo1.f.2.2.2.2.2.1 _ am).1.2.2 rfl
      have in3 := g2.1 _ (show zt h (za h rs[n] 3) ≠ 0 by have := i3.1; omega) (by rw [i3.2.2.1]; exact hor)
      refine (hw _ am).sr (r := o) ⟨in2.2.2.1, in2.2.2.2.1, fun _ => in3.2.2.1⟩ ⟨by rw [in2.1]; exact a6, by rw [in2.2.2.2.1]; exact (xo1.f.2.2.2.2.2.1 _ am).1.2.1, fun _ => ?_⟩
      rw [in2.2.2.2.1, in3.1, in3.2.1, in3.2.2.2.1]
      exact i3
    have q6 := pq.1
    have oq : za h28 rs[n] 1000 = o := by rw [in2.2.2.2.1]; exact (xo1.f.2.2.2.2.2.1 _ am).1.2.1
    have qr : za h28 q 1000 = r := (x2.f.2.2.2.2.2.1 q qm).1.2.1
    have oq3 : za h28 (za h28 rs[n] 3) 1000 = o := by
      have i3 := (xo1.f.2.2.2.2.2.1 _ am).1.2.2 rfl
      have in3 := g2.1 _ (show zt h (za h rs[n] 3) ≠ 0 by have := i3.1; omega) (by rw [i3.2.2.1]; exact hor)
      rw [in2.2.2.2.1, in3.2.2.2.1]; exact i3.2.2.1
    have qr3 : za h28 (za h28 q 3) 1000 = r := ((x2.f.2.2.2.2.2.1 q qm).1.2.2 rfl).2.2.1
    refine zj_cast (k := 6) hG d_Places_copy_31 (z_w2 147 rfl) (by decide) (by decide) (fun _ => q6) ?_
    refine zj_aload_n hG d_Places_copy_34 rfl rfl ?_
    refine zj_callP (y' := m_Place_copy) hG (zcV (as := [_]) hG d_Places_copy_35 c_Place_copy (z_w4 113 rfl) (z_w4 114 rfl) (z_w4 115 rfl) ⟨by decide, by decide⟩ q6 (by decide) (by decide) (show _ = some 1 from by decide +kernel) rfl) c_Place_copy rfl (by omega) rfl (z_le rfl) (z_le rfl) (k_Place_copy hG pq.1 pq.2.1 pq.2.2.1 plo (fun e => hor (by rw [← oq, ← e, qr])) (fun e => hor (by rw [← oq3, ← e, qr3]))) (fun h35 e35 => ?_)
    obtain ⟨pq2, cq2⟩ := e35
    obtain ⟨y1, y2, y3, y4⟩ := cPl.set x2 hw2 qm cq2 pq2
    rw [zq0] at y1
    have hfe : ((zi h rs[n] 0, (plc h rs[n]).1, (plc h rs[n]).2) : pE) = P[n] := by rw [← fe]; rfl
    have p3 := pl_put (b := (plc h rs[n]).1) (l := (plc h rs[n]).2) p2 hno
    rw [hfe] at p3
    refine zj_iinc hG d_Places_copy_38 rfl (nI_1 n) (by decide) rfl rfl ?_
    refine zj_goto (tgt := 6) hG d_Places_copy_41 (by decide) ?_
    obtain ⟨I, rfl, _, _⟩ := cq2
    have g3 : cGr r h28 (cSi h28 I) 0 0 := ⟨y4, Nat.le_refl _, Nat.le_refl _, Nat.le_refl _, Nat.le_refl _⟩
    have g4 := g2.trans g3
    have xo3 : cPl (cSi h28 I) o P := xo2.fr2 hor y4
    have b1 := g2.2.2.1
    have b2 := g2.2.2.2.2
    have pp := p3.trans (List.Perm.cons P[n] hp)
    have pp2 : (P[n] :: P.take n).Perm (P.take (n + 1)) := by
      rw [List.take_succ_eq_append_getElem hnl]
      exact (List.perm_append_singleton _ _).symm
    refine (ih (n + 1) _ _ _ (by omega) xo3 y1 (pp.trans pp2) (by show zn h28 + _ + _ ≤ _; omega) (by show zs h28 + _ + _ ≤ _; omega)).mono ?_
    rintro o' h' ⟨q1, q2, q3⟩
    exact ⟨q1, q2, (g4.trans q3).mono (by omega) (by omega)⟩
theorem k_Places_copy (hG : zOK G) {o : Nat} {P' : List pE} (xo : cPl h o P) (xr : cPl h r P') (hor : o ≠ r) (h24 : P.length ≤ 24) (hn : zn h + 80 ≤ g0 G + 603072) (hs : zs h + 320 ≤ 7211114) :
    zJ G 8 m_Places_copy 0 [some (zA r), some (zA o), none, none] [] h (fun o' h' => o' = zR0 ∧ cPl h' r P ∧ cGr r h h' 72 288) := by
  have hr := xr.f.1
  obtain ⟨rs, x1, e1, hw⟩ := xr
  refine zj_aload_n hG d_Places_copy_0 rfl rfl ?_
  refine zj_callP (y' := m_Rows_clear) hG (zcU (as := []) (owner := "LensPaths$Rows") hG d_Places_copy_1 c_Rows_clear (z_w4 108 rfl) (z_w4 72 rfl) (z_w3 83 rfl) (z_w3 85 rfl) (z_w4 73 rfl) ⟨by decide, by decide⟩ hr (by decide) (by decide) (show _ = some 0 from by decide +kernel) rfl) c_Rows_clear rfl (by omega) rfl (z_le rfl) (z_le rfl) (k_r_clear hG x1) (fun h1 e1 => ?_)
  obtain ⟨y1, y2, y3, y4⟩ := e1
  refine zj_iconst (v := 0) hG d_Places_copy_4 rfl ?_
  refine zj_istore_n hG d_Places_copy_5 rfl (by decide) rfl rfl ?_
  refine (k_Places_copyL hG hor h24 P.length 0 h1 [] none (by omega) (xo.fr2 hor y2) ⟨[], y1, rfl, fun a ha => by cases ha⟩ (by simp) (by omega) (by omega)).mono ?_
  rintro o' h' ⟨q1, q2, q3⟩
  have q4 : cGr r h h1 0 0 := ⟨y2, by omega, by omega, by omega, by omega⟩
  exact ⟨q1, q2, (q4.trans q3).mono (by omega) (by omega)⟩
set_option maxRecDepth 4000 in
theorem k_Places_isLikeL (hG : zOK G) {o : Nat} {P2 : List pE} (x : cPl h r P) (y : cPl h o P2) (hl : P.length = P2.length) : ∀ (m n : Nat), n + m = P.length → P.take n = P2.take n →
    zJ G 1 m_Places_isLike 19 [some (zA r), some (zA o), some (zI (tb true)), some (zI (nI n))] [] h (fun o' h' => ∃ v, o' = zR v ∧ ∃ c : Bool, v = zI (tb c) ∧ h' = h ∧ (c = true ↔ P = P2)) := by
  have hr := x.f.1
  have hm := x.f.2.2.1
  have h100 := x.f.2.2.2.1
  have hro := y.f.1
  intro m
  induction m with
  | zero =>
    intro n hn ht
    have : n = P.length := by omega
    subst this
    refine zj_iload_n hG d_Places_isLike_19 rfl rfl ?_
    refine zj_aload_n hG d_Places_isLike_20 rfl rfl ?_
    refine zj_getI hG d_Places_isLike_21 f_Places_15 (by assumption) rfl ?_
    rw [hm]
    refine zj_icmp_ge (tgt := 90) hG d_Places_isLike_24 (by decide) (fun _ => ?_) (fun c => absurd (Int32.le_refl _) c)
    refine zj_iload_n hG d_Places_isLike_90 rfl rfl ?_
    have e : P = P2 := by
      have h1 := List.take_length (l := P)
      have h2 : P2.take P.length = P2 := by rw [hl]; exact List.take_length
      rw [← h1, ht, h2]
    exact zj_iret hG d_Places_isLike_91 rfl rfl ⟨_, rfl, true, rfl, rfl, ⟨fun _ => e, fun _ => rfl⟩⟩
  | succ m ih =>
    intro n hn ht
    have hnl : n < P.length := by omega
    have hnl2 : n < P2.length := by omega
    obtain ⟨rs, x1, eF, hw⟩ := x
    have hnr : n < rs.length := by rw [eF] at hnl; simpa using hnl
    obtain ⟨os, y1, eF2, hw2⟩ := y
    have hno : n < os.length := by rw [eF2] at hnl2; simpa using hnl2
    have a5 := (x1.f.2.2.2.2.2.1 _ (List.getElem_mem hnr)).1.1
    have b5 := (y1.f.2.2.2.2.2.1 _ (List.getElem_mem hno)).1.1
    have fe : cPe h rs[n] = P[n] := by simp [eF]
    have fe2 : cPe h os[n] = P2[n] := by simp [eF2]
    have no : ¬ P[n] = P2[n] → zJ G 1 m_Places_isLike 82 [some (zA r), some (zA o), some (zI (tb true)), some (zI (nI n))] [] h (fun o' h' => ∃ v, o' = zR v ∧ ∃ c : Bool, v = zI (tb c) ∧ h' = h ∧ (c = true ↔ P = P2)) := by
      intro hne
      have hne2 : ¬ P = P2 := fun e => hne (by simp [e])
      refine zj_iconst (v := 0) hG d_Places_isLike_82 rfl ?_
      refine zj_istore_n hG d_Places_isLike_83 rfl (by decide) rfl rfl ?_
      refine zj_iinc hG d_Places_isLike_84 rfl (nI_1 n) (by decide) rfl rfl ?_
      refine zj_goto (tgt := 19) hG d_Places_isLike_87 (by decide) ?_
      refine zj_iload_n hG d_Places_isLike_19 rfl rfl ?_
      refine zj_aload_n hG d_Places_isLike_20 rfl rfl ?_
      refine zj_getI hG d_Places_isLike_21 f_Places_15 (by assumption) rfl ?_
      have fin : zJ G 1 m_Places_isLike 90 [some (zA r), some (zA o), some (zI (tb false)), some (zI (nI (n + 1)))] [] h (fun o' h' => ∃ v, o' = zR v ∧ ∃ c : Bool, v = zI (tb c) ∧ h' = h ∧ (c = true ↔ P = P2)) := by
        refine zj_iload_n hG d_Places_isLike_90 rfl rfl ?_
        exact zj_iret hG d_Places_isLike_91 rfl rfl ⟨_, rfl, false, rfl, rfl, ⟨fun e => (by cases e), fun e => absurd e hne2⟩⟩
      refine zj_icmp_ge (tgt := 90) hG d_Places_isLike_24 (by decide) (fun c24 => ?_) (fun c24 => ?_)
      · exact fin
      · refine zj_iload_n hG d_Places_isLike_27 rfl rfl ?_
        refine zj_if_eq (tgt := 90) hG d_Places_isLike_28 (by decide) (fun _ => ?_) (fun c => absurd rfl c)
        exact fin
    refine zj_iload_n hG d_Places_isLike_19 rfl rfl ?_
    refine zj_aload_n hG d_Places_isLike_20 rfl rfl ?_
    refine zj_getI hG d_Places_isLike_21 f_Places_15 (by assumption) rfl ?_
    rw [hm]
    refine zj_icmp_ge (tgt := 90) hG d_Places_isLike_24 (by decide) (fun c => absurd c (nI_ge hnl (by omega))) (fun _ => ?_)
    refine zj_iload_n hG d_Places_isLike_27 rfl rfl ?_
    refine zj_if_eq (tgt := 90) hG d_Places_isLike_28 (by decide) (fun c => absurd c (by decide)) (fun _ => ?_)
    refine zj_aload_n hG d_Places_isLike_31 rfl rfl ?_
    refine zj_iload_n hG d_Places_isLike_32 rfl rfl ?_
    refine zj_callR (y' := m_Rows_get) hG (zcU (as := [_]) (owner := "LensPaths$Rows") hG d_Places_isLike_33 c_Rows_get (z_w4 109 rfl) (z_w4 110 rfl) (z_w3 96 rfl) (z_w3 98 rfl) (z_w4 111 rfl) ⟨by decide, by decide⟩ hr (by decide) (by decide) (show _ = some 1 from by decide +kernel) rfl) c_Rows_get rfl (by omega) rfl (z_le rfl) (z_le rfl) (k_r_get hG x1 hnr) ?_
    refine zj_cast (k := 6) hG d_Places_isLike_36 (z_w2 147 rfl) (by decide) (by decide) (fun _ => a5) ?_
    refine zj_getI hG d_Places_isLike_39 f_Places_23 (by assumption) rfl ?_
    refine zj_aload_n hG d_Places_isLike_42 rfl rfl ?_
    refine zj_iload_n hG d_Places_isLike_43 rfl rfl ?_
    refine zj_callR (y' := m_Rows_get) hG (zcU (as := [_]) (owner := "LensPaths$Rows") hG d_Places_isLike_44 c_Rows_get (z_w4 109 rfl) (z_w4 110 rfl) (z_w3 96 rfl) (z_w3 98 rfl) (z_w4 111 rfl) ⟨by decide, by decide⟩ hro (by decide) (by decide) (show _ = some 1 from by decide +kernel) rfl) c_Rows_get rfl (by omega) rfl (z_le rfl) (z_le rfl) (k_r_get hG y1 hno) ?_
    refine zj_cast (k := 6) hG d_Places_isLike_47 (z_w2 147 rfl) (by decide) (by decide) (fun _ => b5) ?_
    refine zj_getI hG d_Places_isLike_50 f_Places_23 (by assumption) rfl ?_
    refine zj_icmp_ne (tgt := 82) hG d_Places_isLike_53 (by decide) (fun c53 => ?_) (fun c53 => ?_)
    · exact no (fun e => c53 (by rw [← fe, ← fe2] at e; exact congrArg (fun x : pE => x.1) e))
    refine zj_aload_n hG d_Places_isLike_56 rfl rfl ?_
    refine zj_iload_n hG d_Places_isLike_57 rfl rfl ?_
    refine zj_callR (y' := m_Rows_get) hG (zcU (as := [_]) (owner := "LensPaths$Rows") hG d_Places_isLike_58 c_Rows_get (z_w4 109 rfl) (z_w4 110 rfl) (z_w3 96 rfl) (z_w3 98 rfl) (z_w4 111 rfl) ⟨by decide, by decide⟩ hr (by decide) (by decide) (show _ = some 1 from by decide +kernel) rfl) c_Rows_get rfl (by omega) rfl (z_le rfl) (z_le rfl) (k_r_get hG x1 hnr) ?_
    refine zj_cast (k := 6) hG d_Places_isLike_61 (z_w2 147 rfl) (by decide) (by decide) (fun _ => a5) ?_
    refine zj_aload_n hG d_Places_isLike_64 rfl rfl ?_
    refine zj_iload_n hG d_Places_isLike_65 rfl rfl ?_
    refine zj_callR (y' := m_Rows_get) hG (zcU (as := [_]) (owner := "LensPaths$Rows") hG d_Places_isLike_66 c_Rows_get (z_w4 109 rfl) (z_w4 110 rfl) (z_w3 96 rfl) (z_w3 98 rfl) (z_w4 111 rfl) ⟨by decide, by decide⟩ hro (by decide) (by decide) (show _ = some 1 from by decide +kernel) rfl) c_Rows_get rfl (by omega) rfl (z_le rfl) (z_le rfl) (k_r_get hG y1 hno) ?_
    refine zj_cast (k := 6) hG d_Places_isLike_69 (z_w2 147 rfl) (by decide) (by decide) (fun _ => b5) ?_
    refine zj_callA (y' := m_Place_isLike) hG (zcV (as := [_]) hG d_Places_isLike_72 c_Place_isLike (z_w4 230 rfl) (z_w4 231 rfl) (z_w4 232 rfl) ⟨by decide, by decide⟩ a5 (by decide) (by decide) (show _ = some 1 from by decide +kernel) rfl) c_Place_isLike rfl (by omega) rfl (z_le rfl) (z_le rfl) (k_Place_isLike hG (hw _ (List.getElem_mem hnr)) (hw2 _ (List.getElem_mem hno))) (fun v72 h72 e72 => ?_)
    obtain ⟨c, rfl, rfl, hc⟩ := e72
    have key : P[n] = P2[n] ↔ (plc h72 rs[n]).1 = (plc h72 os[n]).1 ∧ (plc h72 rs[n]).2 = (plc h72 os[n]).2 := by
      rw [← fe, ← fe2]
      unfold cPe
      rw [show zi h72 rs[n] 0 = zi h72 os[n] 0 from c53]
      constructor
      · intro e
        have := congrArg (fun x : pE => x.2) e
        exact ⟨congrArg (fun x : Bool × List Int32 => x.1) this, congrArg (fun x : Bool × List Int32 => x.2) this⟩
      · rintro ⟨e1, e2⟩
        exact congrArg (fun y => (zi h72 os[n] 0, y)) (Prod.ext e1 e2)
    rw [← key] at hc
    rcases c with _ | _
    · refine zj_if_eq (tgt := 82) hG d_Places_isLike_75 (by decide) (fun _ => ?_) (fun c => absurd rfl c)
      exact no (fun e => by have := hc.mpr e; cases this)
    · refine zj_if_eq (tgt := 82) hG d_Places_isLike_75 (by decide) (fun c => absurd c (by decide)) (fun _ => ?_)
      refine zj_iconst (v := 1) hG d_Places_isLike_78 rfl ?_
      refine zj_goto (tgt := 83) hG d_Places_isLike_79 (by decide) ?_
      refine zj_istore_n hG d_Places_isLike_83 rfl (by decide) rfl rfl ?_
      refine zj_iinc hG d_Places_isLike_84 rfl (nI_1 n) (by decide) rfl rfl ?_
      refine zj_goto (tgt := 19) hG d_Places_isLike_87 (by decide) ?_
      exact ih (n + 1) (by omega) (by rw [List.take_succ_eq_append_getElem hnl, List.take_succ_eq_append_getElem hnl2, ht, hc.mp rfl])
set_option maxRecDepth 4000 in
theorem k_Places_isLike (hG : zOK G) {o : Nat} {P2 : List pE} (x : cPl h r P) (y : cPl h o P2) : zJ G 1 m_Places_isLike 0 [some (zA r), some (zA o), none, none] [] h (fun o' h' => ∃ v, o' = zR v ∧ ∃ c : Bool, v = zI (tb c) ∧ h' = h ∧ (c = true ↔ P = P2)) := by
  have hr := x.f.1
  have hm := x.f.2.2.1
  have h100 := x.f.2.2.2.1
  have hro := y.f.1
  have hmo := y.f.2.2.1
  have h100o := y.f.2.2.2.1
  refine zj_aload_n hG d_Places_isLike_0 rfl rfl ?_
  refine zj_getI hG d_Places_isLike_1 f_Places_15 hr rfl ?_
  rw [hm]
  refine zj_aload_n hG d_Places_isLike_4 rfl rfl ?_
  refine zj_getI hG d_Places_isLike_5 f_Places_15 hro rfl ?_
  rw [hmo]
  refine zj_icmp_ne (tgt := 15) hG d_Places_isLike_8 (by decide) (fun c8 => ?_) (fun c8 => ?_)
  · have hne : ¬ P = P2 := fun e => c8 (by rw [e])
    have fin : ∀ v, zJ G 1 m_Places_isLike 90 [some (zA r), some (zA o), some (zI (tb false)), some v] [] h (fun o' h' => ∃ v, o' = zR v ∧ ∃ c : Bool, v = zI (tb c) ∧ h' = h ∧ (c = true ↔ P = P2)) := by
      intro v
      refine zj_iload_n hG d_Places_isLike_90 rfl rfl ?_
      exact zj_iret hG d_Places_isLike_91 rfl rfl ⟨_, rfl, false, rfl, rfl, ⟨fun e => (by cases e), fun e => absurd e hne⟩⟩
    refine zj_iconst (v := 0) hG d_Places_isLike_15 rfl ?_
    refine zj_istore_n hG d_Places_isLike_16 rfl (by decide) rfl rfl ?_
    refine zj_iconst (v := 0) hG d_Places_isLike_17 rfl ?_
    refine zj_istore_n hG d_Places_isLike_18 rfl (by decide) rfl rfl ?_
    refine zj_iload_n hG d_Places_isLike_19 rfl rfl ?_
    refine zj_aload_n hG d_Places_isLike_20 rfl rfl ?_
    refine zj_getI hG d_Places_isLike_21 f_Places_15 (by assumption) rfl ?_
    refine zj_icmp_ge (tgt := 90) hG d_Places_isLike_24 (by decide) (fun c24 => ?_) (fun c24 => ?_)
    · exact fin _
    · refine zj_iload_n hG d_Places_isLike_27 rfl rfl ?_
      refine zj_if_eq (tgt := 90) hG d_Places_isLike_28 (by decide) (fun _ => ?_) (fun c => absurd rfl c)
      exact fin _
  · have e : P.length = P2.length := nI_inj (by omega) (by omega) c8
    refine zj_iconst (v := 1) hG d_Places_isLike_11 rfl ?_
    refine zj_goto (tgt := 16) hG d_Places_isLike_12 (by decide) ?_
    refine zj_istore_n hG d_Places_isLike_16 rfl (by decide) rfl rfl ?_
    refine zj_iconst (v := 0) hG d_Places_isLike_17 rfl ?_
    refine zj_istore_n hG d_Places_isLike_18 rfl (by decide) rfl rfl ?_
    exact k_Places_isLikeL hG x y e P.length 0 (by omega) (by simp)
end PP2
