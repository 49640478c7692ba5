/-! PART 78: the component: schemas (copy, isLike; remove, rename, lift, inside) -/
section SC2
variable {G : zG} {h : zH} {r : Nat} {F : List tFd}
set_option maxRecDepth 4000 in
theorem k_Fld_isLike (hG : zOK G) {a b : Nat} (ha : zt h a = 5) (hb : zt h b = 5) : zJ G 0 m_Fld_isLike 0 [some (zA a), some (zA b)] [] h (fun o h' => ∃ v, o = zR v ∧ ∃ c : Bool, v = zI (tb c) ∧ h' = h ∧ (c = true ↔ fld h a = fld h b)) := by
  have no : ¬ fld h a = fld h b → zJ G 0 m_Fld_isLike 48 [some (zA a), some (zA b)] [] h (fun o h' => ∃ v, o = zR v ∧ ∃ c : Bool, v = zI (tb c) ∧ h' = h ∧ (c = true ↔ fld h a = fld h b)) := by
    intro g
    refine zj_iconst (v := 0) hG d_Fld_isLike_48 rfl ?_
    exact zj_iret hG d_Fld_isLike_49 rfl rfl ⟨_, rfl, false, rfl, rfl, ⟨fun e => (by cases e), fun e => absurd e g⟩⟩
  have pr : fld h a = fld h b → zi h a 0 = zi h b 0 ∧ zi h a 1 = zi h b 1 ∧ zi h a 2 = zi h b 2 ∧ zi h a 3 = zi h b 3 := fun e => by
    unfold fld at e
    simpa using e
  refine zj_aload_n hG d_Fld_isLike_0 rfl rfl ?_
  refine zj_getI hG d_Fld_isLike_1 f_Fld_21 (by assumption) rfl ?_
  refine zj_aload_n hG d_Fld_isLike_4 rfl rfl ?_
  refine zj_getI hG d_Fld_isLike_5 f_Fld_21 (by assumption) rfl ?_
  refine zj_icmp_ne (tgt := 48) hG d_Fld_isLike_8 (by decide) (fun c1 => ?_) (fun c1 => ?_)
  · exact no (fun e => c1 (pr e).1)
  refine zj_aload_n hG d_Fld_isLike_11 rfl rfl ?_
  refine zj_getI hG d_Fld_isLike_12 f_Fld_9 (by assumption) rfl ?_
  refine zj_aload_n hG d_Fld_isLike_15 rfl rfl ?_
  refine zj_getI hG d_Fld_isLike_16 f_Fld_9 (by assumption) rfl ?_
  refine zj_icmp_ne (tgt := 48) hG d_Fld_isLike_19 (by decide) (fun c2 => ?_) (fun c2 => ?_)
  · exact no (fun e => c2 (pr e).2.1)
  refine zj_aload_n hG d_Fld_isLike_22 rfl rfl ?_
  refine zj_getI hG d_Fld_isLike_23 f_Fld_15 (by assumption) rfl ?_
  refine zj_aload_n hG d_Fld_isLike_26 rfl rfl ?_
  refine zj_getI hG d_Fld_isLike_27 f_Fld_15 (by assumption) rfl ?_
  refine zj_icmp_ne (tgt := 48) hG d_Fld_isLike_30 (by decide) (fun c3 => ?_) (fun c3 => ?_)
  · exact no (fun e => c3 (pr e).2.2.1)
  refine zj_aload_n hG d_Fld_isLike_33 rfl rfl ?_
  refine zj_getI hG d_Fld_isLike_34 f_Fld_18 (by assumption) rfl ?_
  refine zj_aload_n hG d_Fld_isLike_37 rfl rfl ?_
  refine zj_getI hG d_Fld_isLike_38 f_Fld_18 (by assumption) rfl ?_
  refine zj_icmp_ne (tgt := 48) hG d_Fld_isLike_41 (by decide) (fun c4 => ?_) (fun c4 => ?_)
  · exact no (fun e => c4 (pr e).2.2.2)
  refine zj_iconst (v := 1) hG d_Fld_isLike_44 rfl ?_
  refine zj_goto (tgt := 49) hG d_Fld_isLike_45 (by decide) ?_
  exact zj_iret hG d_Fld_isLike_49 rfl rfl ⟨_, rfl, true, rfl, rfl, ⟨fun _ => by unfold fld; rw [c1, c2, c3, c4], fun _ => rfl⟩⟩
theorem k_Schema_copyL (hG : zOK G) {o r : Nat} {F : List tFd} (hor : o ≠ r) (h24 : F.length ≤ 24) : ∀ (m n : Nat) (h : zH) (F' : List tFd) (v : Option zV), n + m = F.length → cSc h o F → cSc h r F' → F'.Perm (F.take n) → (∀ f ∈ F, f.2.1 = 2 → f.2.2.1 = 0 ∧ f.2.2.2 = 0) → zn h + 3 * m + 5 ≤ g0 G + 603072 → zs h + 12 * m + 20 ≤ 7211114 →
    zJ G 8 m_Schema_copy 6 [some (zA r), some (zA o), some (zI (nI n)), v] [] h (fun o' h' => o' = zR0 ∧ cSc h' r F ∧ cGr r h h' (3 * m) (12 * m)) := by
  intro m
  induction m with
  | zero =>
    intro n h F' v hn xo xr hp _ _ _
    have hr := xo.f.1
    have hm := xo.f.2.2.1
    have : n = F.length := by omega
    subst this
    rw [List.take_length] at hp
    refine zj_iload_n hG d_Schema_copy_6 rfl rfl ?_
    refine zj_aload_n hG d_Schema_copy_7 rfl rfl ?_
    refine zj_getI hG d_Schema_copy_8 f_Schema_31 (by assumption) rfl ?_
    rw [hm]
    refine zj_icmp_ge (tgt := 49) hG d_Schema_copy_11 (by decide) (fun _ => ?_) (fun c => absurd (Int32.le_refl _) c)
    have e : F' = F := so_eq xr.f.2.2.2.2.2 xo.f.2.2.2.2.2 hp
    rw [e] at xr
    exact zj_vret hG d_Schema_copy_49 rfl ⟨rfl, xr, cGr.rfl'⟩
  | succ m ih =>
    intro n h F' v hn xo xr hp h2 hz hs
    have hr := xo.f.1
    have hm := xo.f.2.2.1
    have hr' := xr.f.1
    have hnl : n < F.length := by omega
    refine zj_iload_n hG d_Schema_copy_6 rfl rfl ?_
    refine zj_aload_n hG d_Schema_copy_7 rfl rfl ?_
    refine zj_getI hG d_Schema_copy_8 f_Schema_31 (by assumption) rfl ?_
    rw [hm]
    refine zj_icmp_ge (tgt := 49) hG d_Schema_copy_11 (by decide) (fun c => absurd c (nI_ge hnl (by omega))) (fun _ => ?_)
    refine zj_aload_n hG d_Schema_copy_14 rfl rfl ?_
    refine zj_iload_n hG d_Schema_copy_15 rfl rfl ?_
    obtain ⟨rs, xo1, eF⟩ := xo
    have hnr : n < rs.length := by rw [eF] at hnl; simpa using hnl
    refine zj_callR (y' := m_Rows_get) hG (zcU (as := [_]) (owner := "LensPaths$Rows") hG d_Schema_copy_16 c_Rows_get (z_w3 94 rfl) (z_w3 95 rfl) (z_w3 96 rfl) (z_w3 98 rfl) (z_w3 97 rfl) ⟨by decide, by decide⟩ hr (by decide) (by decide) (show _ = some 1 from by decide +kernel) rfl) c_Rows_get rfl (by omega) rfl (z_le rfl) (z_le rfl) (k_r_get hG xo1 hnr) ?_
    have am : rs[n] ∈ rs := List.getElem_mem hnr
    have a5 := (xo1.f.2.2.2.2.2.1 _ am).1.1
    have fe : fld h rs[n] = F[n] := by simp [eF]
    have fm : F[n] ∈ F := List.getElem_mem hnl
    have pv : cPv (zi h rs[n] 0) := (xo1.f.2.2.2.2.2.1 _ am).2
    have p1 : F[n].1 = zi h rs[n] 0 := by rw [← fe]; rfl
    have nd := sc_nd ⟨rs, xo1, eF⟩
    have hno : ∀ f ∈ F', f.1 ≠ zi h rs[n] 0 := by
      intro f hf e
      have hf := hp.mem_iff.mp hf
      obtain ⟨j, hj, rfl⟩ := List.mem_iff_getElem.mp hf
      have hj' : j < n := by have := hj; simp at this; omega
      rw [List.getElem_take] at e
      unfold List.Nodup at nd
      rw [List.pairwise_map, List.pairwise_iff_getElem] at nd
      exact nd j n (by omega) hnl hj' (by rw [e, p1])
    have hlF' : F'.length < 100 := by rw [hp.length_eq, List.length_take]; omega
    refine zj_cast (k := 5) hG d_Schema_copy_19 (z_w2 105 rfl) (by decide) (by decide) (fun _ => a5) ?_
    refine zj_astore_n hG d_Schema_copy_22 rfl (by decide) rfl rfl ?_
    refine zj_aload_n hG d_Schema_copy_23 rfl rfl ?_
    refine zj_aload_n hG d_Schema_copy_24 rfl rfl ?_
    refine zj_getI hG d_Schema_copy_25 f_Schema_37 (by assumption) rfl ?_
    refine zj_aload_n hG d_Schema_copy_28 rfl rfl ?_
    refine zj_getI hG d_Schema_copy_29 f_Schema_18 (by assumption) rfl ?_
    refine zj_aload_n hG d_Schema_copy_32 rfl rfl ?_
    refine zj_getI hG d_Schema_copy_33 f_Schema_22 (by assumption) rfl ?_
    refine zj_aload_n hG d_Schema_copy_36 rfl rfl ?_
    refine zj_getI hG d_Schema_copy_37 f_Schema_25 (by assumption) rfl ?_
    refine zj_callP (y' := m_Schema_add) hG (zcV (as := [_, _, _, _]) hG d_Schema_copy_40 c_Schema_add (z_w3 100 rfl) (z_w2 126 rfl) (z_w2 127 rfl) ⟨by decide, by decide⟩ hr' (by decide) (by decide) (show _ = some 4 from by decide +kernel) rfl) c_Schema_add rfl (by omega) rfl (z_le rfl) (z_le rfl) (k_Schema_add hG xr hlF' pv hno (zi h rs[n] 1) (zi h rs[n] 2) (zi h rs[n] 3) (by omega) (by omega)) (fun h40 e40 => ?_)
    obtain ⟨F2, x2, p2, g2⟩ := e40
    have hfe : ((zi h rs[n] 0, zi h rs[n] 1, (if zi h rs[n] 1 = 2 then 0 else zi h rs[n] 2), (if zi h rs[n] 1 = 2 then 0 else zi h rs[n] 3)) : tFd) = F[n] := by
      rw [← fe]
      unfold fld
      by_cases s2 : zi h rs[n] 1 = 2
      · have := h2 _ fm (by rw [← fe]; exact s2)
        rw [← fe] at this
        rw [if_pos s2, if_pos s2, show zi h rs[n] 2 = 0 from this.1, show zi h rs[n] 3 = 0 from this.2]
      · rw [if_neg s2, if_neg s2]
    rw [hfe] at p2
    refine zj_iinc hG d_Schema_copy_43 rfl (nI_1 n) (by decide) rfl rfl ?_
    refine zj_goto (tgt := 6) hG d_Schema_copy_46 (by decide) ?_
    have xo2 : cSc h40 o F := cSc.fr2 ⟨rs, xo1, eF⟩ hor g2.1
    have b1 := g2.2.2.1
    have b2 := g2.2.2.2.2
    have pp : F2.Perm (F.take (n + 1)) := by
      rw [List.take_succ_eq_append_getElem hnl]
      exact (p2.trans (List.Perm.cons _ hp)).trans (List.perm_append_singleton _ _).symm
    refine (ih (n + 1) h40 F2 _ (by omega) xo2 x2 pp h2 (by omega) (by omega)).mono ?_
    rintro o' h' ⟨q1, q2, q3⟩
    exact ⟨q1, q2, (g2.trans q3).mono (by omega) (by omega)⟩
theorem k_Schema_copy (hG : zOK G) {o : Nat} {F' : List tFd} (xo : cSc h o F) (xr : cSc h r F') (hor : o ≠ r) (h24 : F.length ≤ 24) (h2 : ∀ f ∈ F, f.2.1 = 2 → f.2.2.1 = 0 ∧ f.2.2.2 = 0) (hn : zn h + 80 ≤ g0 G + 603072) (hs : zs h + 320 ≤ 7211114) :
    zJ G 8 m_Schema_copy 0 [some (zA r), some (zA o), none, none] [] h (fun o' h' => o' = zR0 ∧ cSc h' r F ∧ cGr r h h' 72 288) := by
  have hr := xr.f.1
  obtain ⟨rs, x1, e1⟩ := xr
  refine zj_aload_n hG d_Schema_copy_0 rfl rfl ?_
  refine zj_callP (y' := m_Rows_clear) hG (zcU (as := []) (owner := "LensPaths$Rows") hG d_Schema_copy_1 c_Rows_clear (z_w3 81 rfl) (z_w3 82 rfl) (z_w3 83 rfl) (z_w3 85 rfl) (z_w3 84 rfl) ⟨by decide, by decide⟩ hr (by decide) (by decide) (show _ = some 0 from by decide +kernel) rfl) c_Rows_clear rfl (by omega) rfl (z_le rfl) (z_le rfl) (k_r_clear hG x1) (fun h1 e1 => ?_)
  obtain ⟨y1, y2, y3, y4⟩ := e1
  refine zj_iconst (v := 0) hG d_Schema_copy_4 rfl ?_
  refine zj_istore_n hG d_Schema_copy_5 rfl (by decide) rfl rfl ?_
  refine (k_Schema_copyL hG hor h24 F.length 0 h1 [] none (by omega) (xo.fr2 hor y2) ⟨[], y1, rfl⟩ (by simp) h2 (by omega) (by omega)).mono ?_
  rintro o' h' ⟨q1, q2, q3⟩
  have q4 : cGr r h h1 0 0 := ⟨y2, by omega, by omega, by omega, by omega⟩
  exact ⟨q1, q2, (q4.trans q3).mono (by omega) (by omega)⟩
end SC2
