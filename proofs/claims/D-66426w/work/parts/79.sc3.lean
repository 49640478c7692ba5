/-! PART 79: the component: schemas (isLike; remove, rename, lift, inside) -/
section SC3
variable {G : zG} {h : zH} {r : Nat} {F : List tFd}
set_option maxRecDepth 4000 in
theorem k_Schema_isLikeL (hG : zOK G) {o : Nat} {F2 : List tFd} (x : cSc h r F) (y : cSc h o F2) (hl : F.length = F2.length) : ∀ (m n : Nat), n + m = F.length → F.take n = F2.take n →
    zJ G 1 m_Schema_isLike 19 [some (zA r), some (zA o), some (zI (tb true)), some (zI (nI n))] [] h (fun o' h' => ∃ v, o' = zR v ∧ ∃ c : Bool, v = zI (tb c) ∧ h' = h ∧ (c = true ↔ F = F2)) := by
  have hr := x.f.1
  have hm := x.f.2.2.1
  have h100 := x.f.2.2.2.1
  have hro := y.f.1
  intro m
  induction m with
  | zero =>
    intro n hn ht
    have : n = F.length := by omega
    subst this
    refine zj_iload_n hG d_Schema_isLike_19 rfl rfl ?_
    refine zj_aload_n hG d_Schema_isLike_20 rfl rfl ?_
    refine zj_getI hG d_Schema_isLike_21 f_Schema_31 (by assumption) rfl ?_
    rw [hm]
    refine zj_icmp_ge (tgt := 57) hG d_Schema_isLike_24 (by decide) (fun _ => ?_) (fun c => absurd (Int32.le_refl _) c)
    refine zj_iload_n hG d_Schema_isLike_57 rfl rfl ?_
    have e : F = F2 := by
      have h1 := List.take_length (l := F)
      have h2 : F2.take F.length = F2 := by rw [hl]; exact List.take_length
      rw [← h1, ht, h2]
    exact zj_iret hG d_Schema_isLike_58 rfl rfl ⟨_, rfl, true, rfl, rfl, ⟨fun _ => e, fun _ => rfl⟩⟩
  | succ m ih =>
    intro n hn ht
    have hnl : n < F.length := by omega
    have hnl2 : n < F2.length := by omega
    refine zj_iload_n hG d_Schema_isLike_19 rfl rfl ?_
    refine zj_aload_n hG d_Schema_isLike_20 rfl rfl ?_
    refine zj_getI hG d_Schema_isLike_21 f_Schema_31 (by assumption) rfl ?_
    rw [hm]
    refine zj_icmp_ge (tgt := 57) hG d_Schema_isLike_24 (by decide) (fun c => absurd c (nI_ge hnl (by omega))) (fun _ => ?_)
    refine zj_iload_n hG d_Schema_isLike_27 rfl rfl ?_
    refine zj_if_eq (tgt := 57) hG d_Schema_isLike_28 (by decide) (fun c => absurd c (by decide)) (fun _ => ?_)
    refine zj_aload_n hG d_Schema_isLike_31 rfl rfl ?_
    refine zj_iload_n hG d_Schema_isLike_32 rfl rfl ?_
    obtain ⟨rs, x1, eF⟩ := x
    have hnr : n < rs.length := by rw [eF] at hnl; simpa using hnl
    obtain ⟨os, y1, eF2⟩ := y
    have hno : n < os.length := by rw [eF2] at hnl2; simpa using hnl2
    have a5 := (x1.f.2.2.2.2.2.1 _ (List.getElem_mem hnr)).1.1
    have b5 := (y1.f.2.2.2.2.2.1 _ (List.getElem_mem hno)).1.1
    have fe : fld h rs[n] = F[n] := by simp [eF]
    have fe2 : fld h os[n] = F2[n] := by simp [eF2]
    refine zj_callR (y' := m_Rows_get) hG (zcU (as := [_]) (owner := "LensPaths$Rows") hG d_Schema_isLike_33 c_Rows_get (z_w3 94 rfl) (z_w3 95 rfl) (z_w3 96 rfl) (z_w3 98 rfl) (z_w3 97 rfl) ⟨by decide, by decide⟩ hr (by decide) (by decide) (show _ = some 1 from by decide +kernel) rfl) c_Rows_get rfl (by omega) rfl (z_le rfl) (z_le rfl) (k_r_get hG x1 hnr) ?_
    refine zj_cast (k := 5) hG d_Schema_isLike_36 (z_w2 105 rfl) (by decide) (by decide) (fun _ => a5) ?_
    refine zj_aload_n hG d_Schema_isLike_39 rfl rfl ?_
    refine zj_iload_n hG d_Schema_isLike_40 rfl rfl ?_
    refine zj_callR (y' := m_Rows_get) hG (zcU (as := [_]) (owner := "LensPaths$Rows") hG d_Schema_isLike_41 c_Rows_get (z_w3 94 rfl) (z_w3 95 rfl) (z_w3 96 rfl) (z_w3 98 rfl) (z_w3 97 rfl) ⟨by decide, by decide⟩ hro (by decide) (by decide) (show _ = some 1 from by decide +kernel) rfl) c_Rows_get rfl (by omega) rfl (z_le rfl) (z_le rfl) (k_r_get hG y1 hno) ?_
    refine zj_cast (k := 5) hG d_Schema_isLike_44 (z_w2 105 rfl) (by decide) (by decide) (fun _ => b5) ?_
    refine zj_callA (y' := m_Fld_isLike) hG (zcV (as := [_]) hG d_Schema_isLike_47 c_Fld_isLike (z_w4 12 rfl) (z_w4 13 rfl) (z_w4 14 rfl) ⟨by decide, by decide⟩ a5 (by decide) (by decide) (show _ = some 1 from by decide +kernel) rfl) c_Fld_isLike rfl (by omega) rfl (z_le rfl) (z_le rfl) (k_Fld_isLike hG a5 b5) (fun v47 h47 e47 => ?_)
    obtain ⟨c, rfl, rfl, hc⟩ := e47
    rw [fe, fe2] at hc
    rcases c with _ | _
    · have hne : ¬ F[n] = F2[n] := fun e => by have := hc.mpr e; cases this
      have hne2 : ¬ F = F2 := fun e => hne (by simp [e])
      refine zj_istore_n hG d_Schema_isLike_50 rfl (by decide) rfl rfl ?_
      refine zj_iinc hG d_Schema_isLike_51 rfl (nI_1 n) (by decide) rfl rfl ?_
      refine zj_goto (tgt := 19) hG d_Schema_isLike_54 (by decide) ?_
      refine zj_iload_n hG d_Schema_isLike_19 rfl rfl ?_
      refine zj_aload_n hG d_Schema_isLike_20 rfl rfl ?_
      refine zj_getI hG d_Schema_isLike_21 f_Schema_31 (by assumption) rfl ?_
      rw [hm]
      have fin : zJ G 1 m_Schema_isLike 57 [some (zA r), some (zA o), some (zI (tb false)), some (zI (nI (n + 1)))] [] h47 (fun o' h' => ∃ v, o' = zR v ∧ ∃ c : Bool, v = zI (tb c) ∧ h' = h47 ∧ (c = true ↔ F = F2)) := by
        refine zj_iload_n hG d_Schema_isLike_57 rfl rfl ?_
        exact zj_iret hG d_Schema_isLike_58 rfl rfl ⟨_, rfl, false, rfl, rfl, ⟨fun e => (by cases e), fun e => absurd e hne2⟩⟩
      refine zj_icmp_ge (tgt := 57) hG d_Schema_isLike_24 (by decide) (fun c24 => ?_) (fun c24 => ?_)
      · exact fin
      · refine zj_iload_n hG d_Schema_isLike_27 rfl rfl ?_
        refine zj_if_eq (tgt := 57) hG d_Schema_isLike_28 (by decide) (fun _ => ?_) (fun c => absurd rfl c)
        exact fin
    · have he := hc.mp rfl
      refine zj_istore_n hG d_Schema_isLike_50 rfl (by decide) rfl rfl ?_
      refine zj_iinc hG d_Schema_isLike_51 rfl (nI_1 n) (by decide) rfl rfl ?_
      refine zj_goto (tgt := 19) hG d_Schema_isLike_54 (by decide) ?_
      exact ih (n + 1) (by omega) (by rw [List.take_succ_eq_append_getElem hnl, List.take_succ_eq_append_getElem hnl2, ht, he])
set_option maxRecDepth 4000 in
theorem k_Schema_isLike (hG : zOK G) {o : Nat} {F2 : List tFd} (x : cSc h r F) (y : cSc h o F2) : zJ G 1 m_Schema_isLike 0 [some (zA r), some (zA o), none, none] [] h (fun o' h' => ∃ v, o' = zR v ∧ ∃ c : Bool, v = zI (tb c) ∧ h' = h ∧ (c = true ↔ F = F2)) := by
  have hr := x.f.1
  have hm := x.f.2.2.1
  have h100 := x.f.2.2.2.1
  have hro := y.f.1
  have hmo := y.f.2.2.1
  have h100o := y.f.2.2.2.1
  refine zj_aload_n hG d_Schema_isLike_0 rfl rfl ?_
  refine zj_getI hG d_Schema_isLike_1 f_Schema_31 hr rfl ?_
  rw [hm]
  refine zj_aload_n hG d_Schema_isLike_4 rfl rfl ?_
  refine zj_getI hG d_Schema_isLike_5 f_Schema_31 hro rfl ?_
  rw [hmo]
  refine zj_icmp_ne (tgt := 15) hG d_Schema_isLike_8 (by decide) (fun c8 => ?_) (fun c8 => ?_)
  · have hne : ¬ F = F2 := fun e => c8 (by rw [e])
    have fin : ∀ v, zJ G 1 m_Schema_isLike 57 [some (zA r), some (zA o), some (zI (tb false)), some v] [] h (fun o' h' => ∃ v, o' = zR v ∧ ∃ c : Bool, v = zI (tb c) ∧ h' = h ∧ (c = true ↔ F = F2)) := by
      intro v
      refine zj_iload_n hG d_Schema_isLike_57 rfl rfl ?_
      exact zj_iret hG d_Schema_isLike_58 rfl rfl ⟨_, rfl, false, rfl, rfl, ⟨fun e => (by cases e), fun e => absurd e hne⟩⟩
    refine zj_iconst (v := 0) hG d_Schema_isLike_15 rfl ?_
    refine zj_istore_n hG d_Schema_isLike_16 rfl (by decide) rfl rfl ?_
    refine zj_iconst (v := 0) hG d_Schema_isLike_17 rfl ?_
    refine zj_istore_n hG d_Schema_isLike_18 rfl (by decide) rfl rfl ?_
    refine zj_iload_n hG d_Schema_isLike_19 rfl rfl ?_
    refine zj_aload_n hG d_Schema_isLike_20 rfl rfl ?_
    refine zj_getI hG d_Schema_isLike_21 f_Schema_31 (by assumption) rfl ?_
    refine zj_icmp_ge (tgt := 57) hG d_Schema_isLike_24 (by decide) (fun c24 => ?_) (fun c24 => ?_)
    · exact fin _
    · refine zj_iload_n hG d_Schema_isLike_27 rfl rfl ?_
      refine zj_if_eq (tgt := 57) hG d_Schema_isLike_28 (by decide) (fun _ => ?_) (fun c => absurd rfl c)
      exact fin _
  · have e : F.length = F2.length := nI_inj (by omega) (by omega) c8
    refine zj_iconst (v := 1) hG d_Schema_isLike_11 rfl ?_
    refine zj_goto (tgt := 16) hG d_Schema_isLike_12 (by decide) ?_
    refine zj_istore_n hG d_Schema_isLike_16 rfl (by decide) rfl rfl ?_
    refine zj_iconst (v := 0) hG d_Schema_isLike_17 rfl ?_
    refine zj_istore_n hG d_Schema_isLike_18 rfl (by decide) rfl rfl ?_
    exact k_Schema_isLikeL hG x y e F.length 0 (by omega) (by simp)
/-- schemas: a field goes -/
theorem k_sc_remove (hG : zOK G) (x : cSc h r F) {p : Int32} (hp : ∃ f ∈ F, f.1 = p) : zJ G 0 m_Rows_remove 0 [some (zA r), some (zI p), none, none] [] h (fun o h' => o = zR0 ∧ ∃ F', cSc h' r F' ∧ F'.Perm (F.filter (fun f => decide (f.1 ≠ p))) ∧ cGr r h h' 0 0) := by
  have nd := sc_nd x
  obtain ⟨rs, x, rfl⟩ := x
  obtain ⟨f, hf, ep⟩ := hp
  obtain ⟨a, ha, rfl⟩ := List.mem_map.mp hf
  refine (k_r_remove hG x ⟨a, ha, ep⟩).mono ?_
  rintro o h' ⟨rfl, l1, a', l2, e1, e2, e3, e4, e5, e6, e7⟩
  refine ⟨rfl, _, ⟨_, e3, rfl⟩, ?_, e4, by omega, by omega, by omega, by omega⟩
  have g : (l1 ++ l2).map (fld h') = (l1 ++ l2).map (fld h) := List.map_congr_left (fun b hb => fld_sr (e5 b (by
    rw [e1]
    rcases List.mem_append.mp hb with q | q
    · exact List.mem_append_left _ q
    · exact List.mem_append_right _ (List.mem_cons_of_mem _ q))))
  rw [g, e1]
  have nd2 : (((l1 ++ a' :: l2).map (fld h)).map (fun f => f.1)).Nodup := by rw [← e1]; exact nd
  rw [List.map_append, List.map_cons, List.map_append, List.map_cons] at nd2
  obtain ⟨n1, n2, n3⟩ := List.nodup_append.mp nd2
  have n2' := List.nodup_cons.mp n2
  have keep : ∀ l : List Nat, (∀ b ∈ l, (fld h b).1 ≠ p) → (l.map (fld h)).filter (fun f => decide (f.1 ≠ p)) = l.map (fld h) := fun l hl => filter_no (fun f hf => by
    obtain ⟨b, hb, rfl⟩ := List.mem_map.mp hf
    exact hl b hb)
  rw [List.map_append, List.map_append, List.map_cons, List.filter_append, List.filter_cons_of_neg (fun g => (of_decide_eq_true g) e2)]
  rw [keep l1 (fun b hb e => ?_), keep l2 (fun b hb e => ?_)]
  · exact n2'.1 (by rw [show (fld h a').1 = p from e2, ← e]; exact List.mem_map.mpr ⟨_, List.mem_map.mpr ⟨b, hb, rfl⟩, rfl⟩)
  · exact n3 _ (List.mem_map.mpr ⟨_, List.mem_map.mpr ⟨b, hb, rfl⟩, rfl⟩) _ List.mem_cons_self (by rw [e]; exact e2.symm)
theorem map_fld {f : Int32 → Int32} {rs : List Nat} : (rs.map (fld h)).map (fun g => f g.1) = rs.map (fun b => f (zi h b 0)) := by rw [List.map_map]; rfl
theorem all_fld {P : Int32 → Prop} {rs : List Nat} (x : ∀ g ∈ rs.map (fld h), P g.1) : ∀ b ∈ rs, P (zi h b 0) := fun b hb => x _ (List.mem_map.mpr ⟨b, hb, rfl⟩)
theorem sc_moved {rs : List Nat} {f : Int32 → Int32} {h' : zH} (x : cRr h 2 r rs) (y : cMoved 2 r rs f h h') : ∃ F', cSc h' r F' ∧ F'.Perm ((rs.map (fld h)).map (fun g => (f g.1, g.2))) ∧ cGr r h h' 0 0 := by
  obtain ⟨rs', e1, e2, e3, e4, e5, e6⟩ := y
  refine ⟨_, ⟨rs', e2, rfl⟩, ?_, e3, by omega, by omega, by omega, by omega⟩
  refine (e1.map _).trans (List.Perm.of_eq ?_)
  rw [List.map_map]
  apply List.map_congr_left
  intro b hb
  obtain ⟨q1, q2, _, _⟩ := e4 b hb
  show fld h' b = (f (fld h b).1, (fld h b).2)
  unfold fld
  rw [q1, q2 1 (by decide), q2 2 (by decide), q2 3 (by decide)]
theorem k_sc_rename (hG : zOK G) (x : cSc h r F) {m : Nat} (hm : m < 2 ^ 28) (n : Int32) (hv : ∀ f ∈ F, cPv (cif m (fun x => cren x m n) f.1)) (hd : (F.map (fun f => cif m (fun x => cren x m n) f.1)).Nodup) :
    zJ G 3 m_Rows_rename 0 [some (zA r), some (zI (nI m)), some (zI n), none] [] h (fun o h' => o = zR0 ∧ ∃ F', cSc h' r F' ∧ F'.Perm (F.map (fun g => (cif m (fun x => cren x m n) g.1, g.2))) ∧ cGr r h h' 0 0) := by
  obtain ⟨rs, x, rfl⟩ := x
  refine (k_r_rename hG x hm n (all_fld (P := fun x => cPv (cif m (fun x => cren x m n) x)) hv) (by rw [map_fld (f := cif m (fun x => cren x m n))] at hd; exact hd)).mono ?_
  rintro o h' ⟨rfl, e⟩
  exact ⟨rfl, sc_moved x e⟩
theorem k_sc_lift (hG : zOK G) (x : cSc h r F) {m : Nat} (hm : m < 2 ^ 28) (hv : ∀ f ∈ F, cPv (cif m (fun x => clif x m) f.1)) (hd : (F.map (fun f => cif m (fun x => clif x m) f.1)).Nodup) :
    zJ G 3 m_Rows_lift 0 [some (zA r), some (zI (nI m)), none] [] h (fun o h' => o = zR0 ∧ ∃ F', cSc h' r F' ∧ F'.Perm (F.map (fun g => (cif m (fun x => clif x m) g.1, g.2))) ∧ cGr r h h' 0 0) := by
  obtain ⟨rs, x, rfl⟩ := x
  refine (k_r_lift hG x hm (all_fld (P := fun x => cPv (cif m (fun x => clif x m) x)) hv) (by rw [map_fld (f := cif m (fun x => clif x m))] at hd; exact hd)).mono ?_
  rintro o h' ⟨rfl, e⟩
  exact ⟨rfl, sc_moved x e⟩
theorem k_sc_inside (hG : zOK G) (x : cSc h r F) {m : Nat} (hm : m < 2 ^ 28) : zJ G 2 m_Rows_inside 0 [some (zA r), some (zI (nI m)), none, none] [] h (fun o h' => o = zR (zI (nI (F.countP (fun f => cnin m f.1)))) ∧ h' = h) := by
  obtain ⟨rs, x, rfl⟩ := x
  have := k_r_inside hG x hm
  rw [List.countP_map]
  exact this
/-- a field written where it stands -/
theorem cSc.set {rs : List Nat} (x : cRr h 2 r rs) {h' : zH} {a : Nat} (ha : a ∈ rs) (ht : zt h' = zt h) (hl : zl h' = zl h) (hz : za h' = za h) (hi : ∀ b, b ≠ a → zi h' b = zi h b) (h0 : zi h' a 0 = zi h a 0) : cSc h' r ((rs.map (fld h)).map (fun f => if f.1 = zi h a 0 then fld h' a else f)) ∧ cRr h' 2 r rs := by
  have ar := (x.ne ha).1
  have x' : cRr h' 2 r rs := x.set ht hl hz (hi r ar.symm) (fun b hb => by
    by_cases e : b = a
    · rw [e, h0]
    · rw [hi b e])
  refine ⟨⟨rs, x', ?_⟩, x'⟩
  rw [List.map_map]
  apply List.map_congr_left
  intro b hb
  show (if (fld h b).1 = zi h a 0 then fld h' a else fld h b) = fld h' b
  by_cases e : b = a
  · rw [e, if_pos (show (fld h a).1 = zi h a 0 from rfl)]
  · rw [if_neg (show ¬ (fld h b).1 = zi h a 0 from fun g => e (x.inj hb ha g))]
    unfold fld
    rw [hi b e]
end SC3
