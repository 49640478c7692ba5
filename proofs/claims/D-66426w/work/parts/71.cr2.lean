/-! PART 71: the component: rows (insert) -/
/-- other references -/
abbrev cSa (h : zH) (A : Nat → Nat → Nat) : zH := (zn h, zs h, zt h, zl h, zi h, A, zj h)
/-- in order -/
def cSo (h : zH) (ks : List Nat) : Prop := ks.Pairwise (fun a b => pk (cPt h a) < pk (cPt h b))
/-- what comes of an insertion -/
def cIn (h : zH) (r k : Nat) (l : List Nat) (h' : zH) : Prop := ∃ (A : Nat → Nat → Nat) (l1 l2 : List Nat), h' = cSa h A ∧ l = l1 ++ l2 ∧ cLs (fun x => A x 1) (A r 0) (l1 ++ k :: l2) ∧ cSo h (l1 ++ k :: l2) ∧
  ∀ a j, A a j = za h a j ∨ a = r ∧ j = 0 ∨ j = 1 ∧ (a = k ∨ a ∈ l)
theorem so_ins {h : zH} {k : Nat} {l1 l2 : List Nat} (hs : cSo h (l1 ++ l2)) (h1 : ∀ j ∈ l1, pk (cPt h j) < pk (cPt h k)) (h2 : ∀ j ∈ l2, pk (cPt h k) < pk (cPt h j)) : cSo h (l1 ++ k :: l2) := by
  unfold cSo at *
  rw [List.pairwise_append] at hs ⊢
  refine ⟨hs.1, List.pairwise_cons.mpr ⟨h2, hs.2.1⟩, ?_⟩
  intro a ha b hb
  rcases List.mem_cons.mp hb with rfl | hb
  · exact h1 a ha
  · exact hs.2.2 a ha b hb
section CR2
variable {G : zG} {h : zH} {K r : Nat}
theorem pk_no {x y : Int32} (hx : cPv x) (hy : cPv y) (hne : x ≠ y) (h : ¬ pk x < pk y) : pk y < pk x := by
  rcases Nat.lt_or_ge (pk y) (pk x) with g | g
  · exact g
  · exact absurd (pk_inj hx hy (by omega)) hne
theorem k_Rows_insertL (hG : zOK G) (hkN : K + 3 = 5 ∨ K + 3 = 6 ∨ K + 3 = 7) (hkR : K = 2 ∨ K = 3 ∨ K = 4) (hr : zt h r = K) {k : Nat} {l : List Nat} (hc : cLs (cNx h) (za h r 0) l) (hnd : (k :: l).Nodup) (hk0 : k ≠ 0) (hkt : ∀ j ∈ k :: l, cKt h (K + 3) j ∧ cPv (cPt h j)) (hso : cSo h l) (hne : ∀ j ∈ l, cPt h j ≠ cPt h k) :
    ∀ (t l1 : List Nat) (c : Nat), l = l1 ++ c :: t → (∀ j ∈ l1 ++ [c], pk (cPt h j) < pk (cPt h k)) → zJ G 1 m_Rows_insert 49 [some (zA r), some (zA k), some (zA c)] [] h (fun o h' => o = zR0 ∧ cIn h r k l h') := by
  obtain ⟨kk, kp⟩ := hkt k List.mem_cons_self
  obtain ⟨kk1, kk2⟩ := kk
  have hnd' : k ∉ l ∧ l.Nodup := List.nodup_cons.mp hnd
  -- the end: the knot goes behind c
  have fin : ∀ (t l1 : List Nat) (c : Nat), l = l1 ++ c :: t → (∀ j ∈ l1 ++ [c], pk (cPt h j) < pk (cPt h k)) → (∀ j ∈ t, pk (cPt h k) < pk (cPt h j)) → zJ G 1 m_Rows_insert 87 [some (zA r), some (zA k), some (zA c)] [] h (fun o h' => o = zR0 ∧ cIn h r k l h') := by
    intro t l1 c hl h1 h2
    have cm : c ∈ l := by rw [hl]; exact List.mem_append_right _ List.mem_cons_self
    obtain ⟨⟨c1, c2⟩, cp⟩ := hkt c (List.mem_cons_of_mem _ cm)
    have ckn : c ≠ k := fun e => hnd'.1 (by rw [← e]; exact cm)
    refine zj_aload_n hG d_Rows_insert_87 rfl rfl ?_
    refine zj_aload_n hG d_Rows_insert_88 rfl rfl ?_
    refine zj_getA hG d_Rows_insert_89 f_Rows_25 (by assumption) rfl ?_
    refine zj_putA hG d_Rows_insert_92 f_Rows_25 (by assumption) rfl (Or.inl rfl) ?_
    refine zj_aload_n hG d_Rows_insert_95 rfl rfl ?_
    refine zj_aload_n hG d_Rows_insert_96 rfl rfl ?_
    refine zj_putA hG d_Rows_insert_97 f_Rows_25 (by assumption) rfl (Or.inl rfl) ?_
    refine zj_vret hG d_Rows_insert_100 rfl ⟨rfl, zu (zu (za h) k 1 (za h c 1)) c 1 k, l1 ++ [c], t, rfl, by rw [hl]; simp, ?_, ?_, ?_⟩
    · have r0 : zu (zu (za h) k 1 (za h c 1)) c 1 k r 0 = za h r 0 := by rw [zu_k (by decide), zu_k (by decide)]
      rw [r0]
      rw [hl] at hc hnd'
      have := hc.ins (g := fun x => zu (zu (za h) k 1 (za h c 1)) c 1 k x 1) hnd'.2 hk0 (fun x hx hxc => ?_) zu_s ?_
      · simpa using this
      · show zu (zu (za h) k 1 (za h c 1)) c 1 k x 1 = za h x 1
        rw [zu_a hxc, zu_a (fun e => hnd'.1 (by rw [← e]; exact hx))]
      · show zu (zu (za h) k 1 (za h c 1)) c 1 k k 1 = za h c 1
        rw [zu_a ckn.symm, zu_s]
    · rw [hl] at hso
      exact so_ins (by simpa using hso) h1 h2
    · intro a j
      by_cases e1 : a = c ∧ j = 1
      · exact Or.inr (Or.inr ⟨e1.2, Or.inr (by rw [e1.1]; exact cm)⟩)
      by_cases e2 : a = k ∧ j = 1
      · exact Or.inr (Or.inr ⟨e2.2, Or.inl e2.1⟩)
      left
      unfold zu
      rw [if_neg e1, if_neg e2]
  intro t
  induction t with
  | nil =>
    intro l1 c hl h1
    have cm : c ∈ l := by rw [hl]; exact List.mem_append_right _ List.mem_cons_self
    obtain ⟨⟨c1, c2⟩, cp⟩ := hkt c (List.mem_cons_of_mem _ cm)
    rw [hl] at hc
    have hz : za h c 1 = 0 := hc.at.2
    refine zj_aload_n hG d_Rows_insert_49 rfl rfl ?_
    refine zj_getA hG d_Rows_insert_50 f_Rows_25 (by assumption) rfl ?_
    refine zj_ifnull (tgt := 87) hG d_Rows_insert_53 (by decide) (fun _ => ?_) (fun c => absurd hz c)
    exact fin [] l1 c hl h1 (fun j hj => by cases hj)
  | cons e t ih =>
    intro l1 c hl h1
    have cm : c ∈ l := by rw [hl]; exact List.mem_append_right _ List.mem_cons_self
    have em : e ∈ l := by rw [hl]; exact List.mem_append_right _ (List.mem_cons_of_mem _ List.mem_cons_self)
    obtain ⟨⟨c1, c2⟩, cp⟩ := hkt c (List.mem_cons_of_mem _ cm)
    obtain ⟨⟨e1, e2⟩, ep⟩ := hkt e (List.mem_cons_of_mem _ em)
    have hc' := hc
    rw [hl] at hc'
    obtain ⟨hz, e0, _⟩ := hc'.at.2
    have hz : za h c 1 = e := hz
    have hso' := hso
    rw [hl] at hso'
    unfold cSo at hso'
    rw [List.pairwise_append] at hso'
    refine zj_aload_n hG d_Rows_insert_49 rfl rfl ?_
    refine zj_getA hG d_Rows_insert_50 f_Rows_25 (by assumption) rfl ?_
    rw [hz]
    refine zj_ifnull (tgt := 87) hG d_Rows_insert_53 (by decide) (fun c => absurd c e0) (fun _ => ?_)
    refine zj_aload_n hG d_Rows_insert_56 rfl rfl ?_
    refine zj_getA hG d_Rows_insert_57 f_Rows_25 c1 rfl ?_
    rw [hz]
    refine zj_getA hG d_Rows_insert_60 f_Rows_13 (by assumption) rfl ?_
    refine zj_getI hG d_Rows_insert_63 (f_Rows_19 hkN) e2 (zM_19 hkN).1 ?_
    refine zj_aload_n hG d_Rows_insert_66 rfl rfl ?_
    refine zj_getA hG d_Rows_insert_67 f_Rows_13 (by assumption) rfl ?_
    refine zj_getI hG d_Rows_insert_70 (f_Rows_19 hkN) kk2 (zM_19 hkN).1 ?_
    refine zj_callR (y' := m_Paths_compare) hG (zcS (as := [_, _]) hG d_Rows_insert_73 c_Paths_compare (z_w2 238 rfl) (z_w2 239 rfl) (z_w1 16 rfl) ⟨by decide, by decide⟩ (show _ = some 2 from by decide +kernel) rfl) c_Paths_compare rfl (by omega) rfl (z_le rfl) (z_le rfl) (k_PathsC hG ep kp _) ?_
    refine zj_if_ge (tgt := 87) hG d_Rows_insert_76 (by decide) (fun c76 => ?_) (fun c76 => ?_)
    · refine fin (e :: t) l1 c hl h1 (fun j hj => ?_)
      have g0 : ¬ pk (cPt h e) < pk (cPt h k) := fun g => absurd ((ccm_pk ep kp).mpr g) (Int32.not_lt.mpr c76)
      have g1 := pk_no ep kp (hne e em) g0
      rcases List.mem_cons.mp hj with rfl | hj
      · exact g1
      · have := (List.pairwise_cons.mp (List.pairwise_cons.mp hso'.2.1).2).1 j hj
        omega
    · have g1 : pk (cPt h e) < pk (cPt h k) := (ccm_pk ep kp).mp (Int32.not_le.mp c76)
      refine zj_aload_n hG d_Rows_insert_79 rfl rfl ?_
      refine zj_getA hG d_Rows_insert_80 f_Rows_25 c1 rfl ?_
      rw [hz]
      refine zj_astore_n hG d_Rows_insert_83 rfl (by decide) rfl rfl ?_
      refine zj_goto (tgt := 49) hG d_Rows_insert_84 (by decide) ?_
      refine ih (l1 ++ [c]) e (by rw [hl]; simp) (fun j hj => ?_)
      rcases List.mem_append.mp hj with hj | hj
      · exact h1 j hj
      · rw [List.mem_singleton.mp hj]; exact g1
theorem k_Rows_insert (hG : zOK G) (hkR : K = 2 ∨ K = 3 ∨ K = 4) (hr : zt h r = K) {k : Nat} {l : List Nat} (hc : cLs (cNx h) (za h r 0) l) (hnd : (k :: l).Nodup) (hk0 : k ≠ 0) (hkt : ∀ j ∈ k :: l, cKt h (K + 3) j ∧ cPv (cPt h j)) (hso : cSo h l) (hne : ∀ j ∈ l, cPt h j ≠ cPt h k) :
    zJ G 1 m_Rows_insert 0 [some (zA r), some (zA k), none] [] h (fun o h' => o = zR0 ∧ cIn h r k l h') := by
  have hkN : K + 3 = 5 ∨ K + 3 = 6 ∨ K + 3 = 7 := by omega
  obtain ⟨⟨kk1, kk2⟩, kp⟩ := hkt k List.mem_cons_self
  have hnd' : k ∉ l ∧ l.Nodup := List.nodup_cons.mp hnd
  have hrk : r ≠ k := fun e => by rw [e, kk1] at hr; omega
  -- the knot becomes the first one
  have fin : (∀ j ∈ l, pk (cPt h k) < pk (cPt h j)) → zJ G 1 m_Rows_insert 30 [some (zA r), some (zA k), none] [] h (fun o h' => o = zR0 ∧ cIn h r k l h') := by
    intro h2
    refine zj_aload_n hG d_Rows_insert_30 rfl rfl ?_
    refine zj_aload_n hG d_Rows_insert_31 rfl rfl ?_
    refine zj_getA hG d_Rows_insert_32 (f_Rows_7 hkR) (by assumption) (zM_7 hkR).1 ?_
    refine zj_putA hG d_Rows_insert_35 f_Rows_25 (by assumption) rfl (Or.inl rfl) ?_
    refine zj_aload_n hG d_Rows_insert_38 rfl rfl ?_
    refine zj_aload_n hG d_Rows_insert_39 rfl rfl ?_
    refine zj_putA hG d_Rows_insert_40 (f_Rows_7 hkR) (by assumption) (zM_7 hkR).1 (Or.inl (zM_7 hkR).2) ?_
    refine zj_vret hG d_Rows_insert_43 rfl ⟨rfl, zu (zu (za h) k 1 (za h r 0)) r 0 k, [], l, rfl, rfl, ?_, so_ins (l1 := []) hso (fun j hj => by cases hj) h2, ?_⟩
    · refine ⟨zu_s, hk0, ?_⟩
      show cLs (fun x => zu (zu (za h) k 1 (za h r 0)) r 0 k x 1) (zu (zu (za h) k 1 (za h r 0)) r 0 k k 1) l
      rw [zu_k (by decide), zu_s]
      refine hc.congr (fun x hx => ?_)
      show zu (zu (za h) k 1 (za h r 0)) r 0 k x 1 = za h x 1
      rw [zu_k (by decide), zu_a (fun e => hnd'.1 (by rw [← e]; exact hx))]
    · intro a j
      by_cases e1 : a = r ∧ j = 0
      · exact Or.inr (Or.inl e1)
      by_cases e2 : a = k ∧ j = 1
      · exact Or.inr (Or.inr ⟨e2.2, Or.inl e2.1⟩)
      left
      unfold zu
      rw [if_neg e1, if_neg e2]
  refine zj_aload_n hG d_Rows_insert_0 rfl rfl ?_
  refine zj_getA hG d_Rows_insert_1 (f_Rows_7 hkR) (by assumption) (zM_7 hkR).1 ?_
  cases hl : l with
  | nil =>
    rw [hl] at hc
    have hz : za h r 0 = 0 := hc
    refine zj_ifnull (tgt := 30) hG d_Rows_insert_4 (by decide) (fun _ => ?_) (fun c => absurd hz c)
    rw [← hl]
    exact fin (fun j hj => by rw [hl] at hj; cases hj)
  | cons e t =>
    have hc' := hc
    rw [hl] at hc'
    obtain ⟨hz, e0, _⟩ := hc'
    have em : e ∈ l := by rw [hl]; exact List.mem_cons_self
    obtain ⟨⟨e1, e2⟩, ep⟩ := hkt e (List.mem_cons_of_mem _ em)
    rw [← hl]
    rw [hz]
    refine zj_ifnull (tgt := 30) hG d_Rows_insert_4 (by decide) (fun c => absurd c e0) (fun _ => ?_)
    refine zj_aload_n hG d_Rows_insert_7 rfl rfl ?_
    refine zj_getA hG d_Rows_insert_8 f_Rows_13 (by assumption) rfl ?_
    refine zj_getI hG d_Rows_insert_11 (f_Rows_19 hkN) kk2 (zM_19 hkN).1 ?_
    refine zj_aload_n hG d_Rows_insert_14 rfl rfl ?_
    refine zj_getA hG d_Rows_insert_15 (f_Rows_7 hkR) hr (zM_7 hkR).1 ?_
    rw [hz]
    refine zj_getA hG d_Rows_insert_18 f_Rows_13 (by assumption) rfl ?_
    refine zj_getI hG d_Rows_insert_21 (f_Rows_19 hkN) e2 (zM_19 hkN).1 ?_
    refine zj_callR (y' := m_Paths_compare) hG (zcS (as := [_, _]) hG d_Rows_insert_24 c_Paths_compare (z_w2 238 rfl) (z_w2 239 rfl) (z_w1 16 rfl) ⟨by decide, by decide⟩ (show _ = some 2 from by decide +kernel) rfl) c_Paths_compare rfl (by omega) rfl (z_le rfl) (z_le rfl) (k_PathsC hG kp ep _) ?_
    refine zj_if_ge (tgt := 44) hG d_Rows_insert_27 (by decide) (fun c27 => ?_) (fun c27 => ?_)
    · have g0 : ¬ pk (cPt h k) < pk (cPt h e) := fun g => absurd ((ccm_pk kp ep).mpr g) (Int32.not_lt.mpr c27)
      have g1 := pk_no kp ep (fun q => hne e em q.symm) g0
      refine zj_aload_n hG d_Rows_insert_44 rfl rfl ?_
      refine zj_getA hG d_Rows_insert_45 (f_Rows_7 hkR) hr (zM_7 hkR).1 ?_
      rw [hz]
      refine zj_astore_n hG d_Rows_insert_48 rfl (by decide) rfl rfl ?_
      exact k_Rows_insertL hG hkN hkR hr hc hnd hk0 hkt hso hne t [] e (by rw [hl]; rfl) (fun j hj => by rw [List.mem_singleton.mp hj]; exact g1)
    · have g1 : pk (cPt h k) < pk (cPt h e) := (ccm_pk kp ep).mp (Int32.not_le.mp c27)
      refine fin (fun j hj => ?_)
      have hso' := hso
      rw [hl] at hso' hj
      rcases List.mem_cons.mp hj with rfl | hj
      · exact g1
      · have := (List.pairwise_cons.mp hso').1 j hj
        omega
end CR2
