/-! PART 77: the component: schemas -/
/-- a field as it stands in its row -/
def fld (h : zH) (a : Nat) : tFd := (zi h a 0, zi h a 1, zi h a 2, zi h a 3)
def cSc (h : zH) (r : Nat) (F : List tFd) : Prop := ∃ rs, cRr h 2 r rs ∧ F = rs.map (fld h)
/-- only r's cells have changed, and this much has been made -/
def cGr (r : Nat) (h h' : zH) (n s : Nat) : Prop := cFr r h h' ∧ zn h ≤ zn h' ∧ zn h' ≤ zn h + n ∧ zs h ≤ zs h' ∧ zs h' ≤ zs h + s
theorem cGr.rfl' {r : Nat} {h : zH} : cGr r h h 0 0 := ⟨cFr.rfl', Nat.le_refl _, Nat.le_refl _, Nat.le_refl _, Nat.le_refl _⟩
theorem cGr.trans {r n s n' s' : Nat} {h h1 h2 : zH} (x : cGr r h h1 n s) (y : cGr r h1 h2 n' s') : cGr r h h2 (n + n') (s + s') := by
  obtain ⟨a1, a2, a3, a4, a5⟩ := x
  obtain ⟨b1, b2, b3, b4, b5⟩ := y
  exact ⟨a1.trans b1, by omega, by omega, by omega, by omega⟩
theorem cGr.mono {r n s n' s' : Nat} {h h1 : zH} (x : cGr r h h1 n s) (hn : n ≤ n') (hs : s ≤ s') : cGr r h h1 n' s' := by
  obtain ⟨a1, a2, a3, a4, a5⟩ := x
  exact ⟨a1, a2, by omega, a4, by omega⟩
section SC1
variable {G : zG} {h : zH} {r : Nat} {F : List tFd}
theorem cSc.f (x : cSc h r F) : zt h r = 2 ∧ za h r 1000 = r ∧ zi h r 2 = nI F.length ∧ F.length ≤ 100 ∧ (∀ f ∈ F, cPv f.1) ∧ sSo F := by
  obtain ⟨rs, x, rfl⟩ := x
  obtain ⟨f1, f2, f3, f4, f5, f6, f7⟩ := x.f
  refine ⟨f2, f3, by rw [List.length_map]; exact f4, by rw [List.length_map]; exact f5, fun f hf => ?_, ?_⟩
  · obtain ⟨a, ha, rfl⟩ := List.mem_map.mp hf
    exact (f6 a ha).2
  · unfold sSo
    rw [List.pairwise_map]; exact f7
theorem fld_sr {h' : zH} {a : Nat} (x : cSr 2 h h' a) : fld h' a = fld h a := by unfold fld; rw [x.1]
theorem cSc.fr {h' : zH} (x : cSc h r F) (e : ∀ a, zt h a ≠ 0 → za h a 1000 = r → cSm h h' a) : cSc h' r F := by
  obtain ⟨rs, x, rfl⟩ := x
  obtain ⟨x', sr⟩ := x.sm e
  exact ⟨rs, x', List.map_congr_left (fun a ha => (fld_sr (sr a ha)).symm)⟩
theorem cSc.fr2 {h' : zH} {r' : Nat} (x : cSc h r F) (hne : r ≠ r') (e : cFr r' h h') : cSc h' r F := x.fr (fun a h1 h2 => e a h1 (by rw [h2]; exact hne))
theorem sc_nd (x : cSc h r F) : (F.map (fun f => f.1)).Nodup := by
  unfold List.Nodup
  rw [List.pairwise_map]
  refine x.f.2.2.2.2.2.imp ?_
  intro a b g e
  rw [e] at g
  omega
theorem k_sc_at (hG : zOK G) (x : cSc h r F) (p : Int32) : zJ G 0 m_Rows_at 0 [some (zA r), some (zI p), none] [] h (fun o h' => ∃ v, o = zR v ∧ ∃ a, v = zA a ∧ h' = h ∧ (a = 0 ∧ (∀ f ∈ F, f.1 ≠ p) ∨ a ≠ 0 ∧ zt h a = 5 ∧ fld h a ∈ F ∧ zi h a 0 = p)) := by
  obtain ⟨rs, x, rfl⟩ := x
  refine (k_r_at hG x p).mono ?_
  rintro o h' ⟨v, rfl, a, rfl, rfl, g⟩
  refine ⟨_, rfl, a, rfl, rfl, ?_⟩
  rcases g with ⟨g1, g2⟩ | ⟨g1, g2, g3⟩
  · left
    refine ⟨g1, fun f hf => ?_⟩
    obtain ⟨b, hb, rfl⟩ := List.mem_map.mp hf
    exact g2 b hb
  · right
    exact ⟨g1, (x.f.2.2.2.2.2.1 a g2).1.1, List.mem_map.mpr ⟨a, g2, rfl⟩, g3⟩
theorem k_Schema_isSort (hG : zOK G) (x : cSc h r F) (p s : Int32) : zJ G 1 m_Schema_isSort 0 [some (zA r), some (zI p), some (zI s), none] [] h (fun o h' => ∃ v, o = zR v ∧ ∃ b : Bool, v = zI (tb b) ∧ h' = h ∧ (b = true ↔ ∃ f ∈ F, f.1 = p ∧ f.2.1 = s)) := by
  have hr := x.f.1
  refine zj_aload_n hG d_Schema_isSort_0 rfl rfl ?_
  refine zj_iload_n hG d_Schema_isSort_1 rfl rfl ?_
  refine zj_callA (y' := m_Rows_at) hG (zcU (as := [_]) (owner := "LensPaths$Rows") hG d_Schema_isSort_2 c_Rows_at (z_w2 86 rfl) (z_w2 87 rfl) (z_w2 88 rfl) (z_w2 90 rfl) (z_w2 89 rfl) ⟨by decide, by decide⟩ hr (by decide) (by decide) (show _ = some 1 from by decide +kernel) rfl) c_Rows_at rfl (by omega) rfl (z_le rfl) (z_le rfl) (k_sc_at hG x p) (fun v2 h2 e2 => ?_)
  obtain ⟨a, rfl, rfl, ha⟩ := e2
  rcases ha with ⟨rfl, hno⟩ | ⟨a0, a5, af, ap⟩
  · refine zj_cast (k := 5) hG d_Schema_isSort_5 (z_w2 105 rfl) (by decide) (by decide) (fun e => absurd rfl e) ?_
    refine zj_astore_n hG d_Schema_isSort_8 rfl (by decide) rfl rfl ?_
    refine zj_aload_n hG d_Schema_isSort_9 rfl rfl ?_
    refine zj_ifnull (tgt := 25) hG d_Schema_isSort_10 (by decide) (fun _ => ?_) (fun c => absurd rfl c)
    refine zj_iconst (v := 0) hG d_Schema_isSort_25 rfl ?_
    exact zj_iret hG d_Schema_isSort_26 rfl rfl ⟨_, rfl, false, rfl, rfl, ⟨fun e => (by cases e), fun ⟨f, hf, e, _⟩ => absurd e (hno f hf)⟩⟩
  · refine zj_cast (k := 5) hG d_Schema_isSort_5 (z_w2 105 rfl) (by decide) (by decide) (fun _ => a5) ?_
    refine zj_astore_n hG d_Schema_isSort_8 rfl (by decide) rfl rfl ?_
    refine zj_aload_n hG d_Schema_isSort_9 rfl rfl ?_
    refine zj_ifnull (tgt := 25) hG d_Schema_isSort_10 (by decide) (fun c => absurd c a0) (fun _ => ?_)
    refine zj_aload_n hG d_Schema_isSort_13 rfl rfl ?_
    refine zj_getI hG d_Schema_isSort_14 f_Schema_18 (by assumption) rfl ?_
    refine zj_iload_n hG d_Schema_isSort_17 rfl rfl ?_
    have key : (∃ f ∈ F, f.1 = p ∧ f.2.1 = s) ↔ zi h2 a 1 = s := by
      constructor
      · rintro ⟨f, hf, e1, e2⟩
        have := fd_eq (sc_nd x) hf af (by rw [e1]; exact ap.symm)
        rw [this] at e2
        exact e2
      · intro e
        exact ⟨_, af, ap, e⟩
    refine zj_icmp_ne (tgt := 25) hG d_Schema_isSort_18 (by decide) (fun c18 => ?_) (fun c18 => ?_)
    · refine zj_iconst (v := 0) hG d_Schema_isSort_25 rfl ?_
      exact zj_iret hG d_Schema_isSort_26 rfl rfl ⟨_, rfl, false, rfl, rfl, ⟨fun e => (by cases e), fun e => absurd (key.mp e) c18⟩⟩
    · refine zj_iconst (v := 1) hG d_Schema_isSort_21 rfl ?_
      refine zj_goto (tgt := 26) hG d_Schema_isSort_22 (by decide) ?_
      exact zj_iret hG d_Schema_isSort_26 rfl rfl ⟨_, rfl, true, rfl, rfl, ⟨fun _ => key.mpr c18, fun _ => rfl⟩⟩
/-- a field may come to a path -/
def cfree (F : List tFd) (p : Int32) : Prop := (cright p = true ∧ p ≠ 0) ∧ (∀ f ∈ F, f.1 ≠ p) ∧ F.length < 24 ∧ fpar F (pnat p)
theorem k_Schema_isFree (hG : zOK G) (x : cSc h r F) (p : Int32) : zJ G 2 m_Schema_isFree 0 [some (zA r), some (zI p), none] [] h (fun o h' => ∃ v, o = zR v ∧ ∃ b : Bool, v = zI (tb b) ∧ h' = h ∧ (b = true ↔ cfree F p)) := by
  obtain ⟨hr, ho, hm, hl, hpv, hso⟩ := x.f
  have no1 : ¬ cfree F p → zJ G 2 m_Schema_isFree 61 [some (zA r), some (zI p), some (zI 0)] [] h (fun o h' => ∃ v, o = zR v ∧ ∃ b : Bool, v = zI (tb b) ∧ h' = h ∧ (b = true ↔ cfree F p)) := by
    intro g
    refine zj_iconst (v := 0) hG d_Schema_isFree_61 rfl ?_
    exact zj_iret hG d_Schema_isFree_62 rfl rfl ⟨_, rfl, false, rfl, rfl, ⟨fun e => (by cases e), fun e => absurd e g⟩⟩
  have no : ¬ cfree F p → zJ G 2 m_Schema_isFree 32 [some (zA r), some (zI p), none] [] h (fun o h' => ∃ v, o = zR v ∧ ∃ b : Bool, v = zI (tb b) ∧ h' = h ∧ (b = true ↔ cfree F p)) := by
    intro g
    refine zj_iconst (v := 0) hG d_Schema_isFree_32 rfl ?_
    refine zj_istore_n hG d_Schema_isFree_33 rfl (by decide) rfl rfl ?_
    refine zj_iload_n hG d_Schema_isFree_34 rfl rfl ?_
    refine zj_if_eq (tgt := 61) hG d_Schema_isFree_35 (by decide) (fun _ => ?_) (fun c => absurd rfl c)
    exact no1 g
  refine zj_iload_n hG d_Schema_isFree_0 rfl rfl ?_
  refine zj_callR (y' := m_Paths_isRight) hG (zcS (as := [_]) hG d_Schema_isFree_1 c_Paths_isRight (z_w2 83 rfl) (z_w2 84 rfl) (z_w1 16 rfl) ⟨by decide, by decide⟩ (show _ = some 1 from by decide +kernel) rfl) c_Paths_isRight rfl (by omega) rfl (z_le rfl) (z_le rfl) (k_Paths_isRight hG _ _) ?_
  rcases hc : cright p with _ | _
  · refine zj_if_eq (tgt := 32) hG d_Schema_isFree_4 (by decide) (fun _ => ?_) (fun c => absurd rfl c)
    exact no (fun g => by have := g.1.1; rw [hc] at this; cases this)
  refine zj_if_eq (tgt := 32) hG d_Schema_isFree_4 (by decide) (fun c => absurd c (by decide)) (fun _ => ?_)
  refine zj_iload_n hG d_Schema_isFree_7 rfl rfl ?_
  refine zj_if_eq (tgt := 32) hG d_Schema_isFree_8 (by decide) (fun c8 => ?_) (fun c8 => ?_)
  · exact no (fun g => g.1.2 c8)
  obtain ⟨p0, po⟩ := cright_nok.mp ⟨hc, c8⟩
  refine zj_aload_n hG d_Schema_isFree_11 rfl rfl ?_
  refine zj_iload_n hG d_Schema_isFree_12 rfl rfl ?_
  refine zj_callA (y' := m_Rows_at) hG (zcU (as := [_]) (owner := "LensPaths$Rows") hG d_Schema_isFree_13 c_Rows_at (z_w2 86 rfl) (z_w2 87 rfl) (z_w2 88 rfl) (z_w2 90 rfl) (z_w2 89 rfl) ⟨by decide, by decide⟩ hr (by decide) (by decide) (show _ = some 1 from by decide +kernel) rfl) c_Rows_at rfl (by omega) rfl (z_le rfl) (z_le rfl) (k_sc_at hG x p) (fun v13 h13 e13 => ?_)
  obtain ⟨a, rfl, rfl, ha⟩ := e13
  rcases ha with ⟨rfl, hno⟩ | ⟨a0, a5, af, ap⟩
  rotate_left
  · refine zj_ifnonnull (tgt := 32) hG d_Schema_isFree_16 (by decide) (fun _ => ?_) (fun c => absurd c a0)
    exact no (fun g => g.2.1 _ af ap)
  refine zj_ifnonnull (tgt := 32) hG d_Schema_isFree_16 (by decide) (fun c => absurd rfl c) (fun _ => ?_)
  refine zj_aload_n hG d_Schema_isFree_19 rfl rfl ?_
  refine zj_getI hG d_Schema_isFree_20 f_Schema_31 (by assumption) rfl ?_
  refine zj_bipush (v := 24) hG d_Schema_isFree_23 rfl ?_
  rw [hm]
  refine zj_icmp_ge (tgt := 32) hG d_Schema_isFree_25 (by decide) (fun c25 => ?_) (fun c25 => ?_)
  · refine no (fun g => ?_)
    exact nI_ge (a := F.length) (b := 24) g.2.2.1 (by omega) c25
  have hl24 : F.length < 24 := by
    rcases Nat.lt_or_ge F.length 24 with g | g
    · exact g
    · exact absurd (nI_le (a := 24) g (by omega)) c25
  have ep := pnat_eq p0
  have hpar : cpar (pnat p) = nI (npar (pnat p)) := cpar_n po.1 po.2.2
  have npl : npar (pnat p) < 2 ^ 31 := by have := npar_lt po; have := po.1; omega
  refine zj_iconst (v := 1) hG d_Schema_isFree_28 rfl ?_
  refine zj_goto (tgt := 33) hG d_Schema_isFree_29 (by decide) ?_
  refine zj_istore_n hG d_Schema_isFree_33 rfl (by decide) rfl rfl ?_
  refine zj_iload_n hG d_Schema_isFree_34 rfl rfl ?_
  refine zj_if_eq (tgt := 61) hG d_Schema_isFree_35 (by decide) (fun c => absurd c (by decide)) (fun _ => ?_)
  refine zj_iload_n hG d_Schema_isFree_38 rfl rfl ?_
  rw [ep]
  refine zj_callR (y' := m_Paths_parent) hG (zcS (as := [_]) hG d_Schema_isFree_39 c_Paths_parent (z_w2 92 rfl) (z_w2 93 rfl) (z_w1 16 rfl) ⟨by decide, by decide⟩ (show _ = some 1 from by decide +kernel) rfl) c_Paths_parent rfl (by omega) rfl (z_le rfl) (z_le rfl) (k_Paths_parent hG po.1 _) ?_
  rw [hpar, ← ep]
  have yes : fpar F (pnat p) → zJ G 2 m_Schema_isFree 57 [some (zA r), some (zI p), some (zI 1)] [] h13 (fun o h' => ∃ v, o = zR v ∧ ∃ b : Bool, v = zI (tb b) ∧ h' = h13 ∧ (b = true ↔ cfree F p)) := by
    intro g
    refine zj_iconst (v := 1) hG d_Schema_isFree_57 rfl ?_
    refine zj_goto (tgt := 62) hG d_Schema_isFree_58 (by decide) ?_
    exact zj_iret hG d_Schema_isFree_62 rfl rfl ⟨_, rfl, true, rfl, rfl, ⟨fun _ => ⟨⟨hc, c8⟩, hno, hl24, g⟩, fun _ => rfl⟩⟩
  refine zj_if_eq (tgt := 57) hG d_Schema_isFree_42 (by decide) (fun c42 => ?_) (fun c42 => ?_)
  · exact yes (Or.inl (by have := congrArg pnat c42; rw [pnat_n npl] at this; exact this))
  refine zj_aload_n hG d_Schema_isFree_45 rfl rfl ?_
  refine zj_iload_n hG d_Schema_isFree_46 rfl rfl ?_
  rw [ep]
  refine zj_callR (y' := m_Paths_parent) hG (zcS (as := [_]) hG d_Schema_isFree_47 c_Paths_parent (z_w2 92 rfl) (z_w2 93 rfl) (z_w1 16 rfl) ⟨by decide, by decide⟩ (show _ = some 1 from by decide +kernel) rfl) c_Paths_parent rfl (by omega) rfl (z_le rfl) (z_le rfl) (k_Paths_parent hG po.1 _) ?_
  rw [hpar, ← ep]
  refine zj_iconst (v := 2) hG d_Schema_isFree_50 rfl ?_
  refine zj_callA (y' := m_Schema_isSort) hG (zcV (as := [_, _]) hG d_Schema_isFree_51 c_Schema_isSort (z_w2 101 rfl) (z_w2 102 rfl) (z_w2 103 rfl) ⟨by decide, by decide⟩ hr (by decide) (by decide) (show _ = some 2 from by decide +kernel) rfl) c_Schema_isSort rfl (by omega) rfl (z_le rfl) (z_le rfl) (k_Schema_isSort hG x (nI (npar (pnat p))) 2) (fun v51 h51 e51 => ?_)
  obtain ⟨b, rfl, rfl, hb⟩ := e51
  rcases b with _ | _
  · refine zj_if_eq (tgt := 61) hG d_Schema_isFree_54 (by decide) (fun _ => ?_) (fun c => absurd rfl c)
    refine zj_iconst (v := 0) hG d_Schema_isFree_61 rfl ?_
    refine zj_iret hG d_Schema_isFree_62 rfl rfl ⟨_, rfl, false, rfl, rfl, ⟨fun e => (by cases e), fun e => ?_⟩⟩
    rcases e.2.2.2 with g | g
    · exact absurd (by rw [g]; rfl) c42
    · exact absurd (hb.mpr g) (by decide)
  · refine zj_if_eq (tgt := 61) hG d_Schema_isFree_54 (by decide) (fun c => absurd c (by decide)) (fun _ => ?_)
    exact yes (Or.inr (hb.mp rfl))
theorem k_Schema_add (hG : zOK G) (x : cSc h r F) (hl : F.length < 100) {p : Int32} (hp : cPv p) (hno : ∀ f ∈ F, f.1 ≠ p) (s a b : Int32) (hn : zn h + 5 ≤ g0 G + 603072) (hs : zs h + 20 ≤ 7211114) :
    zJ G 7 m_Schema_add 0 [some (zA r), some (zI p), some (zI s), some (zI a), some (zI b), none] [] h (fun o h' => o = zR0 ∧ ∃ F', cSc h' r F' ∧ F'.Perm ((p, s, (if s = 2 then 0 else a), (if s = 2 then 0 else b)) :: F) ∧ cGr r h h' 3 12) := by
  obtain ⟨rs, x, rfl⟩ := x
  have hr := x.f.2.1
  refine zj_aload_n hG d_Schema_add_0 rfl rfl ?_
  refine zj_iload_n hG d_Schema_add_1 rfl rfl ?_
  refine zj_callA (y' := m_Rows_add) hG (zcU (as := [_]) (owner := "LensPaths$Rows") hG d_Schema_add_2 c_Rows_add (z_w2 129 rfl) (z_w2 130 rfl) (z_w2 131 rfl) (z_w2 133 rfl) (z_w2 132 rfl) ⟨by decide, by decide⟩ hr (by decide) (by decide) (show _ = some 1 from by decide +kernel) rfl) c_Rows_add rfl (by omega) rfl (z_le rfl) (z_le rfl) (k_r_add hG x (by simpa using hl) hp (fun b hb => hno _ (List.mem_map.mpr ⟨b, hb, rfl⟩)) hn hs) (fun v2 h2 e2 => ?_)
  obtain ⟨q, l1, l2, rfl, e1, e2, x', e4, e5, e6, e7, e8⟩ := e2
  have qm : q ∈ l1 ++ q :: l2 := List.mem_append_right _ List.mem_cons_self
  have q5 : zt h2 q = 5 := (x'.f.2.2.2.2.2.1 q qm).1.1
  have qr := (x'.ne qm).1
  have fin : ∀ (lo hi : Int32), zJ G 7 m_Schema_add 47 [some (zA r), some (zI p), some (zI s), some (zI a), some (zI b), some (zA q)] [] (zsi (zsi (zsi h2 q 1 s) q 2 lo) q 3 hi) (fun o h' => o = zR0 ∧ ∃ F', cSc h' r F' ∧ F'.Perm ((p, s, lo, hi) :: rs.map (fld h)) ∧ cGr r h h' 3 12) := by
    intro lo hi
    have zo : ∀ b, b ≠ q → zi (zsi (zsi (zsi h2 q 1 s) q 2 lo) q 3 hi) b = zi h2 b := fun b e => by funext j; simp [zi, zu, e]
    have zq0 : zi (zsi (zsi (zsi h2 q 1 s) q 2 lo) q 3 hi) q 0 = p := by rw [← e4]; simp [zi, zu]
    have x2 : cRr (zsi (zsi (zsi h2 q 1 s) q 2 lo) q 3 hi) 2 r (l1 ++ q :: l2) := x'.set rfl rfl rfl (zo r qr.symm) (fun b hb => by
      by_cases e : b = q
      · rw [e, zq0, e4]
      · rw [zo b e])
    refine zj_vret hG d_Schema_add_47 rfl ⟨rfl, _, ⟨_, x2, rfl⟩, ?_, ?_, e8⟩
    · rw [List.map_append, List.map_cons]
      have fq : fld (zsi (zsi (zsi h2 q 1 s) q 2 lo) q 3 hi) q = (p, s, lo, hi) := by
        unfold fld
        rw [zq0]
        simp [zi, zu]
      have fo : ∀ b ∈ rs, fld (zsi (zsi (zsi h2 q 1 s) q 2 lo) q 3 hi) b = fld h b := fun b hb => by
        unfold fld
        rw [zo b (fun e => e2 (by rw [← e]; exact hb)), (e7 b hb).1]
      rw [fq, e1, List.map_append]
      have g1 : l1.map (fld (zsi (zsi (zsi h2 q 1 s) q 2 lo) q 3 hi)) = l1.map (fld h) := List.map_congr_left (fun b hb => fo b (by rw [e1]; exact List.mem_append_left _ hb))
      have g2 : l2.map (fld (zsi (zsi (zsi h2 q 1 s) q 2 lo) q 3 hi)) = l2.map (fld h) := List.map_congr_left (fun b hb => fo b (by rw [e1]; exact List.mem_append_right _ hb))
      rw [g1, g2]
      exact List.perm_middle
    · refine e6.trans (fun c hc hd => ?_)
      have cq : c ≠ q := fun e => hd (by rw [e]; exact (x'.f.2.2.2.2.2.1 q qm).1.2.1)
      exact ⟨rfl, rfl, zo c cq, rfl, rfl⟩
  refine zj_cast (k := 5) hG d_Schema_add_5 (z_w2 105 rfl) (by decide) (by decide) (fun _ => q5) ?_
  refine zj_astore hG d_Schema_add_8 (by decide) rfl rfl ?_
  refine zj_aload hG d_Schema_add_10 rfl ?_
  refine zj_iload_n hG d_Schema_add_12 rfl rfl ?_
  refine zj_putI hG d_Schema_add_13 f_Schema_18 (by assumption) rfl rfl ?_
  refine zj_aload hG d_Schema_add_16 rfl ?_
  refine zj_iload_n hG d_Schema_add_18 rfl rfl ?_
  refine zj_iconst (v := 2) hG d_Schema_add_19 rfl ?_
  by_cases s2 : s = 2
  · subst s2
    refine zj_icmp_ne (tgt := 27) hG d_Schema_add_20 (by decide) (fun c => absurd rfl c) (fun _ => ?_)
    refine zj_iconst (v := 0) hG d_Schema_add_23 rfl ?_
    refine zj_goto (tgt := 28) hG d_Schema_add_24 (by decide) ?_
    refine zj_putI hG d_Schema_add_28 f_Schema_22 (by assumption) rfl rfl ?_
    refine zj_aload hG d_Schema_add_31 rfl ?_
    refine zj_iload_n hG d_Schema_add_33 rfl rfl ?_
    refine zj_iconst (v := 2) hG d_Schema_add_34 rfl ?_
    refine zj_icmp_ne (tgt := 42) hG d_Schema_add_35 (by decide) (fun c => absurd rfl c) (fun _ => ?_)
    refine zj_iconst (v := 0) hG d_Schema_add_38 rfl ?_
    refine zj_goto (tgt := 44) hG d_Schema_add_39 (by decide) ?_
    refine zj_putI hG d_Schema_add_44 f_Schema_25 (by assumption) rfl rfl ?_
    exact fin 0 0
  · refine zj_icmp_ne (tgt := 27) hG d_Schema_add_20 (by decide) (fun _ => ?_) (fun c => absurd c s2)
    refine zj_iload_n hG d_Schema_add_27 rfl rfl ?_
    refine zj_putI hG d_Schema_add_28 f_Schema_22 (by assumption) rfl rfl ?_
    refine zj_aload hG d_Schema_add_31 rfl ?_
    refine zj_iload_n hG d_Schema_add_33 rfl rfl ?_
    refine zj_iconst (v := 2) hG d_Schema_add_34 rfl ?_
    refine zj_icmp_ne (tgt := 42) hG d_Schema_add_35 (by decide) (fun _ => ?_) (fun c => absurd c s2)
    refine zj_iload hG d_Schema_add_42 rfl ?_
    refine zj_putI hG d_Schema_add_44 f_Schema_25 (by assumption) rfl rfl ?_
    rw [if_neg s2, if_neg s2]
    exact fin a b
end SC1
