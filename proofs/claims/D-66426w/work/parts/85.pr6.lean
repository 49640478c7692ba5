/-! PART 85: the component: a primitive is done -/
/-- what has changed: rows r, and three numbers of the primitive a -/
def cDn (r a : Nat) (h h' : zH) : Prop := (∀ b, zt h b ≠ 0 → za h b 1000 ≠ r → b ≠ a → cSm h h' b) ∧ (zt h' a = zt h a ∧ za h' a = za h a ∧ ∀ j, j ≤ 3 → zi h' a j = zi h a j) ∧ zn h ≤ zn h' ∧ zn h' ≤ zn h + 3 ∧ zs h ≤ zs h' ∧ zs h' ≤ zs h + 12
/-- the answer -/
def cDone (r a : Nat) (F : List tFd) (k p A B c : Int32) (h : zH) (v : zV) (h' : zH) : Prop := ∃ b : Bool, v = zI (tb b) ∧ (b = true ↔ sDo F k p A B c) ∧ cDn r a h h' ∧ (b = false → cSc h' r F) ∧
  (b = true → ∃ (s lo hi : Int32) (F' : List tFd), (k = 1 ∧ s = A ∧ lo = (if A = 2 then 0 else B) ∧ hi = (if A = 2 then 0 else c) ∨ ¬ k = 1 ∧ (p, s, lo, hi) ∈ F) ∧ prm h' a (k, p, A, B, s, lo, hi) ∧ cSc h' r F' ∧ F'.Perm (sf (k, p, A, B, s, lo, hi) F))
section PR6
variable {G : zG} {h : zH} {r a : Nat} {F : List tFd}
theorem cDn.rfl' : cDn r a h h := ⟨fun _ _ _ _ => cSm.rfl', ⟨rfl, rfl, fun _ _ => rfl⟩, Nat.le_refl _, by omega, Nat.le_refl _, by omega⟩
theorem cDone.no {k p A B c : Int32} (x : cSc h r F) (hc : ¬ sDo F k p A B c) : cDone r a F k p A B c h (zI (tb false)) h := ⟨false, rfl, ⟨fun e => (by cases e), fun e => absurd e hc⟩, cDn.rfl', fun _ => x, fun e => by cases e⟩
set_option maxRecDepth 4000 in
theorem k_Prim_isAdded (hG : zOK G) (x : cSc h r F) (ht : zt h a = 12) (har : za h a 1000 ≠ r) {p A B : Int32} (c : Int32) (hk : zi h a 0 = 1) (hp : zi h a 1 = p) (hA : zi h a 2 = A) (hB : zi h a 3 = B) (cp : cright p = true ∧ p ≠ 0) (hn : zn h + 5 ≤ g0 G + 603072) (hs : zs h + 20 ≤ 7211114) :
    zJ G 8 m_Prim_isAdded 0 [some (zA a), some (zA r), some (zI c)] [] h (fun o h' => ∃ v, o = zR v ∧ cDone r a F 1 p A B c h v h') := by
  have hr := x.f.1
  have key : sDo F 1 p A B c ↔ cfree F p ∧ (0 ≤ A ∧ A ≤ 2) ∧ (A = 2 ∨ B ≤ c) := by
    unfold sDo cfree
    constructor
    · rintro ⟨g1, ⟨_, g2, g3, g4, g5, g6⟩ | ⟨g, _⟩⟩
      · exact ⟨⟨g1, g2, g6, g3⟩, g4, g5⟩
      · exact absurd rfl g
    · rintro ⟨⟨g1, g2, g6, g3⟩, g4, g5⟩
      exact ⟨g1, Or.inl ⟨rfl, g2, g3, g4, g5, g6⟩⟩
  have no : ¬ sDo F 1 p A B c → zJ G 8 m_Prim_isAdded 42 [some (zA a), some (zA r), some (zI c)] [] h (fun o h' => ∃ v, o = zR v ∧ cDone r a F 1 p A B c h v h') := by
    intro g
    refine zj_iconst (v := 0) hG d_Prim_isAdded_42 rfl ?_
    exact zj_iret hG d_Prim_isAdded_43 rfl rfl ⟨_, rfl, cDone.no x g⟩
  refine zj_aload_n hG d_Prim_isAdded_0 rfl rfl ?_
  refine zj_aload_n hG d_Prim_isAdded_1 rfl rfl ?_
  refine zj_getI hG d_Prim_isAdded_2 f_Prim_15 (by assumption) rfl ?_
  rw [hp]
  refine zj_callA (y' := m_Schema_isFree) hG (zcV (as := [_]) hG d_Prim_isAdded_5 c_Schema_isFree (z_w3 165 rfl) (z_w2 80 rfl) (z_w2 81 rfl) ⟨by decide, by decide⟩ hr (by decide) (by decide) (show _ = some 1 from by decide +kernel) rfl) c_Schema_isFree rfl (by omega) rfl (z_le rfl) (z_le rfl) (k_Schema_isFree hG x p) (fun v5 h5 e5 => ?_)
  obtain ⟨w, rfl, rfl, hw⟩ := e5
  rcases w with _ | _
  · refine zj_if_eq (tgt := 42) hG d_Prim_isAdded_8 (by decide) (fun _ => ?_) (fun c => absurd rfl c)
    exact no (fun g => by have := hw.mpr (key.mp g).1; cases this)
  have hfr := hw.mp rfl
  refine zj_if_eq (tgt := 42) hG d_Prim_isAdded_8 (by decide) (fun c => absurd c (by decide)) (fun _ => ?_)
  refine zj_aload_n hG d_Prim_isAdded_11 rfl rfl ?_
  refine zj_getI hG d_Prim_isAdded_12 f_Prim_18 (by assumption) rfl ?_
  rw [hA]
  refine zj_if_lt (tgt := 42) hG d_Prim_isAdded_15 (by decide) (fun c1 => ?_) (fun c1 => ?_)
  · exact no (fun g => absurd (key.mp g).2.1.1 (Int32.not_le.mpr c1))
  refine zj_aload_n hG d_Prim_isAdded_18 rfl rfl ?_
  refine zj_getI hG d_Prim_isAdded_19 f_Prim_18 (by assumption) rfl ?_
  refine zj_iconst (v := 2) hG d_Prim_isAdded_22 rfl ?_
  rw [hA]
  refine zj_icmp_gt (tgt := 42) hG d_Prim_isAdded_23 (by decide) (fun c2 => ?_) (fun c2 => ?_)
  · exact no (fun g => absurd (key.mp g).2.1.2 (Int32.not_le.mpr c2))
  obtain ⟨p0, po⟩ := cright_nok.mp cp
  -- the rest, once it is right
  have fin : (A = 2 ∨ B ≤ c) → zJ G 8 m_Prim_isAdded 44 [some (zA a), some (zA r), some (zI c)] [] h5 (fun o h' => ∃ v, o = zR v ∧ cDone r a F 1 p A B c h5 v h') := by
    intro h3
    have yes := key.mpr ⟨hfr, ⟨i_nlt c1, i_nlt c2⟩, h3⟩
    refine zj_aload_n hG d_Prim_isAdded_44 rfl rfl ?_
    refine zj_aload_n hG d_Prim_isAdded_45 rfl rfl ?_
    refine zj_getI hG d_Prim_isAdded_46 f_Prim_15 (by assumption) rfl ?_
    refine zj_aload_n hG d_Prim_isAdded_49 rfl rfl ?_
    refine zj_getI hG d_Prim_isAdded_50 f_Prim_18 (by assumption) rfl ?_
    refine zj_aload_n hG d_Prim_isAdded_53 rfl rfl ?_
    refine zj_getI hG d_Prim_isAdded_54 f_Prim_35 (by assumption) rfl ?_
    refine zj_iload_n hG d_Prim_isAdded_57 rfl rfl ?_
    rw [hp, hA, hB]
    refine zj_callP (y' := m_Schema_add) hG (zcV (as := [_, _, _, _]) hG d_Prim_isAdded_58 c_Schema_add (z_w3 166 rfl) (z_w2 126 rfl) (z_w2 127 rfl) ⟨by decide, by decide⟩ hr (by decide) (by decide) (show _ = some 4 from by decide +kernel) rfl) c_Schema_add rfl (by omega) rfl (z_le rfl) (z_le rfl) (k_Schema_add hG x (by have := hfr.2.2.1; omega) ⟨p0, po.1⟩ hfr.2.1 A B c hn hs) (fun h58 e58 => ?_)
    obtain ⟨F', y1, y2, y3⟩ := e58
    refine zj_wf hG (fun _ => ?_)
    have sa : cSm h5 h58 a := y3.1 a (by omega) har
    have ta : zt h58 a = 12 := by rw [sa.1]; exact ht
    have ia : zi h58 a = zi h5 a := sa.2.2.1
    have hr' := y1.f.1
    refine zj_aload_n hG d_Prim_isAdded_61 rfl rfl ?_
    refine zj_aload_n hG d_Prim_isAdded_62 rfl rfl ?_
    refine zj_getI hG d_Prim_isAdded_63 f_Prim_18 (by assumption) rfl ?_
    refine zj_putI hG d_Prim_isAdded_66 f_Prim_88 (by assumption) rfl rfl ?_
    refine zj_aload_n hG d_Prim_isAdded_69 rfl rfl ?_
    refine zj_aload_n hG d_Prim_isAdded_70 rfl rfl ?_
    refine zj_aload_n hG d_Prim_isAdded_71 rfl rfl ?_
    refine zj_getI hG d_Prim_isAdded_72 f_Prim_15 (by assumption) rfl ?_
    rw [ia, hA]
    have i1 : ∀ q : Int32, zi (zsi h58 a 4 q) a 1 = p := fun q => by rw [← hp, ← ia]; exact zu_k (by decide)
    rw [i1]
    have fm : (p, A, (if A = 2 then 0 else B), (if A = 2 then 0 else c)) ∈ F' := y2.mem_iff.mpr List.mem_cons_self
    have y1a : cSc (zsi h58 a 4 A) r F' := y1.fr (fun b h1 h2 => by
      have : b ≠ a := fun e => har (by rw [← sa.2.2.2.1, ← e]; exact h2)
      exact ⟨rfl, rfl, by funext j; exact zu_a this, rfl, rfl⟩)
    have hra : zt (zsi h58 a 4 A) r = 2 := hr'
    refine zj_callA (y' := m_Rows_at) hG (zcU (as := [_]) (owner := "LensPaths$Rows") hG d_Prim_isAdded_75 c_Rows_at (z_w3 167 rfl) (z_w2 87 rfl) (z_w2 88 rfl) (z_w2 90 rfl) (z_w2 89 rfl) ⟨by decide, by decide⟩ hra (by decide) (by decide) (show _ = some 1 from by decide +kernel) rfl) c_Rows_at rfl (by omega) rfl (z_le rfl) (z_le rfl) (k_sc_at hG y1a p) (fun v75 h75 e75 => ?_)
    obtain ⟨q, rfl, rfl, hq⟩ := e75
    have hit : ∀ (hh : zH) (q : Nat), cSc hh r F' → (q = 0 ∧ (∀ f ∈ F', f.1 ≠ p) ∨ q ≠ 0 ∧ zt hh q = 5 ∧ fld hh q ∈ F' ∧ zi hh q 0 = p) → zt hh q = 5 ∧ zi hh q 2 = (if A = 2 then 0 else B) ∧ zi hh q 3 = (if A = 2 then 0 else c) := by
      intro hh q yy hq
      rcases hq with ⟨_, g⟩ | ⟨_, g5, gf, gp⟩
      · exact absurd rfl (g _ fm)
      · have := fd_eq (sc_nd yy) gf fm gp
        unfold fld at this
        simp only [Prod.mk.injEq] at this
        exact ⟨g5, this.2.2.1, this.2.2.2⟩
    obtain ⟨q5, q2, q3⟩ := hit _ q y1a hq
    refine zj_cast (k := 5) hG d_Prim_isAdded_78 (z_w3 168 rfl) (by decide) (by decide) (fun _ => q5) ?_
    refine zj_getI hG d_Prim_isAdded_81 f_Prim_89 (by assumption) rfl ?_
    rw [q2]
    refine zj_putI hG d_Prim_isAdded_84 f_Prim_41 (by assumption) rfl rfl ?_
    refine zj_aload_n hG d_Prim_isAdded_87 rfl rfl ?_
    refine zj_aload_n hG d_Prim_isAdded_88 rfl rfl ?_
    refine zj_aload_n hG d_Prim_isAdded_89 rfl rfl ?_
    refine zj_getI hG d_Prim_isAdded_90 f_Prim_15 (by assumption) rfl ?_
    have y1b : cSc (zsi (zsi h58 a 4 A) a 5 (if A = 2 then 0 else B)) r F' := y1a.fr (fun b h1 h2 => by
      have : b ≠ a := fun e => har (by rw [← sa.2.2.2.1, ← e]; exact h2)
      exact ⟨rfl, rfl, by funext j; exact zu_a this, rfl, rfl⟩)
    have i2 : zi (zsi (zsi h58 a 4 A) a 5 (if A = 2 then 0 else B)) a 1 = p := by rw [← i1 A]; exact zu_k (by decide)
    rw [i2]
    have hrb : zt (zsi (zsi h58 a 4 A) a 5 (if A = 2 then 0 else B)) r = 2 := hr'
    refine zj_callA (y' := m_Rows_at) hG (zcU (as := [_]) (owner := "LensPaths$Rows") hG d_Prim_isAdded_93 c_Rows_at (z_w3 167 rfl) (z_w2 87 rfl) (z_w2 88 rfl) (z_w2 90 rfl) (z_w2 89 rfl) ⟨by decide, by decide⟩ hrb (by decide) (by decide) (show _ = some 1 from by decide +kernel) rfl) c_Rows_at rfl (by omega) rfl (z_le rfl) (z_le rfl) (k_sc_at hG y1b p) (fun v93 h93 e93 => ?_)
    obtain ⟨q', rfl, rfl, hq'⟩ := e93
    obtain ⟨q5', q2', q3'⟩ := hit _ q' y1b hq'
    refine zj_cast (k := 5) hG d_Prim_isAdded_96 (z_w3 168 rfl) (by decide) (by decide) (fun _ => q5') ?_
    refine zj_getI hG d_Prim_isAdded_99 f_Prim_90 (by assumption) rfl ?_
    rw [q3']
    refine zj_putI hG d_Prim_isAdded_102 f_Prim_44 (by assumption) rfl rfl ?_
    refine zj_iconst (v := 1) hG d_Prim_isAdded_105 rfl ?_
    have y1c : cSc (zsi (zsi (zsi h58 a 4 A) a 5 (if A = 2 then 0 else B)) a 6 (if A = 2 then 0 else c)) r F' := y1b.fr (fun b h1 h2 => by
      have : b ≠ a := fun e => har (by rw [← sa.2.2.2.1, ← e]; exact h2)
      exact ⟨rfl, rfl, by funext j; exact zu_a this, rfl, rfl⟩)
    have ij : ∀ j, j ≤ 3 → zi (zsi (zsi (zsi h58 a 4 A) a 5 (if A = 2 then 0 else B)) a 6 (if A = 2 then 0 else c)) a j = zi h5 a j := fun j hj => by
      rw [← ia]
      have e4 : j ≠ 4 := by omega
      have e5 : j ≠ 5 := by omega
      have e6 : j ≠ 6 := by omega
      simp [zi, zu, e4, e5, e6]
    refine zj_iret hG d_Prim_isAdded_106 rfl rfl ⟨_, rfl, true, rfl, ⟨fun _ => yes, fun _ => rfl⟩, ⟨fun b h1 h2 h3 => ?_, ⟨sa.1, sa.2.2.2.1, ij⟩, y3.2⟩, fun e => (by cases e), fun _ => ⟨A, (if A = 2 then 0 else B), (if A = 2 then 0 else c), F', Or.inl ⟨rfl, rfl, rfl, rfl⟩, ⟨ta, ?_, ?_, ?_, ?_, ?_, ?_, ?_⟩, y1c, ?_⟩⟩
    · have := y3.1 b h1 h2
      exact ⟨this.1, this.2.1, by rw [← this.2.2.1]; funext j; simp [zi, zu, h3], this.2.2.2.1, this.2.2.2.2⟩
    · rw [ij 0 (by omega)]; exact hk
    · rw [ij 1 (by omega)]; exact hp
    · rw [ij 2 (by omega)]; exact hA
    · rw [ij 3 (by omega)]; exact hB
    · simp [zi, zu]
    · simp [zi, zu]
    · simp [zi, zu]
    · unfold sf
      rw [if_neg (show ¬ ((1 : Int32) = 0 ∨ (1 : Int32) = 4) by decide), if_pos (show (1 : Int32) = 1 from rfl)]
      exact y2.trans (List.perm_append_singleton _ _).symm
  refine zj_aload_n hG d_Prim_isAdded_26 rfl rfl ?_
  refine zj_getI hG d_Prim_isAdded_27 f_Prim_18 (by assumption) rfl ?_
  refine zj_iconst (v := 2) hG d_Prim_isAdded_30 rfl ?_
  rw [hA]
  refine zj_icmp_eq (tgt := 44) hG d_Prim_isAdded_31 (by decide) (fun c3 => ?_) (fun c3 => ?_)
  · exact fin (Or.inl c3)
  · refine zj_aload_n hG d_Prim_isAdded_34 rfl rfl ?_
    refine zj_getI hG d_Prim_isAdded_35 f_Prim_35 (by assumption) rfl ?_
    refine zj_iload_n hG d_Prim_isAdded_38 rfl rfl ?_
    rw [hB]
    refine zj_icmp_le (tgt := 44) hG d_Prim_isAdded_39 (by decide) (fun c4 => ?_) (fun c4 => ?_)
    · exact fin (Or.inr c4)
    · exact no (fun g => by
        rcases (key.mp g).2.2 with q | q
        · exact c3 q
        · exact c4 q)
set_option maxRecDepth 4000 in
theorem k_Prim_isDone1 (hG : zOK G) (x : cSc h r F) (hV : sV F) (ht : zt h a = 12) (har : za h a 1000 ≠ r) {k p A B : Int32} (c : Int32) (hk : zi h a 0 = k) (hk8 : 0 ≤ k ∧ k ≤ 8) (hp : zi h a 1 = p) (hA : zi h a 2 = A) (hB : zi h a 3 = B) (hn : zn h + 5 ≤ g0 G + 603072) (hs : zs h + 20 ≤ 7211114) :
    zJ G 9 m_Prim_isDone1 0 [some (zA a), some (zA r), some (zI c), none] [] h (fun o h' => ∃ v, o = zR v ∧ cDone r a F k p A B c h v h') := by
  have hr := x.f.1
  have no : ¬ (cright p = true ∧ p ≠ 0) → zJ G 9 m_Prim_isDone1 17 [some (zA a), some (zA r), some (zI c), none] [] h (fun o h' => ∃ v, o = zR v ∧ cDone r a F k p A B c h v h') := by
    intro g
    refine zj_iconst (v := 0) hG d_Prim_isDone1_17 rfl ?_
    exact zj_iret hG d_Prim_isDone1_18 rfl rfl ⟨_, rfl, cDone.no x (fun q => g q.1)⟩
  refine zj_aload_n hG d_Prim_isDone1_0 rfl rfl ?_
  refine zj_getI hG d_Prim_isDone1_1 f_Prim_15 (by assumption) rfl ?_
  rw [hp]
  refine zj_callR (y' := m_Paths_isRight) hG (zcS (as := [_]) hG d_Prim_isDone1_4 c_Paths_isRight (z_w3 160 rfl) (z_w2 84 rfl) (z_w1 16 rfl) ⟨by decide, by decide⟩ (show _ = some 1 from by decide +kernel) rfl) c_Paths_isRight rfl (by omega) rfl (z_le rfl) (z_le rfl) (k_Paths_isRight hG _ _) ?_
  rcases hc : cright p with _ | _
  · refine zj_if_eq (tgt := 17) hG d_Prim_isDone1_7 (by decide) (fun _ => ?_) (fun c => absurd rfl c)
    exact no (fun g => by rw [hc] at g; cases g.1)
  refine zj_if_eq (tgt := 17) hG d_Prim_isDone1_7 (by decide) (fun c => absurd c (by decide)) (fun _ => ?_)
  refine zj_aload_n hG d_Prim_isDone1_10 rfl rfl ?_
  refine zj_getI hG d_Prim_isDone1_11 f_Prim_15 (by assumption) rfl ?_
  rw [hp]
  by_cases c8 : p = 0
  · refine zj_if_ne (tgt := 19) hG d_Prim_isDone1_14 (by decide) (fun c => absurd c8 c) (fun _ => ?_)
    exact no (fun g => g.2 c8)
  have cp : cright p = true ∧ p ≠ 0 := ⟨hc, c8⟩
  obtain ⟨p0, po⟩ := cright_nok.mp cp
  refine zj_if_ne (tgt := 19) hG d_Prim_isDone1_14 (by decide) (fun _ => ?_) (fun c => absurd c c8)
  refine zj_aload_n hG d_Prim_isDone1_19 rfl rfl ?_
  refine zj_getI hG d_Prim_isDone1_20 f_Prim_9 (by assumption) rfl ?_
  refine zj_iconst (v := 1) hG d_Prim_isDone1_23 rfl ?_
  rw [hk]
  by_cases k1 : k = 1
  · subst k1
    refine zj_icmp_ne (tgt := 34) hG d_Prim_isDone1_24 (by decide) (fun c => absurd rfl c) (fun _ => ?_)
    refine zj_aload_n hG d_Prim_isDone1_27 rfl rfl ?_
    refine zj_aload_n hG d_Prim_isDone1_28 rfl rfl ?_
    refine zj_iload_n hG d_Prim_isDone1_29 rfl rfl ?_
    refine zj_callA (y' := m_Prim_isAdded) hG (zcP (as := [_, _]) hG d_Prim_isDone1_30 c_Prim_isAdded (z_w3 161 rfl) (z_w3 163 rfl) (z_w3 162 rfl) (z_w3 158 rfl) rfl ⟨by decide, by decide⟩ ht (by decide) (by decide) (show _ = some 2 from by decide +kernel) rfl) c_Prim_isAdded rfl (by omega) rfl (z_le rfl) (z_le rfl) (k_Prim_isAdded hG x ht har c hk hp hA hB cp hn hs) (fun v30 h30 e30 => ?_)
    have e30' := e30
    obtain ⟨b, rfl, _⟩ := e30'
    exact zj_iret hG d_Prim_isDone1_33 rfl (by cases b <;> rfl) ⟨_, rfl, e30⟩
  refine zj_icmp_ne (tgt := 34) hG d_Prim_isDone1_24 (by decide) (fun _ => ?_) (fun c => absurd c k1)
  refine zj_aload_n hG d_Prim_isDone1_34 rfl rfl ?_
  refine zj_aload_n hG d_Prim_isDone1_35 rfl rfl ?_
  refine zj_getI hG d_Prim_isDone1_36 f_Prim_15 (by assumption) rfl ?_
  rw [hp]
  have x0 := x
  obtain ⟨rs, xr, hF⟩ := x
  refine zj_callA (y' := m_Rows_at) hG (zcU (as := [_]) (owner := "LensPaths$Rows") hG d_Prim_isDone1_39 c_Rows_at (z_w3 167 rfl) (z_w2 87 rfl) (z_w2 88 rfl) (z_w2 90 rfl) (z_w2 89 rfl) ⟨by decide, by decide⟩ hr (by decide) (by decide) (show _ = some 1 from by decide +kernel) rfl) c_Rows_at rfl (by omega) rfl (z_le rfl) (z_le rfl) (k_r_at hG xr p) (fun v39 h39 e39 => ?_)
  obtain ⟨q, rfl, rfl, hq⟩ := e39
  rcases hq with ⟨rfl, hno⟩ | ⟨a0, qm, qp⟩
  · refine zj_cast (k := 5) hG d_Prim_isDone1_42 (z_w3 168 rfl) (by decide) (by decide) (fun e => absurd rfl e) ?_
    refine zj_astore_n hG d_Prim_isDone1_45 rfl (by decide) rfl rfl ?_
    refine zj_aload_n hG d_Prim_isDone1_46 rfl rfl ?_
    refine zj_ifnonnull (tgt := 52) hG d_Prim_isDone1_47 (by decide) (fun c => absurd rfl c) (fun _ => ?_)
    refine zj_iconst (v := 0) hG d_Prim_isDone1_50 rfl ?_
    refine zj_iret hG d_Prim_isDone1_51 rfl rfl ⟨_, rfl, cDone.no x0 (fun g => ?_)⟩
    rcases g.2 with ⟨g, _⟩ | ⟨_, f, hf, fp, _⟩
    · exact k1 g
    · rw [hF] at hf
      obtain ⟨b, hb, rfl⟩ := List.mem_map.mp hf
      exact hno b hb fp
  have q5 := (xr.f.2.2.2.2.2.1 q qm).1.1
  have qr := (xr.f.2.2.2.2.2.1 q qm).1.2.1
  have aq : a ≠ q := fun e => har (by rw [e]; exact qr)
  have ar : a ≠ r := fun e => by rw [e, hr] at ht; cases ht
  have qa : ∀ (j : Nat) (v : Int32), zi (zsi h39 a j v) q = zi h39 q := fun j v => by funext i; exact zu_a aq.symm
  refine zj_cast (k := 5) hG d_Prim_isDone1_42 (z_w3 168 rfl) (by decide) (by decide) (fun _ => q5) ?_
  refine zj_astore_n hG d_Prim_isDone1_45 rfl (by decide) rfl rfl ?_
  refine zj_aload_n hG d_Prim_isDone1_46 rfl rfl ?_
  refine zj_ifnonnull (tgt := 52) hG d_Prim_isDone1_47 (by decide) (fun _ => ?_) (fun c => absurd c a0)
  refine zj_aload_n hG d_Prim_isDone1_52 rfl rfl ?_
  refine zj_aload_n hG d_Prim_isDone1_53 rfl rfl ?_
  refine zj_getI hG d_Prim_isDone1_54 f_Prim_85 (by assumption) rfl ?_
  refine zj_putI hG d_Prim_isDone1_57 f_Prim_88 (by assumption) rfl rfl ?_
  refine zj_aload_n hG d_Prim_isDone1_60 rfl rfl ?_
  refine zj_aload_n hG d_Prim_isDone1_61 rfl rfl ?_
  refine zj_getI hG d_Prim_isDone1_62 f_Prim_89 (by assumption) rfl ?_
  have e1 : zi (zsi h39 a 4 (zi h39 q 1)) q 2 = zi h39 q 2 := by rw [qa]
  rw [e1]
  refine zj_putI hG d_Prim_isDone1_65 f_Prim_41 (by assumption) rfl rfl ?_
  refine zj_aload_n hG d_Prim_isDone1_68 rfl rfl ?_
  refine zj_aload_n hG d_Prim_isDone1_69 rfl rfl ?_
  refine zj_getI hG d_Prim_isDone1_70 f_Prim_90 (by assumption) rfl ?_
  have e2 : zi (zsi (zsi h39 a 4 (zi h39 q 1)) a 5 (zi h39 q 2)) q 3 = zi h39 q 3 := zu_a aq.symm |>.trans (zu_a aq.symm)
  rw [e2]
  refine zj_putI hG d_Prim_isDone1_73 f_Prim_44 (by assumption) rfl rfl ?_
  refine zj_aload_n hG d_Prim_isDone1_76 rfl rfl ?_
  refine zj_aload_n hG d_Prim_isDone1_77 rfl rfl ?_
  refine zj_aload_n hG d_Prim_isDone1_78 rfl rfl ?_
  -- the heap with the three numbers
  have zo : ∀ b, b ≠ a → zi (zsi (zsi (zsi h39 a 4 (zi h39 q 1)) a 5 (zi h39 q 2)) a 6 (zi h39 q 3)) b = zi h39 b := fun b e => by funext j; simp [zi, zu, e]
  have ij : ∀ j, j ≤ 3 → zi (zsi (zsi (zsi h39 a 4 (zi h39 q 1)) a 5 (zi h39 q 2)) a 6 (zi h39 q 3)) a j = zi h39 a j := fun j hj => by
    have e4 : j ≠ 4 := by omega
    have e5 : j ≠ 5 := by omega
    have e6 : j ≠ 6 := by omega
    simp [zi, zu, e4, e5, e6]
  have ra : ∀ b ∈ rs, b ≠ a := fun b hb e => har (by rw [← e]; exact (xr.f.2.2.2.2.2.1 b hb).1.2.1)
  have xr2 : cRr (zsi (zsi (zsi h39 a 4 (zi h39 q 1)) a 5 (zi h39 q 2)) a 6 (zi h39 q 3)) 2 r rs := xr.set rfl rfl rfl (zo r ar.symm) (fun b hb => by rw [zo b (ra b hb)])
  have hF2 : F = rs.map (fld (zsi (zsi (zsi h39 a 4 (zi h39 q 1)) a 5 (zi h39 q 2)) a 6 (zi h39 q 3))) := by
    rw [hF]
    apply List.map_congr_left
    intro b hb
    unfold fld
    rw [zo b (ra b hb)]
  have fq : fld (zsi (zsi (zsi h39 a 4 (zi h39 q 1)) a 5 (zi h39 q 2)) a 6 (zi h39 q 3)) q = (p, zi h39 q 1, zi h39 q 2, zi h39 q 3) := by
    unfold fld
    rw [zo q aq.symm, qp]
  have fm : (p, zi h39 q 1, zi h39 q 2, zi h39 q 3) ∈ F := by
    rw [hF]
    refine List.mem_map.mpr ⟨q, qm, ?_⟩
    unfold fld
    rw [qp]
  have tr : cTr (zsi (zsi (zsi h39 a 4 (zi h39 q 1)) a 5 (zi h39 q 2)) a 6 (zi h39 q 3)) r a F (k, p, A, B, zi h39 q 1, zi h39 q 2, zi h39 q 3) := by
    refine ⟨⟨rs, xr2, hF2⟩, hV, ⟨ht, ?_, ?_, ?_, ?_, ?_, ?_, ?_⟩, ⟨p0, po⟩, fm⟩
    · rw [ij 0 (by omega)]; exact hk
    · rw [ij 1 (by omega)]; exact hp
    · rw [ij 2 (by omega)]; exact hA
    · rw [ij 3 (by omega)]; exact hB
    · simp [zi, zu]
    · simp [zi, zu]
    · simp [zi, zu]
  refine zj_callA (y' := m_Prim_isDone2) hG (zcP (as := [_, _]) hG d_Prim_isDone1_79 c_Prim_isDone2 (z_w3 169 rfl) (z_w3 171 rfl) (z_w3 170 rfl) (z_w3 158 rfl) rfl ⟨by decide, by decide⟩ ht (by decide) (by decide) (show _ = some 2 from by decide +kernel) rfl) c_Prim_isDone2 rfl (by omega) rfl (z_le rfl) (z_le rfl) (k_Prim_isDone2 (P := (k, p, A, B, zi h39 q 1, zi h39 q 2, zi h39 q 3)) hG tr har hk8 k1 xr2 hF2 qm fq hn hs) (fun v79 h79 e79 => ?_)
  obtain ⟨b, rfl, hb1, hb2, hb3, hb4⟩ := e79
  have keyD : sDo F k p A B c ↔ sDoF F (p, zi h39 q 1, zi h39 q 2, zi h39 q 3) k p A B := by
    unfold sDo
    constructor
    · rintro ⟨_, ⟨g, _⟩ | ⟨_, f, hf, fp, g⟩⟩
      · exact absurd g k1
      · rw [← fd_eq hV.2.1 hf fm fp]; exact g
    · intro g; exact ⟨cp, Or.inr ⟨k1, _, fm, rfl, g⟩⟩
  have sa := hb2.1 a (by show zt h39 a ≠ 0; omega) har
  refine zj_iret hG d_Prim_isDone1_82 rfl (by cases b <;> rfl) ⟨_, rfl, b, rfl, by rw [keyD]; exact hb1, ⟨fun c h1 h2 h3 => ?_, ⟨sa.1, sa.2.2.2.1, fun j hj => ?_⟩, hb2.2⟩, hb3, fun e => ?_⟩
  · have := hb2.1 c h1 h2
    exact ⟨this.1, this.2.1, by rw [this.2.2.1]; exact zo c h3, this.2.2.2.1, this.2.2.2.2⟩
  · rw [sa.2.2.1]; exact ij j hj
  · obtain ⟨F', y1, y2⟩ := hb4 e
    refine ⟨zi h39 q 1, zi h39 q 2, zi h39 q 3, F', Or.inr ⟨k1, fm⟩, ?_, y1, y2⟩
    obtain ⟨t0, t1, t2, t3, t4, t5, t6, t7⟩ := tr.2.2.1
    unfold prm
    rw [sa.1, sa.2.2.1]
    exact ⟨t0, t1, t2, t3, t4, t5, t6, t7⟩
end PR6
