/-! PART 75: the component: rows (add) -/
theorem zn_new (h : zH) (c s n : Nat) : zn (znew h c s n) = zn h + 1 := rfl
theorem ne_pp (x : Nat) : (x = x + 1 + 1) ↔ False := ⟨fun h => by omega, False.elim⟩
/-- the same cell -/
def cSm (h h' : zH) (a : Nat) : Prop := zt h' a = zt h a ∧ zl h' a = zl h a ∧ zi h' a = zi h a ∧ za h' a = za h a ∧ zj h' a = zj h a
theorem cSm.rfl' {h : zH} {a : Nat} : cSm h h a := ⟨rfl, rfl, rfl, rfl, rfl⟩
theorem cSm.trans {h h1 h2 : zH} {a : Nat} (x : cSm h h1 a) (y : cSm h1 h2 a) : cSm h h2 a := ⟨y.1.trans x.1, y.2.1.trans x.2.1, y.2.2.1.trans x.2.2.1, y.2.2.2.1.trans x.2.2.2.1, y.2.2.2.2.trans x.2.2.2.2⟩
/-- only what belongs to r has changed -/
def cFr (r : Nat) (h h' : zH) : Prop := ∀ a, zt h a ≠ 0 → za h a 1000 ≠ r → cSm h h' a
theorem cFr.rfl' {h : zH} {r : Nat} : cFr r h h := fun _ _ _ => cSm.rfl'
theorem cFr.trans {h h1 h2 : zH} {r : Nat} (x : cFr r h h1) (y : cFr r h1 h2) : cFr r h h2 := fun a e f => (x a e f).trans (y a (by rw [(x a e f).1]; exact e) (by rw [(x a e f).2.2.2.1]; exact f))
theorem cLk.fr {h h' : zH} {r : Nat} (x : cLk h r h') (ho : za h r 1000 = r) : cFr r h h' := fun a _ f => by
  obtain ⟨b1, b2, b3, b4, b5, b6, b7, b8, b9, b10, b11⟩ := x
  exact ⟨by rw [b3], by rw [b4], b6 a (fun e => f (by rw [e]; exact ho)), b9 a f, by rw [b5]⟩
/-- new cells -/
def cAl (K : Nat) (h : zH) (r : Nat) (h2 : zH) : Prop := (∀ a, a < zn h → cSm h h2 a) ∧ cKn h2 K r (zn h) ∧ zn h ≤ zn h2 ∧ zn h2 ≤ zn h + 3 ∧ zs h2 ≤ zs h + 12 ∧ zs h ≤ zs h2
/-- a row as it is at first -/
def cNew (K : Nat) (h : zH) (p : Nat) : Prop := (K = 2 → zi h p 1 = 0 ∧ zi h p 2 = 0 ∧ zi h p 3 = 0) ∧ (K = 3 → zi h p 1 = 0 ∧ zi h p 2 = 1 ∧ zi h (za h p 3) 0 = 0) ∧ (K = 4 → zi h p 1 = 0)
def cCl (K : Nat) (h : zH) (p : Nat) (h1 : zH) : Prop := ∃ I : Nat → Nat → Int32, h1 = (zn h, zs h, zt h, zl h, I, za h, zj h) ∧ (∀ a, a ≠ p → (K = 3 → a ≠ za h p 3) → I a = zi h a) ∧ I p 0 = zi h p 0 ∧ cNew K h1 p
/-- the row of a knot is as it was -/
def cRk (K : Nat) (h h' : zH) (k : Nat) : Prop := za h' k 0 = za h k 0 ∧ zi h' (za h k 0) = zi h (za h k 0) ∧ za h' (za h k 0) = za h (za h k 0) ∧ (K = 3 → zi h' (za h (za h k 0) 3) = zi h (za h (za h k 0) 3))
theorem cRk.rfl' {K : Nat} {h : zH} {k : Nat} : cRk K h h k := ⟨rfl, rfl, rfl, fun _ => rfl⟩
theorem cRk.trans {K : Nat} {h h1 h2 : zH} {k : Nat} (x : cRk K h h1 k) (y : cRk K h1 h2 k) : cRk K h h2 k := by
  obtain ⟨a1, a2, a3, a4⟩ := x
  obtain ⟨b1, b2, b3, b4⟩ := y
  rw [a1] at b1 b2 b3 b4
  rw [a3] at b4
  exact ⟨b1, b2.trans a2, b3.trans a3, fun e => (b4 e).trans (a4 e)⟩
section CR6
variable {G : zG} {h : zH} {K r : Nat}
theorem k_Knot_init (hG : zOK G) {k : Nat} (k0 : k ≠ 0) (hk : zt h k = 8) (p : Nat) : zJ G 1 m_Knot_init 0 [some (zA k), some (zA p)] [] h (fun o h' => o = zR0 ∧ h' = zsa h k 0 p) := by
  refine zj_aload_n hG d_Knot_init_0 rfl rfl ?_
  refine zj_objinit hG d_Knot_init_1 (z_w2 209 rfl) (by assumption) (by omega) (z_le rfl) ?_
  refine zj_aload_n hG d_Knot_init_4 rfl rfl ?_
  refine zj_aload_n hG d_Knot_init_5 rfl rfl ?_
  refine zj_putA hG d_Knot_init_6 f_Knot_7 (by assumption) rfl (Or.inr ⟨rfl, rfl⟩) ?_
  exact zj_vret hG d_Knot_init_9 rfl ⟨rfl, rfl⟩
theorem add_new2 (hG : zOK G) (hr : zt h r = 2) (wf : zWf h) (hn : zn h + 5 ≤ g0 G + 603072) (hs : zs h + 20 ≤ 7211114) {p : Int32} {Q : zO → zH → Prop} (kk : ∀ h2, cAl 2 h r h2 → zJ G 6 m_Rows_add 32 [some (zA r), some (zI p), some (zA (zn h))] [] h2 Q) : zJ G 6 m_Rows_add 9 [some (zA r), some (zI p), some (zA 0)] [] h Q := by
  have rl : r < zn h := (wf r (by rw [hr]; decide)).2
  have r1 : r ≠ zn h := by omega
  refine zj_new (k := 8) hG d_Rows_add_9 (z_w2 135 rfl) (z_w1 18 rfl) (by decide) (by decide) (by omega) (by show zs h + 2 ≤ _; omega) ?_
  refine zj_dup hG d_Rows_add_12 (by first | exact zc_A _ | rfl) ?_
  refine zj_aload_n hG d_Rows_add_13 rfl rfl ?_
  have hr0 : zt (znew h 8 (zN 8) 0) r = 2 := by show zw (zt h) (zn h) 8 r = 2; rw [zw_n r1]; exact hr
  refine zj_wf hG (fun wf0 => ?_)
  have k0 := (wf0 (zn h) (by show zw (zt h) (zn h) 8 (zn h) ≠ 0; rw [zw_s]; decide)).1
  refine zj_callR (y' := m_Schema_make2) hG (zcU (as := []) (owner := "LensPaths$Rows") hG d_Rows_add_14 c_Schema_make2 (z_w2 137 rfl) (z_w2 139 rfl) (z_w2 138 rfl) (z_w2 150 rfl) (z_w2 149 rfl) ⟨by decide, by decide⟩ hr0 (by decide) (by decide) (show _ = some 0 from by decide +kernel) rfl) c_Schema_make2 rfl (by omega) rfl (z_le rfl) (z_le rfl) (k_Schema_make2 hG hr0 (by show zn h + 1 + 3 ≤ _; omega) (by show zs h + 2 + 12 ≤ _; omega)) ?_
  refine zj_callV (y' := m_Knot_init) hG (zcI (as := [_]) hG d_Rows_add_17 rfl (z_w2 206 rfl) (z_w2 207 rfl) (z_w2 208 rfl) ⟨by decide, by decide⟩ k0 (show _ = some 1 from by decide +kernel) rfl) c_Knot_init rfl (by omega) rfl (z_le rfl) (z_le rfl) (k_Knot_init hG k0 (by simp [zt, zl, zw, zn_new, ne_pp]) _) ?_
  refine zj_astore_n hG d_Rows_add_20 rfl (by decide) rfl rfl ?_
  refine zj_goto (tgt := 32) hG d_Rows_add_21 (by decide) ?_
  refine zj_ghost (a := zn h) (j := 1000) (v := r) (by omega) (Or.inl (by simp [zt, zl, zw, zn_new, ne_pp])) ?_
  refine zj_ghost (a := zn h + 1) (j := 1000) (v := r) (by omega) (Or.inl (by simp [zt, zl, zw, zn_new, ne_pp])) ?_
  refine zj_ghost (a := zn h + 1) (j := 1001) (v := zn h) (by omega) (Or.inl (by simp [zt, zl, zw, zn_new, ne_pp])) ?_
  refine kk _ ⟨fun a ha => ?_, ?_, ?_, ?_, ?_, ?_⟩
  · have e0 : a ≠ zn h := by omega
    have e1 : a ≠ zn h + 1 := by omega
    have e2 : a ≠ zn h + 1 + 1 := by omega
    refine ⟨?_, ?_, ?_, ?_, ?_⟩ <;> first | (simp [zt, zl, zj, zw, zn_new, ne_pp, e0, e1, e2]; done) | (funext j; simp [zt, zl, zj, zi, za, zw, zu, zn_new, ne_pp, e0, e1, e2]) 
  · unfold cKn
    simp [zt, zl, za, zi, zu, zw, zn_new, ne_pp]
  · simp only [zn]; omega
  · show zn h + 1 + 1 ≤ zn h + 3; omega
  · show zs h + 2 + 4 ≤ zs h + 12; omega
  · show zs h ≤ zs h + 2 + 4; omega
theorem add_new3 (hG : zOK G) (hr : zt h r = 3) (wf : zWf h) (hn : zn h + 5 ≤ g0 G + 603072) (hs : zs h + 20 ≤ 7211114) {p : Int32} {Q : zO → zH → Prop} (kk : ∀ h2, cAl 3 h r h2 → zJ G 6 m_Rows_add 32 [some (zA r), some (zI p), some (zA (zn h))] [] h2 Q) : zJ G 6 m_Rows_add 9 [some (zA r), some (zI p), some (zA 0)] [] h Q := by
  have rl : r < zn h := (wf r (by rw [hr]; decide)).2
  have r1 : r ≠ zn h := by omega
  refine zj_new (k := 8) hG d_Rows_add_9 (z_w2 135 rfl) (z_w1 18 rfl) (by decide) (by decide) (by omega) (by show zs h + 2 ≤ _; omega) ?_
  refine zj_dup hG d_Rows_add_12 (by first | exact zc_A _ | rfl) ?_
  refine zj_aload_n hG d_Rows_add_13 rfl rfl ?_
  have hr0 : zt (znew h 8 (zN 8) 0) r = 3 := by show zw (zt h) (zn h) 8 r = 3; rw [zw_n r1]; exact hr
  refine zj_wf hG (fun wf0 => ?_)
  have k0 := (wf0 (zn h) (by show zw (zt h) (zn h) 8 (zn h) ≠ 0; rw [zw_s]; decide)).1
  refine zj_callR (y' := m_Places_make2) hG (zcU (as := []) (owner := "LensPaths$Rows") hG d_Rows_add_14 c_Places_make2 (z_w2 137 rfl) (z_w2 139 rfl) (z_w2 138 rfl) (z_w2 141 rfl) (z_w2 140 rfl) ⟨by decide, by decide⟩ hr0 (by decide) (by decide) (show _ = some 0 from by decide +kernel) rfl) c_Places_make2 rfl (by omega) rfl (z_le rfl) (z_le rfl) (k_Places_make2 hG hr0 (by show zn h + 1 + 3 ≤ _; omega) (by show zs h + 2 + 12 ≤ _; omega)) ?_
  refine zj_callV (y' := m_Knot_init) hG (zcI (as := [_]) hG d_Rows_add_17 rfl (z_w2 206 rfl) (z_w2 207 rfl) (z_w2 208 rfl) ⟨by decide, by decide⟩ k0 (show _ = some 1 from by decide +kernel) rfl) c_Knot_init rfl (by omega) rfl (z_le rfl) (z_le rfl) (k_Knot_init hG k0 (by simp [zt, zl, zw, zn_new, ne_pp]) _) ?_
  refine zj_astore_n hG d_Rows_add_20 rfl (by decide) rfl rfl ?_
  refine zj_goto (tgt := 32) hG d_Rows_add_21 (by decide) ?_
  refine zj_ghost (a := zn h) (j := 1000) (v := r) (by omega) (Or.inl (by simp [zt, zl, zw, zn_new, ne_pp])) ?_
  refine zj_ghost (a := zn h + 1) (j := 1000) (v := r) (by omega) (Or.inl (by simp [zt, zl, zw, zn_new, ne_pp])) ?_
  refine zj_ghost (a := zn h + 1) (j := 1001) (v := zn h) (by omega) (Or.inl (by simp [zt, zl, zw, zn_new, ne_pp])) ?_
  refine zj_ghost (a := zn h + 1 + 1) (j := 1000) (v := r) (by omega) (Or.inl (by simp [zt, zl, zw, zn_new, ne_pp])) ?_
  refine zj_ghost (a := zn h + 1 + 1) (j := 1001) (v := zn h + 1) (by omega) (Or.inl (by simp [zt, zl, zw, zn_new, ne_pp])) ?_
  refine kk _ ⟨fun a ha => ?_, ?_, ?_, ?_, ?_, ?_⟩
  · have e0 : a ≠ zn h := by omega
    have e1 : a ≠ zn h + 1 := by omega
    have e2 : a ≠ zn h + 1 + 1 := by omega
    refine ⟨?_, ?_, ?_, ?_, ?_⟩ <;> first | (simp [zt, zl, zj, zw, zn_new, ne_pp, e0, e1, e2]; done) | (funext j; simp [zt, zl, zj, zi, za, zw, zu, zn_new, ne_pp, e0, e1, e2]) 
  · unfold cKn
    simp [zt, zl, za, zi, zu, zw, zn_new, ne_pp]
  · simp only [zn]; omega
  · show zn h + 1 + 1 + 1 ≤ zn h + 3; omega
  · show zs h + 2 + 4 + 6 ≤ zs h + 12; omega
  · show zs h ≤ zs h + 2 + 4 + 6; omega
theorem add_new4 (hG : zOK G) (hr : zt h r = 4) (wf : zWf h) (hn : zn h + 5 ≤ g0 G + 603072) (hs : zs h + 20 ≤ 7211114) {p : Int32} {Q : zO → zH → Prop} (kk : ∀ h2, cAl 4 h r h2 → zJ G 6 m_Rows_add 32 [some (zA r), some (zI p), some (zA (zn h))] [] h2 Q) : zJ G 6 m_Rows_add 9 [some (zA r), some (zI p), some (zA 0)] [] h Q := by
  have rl : r < zn h := (wf r (by rw [hr]; decide)).2
  have r1 : r ≠ zn h := by omega
  refine zj_new (k := 8) hG d_Rows_add_9 (z_w2 135 rfl) (z_w1 18 rfl) (by decide) (by decide) (by omega) (by show zs h + 2 ≤ _; omega) ?_
  refine zj_dup hG d_Rows_add_12 (by first | exact zc_A _ | rfl) ?_
  refine zj_aload_n hG d_Rows_add_13 rfl rfl ?_
  have hr0 : zt (znew h 8 (zN 8) 0) r = 4 := by show zw (zt h) (zn h) 8 r = 4; rw [zw_n r1]; exact hr
  refine zj_wf hG (fun wf0 => ?_)
  have k0 := (wf0 (zn h) (by show zw (zt h) (zn h) 8 (zn h) ≠ 0; rw [zw_s]; decide)).1
  refine zj_callR (y' := m_Signs_make2) hG (zcU (as := []) (owner := "LensPaths$Rows") hG d_Rows_add_14 c_Signs_make2 (z_w2 137 rfl) (z_w2 139 rfl) (z_w2 138 rfl) (z_w2 186 rfl) (z_w2 185 rfl) ⟨by decide, by decide⟩ hr0 (by decide) (by decide) (show _ = some 0 from by decide +kernel) rfl) c_Signs_make2 rfl (by omega) rfl (z_le rfl) (z_le rfl) (k_Signs_make2 hG hr0 (by show zn h + 1 + 3 ≤ _; omega) (by show zs h + 2 + 12 ≤ _; omega)) ?_
  refine zj_callV (y' := m_Knot_init) hG (zcI (as := [_]) hG d_Rows_add_17 rfl (z_w2 206 rfl) (z_w2 207 rfl) (z_w2 208 rfl) ⟨by decide, by decide⟩ k0 (show _ = some 1 from by decide +kernel) rfl) c_Knot_init rfl (by omega) rfl (z_le rfl) (z_le rfl) (k_Knot_init hG k0 (by simp [zt, zl, zw, zn_new, ne_pp]) _) ?_
  refine zj_astore_n hG d_Rows_add_20 rfl (by decide) rfl rfl ?_
  refine zj_goto (tgt := 32) hG d_Rows_add_21 (by decide) ?_
  refine zj_ghost (a := zn h) (j := 1000) (v := r) (by omega) (Or.inl (by simp [zt, zl, zw, zn_new, ne_pp])) ?_
  refine zj_ghost (a := zn h + 1) (j := 1000) (v := r) (by omega) (Or.inl (by simp [zt, zl, zw, zn_new, ne_pp])) ?_
  refine zj_ghost (a := zn h + 1) (j := 1001) (v := zn h) (by omega) (Or.inl (by simp [zt, zl, zw, zn_new, ne_pp])) ?_
  refine kk _ ⟨fun a ha => ?_, ?_, ?_, ?_, ?_, ?_⟩
  · have e0 : a ≠ zn h := by omega
    have e1 : a ≠ zn h + 1 := by omega
    have e2 : a ≠ zn h + 1 + 1 := by omega
    refine ⟨?_, ?_, ?_, ?_, ?_⟩ <;> first | (simp [zt, zl, zj, zw, zn_new, ne_pp, e0, e1, e2]; done) | (funext j; simp [zt, zl, zj, zi, za, zw, zu, zn_new, ne_pp, e0, e1, e2]) 
  · unfold cKn
    simp [zt, zl, za, zi, zu, zw, zn_new, ne_pp]
  · simp only [zn]; omega
  · show zn h + 1 + 1 ≤ zn h + 3; omega
  · show zs h + 2 + 2 ≤ zs h + 12; omega
  · show zs h ≤ zs h + 2 + 2; omega
theorem add_new (hG : zOK G) (hkR : K = 2 ∨ K = 3 ∨ K = 4) (hr : zt h r = K) (wf : zWf h) (hn : zn h + 5 ≤ g0 G + 603072) (hs : zs h + 20 ≤ 7211114) {p : Int32} {Q : zO → zH → Prop} (kk : ∀ h2, cAl K h r h2 → zJ G 6 m_Rows_add 32 [some (zA r), some (zI p), some (zA (zn h))] [] h2 Q) : zJ G 6 m_Rows_add 9 [some (zA r), some (zI p), some (zA 0)] [] h Q := by
  rcases hkR with rfl | rfl | rfl
  · exact add_new2 hG hr wf hn hs kk
  · exact add_new3 hG hr wf hn hs kk
  · exact add_new4 hG hr wf hn hs kk
theorem add_clear (hG : zOK G) (hkR : K = 2 ∨ K = 3 ∨ K = 4) {p : Nat} (hp : zt h p = K + 3) (h3 : K = 3 → zt h (za h p 3) = 21 ∧ zl h (za h p 3) = 6) {ls : List (Option zV)} {Q : zO → zH → Prop} (kk : ∀ h1, cCl K h p h1 → zJ G 6 m_Rows_add 47 ls [] h1 Q) : zJ G 6 m_Rows_add 44 ls [zA p] h Q := by
  rcases hkR with rfl | rfl | rfl
  · refine zj_callV (y' := m_Fld_clear) hG (zcU (as := []) (owner := "LensPaths$Named") hG d_Rows_add_44 c_Fld_clear (z_w2 218 rfl) (z_w2 220 rfl) (z_w2 219 rfl) (z_w2 222 rfl) (z_w2 221 rfl) ⟨by decide, by decide⟩ hp (by decide) (by decide) (show _ = some 0 from by decide +kernel) rfl) c_Fld_clear rfl (by omega) rfl (z_le rfl) (z_le rfl) (k_Fld_clear hG hp) ?_
    refine kk _ ⟨_, rfl, fun a e _ => ?_, ?_, ?_⟩
    · funext j; simp [zi, zu, e]
    · simp [zi, zu]
    · refine ⟨fun _ => ?_, fun e => absurd e (by decide), fun e => absurd e (by decide)⟩
      simp [zi, zu]
  · obtain ⟨q1, q2⟩ := h3 rfl
    have np : za h p 3 ≠ p := fun e => by rw [e, hp] at q1; cases q1
    refine zj_callV (y' := m_Place_clear) hG (zcU (as := []) (owner := "LensPaths$Named") hG d_Rows_add_44 c_Place_clear (z_w2 218 rfl) (z_w2 220 rfl) (z_w2 219 rfl) (z_w2 225 rfl) (z_w2 224 rfl) ⟨by decide, by decide⟩ hp (by decide) (by decide) (show _ = some 0 from by decide +kernel) rfl) c_Place_clear rfl (by omega) rfl (z_le rfl) (z_le rfl) (k_Place_clear hG hp q1 q2) ?_
    refine kk _ ⟨_, rfl, fun a e f => ?_, ?_, ?_⟩
    · have f := f rfl
      funext j; simp [zi, zu, e, f]
    · simp [zi, zu, np, np.symm]
    · refine ⟨fun e => absurd e (by decide), fun _ => ?_, fun e => absurd e (by decide)⟩
      unfold cPset
      simp [zi, za, zu, np, np.symm, tb]
  · refine zj_callV (y' := m_Sign_clear) hG (zcU (as := []) (owner := "LensPaths$Named") hG d_Rows_add_44 c_Sign_clear (z_w2 218 rfl) (z_w2 220 rfl) (z_w2 219 rfl) (z_w2 232 rfl) (z_w2 231 rfl) ⟨by decide, by decide⟩ hp (by decide) (by decide) (show _ = some 0 from by decide +kernel) rfl) c_Sign_clear rfl (by omega) rfl (z_le rfl) (z_le rfl) (k_Sign_clear hG hp) ?_
    refine kk _ ⟨_, rfl, fun a e _ => ?_, ?_, ?_⟩
    · funext j; simp [zi, zu, e]
    · simp [zi, zu]
    · refine ⟨fun e => absurd e (by decide), fun e => absurd e (by decide), fun _ => ?_⟩
      simp [zi, zu]
theorem cKn.sm {h' : zH} {k : Nat} (x : cKn h K r k) (e1 : cSm h h' k) (e2 : cSm h h' (za h k 0)) (e3 : K = 3 → cSm h h' (za h (za h k 0) 3)) : cKn h' K r k := by
  obtain ⟨a1, a2, a3, a4, a5, a6⟩ := x
  unfold cKn
  rw [e1.1, e1.2.2.2.1, e2.1, e2.2.2.2.1]
  refine ⟨a1, a2, a3, a4, a5, fun e => ?_⟩
  rw [(e3 e).1, (e3 e).2.1, (e3 e).2.2.2.1]
  exact a6 e
theorem cKn.in {k : Nat} (x : cKn h K r k) : zt h k ≠ 0 ∧ za h k 1000 = r ∧ zt h (za h k 0) ≠ 0 ∧ za h (za h k 0) 1000 = r ∧ (K = 3 → zt h (za h (za h k 0) 3) ≠ 0 ∧ za h (za h (za h k 0) 3) 1000 = r) := by
  obtain ⟨a1, a2, a3, a4, a5, a6⟩ := x
  exact ⟨by omega, a2, by omega, a4, fun e => ⟨by have := (a6 e).1; omega, (a6 e).2.2.1⟩⟩
/-- what belongs to the rows is as it was: so they are -/
theorem cRw.sm {h' : zH} {ks sp : List Nat} (x : cRw h K r ks sp) (e : ∀ a, zt h a ≠ 0 → za h a 1000 = r → cSm h h' a) : cRw h' K r ks sp ∧ ∀ k ∈ ks, cRk K h h' k := by
  obtain ⟨⟨hkR, hr, ho, hc, hsp, hnd, hkn, hm, hl, hpv⟩, hso⟩ := x
  have er := e r (by omega) ho
  have ek : ∀ k ∈ ks ++ sp, cSm h h' k := fun k hk => e k (hkn k hk).in.1 (hkn k hk).in.2.1
  have ep : ∀ k ∈ ks ++ sp, cSm h h' (za h k 0) := fun k hk => e _ (hkn k hk).in.2.2.1 (hkn k hk).in.2.2.2.1
  have pt : ∀ k ∈ ks, cPt h' k = cPt h k := fun k hk => by
    show zi h' (za h' k 0) 0 = zi h (za h k 0) 0
    rw [(ek k (List.mem_append_left _ hk)).2.2.2.1, (ep k (List.mem_append_left _ hk)).2.2.1]
  refine ⟨⟨⟨hkR, by rw [er.1]; exact hr, by rw [er.2.2.2.1]; exact ho, ?_, ?_, hnd, fun k hk => (hkn k hk).sm (ek k hk) (ep k hk) (fun e3 => e _ ((hkn k hk).in.2.2.2.2 e3).1 ((hkn k hk).in.2.2.2.2 e3).2), by rw [er.2.2.1]; exact hm, hl, fun k hk => by rw [pt k hk]; exact hpv k hk⟩, so_congr hso pt⟩, fun k hk => ?_⟩
  · rw [er.2.2.2.1]
    exact hc.congr (fun k hk => by show za h' k 1 = za h k 1; rw [(ek k (List.mem_append_left _ hk)).2.2.2.1])
  · rw [er.2.2.2.1]
    exact hsp.congr (fun k hk => by show za h' k 1 = za h k 1; rw [(ek k (List.mem_append_right _ hk)).2.2.2.1])
  · have hk' := List.mem_append_left sp hk
    exact ⟨by rw [(ek k hk').2.2.2.1], (ep k hk').2.2.1, (ep k hk').2.2.2.1, fun e3 => (e _ ((hkn k hk').in.2.2.2.2 e3).1 ((hkn k hk').in.2.2.2.2 e3).2).2.2.1⟩
theorem cKn.row {k j : Nat} (x : cKn h K r k) (y : cKn h K r j) (e : za h k 0 = za h j 0) : k = j := by rw [← x.2.2.2.2.1, e, y.2.2.2.2.1]
/-- what comes of an addition -/
def cAdd (K r : Nat) (p : Int32) (ks : List Nat) (h : zH) (v : zV) (h' : zH) : Prop := ∃ k l1 l2 sp, v = zA (za h' k 0) ∧ ks = l1 ++ l2 ∧ k ∉ ks ∧ cRw h' K r (l1 ++ k :: l2) sp ∧ cPt h' k = p ∧ cNew K h' (za h' k 0) ∧ cFr r h h' ∧ ∀ j ∈ ks, cRk K h h' j
theorem add_tail (hG : zOK G) {ks sp : List Nat} (x : cRw h K r ks sp) {k : Nat} (kn : cKn h K r k) (k0 : k ≠ 0) (knd : k ∉ ks ++ sp) (hl : ks.length < 100) {p : Int32} (hp : cPv p) (hno : ∀ j ∈ ks, cPt h j ≠ p) :
    zJ G 6 m_Rows_add 32 [some (zA r), some (zI p), some (zA k)] [] h (fun o h' => ∃ v, o = zR v ∧ cAdd K r p ks h v h' ∧ zn h' = zn h ∧ zs h' = zs h) := by
  have x0 := x
  obtain ⟨⟨hkR, hr, ho, hc, hsp, hnd, hkn, hm, hle, hpv⟩, hso⟩ := x
  have hkN : K + 3 = 5 ∨ K + 3 = 6 ∨ K + 3 = 7 := by omega
  obtain ⟨n1, n2, n3, n4⟩ := kn.ne hr hkR
  have k8 := kn.1
  have kp : zt h (za h k 0) = K + 3 := kn.2.2.1
  refine zj_aload_n hG d_Rows_add_32 rfl rfl ?_
  refine zj_getA hG d_Rows_add_33 f_Rows_13 (by assumption) rfl ?_
  refine zj_iload_n hG d_Rows_add_36 rfl rfl ?_
  refine zj_putI hG d_Rows_add_37 (f_Rows_19 hkN) kp (zM_19 hkN).2.1 (zM_19 hkN).2.2 ?_
  refine zj_aload_n hG d_Rows_add_40 rfl rfl ?_
  refine zj_getA hG d_Rows_add_41 f_Rows_13 (by assumption) rfl ?_
  refine add_clear hG hkR (show zt (zsi h (za h k 0) 0 p) (za h k 0) = K + 3 from kp) (fun e => ⟨(kn.2.2.2.2.2 e).1, (kn.2.2.2.2.2 e).2.1⟩) (fun h1 hcl => ?_)
  obtain ⟨I, rfl, hI, hI0, hnew⟩ := hcl
  -- the heap now: only the new row's numbers are others
  have hIo : ∀ a, a ≠ za h k 0 → (K = 3 → a ≠ za h (za h k 0) 3) → I a = zi h a := fun a e f => by
    rw [hI a e f]
    funext j
    exact zu_a e
  have hIp : I (za h k 0) 0 = p := by rw [hI0]; exact zu_s
  have Ir : I r = zi h r := hIo r n2.symm (fun e => (n4 e).1.symm)
  have Iks : ∀ j ∈ ks ++ sp, I (za h j 0) = zi h (za h j 0) := fun j hj => by
    have jn := hkn j hj
    refine hIo _ (fun e => ?_) (fun e3 e => ?_)
    · have := jn.row kn e
      rw [this] at hj
      exact knd hj
    · have a1 := jn.2.2.1
      rw [e, (kn.2.2.2.2.2 e3).1] at a1
      omega
  have Iar : ∀ j ∈ ks ++ sp, K = 3 → I (za h (za h j 0) 3) = zi h (za h (za h j 0) 3) := fun j hj e3 => by
    have jn := hkn j hj
    refine hIo _ (fun e => ?_) (fun _ e => ?_)
    · have a1 := (jn.2.2.2.2.2 e3).1
      rw [e, kp] at a1
      omega
    · have a1 := (jn.2.2.2.2.2 e3).2.2.2
      rw [e, (kn.2.2.2.2.2 e3).2.2.2] at a1
      have := kn.row jn a1
      rw [← this] at hj
      exact knd hj
  have pt : ∀ j ∈ ks, zi (zn h, zs h, zt h, zl h, I, za h, zj h) (za h j 0) 0 = cPt h j := fun j hj => by show I (za h j 0) 0 = zi h (za h j 0) 0; rw [Iks j (List.mem_append_left _ hj)]
  have nk : (k :: ks).Nodup := List.nodup_cons.mpr ⟨fun g => knd (List.mem_append_left _ g), (List.nodup_append.mp hnd).1⟩
  refine zj_aload_n hG d_Rows_add_47 rfl rfl ?_
  refine zj_aload_n hG d_Rows_add_48 rfl rfl ?_
  refine zj_callP (y' := m_Rows_insert) hG (zcP (as := [_]) hG d_Rows_add_49 c_Rows_insert (z_w2 234 rfl) (z_w2 236 rfl) (z_w2 235 rfl) (z_w2 89 rfl) rfl ⟨by decide, by decide⟩ hr (by omega) (by omega) (show _ = some 1 from by decide +kernel) rfl) c_Rows_insert rfl (by omega) rfl (z_le rfl) (z_le rfl) (k_Rows_insert (h := (zn h, zs h, zt h, zl h, I, za h, zj h)) hG hkR hr hc nk k0 (fun j hj => ?kt) (so_congr hso pt) (fun j hj => ?ne)) (fun h49 e49 => ?_)
  case kt =>
    rcases List.mem_cons.mp hj with rfl | hj
    · exact ⟨⟨k8, kp⟩, by show cPv (I (za h j 0) 0); rw [hIp]; exact hp⟩
    · have jn := hkn j (List.mem_append_left _ hj)
      exact ⟨⟨jn.1, jn.2.2.1⟩, by have := pt j hj; rw [show cPt (zn h, zs h, zt h, zl h, I, za h, zj h) j = cPt h j from this]; exact hpv j hj⟩
  case ne =>
    show zi (zn h, zs h, zt h, zl h, I, za h, zj h) (za h j 0) 0 ≠ I (za h k 0) 0
    rw [pt j hj, hIp]
    exact hno j hj
  have lk := e49.lk (fun j hj => by
    rcases List.mem_cons.mp hj with rfl | hj
    · exact ⟨k8, kn.2.1⟩
    · exact ⟨(hkn j (List.mem_append_left _ hj)).1, (hkn j (List.mem_append_left _ hj)).2.1⟩) ho
  obtain ⟨A, l1, l2, rfl, hl12, hcl2, hso2, hA⟩ := e49
  have hrA : zt (cSa (zn h, zs h, zt h, zl h, I, za h, zj h) A) r = K := hr
  refine zj_aload_n hG d_Rows_add_52 rfl rfl ?_
  refine zj_dup hG d_Rows_add_53 (by first | exact zc_A _ | rfl) ?_
  refine zj_getI hG d_Rows_add_54 (f_Rows_51 hkR) hrA (zM_51 hkR).1 ?_
  refine zj_iconst (v := 1) hG d_Rows_add_57 rfl ?_
  refine zj_iadd hG d_Rows_add_58 ?_
  refine zj_putI hG d_Rows_add_59 (f_Rows_51 hkR) hrA (zM_51 hkR).2.1 (zM_51 hkR).2.2 ?_
  refine zj_aload_n hG d_Rows_add_62 rfl rfl ?_
  refine zj_getA hG d_Rows_add_63 f_Rows_13 (by assumption) rfl ?_
  -- the end
  have lk0 : A k 0 = za h k 0 := lk.2.2.2.2.2.2.2.2.2.1 k n1
  have hkn1 : ∀ j ∈ k :: (ks ++ sp), cKn h K r j := fun j hj => by
    rcases List.mem_cons.mp hj with rfl | hj
    · exact kn
    · exact hkn j hj
  have big : ∀ j ∈ k :: (ks ++ sp), cKn (zn h, zs h, zt h, zl h, zu I r 2 (I r 2 + 1), A, zj h) K r j ∧ A j 0 = za h j 0 ∧ A (za h j 0) = za h (za h j 0) ∧ zu I r 2 (I r 2 + 1) (za h j 0) = I (za h j 0) ∧ (K = 3 → zu I r 2 (I r 2 + 1) (za h (za h j 0) 3) = I (za h (za h j 0) 3)) := by
    intro j hj
    have jn := hkn1 j hj
    obtain ⟨m1, m2, m3, m4⟩ := jn.ne hr hkR
    have jn' : cKn (zn h, zs h, zt h, zl h, I, za h, zj h) K r j := jn
    obtain ⟨q1, _, q3, _, q5, _⟩ := jn'.lk hr hkR lk
    exact ⟨q1, q3, q5, by funext i; exact zu_a m2, fun e3 => by funext i; exact zu_a (m4 e3).1⟩
  have hmem : ∀ j ∈ l1 ++ k :: l2, j ∈ k :: (ks ++ sp) := fun j hj => by
    rw [hl12]
    simp only [List.mem_append, List.mem_cons] at hj ⊢
    rcases hj with g | g | g
    · exact Or.inr (Or.inl (Or.inl g))
    · exact Or.inl g
    · exact Or.inr (Or.inl (Or.inr g))
  have ptk : ∀ j ∈ l1 ++ k :: l2, cPt (zn h, zs h, zt h, zl h, zu I r 2 (I r 2 + 1), A, zj h) j = cPt (zn h, zs h, zt h, zl h, I, za h, zj h) j := fun j hj => by
    obtain ⟨q1, q2, q3, q4, q5⟩ := big j (hmem j hj)
    show zu I r 2 (I r 2 + 1) (A j 0) 0 = I (za h j 0) 0
    rw [q2, q4]
  obtain ⟨b1, b2, b3, b4, b5⟩ := big k List.mem_cons_self
  refine zj_aret hG d_Rows_add_66 rfl (Or.inl ⟨_, rfl⟩) ⟨_, rfl, ⟨k, l1, l2, sp, rfl, hl12, fun g => knd (List.mem_append_left _ g), ⟨⟨hkR, hr, ?_, hcl2, ?_, ?_, ?_, ?_, ?_, ?_⟩, so_congr hso2 ptk⟩, ?_, ?_, ?_, ?_⟩, rfl, rfl⟩
  · exact (lk.2.2.2.2.2.2.2.2.2.2 r 1000 (by omega)).trans ho
  · show cLs (fun j => A j 1) (A r 1) sp
    have r1 : A r 1 = za h r 1 := by
      rcases hA r 1 with g | ⟨_, g⟩ | ⟨_, g⟩
      · exact g
      · cases g
      · have : zt h r = 8 := by
          rcases g with g | g
          · rw [g]; exact k8
          · exact (hkn r (List.mem_append_left _ g)).1
        omega
    rw [r1]
    refine hsp.congr (fun j hj => ?_)
    rcases hA j 1 with g | ⟨_, g⟩ | ⟨_, g⟩
    · exact g
    · cases g
    · rcases g with g | g
      · rw [g] at hj; exact absurd (List.mem_append_right _ hj) knd
      · exact absurd rfl ((List.nodup_append.mp hnd).2.2 j g j hj)
  · have e : (l1 ++ k :: l2 ++ sp).Perm (k :: (ks ++ sp)) := by
      rw [hl12]
      simp only [List.append_assoc, List.cons_append]
      exact List.perm_middle
    exact e.nodup_iff.mpr (List.nodup_cons.mpr ⟨knd, hnd⟩)
  · intro j hj
    rcases List.mem_append.mp hj with g | g
    · exact (big j (hmem j g)).1
    · exact (big j (List.mem_cons_of_mem _ (List.mem_append_right _ g))).1
  · show zu I r 2 (I r 2 + 1) r 2 = nI (l1 ++ k :: l2).length
    rw [zu_s, Ir, hm, nI_1, show (l1 ++ k :: l2).length = ks.length + 1 by rw [hl12]; simp; omega]
  · have : (l1 ++ k :: l2).length = ks.length + 1 := by rw [hl12]; simp; omega
    omega
  · intro j hj
    rw [ptk j hj]
    have hj2 := hmem j hj
    rcases List.mem_cons.mp hj2 with rfl | g
    · show cPv (I (za h j 0) 0); rw [hIp]; exact hp
    · have jks : j ∈ ks := by
        rw [hl12]
        simp only [List.mem_append, List.mem_cons] at hj ⊢
        rcases hj with g2 | g2 | g2
        · exact Or.inl g2
        · rw [g2] at g; exact absurd g knd
        · exact Or.inr g2
      have := pt j jks
      rw [show cPt (zn h, zs h, zt h, zl h, I, za h, zj h) j = cPt h j from this]; exact hpv j jks
  · rw [ptk k (List.mem_append_right _ List.mem_cons_self)]
    exact hIp
  · show cNew K (zn h, zs h, zt h, zl h, zu I r 2 (I r 2 + 1), A, zj h) (A k 0)
    rw [b2]
    obtain ⟨w1, w2, w3⟩ := hnew
    refine ⟨fun e => ?_, fun e => ?_, fun e => ?_⟩
    · show zu I r 2 (I r 2 + 1) (za h k 0) 1 = 0 ∧ zu I r 2 (I r 2 + 1) (za h k 0) 2 = 0 ∧ zu I r 2 (I r 2 + 1) (za h k 0) 3 = 0
      rw [b4]; exact w1 e
    · show zu I r 2 (I r 2 + 1) (za h k 0) 1 = 0 ∧ zu I r 2 (I r 2 + 1) (za h k 0) 2 = 1 ∧ zu I r 2 (I r 2 + 1) (A (za h k 0) 3) 0 = 0
      rw [b3, b4, b5 e]; exact w2 e
    · show zu I r 2 (I r 2 + 1) (za h k 0) 1 = 0
      rw [b4]; exact w3 e
  · intro a e f
    have ar : a ≠ r := fun g => f (by rw [g]; exact ho)
    refine ⟨rfl, rfl, ?_, ?_, rfl⟩
    · show zu I r 2 (I r 2 + 1) a = zi h a
      have : zu I r 2 (I r 2 + 1) a = I a := by funext i; exact zu_a ar
      rw [this]
      exact hIo a (fun g => f (by rw [g]; exact kn.2.2.2.1)) (fun e3 g => f (by rw [g]; exact (kn.2.2.2.2.2 e3).2.2.1))
    · exact lk.2.2.2.2.2.2.2.2.1 a f
  · intro j hj
    have hj' := List.mem_append_left sp hj
    obtain ⟨q1, q2, q3, q4, q5⟩ := big j (List.mem_cons_of_mem _ hj')
    exact ⟨q2, q4.trans (Iks j hj'), q3, fun e3 => (q5 e3).trans (Iar j hj' e3)⟩
theorem k_Rows_add (hG : zOK G) {ks sp : List Nat} (x : cRw h K r ks sp) (hl : ks.length < 100) {p : Int32} (hp : cPv p) (hno : ∀ j ∈ ks, cPt h j ≠ p) (hn : zn h + 5 ≤ g0 G + 603072) (hs : zs h + 20 ≤ 7211114) :
    zJ G 6 m_Rows_add 0 [some (zA r), some (zI p), none] [] h (fun o h' => ∃ v, o = zR v ∧ cAdd K r p ks h v h' ∧ zn h ≤ zn h' ∧ zn h' ≤ zn h + 3 ∧ zs h ≤ zs h' ∧ zs h' ≤ zs h + 12) := by
  refine zj_wf hG (fun wf => ?_)
  have x0 := x
  obtain ⟨⟨hkR, hr, ho, hc, hsp, hnd, hkn, hm, hle, hpv⟩, hso⟩ := x
  cases sp with
  | nil =>
    have hz : za h r 1 = 0 := hsp
    refine zj_aload_n hG d_Rows_add_0 rfl rfl ?_
    refine zj_getA hG d_Rows_add_1 (f_Rows_34 hkR) hr (zM_34 hkR).1 ?_
    rw [hz]
    refine zj_astore_n hG d_Rows_add_4 rfl (by decide) rfl rfl ?_
    refine zj_aload_n hG d_Rows_add_5 rfl rfl ?_
    refine zj_ifnonnull (tgt := 24) hG d_Rows_add_6 (by decide) (fun c => absurd rfl c) (fun _ => ?_)
    refine add_new hG hkR hr wf hn hs (fun h2 al => ?_)
    obtain ⟨a1, a2, a3, a4, a5, a6⟩ := al
    have fr : ∀ a, zt h a ≠ 0 → cSm h h2 a := fun a e => a1 a (wf a e).2
    obtain ⟨x2, rk⟩ := x0.sm (fun a e _ => fr a e)
    have kk : zn h ∉ ks ++ [] := fun g => by
      have := (wf _ (hkn _ g).in.1).2
      omega
    have z0 : zn h ≠ 0 := by have := (wf r (by omega)).2; omega
    refine (add_tail hG x2 a2 z0 kk hl hp (fun j hj => ?_)).mono ?_
    · have := rk j hj
      show zi h2 (za h2 j 0) 0 ≠ p
      rw [this.1, this.2.1]; exact hno j hj
    · rintro o h' ⟨v, e, ⟨k, l1, l2, sp, c1, c2, c3, c4, c5, c6, c7, c8⟩, c9, c10⟩
      exact ⟨v, e, ⟨k, l1, l2, sp, c1, c2, c3, c4, c5, c6, fun a e f => (fr a e).trans (c7 a (by rw [(fr a e).1]; exact e) (by rw [(fr a e).2.2.2.1]; exact f)), fun j hj => (rk j hj).trans (c8 j hj)⟩, by omega, by omega, by omega, by omega⟩
  | cons k sp =>
    obtain ⟨hz, k0, hsp2⟩ := hsp
    have km : k ∈ ks ++ k :: sp := List.mem_append_right _ List.mem_cons_self
    have kn := hkn k km
    have k8 := kn.1
    obtain ⟨n1, n2, n3, n4⟩ := kn.ne hr hkR
    refine zj_aload_n hG d_Rows_add_0 rfl rfl ?_
    refine zj_getA hG d_Rows_add_1 (f_Rows_34 hkR) hr (zM_34 hkR).1 ?_
    rw [hz]
    refine zj_astore_n hG d_Rows_add_4 rfl (by decide) rfl rfl ?_
    refine zj_aload_n hG d_Rows_add_5 rfl rfl ?_
    refine zj_ifnonnull (tgt := 24) hG d_Rows_add_6 (by decide) (fun _ => ?_) (fun c => absurd c k0)
    refine zj_aload_n hG d_Rows_add_24 rfl rfl ?_
    refine zj_aload_n hG d_Rows_add_25 rfl rfl ?_
    refine zj_getA hG d_Rows_add_26 f_Rows_25 (by assumption) rfl ?_
    refine zj_putA hG d_Rows_add_29 (f_Rows_34 hkR) (by assumption) (zM_34 hkR).1 (Or.inl (zM_34 hkR).2) ?_
    have lk : cLk h r (zsa h r 1 (za h k 1)) := by
      refine ⟨rfl, rfl, rfl, rfl, rfl, fun _ _ => rfl, fun _ _ => rfl, fun a e f => ?_, fun a e => ?_, fun a e => ?_, fun a j e => ?_⟩
      · funext j; exact zu_a e
      · funext j; exact zu_a (fun g => e (by rw [g]; exact ho))
      · exact zu_a e
      · exact zu_k (by omega)
    have big : ∀ j ∈ ks ++ k :: sp, _ := fun j hj => (hkn j hj).lk hr hkR lk
    have nx : ∀ j ∈ ks ++ k :: sp, za (zsa h r 1 (za h k 1)) j 1 = za h j 1 := fun j hj => zu_a ((hkn j hj).ne hr hkR).1
    have nd2 : (k :: (ks ++ sp)).Nodup := List.perm_middle.nodup_iff.mp hnd
    have nd3 := List.nodup_cons.mp nd2
    have sub : ∀ j ∈ ks ++ sp, j ∈ ks ++ k :: sp := fun j hj => by
      rcases List.mem_append.mp hj with g | g
      · exact List.mem_append_left _ g
      · exact List.mem_append_right _ (List.mem_cons_of_mem _ g)
    have x2 : cRw (zsa h r 1 (za h k 1)) K r ks sp := by
      refine ⟨⟨hkR, hr, ?_, ?_, ?_, nd3.2, fun j hj => (big j (sub j hj)).1, hm, hle, fun j hj => ?_⟩, so_congr hso (fun j hj => (big j (List.mem_append_left _ hj)).2.1)⟩
      · exact (zu_k (by decide)).trans ho
      · show cLs _ (zu (za h) r 1 (za h k 1) r 0) ks
        rw [zu_k (by decide)]
        exact hc.congr (fun j hj => nx j (List.mem_append_left _ hj))
      · show cLs _ (zu (za h) r 1 (za h k 1) r 1) sp
        rw [zu_s]
        exact hsp2.congr (fun j hj => nx j (List.mem_append_right _ (List.mem_cons_of_mem _ hj)))
      · rw [(big j (List.mem_append_left _ hj)).2.1]; exact hpv j hj
    refine (add_tail hG x2 (big k km).1 k0 nd3.1 hl hp (fun j hj => ?_)).mono ?_
    · rw [(big j (List.mem_append_left _ hj)).2.1]; exact hno j hj
    · rintro o h' ⟨v, e, ⟨k', l1, l2, sp, c1, c2, c3, c4, c5, c6, c7, c8⟩, c9, c10⟩
      have c9 : zn h' = zn h := c9
      have c10 : zs h' = zs h := c10
      refine ⟨v, e, ⟨k', l1, l2, sp, c1, c2, c3, c4, c5, c6, (lk.fr ho).trans c7, fun j hj => ?_⟩, by omega, by omega, by omega, by omega⟩
      obtain ⟨_, _, q3, q4, q5, q6⟩ := big j (List.mem_append_left _ hj)
      exact cRk.trans ⟨q3, q4, q5, q6⟩ (c8 j hj)
end CR6
