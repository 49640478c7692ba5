/-! PART 74: the component: rows are made and cleared -/
section CR5
variable {G : zG} {h : zH} {K r : Nat}
theorem k_Named_init (hG : zOK G) {a : Nat} (ha : a ≠ 0) : zJ G 1 m_Named_init 0 [some (zA a)] [] h (fun o h' => o = zR0 ∧ h' = h) := by
  refine zj_aload_n hG d_Named_init_0 rfl rfl ?_
  refine zj_objinit hG d_Named_init_1 (z_w1 99 rfl) (by assumption) (by omega) (z_le rfl) ?_
  exact zj_vret hG d_Named_init_4 rfl ⟨rfl, rfl⟩
theorem k_Fld_init (hG : zOK G) {a : Nat} (ha : a ≠ 0) : zJ G 2 m_Fld_init 0 [some (zA a)] [] h (fun o h' => o = zR0 ∧ h' = h) := by
  refine zj_aload_n hG d_Fld_init_0 rfl rfl ?_
  refine zj_callV (y' := m_Named_init) hG (zcIN (as := []) hG d_Fld_init_1 rfl (z_w2 160 rfl) (z_w1 97 rfl) (z_w1 98 rfl) ⟨by decide, by decide⟩ ha (show _ = some 0 from by decide +kernel) rfl) c_Named_init rfl (by omega) rfl (z_le rfl) (z_le rfl) (k_Named_init hG ha) ?_
  exact zj_vret hG d_Fld_init_4 rfl ⟨rfl, rfl⟩
theorem k_Sign_init (hG : zOK G) {a : Nat} (ha : a ≠ 0) : zJ G 2 m_Sign_init 0 [some (zA a)] [] h (fun o h' => o = zR0 ∧ h' = h) := by
  refine zj_aload_n hG d_Sign_init_0 rfl rfl ?_
  refine zj_callV (y' := m_Named_init) hG (zcIN (as := []) hG d_Sign_init_1 rfl (z_w2 197 rfl) (z_w1 97 rfl) (z_w1 98 rfl) ⟨by decide, by decide⟩ ha (show _ = some 0 from by decide +kernel) rfl) c_Named_init rfl (by omega) rfl (z_le rfl) (z_le rfl) (k_Named_init hG ha) ?_
  exact zj_vret hG d_Sign_init_4 rfl ⟨rfl, rfl⟩
theorem k_Place_init (hG : zOK G) {a : Nat} (ha : a ≠ 0) (ht : zt h a = 6) (hl : a ≠ zn h) (hn : zn h + 1 ≤ g0 G + 603072) (hs : zs h + 6 ≤ 7211114) : zJ G 2 m_Place_init 0 [some (zA a)] [] h (fun o h' => o = zR0 ∧ h' = zsa (znew h 21 6 6) a 3 (zn h)) := by
  refine zj_aload_n hG d_Place_init_0 rfl rfl ?_
  refine zj_callV (y' := m_Named_init) hG (zcIN (as := []) hG d_Place_init_1 rfl (z_w1 96 rfl) (z_w1 97 rfl) (z_w1 98 rfl) ⟨by decide, by decide⟩ ha (show _ = some 0 from by decide +kernel) rfl) c_Named_init rfl (by omega) rfl (z_le rfl) (z_le rfl) (k_Named_init hG ha) ?_
  refine zj_aload_n hG d_Place_init_4 rfl rfl ?_
  refine zj_bipush (v := 6) hG d_Place_init_5 rfl ?_
  refine zj_newI (N := 6) hG d_Place_init_7 (by decide) rfl (by decide) hn hs ?_
  refine zj_putA hG d_Place_init_9 f_Place_9 (show zt (znew h 21 6 6) a = 6 by show zw (zt h) (zn h) 21 a = 6; rw [zw_n hl]; exact ht) rfl (Or.inr ⟨rfl, rfl⟩) ?_
  exact zj_vret hG d_Place_init_12 rfl ⟨rfl, rfl⟩
/-- a new row -/
def cMk (K : Nat) (h h1 : zH) : Prop := (K = 2 ∧ h1 = znew h 5 4 0) ∨ (K = 3 ∧ h1 = zsa (znew (znew h 6 4 0) 21 6 6) (zn h) 3 (zn h + 1)) ∨ (K = 4 ∧ h1 = znew h 7 2 0)
theorem k_Schema_make1 (hG : zOK G) {v : zV} (hn : zn h + 3 ≤ g0 G + 603072) (hs : zs h + 12 ≤ 7211114) : zJ G 3 m_Schema_make1 0 [some v] [] h (fun o h' => o = zR (zA (zn h)) ∧ h' = znew h 5 4 0) := by
  refine zj_new (k := 5) hG d_Schema_make1_0 (z_w2 105 rfl) (z_w1 19 rfl) (by decide) (by decide) (by omega) (by show zs h + 4 ≤ _; omega) ?_
  refine zj_wf hG (fun wf => ?_)
  have a0 := (wf (zn h) (by show zw (zt h) (zn h) 5 (zn h) ≠ 0; rw [zw_s]; decide)).1
  refine zj_dup hG d_Schema_make1_3 (by first | exact zc_A _ | rfl) ?_
  refine zj_callV (y' := m_Fld_init) hG (zcIN (as := []) hG d_Schema_make1_4 rfl (z_w2 157 rfl) (z_w2 158 rfl) (z_w2 159 rfl) ⟨by decide, by decide⟩ a0 (show _ = some 0 from by decide +kernel) rfl) c_Fld_init rfl (by omega) rfl (z_le rfl) (z_le rfl) (k_Fld_init hG a0) ?_
  exact zj_aret hG d_Schema_make1_7 rfl (Or.inl ⟨_, rfl⟩) ⟨rfl, rfl⟩
theorem k_Signs_make1 (hG : zOK G) {v : zV} (hn : zn h + 3 ≤ g0 G + 603072) (hs : zs h + 12 ≤ 7211114) : zJ G 3 m_Signs_make1 0 [some v] [] h (fun o h' => o = zR (zA (zn h)) ∧ h' = znew h 7 2 0) := by
  refine zj_new (k := 7) hG d_Signs_make1_0 (z_w2 192 rfl) (z_w1 20 rfl) (by decide) (by decide) (by omega) (by show zs h + 2 ≤ _; omega) ?_
  refine zj_wf hG (fun wf => ?_)
  have a0 := (wf (zn h) (by show zw (zt h) (zn h) 7 (zn h) ≠ 0; rw [zw_s]; decide)).1
  refine zj_dup hG d_Signs_make1_3 (by first | exact zc_A _ | rfl) ?_
  refine zj_callV (y' := m_Sign_init) hG (zcIN (as := []) hG d_Signs_make1_4 rfl (z_w2 194 rfl) (z_w2 195 rfl) (z_w2 196 rfl) ⟨by decide, by decide⟩ a0 (show _ = some 0 from by decide +kernel) rfl) c_Sign_init rfl (by omega) rfl (z_le rfl) (z_le rfl) (k_Sign_init hG a0) ?_
  exact zj_aret hG d_Signs_make1_7 rfl (Or.inl ⟨_, rfl⟩) ⟨rfl, rfl⟩
theorem k_Places_make1 (hG : zOK G) {v : zV} (hn : zn h + 3 ≤ g0 G + 603072) (hs : zs h + 12 ≤ 7211114) : zJ G 3 m_Places_make1 0 [some v] [] h (fun o h' => o = zR (zA (zn h)) ∧ h' = zsa (znew (znew h 6 4 0) 21 6 6) (zn h) 3 (zn h + 1)) := by
  refine zj_new (k := 6) hG d_Places_make1_0 (z_w2 147 rfl) (z_w1 7 rfl) (by decide) (by decide) (by omega) (by show zs h + 4 ≤ _; omega) ?_
  refine zj_wf hG (fun wf => ?_)
  have t6 : zt (znew h 6 4 0) (zn h) = 6 := by show zw (zt h) (zn h) 6 (zn h) = 6; rw [zw_s]
  have a0 := (wf (zn h) (by rw [t6]; decide)).1
  refine zj_dup hG d_Places_make1_3 (by first | exact zc_A _ | rfl) ?_
  refine zj_callV (y' := m_Place_init) hG (zcIN (as := []) hG d_Places_make1_4 rfl (z_w2 148 rfl) (z_w1 94 rfl) (z_w1 95 rfl) ⟨by decide, by decide⟩ a0 (show _ = some 0 from by decide +kernel) rfl) c_Place_init rfl (by omega) rfl (z_le rfl) (z_le rfl) (k_Place_init hG a0 t6 (by show zn h ≠ zn h + 1; omega) (by show zn h + 1 + 1 ≤ _; omega) (by show zs h + 4 + 6 ≤ _; omega)) ?_
  exact zj_aret hG d_Places_make1_7 rfl (Or.inl ⟨_, rfl⟩) ⟨rfl, rfl⟩
theorem k_Schema_make2 (hG : zOK G) {r : Nat} (hr : zt h r = 2) (hn : zn h + 3 ≤ g0 G + 603072) (hs : zs h + 12 ≤ 7211114) : zJ G 4 m_Schema_make2 0 [some (zA r)] [] h (fun o h' => o = zR (zA (zn h)) ∧ h' = znew h 5 4 0) := by
  refine zj_aload_n hG d_Schema_make2_0 rfl rfl ?_
  refine zj_callR (y' := m_Schema_make1) hG (zcV (as := []) hG d_Schema_make2_1 c_Schema_make1 (z_w2 152 rfl) (z_w2 153 rfl) (z_w2 154 rfl) ⟨by decide, by decide⟩ hr (by decide) (by decide) (show _ = some 0 from by decide +kernel) rfl) c_Schema_make1 rfl (by omega) rfl (z_le rfl) (z_le rfl) (k_Schema_make1 hG hn hs) ?_
  exact zj_aret hG d_Schema_make2_4 rfl (Or.inl ⟨_, rfl⟩) ⟨rfl, rfl⟩
theorem k_Places_make2 (hG : zOK G) {r : Nat} (hr : zt h r = 3) (hn : zn h + 3 ≤ g0 G + 603072) (hs : zs h + 12 ≤ 7211114) : zJ G 4 m_Places_make2 0 [some (zA r)] [] h (fun o h' => o = zR (zA (zn h)) ∧ h' = zsa (znew (znew h 6 4 0) 21 6 6) (zn h) 3 (zn h + 1)) := by
  refine zj_aload_n hG d_Places_make2_0 rfl rfl ?_
  refine zj_callR (y' := m_Places_make1) hG (zcV (as := []) hG d_Places_make2_1 c_Places_make1 (z_w2 143 rfl) (z_w2 144 rfl) (z_w2 145 rfl) ⟨by decide, by decide⟩ hr (by decide) (by decide) (show _ = some 0 from by decide +kernel) rfl) c_Places_make1 rfl (by omega) rfl (z_le rfl) (z_le rfl) (k_Places_make1 hG hn hs) ?_
  exact zj_aret hG d_Places_make2_4 rfl (Or.inl ⟨_, rfl⟩) ⟨rfl, rfl⟩
theorem k_Signs_make2 (hG : zOK G) {r : Nat} (hr : zt h r = 4) (hn : zn h + 3 ≤ g0 G + 603072) (hs : zs h + 12 ≤ 7211114) : zJ G 4 m_Signs_make2 0 [some (zA r)] [] h (fun o h' => o = zR (zA (zn h)) ∧ h' = znew h 7 2 0) := by
  refine zj_aload_n hG d_Signs_make2_0 rfl rfl ?_
  refine zj_callR (y' := m_Signs_make1) hG (zcV (as := []) hG d_Signs_make2_1 c_Signs_make1 (z_w2 188 rfl) (z_w2 189 rfl) (z_w2 190 rfl) ⟨by decide, by decide⟩ hr (by decide) (by decide) (show _ = some 0 from by decide +kernel) rfl) c_Signs_make1 rfl (by omega) rfl (z_le rfl) (z_le rfl) (k_Signs_make1 hG hn hs) ?_
  exact zj_aret hG d_Signs_make2_4 rfl (Or.inl ⟨_, rfl⟩) ⟨rfl, rfl⟩
theorem k_Fld_clear (hG : zOK G) {a : Nat} (ht : zt h a = 5) : zJ G 0 m_Fld_clear 0 [some (zA a)] [] h (fun o h' => o = zR0 ∧ h' = zsi (zsi (zsi h a 1 0) a 2 0) a 3 0) := by
  refine zj_aload_n hG d_Fld_clear_0 rfl rfl ?_
  refine zj_iconst (v := 0) hG d_Fld_clear_1 rfl ?_
  refine zj_putI hG d_Fld_clear_2 f_Fld_9 (by assumption) rfl rfl ?_
  refine zj_aload_n hG d_Fld_clear_5 rfl rfl ?_
  refine zj_iconst (v := 0) hG d_Fld_clear_6 rfl ?_
  refine zj_putI hG d_Fld_clear_7 f_Fld_15 (by assumption) rfl rfl ?_
  refine zj_aload_n hG d_Fld_clear_10 rfl rfl ?_
  refine zj_iconst (v := 0) hG d_Fld_clear_11 rfl ?_
  refine zj_putI hG d_Fld_clear_12 f_Fld_18 (by assumption) rfl rfl ?_
  exact zj_vret hG d_Fld_clear_15 rfl ⟨rfl, rfl⟩
theorem k_Sign_clear (hG : zOK G) {a : Nat} (ht : zt h a = 7) : zJ G 0 m_Sign_clear 0 [some (zA a)] [] h (fun o h' => o = zR0 ∧ h' = zsi h a 1 0) := by
  refine zj_aload_n hG d_Sign_clear_0 rfl rfl ?_
  refine zj_iconst (v := 0) hG d_Sign_clear_1 rfl ?_
  refine zj_putI hG d_Sign_clear_2 f_Sign_7 (by assumption) rfl rfl ?_
  exact zj_vret hG d_Sign_clear_5 rfl ⟨rfl, rfl⟩
/-- a place set -/
def cPset (h : zH) (a : Nat) (b : Bool) (x : Int32) : zH := zsi (zsi (zsi h a 1 (tb b)) a 2 (if b then 0 else 1)) (za h a 3) 0 x
theorem k_Place_set (hG : zOK G) {a : Nat} (ht : zt h a = 6) (h21 : zt h (za h a 3) = 21) (hl : zl h (za h a 3) = 6) (b : Bool) (x : Int32) : zJ G 0 m_Place_set 0 [some (zA a), some (zI (tb b)), some (zI x)] [] h (fun o h' => o = zR0 ∧ h' = cPset h a b x) := by
  refine zj_aload_n hG d_Place_set_0 rfl rfl ?_
  refine zj_iload_n hG d_Place_set_1 rfl rfl ?_
  refine zj_putZ hG d_Place_set_2 f_Place_19 ht  rfl rfl  (by cases b <;> simp [tb]) ?_
  refine zj_aload_n hG d_Place_set_5 rfl rfl ?_
  refine zj_iload_n hG d_Place_set_6 rfl rfl ?_
  cases b with
  | false =>
    refine zj_if_eq (tgt := 14) hG d_Place_set_7 (by decide) (fun _ => ?_) (fun c => absurd rfl c)
    refine zj_iconst (v := 1) hG d_Place_set_14 rfl ?_
    refine zj_putI hG d_Place_set_15 f_Place_23 (by assumption) rfl rfl ?_
    refine zj_aload_n hG d_Place_set_18 rfl rfl ?_
    refine zj_getA hG d_Place_set_19 f_Place_9 (by assumption) rfl ?_
    refine zj_iconst (v := 0) hG d_Place_set_22 rfl ?_
    refine zj_iload_n hG d_Place_set_23 rfl rfl ?_
    refine zj_iast hG d_Place_set_24 h21 (by show vp_in 0 (zl h (za h a 3)); rw [hl]; exact nI_in' (k := 0) (by decide) (by decide)) ?_
    exact zj_vret hG d_Place_set_25 rfl ⟨rfl, rfl⟩
  | true =>
    refine zj_if_eq (tgt := 14) hG d_Place_set_7 (by decide) (fun c => absurd c (by decide)) (fun _ => ?_)
    refine zj_iconst (v := 0) hG d_Place_set_10 rfl ?_
    refine zj_goto (tgt := 15) hG d_Place_set_11 (by decide) ?_
    refine zj_putI hG d_Place_set_15 f_Place_23 (by assumption) rfl rfl ?_
    refine zj_aload_n hG d_Place_set_18 rfl rfl ?_
    refine zj_getA hG d_Place_set_19 f_Place_9 (by assumption) rfl ?_
    refine zj_iconst (v := 0) hG d_Place_set_22 rfl ?_
    refine zj_iload_n hG d_Place_set_23 rfl rfl ?_
    refine zj_iast hG d_Place_set_24 h21 (by show vp_in 0 (zl h (za h a 3)); rw [hl]; exact nI_in' (k := 0) (by decide) (by decide)) ?_
    exact zj_vret hG d_Place_set_25 rfl ⟨rfl, rfl⟩
theorem k_Place_clear (hG : zOK G) {a : Nat} (ht : zt h a = 6) (h21 : zt h (za h a 3) = 21) (hl : zl h (za h a 3) = 6) : zJ G 1 m_Place_clear 0 [some (zA a)] [] h (fun o h' => o = zR0 ∧ h' = cPset h a false 0) := by
  refine zj_aload_n hG d_Place_clear_0 rfl rfl ?_
  refine zj_iconst (v := 0) hG d_Place_clear_1 rfl ?_
  refine zj_iconst (v := 0) hG d_Place_clear_2 rfl ?_
  refine zj_callV (y' := m_Place_set) hG (zcV (as := [_, _]) hG d_Place_clear_3 c_Place_set (z_w2 227 rfl) (z_w2 228 rfl) (z_w2 229 rfl) ⟨by decide, by decide⟩ ht (by decide) (by decide) (show _ = some 2 from by decide +kernel) rfl) c_Place_set rfl (by omega) rfl (z_le rfl) (z_le rfl) (k_Place_set hG ht h21 hl false 0) ?_
  exact zj_vret hG d_Place_clear_6 rfl ⟨rfl, rfl⟩
end CR5
