/-! PART 50: the component: paths -/
/-- how many names a path has -/
def cdp (m : Nat) : Nat := if m = 0 then 0 else if m < 2 ^ 7 then 1 else if m < 2 ^ 14 then 2 else if m < 2 ^ 21 then 3 else 4
theorem cdp_le {m k : Nat} (hm : m < 2 ^ 28) (hk : k ≤ 4) : cdp m ≤ k ↔ m < 2 ^ (7 * k) := by
  have h5 : k = 0 ∨ k = 1 ∨ k = 2 ∨ k = 3 ∨ k = 4 := by omega
  unfold cdp
  rcases h5 with e | e | e | e | e <;> subst e <;> repeat' split
  all_goals simp only [Nat.reducePow, Nat.reduceMul] at *
  all_goals omega
section CP1
variable {G : zG}
theorem ush7 {m k : Nat} (hm : m < 2 ^ 28) (hk : k ≤ 4) : ((nI m).toUInt32 >>> (((7 : Int32) * nI k).toUInt32 &&& Int32.toUInt32 31)).toInt32 = nI (m / 2 ^ (7 * k)) := by
  have h5 : k = 0 ∨ k = 1 ∨ k = 2 ∨ k = 3 ∨ k = 4 := by omega
  rcases h5 with e | e | e | e | e <;> subst e <;> exact pk_ushrN (by omega) _ _ rfl
set_option maxRecDepth 4000 in
theorem k_Paths_depthL (hG : zOK G) {m : Nat} (hm : m < 2 ^ 28) (h : zH) : ∀ (r k : Nat), k + r = 4 → k ≤ cdp m → zJ G 0 m_Paths_depth 2 [some (zI (nI m)), some (zI (nI k))] [] h (fun o h' => o = zR (zI (nI (cdp m))) ∧ h' = h) := by
  intro r
  induction r with
  | zero =>
    intro k hk hc
    have : k = 4 := by omega
    subst this
    have c4 : cdp m = 4 := by
      have := (cdp_le (k := 4) hm (by omega)).mpr (by omega)
      omega
    rw [c4]
    refine zj_iload_n hG d_Paths_depth_2 rfl rfl ?_
    refine zj_bipush (v := 7) hG d_Paths_depth_3 rfl ?_
    refine zj_iload_n hG d_Paths_depth_5 rfl rfl ?_
    refine zj_imul hG d_Paths_depth_6 ?_
    refine zj_iushr hG d_Paths_depth_7 ?_
    rw [ush7 hm (by omega)]
    refine zj_if_eq (tgt := 17) hG d_Paths_depth_8 (by decide) (fun _ => ?_) (fun c => absurd (by rw [show m / 2 ^ (7 * 4) = 0 from Nat.div_eq_of_lt (by omega)]; rfl) c)
    refine zj_iload_n hG d_Paths_depth_17 rfl rfl ?_
    exact zj_iret hG d_Paths_depth_18 rfl rfl ⟨rfl, rfl⟩
  | succ r ih =>
    intro k hk hc
    have hle := cdp_le (k := k) hm (by omega)
    refine zj_iload_n hG d_Paths_depth_2 rfl rfl ?_
    refine zj_bipush (v := 7) hG d_Paths_depth_3 rfl ?_
    refine zj_iload_n hG d_Paths_depth_5 rfl rfl ?_
    refine zj_imul hG d_Paths_depth_6 ?_
    refine zj_iushr hG d_Paths_depth_7 ?_
    rw [ush7 hm (by omega)]
    refine zj_if_eq (tgt := 17) hG d_Paths_depth_8 (by decide) (fun c8 => ?_) (fun c8 => ?_)
    · have hz : m / 2 ^ (7 * k) = 0 := by
        have hb : m / 2 ^ (7 * k) < 2 ^ 31 := Nat.lt_of_le_of_lt (Nat.div_le_self _ _) (by omega)
        exact (nI_eq (b := 0) hb (by omega)).mp c8
      have hlt : m < 2 ^ (7 * k) := by
        rcases Nat.lt_or_ge m (2 ^ (7 * k)) with g | g
        · exact g
        · have := Nat.div_pos g (Nat.two_pow_pos _)
          omega
      have := hle.mpr hlt
      have e : cdp m = k := by omega
      rw [e]
      refine zj_iload_n hG d_Paths_depth_17 rfl rfl ?_
      exact zj_iret hG d_Paths_depth_18 rfl rfl ⟨rfl, rfl⟩
    · have hge : ¬ m < 2 ^ (7 * k) := fun g => c8 (by rw [Nat.div_eq_of_lt g]; rfl)
      have : ¬ cdp m ≤ k := fun g => hge (hle.mp g)
      refine zj_iinc hG d_Paths_depth_11 rfl (nI_1 k) (by decide) rfl rfl ?_
      refine zj_goto (tgt := 2) hG d_Paths_depth_14 (by decide) ?_
      exact ih (k + 1) (by omega) (by omega)
theorem k_Paths_depth (hG : zOK G) {m : Nat} (hm : m < 2 ^ 28) (h : zH) : zJ G 0 m_Paths_depth 0 [some (zI (nI m)), none] [] h (fun o h' => o = zR (zI (nI (cdp m))) ∧ h' = h) := by
  refine zj_iconst (v := 0) hG d_Paths_depth_0 rfl ?_
  refine zj_istore_n hG d_Paths_depth_1 rfl (by decide) rfl rfl ?_
  exact k_Paths_depthL hG hm h 4 0 (by omega) (by omega)
def ctop (p d : Int32) : Int32 := p &&& (((1 : Int32) <<< ((7 * d) &&& 31)) - 1)
theorem k_Paths_top (hG : zOK G) (p d : Int32) (h : zH) : zJ G 0 m_Paths_top 0 [some (zI p), some (zI d)] [] h (fun o h' => o = zR (zI (ctop p d)) ∧ h' = h) := by
  refine zj_iload_n hG d_Paths_top_0 rfl rfl ?_
  refine zj_iconst (v := 1) hG d_Paths_top_1 rfl ?_
  refine zj_bipush (v := 7) hG d_Paths_top_2 rfl ?_
  refine zj_iload_n hG d_Paths_top_4 rfl rfl ?_
  refine zj_imul hG d_Paths_top_5 ?_
  refine zj_ishl hG d_Paths_top_6 ?_
  refine zj_iconst (v := 1) hG d_Paths_top_7 rfl ?_
  refine zj_isub hG d_Paths_top_8 ?_
  refine zj_iand hG d_Paths_top_9 ?_
  exact zj_iret hG d_Paths_top_10 rfl rfl ⟨rfl, rfl⟩
def cpar (m : Nat) : Int32 := ctop (nI m) (nI (cdp m) - 1)
theorem k_Paths_parent (hG : zOK G) {m : Nat} (hm : m < 2 ^ 28) (h : zH) : zJ G 1 m_Paths_parent 0 [some (zI (nI m))] [] h (fun o h' => o = zR (zI (cpar m)) ∧ h' = h) := by
  refine zj_iload_n hG d_Paths_parent_0 rfl rfl ?_
  refine zj_iload_n hG d_Paths_parent_1 rfl rfl ?_
  refine zj_callR (y' := m_Paths_depth) hG (zcS (as := [_]) hG d_Paths_parent_2 c_Paths_depth (z_w2 95 rfl) (z_w2 96 rfl) (z_w1 16 rfl) ⟨by decide, by decide⟩ (show _ = some 1 from by decide +kernel) rfl) c_Paths_depth rfl (by omega) rfl (z_le rfl) (z_le rfl) (k_Paths_depth hG (by assumption) _) ?_
  refine zj_iconst (v := 1) hG d_Paths_parent_5 rfl ?_
  refine zj_isub hG d_Paths_parent_6 ?_
  refine zj_callR (y' := m_Paths_top) hG (zcS (as := [_, _]) hG d_Paths_parent_7 c_Paths_top (z_w2 98 rfl) (z_w2 99 rfl) (z_w1 16 rfl) ⟨by decide, by decide⟩ (show _ = some 2 from by decide +kernel) rfl) c_Paths_top rfl (by omega) rfl (z_le rfl) (z_le rfl) (k_Paths_top hG _ _ _) ?_
  exact zj_iret hG d_Paths_parent_10 rfl rfl ⟨rfl, rfl⟩
def cchild (m : Nat) (n : Int32) : Int32 := nI m ||| ((n + 1) <<< ((7 * nI (cdp m)) &&& 31))
theorem k_Paths_child (hG : zOK G) {m : Nat} (hm : m < 2 ^ 28) (n : Int32) (h : zH) : zJ G 1 m_Paths_child 0 [some (zI (nI m)), some (zI n)] [] h (fun o h' => o = zR (zI (cchild m n)) ∧ h' = h) := by
  refine zj_iload_n hG d_Paths_child_0 rfl rfl ?_
  refine zj_iload_n hG d_Paths_child_1 rfl rfl ?_
  refine zj_iconst (v := 1) hG d_Paths_child_2 rfl ?_
  refine zj_iadd hG d_Paths_child_3 ?_
  refine zj_bipush (v := 7) hG d_Paths_child_4 rfl ?_
  refine zj_iload_n hG d_Paths_child_6 rfl rfl ?_
  refine zj_callR (y' := m_Paths_depth) hG (zcS (as := [_]) hG d_Paths_child_7 c_Paths_depth (z_w2 95 rfl) (z_w2 96 rfl) (z_w1 16 rfl) ⟨by decide, by decide⟩ (show _ = some 1 from by decide +kernel) rfl) c_Paths_depth rfl (by omega) rfl (z_le rfl) (z_le rfl) (k_Paths_depth hG (by assumption) _) ?_
  refine zj_imul hG d_Paths_child_10 ?_
  refine zj_ishl hG d_Paths_child_11 ?_
  refine zj_ior hG d_Paths_child_12 ?_
  exact zj_iret hG d_Paths_child_13 rfl rfl ⟨rfl, rfl⟩
set_option maxRecDepth 4000 in
theorem k_Paths_isIn (hG : zOK G) (p : Int32) {m : Nat} (hm : m < 2 ^ 28) (h : zH) : zJ G 1 m_Paths_isIn 0 [some (zI p), some (zI (nI m))] [] h (fun o h' => o = zR (zI (tb (decide (ctop p (nI (cdp m)) = nI m)))) ∧ h' = h) := by
  refine zj_iload_n hG d_Paths_isIn_0 rfl rfl ?_
  refine zj_iload_n hG d_Paths_isIn_1 rfl rfl ?_
  refine zj_callR (y' := m_Paths_depth) hG (zcS (as := [_]) hG d_Paths_isIn_2 c_Paths_depth (z_w2 95 rfl) (z_w2 96 rfl) (z_w1 16 rfl) ⟨by decide, by decide⟩ (show _ = some 1 from by decide +kernel) rfl) c_Paths_depth rfl (by omega) rfl (z_le rfl) (z_le rfl) (k_Paths_depth hG (by assumption) _) ?_
  refine zj_callR (y' := m_Paths_top) hG (zcS (as := [_, _]) hG d_Paths_isIn_5 c_Paths_top (z_w2 98 rfl) (z_w2 99 rfl) (z_w1 16 rfl) ⟨by decide, by decide⟩ (show _ = some 2 from by decide +kernel) rfl) c_Paths_top rfl (by omega) rfl (z_le rfl) (z_le rfl) (k_Paths_top hG _ _ _) ?_
  refine zj_iload_n hG d_Paths_isIn_8 rfl rfl ?_
  refine zj_icmp_ne (tgt := 16) hG d_Paths_isIn_9 (by decide) (fun c9 => ?_) (fun c9 => ?_)
  · refine zj_iconst (v := 0) hG d_Paths_isIn_16 rfl ?_
    exact zj_iret hG d_Paths_isIn_17 rfl (by first | rfl | (split <;> rfl)) ⟨by simp [tb, *], rfl⟩
  · refine zj_iconst (v := 1) hG d_Paths_isIn_12 rfl ?_
    refine zj_goto (tgt := 17) hG d_Paths_isIn_13 (by decide) ?_
    exact zj_iret hG d_Paths_isIn_17 rfl (by first | rfl | (split <;> rfl)) ⟨by simp [tb, *], rfl⟩
def cname (m : Nat) : Int32 := (((nI m).toUInt32 >>> ((7 * (nI (cdp m) - 1)).toUInt32 &&& Int32.toUInt32 31)).toInt32 &&& 127) - 1
theorem k_Paths_name (hG : zOK G) {m : Nat} (hm : m < 2 ^ 28) (h : zH) : zJ G 1 m_Paths_name 0 [some (zI (nI m))] [] h (fun o h' => o = zR (zI (cname m)) ∧ h' = h) := by
  refine zj_iload_n hG d_Paths_name_0 rfl rfl ?_
  refine zj_bipush (v := 7) hG d_Paths_name_1 rfl ?_
  refine zj_iload_n hG d_Paths_name_3 rfl rfl ?_
  refine zj_callR (y' := m_Paths_depth) hG (zcS (as := [_]) hG d_Paths_name_4 c_Paths_depth (z_w2 95 rfl) (z_w2 96 rfl) (z_w1 16 rfl) ⟨by decide, by decide⟩ (show _ = some 1 from by decide +kernel) rfl) c_Paths_depth rfl (by omega) rfl (z_le rfl) (z_le rfl) (k_Paths_depth hG (by assumption) _) ?_
  refine zj_iconst (v := 1) hG d_Paths_name_7 rfl ?_
  refine zj_isub hG d_Paths_name_8 ?_
  refine zj_imul hG d_Paths_name_9 ?_
  refine zj_iushr hG d_Paths_name_10 ?_
  refine zj_bipush (v := 127) hG d_Paths_name_11 rfl ?_
  refine zj_iand hG d_Paths_name_13 ?_
  refine zj_iconst (v := 1) hG d_Paths_name_14 rfl ?_
  refine zj_isub hG d_Paths_name_15 ?_
  exact zj_iret hG d_Paths_name_16 rfl rfl ⟨rfl, rfl⟩
def cren (p : Int32) (m : Nat) (n : Int32) : Int32 := (p &&& ((127 <<< ((7 * (nI (cdp m) - 1)) &&& 31)) ^^^ (-1))) ||| ((n + 1) <<< ((7 * (nI (cdp m) - 1)) &&& 31))
theorem k_Paths_renamed (hG : zOK G) (p : Int32) {m : Nat} (hm : m < 2 ^ 28) (n : Int32) (h : zH) : zJ G 1 m_Paths_renamed 0 [some (zI p), some (zI (nI m)), some (zI n), none] [] h (fun o h' => o = zR (zI (cren p m n)) ∧ h' = h) := by
  refine zj_bipush (v := 7) hG d_Paths_renamed_0 rfl ?_
  refine zj_iload_n hG d_Paths_renamed_2 rfl rfl ?_
  refine zj_callR (y' := m_Paths_depth) hG (zcS (as := [_]) hG d_Paths_renamed_3 c_Paths_depth (z_w2 95 rfl) (z_w2 96 rfl) (z_w1 16 rfl) ⟨by decide, by decide⟩ (show _ = some 1 from by decide +kernel) rfl) c_Paths_depth rfl (by omega) rfl (z_le rfl) (z_le rfl) (k_Paths_depth hG (by assumption) _) ?_
  refine zj_iconst (v := 1) hG d_Paths_renamed_6 rfl ?_
  refine zj_isub hG d_Paths_renamed_7 ?_
  refine zj_imul hG d_Paths_renamed_8 ?_
  refine zj_istore_n hG d_Paths_renamed_9 rfl (by decide) rfl rfl ?_
  refine zj_iload_n hG d_Paths_renamed_10 rfl rfl ?_
  refine zj_bipush (v := 127) hG d_Paths_renamed_11 rfl ?_
  refine zj_iload_n hG d_Paths_renamed_13 rfl rfl ?_
  refine zj_ishl hG d_Paths_renamed_14 ?_
  refine zj_iconst (v := -1) hG d_Paths_renamed_15 rfl ?_
  refine zj_ixor hG d_Paths_renamed_16 ?_
  refine zj_iand hG d_Paths_renamed_17 ?_
  refine zj_iload_n hG d_Paths_renamed_18 rfl rfl ?_
  refine zj_iconst (v := 1) hG d_Paths_renamed_19 rfl ?_
  refine zj_iadd hG d_Paths_renamed_20 ?_
  refine zj_iload_n hG d_Paths_renamed_21 rfl rfl ?_
  refine zj_ishl hG d_Paths_renamed_22 ?_
  refine zj_ior hG d_Paths_renamed_23 ?_
  exact zj_iret hG d_Paths_renamed_24 rfl rfl ⟨rfl, rfl⟩
def clif (p : Int32) (m : Nat) : Int32 := ctop p (nI (cdp m) - 2) ||| ((p.toUInt32 >>> ((7 * (nI (cdp m) - 2 + 1)).toUInt32 &&& Int32.toUInt32 31)).toInt32 <<< ((7 * (nI (cdp m) - 2)) &&& 31))
theorem k_Paths_lifted (hG : zOK G) (p : Int32) {m : Nat} (hm : m < 2 ^ 28) (h : zH) : zJ G 1 m_Paths_lifted 0 [some (zI p), some (zI (nI m)), none] [] h (fun o h' => o = zR (zI (clif p m)) ∧ h' = h) := by
  refine zj_iload_n hG d_Paths_lifted_0 rfl rfl ?_
  refine zj_callR (y' := m_Paths_depth) hG (zcS (as := [_]) hG d_Paths_lifted_1 c_Paths_depth (z_w2 95 rfl) (z_w2 96 rfl) (z_w1 16 rfl) ⟨by decide, by decide⟩ (show _ = some 1 from by decide +kernel) rfl) c_Paths_depth rfl (by omega) rfl (z_le rfl) (z_le rfl) (k_Paths_depth hG (by assumption) _) ?_
  refine zj_iconst (v := 2) hG d_Paths_lifted_4 rfl ?_
  refine zj_isub hG d_Paths_lifted_5 ?_
  refine zj_istore_n hG d_Paths_lifted_6 rfl (by decide) rfl rfl ?_
  refine zj_iload_n hG d_Paths_lifted_7 rfl rfl ?_
  refine zj_iload_n hG d_Paths_lifted_8 rfl rfl ?_
  refine zj_callR (y' := m_Paths_top) hG (zcS (as := [_, _]) hG d_Paths_lifted_9 c_Paths_top (z_w2 98 rfl) (z_w2 99 rfl) (z_w1 16 rfl) ⟨by decide, by decide⟩ (show _ = some 2 from by decide +kernel) rfl) c_Paths_top rfl (by omega) rfl (z_le rfl) (z_le rfl) (k_Paths_top hG _ _ _) ?_
  refine zj_iload_n hG d_Paths_lifted_12 rfl rfl ?_
  refine zj_bipush (v := 7) hG d_Paths_lifted_13 rfl ?_
  refine zj_iload_n hG d_Paths_lifted_15 rfl rfl ?_
  refine zj_iconst (v := 1) hG d_Paths_lifted_16 rfl ?_
  refine zj_iadd hG d_Paths_lifted_17 ?_
  refine zj_imul hG d_Paths_lifted_18 ?_
  refine zj_iushr hG d_Paths_lifted_19 ?_
  refine zj_bipush (v := 7) hG d_Paths_lifted_20 rfl ?_
  refine zj_iload_n hG d_Paths_lifted_22 rfl rfl ?_
  refine zj_imul hG d_Paths_lifted_23 ?_
  refine zj_ishl hG d_Paths_lifted_24 ?_
  refine zj_ior hG d_Paths_lifted_25 ?_
  exact zj_iret hG d_Paths_lifted_26 rfl rfl ⟨rfl, rfl⟩
def csun (p : Int32) (m : Nat) (n : Int32) : Int32 := (ctop p (nI (cdp m) - 1) ||| ((n + 1) <<< ((7 * (nI (cdp m) - 1)) &&& 31))) ||| ((p.toUInt32 >>> ((7 * (nI (cdp m) - 1)).toUInt32 &&& Int32.toUInt32 31)).toInt32 <<< ((7 * (nI (cdp m) - 1 + 1)) &&& 31))
theorem k_Paths_sunk (hG : zOK G) (p : Int32) {m : Nat} (hm : m < 2 ^ 28) (n : Int32) (h : zH) : zJ G 1 m_Paths_sunk 0 [some (zI p), some (zI (nI m)), some (zI n), none] [] h (fun o h' => o = zR (zI (csun p m n)) ∧ h' = h) := by
  refine zj_iload_n hG d_Paths_sunk_0 rfl rfl ?_
  refine zj_callR (y' := m_Paths_depth) hG (zcS (as := [_]) hG d_Paths_sunk_1 c_Paths_depth (z_w2 95 rfl) (z_w2 96 rfl) (z_w1 16 rfl) ⟨by decide, by decide⟩ (show _ = some 1 from by decide +kernel) rfl) c_Paths_depth rfl (by omega) rfl (z_le rfl) (z_le rfl) (k_Paths_depth hG (by assumption) _) ?_
  refine zj_iconst (v := 1) hG d_Paths_sunk_4 rfl ?_
  refine zj_isub hG d_Paths_sunk_5 ?_
  refine zj_istore_n hG d_Paths_sunk_6 rfl (by decide) rfl rfl ?_
  refine zj_iload_n hG d_Paths_sunk_7 rfl rfl ?_
  refine zj_iload_n hG d_Paths_sunk_8 rfl rfl ?_
  refine zj_callR (y' := m_Paths_top) hG (zcS (as := [_, _]) hG d_Paths_sunk_9 c_Paths_top (z_w2 98 rfl) (z_w2 99 rfl) (z_w1 16 rfl) ⟨by decide, by decide⟩ (show _ = some 2 from by decide +kernel) rfl) c_Paths_top rfl (by omega) rfl (z_le rfl) (z_le rfl) (k_Paths_top hG _ _ _) ?_
  refine zj_iload_n hG d_Paths_sunk_12 rfl rfl ?_
  refine zj_iconst (v := 1) hG d_Paths_sunk_13 rfl ?_
  refine zj_iadd hG d_Paths_sunk_14 ?_
  refine zj_bipush (v := 7) hG d_Paths_sunk_15 rfl ?_
  refine zj_iload_n hG d_Paths_sunk_17 rfl rfl ?_
  refine zj_imul hG d_Paths_sunk_18 ?_
  refine zj_ishl hG d_Paths_sunk_19 ?_
  refine zj_ior hG d_Paths_sunk_20 ?_
  refine zj_iload_n hG d_Paths_sunk_21 rfl rfl ?_
  refine zj_bipush (v := 7) hG d_Paths_sunk_22 rfl ?_
  refine zj_iload_n hG d_Paths_sunk_24 rfl rfl ?_
  refine zj_imul hG d_Paths_sunk_25 ?_
  refine zj_iushr hG d_Paths_sunk_26 ?_
  refine zj_bipush (v := 7) hG d_Paths_sunk_27 rfl ?_
  refine zj_iload_n hG d_Paths_sunk_29 rfl rfl ?_
  refine zj_iconst (v := 1) hG d_Paths_sunk_30 rfl ?_
  refine zj_iadd hG d_Paths_sunk_31 ?_
  refine zj_imul hG d_Paths_sunk_32 ?_
  refine zj_ishl hG d_Paths_sunk_33 ?_
  refine zj_ior hG d_Paths_sunk_34 ?_
  exact zj_iret hG d_Paths_sunk_35 rfl rfl ⟨rfl, rfl⟩
/-- paths compared -/
def ccm : Nat → Nat → Nat → Int32
  | 0, m, r => nI (m % 128) - nI (r % 128)
  | n + 1, m, r => if m ≠ r ∧ m % 128 = r % 128 then ccm n (m / 128) (r / 128) else nI (m % 128) - nI (r % 128)
theorem ush1 {m : Nat} (hm : m < 2 ^ 31) : ((nI m).toUInt32 >>> ((7 : Int32).toUInt32 &&& Int32.toUInt32 31)).toInt32 = nI (m / 128) := pk_ushrN (by omega) _ 7 rfl
set_option maxRecDepth 4000 in
theorem k_Paths_compareL (hG : zOK G) (h : zH) (p r0 : Int32) : ∀ (n m r : Nat), m < 128 ^ n → r < 128 ^ n → m < 2 ^ 31 → r < 2 ^ 31 → zJ G 0 m_Paths_compare 4 [some (zI p), some (zI r0), some (zI (nI m)), some (zI (nI r))] [] h (fun o h' => o = zR (zI (ccm n m r)) ∧ h' = h) := by
  have fin : ∀ (m r : Nat), m < 2 ^ 31 → r < 2 ^ 31 → ∀ (Q : zO → zH → Prop), Q (zR (zI (nI (m % 128) - nI (r % 128)))) h → zJ G 0 m_Paths_compare 33 [some (zI p), some (zI r0), some (zI (nI m)), some (zI (nI r))] [] h Q := by
    intro m r h1 h2 Q hQ
    have e1 : nI m &&& 127 = nI (m % 128) := pk_andN (by omega) 7 rfl
    have e2 : nI r &&& 127 = nI (r % 128) := pk_andN (by omega) 7 rfl
    refine zj_iload_n hG d_Paths_compare_33 rfl rfl ?_
    refine zj_bipush (v := 127) hG d_Paths_compare_34 rfl ?_
    refine zj_iand hG d_Paths_compare_36 ?_
    refine zj_iload_n hG d_Paths_compare_37 rfl rfl ?_
    refine zj_bipush (v := 127) hG d_Paths_compare_38 rfl ?_
    refine zj_iand hG d_Paths_compare_40 ?_
    rw [e1, e2]
    refine zj_isub hG d_Paths_compare_41 ?_
    exact zj_iret hG d_Paths_compare_42 rfl rfl hQ
  intro n
  induction n with
  | zero =>
    intro m r hm hr h1 h2
    have hm0 : m = 0 := by simpa using hm
    have hr0 : r = 0 := by simpa using hr
    subst hm0
    subst hr0
    refine zj_iload_n hG d_Paths_compare_4 rfl rfl ?_
    refine zj_iload_n hG d_Paths_compare_5 rfl rfl ?_
    refine zj_icmp_eq (tgt := 33) hG d_Paths_compare_6 (by decide) (fun _ => ?_) (fun c => absurd rfl c)
    exact fin 0 0 (by omega) (by omega) _ ⟨rfl, rfl⟩
  | succ n ih =>
    intro m r hm hr h1 h2
    have e1 : nI m &&& 127 = nI (m % 128) := pk_andN (by omega) 7 rfl
    have e2 : nI r &&& 127 = nI (r % 128) := pk_andN (by omega) 7 rfl
    have hm' : m / 128 < 128 ^ n := by
      rw [Nat.pow_succ] at hm
      omega
    have hr' : r / 128 < 128 ^ n := by
      rw [Nat.pow_succ] at hr
      omega
    have ih' := ih (m / 128) (r / 128) hm' hr' (by omega) (by omega)
    rw [ccm]
    refine zj_iload_n hG d_Paths_compare_4 rfl rfl ?_
    refine zj_iload_n hG d_Paths_compare_5 rfl rfl ?_
    refine zj_icmp_eq (tgt := 33) hG d_Paths_compare_6 (by decide) (fun c6 => ?_) (fun c6 => ?_)
    · have : m = r := (nI_eq (by omega) (by omega)).mp c6
      rw [if_neg (fun g => g.1 this)]
      exact fin m r h1 h2 _ ⟨rfl, rfl⟩
    have hne : m ≠ r := fun e => c6 (by rw [e])
    refine zj_iload_n hG d_Paths_compare_9 rfl rfl ?_
    refine zj_bipush (v := 127) hG d_Paths_compare_10 rfl ?_
    refine zj_iand hG d_Paths_compare_12 ?_
    refine zj_iload_n hG d_Paths_compare_13 rfl rfl ?_
    refine zj_bipush (v := 127) hG d_Paths_compare_14 rfl ?_
    refine zj_iand hG d_Paths_compare_16 ?_
    rw [e1, e2]
    refine zj_icmp_ne (tgt := 33) hG d_Paths_compare_17 (by decide) (fun c17 => ?_) (fun c17 => ?_)
    · rw [if_neg (fun g => c17 (by rw [g.2]))]
      exact fin m r h1 h2 _ ⟨rfl, rfl⟩
    · rw [if_pos ⟨hne, (nI_eq (by omega) (by omega)).mp c17⟩]
      refine zj_iload_n hG d_Paths_compare_20 rfl rfl ?_
      refine zj_bipush (v := 7) hG d_Paths_compare_21 rfl ?_
      refine zj_iushr hG d_Paths_compare_23 ?_
      rw [ush1 h1]
      refine zj_istore_n hG d_Paths_compare_24 rfl (by decide) rfl rfl ?_
      refine zj_iload_n hG d_Paths_compare_25 rfl rfl ?_
      refine zj_bipush (v := 7) hG d_Paths_compare_26 rfl ?_
      refine zj_iushr hG d_Paths_compare_28 ?_
      rw [ush1 h2]
      refine zj_istore_n hG d_Paths_compare_29 rfl (by decide) rfl rfl ?_
      refine zj_goto (tgt := 4) hG d_Paths_compare_30 (by decide) ?_
      exact ih'
theorem k_Paths_compare (hG : zOK G) {m r : Nat} (hm : m < 2 ^ 28) (hr : r < 2 ^ 28) (h : zH) : zJ G 0 m_Paths_compare 0 [some (zI (nI m)), some (zI (nI r)), none, none] [] h (fun o h' => o = zR (zI (ccm 4 m r)) ∧ h' = h) := by
  refine zj_iload_n hG d_Paths_compare_0 rfl rfl ?_
  refine zj_istore_n hG d_Paths_compare_1 rfl (by decide) rfl rfl ?_
  refine zj_iload_n hG d_Paths_compare_2 rfl rfl ?_
  refine zj_istore_n hG d_Paths_compare_3 rfl (by decide) rfl rfl ?_
  exact k_Paths_compareL hG h _ _ 4 m r (by omega) (by omega) (by omega) (by omega)
end CP1
