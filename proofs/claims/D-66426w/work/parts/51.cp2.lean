/-! PART 51: the component: numbers -/
section CP2
variable {G : zG}
def cmx (a b : Int32) : Int32 := if a < b then b else a
def cmn (a b : Int32) : Int32 := if b < a then b else a
set_option maxRecDepth 4000 in
theorem k_Math_maxI (hG : zOK G) (a b : Int32) (h : zH) : zJ G 0 m_Math_maxI 0 [some (zI a), some (zI b)] [] h (fun o h' => o = zR (zI (cmx a b)) ∧ h' = h) := by
  refine zj_iload_n hG d_Math_maxI_0 rfl rfl ?_
  refine zj_iload_n hG d_Math_maxI_1 rfl rfl ?_
  refine zj_icmp_lt (tgt := 9) hG d_Math_maxI_2 (by decide) (fun c2 => ?_) (fun c2 => ?_)
  · refine zj_iload_n hG d_Math_maxI_9 rfl rfl ?_
    exact zj_iret hG d_Math_maxI_10 rfl rfl ⟨by simp [cmx, *], rfl⟩
  · refine zj_iload_n hG d_Math_maxI_5 rfl rfl ?_
    refine zj_goto (tgt := 10) hG d_Math_maxI_6 (by decide) ?_
    exact zj_iret hG d_Math_maxI_10 rfl rfl ⟨by simp [cmx, *], rfl⟩
set_option maxRecDepth 4000 in
theorem k_Math_minI (hG : zOK G) (a b : Int32) (h : zH) : zJ G 0 m_Math_minI 0 [some (zI a), some (zI b)] [] h (fun o h' => o = zR (zI (cmn a b)) ∧ h' = h) := by
  refine zj_iload_n hG d_Math_minI_0 rfl rfl ?_
  refine zj_iload_n hG d_Math_minI_1 rfl rfl ?_
  refine zj_icmp_gt (tgt := 9) hG d_Math_minI_2 (by decide) (fun c2 => ?_) (fun c2 => ?_)
  · refine zj_iload_n hG d_Math_minI_9 rfl rfl ?_
    exact zj_iret hG d_Math_minI_10 rfl rfl ⟨by simp [cmn, *], rfl⟩
  · refine zj_iload_n hG d_Math_minI_5 rfl rfl ?_
    refine zj_goto (tgt := 10) hG d_Math_minI_6 (by decide) ?_
    exact zj_iret hG d_Math_minI_10 rfl rfl ⟨by simp [cmn, *], rfl⟩
theorem k_LP_nearest (hG : zOK G) (x lo hi : Int32) (h : zH) : zJ G 1 m_LP_nearest 0 [some (zI x), some (zI lo), some (zI hi)] [] h (fun o h' => o = zR (zI (cmx lo (cmn hi x))) ∧ h' = h) := by
  refine zj_iload_n hG d_LP_nearest_0 rfl rfl ?_
  refine zj_iload_n hG d_LP_nearest_1 rfl rfl ?_
  refine zj_iload_n hG d_LP_nearest_2 rfl rfl ?_
  refine zj_callR (y' := m_Math_minI) hG (zcS (as := [_, _]) hG d_LP_nearest_3 c_Math_minI (z_w4 82 rfl) (z_w4 83 rfl) (z_w1 26 rfl) ⟨by decide, by decide⟩ (show _ = some 2 from by decide +kernel) rfl) c_Math_minI rfl (by omega) rfl (z_le rfl) (z_le rfl) (k_Math_minI hG _ _ _) ?_
  refine zj_callR (y' := m_Math_maxI) hG (zcS (as := [_, _]) hG d_LP_nearest_6 c_Math_maxI (z_w4 85 rfl) (z_w4 86 rfl) (z_w1 26 rfl) ⟨by decide, by decide⟩ (show _ = some 2 from by decide +kernel) rfl) c_Math_maxI rfl (by omega) rfl (z_le rfl) (z_le rfl) (k_Math_maxI hG _ _ _) ?_
  exact zj_iret hG d_LP_nearest_9 rfl rfl ⟨rfl, rfl⟩
/-- with bounds in order it is what the reference has -/
theorem cnear_eq {a b : Int32} (h : a ≤ b) : cmx a (cmn b 0) = tnear a b := by
  unfold cmx cmn tnear
  by_cases b0 : 0 < b
  · rw [if_pos b0, if_pos (Int32.le_of_lt b0)]
    by_cases a0 : a < 0
    · rw [if_pos a0, if_pos (Int32.le_of_lt a0)]
    · rw [if_neg a0]
      split
      · rename_i g
        exact Int32.le_antisymm g (Int32.not_lt.mp a0)
      · rfl
  · have b1 := Int32.not_lt.mp b0
    have a1 : a ≤ 0 := Int32.le_trans h b1
    rw [if_neg b0, if_pos a1]
    have hb : (if 0 ≤ b then (0 : Int32) else b) = b := by
      split
      · rename_i g
        exact Int32.le_antisymm g b1
      · rfl
    rw [hb]
    split
    · rfl
    · rename_i g
      exact Int32.le_antisymm h (Int32.not_lt.mp g)
def cmxJ (a b : Int64) : Int64 := if a < b then b else a
def cmnJ (a b : Int64) : Int64 := if b < a then b else a
set_option maxRecDepth 4000 in
theorem k_Math_maxJ (hG : zOK G) (a b : Int64) (h : zH) : zJ G 0 m_Math_maxJ 0 [some (zL a), none, some (zL b), none] [] h (fun o h' => o = zR (zL (cmxJ a b)) ∧ h' = h) := by
  refine zj_lload_n hG d_Math_maxJ_0 rfl rfl ?_
  refine zj_lload_n hG d_Math_maxJ_1 rfl rfl ?_
  refine zj_lcmp hG d_Math_maxJ_2 ?_
  refine zj_if_lt (tgt := 10) hG d_Math_maxJ_3 (by decide) (fun c3 => ?_) (fun c3 => ?_)
  · refine zj_lload_n hG d_Math_maxJ_10 rfl rfl ?_
    exact zj_lret hG d_Math_maxJ_11 rfl ⟨by simp only [lg_cmp_lt] at *; simp [cmxJ, *], rfl⟩
  · refine zj_lload_n hG d_Math_maxJ_6 rfl rfl ?_
    refine zj_goto (tgt := 11) hG d_Math_maxJ_7 (by decide) ?_
    exact zj_lret hG d_Math_maxJ_11 rfl ⟨by simp only [lg_cmp_lt] at *; simp [cmxJ, *], rfl⟩
set_option maxRecDepth 4000 in
theorem k_Math_minJ (hG : zOK G) (a b : Int64) (h : zH) : zJ G 0 m_Math_minJ 0 [some (zL a), none, some (zL b), none] [] h (fun o h' => o = zR (zL (cmnJ a b)) ∧ h' = h) := by
  refine zj_lload_n hG d_Math_minJ_0 rfl rfl ?_
  refine zj_lload_n hG d_Math_minJ_1 rfl rfl ?_
  refine zj_lcmp hG d_Math_minJ_2 ?_
  refine zj_if_gt (tgt := 10) hG d_Math_minJ_3 (by decide) (fun c3 => ?_) (fun c3 => ?_)
  · refine zj_lload_n hG d_Math_minJ_10 rfl rfl ?_
    exact zj_lret hG d_Math_minJ_11 rfl ⟨by simp only [lg_cmp_gt] at *; simp [cmnJ, *], rfl⟩
  · refine zj_lload_n hG d_Math_minJ_6 rfl rfl ?_
    refine zj_goto (tgt := 11) hG d_Math_minJ_7 (by decide) ?_
    exact zj_lret hG d_Math_minJ_11 rfl ⟨by simp only [lg_cmp_gt] at *; simp [cmnJ, *], rfl⟩
set_option maxRecDepth 4000 in
theorem k_Step_joins (hG : zOK G) {a : Nat} {h : zH} (hk : zt h a = 11) (v w : Int32) : zJ G 0 m_Step_joins 0 [some (zA a), some (zI v), some (zI w)] [] h (fun o h' => o = zR (zI (tb (decide (zi h a 0 = v ∧ zi h a 1 = w ∨ zi h a 0 = w ∧ zi h a 1 = v)))) ∧ h' = h) := by
  refine zj_aload_n hG d_Step_joins_0 rfl rfl ?_
  refine zj_getI hG d_Step_joins_1 f_Step_17 (by assumption) rfl ?_
  refine zj_iload_n hG d_Step_joins_4 rfl rfl ?_
  refine zj_icmp_ne (tgt := 16) hG d_Step_joins_5 (by decide) (fun c5 => ?_) (fun c5 => ?_)
  · refine zj_aload_n hG d_Step_joins_16 rfl rfl ?_
    refine zj_getI hG d_Step_joins_17 f_Step_17 (by assumption) rfl ?_
    refine zj_iload_n hG d_Step_joins_20 rfl rfl ?_
    refine zj_icmp_ne (tgt := 36) hG d_Step_joins_21 (by decide) (fun c21 => ?_) (fun c21 => ?_)
    · refine zj_iconst (v := 0) hG d_Step_joins_36 rfl ?_
      exact zj_iret hG d_Step_joins_37 rfl (by first | rfl | (split <;> rfl)) ⟨by simp_all [tb], rfl⟩
    · refine zj_aload_n hG d_Step_joins_24 rfl rfl ?_
      refine zj_getI hG d_Step_joins_25 f_Step_21 (by assumption) rfl ?_
      refine zj_iload_n hG d_Step_joins_28 rfl rfl ?_
      refine zj_icmp_ne (tgt := 36) hG d_Step_joins_29 (by decide) (fun c29 => ?_) (fun c29 => ?_)
      · refine zj_iconst (v := 0) hG d_Step_joins_36 rfl ?_
        exact zj_iret hG d_Step_joins_37 rfl (by first | rfl | (split <;> rfl)) ⟨by simp_all [tb], rfl⟩
      · refine zj_iconst (v := 1) hG d_Step_joins_32 rfl ?_
        refine zj_goto (tgt := 37) hG d_Step_joins_33 (by decide) ?_
        exact zj_iret hG d_Step_joins_37 rfl (by first | rfl | (split <;> rfl)) ⟨by simp_all [tb], rfl⟩
  · refine zj_aload_n hG d_Step_joins_8 rfl rfl ?_
    refine zj_getI hG d_Step_joins_9 f_Step_21 (by assumption) rfl ?_
    refine zj_iload_n hG d_Step_joins_12 rfl rfl ?_
    refine zj_icmp_eq (tgt := 32) hG d_Step_joins_13 (by decide) (fun c13 => ?_) (fun c13 => ?_)
    · refine zj_iconst (v := 1) hG d_Step_joins_32 rfl ?_
      refine zj_goto (tgt := 37) hG d_Step_joins_33 (by decide) ?_
      exact zj_iret hG d_Step_joins_37 rfl (by first | rfl | (split <;> rfl)) ⟨by simp_all [tb], rfl⟩
    · refine zj_aload_n hG d_Step_joins_16 rfl rfl ?_
      refine zj_getI hG d_Step_joins_17 f_Step_17 (by assumption) rfl ?_
      refine zj_iload_n hG d_Step_joins_20 rfl rfl ?_
      refine zj_icmp_ne (tgt := 36) hG d_Step_joins_21 (by decide) (fun c21 => ?_) (fun c21 => ?_)
      · refine zj_iconst (v := 0) hG d_Step_joins_36 rfl ?_
        exact zj_iret hG d_Step_joins_37 rfl (by first | rfl | (split <;> rfl)) ⟨by simp_all [tb], rfl⟩
      · refine zj_aload_n hG d_Step_joins_24 rfl rfl ?_
        refine zj_getI hG d_Step_joins_25 f_Step_21 (by assumption) rfl ?_
        refine zj_iload_n hG d_Step_joins_28 rfl rfl ?_
        refine zj_icmp_ne (tgt := 36) hG d_Step_joins_29 (by decide) (fun c29 => ?_) (fun c29 => ?_)
        · refine zj_iconst (v := 0) hG d_Step_joins_36 rfl ?_
          exact zj_iret hG d_Step_joins_37 rfl (by first | rfl | (split <;> rfl)) ⟨by simp_all [tb], rfl⟩
        · refine zj_iconst (v := 1) hG d_Step_joins_32 rfl ?_
          refine zj_goto (tgt := 37) hG d_Step_joins_33 (by decide) ?_
          exact zj_iret hG d_Step_joins_37 rfl (by first | rfl | (split <;> rfl)) ⟨by simp_all [tb], rfl⟩
end CP2
