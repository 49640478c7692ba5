/-! PART 52: the component: floored quotients, a primitive's numbers -/
section CP3
variable {G : zG}
def cflJ (a b : Int64) : Int64 := if 0 ≤ a ^^^ b ∨ a / b * b = a then a / b else a / b - 1
set_option maxRecDepth 4000 in
theorem k_Math_floorDivJ (hG : zOK G) (a b : Int64) (hb : ¬ b = 0) (h : zH) : zJ G 0 m_Math_floorDivJ 0 [some (zL a), none, some (zL b), none, none, none] [] h (fun o h' => o = zR (zL (cflJ a b)) ∧ h' = h) := by
  refine zj_lload_n hG d_Math_floorDivJ_0 rfl rfl ?_
  refine zj_lload_n hG d_Math_floorDivJ_1 rfl rfl ?_
  refine zj_ldiv hG d_Math_floorDivJ_2 hb ?_
  refine zj_lstore hG d_Math_floorDivJ_3 (by decide) rfl rfl ?_
  refine zj_lload_n hG d_Math_floorDivJ_5 rfl rfl ?_
  refine zj_lload_n hG d_Math_floorDivJ_6 rfl rfl ?_
  refine zj_lxor hG d_Math_floorDivJ_7 ?_
  refine zj_lconst (v := 0) hG d_Math_floorDivJ_8 rfl ?_
  refine zj_lcmp hG d_Math_floorDivJ_9 ?_
  refine zj_if_ge (tgt := 27) hG d_Math_floorDivJ_10 (by decide) (fun c10 => ?_) (fun c10 => ?_)
  · refine zj_lload hG d_Math_floorDivJ_27 rfl ?_
    exact zj_lret hG d_Math_floorDivJ_29 rfl ⟨by simp only [lg_cmp_ge, lg_cmp_eq] at *; simp [cflJ, *], rfl⟩
  · refine zj_lload hG d_Math_floorDivJ_13 rfl ?_
    refine zj_lload_n hG d_Math_floorDivJ_15 rfl rfl ?_
    refine zj_lmul hG d_Math_floorDivJ_16 ?_
    refine zj_lload_n hG d_Math_floorDivJ_17 rfl rfl ?_
    refine zj_lcmp hG d_Math_floorDivJ_18 ?_
    refine zj_if_eq (tgt := 27) hG d_Math_floorDivJ_19 (by decide) (fun c19 => ?_) (fun c19 => ?_)
    · refine zj_lload hG d_Math_floorDivJ_27 rfl ?_
      exact zj_lret hG d_Math_floorDivJ_29 rfl ⟨by simp only [lg_cmp_ge, lg_cmp_eq] at *; simp [cflJ, *], rfl⟩
    · refine zj_lload hG d_Math_floorDivJ_22 rfl ?_
      refine zj_lconst (v := 1) hG d_Math_floorDivJ_24 rfl ?_
      refine zj_lsub hG d_Math_floorDivJ_25 ?_
      exact zj_lret hG d_Math_floorDivJ_26 rfl ⟨by simp only [lg_cmp_ge, lg_cmp_eq] at *; simp [cflJ, *], rfl⟩
def cflI (a b : Int32) : Int32 := if 0 ≤ a ^^^ b ∨ a / b * b = a then a / b else a / b - 1
set_option maxRecDepth 4000 in
theorem k_Math_floorDivI (hG : zOK G) (a b : Int32) (hb : ¬ b = 0) (h : zH) : zJ G 0 m_Math_floorDivI 0 [some (zI a), some (zI b), none] [] h (fun o h' => o = zR (zI (cflI a b)) ∧ h' = h) := by
  refine zj_iload_n hG d_Math_floorDivI_0 rfl rfl ?_
  refine zj_iload_n hG d_Math_floorDivI_1 rfl rfl ?_
  refine zj_idiv hG d_Math_floorDivI_2 hb ?_
  refine zj_istore_n hG d_Math_floorDivI_3 rfl (by decide) rfl rfl ?_
  refine zj_iload_n hG d_Math_floorDivI_4 rfl rfl ?_
  refine zj_iload_n hG d_Math_floorDivI_5 rfl rfl ?_
  refine zj_ixor hG d_Math_floorDivI_6 ?_
  refine zj_if_ge (tgt := 21) hG d_Math_floorDivI_7 (by decide) (fun c7 => ?_) (fun c7 => ?_)
  · refine zj_iload_n hG d_Math_floorDivI_21 rfl rfl ?_
    exact zj_iret hG d_Math_floorDivI_22 rfl rfl ⟨by simp [cflI, *], rfl⟩
  · refine zj_iload_n hG d_Math_floorDivI_10 rfl rfl ?_
    refine zj_iload_n hG d_Math_floorDivI_11 rfl rfl ?_
    refine zj_imul hG d_Math_floorDivI_12 ?_
    refine zj_iload_n hG d_Math_floorDivI_13 rfl rfl ?_
    refine zj_icmp_eq (tgt := 21) hG d_Math_floorDivI_14 (by decide) (fun c14 => ?_) (fun c14 => ?_)
    · refine zj_iload_n hG d_Math_floorDivI_21 rfl rfl ?_
      exact zj_iret hG d_Math_floorDivI_22 rfl rfl ⟨by simp [cflI, *], rfl⟩
    · refine zj_iload_n hG d_Math_floorDivI_17 rfl rfl ?_
      refine zj_iconst (v := 1) hG d_Math_floorDivI_18 rfl ?_
      refine zj_isub hG d_Math_floorDivI_19 ?_
      exact zj_iret hG d_Math_floorDivI_20 rfl rfl ⟨by simp [cflI, *], rfl⟩
def cfmI (a b : Int32) : Int32 := if 0 ≤ a ^^^ b ∨ a - a / b * b = 0 then a - a / b * b else a - a / b * b + b
set_option maxRecDepth 4000 in
theorem k_Math_floorModI (hG : zOK G) (a b : Int32) (hb : ¬ b = 0) (h : zH) : zJ G 0 m_Math_floorModI 0 [some (zI a), some (zI b), none] [] h (fun o h' => o = zR (zI (cfmI a b)) ∧ h' = h) := by
  refine zj_iload_n hG d_Math_floorModI_0 rfl rfl ?_
  refine zj_iload_n hG d_Math_floorModI_1 rfl rfl ?_
  refine zj_irem hG d_Math_floorModI_2 hb ?_
  refine zj_istore_n hG d_Math_floorModI_3 rfl (by decide) rfl rfl ?_
  refine zj_iload_n hG d_Math_floorModI_4 rfl rfl ?_
  refine zj_iload_n hG d_Math_floorModI_5 rfl rfl ?_
  refine zj_ixor hG d_Math_floorModI_6 ?_
  refine zj_if_ge (tgt := 18) hG d_Math_floorModI_7 (by decide) (fun c7 => ?_) (fun c7 => ?_)
  · refine zj_iload_n hG d_Math_floorModI_18 rfl rfl ?_
    exact zj_iret hG d_Math_floorModI_19 rfl rfl ⟨by simp [cfmI, *], rfl⟩
  · refine zj_iload_n hG d_Math_floorModI_10 rfl rfl ?_
    refine zj_if_eq (tgt := 18) hG d_Math_floorModI_11 (by decide) (fun c11 => ?_) (fun c11 => ?_)
    · refine zj_iload_n hG d_Math_floorModI_18 rfl rfl ?_
      exact zj_iret hG d_Math_floorModI_19 rfl rfl ⟨by simp [cfmI, *], rfl⟩
    · refine zj_iload_n hG d_Math_floorModI_14 rfl rfl ?_
      refine zj_iload_n hG d_Math_floorModI_15 rfl rfl ?_
      refine zj_iadd hG d_Math_floorModI_16 ?_
      exact zj_iret hG d_Math_floorModI_17 rfl rfl ⟨by simp [cfmI, *], rfl⟩
def cquo (x a b : Int32) : Int64 := cflJ (x.toInt64 * a.toInt64) b.toInt64
theorem k_Prim_quotient (hG : zOK G) (x a b : Int32) (hb : ¬ b.toInt64 = 0) (h : zH) : zJ G 1 m_Prim_quotient 0 [some (zI x), some (zI a), some (zI b)] [] h (fun o h' => o = zR (zL (cquo x a b)) ∧ h' = h) := by
  refine zj_iload_n hG d_Prim_quotient_0 rfl rfl ?_
  refine zj_i2l hG d_Prim_quotient_1 ?_
  refine zj_iload_n hG d_Prim_quotient_2 rfl rfl ?_
  refine zj_i2l hG d_Prim_quotient_3 ?_
  refine zj_lmul hG d_Prim_quotient_4 ?_
  refine zj_iload_n hG d_Prim_quotient_5 rfl rfl ?_
  refine zj_i2l hG d_Prim_quotient_6 ?_
  refine zj_callR (y' := m_Math_floorDivJ) hG (zcS (as := [_, _]) hG d_Prim_quotient_7 c_Math_floorDivJ (z_w3 233 rfl) (z_w3 234 rfl) (z_w1 26 rfl) ⟨by decide, by decide⟩ (show _ = some 2 from by decide +kernel) rfl) c_Math_floorDivJ rfl (by omega) rfl (z_le rfl) (z_le rfl) (k_Math_floorDivJ hG _ _ (by assumption) _) ?_
  exact zj_lret hG d_Prim_quotient_10 rfl ⟨rfl, rfl⟩
end CP3
