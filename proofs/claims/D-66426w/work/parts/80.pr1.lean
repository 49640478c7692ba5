/-! PART 80: the component: primitives (small methods) -/
/-- a primitive as it stands -/
def prm (h : zH) (a : Nat) (p : tPm) : Prop := zt h a = 12 ∧ zi h a 0 = p.1 ∧ zi h a 1 = pmP p ∧ zi h a 2 = pmA p ∧ zi h a 3 = pmB p ∧ zi h a 4 = pmS p ∧ zi h a 5 = pmL p ∧ zi h a 6 = pmH p
section PR1
variable {G : zG} {h : zH} {a : Nat}
theorem cren_self {f n : Nat} (hf : nok f) (hn : n ≤ 99) : cren (nI f) f (nI n) = nI (nren f n) := by
  rw [cren_n hf.1 hf.1 hf.2.2 hn (nin_self hf)]
  unfold nmv
  rw [if_pos (nin_self hf), Nat.div_eq_of_lt hf.c.2.2.1]
  simp
theorem clif_self {f : Nat} (hf : nok f) (h2 : 2 ≤ cdp f) : clif (nI f) f = nI (nlif f) := by
  rw [clif_n hf.1 hf.1 h2 (nin_self hf)]
  unfold nmv
  rw [if_pos (nin_self hf), Nat.div_eq_of_lt hf.c.2.2.1]
  simp
theorem k_Prim_to0 (hG : zOK G) (ht : zt h a = 12) (hk : zi h a 0 = 0) {m n : Nat} (hp : zi h a 1 = nI m) (hm : nok m) (ha : zi h a 2 = nI n) (hn : n ≤ 99) : zJ G 2 m_Prim_to 0 [some (zA a)] [] h (fun o h' => o = zR (zI (tbeh 0 (nI m) (nI n))) ∧ h' = h) := by
  refine zj_aload_n hG d_Prim_to_0 rfl rfl ?_
  refine zj_getI hG d_Prim_to_1 f_Prim_9 (by assumption) rfl ?_
  refine zj_if_ne (tgt := 25) hG d_Prim_to_4 (by decide) (fun c => absurd hk c) (fun _ => ?_)
  refine zj_aload_n hG d_Prim_to_7 rfl rfl ?_
  refine zj_getI hG d_Prim_to_8 f_Prim_15 (by assumption) rfl ?_
  refine zj_aload_n hG d_Prim_to_11 rfl rfl ?_
  refine zj_getI hG d_Prim_to_12 f_Prim_15 (by assumption) rfl ?_
  refine zj_aload_n hG d_Prim_to_15 rfl rfl ?_
  refine zj_getI hG d_Prim_to_16 f_Prim_18 (by assumption) rfl ?_
  rw [hp, ha]
  refine zj_callR (y' := m_Paths_renamed) hG (zcS (as := [_, _, _]) hG d_Prim_to_19 c_Paths_renamed (z_w3 177 rfl) (z_w3 178 rfl) (z_w1 16 rfl) ⟨by decide, by decide⟩ (show _ = some 3 from by decide +kernel) rfl) c_Paths_renamed rfl (by omega) rfl (z_le rfl) (z_le rfl) (k_Paths_renamed hG _ hm.1 _ _) ?_
  refine zj_goto (tgt := 51) hG d_Prim_to_22 (by decide) ?_
  rw [cren_self hm hn, ← tbeh_0 hm.1 hm.2.1 hm.2.2 hn]
  exact zj_iret hG d_Prim_to_51 rfl rfl ⟨rfl, rfl⟩
theorem k_Prim_to4 (hG : zOK G) (ht : zt h a = 12) (hk : zi h a 0 = 4) {m : Nat} (hp : zi h a 1 = nI m) (hm : nok m) (h2 : 2 ≤ cdp m) (x : Int32) : zJ G 2 m_Prim_to 0 [some (zA a)] [] h (fun o h' => o = zR (zI (tbeh 4 (nI m) x)) ∧ h' = h) := by
  refine zj_aload_n hG d_Prim_to_0 rfl rfl ?_
  refine zj_getI hG d_Prim_to_1 f_Prim_9 (by assumption) rfl ?_
  refine zj_if_ne (tgt := 25) hG d_Prim_to_4 (by decide) (fun _ => ?_) (fun c => absurd c (by rw [hk]; decide))
  refine zj_aload_n hG d_Prim_to_25 rfl rfl ?_
  refine zj_getI hG d_Prim_to_26 f_Prim_9 (by assumption) rfl ?_
  refine zj_iconst (v := 4) hG d_Prim_to_29 rfl ?_
  refine zj_icmp_ne (tgt := 47) hG d_Prim_to_30 (by decide) (fun c => absurd hk c) (fun _ => ?_)
  refine zj_aload_n hG d_Prim_to_33 rfl rfl ?_
  refine zj_getI hG d_Prim_to_34 f_Prim_15 (by assumption) rfl ?_
  refine zj_aload_n hG d_Prim_to_37 rfl rfl ?_
  refine zj_getI hG d_Prim_to_38 f_Prim_15 (by assumption) rfl ?_
  rw [hp]
  refine zj_callR (y' := m_Paths_lifted) hG (zcS (as := [_, _]) hG d_Prim_to_41 c_Paths_lifted (z_w3 180 rfl) (z_w3 181 rfl) (z_w1 16 rfl) ⟨by decide, by decide⟩ (show _ = some 2 from by decide +kernel) rfl) c_Paths_lifted rfl (by omega) rfl (z_le rfl) (z_le rfl) (k_Paths_lifted hG _ hm.1 _) ?_
  refine zj_goto (tgt := 51) hG d_Prim_to_44 (by decide) ?_
  rw [clif_self hm h2, ← tbeh_4 (a := x) hm.1 hm.2.1 h2]
  exact zj_iret hG d_Prim_to_51 rfl rfl ⟨rfl, rfl⟩
theorem k_Prim_beside (hG : zOK G) (ht : zt h a = 12) {m n : Nat} (hp : zi h a 1 = nI m) (hm : nok m) (hb : zi h a 3 = nI n) (hn : n ≤ 99) : zJ G 2 m_Prim_beside 0 [some (zA a)] [] h (fun o h' => o = zR (zI (tbes (nI m) (nI n))) ∧ h' = h) := by
  have np : npar m < 2 ^ 28 := by have := npar_lt hm; have := hm.1; omega
  refine zj_aload_n hG d_Prim_beside_0 rfl rfl ?_
  refine zj_getI hG d_Prim_beside_1 f_Prim_15 (by assumption) rfl ?_
  rw [hp]
  refine zj_callR (y' := m_Paths_parent) hG (zcS (as := [_]) hG d_Prim_beside_4 c_Paths_parent (z_w3 219 rfl) (z_w2 93 rfl) (z_w1 16 rfl) ⟨by decide, by decide⟩ (show _ = some 1 from by decide +kernel) rfl) c_Paths_parent rfl (by omega) rfl (z_le rfl) (z_le rfl) (k_Paths_parent hG hm.1 _) ?_
  rw [cpar_n hm.1 hm.2.2]
  refine zj_aload_n hG d_Prim_beside_7 rfl rfl ?_
  refine zj_getI hG d_Prim_beside_8 f_Prim_35 (by assumption) rfl ?_
  rw [hb]
  refine zj_callR (y' := m_Paths_child) hG (zcS (as := [_, _]) hG d_Prim_beside_11 c_Paths_child (z_w3 220 rfl) (z_w3 221 rfl) (z_w1 16 rfl) ⟨by decide, by decide⟩ (show _ = some 2 from by decide +kernel) rfl) c_Paths_child rfl (by omega) rfl (z_le rfl) (z_le rfl) (k_Paths_child hG np _ _) ?_
  rw [cbes_n hm.1 hm.2.1 hm.2.2 hn, ← tbes_n hm.1 hm.2.1 hm.2.2 hn]
  exact zj_iret hG d_Prim_beside_14 rfl rfl ⟨rfl, rfl⟩
theorem k_Prim_zero (hG : zOK G) (ht : zt h a = 12) (hl : zi h a 5 ≤ zi h a 6) : zJ G 2 m_Prim_zero 0 [some (zA a)] [] h (fun o h' => o = zR (zI (tnear (zi h a 5) (zi h a 6))) ∧ h' = h) := by
  refine zj_iconst (v := 0) hG d_Prim_zero_0 rfl ?_
  refine zj_aload_n hG d_Prim_zero_1 rfl rfl ?_
  refine zj_getI hG d_Prim_zero_2 f_Prim_41 (by assumption) rfl ?_
  refine zj_aload_n hG d_Prim_zero_5 rfl rfl ?_
  refine zj_getI hG d_Prim_zero_6 f_Prim_44 (by assumption) rfl ?_
  refine zj_callR (y' := m_LP_nearest) hG (zcSN (as := [_, _, _]) hG d_Prim_zero_9 c_LP_nearest (z_w5 94 rfl) (z_w4 80 rfl) (z_w1 1 rfl) ⟨by decide, by decide⟩ (show _ = some 3 from by decide +kernel) rfl) c_LP_nearest rfl (by omega) rfl (z_le rfl) (z_le rfl) (k_LP_nearest hG _ _ _ _) ?_
  rw [cnear_eq hl]
  exact zj_iret hG d_Prim_zero_12 rfl rfl ⟨rfl, rfl⟩
theorem i64_ne0 {b : Int32} (h : 1 ≤ b) : ¬ b.toInt64 = 0 := fun e => by
  have := i64_pos h
  rw [e] at this
  exact absurd this (by decide)
theorem k_Prim_scaled (hG : zOK G) (ht : zt h a = 12) (hb : 1 ≤ zi h a 3) (x lo hi : Int32) : zJ G 2 m_Prim_scaled 0 [some (zA a), some (zI x)] [] h (fun o h' => o = zR (zI (tsc true x (zi h a 2) (zi h a 3) lo hi)) ∧ h' = h) := by
  refine zj_iload_n hG d_Prim_scaled_0 rfl rfl ?_
  refine zj_aload_n hG d_Prim_scaled_1 rfl rfl ?_
  refine zj_getI hG d_Prim_scaled_2 f_Prim_18 (by assumption) rfl ?_
  refine zj_aload_n hG d_Prim_scaled_5 rfl rfl ?_
  refine zj_getI hG d_Prim_scaled_6 f_Prim_35 (by assumption) rfl ?_
  refine zj_callR (y' := m_Prim_quotient) hG (zcS (as := [_, _, _]) hG d_Prim_scaled_9 c_Prim_quotient (z_w3 230 rfl) (z_w3 231 rfl) (z_w1 25 rfl) ⟨by decide, by decide⟩ (show _ = some 3 from by decide +kernel) rfl) c_Prim_quotient rfl (by omega) rfl (z_le rfl) (z_le rfl) (k_Prim_quotient hG _ _ _ (i64_ne0 hb) _) ?_
  refine zj_l2i hG d_Prim_scaled_12 ?_
  rw [tsc_s (lo := lo) (hi := hi) hb]
  exact zj_iret hG d_Prim_scaled_13 rfl rfl ⟨rfl, rfl⟩
theorem k_Prim_unscaled (hG : zOK G) (ht : zt h a = 12) (ha : 1 ≤ zi h a 2) (hl : zi h a 5 ≤ zi h a 6) (x : Int32) : zJ G 2 m_Prim_unscaled 0 [some (zA a), some (zI x)] [] h (fun o h' => o = zR (zI (tsc false x (zi h a 2) (zi h a 3) (zi h a 5) (zi h a 6))) ∧ h' = h) := by
  refine zj_aload_n hG d_Prim_unscaled_0 rfl rfl ?_
  refine zj_getI hG d_Prim_unscaled_1 f_Prim_41 (by assumption) rfl ?_
  refine zj_i2l hG d_Prim_unscaled_4 ?_
  refine zj_aload_n hG d_Prim_unscaled_5 rfl rfl ?_
  refine zj_getI hG d_Prim_unscaled_6 f_Prim_44 (by assumption) rfl ?_
  refine zj_i2l hG d_Prim_unscaled_9 ?_
  refine zj_iload_n hG d_Prim_unscaled_10 rfl rfl ?_
  refine zj_aload_n hG d_Prim_unscaled_11 rfl rfl ?_
  refine zj_getI hG d_Prim_unscaled_12 f_Prim_35 (by assumption) rfl ?_
  refine zj_aload_n hG d_Prim_unscaled_15 rfl rfl ?_
  refine zj_getI hG d_Prim_unscaled_16 f_Prim_18 (by assumption) rfl ?_
  refine zj_callR (y' := m_Prim_quotient) hG (zcS (as := [_, _, _]) hG d_Prim_unscaled_19 c_Prim_quotient (z_w3 230 rfl) (z_w3 231 rfl) (z_w1 25 rfl) ⟨by decide, by decide⟩ (show _ = some 3 from by decide +kernel) rfl) c_Prim_quotient rfl (by omega) rfl (z_le rfl) (z_le rfl) (k_Prim_quotient hG _ _ _ (i64_ne0 ha) _) ?_
  refine zj_callR (y' := m_Math_minJ) hG (zcS (as := [_, _]) hG d_Prim_unscaled_22 c_Math_minJ (z_w6 45 rfl) (z_w6 46 rfl) (z_w1 26 rfl) ⟨by decide, by decide⟩ (show _ = some 2 from by decide +kernel) rfl) c_Math_minJ rfl (by omega) rfl (z_le rfl) (z_le rfl) (k_Math_minJ hG _ _ _) ?_
  refine zj_callR (y' := m_Math_maxJ) hG (zcS (as := [_, _]) hG d_Prim_unscaled_25 c_Math_maxJ (z_w6 48 rfl) (z_w6 49 rfl) (z_w1 26 rfl) ⟨by decide, by decide⟩ (show _ = some 2 from by decide +kernel) rfl) c_Math_maxJ rfl (by omega) rfl (z_le rfl) (z_le rfl) (k_Math_maxJ hG _ _ _) ?_
  refine zj_l2i hG d_Prim_unscaled_28 ?_
  rw [tsc_u ha hl]
  exact zj_iret hG d_Prim_unscaled_29 rfl rfl ⟨rfl, rfl⟩
theorem k_Prim_isInt (hG : zOK G) (ht : zt h a = 12) (hb : 1 ≤ zi h a 3) (x : Int32) : zJ G 3 m_Prim_isInt 0 [some (zA a), some (zI x)] [] h (fun o h' => ∃ v, o = zR v ∧ ∃ b : Bool, v = zI (tb b) ∧ h' = h ∧ b = tii (tfl ((zi h a 2).toInt64 * x.toInt64) (zi h a 3).toInt64)) := by
  have e1 : cquo x (zi h a 2) (zi h a 3) = tfl ((zi h a 2).toInt64 * x.toInt64) (zi h a 3).toInt64 := by
    unfold cquo
    rw [cflJ_tfl _ (i64_pos hb), Int64.mul_comm]
  have e2 : tsc true x (zi h a 2) (zi h a 3) 0 0 = (tfl ((zi h a 2).toInt64 * x.toInt64) (zi h a 3).toInt64).toInt32 := by
    unfold tsc
    rfl
  refine zj_iload_n hG d_Prim_isInt_0 rfl rfl ?_
  refine zj_aload_n hG d_Prim_isInt_1 rfl rfl ?_
  refine zj_getI hG d_Prim_isInt_2 f_Prim_18 (by assumption) rfl ?_
  refine zj_aload_n hG d_Prim_isInt_5 rfl rfl ?_
  refine zj_getI hG d_Prim_isInt_6 f_Prim_35 (by assumption) rfl ?_
  refine zj_callR (y' := m_Prim_quotient) hG (zcS (as := [_, _, _]) hG d_Prim_isInt_9 c_Prim_quotient (z_w3 230 rfl) (z_w3 231 rfl) (z_w1 25 rfl) ⟨by decide, by decide⟩ (show _ = some 3 from by decide +kernel) rfl) c_Prim_quotient rfl (by omega) rfl (z_le rfl) (z_le rfl) (k_Prim_quotient hG _ _ _ (i64_ne0 hb) _) ?_
  refine zj_aload_n hG d_Prim_isInt_12 rfl rfl ?_
  refine zj_iload_n hG d_Prim_isInt_13 rfl rfl ?_
  refine zj_callR (y' := m_Prim_scaled) hG (zcV (as := [_]) hG d_Prim_isInt_14 c_Prim_scaled (z_w3 236 rfl) (z_w3 237 rfl) (z_w3 238 rfl) ⟨by decide, by decide⟩ ht (by decide) (by decide) (show _ = some 1 from by decide +kernel) rfl) c_Prim_scaled rfl (by omega) rfl (z_le rfl) (z_le rfl) (k_Prim_scaled hG ht hb x 0 0) ?_
  rw [e1, e2, tii_c]
  generalize tfl ((zi h a 2).toInt64 * x.toInt64) (zi h a 3).toInt64 = q
  refine zj_i2l hG d_Prim_isInt_17 ?_
  refine zj_lcmp hG d_Prim_isInt_18 ?_
  by_cases e : q = q.toInt32.toInt64
  · have z : lg_cmp q q.toInt32.toInt64 = 0 := (lg_cmp_eq _ _).mpr e
    refine zj_if_ne (tgt := 26) hG d_Prim_isInt_19 (by decide) (fun c => absurd z c) (fun _ => ?_)
    refine zj_iconst (v := 1) hG d_Prim_isInt_22 rfl ?_
    refine zj_goto (tgt := 27) hG d_Prim_isInt_23 (by decide) ?_
    exact zj_iret hG d_Prim_isInt_27 rfl rfl ⟨_, rfl, true, rfl, rfl, (decide_eq_true e).symm⟩
  · have z : ¬ lg_cmp q q.toInt32.toInt64 = 0 := fun g => e ((lg_cmp_eq _ _).mp g)
    refine zj_if_ne (tgt := 26) hG d_Prim_isInt_19 (by decide) (fun _ => ?_) (fun c => absurd c z)
    refine zj_iconst (v := 0) hG d_Prim_isInt_26 rfl ?_
    exact zj_iret hG d_Prim_isInt_27 rfl rfl ⟨_, rfl, false, rfl, rfl, (decide_eq_false e).symm⟩
end PR1
