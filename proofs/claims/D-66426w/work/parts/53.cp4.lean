/-! PART 53: the component: isRight -/
section CP4
variable {G : zG}
/-- its names are right -/
def cri : Nat → Nat → Bool
  | 0, _ => true
  | n + 1, m => if m = 0 then true else if 1 ≤ m % 128 ∧ m % 128 ≤ 100 then cri n (m / 128) else false
set_option maxRecDepth 4000 in
theorem k_Paths_isRightL (hG : zOK G) (h : zH) (p : Int32) : ∀ (n m : Nat), m < 128 ^ n → m < 2 ^ 31 → zJ G 0 m_Paths_isRight 19 [some (zI p), some (zI (nI m)), some (zI 1)] [] h (fun o h' => o = zR (zI (tb (cri n m))) ∧ h' = h) := by
  intro n
  induction n with
  | zero =>
    intro m hm h1
    have hm0 : m = 0 := by simpa using hm
    subst hm0
    refine zj_iload_n hG d_Paths_isRight_19 rfl rfl ?_
    refine zj_if_eq (tgt := 58) hG d_Paths_isRight_20 (by decide) (fun c => absurd c (by decide)) (fun _ => ?_)
    refine zj_iload_n hG d_Paths_isRight_23 rfl rfl ?_
    refine zj_if_eq (tgt := 58) hG d_Paths_isRight_24 (by decide) (fun _ => ?_) (fun c => absurd rfl c)
    refine zj_iload_n hG d_Paths_isRight_58 rfl rfl ?_
    exact zj_iret hG d_Paths_isRight_59 rfl rfl ⟨rfl, rfl⟩
  | succ n ih =>
    intro m hm h1
    have e1 : nI m &&& 127 = nI (m % 128) := pk_andN (by omega) 7 rfl
    have hm' : m / 128 < 128 ^ n := by
      rw [Nat.pow_succ] at hm
      omega
    have ih' := ih (m / 128) hm' (by omega)
    rw [cri]
    refine zj_iload_n hG d_Paths_isRight_19 rfl rfl ?_
    refine zj_if_eq (tgt := 58) hG d_Paths_isRight_20 (by decide) (fun c => absurd c (by decide)) (fun _ => ?_)
    refine zj_iload_n hG d_Paths_isRight_23 rfl rfl ?_
    refine zj_if_eq (tgt := 58) hG d_Paths_isRight_24 (by decide) (fun c24 => ?_) (fun c24 => ?_)
    · have : m = 0 := (nI_eq (b := 0) (by omega) (by omega)).mp c24
      rw [if_pos this]
      refine zj_iload_n hG d_Paths_isRight_58 rfl rfl ?_
      exact zj_iret hG d_Paths_isRight_59 rfl rfl ⟨rfl, rfl⟩
    have hm0 : ¬ m = 0 := fun e => c24 (by rw [e]; rfl)
    rw [if_neg hm0]
    have bad : zJ G 0 m_Paths_isRight 48 [some (zI p), some (zI (nI m)), some (zI 1)] [] h (fun o h' => o = zR (zI (tb false)) ∧ h' = h) := by
      refine zj_iconst (v := 0) hG d_Paths_isRight_48 rfl ?_
      refine zj_istore_n hG d_Paths_isRight_49 rfl (by decide) rfl rfl ?_
      refine zj_iload_n hG d_Paths_isRight_50 rfl rfl ?_
      refine zj_bipush (v := 7) hG d_Paths_isRight_51 rfl ?_
      refine zj_iushr hG d_Paths_isRight_53 ?_
      refine zj_istore_n hG d_Paths_isRight_54 rfl (by decide) rfl rfl ?_
      refine zj_goto (tgt := 19) hG d_Paths_isRight_55 (by decide) ?_
      refine zj_iload_n hG d_Paths_isRight_19 rfl rfl ?_
      refine zj_if_eq (tgt := 58) hG d_Paths_isRight_20 (by decide) (fun _ => ?_) (fun c => absurd (by decide) c)
      refine zj_iload_n hG d_Paths_isRight_58 rfl rfl ?_
      exact zj_iret hG d_Paths_isRight_59 rfl rfl ⟨rfl, rfl⟩
    refine zj_iload_n hG d_Paths_isRight_27 rfl rfl ?_
    refine zj_bipush (v := 127) hG d_Paths_isRight_28 rfl ?_
    refine zj_iand hG d_Paths_isRight_30 ?_
    refine zj_iconst (v := 1) hG d_Paths_isRight_31 rfl ?_
    rw [e1]
    refine zj_icmp_lt (tgt := 48) hG d_Paths_isRight_32 (by decide) (fun c32 => ?_) (fun c32 => ?_)
    · rw [if_neg (fun g => nI_nlt (a := m % 128) (b := 1) g.1 (by omega) c32)]
      exact bad
    refine zj_iload_n hG d_Paths_isRight_35 rfl rfl ?_
    refine zj_bipush (v := 127) hG d_Paths_isRight_36 rfl ?_
    refine zj_iand hG d_Paths_isRight_38 ?_
    refine zj_bipush (v := 100) hG d_Paths_isRight_39 rfl ?_
    rw [e1]
    refine zj_icmp_gt (tgt := 48) hG d_Paths_isRight_41 (by decide) (fun c41 => ?_) (fun c41 => ?_)
    · rw [if_neg (fun g => nI_nlt (a := 100) (b := m % 128) g.2 (by omega) c41)]
      exact bad
    · have g1 : 1 ≤ m % 128 := by
        rcases Nat.lt_or_ge (m % 128) 1 with g | g
        · exact absurd (nI_lt (a := m % 128) (b := 1) g (by omega)) c32
        · exact g
      have g2 : m % 128 ≤ 100 := by
        rcases Nat.lt_or_ge 100 (m % 128) with g | g
        · exact absurd (nI_lt (a := 100) (b := m % 128) g (by omega)) c41
        · exact g
      rw [if_pos ⟨g1, g2⟩]
      refine zj_iconst (v := 1) hG d_Paths_isRight_44 rfl ?_
      refine zj_goto (tgt := 49) hG d_Paths_isRight_45 (by decide) ?_
      refine zj_istore_n hG d_Paths_isRight_49 rfl (by decide) rfl rfl ?_
      refine zj_iload_n hG d_Paths_isRight_50 rfl rfl ?_
      refine zj_bipush (v := 7) hG d_Paths_isRight_51 rfl ?_
      refine zj_iushr hG d_Paths_isRight_53 ?_
      rw [ush1 h1]
      refine zj_istore_n hG d_Paths_isRight_54 rfl (by decide) rfl rfl ?_
      refine zj_goto (tgt := 19) hG d_Paths_isRight_55 (by decide) ?_
      exact ih'
def cright (p : Int32) : Bool := decide (0 ≤ p ∧ p < 268435456) && cri 4 (pnat p)
set_option maxRecDepth 4000 in
theorem k_Paths_isRight (hG : zOK G) (p : Int32) (h : zH) : zJ G 0 m_Paths_isRight 0 [some (zI p), none, none] [] h (fun o h' => o = zR (zI (tb (cright p))) ∧ h' = h) := by
  have bad : cright p = false → ∀ w : zV, w = zI p → zJ G 0 m_Paths_isRight 17 [some (zI p), some w, none] [] h (fun o h' => o = zR (zI (tb (cright p))) ∧ h' = h) := by
    intro e w hw
    subst hw
    rw [e]
    refine zj_iconst (v := 0) hG d_Paths_isRight_17 rfl ?_
    refine zj_istore_n hG d_Paths_isRight_18 rfl (by decide) rfl rfl ?_
    refine zj_iload_n hG d_Paths_isRight_19 rfl rfl ?_
    refine zj_if_eq (tgt := 58) hG d_Paths_isRight_20 (by decide) (fun _ => ?_) (fun c => absurd (by decide) c)
    refine zj_iload_n hG d_Paths_isRight_58 rfl rfl ?_
    exact zj_iret hG d_Paths_isRight_59 rfl rfl ⟨rfl, rfl⟩
  refine zj_iload_n hG d_Paths_isRight_0 rfl rfl ?_
  refine zj_istore_n hG d_Paths_isRight_1 rfl (by decide) rfl rfl ?_
  refine zj_iload_n hG d_Paths_isRight_2 rfl rfl ?_
  refine zj_if_lt (tgt := 17) hG d_Paths_isRight_3 (by decide) (fun c3 => ?_) (fun c3 => ?_)
  · exact bad (by simp [cright, Int32.not_le.mpr c3]) _ rfl
  obtain ⟨m, hm, rfl⟩ := nI_of c3
  have hp : pnat (nI m) = m := nI_clamp hm
  have hb : nI m < 268435456 ↔ m < 268435456 := nI_ltI (b := 268435456) hm (by omega)
  have hu : ((nI m).toUInt32 >>> ((28 : Int32).toUInt32 &&& Int32.toUInt32 31)).toInt32 = nI (m / 268435456) := pk_ushrN (by omega) _ 28 rfl
  refine zj_iload_n hG d_Paths_isRight_6 rfl rfl ?_
  refine zj_bipush (v := 28) hG d_Paths_isRight_7 rfl ?_
  refine zj_iushr hG d_Paths_isRight_9 ?_
  rw [hu]
  refine zj_if_ne (tgt := 17) hG d_Paths_isRight_10 (by decide) (fun c10 => ?_) (fun c10 => ?_)
  · have : ¬ m < 268435456 := fun g => c10 (by rw [Nat.div_eq_of_lt g]; rfl)
    exact bad (by simp [cright, hb, this]) _ rfl
  · have h0 : m / 268435456 = 0 := (nI_eq (b := 0) (by omega) (by omega)).mp c10
    have hlt : m < 268435456 := by omega
    have hr : cright (nI m) = cri 4 m := by simp [cright, hb, hlt, hp, Int32.not_lt.mp c3]
    rw [hr]
    refine zj_iconst (v := 1) hG d_Paths_isRight_13 rfl ?_
    refine zj_goto (tgt := 18) hG d_Paths_isRight_14 (by decide) ?_
    refine zj_istore_n hG d_Paths_isRight_18 rfl (by decide) rfl rfl ?_
    exact k_Paths_isRightL hG h _ 4 m (by omega) hm
end CP4
