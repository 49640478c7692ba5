/-! PART 87: the component: places (isLike, isDefault, sort) -/
section PC2
variable {G : zG} {h : zH} {a : Nat} {b : Bool} {l : List Int32}
theorem tb_inj {b c : Bool} (h : tb b = tb c) : b = c := by cases b <;> cases c <;> simp [tb] at h ⊢
set_option maxRecDepth 4000 in
theorem k_Place_isLikeL (hG : zOK G) {o : Nat} {l2 : List Int32} (x : pls h a b l) (y : pls h o b l2) (hl : l.length = l2.length) : ∀ (m n : Nat), n + m = l.length → l.take n = l2.take n →
    zJ G 0 m_Place_isLike 30 [some (zA a), some (zA o), some (zI (tb true)), some (zI (nI n))] [] h (fun o' h' => ∃ v, o' = zR v ∧ ∃ c : Bool, v = zI (tb c) ∧ h' = h ∧ (c = true ↔ l = l2)) := by
  have a1 := x.1
  have a5 := x.2.2.2.2.1
  have a6 := x.2.2.2.2.2.1
  have b1 := y.1
  intro m
  induction m with
  | zero =>
    intro n hn ht
    have : n = l.length := by omega
    subst this
    refine zj_iload_n hG d_Place_isLike_30 rfl rfl ?_
    refine zj_aload_n hG d_Place_isLike_31 rfl rfl ?_
    refine zj_getI hG d_Place_isLike_32 f_Place_23 (by assumption) rfl ?_
    rw [a5]
    refine zj_icmp_ge (tgt := 69) hG d_Place_isLike_35 (by decide) (fun _ => ?_) (fun c => absurd (Int32.le_refl _) c)
    refine zj_iload_n hG d_Place_isLike_69 rfl rfl ?_
    have e : l = l2 := by
      have h1 := List.take_length (l := l)
      have h2 : l2.take l.length = l2 := by rw [hl]; exact List.take_length
      rw [← h1, ht, h2]
    exact zj_iret hG d_Place_isLike_70 rfl rfl ⟨_, rfl, true, rfl, rfl, ⟨fun _ => e, fun _ => rfl⟩⟩
  | succ m ih =>
    intro n hn ht
    have hnl : n < l.length := by omega
    have hnl2 : n < l2.length := by omega
    have v1 : zi h (za h a 3) n = l[n] := x.2.2.2.2.2.2 n _ (List.getElem?_eq_getElem hnl)
    have v2 : zi h (za h o 3) n = l2[n] := y.2.2.2.2.2.2 n _ (List.getElem?_eq_getElem hnl2)
    refine zj_iload_n hG d_Place_isLike_30 rfl rfl ?_
    refine zj_aload_n hG d_Place_isLike_31 rfl rfl ?_
    refine zj_getI hG d_Place_isLike_32 f_Place_23 (by assumption) rfl ?_
    rw [a5]
    refine zj_icmp_ge (tgt := 69) hG d_Place_isLike_35 (by decide) (fun c => absurd c (nI_ge hnl (by omega))) (fun _ => ?_)
    refine zj_iload_n hG d_Place_isLike_38 rfl rfl ?_
    refine zj_if_eq (tgt := 69) hG d_Place_isLike_39 (by decide) (fun c => absurd c (by decide)) (fun _ => ?_)
    refine zj_aload_n hG d_Place_isLike_42 rfl rfl ?_
    refine zj_getA hG d_Place_isLike_43 f_Place_9 (by assumption) rfl ?_
    refine zj_iload_n hG d_Place_isLike_46 rfl rfl ?_
    refine zj_iald hG d_Place_isLike_47 x.2.1 (x.in (by omega)) ?_
    refine zj_aload_n hG d_Place_isLike_48 rfl rfl ?_
    refine zj_getA hG d_Place_isLike_49 f_Place_9 (by assumption) rfl ?_
    refine zj_iload_n hG d_Place_isLike_52 rfl rfl ?_
    refine zj_iald hG d_Place_isLike_53 y.2.1 (y.in (by omega)) ?_
    rw [nI_clamp (by omega), v1, v2]
    refine zj_icmp_ne (tgt := 61) hG d_Place_isLike_54 (by decide) (fun c54 => ?_) (fun c54 => ?_)
    · have hne2 : ¬ l = l2 := fun e => c54 (by simp [e])
      refine zj_iconst (v := 0) hG d_Place_isLike_61 rfl ?_
      refine zj_istore_n hG d_Place_isLike_62 rfl (by decide) rfl rfl ?_
      refine zj_iinc hG d_Place_isLike_63 rfl (nI_1 n) (by decide) rfl rfl ?_
      refine zj_goto (tgt := 30) hG d_Place_isLike_66 (by decide) ?_
      refine zj_iload_n hG d_Place_isLike_30 rfl rfl ?_
      refine zj_aload_n hG d_Place_isLike_31 rfl rfl ?_
      refine zj_getI hG d_Place_isLike_32 f_Place_23 (by assumption) rfl ?_
      have fin : zJ G 0 m_Place_isLike 69 [some (zA a), some (zA o), some (zI (tb false)), some (zI (nI (n + 1)))] [] h (fun o' h' => ∃ v, o' = zR v ∧ ∃ c : Bool, v = zI (tb c) ∧ h' = h ∧ (c = true ↔ l = l2)) := by
        refine zj_iload_n hG d_Place_isLike_69 rfl rfl ?_
        exact zj_iret hG d_Place_isLike_70 rfl rfl ⟨_, rfl, false, rfl, rfl, ⟨fun e => (by cases e), fun e => absurd e hne2⟩⟩
      refine zj_icmp_ge (tgt := 69) hG d_Place_isLike_35 (by decide) (fun c35 => ?_) (fun c35 => ?_)
      · exact fin
      · refine zj_iload_n hG d_Place_isLike_38 rfl rfl ?_
        refine zj_if_eq (tgt := 69) hG d_Place_isLike_39 (by decide) (fun _ => ?_) (fun c => absurd rfl c)
        exact fin
    · refine zj_iconst (v := 1) hG d_Place_isLike_57 rfl ?_
      refine zj_goto (tgt := 62) hG d_Place_isLike_58 (by decide) ?_
      refine zj_istore_n hG d_Place_isLike_62 rfl (by decide) rfl rfl ?_
      refine zj_iinc hG d_Place_isLike_63 rfl (nI_1 n) (by decide) rfl rfl ?_
      refine zj_goto (tgt := 30) hG d_Place_isLike_66 (by decide) ?_
      exact ih (n + 1) (by omega) (by rw [List.take_succ_eq_append_getElem hnl, List.take_succ_eq_append_getElem hnl2, ht, c54])
set_option maxRecDepth 4000 in
theorem k_Place_isLike (hG : zOK G) {o : Nat} {b2 : Bool} {l2 : List Int32} (x : pls h a b l) (y : pls h o b2 l2) : zJ G 0 m_Place_isLike 0 [some (zA a), some (zA o), none, none] [] h (fun o' h' => ∃ v, o' = zR v ∧ ∃ c : Bool, v = zI (tb c) ∧ h' = h ∧ (c = true ↔ b = b2 ∧ l = l2)) := by
  have a1 := x.1
  have b1 := y.1
  have a6 := x.2.2.2.2.2.1
  have b6 := y.2.2.2.2.2.1
  have no : ¬ (b = b2 ∧ l = l2) → zJ G 0 m_Place_isLike 26 [some (zA a), some (zA o), none, none] [] h (fun o' h' => ∃ v, o' = zR v ∧ ∃ c : Bool, v = zI (tb c) ∧ h' = h ∧ (c = true ↔ b = b2 ∧ l = l2)) := by
    intro hne
    have fin : ∀ v, zJ G 0 m_Place_isLike 69 [some (zA a), some (zA o), some (zI (tb false)), some v] [] h (fun o' h' => ∃ v, o' = zR v ∧ ∃ c : Bool, v = zI (tb c) ∧ h' = h ∧ (c = true ↔ b = b2 ∧ l = l2)) := by
      intro v
      refine zj_iload_n hG d_Place_isLike_69 rfl rfl ?_
      exact zj_iret hG d_Place_isLike_70 rfl rfl ⟨_, rfl, false, rfl, rfl, ⟨fun e => (by cases e), fun e => absurd e hne⟩⟩
    refine zj_iconst (v := 0) hG d_Place_isLike_26 rfl ?_
    refine zj_istore_n hG d_Place_isLike_27 rfl (by decide) rfl rfl ?_
    refine zj_iconst (v := 0) hG d_Place_isLike_28 rfl ?_
    refine zj_istore_n hG d_Place_isLike_29 rfl (by decide) rfl rfl ?_
    refine zj_iload_n hG d_Place_isLike_30 rfl rfl ?_
    refine zj_aload_n hG d_Place_isLike_31 rfl rfl ?_
    refine zj_getI hG d_Place_isLike_32 f_Place_23 (by assumption) rfl ?_
    refine zj_icmp_ge (tgt := 69) hG d_Place_isLike_35 (by decide) (fun c35 => ?_) (fun c35 => ?_)
    · exact fin _
    · refine zj_iload_n hG d_Place_isLike_38 rfl rfl ?_
      refine zj_if_eq (tgt := 69) hG d_Place_isLike_39 (by decide) (fun _ => ?_) (fun c => absurd rfl c)
      exact fin _
  refine zj_aload_n hG d_Place_isLike_0 rfl rfl ?_
  refine zj_getI hG d_Place_isLike_1 f_Place_19 (by assumption) rfl ?_
  refine zj_aload_n hG d_Place_isLike_4 rfl rfl ?_
  refine zj_getI hG d_Place_isLike_5 f_Place_19 (by assumption) rfl ?_
  rw [x.2.2.2.1, y.2.2.2.1]
  refine zj_icmp_ne (tgt := 26) hG d_Place_isLike_8 (by decide) (fun c8 => ?_) (fun c8 => ?_)
  · exact no (fun e => c8 (by rw [e.1]))
  have eb := tb_inj c8
  refine zj_aload_n hG d_Place_isLike_11 rfl rfl ?_
  refine zj_getI hG d_Place_isLike_12 f_Place_23 (by assumption) rfl ?_
  refine zj_aload_n hG d_Place_isLike_15 rfl rfl ?_
  refine zj_getI hG d_Place_isLike_16 f_Place_23 (by assumption) rfl ?_
  rw [x.2.2.2.2.1, y.2.2.2.2.1]
  refine zj_icmp_ne (tgt := 26) hG d_Place_isLike_19 (by decide) (fun c19 => ?_) (fun c19 => ?_)
  · exact no (fun e => c19 (by rw [e.2]))
  have el : l.length = l2.length := nI_inj (by omega) (by omega) c19
  subst eb
  refine zj_iconst (v := 1) hG d_Place_isLike_22 rfl ?_
  refine zj_goto (tgt := 27) hG d_Place_isLike_23 (by decide) ?_
  refine zj_istore_n hG d_Place_isLike_27 rfl (by decide) rfl rfl ?_
  refine zj_iconst (v := 0) hG d_Place_isLike_28 rfl ?_
  refine zj_istore_n hG d_Place_isLike_29 rfl (by decide) rfl rfl ?_
  refine (k_Place_isLikeL hG x y el l.length 0 (by omega) (by simp)).mono ?_
  rintro o' h' ⟨v, q1, c, q2, q3, q4⟩
  exact ⟨v, q1, c, q2, q3, by rw [q4]; exact ⟨fun e => ⟨rfl, e⟩, fun e => e.2⟩⟩
set_option maxRecDepth 4000 in
theorem k_Place_isDefault (hG : zOK G) (x : pls h a b l) (hb : b = false → ∃ y, l = [y]) {q : Nat} (hq : zt h q = 12) (hl : zi h q 5 ≤ zi h q 6) : zJ G 3 m_Place_isDefault 0 [some (zA a), some (zA q)] [] h (fun o' h' => ∃ v, o' = zR v ∧ ∃ c : Bool, v = zI (tb c) ∧ h' = h ∧ (c = true ↔ (if b = true then l = [] else l = [tnear (zi h q 5) (zi h q 6)]))) := by
  have a1 := x.1
  have a6 := x.2.2.2.2.2.1
  refine zj_aload_n hG d_Place_isDefault_0 rfl rfl ?_
  refine zj_getI hG d_Place_isDefault_1 f_Place_19 (by assumption) rfl ?_
  rw [x.2.2.2.1]
  cases b with
  | true =>
    refine zj_if_eq (tgt := 22) hG d_Place_isDefault_4 (by decide) (fun c => absurd c (by decide)) (fun _ => ?_)
    refine zj_aload_n hG d_Place_isDefault_7 rfl rfl ?_
    refine zj_getI hG d_Place_isDefault_8 f_Place_23 (by assumption) rfl ?_
    rw [x.2.2.2.2.1]
    refine zj_if_ne (tgt := 18) hG d_Place_isDefault_11 (by decide) (fun c11 => ?_) (fun c11 => ?_)
    · refine zj_iconst (v := 0) hG d_Place_isDefault_18 rfl ?_
      refine zj_goto (tgt := 40) hG d_Place_isDefault_19 (by decide) ?_
      refine zj_iret hG d_Place_isDefault_40 rfl rfl ⟨_, rfl, false, rfl, rfl, ⟨fun e => (by cases e), fun e => ?_⟩⟩
      simp only [if_true] at e
      rw [e] at c11
      exact absurd rfl c11
    · refine zj_iconst (v := 1) hG d_Place_isDefault_14 rfl ?_
      refine zj_goto (tgt := 40) hG d_Place_isDefault_15 (by decide) ?_
      refine zj_iret hG d_Place_isDefault_40 rfl rfl ⟨_, rfl, true, rfl, rfl, ⟨fun _ => ?_, fun _ => rfl⟩⟩
      simp only [if_true]
      have : l.length = 0 := nI_inj (a := l.length) (b := 0) (by omega) (by omega) c11
      exact List.eq_nil_of_length_eq_zero this
  | false =>
    obtain ⟨y, rfl⟩ := hb rfl
    have v0 : zi h (za h a 3) 0 = y := x.2.2.2.2.2.2 0 y rfl
    refine zj_if_eq (tgt := 22) hG d_Place_isDefault_4 (by decide) (fun _ => ?_) (fun c => absurd rfl c)
    refine zj_aload_n hG d_Place_isDefault_22 rfl rfl ?_
    refine zj_getA hG d_Place_isDefault_23 f_Place_9 (by assumption) rfl ?_
    refine zj_iconst (v := 0) hG d_Place_isDefault_26 rfl ?_
    refine zj_iald hG d_Place_isDefault_27 x.2.1 (x.in (i := 0) (by omega)) ?_
    refine zj_aload_n hG d_Place_isDefault_28 rfl rfl ?_
    rw [show zi h (za h a 3) (0 : Int32).toNatClampNeg = y from v0]
    refine zj_callR (y' := m_Prim_zero) hG (zcV (as := []) hG d_Place_isDefault_29 c_Prim_zero (z_w5 141 rfl) (z_w5 91 rfl) (z_w5 92 rfl) ⟨by decide, by decide⟩ hq (by decide) (by decide) (show _ = some 0 from by decide +kernel) rfl) c_Prim_zero rfl (by omega) rfl (z_le rfl) (z_le rfl) (k_Prim_zero hG hq hl) ?_
    refine zj_icmp_ne (tgt := 39) hG d_Place_isDefault_32 (by decide) (fun c32 => ?_) (fun c32 => ?_)
    · refine zj_iconst (v := 0) hG d_Place_isDefault_39 rfl ?_
      exact zj_iret hG d_Place_isDefault_40 rfl rfl ⟨_, rfl, false, rfl, rfl, ⟨fun e => (by cases e), fun e => absurd (by simpa using e) c32⟩⟩
    · refine zj_iconst (v := 1) hG d_Place_isDefault_35 rfl ?_
      refine zj_goto (tgt := 40) hG d_Place_isDefault_36 (by decide) ?_
      exact zj_iret hG d_Place_isDefault_40 rfl rfl ⟨_, rfl, true, rfl, rfl, ⟨fun _ => by simpa using c32, fun _ => rfl⟩⟩
end PC2
