/-! PART 47: the reference is made -/
/-- k arrays stand, S slots are made -/
def tIn (q k S : Nat) (h0 h : zH) : Prop := zn h = q + 1 + k ∧ zs h = zs h0 + S ∧ zt h q = 15 ∧ (∀ j, j < 39 → zq 15 j = true → tO j ≤ k → za h q j = q + tO j) ∧
  (∀ o, 1 ≤ o → o ≤ k → zt h (q + o) = 21 ∧ zl h (q + o) = tLn o ∧ ∀ i, zi h (q + o) i = if o = 10 ∧ i < 16 then -1 else 0) ∧ (∀ i, zi h q i = if i = 1 then 1 else 0) ∧
  ∀ a, a < q → zt h a = zt h0 a ∧ zl h a = zl h0 a ∧ (∀ i, zi h a i = zi h0 a i) ∧ (∀ i, za h a i = za h0 a i) ∧ ∀ i, zj h a i = zj h0 a i
/-- an array filled so far -/
def tFil (a k : Nat) (h1 h : zH) : Prop := zn h = zn h1 ∧ zs h = zs h1 ∧ zt h = zt h1 ∧ zl h = zl h1 ∧ za h = za h1 ∧ zj h = zj h1 ∧ (∀ b, b ≠ a → zi h b = zi h1 b) ∧ ∀ i, zi h a i = if i < k then -1 else zi h1 a i
theorem tFil.s {a k : Nat} {h1 h : zH} (x : tFil a k h1 h) : tFil a (k + 1) h1 (zsi h a k (-1)) := by
  obtain ⟨x1, x2, x3, x4, x5, x6, x7, x8⟩ := x
  refine ⟨x1, x2, x3, x4, x5, x6, fun b hb => ?_, fun i => ?_⟩
  · funext i
    show zu (zi h) a k (-1) b i = _
    rw [zu_a hb, x7 b hb]
  · show zu (zi h) a k (-1) a i = _
    by_cases e : i = k
    · subst e
      rw [zu_s, if_pos (by omega)]
    · rw [zu_k e, x8 i]
      by_cases g : i < k
      · rw [if_pos g, if_pos (by omega)]
      · rw [if_neg g, if_neg (by omega)]
theorem tIn.s {q k S n j : Nat} {h0 h h2 : zH} (x : tIn q k S h0 h) (hj : tO j = k + 1) (hu : ∀ j', j' < 39 → zq 15 j' = true → tO j' = k + 1 → j' = j) (hn : tLn (k + 1) = n)
    (e1 : zn h2 = zn h + 1) (e2 : zs h2 = zs h + n) (e3 : zt h2 = zw (zt h) (zn h) 21) (e4 : zl h2 = zw (zl h) (zn h) n) (e5 : za h2 = zu (zw (za h) (zn h) (fun _ => 0)) q j (zn h)) (e6 : zj h2 = zw (zj h) (zn h) (fun _ => 0)) (e7 : ∀ b, b ≠ zn h → zi h2 b = zi h b) (e8 : ∀ i, zi h2 (zn h) i = if k + 1 = 10 ∧ i < 16 then -1 else 0) : tIn q (k + 1) (S + n) h0 h2 := by
  obtain ⟨x1, x2, x3, x4, x5, x6, x7⟩ := x
  refine ⟨by omega, by omega, ?_, fun j' h1 h2' h3 => ?_, fun o h1 h2' => ?_, fun i => ?_, fun a ha => ?_⟩
  · rw [e3, zw_n (by omega), x3]
  · rw [e5]
    by_cases e : j' = j
    · subst e
      rw [zu_s, hj, x1]
      omega
    · rw [zu_k e, zw_n (by omega)]
      exact x4 j' h1 h2' (by
        have : tO j' ≠ k + 1 := fun g => e (hu j' h1 h2' g)
        omega)
  · by_cases e : o = k + 1
    · subst e
      have : q + (k + 1) = zn h := by omega
      rw [this, e3, e4, zw_s, zw_s, hn]
      exact ⟨rfl, rfl, e8⟩
    · obtain ⟨y1, y2, y3⟩ := x5 o h1 (by omega)
      rw [e3, e4, zw_n (by omega), zw_n (by omega), e7 _ (by omega)]
      exact ⟨y1, y2, y3⟩
  · rw [e7 _ (by omega)]
    exact x6 i
  · obtain ⟨y1, y2, y3, y4, y5⟩ := x7 a ha
    refine ⟨by rw [e3, zw_n (by omega), y1], by rw [e4, zw_n (by omega), y2], fun i => by rw [e7 _ (by omega)]; exact y3 i, fun i => ?_, fun i => ?_⟩
    · rw [e5, zu_a (by omega), zw_n (by omega)]
      exact y4 i
    · rw [e6, zw_n (by omega)]
      exact y5 i
section MD34
variable {G : zG}
set_option maxRecDepth 8000 in
set_option maxHeartbeats 4000000 in
theorem k_MD_init (hG : zOK G) {q : Nat} {h : zH} (hq : zn h = q + 1) (hq0 : q ≠ 0) (ht : zt h q = 15) (hi : ∀ i, zi h q i = 0) (hn : zn h + 29 ≤ g0 G + 603072) (hs : zs h + 43779 ≤ 7211114) :
    zJ G 2 m_MD_init 0 [some (zA q)] [] h (fun o h' => o = zR0 ∧ tIn q 29 43779 h h') := by
  refine zj_aload_n hG d_MD_init_0 rfl rfl ?_
  refine zj_objinit hG d_MD_init_1 (z_w6 127 rfl) hq0 (by omega) (by decide) ?_
  refine zj_aload_n hG d_MD_init_4 rfl rfl ?_
  refine zj_iconst (v := 1) hG d_MD_init_5 rfl ?_
  refine zj_putI hG d_MD_init_6 f_MD_7 ht rfl rfl ?_
  obtain ⟨h0, hh0⟩ : ∃ h0, h0 = zsi h q 1 1 := ⟨_, rfl⟩
  rw [← hh0]
  have I0 : tIn q 0 0 h h0 := by
    subst hh0
    refine ⟨hq, rfl, ht, fun j h1 h2 h3 => ?_, fun o h1 h2 => by omega, fun i => ?_, fun a ha => ⟨rfl, rfl, fun i => zu_a (by omega), fun _ => rfl, fun _ => rfl⟩⟩
    · exfalso
      revert h2 h3
      revert j
      decide
    · show zu (zi h) q 1 1 q i = _
      by_cases e : i = 1
      · subst e
        rw [zu_s, if_pos rfl]
      · rw [zu_k e, if_neg e]
        exact hi i
  clear hh0
  refine zj_aload_n hG d_MD_init_9 rfl rfl ?_
  refine zj_bipush (v := 8) hG d_MD_init_10 rfl ?_
  refine zj_newI (N := 8) hG d_MD_init_12 (by decide) rfl (by decide) (by have := I0.1; omega) (by have := I0.2.1; omega) ?_
  refine zj_putA hG d_MD_init_14 f_MD_13 (by show zw (zt h0) (zn h0) 21 q = 15; rw [zw_n (by have := I0.1; omega)]; exact I0.2.2.1) rfl (Or.inr ⟨rfl, rfl⟩) ?_
  obtain ⟨h1, hh1⟩ : ∃ z, z = zsa (znew h0 21 8 8) q 2 (zn h0) := ⟨_, rfl⟩
  rw [← hh1]
  have I1 : tIn q 1 8 h h1 := by
    subst hh1
    exact tIn.s (j := 2) I0 rfl (by decide) rfl rfl rfl rfl rfl rfl rfl (fun b hb => zw_n hb) (fun i => by rw [if_neg (fun g => absurd g.1 (by decide))]; exact congrFun zw_s i)
  clear hh1 I0
  refine zj_aload_n hG d_MD_init_17 rfl rfl ?_
  refine zj_sipush (v := 192) hG d_MD_init_18 rfl ?_
  refine zj_newI (N := 192) hG d_MD_init_21 (by decide) rfl (by decide) (by have := I1.1; omega) (by have := I1.2.1; omega) ?_
  refine zj_putA hG d_MD_init_23 f_MD_17 (by show zw (zt h1) (zn h1) 21 q = 15; rw [zw_n (by have := I1.1; omega)]; exact I1.2.2.1) rfl (Or.inr ⟨rfl, rfl⟩) ?_
  obtain ⟨h2, hh2⟩ : ∃ z, z = zsa (znew h1 21 192 192) q 3 (zn h1) := ⟨_, rfl⟩
  rw [← hh2]
  have I2 : tIn q 2 200 h h2 := by
    subst hh2
    exact tIn.s (j := 3) I1 rfl (by decide) rfl rfl rfl rfl rfl rfl rfl (fun b hb => zw_n hb) (fun i => by rw [if_neg (fun g => absurd g.1 (by decide))]; exact congrFun zw_s i)
  clear hh2 I1
  refine zj_aload_n hG d_MD_init_26 rfl rfl ?_
  refine zj_sipush (v := 192) hG d_MD_init_27 rfl ?_
  refine zj_newI (N := 192) hG d_MD_init_30 (by decide) rfl (by decide) (by have := I2.1; omega) (by have := I2.2.1; omega) ?_
  refine zj_putA hG d_MD_init_32 f_MD_20 (by show zw (zt h2) (zn h2) 21 q = 15; rw [zw_n (by have := I2.1; omega)]; exact I2.2.2.1) rfl (Or.inr ⟨rfl, rfl⟩) ?_
  obtain ⟨h3, hh3⟩ : ∃ z, z = zsa (znew h2 21 192 192) q 4 (zn h2) := ⟨_, rfl⟩
  rw [← hh3]
  have I3 : tIn q 3 392 h h3 := by
    subst hh3
    exact tIn.s (j := 4) I2 rfl (by decide) rfl rfl rfl rfl rfl rfl rfl (fun b hb => zw_n hb) (fun i => by rw [if_neg (fun g => absurd g.1 (by decide))]; exact congrFun zw_s i)
  clear hh3 I2
  refine zj_aload_n hG d_MD_init_35 rfl rfl ?_
  refine zj_sipush (v := 192) hG d_MD_init_36 rfl ?_
  refine zj_newI (N := 192) hG d_MD_init_39 (by decide) rfl (by decide) (by have := I3.1; omega) (by have := I3.2.1; omega) ?_
  refine zj_putA hG d_MD_init_41 f_MD_23 (by show zw (zt h3) (zn h3) 21 q = 15; rw [zw_n (by have := I3.1; omega)]; exact I3.2.2.1) rfl (Or.inr ⟨rfl, rfl⟩) ?_
  obtain ⟨h4, hh4⟩ : ∃ z, z = zsa (znew h3 21 192 192) q 5 (zn h3) := ⟨_, rfl⟩
  rw [← hh4]
  have I4 : tIn q 4 584 h h4 := by
    subst hh4
    exact tIn.s (j := 5) I3 rfl (by decide) rfl rfl rfl rfl rfl rfl rfl (fun b hb => zw_n hb) (fun i => by rw [if_neg (fun g => absurd g.1 (by decide))]; exact congrFun zw_s i)
  clear hh4 I3
  refine zj_aload_n hG d_MD_init_44 rfl rfl ?_
  refine zj_sipush (v := 192) hG d_MD_init_45 rfl ?_
  refine zj_newI (N := 192) hG d_MD_init_48 (by decide) rfl (by decide) (by have := I4.1; omega) (by have := I4.2.1; omega) ?_
  refine zj_putA hG d_MD_init_50 f_MD_26 (by show zw (zt h4) (zn h4) 21 q = 15; rw [zw_n (by have := I4.1; omega)]; exact I4.2.2.1) rfl (Or.inr ⟨rfl, rfl⟩) ?_
  obtain ⟨h5, hh5⟩ : ∃ z, z = zsa (znew h4 21 192 192) q 6 (zn h4) := ⟨_, rfl⟩
  rw [← hh5]
  have I5 : tIn q 5 776 h h5 := by
    subst hh5
    exact tIn.s (j := 6) I4 rfl (by decide) rfl rfl rfl rfl rfl rfl rfl (fun b hb => zw_n hb) (fun i => by rw [if_neg (fun g => absurd g.1 (by decide))]; exact congrFun zw_s i)
  clear hh5 I4
  refine zj_aload_n hG d_MD_init_53 rfl rfl ?_
  refine zj_bipush (v := 17) hG d_MD_init_54 rfl ?_
  refine zj_newI (N := 17) hG d_MD_init_56 (by decide) rfl (by decide) (by have := I5.1; omega) (by have := I5.2.1; omega) ?_
  refine zj_putA hG d_MD_init_58 f_MD_29 (by show zw (zt h5) (zn h5) 21 q = 15; rw [zw_n (by have := I5.1; omega)]; exact I5.2.2.1) rfl (Or.inr ⟨rfl, rfl⟩) ?_
  obtain ⟨h6, hh6⟩ : ∃ z, z = zsa (znew h5 21 17 17) q 9 (zn h5) := ⟨_, rfl⟩
  rw [← hh6]
  have I6 : tIn q 6 793 h h6 := by
    subst hh6
    exact tIn.s (j := 9) I5 rfl (by decide) rfl rfl rfl rfl rfl rfl rfl (fun b hb => zw_n hb) (fun i => by rw [if_neg (fun g => absurd g.1 (by decide))]; exact congrFun zw_s i)
  clear hh6 I5
  refine zj_aload_n hG d_MD_init_61 rfl rfl ?_
  refine zj_bipush (v := 17) hG d_MD_init_62 rfl ?_
  refine zj_newI (N := 17) hG d_MD_init_64 (by decide) rfl (by decide) (by have := I6.1; omega) (by have := I6.2.1; omega) ?_
  refine zj_putA hG d_MD_init_66 f_MD_32 (by show zw (zt h6) (zn h6) 21 q = 15; rw [zw_n (by have := I6.1; omega)]; exact I6.2.2.1) rfl (Or.inr ⟨rfl, rfl⟩) ?_
  obtain ⟨h7, hh7⟩ : ∃ z, z = zsa (znew h6 21 17 17) q 10 (zn h6) := ⟨_, rfl⟩
  rw [← hh7]
  have I7 : tIn q 7 810 h h7 := by
    subst hh7
    exact tIn.s (j := 10) I6 rfl (by decide) rfl rfl rfl rfl rfl rfl rfl (fun b hb => zw_n hb) (fun i => by rw [if_neg (fun g => absurd g.1 (by decide))]; exact congrFun zw_s i)
  clear hh7 I6
  refine zj_aload_n hG d_MD_init_69 rfl rfl ?_
  refine zj_bipush (v := 17) hG d_MD_init_70 rfl ?_
  refine zj_newI (N := 17) hG d_MD_init_72 (by decide) rfl (by decide) (by have := I7.1; omega) (by have := I7.2.1; omega) ?_
  refine zj_putA hG d_MD_init_74 f_MD_35 (by show zw (zt h7) (zn h7) 21 q = 15; rw [zw_n (by have := I7.1; omega)]; exact I7.2.2.1) rfl (Or.inr ⟨rfl, rfl⟩) ?_
  obtain ⟨h8, hh8⟩ : ∃ z, z = zsa (znew h7 21 17 17) q 11 (zn h7) := ⟨_, rfl⟩
  rw [← hh8]
  have I8 : tIn q 8 827 h h8 := by
    subst hh8
    exact tIn.s (j := 11) I7 rfl (by decide) rfl rfl rfl rfl rfl rfl rfl (fun b hb => zw_n hb) (fun i => by rw [if_neg (fun g => absurd g.1 (by decide))]; exact congrFun zw_s i)
  clear hh8 I7
  refine zj_aload_n hG d_MD_init_77 rfl rfl ?_
  refine zj_sipush (v := 1088) hG d_MD_init_78 rfl ?_
  refine zj_newI (N := 1088) hG d_MD_init_81 (by decide) rfl (by decide) (by have := I8.1; omega) (by have := I8.2.1; omega) ?_
  refine zj_putA hG d_MD_init_83 f_MD_38 (by show zw (zt h8) (zn h8) 21 q = 15; rw [zw_n (by have := I8.1; omega)]; exact I8.2.2.1) rfl (Or.inr ⟨rfl, rfl⟩) ?_
  obtain ⟨h9, hh9⟩ : ∃ z, z = zsa (znew h8 21 1088 1088) q 12 (zn h8) := ⟨_, rfl⟩
  rw [← hh9]
  have I9 : tIn q 9 1915 h h9 := by
    subst hh9
    exact tIn.s (j := 12) I8 rfl (by decide) rfl rfl rfl rfl rfl rfl rfl (fun b hb => zw_n hb) (fun i => by rw [if_neg (fun g => absurd g.1 (by decide))]; exact congrFun zw_s i)
  clear hh9 I8
  refine zj_aload_n hG d_MD_init_86 rfl rfl ?_
  refine zj_bipush (v := 16) hG d_MD_init_87 rfl ?_
  refine zj_newI (N := 16) hG d_MD_init_89 (by decide) rfl (by decide) (by have := I9.1; omega) (by have := I9.2.1; omega) ?_
  obtain ⟨ga0, hga0⟩ : ∃ z, z = znew h9 21 16 16 := ⟨_, rfl⟩
  rw [← hga0]
  have F0 : tFil (zn h9) 0 (znew h9 21 16 16) ga0 := by
    subst hga0
    exact ⟨rfl, rfl, rfl, rfl, rfl, rfl, fun _ _ => rfl, fun i => by rw [if_neg (by omega)]⟩
  clear hga0
  refine zj_dup hG d_MD_init_91 (by first | exact zc_A _ | rfl) ?_
  refine zj_iconst (v := 0) hG d_MD_init_92 rfl ?_
  refine zj_iconst (v := -1) hG d_MD_init_93 rfl ?_
  refine zj_iast hG d_MD_init_94 (by rw [F0.2.2.1]; exact zw_s) (by rw [F0.2.2.2.1]; show vp_in _ (zw (zl h9) (zn h9) 16 (zn h9)); rw [zw_s]; exact vp_in_nI (n := 0) (by omega) (by omega)) ?_
  obtain ⟨ga1, hga1⟩ : ∃ z, z = zsi ga0 (zn h9) 0 (-1) := ⟨_, rfl⟩
  rw [show zsi ga0 (zn h9) ((0 : Int32).toNatClampNeg) (-1) = ga1 from hga1.symm]
  have F1 : tFil (zn h9) 1 (znew h9 21 16 16) ga1 := by
    subst hga1
    exact F0.s
  clear hga1 F0
  refine zj_dup hG d_MD_init_95 (by first | exact zc_A _ | rfl) ?_
  refine zj_iconst (v := 1) hG d_MD_init_96 rfl ?_
  refine zj_iconst (v := -1) hG d_MD_init_97 rfl ?_
  refine zj_iast hG d_MD_init_98 (by rw [F1.2.2.1]; exact zw_s) (by rw [F1.2.2.2.1]; show vp_in _ (zw (zl h9) (zn h9) 16 (zn h9)); rw [zw_s]; exact vp_in_nI (n := 1) (by omega) (by omega)) ?_
  obtain ⟨ga2, hga2⟩ : ∃ z, z = zsi ga1 (zn h9) 1 (-1) := ⟨_, rfl⟩
  rw [show zsi ga1 (zn h9) ((1 : Int32).toNatClampNeg) (-1) = ga2 from hga2.symm]
  have F2 : tFil (zn h9) 2 (znew h9 21 16 16) ga2 := by
    subst hga2
    exact F1.s
  clear hga2 F1
  refine zj_dup hG d_MD_init_99 (by first | exact zc_A _ | rfl) ?_
  refine zj_iconst (v := 2) hG d_MD_init_100 rfl ?_
  refine zj_iconst (v := -1) hG d_MD_init_101 rfl ?_
  refine zj_iast hG d_MD_init_102 (by rw [F2.2.2.1]; exact zw_s) (by rw [F2.2.2.2.1]; show vp_in _ (zw (zl h9) (zn h9) 16 (zn h9)); rw [zw_s]; exact vp_in_nI (n := 2) (by omega) (by omega)) ?_
  obtain ⟨ga3, hga3⟩ : ∃ z, z = zsi ga2 (zn h9) 2 (-1) := ⟨_, rfl⟩
  rw [show zsi ga2 (zn h9) ((2 : Int32).toNatClampNeg) (-1) = ga3 from hga3.symm]
  have F3 : tFil (zn h9) 3 (znew h9 21 16 16) ga3 := by
    subst hga3
    exact F2.s
  clear hga3 F2
  refine zj_dup hG d_MD_init_103 (by first | exact zc_A _ | rfl) ?_
  refine zj_iconst (v := 3) hG d_MD_init_104 rfl ?_
  refine zj_iconst (v := -1) hG d_MD_init_105 rfl ?_
  refine zj_iast hG d_MD_init_106 (by rw [F3.2.2.1]; exact zw_s) (by rw [F3.2.2.2.1]; show vp_in _ (zw (zl h9) (zn h9) 16 (zn h9)); rw [zw_s]; exact vp_in_nI (n := 3) (by omega) (by omega)) ?_
  obtain ⟨ga4, hga4⟩ : ∃ z, z = zsi ga3 (zn h9) 3 (-1) := ⟨_, rfl⟩
  rw [show zsi ga3 (zn h9) ((3 : Int32).toNatClampNeg) (-1) = ga4 from hga4.symm]
  have F4 : tFil (zn h9) 4 (znew h9 21 16 16) ga4 := by
    subst hga4
    exact F3.s
  clear hga4 F3
  refine zj_dup hG d_MD_init_107 (by first | exact zc_A _ | rfl) ?_
  refine zj_iconst (v := 4) hG d_MD_init_108 rfl ?_
  refine zj_iconst (v := -1) hG d_MD_init_109 rfl ?_
  refine zj_iast hG d_MD_init_110 (by rw [F4.2.2.1]; exact zw_s) (by rw [F4.2.2.2.1]; show vp_in _ (zw (zl h9) (zn h9) 16 (zn h9)); rw [zw_s]; exact vp_in_nI (n := 4) (by omega) (by omega)) ?_
  obtain ⟨ga5, hga5⟩ : ∃ z, z = zsi ga4 (zn h9) 4 (-1) := ⟨_, rfl⟩
  rw [show zsi ga4 (zn h9) ((4 : Int32).toNatClampNeg) (-1) = ga5 from hga5.symm]
  have F5 : tFil (zn h9) 5 (znew h9 21 16 16) ga5 := by
    subst hga5
    exact F4.s
  clear hga5 F4
  refine zj_dup hG d_MD_init_111 (by first | exact zc_A _ | rfl) ?_
  refine zj_iconst (v := 5) hG d_MD_init_112 rfl ?_
  refine zj_iconst (v := -1) hG d_MD_init_113 rfl ?_
  refine zj_iast hG d_MD_init_114 (by rw [F5.2.2.1]; exact zw_s) (by rw [F5.2.2.2.1]; show vp_in _ (zw (zl h9) (zn h9) 16 (zn h9)); rw [zw_s]; exact vp_in_nI (n := 5) (by omega) (by omega)) ?_
  obtain ⟨ga6, hga6⟩ : ∃ z, z = zsi ga5 (zn h9) 5 (-1) := ⟨_, rfl⟩
  rw [show zsi ga5 (zn h9) ((5 : Int32).toNatClampNeg) (-1) = ga6 from hga6.symm]
  have F6 : tFil (zn h9) 6 (znew h9 21 16 16) ga6 := by
    subst hga6
    exact F5.s
  clear hga6 F5
  refine zj_dup hG d_MD_init_115 (by first | exact zc_A _ | rfl) ?_
  refine zj_bipush (v := 6) hG d_MD_init_116 rfl ?_
  refine zj_iconst (v := -1) hG d_MD_init_118 rfl ?_
  refine zj_iast hG d_MD_init_119 (by rw [F6.2.2.1]; exact zw_s) (by rw [F6.2.2.2.1]; show vp_in _ (zw (zl h9) (zn h9) 16 (zn h9)); rw [zw_s]; exact vp_in_nI (n := 6) (by omega) (by omega)) ?_
  obtain ⟨ga7, hga7⟩ : ∃ z, z = zsi ga6 (zn h9) 6 (-1) := ⟨_, rfl⟩
  rw [show zsi ga6 (zn h9) ((6 : Int32).toNatClampNeg) (-1) = ga7 from hga7.symm]
  have F7 : tFil (zn h9) 7 (znew h9 21 16 16) ga7 := by
    subst hga7
    exact F6.s
  clear hga7 F6
  refine zj_dup hG d_MD_init_120 (by first | exact zc_A _ | rfl) ?_
  refine zj_bipush (v := 7) hG d_MD_init_121 rfl ?_
  refine zj_iconst (v := -1) hG d_MD_init_123 rfl ?_
  refine zj_iast hG d_MD_init_124 (by rw [F7.2.2.1]; exact zw_s) (by rw [F7.2.2.2.1]; show vp_in _ (zw (zl h9) (zn h9) 16 (zn h9)); rw [zw_s]; exact vp_in_nI (n := 7) (by omega) (by omega)) ?_
  obtain ⟨ga8, hga8⟩ : ∃ z, z = zsi ga7 (zn h9) 7 (-1) := ⟨_, rfl⟩
  rw [show zsi ga7 (zn h9) ((7 : Int32).toNatClampNeg) (-1) = ga8 from hga8.symm]
  have F8 : tFil (zn h9) 8 (znew h9 21 16 16) ga8 := by
    subst hga8
    exact F7.s
  clear hga8 F7
  refine zj_dup hG d_MD_init_125 (by first | exact zc_A _ | rfl) ?_
  refine zj_bipush (v := 8) hG d_MD_init_126 rfl ?_
  refine zj_iconst (v := -1) hG d_MD_init_128 rfl ?_
  refine zj_iast hG d_MD_init_129 (by rw [F8.2.2.1]; exact zw_s) (by rw [F8.2.2.2.1]; show vp_in _ (zw (zl h9) (zn h9) 16 (zn h9)); rw [zw_s]; exact vp_in_nI (n := 8) (by omega) (by omega)) ?_
  obtain ⟨ga9, hga9⟩ : ∃ z, z = zsi ga8 (zn h9) 8 (-1) := ⟨_, rfl⟩
  rw [show zsi ga8 (zn h9) ((8 : Int32).toNatClampNeg) (-1) = ga9 from hga9.symm]
  have F9 : tFil (zn h9) 9 (znew h9 21 16 16) ga9 := by
    subst hga9
    exact F8.s
  clear hga9 F8
  refine zj_dup hG d_MD_init_130 (by first | exact zc_A _ | rfl) ?_
  refine zj_bipush (v := 9) hG d_MD_init_131 rfl ?_
  refine zj_iconst (v := -1) hG d_MD_init_133 rfl ?_
  refine zj_iast hG d_MD_init_134 (by rw [F9.2.2.1]; exact zw_s) (by rw [F9.2.2.2.1]; show vp_in _ (zw (zl h9) (zn h9) 16 (zn h9)); rw [zw_s]; exact vp_in_nI (n := 9) (by omega) (by omega)) ?_
  obtain ⟨ga10, hga10⟩ : ∃ z, z = zsi ga9 (zn h9) 9 (-1) := ⟨_, rfl⟩
  rw [show zsi ga9 (zn h9) ((9 : Int32).toNatClampNeg) (-1) = ga10 from hga10.symm]
  have F10 : tFil (zn h9) 10 (znew h9 21 16 16) ga10 := by
    subst hga10
    exact F9.s
  clear hga10 F9
  refine zj_dup hG d_MD_init_135 (by first | exact zc_A _ | rfl) ?_
  refine zj_bipush (v := 10) hG d_MD_init_136 rfl ?_
  refine zj_iconst (v := -1) hG d_MD_init_138 rfl ?_
  refine zj_iast hG d_MD_init_139 (by rw [F10.2.2.1]; exact zw_s) (by rw [F10.2.2.2.1]; show vp_in _ (zw (zl h9) (zn h9) 16 (zn h9)); rw [zw_s]; exact vp_in_nI (n := 10) (by omega) (by omega)) ?_
  obtain ⟨ga11, hga11⟩ : ∃ z, z = zsi ga10 (zn h9) 10 (-1) := ⟨_, rfl⟩
  rw [show zsi ga10 (zn h9) ((10 : Int32).toNatClampNeg) (-1) = ga11 from hga11.symm]
  have F11 : tFil (zn h9) 11 (znew h9 21 16 16) ga11 := by
    subst hga11
    exact F10.s
  clear hga11 F10
  refine zj_dup hG d_MD_init_140 (by first | exact zc_A _ | rfl) ?_
  refine zj_bipush (v := 11) hG d_MD_init_141 rfl ?_
  refine zj_iconst (v := -1) hG d_MD_init_143 rfl ?_
  refine zj_iast hG d_MD_init_144 (by rw [F11.2.2.1]; exact zw_s) (by rw [F11.2.2.2.1]; show vp_in _ (zw (zl h9) (zn h9) 16 (zn h9)); rw [zw_s]; exact vp_in_nI (n := 11) (by omega) (by omega)) ?_
  obtain ⟨ga12, hga12⟩ : ∃ z, z = zsi ga11 (zn h9) 11 (-1) := ⟨_, rfl⟩
  rw [show zsi ga11 (zn h9) ((11 : Int32).toNatClampNeg) (-1) = ga12 from hga12.symm]
  have F12 : tFil (zn h9) 12 (znew h9 21 16 16) ga12 := by
    subst hga12
    exact F11.s
  clear hga12 F11
  refine zj_dup hG d_MD_init_145 (by first | exact zc_A _ | rfl) ?_
  refine zj_bipush (v := 12) hG d_MD_init_146 rfl ?_
  refine zj_iconst (v := -1) hG d_MD_init_148 rfl ?_
  refine zj_iast hG d_MD_init_149 (by rw [F12.2.2.1]; exact zw_s) (by rw [F12.2.2.2.1]; show vp_in _ (zw (zl h9) (zn h9) 16 (zn h9)); rw [zw_s]; exact vp_in_nI (n := 12) (by omega) (by omega)) ?_
  obtain ⟨ga13, hga13⟩ : ∃ z, z = zsi ga12 (zn h9) 12 (-1) := ⟨_, rfl⟩
  rw [show zsi ga12 (zn h9) ((12 : Int32).toNatClampNeg) (-1) = ga13 from hga13.symm]
  have F13 : tFil (zn h9) 13 (znew h9 21 16 16) ga13 := by
    subst hga13
    exact F12.s
  clear hga13 F12
  refine zj_dup hG d_MD_init_150 (by first | exact zc_A _ | rfl) ?_
  refine zj_bipush (v := 13) hG d_MD_init_151 rfl ?_
  refine zj_iconst (v := -1) hG d_MD_init_153 rfl ?_
  refine zj_iast hG d_MD_init_154 (by rw [F13.2.2.1]; exact zw_s) (by rw [F13.2.2.2.1]; show vp_in _ (zw (zl h9) (zn h9) 16 (zn h9)); rw [zw_s]; exact vp_in_nI (n := 13) (by omega) (by omega)) ?_
  obtain ⟨ga14, hga14⟩ : ∃ z, z = zsi ga13 (zn h9) 13 (-1) := ⟨_, rfl⟩
  rw [show zsi ga13 (zn h9) ((13 : Int32).toNatClampNeg) (-1) = ga14 from hga14.symm]
  have F14 : tFil (zn h9) 14 (znew h9 21 16 16) ga14 := by
    subst hga14
    exact F13.s
  clear hga14 F13
  refine zj_dup hG d_MD_init_155 (by first | exact zc_A _ | rfl) ?_
  refine zj_bipush (v := 14) hG d_MD_init_156 rfl ?_
  refine zj_iconst (v := -1) hG d_MD_init_158 rfl ?_
  refine zj_iast hG d_MD_init_159 (by rw [F14.2.2.1]; exact zw_s) (by rw [F14.2.2.2.1]; show vp_in _ (zw (zl h9) (zn h9) 16 (zn h9)); rw [zw_s]; exact vp_in_nI (n := 14) (by omega) (by omega)) ?_
  obtain ⟨ga15, hga15⟩ : ∃ z, z = zsi ga14 (zn h9) 14 (-1) := ⟨_, rfl⟩
  rw [show zsi ga14 (zn h9) ((14 : Int32).toNatClampNeg) (-1) = ga15 from hga15.symm]
  have F15 : tFil (zn h9) 15 (znew h9 21 16 16) ga15 := by
    subst hga15
    exact F14.s
  clear hga15 F14
  refine zj_dup hG d_MD_init_160 (by first | exact zc_A _ | rfl) ?_
  refine zj_bipush (v := 15) hG d_MD_init_161 rfl ?_
  refine zj_iconst (v := -1) hG d_MD_init_163 rfl ?_
  refine zj_iast hG d_MD_init_164 (by rw [F15.2.2.1]; exact zw_s) (by rw [F15.2.2.2.1]; show vp_in _ (zw (zl h9) (zn h9) 16 (zn h9)); rw [zw_s]; exact vp_in_nI (n := 15) (by omega) (by omega)) ?_
  obtain ⟨ga16, hga16⟩ : ∃ z, z = zsi ga15 (zn h9) 15 (-1) := ⟨_, rfl⟩
  rw [show zsi ga15 (zn h9) ((15 : Int32).toNatClampNeg) (-1) = ga16 from hga16.symm]
  have F16 : tFil (zn h9) 16 (znew h9 21 16 16) ga16 := by
    subst hga16
    exact F15.s
  clear hga16 F15
  refine zj_putA hG d_MD_init_165 f_MD_41 (by rw [F16.2.2.1]; show zw (zt h9) (zn h9) 21 q = 15; rw [zw_n (by have := I9.1; omega)]; exact I9.2.2.1) rfl (Or.inr ⟨rfl, rfl⟩) ?_
  obtain ⟨h10, hh10⟩ : ∃ z, z = zsa ga16 q 14 (zn h9) := ⟨_, rfl⟩
  rw [← hh10]
  have I10 : tIn q 10 1931 h h10 := by
    subst hh10
    obtain ⟨y1, y2, y3, y4, y5, y6, y7, y8⟩ := F16
    exact tIn.s (j := 14) I9 rfl (by decide) rfl y1 y2 y3 y4 (by show zu (za ga16) q 14 (zn h9) = _; rw [y5]) y6 (fun b hb => (y7 b hb).trans (zw_n hb)) (fun i => by
      rw [show zi (zsa ga16 q 14 (zn h9)) (zn h9) i = zi ga16 (zn h9) i from rfl, y8 i]
      by_cases e : i < 16
      · rw [if_pos e, if_pos ⟨rfl, e⟩]
      · rw [if_neg e, if_neg (fun g => e g.2)]
        exact congrFun zw_s i)
  clear F16
  clear hh10 I9
  refine zj_aload_n hG d_MD_init_168 rfl rfl ?_
  refine zj_sipush (v := 2688) hG d_MD_init_169 rfl ?_
  refine zj_newI (N := 2688) hG d_MD_init_172 (by decide) rfl (by decide) (by have := I10.1; omega) (by have := I10.2.1; omega) ?_
  refine zj_putA hG d_MD_init_174 f_MD_44 (by show zw (zt h10) (zn h10) 21 q = 15; rw [zw_n (by have := I10.1; omega)]; exact I10.2.2.1) rfl (Or.inr ⟨rfl, rfl⟩) ?_
  obtain ⟨h11, hh11⟩ : ∃ z, z = zsa (znew h10 21 2688 2688) q 15 (zn h10) := ⟨_, rfl⟩
  rw [← hh11]
  have I11 : tIn q 11 4619 h h11 := by
    subst hh11
    exact tIn.s (j := 15) I10 rfl (by decide) rfl rfl rfl rfl rfl rfl rfl (fun b hb => zw_n hb) (fun i => by rw [if_neg (fun g => absurd g.1 (by decide))]; exact congrFun zw_s i)
  clear hh11 I10
  refine zj_aload_n hG d_MD_init_177 rfl rfl ?_
  refine zj_sipush (v := 2048) hG d_MD_init_178 rfl ?_
  refine zj_newI (N := 2048) hG d_MD_init_181 (by decide) rfl (by decide) (by have := I11.1; omega) (by have := I11.2.1; omega) ?_
  refine zj_putA hG d_MD_init_183 f_MD_47 (by show zw (zt h11) (zn h11) 21 q = 15; rw [zw_n (by have := I11.1; omega)]; exact I11.2.2.1) rfl (Or.inr ⟨rfl, rfl⟩) ?_
  obtain ⟨h12, hh12⟩ : ∃ z, z = zsa (znew h11 21 2048 2048) q 16 (zn h11) := ⟨_, rfl⟩
  rw [← hh12]
  have I12 : tIn q 12 6667 h h12 := by
    subst hh12
    exact tIn.s (j := 16) I11 rfl (by decide) rfl rfl rfl rfl rfl rfl rfl (fun b hb => zw_n hb) (fun i => by rw [if_neg (fun g => absurd g.1 (by decide))]; exact congrFun zw_s i)
  clear hh12 I11
  refine zj_aload_n hG d_MD_init_186 rfl rfl ?_
  refine zj_sipush (v := 28672) hG d_MD_init_187 rfl ?_
  refine zj_newI (N := 28672) hG d_MD_init_190 (by decide) rfl (by decide) (by have := I12.1; omega) (by have := I12.2.1; omega) ?_
  refine zj_putA hG d_MD_init_192 f_MD_50 (by show zw (zt h12) (zn h12) 21 q = 15; rw [zw_n (by have := I12.1; omega)]; exact I12.2.2.1) rfl (Or.inr ⟨rfl, rfl⟩) ?_
  obtain ⟨h13, hh13⟩ : ∃ z, z = zsa (znew h12 21 28672 28672) q 17 (zn h12) := ⟨_, rfl⟩
  rw [← hh13]
  have I13 : tIn q 13 35339 h h13 := by
    subst hh13
    exact tIn.s (j := 17) I12 rfl (by decide) rfl rfl rfl rfl rfl rfl rfl (fun b hb => zw_n hb) (fun i => by rw [if_neg (fun g => absurd g.1 (by decide))]; exact congrFun zw_s i)
  clear hh13 I12
  refine zj_aload_n hG d_MD_init_195 rfl rfl ?_
  refine zj_bipush (v := 26) hG d_MD_init_196 rfl ?_
  refine zj_newI (N := 26) hG d_MD_init_198 (by decide) rfl (by decide) (by have := I13.1; omega) (by have := I13.2.1; omega) ?_
  refine zj_putA hG d_MD_init_200 f_MD_53 (by show zw (zt h13) (zn h13) 21 q = 15; rw [zw_n (by have := I13.1; omega)]; exact I13.2.2.1) rfl (Or.inr ⟨rfl, rfl⟩) ?_
  obtain ⟨h14, hh14⟩ : ∃ z, z = zsa (znew h13 21 26 26) q 19 (zn h13) := ⟨_, rfl⟩
  rw [← hh14]
  have I14 : tIn q 14 35365 h h14 := by
    subst hh14
    exact tIn.s (j := 19) I13 rfl (by decide) rfl rfl rfl rfl rfl rfl rfl (fun b hb => zw_n hb) (fun i => by rw [if_neg (fun g => absurd g.1 (by decide))]; exact congrFun zw_s i)
  clear hh14 I13
  refine zj_aload_n hG d_MD_init_203 rfl rfl ?_
  refine zj_bipush (v := 26) hG d_MD_init_204 rfl ?_
  refine zj_newI (N := 26) hG d_MD_init_206 (by decide) rfl (by decide) (by have := I14.1; omega) (by have := I14.2.1; omega) ?_
  refine zj_putA hG d_MD_init_208 f_MD_56 (by show zw (zt h14) (zn h14) 21 q = 15; rw [zw_n (by have := I14.1; omega)]; exact I14.2.2.1) rfl (Or.inr ⟨rfl, rfl⟩) ?_
  obtain ⟨h15, hh15⟩ : ∃ z, z = zsa (znew h14 21 26 26) q 20 (zn h14) := ⟨_, rfl⟩
  rw [← hh15]
  have I15 : tIn q 15 35391 h h15 := by
    subst hh15
    exact tIn.s (j := 20) I14 rfl (by decide) rfl rfl rfl rfl rfl rfl rfl (fun b hb => zw_n hb) (fun i => by rw [if_neg (fun g => absurd g.1 (by decide))]; exact congrFun zw_s i)
  clear hh15 I14
  refine zj_aload_n hG d_MD_init_211 rfl rfl ?_
  refine zj_bipush (v := 26) hG d_MD_init_212 rfl ?_
  refine zj_newI (N := 26) hG d_MD_init_214 (by decide) rfl (by decide) (by have := I15.1; omega) (by have := I15.2.1; omega) ?_
  refine zj_putA hG d_MD_init_216 f_MD_59 (by show zw (zt h15) (zn h15) 21 q = 15; rw [zw_n (by have := I15.1; omega)]; exact I15.2.2.1) rfl (Or.inr ⟨rfl, rfl⟩) ?_
  obtain ⟨h16, hh16⟩ : ∃ z, z = zsa (znew h15 21 26 26) q 21 (zn h15) := ⟨_, rfl⟩
  rw [← hh16]
  have I16 : tIn q 16 35417 h h16 := by
    subst hh16
    exact tIn.s (j := 21) I15 rfl (by decide) rfl rfl rfl rfl rfl rfl rfl (fun b hb => zw_n hb) (fun i => by rw [if_neg (fun g => absurd g.1 (by decide))]; exact congrFun zw_s i)
  clear hh16 I15
  refine zj_aload_n hG d_MD_init_219 rfl rfl ?_
  refine zj_bipush (v := 26) hG d_MD_init_220 rfl ?_
  refine zj_newI (N := 26) hG d_MD_init_222 (by decide) rfl (by decide) (by have := I16.1; omega) (by have := I16.2.1; omega) ?_
  refine zj_putA hG d_MD_init_224 f_MD_62 (by show zw (zt h16) (zn h16) 21 q = 15; rw [zw_n (by have := I16.1; omega)]; exact I16.2.2.1) rfl (Or.inr ⟨rfl, rfl⟩) ?_
  obtain ⟨h17, hh17⟩ : ∃ z, z = zsa (znew h16 21 26 26) q 22 (zn h16) := ⟨_, rfl⟩
  rw [← hh17]
  have I17 : tIn q 17 35443 h h17 := by
    subst hh17
    exact tIn.s (j := 22) I16 rfl (by decide) rfl rfl rfl rfl rfl rfl rfl (fun b hb => zw_n hb) (fun i => by rw [if_neg (fun g => absurd g.1 (by decide))]; exact congrFun zw_s i)
  clear hh17 I16
  refine zj_aload_n hG d_MD_init_227 rfl rfl ?_
  refine zj_sipush (v := 182) hG d_MD_init_228 rfl ?_
  refine zj_newI (N := 182) hG d_MD_init_231 (by decide) rfl (by decide) (by have := I17.1; omega) (by have := I17.2.1; omega) ?_
  refine zj_putA hG d_MD_init_233 f_MD_65 (by show zw (zt h17) (zn h17) 21 q = 15; rw [zw_n (by have := I17.1; omega)]; exact I17.2.2.1) rfl (Or.inr ⟨rfl, rfl⟩) ?_
  obtain ⟨h18, hh18⟩ : ∃ z, z = zsa (znew h17 21 182 182) q 23 (zn h17) := ⟨_, rfl⟩
  rw [← hh18]
  have I18 : tIn q 18 35625 h h18 := by
    subst hh18
    exact tIn.s (j := 23) I17 rfl (by decide) rfl rfl rfl rfl rfl rfl rfl (fun b hb => zw_n hb) (fun i => by rw [if_neg (fun g => absurd g.1 (by decide))]; exact congrFun zw_s i)
  clear hh18 I17
  refine zj_aload_n hG d_MD_init_236 rfl rfl ?_
  refine zj_bipush (v := 26) hG d_MD_init_237 rfl ?_
  refine zj_newI (N := 26) hG d_MD_init_239 (by decide) rfl (by decide) (by have := I18.1; omega) (by have := I18.2.1; omega) ?_
  refine zj_putA hG d_MD_init_241 f_MD_68 (by show zw (zt h18) (zn h18) 21 q = 15; rw [zw_n (by have := I18.1; omega)]; exact I18.2.2.1) rfl (Or.inr ⟨rfl, rfl⟩) ?_
  obtain ⟨h19, hh19⟩ : ∃ z, z = zsa (znew h18 21 26 26) q 24 (zn h18) := ⟨_, rfl⟩
  rw [← hh19]
  have I19 : tIn q 19 35651 h h19 := by
    subst hh19
    exact tIn.s (j := 24) I18 rfl (by decide) rfl rfl rfl rfl rfl rfl rfl (fun b hb => zw_n hb) (fun i => by rw [if_neg (fun g => absurd g.1 (by decide))]; exact congrFun zw_s i)
  clear hh19 I18
  refine zj_aload_n hG d_MD_init_244 rfl rfl ?_
  refine zj_sipush (v := 128) hG d_MD_init_245 rfl ?_
  refine zj_newI (N := 128) hG d_MD_init_248 (by decide) rfl (by decide) (by have := I19.1; omega) (by have := I19.2.1; omega) ?_
  refine zj_putA hG d_MD_init_250 f_MD_71 (by show zw (zt h19) (zn h19) 21 q = 15; rw [zw_n (by have := I19.1; omega)]; exact I19.2.2.1) rfl (Or.inr ⟨rfl, rfl⟩) ?_
  obtain ⟨h20, hh20⟩ : ∃ z, z = zsa (znew h19 21 128 128) q 25 (zn h19) := ⟨_, rfl⟩
  rw [← hh20]
  have I20 : tIn q 20 35779 h h20 := by
    subst hh20
    exact tIn.s (j := 25) I19 rfl (by decide) rfl rfl rfl rfl rfl rfl rfl (fun b hb => zw_n hb) (fun i => by rw [if_neg (fun g => absurd g.1 (by decide))]; exact congrFun zw_s i)
  clear hh20 I19
  refine zj_aload_n hG d_MD_init_253 rfl rfl ?_
  refine zj_sipush (v := 1792) hG d_MD_init_254 rfl ?_
  refine zj_newI (N := 1792) hG d_MD_init_257 (by decide) rfl (by decide) (by have := I20.1; omega) (by have := I20.2.1; omega) ?_
  refine zj_putA hG d_MD_init_259 f_MD_74 (by show zw (zt h20) (zn h20) 21 q = 15; rw [zw_n (by have := I20.1; omega)]; exact I20.2.2.1) rfl (Or.inr ⟨rfl, rfl⟩) ?_
  obtain ⟨h21, hh21⟩ : ∃ z, z = zsa (znew h20 21 1792 1792) q 26 (zn h20) := ⟨_, rfl⟩
  rw [← hh21]
  have I21 : tIn q 21 37571 h h21 := by
    subst hh21
    exact tIn.s (j := 26) I20 rfl (by decide) rfl rfl rfl rfl rfl rfl rfl (fun b hb => zw_n hb) (fun i => by rw [if_neg (fun g => absurd g.1 (by decide))]; exact congrFun zw_s i)
  clear hh21 I20
  refine zj_aload_n hG d_MD_init_262 rfl rfl ?_
  refine zj_sipush (v := 1024) hG d_MD_init_263 rfl ?_
  refine zj_newI (N := 1024) hG d_MD_init_266 (by decide) rfl (by decide) (by have := I21.1; omega) (by have := I21.2.1; omega) ?_
  refine zj_putA hG d_MD_init_268 f_MD_77 (by show zw (zt h21) (zn h21) 21 q = 15; rw [zw_n (by have := I21.1; omega)]; exact I21.2.2.1) rfl (Or.inr ⟨rfl, rfl⟩) ?_
  obtain ⟨h22, hh22⟩ : ∃ z, z = zsa (znew h21 21 1024 1024) q 30 (zn h21) := ⟨_, rfl⟩
  rw [← hh22]
  have I22 : tIn q 22 38595 h h22 := by
    subst hh22
    exact tIn.s (j := 30) I21 rfl (by decide) rfl rfl rfl rfl rfl rfl rfl (fun b hb => zw_n hb) (fun i => by rw [if_neg (fun g => absurd g.1 (by decide))]; exact congrFun zw_s i)
  clear hh22 I21
  refine zj_aload_n hG d_MD_init_271 rfl rfl ?_
  refine zj_sipush (v := 5120) hG d_MD_init_272 rfl ?_
  refine zj_newI (N := 5120) hG d_MD_init_275 (by decide) rfl (by decide) (by have := I22.1; omega) (by have := I22.2.1; omega) ?_
  refine zj_putA hG d_MD_init_277 f_MD_80 (by show zw (zt h22) (zn h22) 21 q = 15; rw [zw_n (by have := I22.1; omega)]; exact I22.2.2.1) rfl (Or.inr ⟨rfl, rfl⟩) ?_
  obtain ⟨h23, hh23⟩ : ∃ z, z = zsa (znew h22 21 5120 5120) q 31 (zn h22) := ⟨_, rfl⟩
  rw [← hh23]
  have I23 : tIn q 23 43715 h h23 := by
    subst hh23
    exact tIn.s (j := 31) I22 rfl (by decide) rfl rfl rfl rfl rfl rfl rfl (fun b hb => zw_n hb) (fun i => by rw [if_neg (fun g => absurd g.1 (by decide))]; exact congrFun zw_s i)
  clear hh23 I22
  refine zj_aload_n hG d_MD_init_280 rfl rfl ?_
  refine zj_bipush (v := 24) hG d_MD_init_281 rfl ?_
  refine zj_newI (N := 24) hG d_MD_init_283 (by decide) rfl (by decide) (by have := I23.1; omega) (by have := I23.2.1; omega) ?_
  refine zj_putA hG d_MD_init_285 f_MD_83 (by show zw (zt h23) (zn h23) 21 q = 15; rw [zw_n (by have := I23.1; omega)]; exact I23.2.2.1) rfl (Or.inr ⟨rfl, rfl⟩) ?_
  obtain ⟨h24, hh24⟩ : ∃ z, z = zsa (znew h23 21 24 24) q 32 (zn h23) := ⟨_, rfl⟩
  rw [← hh24]
  have I24 : tIn q 24 43739 h h24 := by
    subst hh24
    exact tIn.s (j := 32) I23 rfl (by decide) rfl rfl rfl rfl rfl rfl rfl (fun b hb => zw_n hb) (fun i => by rw [if_neg (fun g => absurd g.1 (by decide))]; exact congrFun zw_s i)
  clear hh24 I23
  refine zj_aload_n hG d_MD_init_288 rfl rfl ?_
  refine zj_bipush (v := 9) hG d_MD_init_289 rfl ?_
  refine zj_newI (N := 9) hG d_MD_init_291 (by decide) rfl (by decide) (by have := I24.1; omega) (by have := I24.2.1; omega) ?_
  refine zj_putA hG d_MD_init_293 f_MD_86 (by show zw (zt h24) (zn h24) 21 q = 15; rw [zw_n (by have := I24.1; omega)]; exact I24.2.2.1) rfl (Or.inr ⟨rfl, rfl⟩) ?_
  obtain ⟨h25, hh25⟩ : ∃ z, z = zsa (znew h24 21 9 9) q 34 (zn h24) := ⟨_, rfl⟩
  rw [← hh25]
  have I25 : tIn q 25 43748 h h25 := by
    subst hh25
    exact tIn.s (j := 34) I24 rfl (by decide) rfl rfl rfl rfl rfl rfl rfl (fun b hb => zw_n hb) (fun i => by rw [if_neg (fun g => absurd g.1 (by decide))]; exact congrFun zw_s i)
  clear hh25 I24
  refine zj_aload_n hG d_MD_init_296 rfl rfl ?_
  refine zj_bipush (v := 9) hG d_MD_init_297 rfl ?_
  refine zj_newI (N := 9) hG d_MD_init_299 (by decide) rfl (by decide) (by have := I25.1; omega) (by have := I25.2.1; omega) ?_
  refine zj_putA hG d_MD_init_301 f_MD_89 (by show zw (zt h25) (zn h25) 21 q = 15; rw [zw_n (by have := I25.1; omega)]; exact I25.2.2.1) rfl (Or.inr ⟨rfl, rfl⟩) ?_
  obtain ⟨h26, hh26⟩ : ∃ z, z = zsa (znew h25 21 9 9) q 35 (zn h25) := ⟨_, rfl⟩
  rw [← hh26]
  have I26 : tIn q 26 43757 h h26 := by
    subst hh26
    exact tIn.s (j := 35) I25 rfl (by decide) rfl rfl rfl rfl rfl rfl rfl (fun b hb => zw_n hb) (fun i => by rw [if_neg (fun g => absurd g.1 (by decide))]; exact congrFun zw_s i)
  clear hh26 I25
  refine zj_aload_n hG d_MD_init_304 rfl rfl ?_
  refine zj_bipush (v := 8) hG d_MD_init_305 rfl ?_
  refine zj_newI (N := 8) hG d_MD_init_307 (by decide) rfl (by decide) (by have := I26.1; omega) (by have := I26.2.1; omega) ?_
  refine zj_putA hG d_MD_init_309 f_MD_92 (by show zw (zt h26) (zn h26) 21 q = 15; rw [zw_n (by have := I26.1; omega)]; exact I26.2.2.1) rfl (Or.inr ⟨rfl, rfl⟩) ?_
  obtain ⟨h27, hh27⟩ : ∃ z, z = zsa (znew h26 21 8 8) q 36 (zn h26) := ⟨_, rfl⟩
  rw [← hh27]
  have I27 : tIn q 27 43765 h h27 := by
    subst hh27
    exact tIn.s (j := 36) I26 rfl (by decide) rfl rfl rfl rfl rfl rfl rfl (fun b hb => zw_n hb) (fun i => by rw [if_neg (fun g => absurd g.1 (by decide))]; exact congrFun zw_s i)
  clear hh27 I26
  refine zj_aload_n hG d_MD_init_312 rfl rfl ?_
  refine zj_bipush (v := 7) hG d_MD_init_313 rfl ?_
  refine zj_newI (N := 7) hG d_MD_init_315 (by decide) rfl (by decide) (by have := I27.1; omega) (by have := I27.2.1; omega) ?_
  refine zj_putA hG d_MD_init_317 f_MD_95 (by show zw (zt h27) (zn h27) 21 q = 15; rw [zw_n (by have := I27.1; omega)]; exact I27.2.2.1) rfl (Or.inr ⟨rfl, rfl⟩) ?_
  obtain ⟨h28, hh28⟩ : ∃ z, z = zsa (znew h27 21 7 7) q 37 (zn h27) := ⟨_, rfl⟩
  rw [← hh28]
  have I28 : tIn q 28 43772 h h28 := by
    subst hh28
    exact tIn.s (j := 37) I27 rfl (by decide) rfl rfl rfl rfl rfl rfl rfl (fun b hb => zw_n hb) (fun i => by rw [if_neg (fun g => absurd g.1 (by decide))]; exact congrFun zw_s i)
  clear hh28 I27
  refine zj_aload_n hG d_MD_init_320 rfl rfl ?_
  refine zj_bipush (v := 7) hG d_MD_init_321 rfl ?_
  refine zj_newI (N := 7) hG d_MD_init_323 (by decide) rfl (by decide) (by have := I28.1; omega) (by have := I28.2.1; omega) ?_
  refine zj_putA hG d_MD_init_325 f_MD_98 (by show zw (zt h28) (zn h28) 21 q = 15; rw [zw_n (by have := I28.1; omega)]; exact I28.2.2.1) rfl (Or.inr ⟨rfl, rfl⟩) ?_
  obtain ⟨h29, hh29⟩ : ∃ z, z = zsa (znew h28 21 7 7) q 38 (zn h28) := ⟨_, rfl⟩
  rw [← hh29]
  have I29 : tIn q 29 43779 h h29 := by
    subst hh29
    exact tIn.s (j := 38) I28 rfl (by decide) rfl rfl rfl rfl rfl rfl rfl (fun b hb => zw_n hb) (fun i => by rw [if_neg (fun g => absurd g.1 (by decide))]; exact congrFun zw_s i)
  clear hh29 I28
  exact zj_vret hG d_MD_init_328 rfl ⟨rfl, I29⟩
end MD34
