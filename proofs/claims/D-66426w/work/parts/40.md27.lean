/-! PART 40: the reference: routes turned; the route as a whole -/
theorem nI_half {n : Nat} (h : n < 2 ^ 31) : nI n / 2 = nI (n / 2) := pk_div (d := 2) h (by omega) (by omega)
theorem nI_sub2 {n : Nat} (h : 2 ≤ n) : nI n - 2 = nI (n - 2) := pk_sub (b := 2) h
theorem nI_sub1 {n : Nat} (h : 1 ≤ n) : nI n - 1 = nI (n - 1) := pk_sub (b := 1) h
section MD27
variable {G : zG} {q : Nat} {h : zH} {N : Nat → Nat → Int32} {W : sW}
set_option maxRecDepth 4000 in
theorem k_MD_turn1 (hG : zOK G) (hT : twOK q h) {n : Nat} (hn1 : 1 ≤ n) (hn : n ≤ 9) (h33 : N 0 33 = nI n) {Q : zO → zH → Prop} (nx : ∀ (M : Nat → Nat → Int32) (x y : Option zV), (∀ o i, o ≠ 25 → M o i = N o i) → (∀ i, i < n → M 25 i = N 25 (n - 1 - i)) → zJ G 0 m_MD_turnRoute 58 [some (zA q), x, y] [] (twp q h M) Q) :
    ∀ (r k : Nat) (M : Nat → Nat → Int32) (y : Option zV), k + r = n / 2 → (∀ o i, o ≠ 25 → M o i = N o i) → (∀ i, i < n → M 25 i = if i < k ∨ n ≤ i + k then N 25 (n - 1 - i) else N 25 i) → zJ G 0 m_MD_turnRoute 2 [some (zA q), some (zI (nI k)), y] [] (twp q h M) Q := by
  intro r
  induction r with
  | zero =>
    intro k M y hk f hM
    have : k = n / 2 := by omega
    subst this
    refine zj_iload_n hG d_MD_turnRoute_2 rfl rfl ?_
    refine zj_aload_n hG d_MD_turnRoute_3 rfl rfl ?_
    refine t_getI hG hT d_MD_turnRoute_4 f_MD_299 rfl ?_
    refine zj_iconst (v := 2) hG d_MD_turnRoute_7 rfl ?_
    rw [f 0 33 (by omega), h33]
    refine zj_idiv hG d_MD_turnRoute_8 (by decide) ?_
    rw [nI_half (by omega)]
    refine zj_icmp_ge (tgt := 58) hG d_MD_turnRoute_9 (by decide) (fun _ => ?_) (fun c => absurd (nI_le (by omega) (by omega)) c)
    refine nx M _ _ f (fun i hi => ?_)
    rw [hM i hi]
    split
    · rfl
    · congr 1
      omega
  | succ r ih =>
    intro k M y hk f hM
    have h33' : M 0 33 = nI n := (f 0 33 (by omega)).trans h33
    have ea : nI n - 1 - nI k = nI (n - 1 - k) := by rw [nI_sub1 hn1, pk_sub (by omega)]
    have r1 : M 25 k = N 25 k := by rw [hM k (by omega), if_neg (by omega)]
    have r2 : M 25 (n - 1 - k) = N 25 (n - 1 - k) := by rw [hM _ (by omega), if_neg (by omega)]
    refine zj_iload_n hG d_MD_turnRoute_2 rfl rfl ?_
    refine zj_aload_n hG d_MD_turnRoute_3 rfl rfl ?_
    refine t_getI hG hT d_MD_turnRoute_4 f_MD_299 rfl ?_
    refine zj_iconst (v := 2) hG d_MD_turnRoute_7 rfl ?_
    rw [h33']
    refine zj_idiv hG d_MD_turnRoute_8 (by decide) ?_
    rw [nI_half (by omega)]
    refine zj_icmp_ge (tgt := 58) hG d_MD_turnRoute_9 (by decide) (fun c => absurd c (nI_ge (a := k) (b := n / 2) (by omega) (by omega))) (fun _ => ?_)
    refine zj_aload_n hG d_MD_turnRoute_12 rfl rfl ?_
    refine t_getA (o := 25) hG hT d_MD_turnRoute_13 f_MD_86 rfl rfl ?_
    refine zj_iload_n hG d_MD_turnRoute_16 rfl rfl ?_
    refine t_ald (k) hG hT d_MD_turnRoute_17 (by first | decide | omega) (by first | decide | omega) rfl (by show _ < 9; omega) ?_
    rw [r1]
    refine zj_istore_n hG d_MD_turnRoute_18 rfl (by decide) rfl rfl ?_
    refine zj_aload_n hG d_MD_turnRoute_19 rfl rfl ?_
    refine t_getA (o := 25) hG hT d_MD_turnRoute_20 f_MD_86 rfl rfl ?_
    refine zj_iload_n hG d_MD_turnRoute_23 rfl rfl ?_
    refine zj_aload_n hG d_MD_turnRoute_24 rfl rfl ?_
    refine t_getA (o := 25) hG hT d_MD_turnRoute_25 f_MD_86 rfl rfl ?_
    refine zj_aload_n hG d_MD_turnRoute_28 rfl rfl ?_
    refine t_getI hG hT d_MD_turnRoute_29 f_MD_299 rfl ?_
    refine zj_iconst (v := 1) hG d_MD_turnRoute_32 rfl ?_
    refine zj_isub hG d_MD_turnRoute_33 ?_
    refine zj_iload_n hG d_MD_turnRoute_34 rfl rfl ?_
    refine zj_isub hG d_MD_turnRoute_35 ?_
    refine t_ald (n - 1 - k) hG hT d_MD_turnRoute_36 (by first | decide | omega) (by first | decide | omega) (by rw [h33']; exact ea) (by show _ < 9; omega) ?_
    refine t_ast (k) hG hT d_MD_turnRoute_37 (by first | decide | omega) (by first | decide | omega) rfl (by show _ < 9; omega) ?_
    refine zj_aload_n hG d_MD_turnRoute_38 rfl rfl ?_
    refine t_getA (o := 25) hG hT d_MD_turnRoute_39 f_MD_86 rfl rfl ?_
    refine zj_aload_n hG d_MD_turnRoute_42 rfl rfl ?_
    refine t_getI hG hT d_MD_turnRoute_43 f_MD_299 rfl ?_
    refine zj_iconst (v := 1) hG d_MD_turnRoute_46 rfl ?_
    refine zj_isub hG d_MD_turnRoute_47 ?_
    refine zj_iload_n hG d_MD_turnRoute_48 rfl rfl ?_
    refine zj_isub hG d_MD_turnRoute_49 ?_
    refine zj_iload_n hG d_MD_turnRoute_50 rfl rfl ?_
    refine t_ast (n - 1 - k) hG hT d_MD_turnRoute_51 (by first | decide | omega) (by first | decide | omega) (by rw [zu_a (by omega), h33']; exact ea) (by show _ < 9; omega) ?_
    refine zj_iinc hG d_MD_turnRoute_52 rfl (nI_1 k) (by decide) rfl rfl ?_
    refine zj_goto (tgt := 2) hG d_MD_turnRoute_55 (by decide) ?_
    rw [r2]
    refine ih (k + 1) _ _ (by omega) (fun o i e => by rw [zu_a e, zu_a e]; exact f o i e) (fun i hi => ?_)
    by_cases e1 : i = n - 1 - k
    · subst e1
      rw [zu_s, if_pos (by omega)]
      congr 1
      omega
    · rw [zu_k e1]
      by_cases e2 : i = k
      · subst e2
        rw [zu_s, if_pos (by omega)]
      · rw [zu_k e2, hM i hi]
        by_cases e3 : i < k ∨ n ≤ i + k
        · rw [if_pos e3, if_pos (by omega)]
        · rw [if_neg e3, if_neg (by omega)]
set_option maxRecDepth 4000 in
theorem k_MD_turn2 (hG : zOK G) (hT : twOK q h) {n : Nat} (hn : n ≤ 8) (h33 : N 0 33 = nI (n + 1)) {Q : zO → zH → Prop} (nx : ∀ (M : Nat → Nat → Int32), (∀ o i, o ≠ 26 → M o i = N o i) → (∀ i, i < n → M 26 i = N 26 (n - 1 - i)) → Q zR0 (twp q h M)) :
    ∀ (r k : Nat) (M : Nat → Nat → Int32) (y : Option zV), k + r = n / 2 → (∀ o i, o ≠ 26 → M o i = N o i) → (∀ i, i < n → M 26 i = if i < k ∨ n ≤ i + k then N 26 (n - 1 - i) else N 26 i) → zJ G 0 m_MD_turnRoute 60 [some (zA q), some (zI (nI k)), y] [] (twp q h M) Q := by
  intro r
  induction r with
  | zero =>
    intro k M y hk f hM
    have : k = n / 2 := by omega
    subst this
    refine zj_iload_n hG d_MD_turnRoute_60 rfl rfl ?_
    refine zj_aload_n hG d_MD_turnRoute_61 rfl rfl ?_
    refine t_getI hG hT d_MD_turnRoute_62 f_MD_299 rfl ?_
    refine zj_iconst (v := 1) hG d_MD_turnRoute_65 rfl ?_
    refine zj_isub hG d_MD_turnRoute_66 ?_
    refine zj_iconst (v := 2) hG d_MD_turnRoute_67 rfl ?_
    rw [f 0 33 (by omega), h33, nI_pred]
    refine zj_idiv hG d_MD_turnRoute_68 (by decide) ?_
    rw [nI_half (by omega)]
    refine zj_icmp_ge (tgt := 118) hG d_MD_turnRoute_69 (by decide) (fun _ => ?_) (fun c => absurd (nI_le (by omega) (by omega)) c)
    refine zj_vret hG d_MD_turnRoute_118 rfl (nx M f (fun i hi => ?_))
    rw [hM i hi]
    split
    · rfl
    · congr 1
      omega
  | succ r ih =>
    intro k M y hk f hM
    have h33' : M 0 33 = nI (n + 1) := (f 0 33 (by omega)).trans h33
    have ea : nI (n + 1) - 2 - nI k = nI (n - 1 - k) := by
      rw [nI_sub2 (by omega), pk_sub (by omega)]
      rfl
    have r1 : M 26 k = N 26 k := by rw [hM k (by omega), if_neg (by omega)]
    have r2 : M 26 (n - 1 - k) = N 26 (n - 1 - k) := by rw [hM _ (by omega), if_neg (by omega)]
    refine zj_iload_n hG d_MD_turnRoute_60 rfl rfl ?_
    refine zj_aload_n hG d_MD_turnRoute_61 rfl rfl ?_
    refine t_getI hG hT d_MD_turnRoute_62 f_MD_299 rfl ?_
    refine zj_iconst (v := 1) hG d_MD_turnRoute_65 rfl ?_
    refine zj_isub hG d_MD_turnRoute_66 ?_
    refine zj_iconst (v := 2) hG d_MD_turnRoute_67 rfl ?_
    rw [h33', nI_pred]
    refine zj_idiv hG d_MD_turnRoute_68 (by decide) ?_
    rw [nI_half (by omega)]
    refine zj_icmp_ge (tgt := 118) hG d_MD_turnRoute_69 (by decide) (fun c => absurd c (nI_ge (a := k) (b := n / 2) (by omega) (by omega))) (fun _ => ?_)
    refine zj_aload_n hG d_MD_turnRoute_72 rfl rfl ?_
    refine t_getA (o := 26) hG hT d_MD_turnRoute_73 f_MD_89 rfl rfl ?_
    refine zj_iload_n hG d_MD_turnRoute_76 rfl rfl ?_
    refine t_ald (k) hG hT d_MD_turnRoute_77 (by first | decide | omega) (by first | decide | omega) rfl (by show _ < 9; omega) ?_
    rw [r1]
    refine zj_istore_n hG d_MD_turnRoute_78 rfl (by decide) rfl rfl ?_
    refine zj_aload_n hG d_MD_turnRoute_79 rfl rfl ?_
    refine t_getA (o := 26) hG hT d_MD_turnRoute_80 f_MD_89 rfl rfl ?_
    refine zj_iload_n hG d_MD_turnRoute_83 rfl rfl ?_
    refine zj_aload_n hG d_MD_turnRoute_84 rfl rfl ?_
    refine t_getA (o := 26) hG hT d_MD_turnRoute_85 f_MD_89 rfl rfl ?_
    refine zj_aload_n hG d_MD_turnRoute_88 rfl rfl ?_
    refine t_getI hG hT d_MD_turnRoute_89 f_MD_299 rfl ?_
    refine zj_iconst (v := 2) hG d_MD_turnRoute_92 rfl ?_
    refine zj_isub hG d_MD_turnRoute_93 ?_
    refine zj_iload_n hG d_MD_turnRoute_94 rfl rfl ?_
    refine zj_isub hG d_MD_turnRoute_95 ?_
    refine t_ald (n - 1 - k) hG hT d_MD_turnRoute_96 (by first | decide | omega) (by first | decide | omega) (by rw [h33']; exact ea) (by show _ < 9; omega) ?_
    refine t_ast (k) hG hT d_MD_turnRoute_97 (by first | decide | omega) (by first | decide | omega) rfl (by show _ < 9; omega) ?_
    refine zj_aload_n hG d_MD_turnRoute_98 rfl rfl ?_
    refine t_getA (o := 26) hG hT d_MD_turnRoute_99 f_MD_89 rfl rfl ?_
    refine zj_aload_n hG d_MD_turnRoute_102 rfl rfl ?_
    refine t_getI hG hT d_MD_turnRoute_103 f_MD_299 rfl ?_
    refine zj_iconst (v := 2) hG d_MD_turnRoute_106 rfl ?_
    refine zj_isub hG d_MD_turnRoute_107 ?_
    refine zj_iload_n hG d_MD_turnRoute_108 rfl rfl ?_
    refine zj_isub hG d_MD_turnRoute_109 ?_
    refine zj_iload_n hG d_MD_turnRoute_110 rfl rfl ?_
    refine t_ast (n - 1 - k) hG hT d_MD_turnRoute_111 (by first | decide | omega) (by first | decide | omega) (by rw [zu_a (by omega), h33']; exact ea) (by show _ < 9; omega) ?_
    refine zj_iinc hG d_MD_turnRoute_112 rfl (nI_1 k) (by decide) rfl rfl ?_
    refine zj_goto (tgt := 60) hG d_MD_turnRoute_115 (by decide) ?_
    rw [r2]
    refine ih (k + 1) _ _ (by omega) (fun o i e => by rw [zu_a e, zu_a e]; exact f o i e) (fun i hi => ?_)
    by_cases e1 : i = n - 1 - k
    · subst e1
      rw [zu_s, if_pos (by omega)]
      congr 1
      omega
    · rw [zu_k e1]
      by_cases e2 : i = k
      · subst e2
        rw [zu_s, if_pos (by omega)]
      · rw [zu_k e2, hM i hi]
        by_cases e3 : i < k ∨ n ≤ i + k
        · rw [if_pos e3, if_pos (by omega)]
        · rw [if_neg e3, if_neg (by omega)]
theorem tLs.rev {M N : Nat → Nat → Int32} {o : Nat} {l : List Nat} (h : tLs N o l) (f : ∀ i, i < l.length → M o i = N o (l.length - 1 - i)) : tLs M o l.reverse := by
  intro i x hi
  have hl := (List.getElem?_eq_some_iff.mp hi).1
  rw [List.length_reverse] at hl
  rw [List.getElem?_reverse hl] at hi
  rw [f i hl]
  exact h _ x hi
set_option maxRecDepth 4000 in
theorem k_MD_turnRoute (hG : zOK G) (hT : twOK q h) {L1 L2 : List Nat} (hl : L1.length = L2.length + 1) (h9 : L1.length ≤ 9) (h33 : N 0 33 = nI L1.length) (h25 : tLs N 25 L1) (h26 : tLs N 26 L2) :
    zJ G 0 m_MD_turnRoute 0 [some (zA q), none, none] [] (twp q h N) (fun o h' => ∃ N', o = zR0 ∧ h' = twp q h N' ∧ (tLs N' 25 L1.reverse ∧ tLs N' 26 L2.reverse ∧ N' 0 33 = nI L1.length ∧ tFr pR N N')) := by
  refine zj_iconst (v := 0) hG d_MD_turnRoute_0 rfl ?_
  refine zj_istore_n hG d_MD_turnRoute_1 rfl (by decide) rfl rfl ?_
  refine k_MD_turn1 hG hT (n := L1.length) (by omega) h9 h33 ?_ (L1.length / 2) 0 N _ (by omega) (fun _ _ _ => rfl) (fun i hi => by rw [if_neg (by omega)])
  intro M x y f hM
  refine zj_iconst (v := 0) hG d_MD_turnRoute_58 rfl ?_
  refine zj_istore_n hG d_MD_turnRoute_59 rfl (by decide) rfl rfl ?_
  refine k_MD_turn2 (N := M) hG hT (n := L2.length) (by omega) (by rw [f _ _ (by omega), h33, hl]) ?_ (L2.length / 2) 0 M _ (by omega) (fun _ _ _ => rfl) (fun i hi => by rw [if_neg (by omega)])
  intro M2 f2 hM2
  refine ⟨M2, rfl, rfl, ?_, ?_, ?_, fun o i e => ?_⟩
  · have := h25.rev (M := M2) (fun i hi => by rw [f2 _ _ (by omega)]; exact hM i hi)
    exact this
  · exact tLs.rev (N := M) (fun i x hi => by rw [f _ _ (by omega)]; exact h26 i x hi) hM2
  · rw [f2 _ _ (by omega), f _ _ (by omega), h33]
  · rw [f2 _ _ (by simp [pR] at e; omega), f _ _ (by simp [pR] at e; omega)]
/-- the route between two versions: the versions, the steps -/
def oWay (W : sW) (w : Int32) (x y : Nat) : Option (List Nat × List Nat) :=
  let a := if x < y then x else y
  let b := if x < y then y else x
  let D := tdis W w b
  if D a < 100 then some (if y < x then ((tpv W w D (D a) a).reverse, (tps W w D (D a) a).reverse) else (tpv W w D (D a) a, tps W w D (D a) a)) else none
set_option maxRecDepth 4000 in
theorem k_MD_findRoute (hG : zOK G) (hT : twOK q h) (hW : tW N W) (hS : sSw W) {x y : Nat} (hx : x < (wV W).length) (hy : y < (wV W).length) (w : Int32) (hK : tDK W w (if x < y then y else x) (tdis W w (if x < y then y else x))) :
    zJ G 2 m_MD_findRoute 0 [some (zA q), some (zI (nI x)), some (zI (nI y)), some (zI w), none, none, none, none, none] [] (twp q h N) (fun o h' => ∃ v N', o = zR (zI v) ∧ h' = twp q h N' ∧ (v = tb (oWay W w x y).isSome ∧ tFr pR N N' ∧ ∀ z, oWay W w x y = some z → N' 0 33 = nI z.1.length ∧ tLs N' 25 z.1 ∧ tLs N' 26 z.2)) := by
  have h8 := hW.1.2.2
  have core : ∀ (a b : Nat), a = (if x < y then x else y) → b = (if x < y then y else x) → zJ G 2 m_MD_findRoute 24 [some (zA q), some (zI (nI x)), some (zI (nI y)), some (zI w), some (zI (nI a)), some (zI (nI b)), none, none, none] [] (twp q h N) (fun o h' => ∃ v N', o = zR (zI v) ∧ h' = twp q h N' ∧ (v = tb (oWay W w x y).isSome ∧ tFr pR N N' ∧ ∀ z, oWay W w x y = some z → N' 0 33 = nI z.1.length ∧ tLs N' 25 z.1 ∧ tLs N' 26 z.2)) := by
    intro a b ha hb
    have haV : a < (wV W).length := by rw [ha]; split <;> assumption
    have hbV : b < (wV W).length := by rw [hb]; split <;> assumption
    have hway : oWay W w x y = (if tdis W w b a < 100 then some (if y < x then ((tpv W w (tdis W w b) (tdis W w b a) a).reverse, (tps W w (tdis W w b) (tdis W w b a) a).reverse) else (tpv W w (tdis W w b) (tdis W w b a) a, tps W w (tdis W w b) (tdis W w b a) a)) else none) := by
      rw [oWay]
      simp only [← ha, ← hb]
    rw [hway]
    rw [← hb] at hK
    clear ha hb hway
    have hle0 : ∀ v, tr0 b v ≤ 100 := by
      intro v
      unfold tr0
      split <;> omega
    refine zj_iconst (v := 0) hG d_MD_findRoute_24 rfl ?_
    refine zj_istore hG d_MD_findRoute_25 (by decide) rfl rfl ?_
    refine k_MD_fr0 hG hT hW hbV ?_ (wV W).length 0 N (by omega) tFr.rfl' (fun v hv => by omega)
    intro M1 x1 f1 d1
    refine zj_iconst (v := 0) hG d_MD_findRoute_62 rfl ?_
    refine zj_istore hG d_MD_findRoute_63 (by decide) rfl rfl ?_
    refine k_MD_fr3 hG hT (hW.pr f1) hS (b := b) ?_ (wV W).length 0 M1 _ _ (by omega) tFr.rfl' (by simpa using hle0) (by simpa using d1)
    intro M2 x2 x3 x4 f2 d2
    have f12 := f1.trans f2
    obtain ⟨da, da2⟩ := d2 a haV
    generalize tdis W w b = D at *
    refine zj_aload_n hG d_MD_findRoute_163 rfl rfl ?_
    refine t_getA (o := 27) hG hT d_MD_findRoute_164 f_MD_92 rfl rfl ?_
    refine zj_iload hG d_MD_findRoute_167 rfl ?_
    refine t_ald (a) hG hT d_MD_findRoute_169 (by first | decide | omega) (by first | decide | omega) rfl (by show _ < 8; omega) ?_
    refine zj_bipush (v := 100) hG d_MD_findRoute_170 rfl ?_
    rw [da]
    refine zj_icmp_lt (tgt := 177) hG d_MD_findRoute_172 (by decide) (fun c172 => ?_) (fun c172 => ?_)
    rotate_left
    · have : ¬ D a < 100 := fun e => c172 (nI_lt (b := 100) e (by omega))
      rw [if_neg this]
      refine zj_iconst (v := 0) hG d_MD_findRoute_175 rfl ?_
      exact zj_iret hG d_MD_findRoute_176 rfl rfl ⟨_, M2, rfl, rfl, rfl, f12, fun z hz => by cases hz⟩
    have hD100 : D a < 100 := by
      rcases Nat.lt_or_ge (D a) 100 with g | g
      · exact g
      · exact absurd c172 (nI_nlt (b := 100) g (by omega))
    rw [if_pos hD100]
    have hDn := (hK.2 a haV hD100).1
    refine zj_aload_n hG d_MD_findRoute_177 rfl rfl ?_
    refine zj_iconst (v := 1) hG d_MD_findRoute_178 rfl ?_
    refine t_putI hG hT d_MD_findRoute_179 f_MD_299 rfl rfl ?_
    refine zj_aload_n hG d_MD_findRoute_182 rfl rfl ?_
    refine t_getA (o := 25) hG hT d_MD_findRoute_183 f_MD_86 rfl rfl ?_
    refine zj_iconst (v := 0) hG d_MD_findRoute_186 rfl ?_
    refine zj_iload hG d_MD_findRoute_187 rfl ?_
    refine t_ast (0) hG hT d_MD_findRoute_189 (by first | decide | omega) (by first | decide | omega) rfl (by decide) ?_
    refine k_MD_frW (L1 := tpv W w D (D a) a) (L2 := tps W w D (D a) a) hG hT (hW.pr f12) hS hbV hK ?_ (D a) a [] [] _ _ _ _ haV rfl hD100 (by simp; omega) rfl rfl rfl (tFr.put (tFr.put tFr.rfl' rfl) rfl) ?_ ?_ ?_ ?_
    · intro M3 y1 y2 y3 f3 k33 k25 k26
      have f13 := f12.trans f3
      refine zj_iload_n hG d_MD_findRoute_303 rfl rfl ?_
      refine zj_iload_n hG d_MD_findRoute_304 rfl rfl ?_
      refine zj_icmp_le (tgt := 312) hG d_MD_findRoute_305 (by decide) (fun c305 => ?_) (fun c305 => ?_)
      · have hle : ¬ y < x := fun e => nI_ge (a := y) (b := x) e (by omega) c305
        rw [if_neg hle]
        refine zj_iconst (v := 1) hG d_MD_findRoute_312 rfl ?_
        refine zj_iret hG d_MD_findRoute_313 rfl rfl ⟨_, M3, rfl, rfl, rfl, f13, fun z hz => ?_⟩
        cases hz
        exact ⟨k33, k25, k26⟩
      · have hlt : y < x := by
          rcases Nat.lt_or_ge y x with g | g
          · exact g
          · exact absurd (nI_le g (by omega)) c305
        rw [if_pos hlt]
        have t1 := tpv_len W w D (D a) a
        have t2 := tps_len W w D (D a) a
        refine zj_aload_n hG d_MD_findRoute_308 rfl rfl ?_
        refine zj_callU (y' := m_MD_turnRoute) hG (zcP (as := []) hG d_MD_findRoute_309 c_MD_turnRoute (z_w8 26 rfl) (z_w8 28 rfl) (z_w8 27 rfl) (z_w7 8 rfl) rfl ⟨by decide, by decide⟩ hT.1 (by decide) (by decide) (show _ = some 0 from by decide +kernel) rfl) c_MD_turnRoute rfl (by omega) rfl (z_le rfl) (z_le rfl) (k_MD_turnRoute hG hT (by omega) (by omega) k33 k25 k26) (fun N309 e309 => ?_)
        obtain ⟨m1, m2, m3, m4⟩ := e309
        refine zj_iconst (v := 1) hG d_MD_findRoute_312 rfl ?_
        refine zj_iret hG d_MD_findRoute_313 rfl rfl ⟨_, N309, rfl, rfl, rfl, f13.trans m4, fun z hz => ?_⟩
        cases hz
        exact ⟨by rw [m3]; simp, m1, m2⟩
    · intro v hv
      rw [zu_a (by omega), zu_a (by omega)]
      exact d2 v hv
    · rw [zu_a (by omega), zu_s]
      rfl
    · intro i z hi
      cases i with
      | zero =>
        simp at hi
        subst hi
        exact zu_s
      | succ i => simp at hi
    · intro i z hi
      simp at hi
  refine zj_iload_n hG d_MD_findRoute_0 rfl rfl ?_
  refine zj_iload_n hG d_MD_findRoute_1 rfl rfl ?_
  by_cases hxy : x < y
  · refine zj_icmp_ge (tgt := 9) hG d_MD_findRoute_2 (by decide) (fun c => absurd c (nI_ge hxy (by omega))) (fun _ => ?_)
    refine zj_iload_n hG d_MD_findRoute_5 rfl rfl ?_
    refine zj_goto (tgt := 10) hG d_MD_findRoute_6 (by decide) ?_
    refine zj_istore hG d_MD_findRoute_10 (by decide) rfl rfl ?_
    refine zj_iload_n hG d_MD_findRoute_12 rfl rfl ?_
    refine zj_iload_n hG d_MD_findRoute_13 rfl rfl ?_
    refine zj_icmp_ge (tgt := 21) hG d_MD_findRoute_14 (by decide) (fun c => absurd c (nI_ge hxy (by omega))) (fun _ => ?_)
    refine zj_iload_n hG d_MD_findRoute_17 rfl rfl ?_
    refine zj_goto (tgt := 22) hG d_MD_findRoute_18 (by decide) ?_
    refine zj_istore hG d_MD_findRoute_22 (by decide) rfl rfl ?_
    exact core x y (by rw [if_pos hxy]) (by rw [if_pos hxy])
  · refine zj_icmp_ge (tgt := 9) hG d_MD_findRoute_2 (by decide) (fun _ => ?_) (fun c => absurd (nI_le (by omega) (by omega)) c)
    refine zj_iload_n hG d_MD_findRoute_9 rfl rfl ?_
    refine zj_istore hG d_MD_findRoute_10 (by decide) rfl rfl ?_
    refine zj_iload_n hG d_MD_findRoute_12 rfl rfl ?_
    refine zj_iload_n hG d_MD_findRoute_13 rfl rfl ?_
    refine zj_icmp_ge (tgt := 21) hG d_MD_findRoute_14 (by decide) (fun _ => ?_) (fun c => absurd (nI_le (by omega) (by omega)) c)
    refine zj_iload_n hG d_MD_findRoute_21 rfl rfl ?_
    refine zj_istore hG d_MD_findRoute_22 (by decide) rfl rfl ?_
    exact core y x (by rw [if_neg hxy]) (by rw [if_neg hxy])
def oRoute (W : sW) (x y k : Int32) : Int32 × Int32 := if oVer W x = true ∧ oVer W y = true then (0, match oWay W (-1) x.toNatClampNeg y.toNatClampNeg with
  | none => -1
  | some z => if 0 ≤ k ∧ k < nI z.1.length then nI ((z.1[k.toNatClampNeg]?).getD 0) else -1) else (1, 0)
end MD27
