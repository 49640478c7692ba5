/-! PART 39: the reference: routes found -/
/-- a list of numbers in an array -/
def tLs (M : Nat → Nat → Int32) (o : Nat) (l : List Nat) : Prop := ∀ (i x : Nat), l[i]? = some x → M o i = nI x
theorem tLs.snoc {M : Nat → Nat → Int32} {o : Nat} {l : List Nat} (h : tLs M o l) (x : Nat) : tLs (zu M o l.length (nI x)) o (l ++ [x]) := by
  intro i y hi
  rcases Nat.lt_or_ge i l.length with g | g
  · rw [List.getElem?_append_left g] at hi
    rw [zu_k (by omega)]
    exact h i y hi
  · rw [List.getElem?_append_right g] at hi
    have : i = l.length := by
      have := (List.getElem?_eq_some_iff.mp hi).1
      simp at this
      omega
    subst this
    simp at hi
    subst hi
    exact zu_s
/-- the next version on the way -/
def tnx (W : sW) (w : Int32) (D : Nat → Nat) (u : Nat) : Nat := ((List.range (wV W).length).map (fun v => oAdj W w u v && decide (D v + 1 = D u))).findIdx (fun b => b)
def tpv (W : sW) (w : Int32) (D : Nat → Nat) : Nat → Nat → List Nat
  | 0, u => [u]
  | r + 1, u => u :: tpv W w D r (tnx W w D u)
def tps (W : sW) (w : Int32) (D : Nat → Nat) : Nat → Nat → List Nat
  | 0, _ => []
  | r + 1, u => ((oBtw (wS W) u (tnx W w D u) w).getD 0) :: tps W w D r (tnx W w D u)
theorem tpv_len (W : sW) (w : Int32) (D : Nat → Nat) : ∀ (r u : Nat), (tpv W w D r u).length = r + 1 := by
  intro r
  induction r with
  | zero => intro u; rfl
  | succ r ih => intro u; simp [tpv, ih]
theorem tps_len (W : sW) (w : Int32) (D : Nat → Nat) : ∀ (r u : Nat), (tps W w D r u).length = r := by
  intro r
  induction r with
  | zero => intro u; rfl
  | succ r ih => intro u; simp [tps, ih]
/-- distances are as they must be -/
def tDK (W : sW) (w : Int32) (b : Nat) (D : Nat → Nat) : Prop := D b = 0 ∧ ∀ u, u < (wV W).length → D u < 100 → D u < (wV W).length ∧ (u ≠ b → ∃ v, v < (wV W).length ∧ oAdj W w u v = true ∧ D v + 1 = D u)
theorem tnx_ok {W : sW} {w : Int32} {D : Nat → Nat} {u : Nat} (h : ∃ v, v < (wV W).length ∧ oAdj W w u v = true ∧ D v + 1 = D u) : tnx W w D u < (wV W).length ∧ oAdj W w u (tnx W w D u) = true ∧ D (tnx W w D u) + 1 = D u ∧ ∀ v, v < tnx W w D u → ¬ (oAdj W w u v = true ∧ D v + 1 = D u) := by
  obtain ⟨v, h1, h2, h3⟩ := h
  have hlt : tnx W w D u < ((List.range (wV W).length).map (fun v => oAdj W w u v && decide (D v + 1 = D u))).length := by
    unfold tnx
    rw [List.findIdx_lt_length]
    refine ⟨true, ?_, rfl⟩
    rw [List.mem_map]
    exact ⟨v, List.mem_range.mpr h1, by simp [h2, h3]⟩
  have hg : (((List.range (wV W).length).map (fun v => oAdj W w u v && decide (D v + 1 = D u)))[tnx W w D u]'hlt) = true := List.findIdx_getElem (w := hlt)
  have hlt' : tnx W w D u < (wV W).length := by simpa using hlt
  simp only [List.getElem_map, List.getElem_range, Bool.and_eq_true, decide_eq_true_eq] at hg
  refine ⟨hlt', hg.1, hg.2, fun v' hv' g => ?_⟩
  have := List.not_of_lt_findIdx hv'
  simp [g.1, g.2] at this
section MD26
variable {G : zG} {q : Nat} {h : zH} {N : Nat → Nat → Int32} {W : sW}
theorem tr2_le {w : Int32} {u n : Nat} {D : Nat → Nat} (h : ∀ v, D v ≤ 100) : ∀ x, tr2 W w n D u x ≤ 100 := by
  unfold tr2
  induction n with
  | zero => simpa using h
  | succ n ih =>
    rw [fold_range_s]
    exact tr1_le ih
theorem tr3_le {w : Int32} {u n : Nat} {D : Nat → Nat} (h : ∀ v, D v ≤ 100) : ∀ x, tr3 W w n D u x ≤ 100 := by
  unfold tr3
  have : ∀ m, ∀ x, ((List.range m).foldl (tr2 W w n) D) x ≤ 100 := by
    intro m
    induction m with
    | zero => simpa using h
    | succ m ih =>
      rw [fold_range_s]
      exact tr2_le ih
  exact this n
set_option maxRecDepth 4000 in
theorem k_MD_fr2 (hG : zOK G) (hT : twOK q h) (hW : tW N W) (hS : sSw W) {v1 v2 v4 v5 : zV} {x6 : Int32} {w : Int32} {Q : zO → zH → Prop} {D0 : Nat → Nat} (hD0 : ∀ v, D0 v ≤ 100)
    (nx : ∀ (M : Nat → Nat → Int32) (z y : Option zV), tFr pR N M → tDi M (wV W).length (tr3 W w (wV W).length D0 0) → zJ G 2 m_MD_findRoute 157 [some (zA q), some v1, some v2, some (zI w), some v4, some v5, some (zI x6), z, y] [] (twp q h M) Q) :
    ∀ (n k : Nat) (M : Nat → Nat → Int32) (y : Option zV), k + n = (wV W).length → tFr pR N M → (∀ v, ((List.range k).foldl (tr2 W w (wV W).length) D0) v ≤ 100) → tDi M (wV W).length ((List.range k).foldl (tr2 W w (wV W).length) D0) → zJ G 2 m_MD_findRoute 77 [some (zA q), some v1, some v2, some (zI w), some v4, some v5, some (zI x6), some (zI (nI k)), y] [] (twp q h M) Q := by
  have h8 := hW.1.2.2
  intro n
  induction n with
  | zero =>
    intro k M y hk f hle hD
    have : k = (wV W).length := by omega
    subst this
    have hv : M 0 1 = nI (wV W).length := (f 0 1 rfl).trans hW.1.1
    refine zj_iload hG d_MD_findRoute_77 rfl ?_
    refine zj_aload_n hG d_MD_findRoute_79 rfl rfl ?_
    refine t_getI hG hT d_MD_findRoute_80 f_MD_7 rfl ?_
    rw [hv]
    refine zj_icmp_ge (tgt := 157) hG d_MD_findRoute_83 (by decide) (fun _ => ?_) (fun c => absurd (nI_le (by omega) (by omega)) c)
    exact nx M _ _ f hD
  | succ n ih =>
    intro k M y hk f hle hD
    have hkl : k < (wV W).length := by omega
    have hv : M 0 1 = nI (wV W).length := (f 0 1 rfl).trans hW.1.1
    generalize hDD : (List.range k).foldl (tr2 W w (wV W).length) D0 = D at *
    have hs : (List.range (k + 1)).foldl (tr2 W w (wV W).length) D0 = tr2 W w (wV W).length D k := by rw [fold_range_s, hDD]
    refine zj_iload hG d_MD_findRoute_77 rfl ?_
    refine zj_aload_n hG d_MD_findRoute_79 rfl rfl ?_
    refine t_getI hG hT d_MD_findRoute_80 f_MD_7 rfl ?_
    rw [hv]
    refine zj_icmp_ge (tgt := 157) hG d_MD_findRoute_83 (by decide) (fun c => absurd c (nI_ge hkl (by omega))) (fun _ => ?_)
    refine zj_iconst (v := 0) hG d_MD_findRoute_86 rfl ?_
    refine zj_istore hG d_MD_findRoute_87 (by decide) rfl rfl ?_
    refine k_MD_fr1 hG hT (hW.pr f) hS (D0 := D) hkl hle ?_ (wV W).length 0 M (by omega) tFr.rfl' (by simpa using hle) (by simpa using hD)
    intro M2 z f2 hD2
    refine zj_iinc hG d_MD_findRoute_151 rfl (nI_1 k) (by decide) rfl rfl ?_
    refine zj_goto (tgt := 77) hG d_MD_findRoute_154 (by decide) ?_
    exact ih (k + 1) M2 _ (by omega) (f.trans f2) (by rw [hs]; exact tr2_le hle) (by rw [hs]; exact hD2)
set_option maxRecDepth 4000 in
theorem k_MD_fr3 (hG : zOK G) (hT : twOK q h) (hW : tW N W) (hS : sSw W) {v1 v2 v4 : zV} {x5 : Int32} {w : Int32} {b : Nat} {Q : zO → zH → Prop}
    (nx : ∀ (M : Nat → Nat → Int32) (x z y : Option zV), tFr pR N M → tDi M (wV W).length (tdis W w b) → zJ G 2 m_MD_findRoute 163 [some (zA q), some v1, some v2, some (zI w), some v4, some (zI x5), x, z, y] [] (twp q h M) Q) :
    ∀ (n k : Nat) (M : Nat → Nat → Int32) (z y : Option zV), k + n = (wV W).length → tFr pR N M → (∀ v, ((List.range k).foldl (tr3 W w (wV W).length) (tr0 b)) v ≤ 100) → tDi M (wV W).length ((List.range k).foldl (tr3 W w (wV W).length) (tr0 b)) → zJ G 2 m_MD_findRoute 65 [some (zA q), some v1, some v2, some (zI w), some v4, some (zI x5), some (zI (nI k)), z, y] [] (twp q h M) Q := by
  have h8 := hW.1.2.2
  intro n
  induction n with
  | zero =>
    intro k M z y hk f hle hD
    have : k = (wV W).length := by omega
    subst this
    have hv : M 0 1 = nI (wV W).length := (f 0 1 rfl).trans hW.1.1
    refine zj_iload hG d_MD_findRoute_65 rfl ?_
    refine zj_aload_n hG d_MD_findRoute_67 rfl rfl ?_
    refine t_getI hG hT d_MD_findRoute_68 f_MD_7 rfl ?_
    rw [hv]
    refine zj_icmp_ge (tgt := 163) hG d_MD_findRoute_71 (by decide) (fun _ => ?_) (fun c => absurd (nI_le (by omega) (by omega)) c)
    exact nx M _ _ _ f hD
  | succ n ih =>
    intro k M z y hk f hle hD
    have hkl : k < (wV W).length := by omega
    have hv : M 0 1 = nI (wV W).length := (f 0 1 rfl).trans hW.1.1
    generalize hDD : (List.range k).foldl (tr3 W w (wV W).length) (tr0 b) = D at *
    have hs : (List.range (k + 1)).foldl (tr3 W w (wV W).length) (tr0 b) = tr3 W w (wV W).length D k := by rw [fold_range_s, hDD]
    refine zj_iload hG d_MD_findRoute_65 rfl ?_
    refine zj_aload_n hG d_MD_findRoute_67 rfl rfl ?_
    refine t_getI hG hT d_MD_findRoute_68 f_MD_7 rfl ?_
    rw [hv]
    refine zj_icmp_ge (tgt := 163) hG d_MD_findRoute_71 (by decide) (fun c => absurd c (nI_ge hkl (by omega))) (fun _ => ?_)
    refine zj_iconst (v := 0) hG d_MD_findRoute_74 rfl ?_
    refine zj_istore hG d_MD_findRoute_75 (by decide) rfl rfl ?_
    refine k_MD_fr2 hG hT (hW.pr f) hS (D0 := D) hle ?_ (wV W).length 0 M _ (by omega) tFr.rfl' (by simpa using hle) (by simpa using hD)
    intro M2 z2 y2 f2 hD2
    refine zj_iinc hG d_MD_findRoute_157 rfl (nI_1 k) (by decide) rfl rfl ?_
    refine zj_goto (tgt := 65) hG d_MD_findRoute_160 (by decide) ?_
    exact ih (k + 1) M2 _ _ (by omega) (f.trans f2) (by rw [hs]; exact tr3_le hle) (by rw [hs]; exact hD2)
set_option maxRecDepth 4000 in
theorem k_MD_fr0 (hG : zOK G) (hT : twOK q h) (hW : tW N W) {v1 v2 v3 v4 : zV} {b : Nat} (hb : b < (wV W).length) {Q : zO → zH → Prop}
    (nx : ∀ (M : Nat → Nat → Int32) (x : Option zV), tFr pR N M → tDi M (wV W).length (tr0 b) → zJ G 2 m_MD_findRoute 62 [some (zA q), some v1, some v2, some v3, some v4, some (zI (nI b)), x, none, none] [] (twp q h M) Q) :
    ∀ (n k : Nat) (M : Nat → Nat → Int32), k + n = (wV W).length → tFr pR N M → (∀ v, v < k → M 27 v = nI (tr0 b v)) → zJ G 2 m_MD_findRoute 27 [some (zA q), some v1, some v2, some v3, some v4, some (zI (nI b)), some (zI (nI k)), none, none] [] (twp q h M) Q := by
  have h8 := hW.1.2.2
  intro n
  induction n with
  | zero =>
    intro k M hk f hD
    have : k = (wV W).length := by omega
    subst this
    have hv : M 0 1 = nI (wV W).length := (f 0 1 rfl).trans hW.1.1
    refine zj_iload hG d_MD_findRoute_27 rfl ?_
    refine zj_aload_n hG d_MD_findRoute_29 rfl rfl ?_
    refine t_getI hG hT d_MD_findRoute_30 f_MD_7 rfl ?_
    rw [hv]
    refine zj_icmp_ge (tgt := 62) hG d_MD_findRoute_33 (by decide) (fun _ => ?_) (fun c => absurd (nI_le (by omega) (by omega)) c)
    refine nx M _ f (fun v hv => ⟨hD v hv, ?_⟩)
    unfold tr0
    split <;> omega
  | succ n ih =>
    intro k M hk f hD
    have hkl : k < (wV W).length := by omega
    have hv : M 0 1 = nI (wV W).length := (f 0 1 rfl).trans hW.1.1
    have wr : ∀ (x : Int32), x = nI (tr0 b k) → zJ G 2 m_MD_findRoute 55 [some (zA q), some v1, some v2, some v3, some v4, some (zI (nI b)), some (zI (nI k)), none, none] [zI x, zI (nI k), zA (q + 27)] (twp q h M) Q := by
      intro x hx
      refine t_ast (k) hG hT d_MD_findRoute_55 (by first | decide | omega) (by first | decide | omega) rfl (by show _ < 8; omega) ?_
      refine zj_iinc hG d_MD_findRoute_56 rfl (nI_1 k) (by decide) rfl rfl ?_
      refine zj_goto (tgt := 27) hG d_MD_findRoute_59 (by decide) ?_
      refine ih (k + 1) _ (by omega) (tFr.put f rfl) (fun v hv => ?_)
      by_cases e : v = k
      · subst e
        rw [← hx]
        exact zu_s
      · rw [zu_k e]
        exact hD v (by omega)
    refine zj_iload hG d_MD_findRoute_27 rfl ?_
    refine zj_aload_n hG d_MD_findRoute_29 rfl rfl ?_
    refine t_getI hG hT d_MD_findRoute_30 f_MD_7 rfl ?_
    rw [hv]
    refine zj_icmp_ge (tgt := 62) hG d_MD_findRoute_33 (by decide) (fun c => absurd c (nI_ge hkl (by omega))) (fun _ => ?_)
    refine zj_aload_n hG d_MD_findRoute_36 rfl rfl ?_
    refine t_getA (o := 27) hG hT d_MD_findRoute_37 f_MD_92 rfl rfl ?_
    refine zj_iload hG d_MD_findRoute_40 rfl ?_
    refine zj_iload hG d_MD_findRoute_42 rfl ?_
    refine zj_iload hG d_MD_findRoute_44 rfl ?_
    refine zj_icmp_ne (tgt := 53) hG d_MD_findRoute_46 (by decide) (fun c46 => ?_) (fun c46 => ?_)
    · refine zj_bipush (v := 100) hG d_MD_findRoute_53 rfl ?_
      exact wr _ (by rw [tr0, if_neg (fun e => c46 (by rw [e]))]; rfl)
    · refine zj_iconst (v := 0) hG d_MD_findRoute_49 rfl ?_
      refine zj_goto (tgt := 55) hG d_MD_findRoute_50 (by decide) ?_
      exact wr _ (by rw [tr0, if_pos ((nI_eq (by omega) (by omega)).mp c46)]; rfl)
set_option maxRecDepth 4000 in
/-- the next version is looked for -/
theorem k_MD_frN (hG : zOK G) (hT : twOK q h) (hW : tW N W) (hS : sSw W) {v1 v2 v4 v5 : zV} {w : Int32} {D : Nat → Nat} {u : Nat} {z : Option zV} (hD : tDi N (wV W).length D) (hu : u < (wV W).length) (hx : ∃ v, v < (wV W).length ∧ oAdj W w u v = true ∧ D v + 1 = D u) {Q : zO → zH → Prop}
    (nx : zJ G 2 m_MD_findRoute 259 [some (zA q), some v1, some v2, some (zI w), some v4, some v5, some (zI (nI u)), some (zI (nI (tnx W w D u))), z] [] (twp q h N) Q) :
    ∀ (n k : Nat), k + n = tnx W w D u → zJ G 2 m_MD_findRoute 222 [some (zA q), some v1, some v2, some (zI w), some v4, some v5, some (zI (nI u)), some (zI (nI k)), z] [] (twp q h N) Q := by
  have h8 := hW.1.2.2
  have h16 := hW.2.2.2.1.2
  obtain ⟨t1, t2, t3, t4⟩ := tnx_ok hx
  obtain ⟨d1, d2⟩ := hD u hu
  have hpos : 1 ≤ D u := by omega
  have du1 : nI (D u) - 1 = nI (D u - 1) := by
    obtain ⟨m, hm⟩ : ∃ m, D u = m + 1 := ⟨D u - 1, by omega⟩
    rw [hm, nI_pred]
    rfl
  intro n
  induction n with
  | zero =>
    intro k hk
    have : k = tnx W w D u := by omega
    subst this
    obtain ⟨d3, d4⟩ := hD _ t1
    obtain ⟨s, hs⟩ := Option.isSome_iff_exists.mp t2
    have := (oBtw_lt hs).1
    refine zj_aload_n hG d_MD_findRoute_222 rfl rfl ?_
    refine zj_iload hG d_MD_findRoute_223 rfl ?_
    refine zj_iload hG d_MD_findRoute_225 rfl ?_
    refine zj_iload_n hG d_MD_findRoute_227 rfl rfl ?_
    refine zj_callR (y' := m_MD_between) hG (zcP (as := [_, _, _]) hG d_MD_findRoute_228 c_MD_between (z_w8 22 rfl) (z_w8 24 rfl) (z_w8 23 rfl) (z_w7 8 rfl) rfl ⟨by decide, by decide⟩ hT.1 (by decide) (by decide) (show _ = some 3 from by decide +kernel) rfl) c_MD_between rfl (by omega) rfl (z_le rfl) (z_le rfl) (k_MD_between hG hT hW hS (by omega) (by omega) w) ?_
    rw [hs]
    refine zj_if_lt (tgt := 253) hG d_MD_findRoute_231 (by decide) (fun c => absurd c (nI_pos (by omega))) (fun _ => ?_)
    refine zj_aload_n hG d_MD_findRoute_234 rfl rfl ?_
    refine t_getA (o := 27) hG hT d_MD_findRoute_235 f_MD_92 rfl rfl ?_
    refine zj_iload hG d_MD_findRoute_238 rfl ?_
    refine t_ald (tnx W w D u) hG hT d_MD_findRoute_240 (by first | decide | omega) (by first | decide | omega) rfl (by show _ < 8; omega) ?_
    refine zj_aload_n hG d_MD_findRoute_241 rfl rfl ?_
    refine t_getA (o := 27) hG hT d_MD_findRoute_242 f_MD_92 rfl rfl ?_
    refine zj_iload hG d_MD_findRoute_245 rfl ?_
    refine t_ald (u) hG hT d_MD_findRoute_247 (by first | decide | omega) (by first | decide | omega) rfl (by show _ < 8; omega) ?_
    refine zj_iconst (v := 1) hG d_MD_findRoute_248 rfl ?_
    refine zj_isub hG d_MD_findRoute_249 ?_
    rw [d1, d3, du1]
    refine zj_icmp_eq (tgt := 259) hG d_MD_findRoute_250 (by decide) (fun _ => ?_) (fun c => absurd (by rw [nI_eq (by omega) (by omega)]; omega) c)
    exact nx
  | succ n ih =>
    intro k hk
    obtain ⟨d3, d4⟩ := hD k (by omega)
    have hno := t4 k (by omega)
    refine zj_aload_n hG d_MD_findRoute_222 rfl rfl ?_
    refine zj_iload hG d_MD_findRoute_223 rfl ?_
    refine zj_iload hG d_MD_findRoute_225 rfl ?_
    refine zj_iload_n hG d_MD_findRoute_227 rfl rfl ?_
    refine zj_callR (y' := m_MD_between) hG (zcP (as := [_, _, _]) hG d_MD_findRoute_228 c_MD_between (z_w8 22 rfl) (z_w8 24 rfl) (z_w8 23 rfl) (z_w7 8 rfl) rfl ⟨by decide, by decide⟩ hT.1 (by decide) (by decide) (show _ = some 3 from by decide +kernel) rfl) c_MD_between rfl (by omega) rfl (z_le rfl) (z_le rfl) (k_MD_between hG hT hW hS (by omega) (by omega) w) ?_
    cases hs : oBtw (wS W) u k w with
    | none =>
      refine zj_if_lt (tgt := 253) hG d_MD_findRoute_231 (by decide) (fun _ => ?_) (fun c => absurd (by decide) c)
      refine zj_iinc hG d_MD_findRoute_253 rfl (nI_1 k) (by decide) rfl rfl ?_
      refine zj_goto (tgt := 222) hG d_MD_findRoute_256 (by decide) ?_
      exact ih (k + 1) (by omega)
    | some s =>
      have := (oBtw_lt hs).1
      have hne : ¬ D k + 1 = D u := fun e => hno ⟨by rw [oAdj, hs]; rfl, e⟩
      refine zj_if_lt (tgt := 253) hG d_MD_findRoute_231 (by decide) (fun c => absurd c (nI_pos (by omega))) (fun _ => ?_)
      refine zj_aload_n hG d_MD_findRoute_234 rfl rfl ?_
      refine t_getA (o := 27) hG hT d_MD_findRoute_235 f_MD_92 rfl rfl ?_
      refine zj_iload hG d_MD_findRoute_238 rfl ?_
      refine t_ald (k) hG hT d_MD_findRoute_240 (by first | decide | omega) (by first | decide | omega) rfl (by show _ < 8; omega) ?_
      refine zj_aload_n hG d_MD_findRoute_241 rfl rfl ?_
      refine t_getA (o := 27) hG hT d_MD_findRoute_242 f_MD_92 rfl rfl ?_
      refine zj_iload hG d_MD_findRoute_245 rfl ?_
      refine t_ald (u) hG hT d_MD_findRoute_247 (by first | decide | omega) (by first | decide | omega) rfl (by show _ < 8; omega) ?_
      refine zj_iconst (v := 1) hG d_MD_findRoute_248 rfl ?_
      refine zj_isub hG d_MD_findRoute_249 ?_
      rw [d1, d3, du1]
      refine zj_icmp_eq (tgt := 259) hG d_MD_findRoute_250 (by decide) (fun c => absurd c (by rw [nI_eq (by omega) (by omega)]; omega)) (fun _ => ?_)
      refine zj_iinc hG d_MD_findRoute_253 rfl (nI_1 k) (by decide) rfl rfl ?_
      refine zj_goto (tgt := 222) hG d_MD_findRoute_256 (by decide) ?_
      exact ih (k + 1) (by omega)
set_option maxRecDepth 4000 in
/-- the way is followed -/
theorem k_MD_frW (hG : zOK G) (hT : twOK q h) (hW : tW N W) (hS : sSw W) {v1 v2 v4 : zV} {w : Int32} {b : Nat} {D : Nat → Nat} (hb : b < (wV W).length) (hK : tDK W w b D) {Q : zO → zH → Prop} {L1 L2 : List Nat}
    (nx : ∀ (M : Nat → Nat → Int32) (x y z : Option zV), tFr pR N M → M 0 33 = nI L1.length → tLs M 25 L1 → tLs M 26 L2 → zJ G 2 m_MD_findRoute 303 [some (zA q), some v1, some v2, some (zI w), some v4, some (zI (nI b)), x, y, z] [] (twp q h M) Q) :
    ∀ (r u : Nat) (P R : List Nat) (M : Nat → Nat → Int32) (x y z : Option zV), u < (wV W).length → D u = r → D u < 100 → P.length + r ≤ 7 → R.length = P.length → L1 = P ++ tpv W w D r u → L2 = R ++ tps W w D r u → tFr pR N M → tDi M (wV W).length D → M 0 33 = nI (P.length + 1) → tLs M 25 (P ++ [u]) → tLs M 26 R →
      zJ G 2 m_MD_findRoute 190 [some (zA q), some v1, some v2, some (zI w), some v4, some (zI (nI b)), x, y, z] [] (twp q h M) Q := by
  have h8 := hW.1.2.2
  have h16 := hW.2.2.2.1.2
  intro r
  induction r with
  | zero =>
    intro u P R M x y z hu hDu h100 hl hPR e1 e2 f hD h33 h25 h26
    have hub : u = b := by
      rcases Nat.decEq u b with g | g
      · obtain ⟨v, -, -, g3⟩ := (hK.2 u hu h100).2 g
        omega
      · exact g
    subst hub
    have hlast : M 25 P.length = nI u := h25 P.length u (by rw [List.getElem?_append_right (Nat.le_refl _)]; simp)
    refine zj_aload_n hG d_MD_findRoute_190 rfl rfl ?_
    refine t_getA (o := 25) hG hT d_MD_findRoute_191 f_MD_86 rfl rfl ?_
    refine zj_aload_n hG d_MD_findRoute_194 rfl rfl ?_
    refine t_getI hG hT d_MD_findRoute_195 f_MD_299 rfl ?_
    refine zj_iconst (v := 1) hG d_MD_findRoute_198 rfl ?_
    refine zj_isub hG d_MD_findRoute_199 ?_
    refine t_ald (P.length) hG hT d_MD_findRoute_200 (by first | decide | omega) (by first | decide | omega) (by rw [h33, nI_pred]) (by show _ < 9; omega) ?_
    refine zj_iload hG d_MD_findRoute_201 rfl ?_
    rw [hlast]
    refine zj_icmp_eq (tgt := 303) hG d_MD_findRoute_203 (by decide) (fun _ => ?_) (fun c => absurd rfl c)
    refine nx M _ _ _ f ?_ ?_ ?_
    · rw [h33, e1]
      simp [tpv]
    · rw [e1]
      exact h25
    · rw [e2]
      simpa [tps] using h26
  | succ r ih =>
    intro u P R M x y z hu hDu h100 hl hPR e1 e2 f hD h33 h25 h26
    have hub : u ≠ b := by
      intro e
      rw [e, hK.1] at hDu
      omega
    have hx := (hK.2 u hu h100).2 hub
    obtain ⟨t1, t2, t3, t4⟩ := tnx_ok hx
    obtain ⟨s, hs⟩ := Option.isSome_iff_exists.mp t2
    have hsl := (oBtw_lt hs).1
    have hlast : M 25 P.length = nI u := h25 P.length u (by rw [List.getElem?_append_right (Nat.le_refl _)]; simp)
    have hW2 := hW.pr f
    refine zj_aload_n hG d_MD_findRoute_190 rfl rfl ?_
    refine t_getA (o := 25) hG hT d_MD_findRoute_191 f_MD_86 rfl rfl ?_
    refine zj_aload_n hG d_MD_findRoute_194 rfl rfl ?_
    refine t_getI hG hT d_MD_findRoute_195 f_MD_299 rfl ?_
    refine zj_iconst (v := 1) hG d_MD_findRoute_198 rfl ?_
    refine zj_isub hG d_MD_findRoute_199 ?_
    refine t_ald (P.length) hG hT d_MD_findRoute_200 (by first | decide | omega) (by first | decide | omega) (by rw [h33, nI_pred]) (by show _ < 9; omega) ?_
    refine zj_iload hG d_MD_findRoute_201 rfl ?_
    rw [hlast]
    refine zj_icmp_eq (tgt := 303) hG d_MD_findRoute_203 (by decide) (fun c => absurd c (by rw [nI_eq (by omega) (by omega)]; exact hub)) (fun _ => ?_)
    refine zj_aload_n hG d_MD_findRoute_206 rfl rfl ?_
    refine t_getA (o := 25) hG hT d_MD_findRoute_207 f_MD_86 rfl rfl ?_
    refine zj_aload_n hG d_MD_findRoute_210 rfl rfl ?_
    refine t_getI hG hT d_MD_findRoute_211 f_MD_299 rfl ?_
    refine zj_iconst (v := 1) hG d_MD_findRoute_214 rfl ?_
    refine zj_isub hG d_MD_findRoute_215 ?_
    refine t_ald (P.length) hG hT d_MD_findRoute_216 (by first | decide | omega) (by first | decide | omega) (by rw [h33, nI_pred]) (by show _ < 9; omega) ?_
    rw [hlast]
    refine zj_istore hG d_MD_findRoute_217 (by decide) rfl rfl ?_
    refine zj_iconst (v := 0) hG d_MD_findRoute_219 rfl ?_
    refine zj_istore hG d_MD_findRoute_220 (by decide) rfl rfl ?_
    refine k_MD_frN hG hT hW2 hS hD hu hx ?_ _ 0 (Nat.zero_add _)
    refine zj_aload_n hG d_MD_findRoute_259 rfl rfl ?_
    refine t_getA (o := 26) hG hT d_MD_findRoute_260 f_MD_89 rfl rfl ?_
    refine zj_aload_n hG d_MD_findRoute_263 rfl rfl ?_
    refine t_getI hG hT d_MD_findRoute_264 f_MD_299 rfl ?_
    refine zj_iconst (v := 1) hG d_MD_findRoute_267 rfl ?_
    refine zj_isub hG d_MD_findRoute_268 ?_
    refine zj_aload_n hG d_MD_findRoute_269 rfl rfl ?_
    refine zj_iload hG d_MD_findRoute_270 rfl ?_
    refine zj_iload hG d_MD_findRoute_272 rfl ?_
    refine zj_iload_n hG d_MD_findRoute_274 rfl rfl ?_
    rw [h33, nI_pred]
    refine zj_callR (y' := m_MD_between) hG (zcP (as := [_, _, _]) hG d_MD_findRoute_275 c_MD_between (z_w8 22 rfl) (z_w8 24 rfl) (z_w8 23 rfl) (z_w7 8 rfl) rfl ⟨by decide, by decide⟩ hT.1 (by decide) (by decide) (show _ = some 3 from by decide +kernel) rfl) c_MD_between rfl (by omega) rfl (z_le rfl) (z_le rfl) (k_MD_between hG hT hW2 hS (by omega) (by omega) w) ?_
    rw [hs]
    refine t_ast (P.length) hG hT d_MD_findRoute_278 (by first | decide | omega) (by first | decide | omega) rfl (by show _ < 9; omega) ?_
    refine zj_aload_n hG d_MD_findRoute_279 rfl rfl ?_
    refine t_getA (o := 25) hG hT d_MD_findRoute_280 f_MD_86 rfl rfl ?_
    refine zj_aload_n hG d_MD_findRoute_283 rfl rfl ?_
    refine t_getI hG hT d_MD_findRoute_284 f_MD_299 rfl ?_
    refine zj_iload hG d_MD_findRoute_287 rfl ?_
    refine t_ast (P.length + 1) hG hT d_MD_findRoute_289 (by first | decide | omega) (by first | decide | omega) (by rw [zu_a (by omega)]; exact h33) (by show _ < 9; omega) ?_
    refine zj_aload_n hG d_MD_findRoute_290 rfl rfl ?_
    refine zj_dup hG d_MD_findRoute_291 (by first | exact zc_A _ | rfl) ?_
    refine t_getI hG hT d_MD_findRoute_292 f_MD_299 rfl ?_
    refine zj_iconst (v := 1) hG d_MD_findRoute_295 rfl ?_
    refine zj_iadd hG d_MD_findRoute_296 ?_
    rw [zu_a (show (0 : Nat) ≠ 25 by omega), zu_a (show (0 : Nat) ≠ 26 by omega), h33, nI_1]
    refine t_putI hG hT d_MD_findRoute_297 f_MD_299 rfl rfl ?_
    refine zj_goto (tgt := 190) hG d_MD_findRoute_300 (by decide) ?_
    have eP : L1 = (P ++ [u]) ++ tpv W w D r (tnx W w D u) := by
      rw [e1, tpv]
      simp
    have eR : L2 = (R ++ [s]) ++ tps W w D r (tnx W w D u) := by
      rw [e2, tps, hs]
      simp
    refine ih (tnx W w D u) (P ++ [u]) (R ++ [s]) _ _ _ _ t1 (by omega) (by omega) (by simp; omega) (by simp [hPR]) eP eR (tFr.put (tFr.put (tFr.put f rfl) rfl) rfl) ?_ ?_ ?_ ?_
    · intro v hv
      rw [zu_a (by omega), zu_a (by omega), zu_a (by omega)]
      exact hD v hv
    · rw [zu_s]
      simp
    · have hA : tLs (zu M 26 P.length (tfi (some s))) 25 (P ++ [u]) := fun i x hi => by rw [zu_a (by omega)]; exact h25 i x hi
      have := hA.snoc (tnx W w D u)
      rw [show (P ++ [u]).length = P.length + 1 by simp] at this
      intro i x hi
      rw [zu_a (by omega)]
      exact this i x hi
    · have := h26.snoc s
      rw [hPR] at this
      intro i x hi
      rw [zu_a (by omega), zu_a (by omega)]
      exact this i x hi
end MD26
