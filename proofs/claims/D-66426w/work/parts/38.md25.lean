/-! PART 38: the reference: routes: steps between versions, distances -/
/-- step s joins two versions, and is not the one left out -/
def tjo (S : List sSt) (u v : Nat) (w : Int32) (s : Nat) : Bool := match S[s]? with
  | none => false
  | some x => decide (x.1 = u ∧ x.2.1 = v ∨ x.1 = v ∧ x.2.1 = u) && decide (nI s ≠ w)
def oBtw (S : List sSt) (u v : Nat) (w : Int32) : Option Nat := ((List.range S.length).map (tjo S u v w)).findIdx? (fun b => b)
theorem oBtw_s {S : List sSt} {u v : Nat} {w : Int32} {k : Nat} (hk : k < S.length) (h1 : tjo S u v w k = true) (h2 : ∀ j, j < k → tjo S u v w j = false) : oBtw S u v w = some k := by
  rw [oBtw, List.findIdx?_eq_some_iff_getElem]
  refine ⟨by simpa using hk, by simp [h1], fun j hj => ?_⟩
  have := h2 j hj
  simp [this]
theorem oBtw_n {S : List sSt} {u v : Nat} {w : Int32} (h2 : ∀ j, j < S.length → tjo S u v w j = false) : oBtw S u v w = none := by
  rw [oBtw, List.findIdx?_eq_none_iff]
  intro b hb
  simp only [List.mem_map, List.mem_range] at hb
  obtain ⟨j, hj, rfl⟩ := hb
  exact h2 j hj
theorem oBtw_lt {S : List sSt} {u v : Nat} {w : Int32} {k : Nat} (h : oBtw S u v w = some k) : k < S.length ∧ tjo S u v w k = true := by
  rw [oBtw, List.findIdx?_eq_some_iff_getElem] at h
  obtain ⟨h1, h2, -⟩ := h
  exact ⟨by simpa using h1, by simpa using h2⟩
/-- the steps join versions -/
def sSw (W : sW) : Prop := ∀ x ∈ wS W, x.1 < (wV W).length ∧ x.2.1 < (wV W).length
section MD25
variable {G : zG} {q : Nat} {h : zH} {N : Nat → Nat → Int32} {W : sW}
set_option maxRecDepth 4000 in
theorem k_MD_betweenL (hG : zOK G) (hT : twOK q h) (hW : tW N W) (hS : sSw W) {u v : Nat} (hu : u < 8) (hv : v < 8) (w : Int32) : ∀ (n k : Nat) (z : Option zV), k + n = (wS W).length → (∀ j, j < k → tjo (wS W) u v w j = false) →
    zJ G 0 m_MD_between 3 [some (zA q), some (zI (nI u)), some (zI (nI v)), some (zI w), some (zI (nI k)), z] [] (twp q h N) (fun o h' => o = zR (zI (tfi (oBtw (wS W) u v w))) ∧ h' = twp q h N) := by
  have h16 := hW.2.2.2.1.2
  have h8 := hW.1.2.2
  intro n
  induction n with
  | zero =>
    intro k z hk hno
    have : k = (wS W).length := by omega
    subst this
    rw [oBtw_n hno]
    refine zj_iload hG d_MD_between_3 rfl ?_
    refine zj_aload_n hG d_MD_between_5 rfl rfl ?_
    refine t_getI hG hT d_MD_between_6 f_MD_260 rfl ?_
    rw [hW.2.2.2.1.1]
    refine zj_icmp_ge (tgt := 83) hG d_MD_between_9 (by decide) (fun _ => ?_) (fun c => absurd (nI_le (by omega) (by omega)) c)
    refine zj_iconst (v := -1) hG d_MD_between_83 rfl ?_
    exact zj_iret hG d_MD_between_84 rfl rfl ⟨rfl, rfl⟩
  | succ n ih =>
    intro k z hk hno
    have hkl : k < (wS W).length := by omega
    have he : (wS W)[k]? = some (wS W)[k] := List.getElem?_eq_getElem hkl
    obtain ⟨e1, e2, -⟩ := hW.2.2.2.2.1 k _ he
    obtain ⟨b1, b2⟩ := hS _ (List.getElem_mem hkl)
    have q1 : ∀ {a b : Nat}, a < 8 → b < 8 → (nI a = nI b ↔ a = b) := fun x y => nI_eq (by omega) (by omega)
    have htj : tjo (wS W) u v w k = (decide (((wS W)[k]).1 = u ∧ ((wS W)[k]).2.1 = v ∨ ((wS W)[k]).1 = v ∧ ((wS W)[k]).2.1 = u) && decide (nI k ≠ w)) := by rw [tjo, he]
    have nx : tjo (wS W) u v w k = false → ∀ z : Option zV, zJ G 0 m_MD_between 77 [some (zA q), some (zI (nI u)), some (zI (nI v)), some (zI w), some (zI (nI k)), z] [] (twp q h N) (fun o h' => o = zR (zI (tfi (oBtw (wS W) u v w))) ∧ h' = twp q h N) := by
      intro hf z
      refine zj_iinc hG d_MD_between_77 rfl (nI_1 k) (by decide) rfl rfl ?_
      refine zj_goto (tgt := 3) hG d_MD_between_80 (by decide) ?_
      refine ih (k + 1) z (by omega) (fun j hj => ?_)
      rcases Nat.lt_or_ge j k with g | g
      · exact hno j g
      · have : j = k := by omega
        subst this
        exact hf
    have fin : ∀ (b : Bool) (y : Int32), b = decide (((wS W)[k]).1 = u ∧ ((wS W)[k]).2.1 = v ∨ ((wS W)[k]).1 = v ∧ ((wS W)[k]).2.1 = u) → y = tb b → zJ G 0 m_MD_between 61 [some (zA q), some (zI (nI u)), some (zI (nI v)), some (zI w), some (zI (nI k)), z] [zI y] (twp q h N) (fun o h' => o = zR (zI (tfi (oBtw (wS W) u v w))) ∧ h' = twp q h N) := by
      intro b y hb hy
      subst hy
      rw [← hb] at htj
      refine zj_istore hG d_MD_between_61 (by decide) rfl rfl ?_
      refine zj_iload hG d_MD_between_63 rfl ?_
      refine zj_if_eq (tgt := 77) hG d_MD_between_65 (by decide) (fun c65 => ?_) (fun c65 => ?_)
      · exact nx (by rw [htj, tb_f c65]; rfl) _
      refine zj_iload hG d_MD_between_68 rfl ?_
      refine zj_iload_n hG d_MD_between_70 rfl rfl ?_
      refine zj_icmp_eq (tgt := 77) hG d_MD_between_71 (by decide) (fun c71 => ?_) (fun c71 => ?_)
      · exact nx (by rw [htj]; simp [c71]) _
      · rw [oBtw_s hkl (by rw [htj, tb_t c65]; simp [c71]) hno]
        refine zj_iload hG d_MD_between_74 rfl ?_
        exact zj_iret hG d_MD_between_76 rfl rfl ⟨rfl, rfl⟩
    have one : (((wS W)[k]).1 = u ∧ ((wS W)[k]).2.1 = v ∨ ((wS W)[k]).1 = v ∧ ((wS W)[k]).2.1 = u) → zJ G 0 m_MD_between 56 [some (zA q), some (zI (nI u)), some (zI (nI v)), some (zI w), some (zI (nI k)), z] [] (twp q h N) (fun o h' => o = zR (zI (tfi (oBtw (wS W) u v w))) ∧ h' = twp q h N) := by
      intro g
      refine zj_iconst (v := 1) hG d_MD_between_56 rfl ?_
      refine zj_goto (tgt := 61) hG d_MD_between_57 (by decide) ?_
      exact fin true 1 (decide_eq_true g).symm rfl
    have zero : ¬ (((wS W)[k]).1 = u ∧ ((wS W)[k]).2.1 = v ∨ ((wS W)[k]).1 = v ∧ ((wS W)[k]).2.1 = u) → zJ G 0 m_MD_between 60 [some (zA q), some (zI (nI u)), some (zI (nI v)), some (zI w), some (zI (nI k)), z] [] (twp q h N) (fun o h' => o = zR (zI (tfi (oBtw (wS W) u v w))) ∧ h' = twp q h N) := by
      intro g
      refine zj_iconst (v := 0) hG d_MD_between_60 rfl ?_
      exact fin false 0 (decide_eq_false g).symm rfl
    have second : ¬ (((wS W)[k]).1 = u ∧ ((wS W)[k]).2.1 = v) → zJ G 0 m_MD_between 34 [some (zA q), some (zI (nI u)), some (zI (nI v)), some (zI w), some (zI (nI k)), z] [] (twp q h N) (fun o h' => o = zR (zI (tfi (oBtw (wS W) u v w))) ∧ h' = twp q h N) := by
      intro g
      refine zj_aload_n hG d_MD_between_34 rfl rfl ?_
      refine t_getA (o := 6) hG hT d_MD_between_35 f_MD_29 rfl rfl ?_
      refine zj_iload hG d_MD_between_38 rfl ?_
      refine t_ald (k) hG hT d_MD_between_40 (by first | decide | omega) (by first | decide | omega) rfl (by show _ < 17; omega) ?_
      refine zj_iload_n hG d_MD_between_41 rfl rfl ?_
      rw [e1]
      refine zj_icmp_ne (tgt := 60) hG d_MD_between_42 (by decide) (fun c42 => ?_) (fun c42 => ?_)
      · exact zero (fun e => by rcases e with e | e; exact g e; exact c42 (by rw [e.1]))
      refine zj_aload_n hG d_MD_between_45 rfl rfl ?_
      refine t_getA (o := 7) hG hT d_MD_between_46 f_MD_32 rfl rfl ?_
      refine zj_iload hG d_MD_between_49 rfl ?_
      refine t_ald (k) hG hT d_MD_between_51 (by first | decide | omega) (by first | decide | omega) rfl (by show _ < 17; omega) ?_
      refine zj_iload_n hG d_MD_between_52 rfl rfl ?_
      rw [e2]
      refine zj_icmp_ne (tgt := 60) hG d_MD_between_53 (by decide) (fun c53 => ?_) (fun c53 => ?_)
      · exact zero (fun e => by rcases e with e | e; exact g e; exact c53 (by rw [e.2]))
      · exact one (Or.inr ⟨(q1 (by omega) hv).mp c42, (q1 (by omega) hu).mp c53⟩)
    refine zj_iload hG d_MD_between_3 rfl ?_
    refine zj_aload_n hG d_MD_between_5 rfl rfl ?_
    refine t_getI hG hT d_MD_between_6 f_MD_260 rfl ?_
    rw [hW.2.2.2.1.1]
    refine zj_icmp_ge (tgt := 83) hG d_MD_between_9 (by decide) (fun c => absurd c (nI_ge hkl (by omega))) (fun _ => ?_)
    refine zj_aload_n hG d_MD_between_12 rfl rfl ?_
    refine t_getA (o := 6) hG hT d_MD_between_13 f_MD_29 rfl rfl ?_
    refine zj_iload hG d_MD_between_16 rfl ?_
    refine t_ald (k) hG hT d_MD_between_18 (by first | decide | omega) (by first | decide | omega) rfl (by show _ < 17; omega) ?_
    refine zj_iload_n hG d_MD_between_19 rfl rfl ?_
    rw [e1]
    refine zj_icmp_ne (tgt := 34) hG d_MD_between_20 (by decide) (fun c20 => ?_) (fun c20 => ?_)
    · exact second (fun e => c20 (by rw [e.1]))
    refine zj_aload_n hG d_MD_between_23 rfl rfl ?_
    refine t_getA (o := 7) hG hT d_MD_between_24 f_MD_32 rfl rfl ?_
    refine zj_iload hG d_MD_between_27 rfl ?_
    refine t_ald (k) hG hT d_MD_between_29 (by first | decide | omega) (by first | decide | omega) rfl (by show _ < 17; omega) ?_
    refine zj_iload_n hG d_MD_between_30 rfl rfl ?_
    rw [e2]
    refine zj_icmp_eq (tgt := 56) hG d_MD_between_31 (by decide) (fun c31 => ?_) (fun c31 => ?_)
    · exact one (Or.inl ⟨(q1 (by omega) hu).mp c20, (q1 (by omega) hv).mp c31⟩)
    · exact second (fun e => c31 (by rw [e.2]))
theorem k_MD_between (hG : zOK G) (hT : twOK q h) (hW : tW N W) (hS : sSw W) {u v : Nat} (hu : u < 8) (hv : v < 8) (w : Int32) :
    zJ G 0 m_MD_between 0 [some (zA q), some (zI (nI u)), some (zI (nI v)), some (zI w), none, none] [] (twp q h N) (fun o h' => o = zR (zI (tfi (oBtw (wS W) u v w))) ∧ h' = twp q h N) := by
  refine zj_iconst (v := 0) hG d_MD_between_0 rfl ?_
  refine zj_istore hG d_MD_between_1 (by decide) rfl rfl ?_
  exact k_MD_betweenL hG hT hW hS hu hv w (wS W).length 0 none (by omega) (fun j hj => by omega)
/-- versions that a step joins -/
def oAdj (W : sW) (w : Int32) (u v : Nat) : Bool := (oBtw (wS W) u v w).isSome
/-- one way looked at; all ways from u; all of them; so many times -/
def tr1 (W : sW) (w : Int32) (u : Nat) (D : Nat → Nat) (v : Nat) : Nat → Nat := if oAdj W w u v = true ∧ D v + 1 < D u then zw D u (D v + 1) else D
def tr2 (W : sW) (w : Int32) (n : Nat) (D : Nat → Nat) (u : Nat) : Nat → Nat := (List.range n).foldl (tr1 W w u) D
def tr3 (W : sW) (w : Int32) (n : Nat) (D : Nat → Nat) (_ : Nat) : Nat → Nat := (List.range n).foldl (tr2 W w n) D
def tr0 (b : Nat) : Nat → Nat := fun v => if v = b then 0 else 100
def tdis (W : sW) (w : Int32) (b : Nat) : Nat → Nat := (List.range (wV W).length).foldl (tr3 W w (wV W).length) (tr0 b)
/-- distances as they stand -/
def tDi (N : Nat → Nat → Int32) (n : Nat) (D : Nat → Nat) : Prop := ∀ v, v < n → N 27 v = nI (D v) ∧ D v ≤ 100
theorem tr1_le {W : sW} {w : Int32} {u v : Nat} {D : Nat → Nat} (h : ∀ v, D v ≤ 100) : ∀ x, tr1 W w u D v x ≤ 100 := by
  intro x
  unfold tr1
  split
  · rename_i g
    unfold zw
    split
    · have := h u
      omega
    · exact h x
  · exact h x
theorem fold_range_s {α : Type} (f : α → Nat → α) (a : α) (n : Nat) : (List.range (n + 1)).foldl f a = f ((List.range n).foldl f a) n := by
  rw [List.range_succ, List.foldl_append]
  rfl
def pR (o i : Nat) : Bool := o == 25 || o == 26 || o == 27 || (o == 0 && i == 33)
theorem tW.pr {N' : Nat → Nat → Int32} (hW : tW N W) (f : tFr pR N N') : tW N' W := hW.fr f (by intro o i e; simp [pP] at e; simp [pR]; omega)
set_option maxRecDepth 4000 in
/-- the innermost loop -/
theorem k_MD_fr1 (hG : zOK G) (hT : twOK q h) (hW : tW N W) (hS : sSw W) {v1 v2 v4 v5 : zV} {x6 : Int32} {w : Int32} {u : Nat} (hu : u < (wV W).length) {Q : zO → zH → Prop} {D0 : Nat → Nat} (hD0 : ∀ v, D0 v ≤ 100)
    (nx : ∀ (M : Nat → Nat → Int32) (z : zV), tFr pR N M → tDi M (wV W).length (tr2 W w (wV W).length D0 u) → zJ G 2 m_MD_findRoute 151 [some (zA q), some v1, some v2, some (zI w), some v4, some v5, some (zI x6), some (zI (nI u)), some z] [] (twp q h M) Q) :
    ∀ (n k : Nat) (M : Nat → Nat → Int32), k + n = (wV W).length → tFr pR N M → (∀ v, ((List.range k).foldl (tr1 W w u) D0) v ≤ 100) → tDi M (wV W).length ((List.range k).foldl (tr1 W w u) D0) → zJ G 2 m_MD_findRoute 89 [some (zA q), some v1, some v2, some (zI w), some v4, some v5, some (zI x6), some (zI (nI u)), some (zI (nI k))] [] (twp q h M) Q := by
  have h8 := hW.1.2.2
  intro n
  induction n with
  | zero =>
    intro k M hk f hle hD
    have : k = (wV W).length := by omega
    subst this
    have hv : M 0 1 = nI (wV W).length := (f 0 1 rfl).trans hW.1.1
    refine zj_iload hG d_MD_findRoute_89 rfl ?_
    refine zj_aload_n hG d_MD_findRoute_91 rfl rfl ?_
    refine t_getI hG hT d_MD_findRoute_92 f_MD_7 rfl ?_
    rw [hv]
    refine zj_icmp_ge (tgt := 151) hG d_MD_findRoute_95 (by decide) (fun _ => ?_) (fun c => absurd (nI_le (by omega) (by omega)) c)
    exact nx M _ f hD
  | succ n ih =>
    intro k M hk f hle hD
    have hkl : k < (wV W).length := by omega
    have hv : M 0 1 = nI (wV W).length := (f 0 1 rfl).trans hW.1.1
    have hW2 := hW.pr f
    generalize hDD : (List.range k).foldl (tr1 W w u) D0 = D at *
    have hs : (List.range (k + 1)).foldl (tr1 W w u) D0 = tr1 W w u D k := by rw [fold_range_s, hDD]
    obtain ⟨d1, d2⟩ := hD u hu
    obtain ⟨d3, d4⟩ := hD k hkl
    have stay : ¬ (oAdj W w u k = true ∧ D k + 1 < D u) → zJ G 2 m_MD_findRoute 145 [some (zA q), some v1, some v2, some (zI w), some v4, some v5, some (zI x6), some (zI (nI u)), some (zI (nI k))] [] (twp q h M) Q := by
      intro g
      refine zj_iinc hG d_MD_findRoute_145 rfl (nI_1 k) (by decide) rfl rfl ?_
      refine zj_goto (tgt := 89) hG d_MD_findRoute_148 (by decide) ?_
      have e : tr1 W w u D k = D := if_neg g
      rw [e] at hs
      exact ih (k + 1) M (by omega) f (by rw [hs]; exact hle) (by rw [hs]; exact hD)
    refine zj_iload hG d_MD_findRoute_89 rfl ?_
    refine zj_aload_n hG d_MD_findRoute_91 rfl rfl ?_
    refine t_getI hG hT d_MD_findRoute_92 f_MD_7 rfl ?_
    rw [hv]
    refine zj_icmp_ge (tgt := 151) hG d_MD_findRoute_95 (by decide) (fun c => absurd c (nI_ge hkl (by omega))) (fun _ => ?_)
    refine zj_aload_n hG d_MD_findRoute_98 rfl rfl ?_
    refine zj_iload hG d_MD_findRoute_99 rfl ?_
    refine zj_iload hG d_MD_findRoute_101 rfl ?_
    refine zj_iload_n hG d_MD_findRoute_103 rfl rfl ?_
    refine zj_callR (y' := m_MD_between) hG (zcP (as := [_, _, _]) hG d_MD_findRoute_104 c_MD_between (z_w8 22 rfl) (z_w8 24 rfl) (z_w8 23 rfl) (z_w7 8 rfl) rfl ⟨by decide, by decide⟩ hT.1 (by decide) (by decide) (show _ = some 3 from by decide +kernel) rfl) c_MD_between rfl (by omega) rfl (z_le rfl) (z_le rfl) (k_MD_between hG hT hW2 hS (by omega) (by omega) w) ?_
    cases hb : oBtw (wS W) u k w with
    | none =>
      refine zj_if_lt (tgt := 145) hG d_MD_findRoute_107 (by decide) (fun _ => ?_) (fun c => absurd (by decide) c)
      exact stay (fun g => by rw [oAdj, hb] at g; cases g.1)
    | some s =>
      have hs16 := (oBtw_lt hb).1
      have h16 := hW.2.2.2.1.2
      have hadj : oAdj W w u k = true := by rw [oAdj, hb]; rfl
      refine zj_if_lt (tgt := 145) hG d_MD_findRoute_107 (by decide) (fun c => absurd c (nI_pos (by omega))) (fun _ => ?_)
      refine zj_aload_n hG d_MD_findRoute_110 rfl rfl ?_
      refine t_getA (o := 27) hG hT d_MD_findRoute_111 f_MD_92 rfl rfl ?_
      refine zj_iload hG d_MD_findRoute_114 rfl ?_
      refine t_ald (k) hG hT d_MD_findRoute_116 (by first | decide | omega) (by first | decide | omega) rfl (by show _ < 8; omega) ?_
      refine zj_iconst (v := 1) hG d_MD_findRoute_117 rfl ?_
      refine zj_iadd hG d_MD_findRoute_118 ?_
      refine zj_aload_n hG d_MD_findRoute_119 rfl rfl ?_
      refine t_getA (o := 27) hG hT d_MD_findRoute_120 f_MD_92 rfl rfl ?_
      refine zj_iload hG d_MD_findRoute_123 rfl ?_
      refine t_ald (u) hG hT d_MD_findRoute_125 (by first | decide | omega) (by first | decide | omega) rfl (by show _ < 8; omega) ?_
      rw [d1, d3, nI_1]
      refine zj_icmp_ge (tgt := 145) hG d_MD_findRoute_126 (by decide) (fun c126 => ?_) (fun c126 => ?_)
      · exact stay (fun g => nI_ge (a := D k + 1) (b := D u) g.2 (by omega) c126)
      · have hlt : D k + 1 < D u := by
          rcases Nat.lt_or_ge (D k + 1) (D u) with g | g
          · exact g
          · exact absurd (nI_le g (by omega)) c126
        refine zj_aload_n hG d_MD_findRoute_129 rfl rfl ?_
        refine t_getA (o := 27) hG hT d_MD_findRoute_130 f_MD_92 rfl rfl ?_
        refine zj_iload hG d_MD_findRoute_133 rfl ?_
        refine zj_aload_n hG d_MD_findRoute_135 rfl rfl ?_
        refine t_getA (o := 27) hG hT d_MD_findRoute_136 f_MD_92 rfl rfl ?_
        refine zj_iload hG d_MD_findRoute_139 rfl ?_
        refine t_ald (k) hG hT d_MD_findRoute_141 (by first | decide | omega) (by first | decide | omega) rfl (by show _ < 8; omega) ?_
        refine zj_iconst (v := 1) hG d_MD_findRoute_142 rfl ?_
        refine zj_iadd hG d_MD_findRoute_143 ?_
        refine t_ast (u) hG hT d_MD_findRoute_144 (by first | decide | omega) (by first | decide | omega) rfl (by show _ < 8; omega) ?_
        rw [d3, nI_1]
        refine zj_iinc hG d_MD_findRoute_145 rfl (nI_1 k) (by decide) rfl rfl ?_
        refine zj_goto (tgt := 89) hG d_MD_findRoute_148 (by decide) ?_
        have e : tr1 W w u D k = zw D u (D k + 1) := if_pos ⟨hadj, hlt⟩
        refine ih (k + 1) _ (by omega) (tFr.put f rfl) (by rw [hs]; exact tr1_le hle) ?_
        rw [hs, e]
        intro v hv'
        by_cases e2 : v = u
        · subst e2
          rw [zw_s]
          exact ⟨zu_s, by omega⟩
        · rw [zw_n e2, zu_k e2]
          exact hD v hv'
end MD25
