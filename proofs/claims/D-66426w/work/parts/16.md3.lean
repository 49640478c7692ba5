/-! PART 16: the reference's table: fields come, go, move -/
theorem nI_14 (n : Nat) : (14 : Int32) * nI n = nI (14 * n) := pk_mul 14 n
theorem nI_24 (n : Nat) : (24 : Int32) * nI n = nI (24 * n) := pk_mul 24 n
theorem nI_8 (n : Nat) : (8 : Int32) * nI n = nI (8 * n) := pk_mul 8 n
theorem tTab.at {N : Nat → Nat → Int32} {T : List tE} (h : tTab N T) {k : Nat} (hk : k < T.length) : tAt N k T[k] := h.2.2 k _ (List.getElem?_eq_getElem hk)
theorem tTab.l {N : Nat → Nat → Int32} {T : List tE} (h : tTab N T) : T.length ≤ 25 := h.2.1
/-- a table from its parts -/
theorem tTab.mk {N : Nat → Nat → Int32} {T : List tE} (h1 : N 0 18 = nI T.length) (h2 : T.length ≤ 25) (h3 : ∀ k (hk : k < T.length), tAt N k T[k]) : tTab N T := by
  refine ⟨h1, h2, fun k e hk => ?_⟩
  obtain ⟨a, b⟩ := List.getElem?_eq_some_iff.mp hk
  rw [← b]
  exact h3 k a
def trow0 (s a b : Int32) : List Int32 := if s = 0 then [tnear a b] else []
def tx0 (s a b : Int32) : tQ := if s = 0 then (1, tnear a b, 0, 0, 0, 0) else (2, 0, 0, 0, 0, 0)
/-- a field that comes -/
def tnew (m : Int32) (L : List tQ) (p s a b : Int32) : tE := (p, s, a, b, trow0 s a b, if m = 2 then nI (L.idxOf (tx0 s a b)) else 0)
def tnewL (m : Int32) (L : List tQ) (s a b : Int32) : List tQ := if m = 2 then tkn L (tx0 s a b) else L
/-- places set to nothing -/
def tcl (N : Nat → Nat → Int32) (o b n : Nat) : Nat → Nat → Int32 := fun o' x => if o' = o ∧ b ≤ x ∧ x < b + n then 0 else N o' x
theorem tcl_s {N : Nat → Nat → Int32} {o b n : Nat} : zu (tcl N o b n) o (b + n) 0 = tcl N o b (n + 1) := by
  funext o' x
  unfold zu tcl
  by_cases g : o' = o ∧ x = b + n
  · rw [if_pos g, if_pos (by omega)]
  · rw [if_neg g]
    by_cases g2 : o' = o ∧ b ≤ x ∧ x < b + n
    · rw [if_pos g2, if_pos (by omega)]
    · rw [if_neg g2, if_neg (by omega)]
theorem tcl_0 {N : Nat → Nat → Int32} {o b : Nat} : tcl N o b 0 = N := by
  funext o' x
  exact if_neg (by omega)
section MD3
variable {G : zG} {q : Nat} {h : zH} {N : Nat → Nat → Int32} {L : List tQ} {T : List tE}
set_option maxRecDepth 4000 in
theorem k_MD_comeL (hG : zOK G) (hT : twOK q h) {v1 v2 v3 v4 : zV} {k : Nat} {Q : zO → zH → Prop} (hk : k ≤ 25) (nx : ∀ w, zJ G 2 m_MD_come 79 [some (zA q), some v1, some v2, some v3, some v4, some (zI (nI k)), some w] [] (twp q h (tcl N 18 (7 * k) 7)) Q) : ∀ (n i : Nat), i + n = 7 →
    zJ G 2 m_MD_come 52 [some (zA q), some v1, some v2, some v3, some v4, some (zI (nI k)), some (zI (nI i))] [] (twp q h (tcl N 18 (7 * k) i)) Q := by
  intro n
  induction n with
  | zero =>
    intro i hi
    have : i = 7 := by omega
    subst this
    refine zj_iload hG d_MD_come_52 rfl ?_
    refine zj_bipush (v := 7) hG d_MD_come_54 rfl ?_
    refine zj_icmp_ge (tgt := 79) hG d_MD_come_56 (by decide) (fun c56 => ?_) (fun c56 => ?_)
    · exact nx _
    · exact absurd (by decide) c56
  | succ n ih =>
    intro i hi
    refine zj_iload hG d_MD_come_52 rfl ?_
    refine zj_bipush (v := 7) hG d_MD_come_54 rfl ?_
    refine zj_icmp_ge (tgt := 79) hG d_MD_come_56 (by decide) (fun c56 => ?_) (fun c56 => ?_)
    · exact absurd c56 (nI_ge (a := i) (b := 7) (by omega) (by omega))
    · refine zj_aload_n hG d_MD_come_59 rfl rfl ?_
      refine t_getA (o := 18) hG hT d_MD_come_60 f_MD_65 rfl rfl ?_
      refine zj_bipush (v := 7) hG d_MD_come_63 rfl ?_
      refine zj_iload hG d_MD_come_65 rfl ?_
      refine zj_imul hG d_MD_come_67 ?_
      refine zj_iload hG d_MD_come_68 rfl ?_
      refine zj_iadd hG d_MD_come_70 ?_
      refine zj_iconst (v := 0) hG d_MD_come_71 rfl ?_
      refine t_ast (7 * k + i) hG hT d_MD_come_72 (by first | decide | omega) (by first | decide | omega) (by rw [nI_7, nI_add]) (by show _ < 182; omega) ?_
      refine zj_iinc hG d_MD_come_73 rfl (nI_1 i) (by decide) rfl rfl ?_
      refine zj_goto (tgt := 52) hG d_MD_come_76 (by decide) ?_
      rw [tcl_s]
      exact ih (i + 1) (by omega)
theorem tTab_come {N0 N : Nat → Nat → Int32} {p s a b t : Int32} {r : List Int32} (h : tTab N0 T) (h24 : T.length ≤ 24) (f : ∀ o i, ¬ (o = 0 ∧ i = 18 ∨ 14 ≤ o ∧ o ≤ 17 ∧ i = T.length ∨ o = 19 ∧ i = T.length ∨ o = 18 ∧ 7 * T.length ≤ i ∧ i < 7 * T.length + 7) → pT o i = true → N o i = N0 o i) (h1 : N 0 18 = nI (T.length + 1)) (he : tAt N T.length (p, s, a, b, r, t)) : tTab N (T ++ [(p, s, a, b, r, t)]) := by
  refine ⟨by rw [h1]; simp, by simp; omega, fun k e hk => ?_⟩
  rcases Nat.lt_or_ge k T.length with g | g
  · rw [List.getElem?_append_left g] at hk
    obtain ⟨a1, a2, a3, a4, ⟨a5, a6, a7⟩, a8⟩ := h.2.2 k e hk
    refine ⟨(f 14 k (by omega) rfl).trans a1, (f 15 k (by omega) rfl).trans a2, (f 16 k (by omega) rfl).trans a3, (f 17 k (by omega) rfl).trans a4, ⟨(f 18 _ (by omega) rfl).trans a5, a6, fun i x hi => (f 18 _ ?_ rfl).trans (a7 i x hi)⟩, (f 19 k (by omega) rfl).trans a8⟩
    have := (List.getElem?_eq_some_iff.mp hi).1
    omega
  · rw [List.getElem?_append_right g] at hk
    have : k = T.length := by
      have := (List.getElem?_eq_some_iff.mp hk).1
      simp at this
      omega
    subst this
    simp at hk
    subst hk
    exact he
set_option maxRecDepth 4000 in
theorem k_MD_come (hG : zOK G) (hT : twOK q h) (hN : tTab N T) (hS : tSto N L) (h24 : T.length ≤ 24) (hl : L.length < 1024) (p s a b : Int32) :
    zJ G 2 m_MD_come 0 [some (zA q), some (zI p), some (zI s), some (zI a), some (zI b), none, none] [] (twp q h N) (fun o h' => ∃ v N', o = zR (zI v) ∧ h' = twp q h N' ∧ (v = nI T.length ∧ tTab N' (T ++ [tnew (N 0 27) L p s a b]) ∧ tSto N' (tnewL (N 0 27) L s a b) ∧ tFr pTS N N')) := by
  have hF := hN.1
  refine zj_aload_n hG d_MD_come_0 rfl rfl ?_
  refine t_getI hG hT d_MD_come_1 f_MD_108 rfl ?_
  refine zj_istore hG d_MD_come_4 (by decide) rfl rfl ?_
  refine zj_aload_n hG d_MD_come_6 rfl rfl ?_
  refine zj_dup hG d_MD_come_7 (by first | exact zc_A _ | rfl) ?_
  refine t_getI hG hT d_MD_come_8 f_MD_108 rfl ?_
  refine zj_iconst (v := 1) hG d_MD_come_11 rfl ?_
  refine zj_iadd hG d_MD_come_12 ?_
  refine t_putI hG hT d_MD_come_13 f_MD_108 rfl rfl ?_
  refine zj_aload_n hG d_MD_come_16 rfl rfl ?_
  refine t_getA (o := 14) hG hT d_MD_come_17 f_MD_53 rfl rfl ?_
  refine zj_iload hG d_MD_come_20 rfl ?_
  refine zj_iload_n hG d_MD_come_22 rfl rfl ?_
  refine t_ast (T.length) hG hT d_MD_come_23 (by first | decide | omega) (by first | decide | omega) hF (by show _ < 26; omega) ?_
  refine zj_aload_n hG d_MD_come_24 rfl rfl ?_
  refine t_getA (o := 15) hG hT d_MD_come_25 f_MD_56 rfl rfl ?_
  refine zj_iload hG d_MD_come_28 rfl ?_
  refine zj_iload_n hG d_MD_come_30 rfl rfl ?_
  refine t_ast (T.length) hG hT d_MD_come_31 (by first | decide | omega) (by first | decide | omega) hF (by show _ < 26; omega) ?_
  refine zj_aload_n hG d_MD_come_32 rfl rfl ?_
  refine t_getA (o := 16) hG hT d_MD_come_33 f_MD_59 rfl rfl ?_
  refine zj_iload hG d_MD_come_36 rfl ?_
  refine zj_iload_n hG d_MD_come_38 rfl rfl ?_
  refine t_ast (T.length) hG hT d_MD_come_39 (by first | decide | omega) (by first | decide | omega) hF (by show _ < 26; omega) ?_
  refine zj_aload_n hG d_MD_come_40 rfl rfl ?_
  refine t_getA (o := 17) hG hT d_MD_come_41 f_MD_62 rfl rfl ?_
  refine zj_iload hG d_MD_come_44 rfl ?_
  refine zj_iload hG d_MD_come_46 rfl ?_
  refine t_ast (T.length) hG hT d_MD_come_48 (by first | decide | omega) (by first | decide | omega) hF (by show _ < 26; omega) ?_
  refine zj_iconst (v := 0) hG d_MD_come_49 rfl ?_
  refine zj_istore hG d_MD_come_50 (by decide) rfl rfl ?_
  rw [hF, nI_1]
  generalize hM : zu (zu (zu (zu (zu N 0 18 (nI (T.length + 1))) 14 T.length p) 15 T.length s) 16 T.length a) 17 T.length b = M
  have hMf : ∀ o i, o = 18 ∨ o = 19 ∨ pT o i = false ∨ (o ≠ 0 ∧ i ≠ T.length) → M o i = N o i := by
    intro o i ho
    rw [← hM]
    have hp : pT o i = false → ¬ (14 ≤ o ∧ o ≤ 19) ∧ ¬ (o = 0 ∧ i = 18) := by
      intro e
      simp [pT] at e
      omega
    have ho' : o = 18 ∨ o = 19 ∨ (¬ (14 ≤ o ∧ o ≤ 19) ∧ ¬ (o = 0 ∧ i = 18)) ∨ (o ≠ 0 ∧ i ≠ T.length) := by
      rcases ho with g | g | g | g
      · exact Or.inl g
      · exact Or.inr (Or.inl g)
      · exact Or.inr (Or.inr (Or.inl (hp g)))
      · exact Or.inr (Or.inr (Or.inr g))
    clear ho hp
    simp only [zu]
    repeat rw [if_neg (by omega)]
  have hM0 : M 0 18 = nI (T.length + 1) := by rw [← hM]; simp [zu]
  have hM14 : M 14 T.length = p := by rw [← hM]; simp [zu]
  have hM15 : M 15 T.length = s := by rw [← hM]; simp [zu]
  have hM16 : M 16 T.length = a := by rw [← hM]; simp [zu]
  have hM17 : M 17 T.length = b := by rw [← hM]; simp [zu]
  have key := k_MD_comeL (N := M) (v1 := zI p) (v2 := zI s) (v3 := zI a) (v4 := zI b) (Q := (fun o h' => ∃ v N', o = zR (zI v) ∧ h' = twp q h N' ∧ (v = nI T.length ∧ tTab N' (T ++ [tnew (N 0 27) L p s a b]) ∧ tSto N' (tnewL (N 0 27) L s a b) ∧ tFr pTS N N'))) hG hT (k := T.length) (by omega) ?_ 7 0 (by omega)
  · rw [tcl_0] at key
    exact key
  clear hM
  intro w
  generalize hM2 : tcl M 18 (7 * T.length) 7 = M2
  have hM2f : ∀ o i, ¬ (o = 18 ∧ 7 * T.length ≤ i ∧ i < 7 * T.length + 7) → M2 o i = M o i := by
    intro o i ho
    rw [← hM2]
    exact if_neg ho
  have hM2z : ∀ i, i < 7 → M2 18 (7 * T.length + i) = 0 := by
    intro i hi
    rw [← hM2]
    exact if_pos (by omega)
  clear hM2
  -- what is done once the row stands
  have fin : ∀ (M3 : Nat → Nat → Int32), (∀ o i, o ≠ 18 → M3 o i = M2 o i) → (∀ i, ¬ (7 * T.length ≤ i ∧ i < 7 * T.length + 7) → M3 18 i = M2 18 i) → tRow M3 18 (7 * T.length) (trow0 s a b) → zJ G 2 m_MD_come 112 [some (zA q), some (zI p), some (zI s), some (zI a), some (zI b), some (zI (nI T.length)), some w] [] (twp q h M3) (fun o h' => ∃ v N', o = zR (zI v) ∧ h' = twp q h N' ∧ (v = nI T.length ∧ tTab N' (T ++ [tnew (N 0 27) L p s a b]) ∧ tSto N' (tnewL (N 0 27) L s a b) ∧ tFr pTS N N')) := by
    intro M3 f1 f2 hr
    have f3 : tFr pT N M3 := by
      intro o i e
      have e' : ¬ (14 ≤ o ∧ o ≤ 19) ∧ ¬ (o = 0 ∧ i = 18) := by
        simp [pT] at e
        omega
      rw [f1 o i (by omega), hM2f o i (by omega), hMf o i (Or.inr (Or.inr (Or.inl e)))]
    have hm3 : M3 0 27 = N 0 27 := f3 0 27 rfl
    have hS3 : tSto M3 L := hS.fr f3 (by intro o i e; simp [pS] at e; simp [pT]; omega)
    -- the end, from a memory with the store's work done
    have fin2 : ∀ (M4 : Nat → Nat → Int32) (t : Int32), tFr pS M3 M4 → t = (if N 0 27 = 2 then nI (L.idxOf (tx0 s a b)) else 0) → tSto M4 (tnewL (N 0 27) L s a b) → zJ G 2 m_MD_come 157 [some (zA q), some (zI p), some (zI s), some (zI a), some (zI b), some (zI (nI T.length)), some w] [zI t, zI (nI T.length), zA (q + 19)] (twp q h M4) (fun o h' => ∃ v N', o = zR (zI v) ∧ h' = twp q h N' ∧ (v = nI T.length ∧ tTab N' (T ++ [tnew (N 0 27) L p s a b]) ∧ tSto N' (tnewL (N 0 27) L s a b) ∧ tFr pTS N N')) := by
      intro M4 t g1 g2 g3
      refine t_ast (T.length) hG hT d_MD_come_157 (by first | decide | omega) (by first | decide | omega) rfl (by show _ < 26; omega) ?_
      refine zj_iload hG d_MD_come_158 rfl ?_
      refine zj_iret hG d_MD_come_160 rfl rfl ⟨_, _, rfl, rfl, rfl, ?_, ?_, ?_⟩
      · unfold tnew
        rw [← g2]
        have k1 : ∀ o i, pT o i = true → ¬ (o = 19 ∧ i = T.length) → zu M4 19 T.length t o i = M3 o i := by
          intro o i e e2
          unfold zu
          rw [if_neg e2]
          refine g1 o i ?_
          simp [pT] at e
          simp [pS]
          omega
        refine tTab_come hN h24 ?_ ?_ ⟨?_, ?_, ?_, ?_, ⟨?_, hr.2.1, ?_⟩, ?_⟩
        · intro o i e e2
          rw [k1 o i e2 (by omega)]
          by_cases e3 : o = 18
          · subst e3
            rw [f2 i (by omega), hM2f _ _ (by omega), hMf _ _ (Or.inl rfl)]
          · have e4 : 14 ≤ o ∧ o ≤ 19 := by
              simp [pT] at e2
              omega
            rw [f1 o i e3, hM2f _ _ (by omega)]
            by_cases e5 : o = 19
            · exact hMf _ _ (Or.inr (Or.inl e5))
            · exact hMf _ _ (Or.inr (Or.inr (Or.inr ⟨by omega, by omega⟩)))
        · rw [k1 0 18 rfl (by omega), f1 _ _ (by omega), hM2f _ _ (by omega), hM0]
        · rw [k1 14 _ rfl (by omega), f1 _ _ (by omega), hM2f _ _ (by omega), hM14]
        · rw [k1 15 _ rfl (by omega), f1 _ _ (by omega), hM2f _ _ (by omega), hM15]
        · rw [k1 16 _ rfl (by omega), f1 _ _ (by omega), hM2f _ _ (by omega), hM16]
        · rw [k1 17 _ rfl (by omega), f1 _ _ (by omega), hM2f _ _ (by omega), hM17]
        · rw [k1 18 _ rfl (by omega), hr.1]
        · intro i x hi
          rw [k1 18 _ rfl (by omega), hr.2.2 i x hi]
        · exact zu_s
      · exact g3.fr (P := pT) (tFr.put tFr.rfl' rfl) (by intro o i e; simp [pS] at e; simp [pT]; omega)
      · refine tFr.put ?_ rfl
        exact (f3.mono (by intro o i e; simp [pTS] at e; exact e.1)).trans (g1.mono (by intro o i e; simp [pTS] at e; exact e.2))
    refine zj_aload_n hG d_MD_come_112 rfl rfl ?_
    refine t_getA (o := 19) hG hT d_MD_come_113 f_MD_68 rfl rfl ?_
    refine zj_iload hG d_MD_come_116 rfl ?_
    refine zj_aload_n hG d_MD_come_118 rfl rfl ?_
    refine t_getI hG hT d_MD_come_119 f_MD_118 rfl ?_
    refine zj_iconst (v := 2) hG d_MD_come_122 rfl ?_
    rw [hm3]
    refine zj_icmp_eq (tgt := 130) hG d_MD_come_123 (by decide) (fun c123 => ?_) (fun c123 => ?_)
    · have hnew : tnewL (N 0 27) L s a b = tkn L (tx0 s a b) := if_pos c123
      refine zj_iload_n hG d_MD_come_130 rfl rfl ?_
      refine zj_if_ne (tgt := 147) hG d_MD_come_131 (by decide) (fun c131 => ?_) (fun c131 => ?_)
      · refine zj_aload_n hG d_MD_come_147 rfl rfl ?_
        refine zj_iconst (v := 2) hG d_MD_come_148 rfl ?_
        refine zj_iconst (v := 0) hG d_MD_come_149 rfl ?_
        refine zj_iconst (v := 0) hG d_MD_come_150 rfl ?_
        refine zj_iconst (v := 0) hG d_MD_come_151 rfl ?_
        refine zj_iconst (v := 0) hG d_MD_come_152 rfl ?_
        refine zj_iconst (v := 0) hG d_MD_come_153 rfl ?_
        refine zj_callT (y' := m_MD_known) hG (zcP (as := [_, _, _, _, _, _]) hG d_MD_come_154 c_MD_known (z_w7 29 rfl) (z_w7 31 rfl) (z_w7 30 rfl) (z_w7 8 rfl) rfl ⟨by decide, by decide⟩ hT.1 (by decide) (by decide) (show _ = some 6 from by decide +kernel) rfl) c_MD_known rfl (by omega) rfl (z_le rfl) (z_le rfl) (k_MD_known hG hT hS3 hl _ _ _ _ _ _) (fun v154 N154 e154 => ?_)
        obtain ⟨r1, r2, r3⟩ := e154
        exact fin2 N154 v154 r3 (by rw [if_pos c123, r1, tx0, if_neg c131]) (by rw [hnew, tx0, if_neg c131]; exact r2)
      · refine zj_aload_n hG d_MD_come_134 rfl rfl ?_
        refine zj_iload_n hG d_MD_come_135 rfl rfl ?_
        refine zj_iload hG d_MD_come_136 rfl ?_
        refine zj_callR (y' := m_MD_nearest) hG (zcS (as := [_, _]) hG d_MD_come_138 c_MD_nearest (z_w7 22 rfl) (z_w7 23 rfl) (z_w1 11 rfl) ⟨by decide, by decide⟩ (show _ = some 2 from by decide +kernel) rfl) c_MD_nearest rfl (by omega) rfl (z_le rfl) (z_le rfl) (k_MD_nearest hG _ _ _) ?_
        refine zj_callT (y' := m_MD_number) hG (zcP (as := [_]) hG d_MD_come_141 c_MD_number (z_w7 25 rfl) (z_w7 27 rfl) (z_w7 26 rfl) (z_w7 8 rfl) rfl ⟨by decide, by decide⟩ hT.1 (by decide) (by decide) (show _ = some 1 from by decide +kernel) rfl) c_MD_number rfl (by omega) rfl (z_le rfl) (z_le rfl) (k_MD_number hG hT hS3 hl _) (fun v141 N141 e141 => ?_)
        obtain ⟨r1, r2, r3⟩ := e141
        refine zj_goto (tgt := 157) hG d_MD_come_144 (by decide) ?_
        exact fin2 N141 v141 r3 (by rw [if_pos c123, r1, tx0, if_pos c131]) (by rw [hnew, tx0, if_pos c131]; exact r2)
    · refine zj_iconst (v := 0) hG d_MD_come_126 rfl ?_
      refine zj_goto (tgt := 157) hG d_MD_come_127 (by decide) ?_
      exact fin2 M3 0 tFr.rfl' (by rw [if_neg c123]) (by rw [tnewL, if_neg c123]; exact hS3)
  refine zj_iload_n hG d_MD_come_79 rfl rfl ?_
  refine zj_if_ne (tgt := 112) hG d_MD_come_80 (by decide) (fun c80 => ?_) (fun c80 => ?_)
  · refine fin M2 (fun _ _ _ => rfl) (fun _ _ => rfl) ?_
    rw [trow0, if_neg c80]
    exact ⟨hM2z 0 (by omega), by simp, fun i x hi => by simp at hi⟩
  · refine zj_aload_n hG d_MD_come_83 rfl rfl ?_
    refine t_getA (o := 18) hG hT d_MD_come_84 f_MD_65 rfl rfl ?_
    refine zj_bipush (v := 7) hG d_MD_come_87 rfl ?_
    refine zj_iload hG d_MD_come_89 rfl ?_
    refine zj_imul hG d_MD_come_91 ?_
    refine zj_iconst (v := 1) hG d_MD_come_92 rfl ?_
    refine t_ast (7 * T.length) hG hT d_MD_come_93 (by first | decide | omega) (by first | decide | omega) (nI_7 _) (by show _ < 182; omega) ?_
    refine zj_aload_n hG d_MD_come_94 rfl rfl ?_
    refine t_getA (o := 18) hG hT d_MD_come_95 f_MD_65 rfl rfl ?_
    refine zj_bipush (v := 7) hG d_MD_come_98 rfl ?_
    refine zj_iload hG d_MD_come_100 rfl ?_
    refine zj_imul hG d_MD_come_102 ?_
    refine zj_iconst (v := 1) hG d_MD_come_103 rfl ?_
    refine zj_iadd hG d_MD_come_104 ?_
    refine zj_iload_n hG d_MD_come_105 rfl rfl ?_
    refine zj_iload hG d_MD_come_106 rfl ?_
    refine zj_callR (y' := m_MD_nearest) hG (zcS (as := [_, _]) hG d_MD_come_108 c_MD_nearest (z_w7 22 rfl) (z_w7 23 rfl) (z_w1 11 rfl) ⟨by decide, by decide⟩ (show _ = some 2 from by decide +kernel) rfl) c_MD_nearest rfl (by omega) rfl (z_le rfl) (z_le rfl) (k_MD_nearest hG _ _ _) ?_
    refine t_ast (7 * T.length + 1) hG hT d_MD_come_111 (by first | decide | omega) (by first | decide | omega) (by rw [nI_7, nI_1]) (by show _ < 182; omega) ?_
    refine fin _ (fun o i e => ?_) (fun i e => ?_) ?_
    · simp only [zu]
      repeat rw [if_neg (by omega)]
    · simp only [zu]
      repeat rw [if_neg (by omega)]
    · rw [trow0, if_pos c80]
      refine ⟨by simp [zu]; rfl, by simp, fun i x hi => ?_⟩
      have : i = 0 := by
        have := (List.getElem?_eq_some_iff.mp hi).1
        simp at this
        omega
      subst this
      simp at hi
      subst hi
      exact zu_s
end MD3
