/-! PART 33: the reference: schemas settled -/
def tfd (e : tE) : tFd := (eP e, eS e, eL e, eH e)
def pnat (p : Int32) : Nat := p.toNatClampNeg
theorem pnat_lt {p : Int32} : pnat p < 2 ^ 31 := by
  unfold pnat
  have := p.toNatClampNeg_lt
  omega
theorem pnat_eq {p : Int32} (h : 0 ≤ p) : p = nI (pnat p) := by
  obtain ⟨j, hj, rfl⟩ := nI_of (x := p) (Int32.not_lt.mpr h)
  unfold pnat
  rw [nI_clamp hj]
/-- the place of a path among others -/
def tpl (T : List tE) (p : Int32) (n : Nat) : Nat := (T.take n).countP (fun e => tbf 5 (pnat (eP e)) (pnat p))
theorem tpl_s {T : List tE} {p : Int32} {n : Nat} (hn : n < T.length) : tpl T p (n + 1) = tpl T p n + (if tbf 5 (pnat (eP T[n])) (pnat p) = true then 1 else 0) := by
  unfold tpl
  rw [List.take_succ_eq_append_getElem hn, List.countP_append, List.countP_singleton]
theorem tpl_le (T : List tE) (p : Int32) (n : Nat) : tpl T p n ≤ n := by
  unfold tpl
  refine Nat.le_trans (List.countP_le_length) ?_
  simp
  omega
section MD20
variable {G : zG} {q : Nat} {h : zH} {N : Nat → Nat → Int32} {W : sW} {T : List tE}
set_option maxRecDepth 4000 in
theorem k_MD_settleI (hG : zOK G) (hT : twOK q h) (hN : tTab N T) (hp : ∀ e ∈ T, 0 ≤ eP e) {v : zV} {k : Nat} (hk : k < T.length) {Q : zO → zH → Prop} (nx : ∀ w, zJ G 1 m_MD_settle 67 [some (zA q), some v, some (zI (nI k)), some (zI (nI (tpl T (eP T[k]) T.length))), some w] [] (twp q h N) Q) : ∀ (n j : Nat), j + n = T.length → zJ G 1 m_MD_settle 25 [some (zA q), some v, some (zI (nI k)), some (zI (nI (tpl T (eP T[k]) j))), some (zI (nI j))] [] (twp q h N) Q := by
  have hl := hN.l
  intro n
  induction n with
  | zero =>
    intro j hj
    have : j = T.length := by omega
    subst this
    refine zj_iload hG d_MD_settle_25 rfl ?_
    refine zj_aload_n hG d_MD_settle_27 rfl rfl ?_
    refine t_getI hG hT d_MD_settle_28 f_MD_108 rfl ?_
    rw [hN.1]
    refine zj_icmp_ge (tgt := 67) hG d_MD_settle_31 (by decide) (fun _ => ?_) (fun c => absurd (nI_le (by omega) (by omega)) c)
    exact nx _
  | succ n ih =>
    intro j hj
    have hjl : j < T.length := by omega
    have i := ih (j + 1) (by omega)
    rw [tpl_s hjl] at i
    have hpj := pnat_eq (hp _ (List.getElem_mem hjl))
    have hpk := pnat_eq (hp _ (List.getElem_mem hk))
    refine zj_iload hG d_MD_settle_25 rfl ?_
    refine zj_aload_n hG d_MD_settle_27 rfl rfl ?_
    refine t_getI hG hT d_MD_settle_28 f_MD_108 rfl ?_
    rw [hN.1]
    refine zj_icmp_ge (tgt := 67) hG d_MD_settle_31 (by decide) (fun c => absurd c (nI_ge hjl (by omega))) (fun _ => ?_)
    refine zj_aload_n hG d_MD_settle_34 rfl rfl ?_
    refine t_getA (o := 14) hG hT d_MD_settle_35 f_MD_53 rfl rfl ?_
    refine zj_iload hG d_MD_settle_38 rfl ?_
    refine t_ald (j) hG hT d_MD_settle_40 (by first | decide | omega) (by first | decide | omega) rfl (by show _ < 26; omega) ?_
    refine zj_aload_n hG d_MD_settle_41 rfl rfl ?_
    refine t_getA (o := 14) hG hT d_MD_settle_42 f_MD_53 rfl rfl ?_
    refine zj_iload_n hG d_MD_settle_45 rfl rfl ?_
    refine t_ald (k) hG hT d_MD_settle_46 (by first | decide | omega) (by first | decide | omega) rfl (by show _ < 26; omega) ?_
    rw [(hN.at hjl).1, (hN.at hk).1, hpj, hpk]
    refine zj_callR (y' := m_MD_before) hG (zcS (as := [_, _]) hG d_MD_settle_47 c_MD_before (z_w7 55 rfl) (z_w7 56 rfl) (z_w1 11 rfl) ⟨by decide, by decide⟩ (show _ = some 2 from by decide +kernel) rfl) c_MD_before rfl (by omega) rfl (z_le rfl) (z_le rfl) (k_MD_before hG _ pnat_lt pnat_lt) ?_
    refine zj_if_eq (tgt := 59) hG d_MD_settle_50 (by decide) (fun c50 => ?_) (fun c50 => ?_)
    · rw [tb_f c50] at i
      rw [← hpk]
      refine zj_iload_n hG d_MD_settle_59 rfl rfl ?_
      refine zj_istore_n hG d_MD_settle_60 rfl (by decide) rfl rfl ?_
      refine zj_iinc hG d_MD_settle_61 rfl (nI_1 j) (by decide) rfl rfl ?_
      refine zj_goto (tgt := 25) hG d_MD_settle_64 (by decide) ?_
      exact i
    · rw [tb_t c50] at i
      rw [← hpk]
      refine zj_iload_n hG d_MD_settle_53 rfl rfl ?_
      refine zj_iconst (v := 1) hG d_MD_settle_54 rfl ?_
      refine zj_iadd hG d_MD_settle_55 ?_
      refine zj_goto (tgt := 60) hG d_MD_settle_56 (by decide) ?_
      rw [nI_1]
      refine zj_istore_n hG d_MD_settle_60 rfl (by decide) rfl rfl ?_
      refine zj_iinc hG d_MD_settle_61 rfl (nI_1 j) (by decide) rfl rfl ?_
      refine zj_goto (tgt := 25) hG d_MD_settle_64 (by decide) ?_
      exact i
set_option maxRecDepth 4000 in
theorem k_MD_settleO (hG : zOK G) (hT : twOK q h) (hp : ∀ e ∈ T, 0 ≤ eP e) {v : Nat} (hv : v < 8) (h24 : T.length ≤ 24) {F : List tFd} (hF : ∀ k (hk : k < T.length), F[tpl T (eP T[k]) T.length]? = some (tfd T[k])) (hlF : F.length ≤ 24) {Q : zO → zH → Prop}
    (nx : ∀ M : Nat → Nat → Int32, tTab M T → (∀ k (hk : k < T.length), M 2 (24 * v + tpl T (eP T[k]) T.length) = (tfd T[k]).1 ∧ M 3 (24 * v + tpl T (eP T[k]) T.length) = (tfd T[k]).2.1 ∧ M 4 (24 * v + tpl T (eP T[k]) T.length) = (tfd T[k]).2.2.1 ∧ M 5 (24 * v + tpl T (eP T[k]) T.length) = (tfd T[k]).2.2.2) → (∀ o i, ¬ (2 ≤ o ∧ o ≤ 5 ∧ 24 * v ≤ i ∧ i < 24 * v + 24) → M o i = N o i) → Q zR0 (twp q h M)) :
    ∀ (n k : Nat) (M : Nat → Nat → Int32) (w1 w2 : Option zV), k + n = T.length → tTab M T → (∀ k' (hk : k' < T.length), k' < k → M 2 (24 * v + tpl T (eP T[k']) T.length) = (tfd T[k']).1 ∧ M 3 (24 * v + tpl T (eP T[k']) T.length) = (tfd T[k']).2.1 ∧ M 4 (24 * v + tpl T (eP T[k']) T.length) = (tfd T[k']).2.2.1 ∧ M 5 (24 * v + tpl T (eP T[k']) T.length) = (tfd T[k']).2.2.2) → (∀ o i, ¬ (2 ≤ o ∧ o ≤ 5 ∧ 24 * v ≤ i ∧ i < 24 * v + 24) → M o i = N o i) →
    zJ G 1 m_MD_settle 12 [some (zA q), some (zI (nI v)), some (zI (nI k)), w1, w2] [] (twp q h M) Q := by
  intro n
  induction n with
  | zero =>
    intro k M w1 w2 hk h1 h2 h3
    refine zj_iload_n hG d_MD_settle_12 rfl rfl ?_
    refine zj_aload_n hG d_MD_settle_13 rfl rfl ?_
    refine t_getI hG hT d_MD_settle_14 f_MD_108 rfl ?_
    rw [h1.1]
    refine zj_icmp_ge (tgt := 141) hG d_MD_settle_17 (by decide) (fun _ => ?_) (fun c => absurd (nI_le (by omega) (by omega)) c)
    exact zj_vret hG d_MD_settle_141 rfl (nx M h1 (fun k' hk' => h2 k' hk' (by omega)) h3)
  | succ n ih =>
    intro k M w1 w2 hk h1 h2 h3
    have hkl : k < T.length := by omega
    obtain ⟨a1, a2, a3, a4, a5, a8⟩ := h1.at hkl
    have hpl : tpl T (eP T[k]) T.length < F.length := (List.getElem?_eq_some_iff.mp (hF k hkl)).1
    refine zj_iload_n hG d_MD_settle_12 rfl rfl ?_
    refine zj_aload_n hG d_MD_settle_13 rfl rfl ?_
    refine t_getI hG hT d_MD_settle_14 f_MD_108 rfl ?_
    rw [h1.1]
    refine zj_icmp_ge (tgt := 141) hG d_MD_settle_17 (by decide) (fun c => absurd c (nI_ge hkl (by omega))) (fun _ => ?_)
    refine zj_iconst (v := 0) hG d_MD_settle_20 rfl ?_
    refine zj_istore_n hG d_MD_settle_21 rfl (by decide) rfl rfl ?_
    refine zj_iconst (v := 0) hG d_MD_settle_22 rfl ?_
    refine zj_istore hG d_MD_settle_23 (by decide) rfl rfl ?_
    refine k_MD_settleI hG hT h1 hp hkl ?_ T.length 0 (by omega)
    intro w
    generalize hpg : tpl T (eP T[k]) T.length = pl at *
    refine zj_aload_n hG d_MD_settle_67 rfl rfl ?_
    refine t_getA (o := 2) hG hT d_MD_settle_68 f_MD_17 rfl rfl ?_
    refine zj_bipush (v := 24) hG d_MD_settle_71 rfl ?_
    refine zj_iload_n hG d_MD_settle_73 rfl rfl ?_
    refine zj_imul hG d_MD_settle_74 ?_
    refine zj_iload_n hG d_MD_settle_75 rfl rfl ?_
    refine zj_iadd hG d_MD_settle_76 ?_
    refine zj_aload_n hG d_MD_settle_77 rfl rfl ?_
    refine t_getA (o := 14) hG hT d_MD_settle_78 f_MD_53 rfl rfl ?_
    refine zj_iload_n hG d_MD_settle_81 rfl rfl ?_
    refine t_ald (k) hG hT d_MD_settle_82 (by first | decide | omega) (by first | decide | omega) rfl (by show _ < 26; omega) ?_
    refine t_ast (24 * v + pl) hG hT d_MD_settle_83 (by first | decide | omega) (by first | decide | omega) (by rw [nI_24, nI_add]) (by show _ < 192; omega) ?_
    refine zj_aload_n hG d_MD_settle_84 rfl rfl ?_
    refine t_getA (o := 3) hG hT d_MD_settle_85 f_MD_20 rfl rfl ?_
    refine zj_bipush (v := 24) hG d_MD_settle_88 rfl ?_
    refine zj_iload_n hG d_MD_settle_90 rfl rfl ?_
    refine zj_imul hG d_MD_settle_91 ?_
    refine zj_iload_n hG d_MD_settle_92 rfl rfl ?_
    refine zj_iadd hG d_MD_settle_93 ?_
    refine zj_aload_n hG d_MD_settle_94 rfl rfl ?_
    refine t_getA (o := 15) hG hT d_MD_settle_95 f_MD_56 rfl rfl ?_
    refine zj_iload_n hG d_MD_settle_98 rfl rfl ?_
    refine t_ald (k) hG hT d_MD_settle_99 (by first | decide | omega) (by first | decide | omega) rfl (by show _ < 26; omega) ?_
    refine t_ast (24 * v + pl) hG hT d_MD_settle_100 (by first | decide | omega) (by first | decide | omega) (by rw [nI_24, nI_add]) (by show _ < 192; omega) ?_
    refine zj_aload_n hG d_MD_settle_101 rfl rfl ?_
    refine t_getA (o := 4) hG hT d_MD_settle_102 f_MD_23 rfl rfl ?_
    refine zj_bipush (v := 24) hG d_MD_settle_105 rfl ?_
    refine zj_iload_n hG d_MD_settle_107 rfl rfl ?_
    refine zj_imul hG d_MD_settle_108 ?_
    refine zj_iload_n hG d_MD_settle_109 rfl rfl ?_
    refine zj_iadd hG d_MD_settle_110 ?_
    refine zj_aload_n hG d_MD_settle_111 rfl rfl ?_
    refine t_getA (o := 16) hG hT d_MD_settle_112 f_MD_59 rfl rfl ?_
    refine zj_iload_n hG d_MD_settle_115 rfl rfl ?_
    refine t_ald (k) hG hT d_MD_settle_116 (by first | decide | omega) (by first | decide | omega) rfl (by show _ < 26; omega) ?_
    refine t_ast (24 * v + pl) hG hT d_MD_settle_117 (by first | decide | omega) (by first | decide | omega) (by rw [nI_24, nI_add]) (by show _ < 192; omega) ?_
    refine zj_aload_n hG d_MD_settle_118 rfl rfl ?_
    refine t_getA (o := 5) hG hT d_MD_settle_119 f_MD_26 rfl rfl ?_
    refine zj_bipush (v := 24) hG d_MD_settle_122 rfl ?_
    refine zj_iload_n hG d_MD_settle_124 rfl rfl ?_
    refine zj_imul hG d_MD_settle_125 ?_
    refine zj_iload_n hG d_MD_settle_126 rfl rfl ?_
    refine zj_iadd hG d_MD_settle_127 ?_
    refine zj_aload_n hG d_MD_settle_128 rfl rfl ?_
    refine t_getA (o := 17) hG hT d_MD_settle_129 f_MD_62 rfl rfl ?_
    refine zj_iload_n hG d_MD_settle_132 rfl rfl ?_
    refine t_ald (k) hG hT d_MD_settle_133 (by first | decide | omega) (by first | decide | omega) rfl (by show _ < 26; omega) ?_
    refine t_ast (24 * v + pl) hG hT d_MD_settle_134 (by first | decide | omega) (by first | decide | omega) (by rw [nI_24, nI_add]) (by show _ < 192; omega) ?_
    refine zj_iinc hG d_MD_settle_135 rfl (nI_1 k) (by decide) rfl rfl ?_
    refine zj_goto (tgt := 12) hG d_MD_settle_138 (by decide) ?_
    rw [zu_a (show (15 : Nat) ≠ 2 by omega), zu_a (show (16 : Nat) ≠ 3 by omega), zu_a (show (16 : Nat) ≠ 2 by omega), zu_a (show (17 : Nat) ≠ 4 by omega), zu_a (show (17 : Nat) ≠ 3 by omega), zu_a (show (17 : Nat) ≠ 2 by omega), a1, a2, a3, a4]
    refine ih (k + 1) _ _ _ (by omega) (h1.fr (P := fun o _ => 2 ≤ o && o ≤ 5) (tFr.put (tFr.put (tFr.put (tFr.put tFr.rfl' rfl) rfl) rfl) rfl) (by intro o i e; simp [pT] at e; simp; omega)) (fun k' hk' g => ?_) (fun o i g => ?_)
    · by_cases e : tpl T (eP T[k']) T.length = pl
      · have e1 := hF k' hk'
        have e2 := hF k hkl
        rw [e] at e1
        rw [hpg] at e2
        have ee := Option.some.inj (e1.symm.trans e2)
        rw [e]
        refine ⟨?_, ?_, ?_, ?_⟩
        · rw [zu_a (by omega), zu_a (by omega), zu_a (by omega), zu_s]
          exact (congrArg (fun z : tFd => z.1) ee).symm
        · rw [zu_a (by omega), zu_a (by omega), zu_s]
          exact (congrArg (fun z : tFd => z.2.1) ee).symm
        · rw [zu_a (by omega), zu_s]
          exact (congrArg (fun z : tFd => z.2.2.1) ee).symm
        · rw [zu_s]
          exact (congrArg (fun z : tFd => z.2.2.2) ee).symm
      · have hk'k : k' < k := by
          rcases Nat.lt_or_ge k' k with g' | g'
          · exact g'
          · have : k' = k := by omega
            subst this
            exact absurd hpg e
        obtain ⟨d1, d2, d3, d4⟩ := h2 k' hk' hk'k
        refine ⟨?_, ?_, ?_, ?_⟩ <;> simp only [zu] <;> repeat rw [if_neg (by omega)]
        all_goals assumption
    · simp only [zu]
      repeat rw [if_neg (by omega)]
      exact h3 o i g
set_option maxRecDepth 4000 in
theorem k_MD_settle (hG : zOK G) (hT : twOK q h) (hN : tTab N T) (hp : ∀ e ∈ T, 0 ≤ eP e) {v : Nat} (hv : v < 8) (h24 : T.length ≤ 24) {F : List tFd} (hF : ∀ k (hk : k < T.length), F[tpl T (eP T[k]) T.length]? = some (tfd T[k])) (hlF : F.length = T.length) (hsur : ∀ i, i < F.length → ∃ k, ∃ hk : k < T.length, tpl T (eP T[k]) T.length = i) :
    zJ G 1 m_MD_settle 0 [some (zA q), some (zI (nI v)), none, none, none] [] (twp q h N) (fun o h' => ∃ N', o = zR0 ∧ h' = twp q h N' ∧ (tVer N' v F ∧ ∀ o i, ¬ (o = 1 ∧ i = v) → ¬ (2 ≤ o ∧ o ≤ 5 ∧ 24 * v ≤ i ∧ i < 24 * v + 24) → N' o i = N o i)) := by
  refine zj_aload_n hG d_MD_settle_0 rfl rfl ?_
  refine t_getA (o := 1) hG hT d_MD_settle_1 f_MD_13 rfl rfl ?_
  refine zj_iload_n hG d_MD_settle_4 rfl rfl ?_
  refine zj_aload_n hG d_MD_settle_5 rfl rfl ?_
  refine t_getI hG hT d_MD_settle_6 f_MD_108 rfl ?_
  refine t_ast (v) hG hT d_MD_settle_9 (by first | decide | omega) (by first | decide | omega) rfl hv ?_
  refine zj_iconst (v := 0) hG d_MD_settle_10 rfl ?_
  refine zj_istore_n hG d_MD_settle_11 rfl (by decide) rfl rfl ?_
  rw [hN.1]
  refine k_MD_settleO (N := zu N 1 v (nI T.length)) (T := T) (F := F) hG hT hp hv h24 hF (by omega) ?_ T.length 0 _ _ _ (by omega) (hN.fr (P := fun o _ => o == 1) (tFr.put tFr.rfl' rfl) (by intro o i e; simp [pT] at e; simp; omega)) (fun _ _ e => by omega) (fun _ _ _ => rfl)
  intro M g1 g2 g3
  refine ⟨M, rfl, rfl, ⟨?_, by omega, fun i f hf => ?_⟩, fun o i e1 e2 => ?_⟩
  · rw [g3 1 v (by omega), zu_s, hlF]
  · obtain ⟨k, hk, e⟩ := hsur i (List.getElem?_eq_some_iff.mp hf).1
    have e1 := hF k hk
    rw [e, hf] at e1
    cases e1
    have := g2 k hk
    rw [e] at this
    exact this
  · rw [g3 o i e2, zu, if_neg e1]
/-- whether a field may come -/
def tca (T : List tE) (p s a b : Int32) : Bool := decide (0 < tdep p) && trec T (tcut p (tdep p - 1)) && decide (tfnd T p < 0) && decide (0 ≤ s ∧ s ≤ 2 ∧ (s = 2 ∨ a ≤ b))
set_option maxRecDepth 4000 in
theorem k_MD_canAdd (hG : zOK G) (hT : twOK q h) (hN : tTab N T) (p s a b : Int32) : zJ G 2 m_MD_canAdd 0 [some (zA q), some (zI p), some (zI s), some (zI a), some (zI b), none] [] (twp q h N) (fun o h' => o = zR (zI (tb (tca T p s a b))) ∧ h' = twp q h N) := by
  have no : tca T p s a b = false → ∀ w : zV, zJ G 2 m_MD_canAdd 58 [some (zA q), some (zI p), some (zI s), some (zI a), some (zI b), some w] [] (twp q h N) (fun o h' => o = zR (zI (tb (tca T p s a b))) ∧ h' = twp q h N) := by
    intro e w
    rw [e]
    refine zj_iconst (v := 0) hG d_MD_canAdd_58 rfl ?_
    exact zj_iret hG d_MD_canAdd_59 rfl rfl ⟨rfl, rfl⟩
  refine zj_iload_n hG d_MD_canAdd_0 rfl rfl ?_
  refine zj_callR (y' := m_MD_depth) hG (zcS (as := [_]) hG d_MD_canAdd_1 c_MD_depth (z_w7 37 rfl) (z_w7 38 rfl) (z_w1 11 rfl) ⟨by decide, by decide⟩ (show _ = some 1 from by decide +kernel) rfl) c_MD_depth rfl (by omega) rfl (z_le rfl) (z_le rfl) (k_MD_depth hG _ _) ?_
  refine zj_istore hG d_MD_canAdd_4 (by decide) rfl rfl ?_
  refine zj_iload hG d_MD_canAdd_6 rfl ?_
  refine zj_if_le (tgt := 58) hG d_MD_canAdd_8 (by decide) (fun c8 => ?_) (fun c8 => ?_)
  · exact no (by simp [tca, Int32.not_lt.mpr c8]) _
  refine zj_aload_n hG d_MD_canAdd_11 rfl rfl ?_
  refine zj_iload_n hG d_MD_canAdd_12 rfl rfl ?_
  refine zj_iload hG d_MD_canAdd_13 rfl ?_
  refine zj_iconst (v := 1) hG d_MD_canAdd_15 rfl ?_
  refine zj_isub hG d_MD_canAdd_16 ?_
  refine zj_callR (y' := m_MD_cutTo) hG (zcS (as := [_, _]) hG d_MD_canAdd_17 c_MD_cutTo (z_w7 40 rfl) (z_w7 41 rfl) (z_w1 11 rfl) ⟨by decide, by decide⟩ (show _ = some 2 from by decide +kernel) rfl) c_MD_cutTo rfl (by omega) rfl (z_le rfl) (z_le rfl) (k_MD_cutTo hG _ _ _) ?_
  refine zj_callR (y' := m_MD_isRecord) hG (zcP (as := [_]) hG d_MD_canAdd_20 c_MD_isRecord (z_w7 43 rfl) (z_w7 45 rfl) (z_w7 44 rfl) (z_w7 8 rfl) rfl ⟨by decide, by decide⟩ hT.1 (by decide) (by decide) (show _ = some 1 from by decide +kernel) rfl) c_MD_isRecord rfl (by omega) rfl (z_le rfl) (z_le rfl) (k_MD_isRecord hG hT hN _) ?_
  refine zj_if_eq (tgt := 58) hG d_MD_canAdd_23 (by decide) (fun c23 => ?_) (fun c23 => ?_)
  · exact no (by simp [tca, tb_f c23]) _
  refine zj_aload_n hG d_MD_canAdd_26 rfl rfl ?_
  refine zj_iload_n hG d_MD_canAdd_27 rfl rfl ?_
  refine zj_callR (y' := m_MD_find) hG (zcP (as := [_]) hG d_MD_canAdd_28 c_MD_find (z_w7 47 rfl) (z_w7 49 rfl) (z_w7 48 rfl) (z_w7 8 rfl) rfl ⟨by decide, by decide⟩ hT.1 (by decide) (by decide) (show _ = some 1 from by decide +kernel) rfl) c_MD_find rfl (by omega) rfl (z_le rfl) (z_le rfl) (k_MD_find hG hT hN _) ?_
  refine zj_if_ge (tgt := 58) hG d_MD_canAdd_31 (by decide) (fun c31 => ?_) (fun c31 => ?_)
  · exact no (by simp [tca, Int32.not_lt.mpr c31]) _
  refine zj_iload_n hG d_MD_canAdd_34 rfl rfl ?_
  refine zj_if_lt (tgt := 58) hG d_MD_canAdd_35 (by decide) (fun c35 => ?_) (fun c35 => ?_)
  · exact no (by simp [tca, Int32.not_le.mpr c35]) _
  refine zj_iload_n hG d_MD_canAdd_38 rfl rfl ?_
  refine zj_iconst (v := 2) hG d_MD_canAdd_39 rfl ?_
  refine zj_icmp_gt (tgt := 58) hG d_MD_canAdd_40 (by decide) (fun c40 => ?_) (fun c40 => ?_)
  · exact no (by simp [tca, Int32.not_le.mpr c40]) _
  have yes : (s = 2 ∨ a ≤ b) → ∀ w : zV, zJ G 2 m_MD_canAdd 54 [some (zA q), some (zI p), some (zI s), some (zI a), some (zI b), some w] [] (twp q h N) (fun o h' => o = zR (zI (tb (tca T p s a b))) ∧ h' = twp q h N) := by
    intro e w
    have : tca T p s a b = true := by
      simp only [tca, Bool.and_eq_true, decide_eq_true_eq]
      exact ⟨⟨⟨Int32.not_le.mp c8, tb_t c23⟩, Int32.not_le.mp c31⟩, Int32.not_lt.mp c35, Int32.not_lt.mp c40, e⟩
    rw [this]
    refine zj_iconst (v := 1) hG d_MD_canAdd_54 rfl ?_
    refine zj_goto (tgt := 59) hG d_MD_canAdd_55 (by decide) ?_
    exact zj_iret hG d_MD_canAdd_59 rfl rfl ⟨rfl, rfl⟩
  refine zj_iload_n hG d_MD_canAdd_43 rfl rfl ?_
  refine zj_iconst (v := 2) hG d_MD_canAdd_44 rfl ?_
  refine zj_icmp_eq (tgt := 54) hG d_MD_canAdd_45 (by decide) (fun c45 => ?_) (fun c45 => ?_)
  · exact yes (Or.inl c45) _
  refine zj_iload_n hG d_MD_canAdd_48 rfl rfl ?_
  refine zj_iload hG d_MD_canAdd_49 rfl ?_
  refine zj_icmp_gt (tgt := 58) hG d_MD_canAdd_51 (by decide) (fun c51 => ?_) (fun c51 => ?_)
  · exact no (by simp [tca, c45, Int32.not_le.mpr c51]) _
  · exact yes (Or.inr (Int32.not_lt.mp c51)) _
end MD20
