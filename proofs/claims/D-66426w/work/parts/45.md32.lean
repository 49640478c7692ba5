/-! PART 45: the reference: clash -/
/-- a version's own terms as a table, the store going on from L -/
def oTm (W : sW) (v : Nat) (L : List tQ) : List tE × List tQ := ((ttt (ttk 2 L ((wV W)[v]?.getD [])).2 (ttk 2 L ((wV W)[v]?.getD [])).1).1, (ttt (ttk 2 L ((wV W)[v]?.getD [])).2 (ttk 2 L ((wV W)[v]?.getD [])).1).2.1)
/-- the step's own way, then the other way -/
def oClX (W : sW) (i : Nat) (s : sSt) : tXt := trun 2 (tacs i s.2.2 true 0 s.2.2.length) ((oTm W s.1 []).1, (oTm W s.1 []).2, fun _ => tK0, 0)
def oClY (W : sW) (i : Nat) (s : sSt) (z : List Nat × List Nat) : tXt := trun 2 (trac (wS W) z.1 z.2) ((oTm W s.1 (oClX W i s).2.1).1, (oTm W s.1 (oClX W i s).2.1).2, fun _ => tK0, 0)
def tsm (T1 T2 : List tE) (F : List tFd) (n : Nat) : Bool := (F.take n).all (fun f => decide (f.2.1 = 2 ∨ eT (tel T1 f.1) = eT (tel T2 f.1)))
theorem tsm_s {T1 T2 : List tE} {F : List tFd} {n : Nat} (hn : n < F.length) : tsm T1 T2 F (n + 1) = (tsm T1 T2 F n && decide ((F[n]).2.1 = 2 ∨ eT (tel T1 (F[n]).1) = eT (tel T2 (F[n]).1))) := by
  unfold tsm
  rw [List.take_succ_eq_append_getElem hn, List.all_append]
  simp
def oClash (W : sW) (x : Int32) : Int32 × Int32 := if 0 ≤ x ∧ x < nI (wS W).length then (0, match (wS W)[x.toNatClampNeg]? with
  | none => 0
  | some s => match oWay W x s.1 s.2.1 with
    | none => -1
    | some z => if tsm (oClX W x.toNatClampNeg s).1 (oClY W x.toNatClampNeg s z).1 ((wV W)[s.2.1]?.getD []) ((wV W)[s.2.1]?.getD []).length = true then 0 else 1) else (1, 0)
section MD32
variable {G : zG} {q : Nat} {h : zH} {N : Nat → Nat → Int32} {W : sW}
/-- with terms what is kept plays no part -/
theorem tra_2 (T : List tE) (L : List tQ) (K K' : Nat → tK) (c c' : Int32) (a : tAc) : tra 2 (T, L, K, c) a = ((tra 2 (T, L, K', c') a).1, (tra 2 (T, L, K', c') a).2.1, K, c) := by
  have h2 : ¬ (2 : Int32) = 1 := by decide
  unfold tra
  split
  · rw [tfo, tfo]
    simp only
    split
    · rfl
    · split
      · simp [tarr, h2]
      · split
        · simp [tdpt, h2]
        · split
          · simp [twrp, h2]
          · split
            · simp [tsp, h2]
            · split
              · simp [tbnd, tch, h2]
              · simp [tch, h2]
  · rw [tba, tba]
    simp only
    split
    · rfl
    · split
      · simp [tdpt, h2]
      · split
        · simp [tarr, h2]
        · split
          · simp [tuwp, h2]
          · split
            · simp [tjn, h2]
            · split
              · simp [tbnd, tch, h2]
              · simp [tch, h2]
theorem trun_2 : ∀ (as : List tAc) (T : List tE) (L : List tQ) (K K' : Nat → tK) (c c' : Int32), trun 2 as (T, L, K, c) = ((trun 2 as (T, L, K', c')).1, (trun 2 as (T, L, K', c')).2.1, K, c) := by
  intro as
  induction as with
  | nil => intro T L K K' c c'; rfl
  | cons a t ih =>
    intro T L K K' c c'
    simp only [trun, List.foldl_cons] at ih ⊢
    rw [tra_2 T L K K' c c' a]
    generalize tra 2 (T, L, K', c') a = Y at *
    obtain ⟨Y1, Y2, Y3, Y4⟩ := Y
    simp only
    rw [ih Y1 Y2 K Y3 c Y4]
theorem tGo_2 : ∀ (as : List tAc) (T : List tE) (L : List tQ) (K K' : Nat → tK) (c c' : Int32), tGo 2 as (T, L, K', c') → tGo 2 as (T, L, K, c) := by
  intro as
  induction as with
  | nil => intro T L K K' c c' _; trivial
  | cons a t ih =>
    intro T L K K' c c' hg
    obtain ⟨⟨g1, g2, g3⟩, g4⟩ := hg
    refine ⟨⟨⟨g1.1, fun e => absurd e (by decide)⟩, g2, g3⟩, ?_⟩
    rw [tra_2 T L K K' c c' a]
    generalize tra 2 (T, L, K', c') a = Y at *
    obtain ⟨Y1, Y2, Y3, Y4⟩ := Y
    exact ih Y1 Y2 K Y3 c Y4 g4
set_option maxRecDepth 4000 in
theorem k_MD_cl1 (hG : zOK G) (hT : twOK q h) (hW : tW N W) (hm : N 0 27 = 2) {s : Nat} {x : sSt} (hx : (wS W)[s]? = some x) {x3 : Int32} {v2 : zV} {Q : zO → zH → Prop} {X0 : tXt}
    (nx : ∀ (M : Nat → Nat → Int32) (w : zV), tFr pA N M → tX M X0 → zJ G 6 m_MD_clash 81 [some (zA q), some (zI (nI s)), some v2, some (zI x3), some w, none] [] (twp q h M) Q) :
    ∀ (n i : Nat) (M : Nat → Nat → Int32) (X : tXt), i + n = x.2.2.length → tFr pA N M → tX M X → tGo 2 (tacs s x.2.2 true i n) X → trun 2 (tacs s x.2.2 true i n) X = X0 → zJ G 6 m_MD_clash 57 [some (zA q), some (zI (nI s)), some v2, some (zI x3), some (zI (nI i)), none] [] (twp q h M) Q := by
  have hs := (List.getElem?_eq_some_iff.mp hx).1
  have hs' : s < (wS W).length := hs
  have h16 := hW.2.2.2.1.2
  obtain ⟨e1, e2, e3, e4, e5⟩ := hW.2.2.2.2.1 s x hx
  intro n
  induction n with
  | zero =>
    intro i M X hi fr hX hg hr
    have hsz : M 8 s = nI x.2.2.length := (fr 8 s rfl).trans e3
    refine zj_iload hG d_MD_clash_57 rfl ?_
    refine zj_aload_n hG d_MD_clash_59 rfl rfl ?_
    refine t_getA (o := 8) hG hT d_MD_clash_60 f_MD_35 rfl rfl ?_
    refine zj_iload_n hG d_MD_clash_63 rfl rfl ?_
    refine t_ald (s) hG hT d_MD_clash_64 (by first | decide | omega) (by first | decide | omega) rfl (by show _ < 17; omega) ?_
    rw [hsz]
    refine zj_icmp_ge (tgt := 81) hG d_MD_clash_65 (by decide) (fun _ => ?_) (fun c => absurd (nI_le (by omega) (by omega)) c)
    have : X = X0 := by
      rw [← hr]
      rfl
    subst this
    exact nx M _ fr hX
  | succ n ih =>
    intro i M X hi fr hX hg hr
    have hil : i < x.2.2.length := by omega
    have hsz : M 8 s = nI x.2.2.length := (fr 8 s rfl).trans e3
    have hm2 : M 0 27 = 2 := (fr 0 27 rfl).trans hm
    have hc : tacs s x.2.2 true i (n + 1) = tact s x.2.2 true i :: tacs s x.2.2 true (i + 1) n := by
      rw [tacs, List.range'_succ]
      rfl
    have ha : tact s x.2.2 true i = (true, s, i, x.2.2[i]) := by
      rw [tact, List.getElem?_eq_getElem hil]
      rfl
    rw [hc, ha] at hg hr
    obtain ⟨⟨g1, g2, g3⟩, g4⟩ := hg
    have hp := (e5 i _ (List.getElem?_eq_getElem hil)).fr fr (fun _ => rfl)
    refine zj_iload hG d_MD_clash_57 rfl ?_
    refine zj_aload_n hG d_MD_clash_59 rfl rfl ?_
    refine t_getA (o := 8) hG hT d_MD_clash_60 f_MD_35 rfl rfl ?_
    refine zj_iload_n hG d_MD_clash_63 rfl rfl ?_
    refine t_ald (s) hG hT d_MD_clash_64 (by first | decide | omega) (by first | decide | omega) rfl (by show _ < 17; omega) ?_
    rw [hsz]
    refine zj_icmp_ge (tgt := 81) hG d_MD_clash_65 (by decide) (fun c => absurd c (nI_ge hil (by omega))) (fun _ => ?_)
    refine zj_aload_n hG d_MD_clash_68 rfl rfl ?_
    refine zj_iload_n hG d_MD_clash_69 rfl rfl ?_
    refine zj_iload hG d_MD_clash_70 rfl ?_
    refine zj_callU (y' := m_MD_forth) hG (zcP (as := [_, _]) hG d_MD_clash_72 c_MD_forth (z_w7 74 rfl) (z_w7 76 rfl) (z_w7 75 rfl) (z_w7 8 rfl) rfl ⟨by decide, by decide⟩ hT.1 (by decide) (by decide) (show _ = some 2 from by decide +kernel) rfl) c_MD_forth rfl (by omega) rfl (z_le rfl) (z_le rfl) (k_MD_forth hG hT hX (by rw [hm2]; exact g1) g2 (by omega) hp (by omega) g3) (fun N72 e72 => ?_)
    obtain ⟨r1, r2⟩ := e72
    rw [hm2] at r1
    refine zj_iinc hG d_MD_clash_75 rfl (nI_1 i) (by decide) rfl rfl ?_
    refine zj_goto (tgt := 57) hG d_MD_clash_78 (by decide) ?_
    exact ih (i + 1) N72 _ (by omega) (fr.trans r2) r1 g4 hr
set_option maxRecDepth 4000 in
theorem k_MD_cl2 (hG : zOK G) (hT : twOK q h) {v : Nat} {F : List tFd} {T : List tE} (hv : v < 8) (hF : tVer N v F) (hN : tTab N T) (hfd : ∀ f ∈ F, tix T f.1 < T.length) {v1 v2 : zV} {Q : zO → zH → Prop}
    (nx : ∀ (M : Nat → Nat → Int32) (w : zV), (∀ o i, o ≠ 24 → M o i = N o i) → (∀ k (hk : k < F.length), M 24 k = eT (tel T (F[k]).1)) → zJ G 6 m_MD_clash 129 [some (zA q), some v1, some v2, some (zI (nI v)), some w, none] [] (twp q h M) Q) :
    ∀ (n k : Nat) (M : Nat → Nat → Int32), k + n = F.length → (∀ o i, o ≠ 24 → M o i = N o i) → (∀ k' (hk : k' < F.length), k' < k → M 24 k' = eT (tel T (F[k']).1)) → zJ G 6 m_MD_clash 84 [some (zA q), some v1, some v2, some (zI (nI v)), some (zI (nI k)), none] [] (twp q h M) Q := by
  obtain ⟨f1, f2, f3⟩ := hF
  intro n
  induction n with
  | zero =>
    intro k M hk f hr
    refine zj_iload hG d_MD_clash_84 rfl ?_
    refine zj_aload_n hG d_MD_clash_86 rfl rfl ?_
    refine t_getA (o := 1) hG hT d_MD_clash_87 f_MD_13 rfl rfl ?_
    refine zj_iload_n hG d_MD_clash_90 rfl rfl ?_
    refine t_ald (v) hG hT d_MD_clash_91 (by first | decide | omega) (by first | decide | omega) rfl hv ?_
    rw [f _ _ (by omega), f1]
    refine zj_icmp_ge (tgt := 129) hG d_MD_clash_92 (by decide) (fun _ => ?_) (fun c => absurd (nI_le (by omega) (by omega)) c)
    exact nx M _ f (fun k' hk' => hr k' hk' (by omega))
  | succ n ih =>
    intro k M hk f hr
    have hkl : k < F.length := by omega
    obtain ⟨b1, -⟩ := f3 k _ (List.getElem?_eq_getElem hkl)
    have hix := hfd _ (List.getElem_mem hkl)
    have hTM : tTab M T := hN.fr (P := fun o _ => o == 24) (fun o i e => f o i (by simp at e; omega)) (by intro o i e; simp [pT] at e; simp; omega)
    have hlT := hTM.l
    have a8 := (hTM.at hix).2.2.2.2.2
    rw [← tel_eq hix] at a8
    refine zj_iload hG d_MD_clash_84 rfl ?_
    refine zj_aload_n hG d_MD_clash_86 rfl rfl ?_
    refine t_getA (o := 1) hG hT d_MD_clash_87 f_MD_13 rfl rfl ?_
    refine zj_iload_n hG d_MD_clash_90 rfl rfl ?_
    refine t_ald (v) hG hT d_MD_clash_91 (by first | decide | omega) (by first | decide | omega) rfl hv ?_
    rw [f _ _ (by omega), f1]
    refine zj_icmp_ge (tgt := 129) hG d_MD_clash_92 (by decide) (fun c => absurd c (nI_ge hkl (by omega))) (fun _ => ?_)
    refine zj_aload_n hG d_MD_clash_95 rfl rfl ?_
    refine t_getA (o := 24) hG hT d_MD_clash_96 f_MD_83 rfl rfl ?_
    refine zj_iload hG d_MD_clash_99 rfl ?_
    refine zj_aload_n hG d_MD_clash_101 rfl rfl ?_
    refine t_getA (o := 19) hG hT d_MD_clash_102 f_MD_68 rfl rfl ?_
    refine zj_aload_n hG d_MD_clash_105 rfl rfl ?_
    refine zj_aload_n hG d_MD_clash_106 rfl rfl ?_
    refine t_getA (o := 2) hG hT d_MD_clash_107 f_MD_17 rfl rfl ?_
    refine zj_bipush (v := 24) hG d_MD_clash_110 rfl ?_
    refine zj_iload_n hG d_MD_clash_112 rfl rfl ?_
    refine zj_imul hG d_MD_clash_113 ?_
    refine zj_iload hG d_MD_clash_114 rfl ?_
    refine zj_iadd hG d_MD_clash_116 ?_
    refine t_ald (24 * v + k) hG hT d_MD_clash_117 (by first | decide | omega) (by first | decide | omega) (by rw [nI_24, nI_add]) (by show _ < 192; omega) ?_
    rw [f _ _ (by omega), b1]
    refine zj_callR (y' := m_MD_find) hG (zcP (as := [_]) hG d_MD_clash_118 c_MD_find (z_w7 47 rfl) (z_w7 49 rfl) (z_w7 48 rfl) (z_w7 8 rfl) rfl ⟨by decide, by decide⟩ hT.1 (by decide) (by decide) (show _ = some 1 from by decide +kernel) rfl) c_MD_find rfl (by omega) rfl (z_le rfl) (z_le rfl) (k_MD_find hG hT hTM _) ?_
    rw [tix_fnd hix]
    refine t_ald (tix T (F[k]).1) hG hT d_MD_clash_121 (by first | decide | omega) (by first | decide | omega) rfl (by show _ < 26; omega) ?_
    refine t_ast (k) hG hT d_MD_clash_122 (by first | decide | omega) (by first | decide | omega) rfl (by show _ < 24; omega) ?_
    refine zj_iinc hG d_MD_clash_123 rfl (nI_1 k) (by decide) rfl rfl ?_
    refine zj_goto (tgt := 84) hG d_MD_clash_126 (by decide) ?_
    rw [a8]
    refine ih (k + 1) _ (by omega) (fun o i e => by rw [zu_a e]; exact f o i e) (fun k' hk' g => ?_)
    by_cases e : k' = k
    · subst e
      exact zu_s
    · rw [zu_k e]
      exact hr k' hk' (by omega)
set_option maxRecDepth 4000 in
theorem k_MD_cl3 (hG : zOK G) (hT : twOK q h) {v : Nat} {F : List tFd} {T1 T2 : List tE} (hv : v < 8) (hF : tVer N v F) (hN : tTab N T2) (hfd : ∀ f ∈ F, tix T2 f.1 < T2.length) (h24 : ∀ k (hk : k < F.length), N 24 k = eT (tel T1 (F[k]).1)) {v1 v2 : zV} :
    ∀ (n k : Nat), k + n = F.length → zJ G 6 m_MD_clash 156 [some (zA q), some v1, some v2, some (zI (nI v)), some (zI (tb (tsm T1 T2 F k))), some (zI (nI k))] [] (twp q h N) (fun o h' => o = zR (zI (if tsm T1 T2 F F.length = true then 0 else 1)) ∧ h' = twp q h N) := by
  have hlT := hN.l
  obtain ⟨f1, f2, f3⟩ := hF
  intro n
  induction n with
  | zero =>
    intro k hk
    have : k = F.length := by omega
    subst this
    refine zj_iload hG d_MD_clash_156 rfl ?_
    refine zj_aload_n hG d_MD_clash_158 rfl rfl ?_
    refine t_getA (o := 1) hG hT d_MD_clash_159 f_MD_13 rfl rfl ?_
    refine zj_iload_n hG d_MD_clash_162 rfl rfl ?_
    refine t_ald (v) hG hT d_MD_clash_163 (by first | decide | omega) (by first | decide | omega) rfl hv ?_
    rw [f1]
    refine zj_icmp_ge (tgt := 232) hG d_MD_clash_164 (by decide) (fun _ => ?_) (fun c => absurd (nI_le (by omega) (by omega)) c)
    refine zj_iload hG d_MD_clash_232 rfl ?_
    refine zj_if_eq (tgt := 241) hG d_MD_clash_234 (by decide) (fun c234 => ?_) (fun c234 => ?_)
    · rw [if_neg (by rw [tb_f c234]; decide)]
      refine zj_iconst (v := 1) hG d_MD_clash_241 rfl ?_
      exact zj_iret hG d_MD_clash_242 rfl rfl ⟨rfl, rfl⟩
    · rw [if_pos (tb_t c234)]
      refine zj_iconst (v := 0) hG d_MD_clash_237 rfl ?_
      refine zj_goto (tgt := 242) hG d_MD_clash_238 (by decide) ?_
      exact zj_iret hG d_MD_clash_242 rfl rfl ⟨rfl, rfl⟩
  | succ n ih =>
    intro k hk
    have hkl : k < F.length := by omega
    obtain ⟨b1, b2, -⟩ := f3 k _ (List.getElem?_eq_getElem hkl)
    have hix := hfd _ (List.getElem_mem hkl)
    have a8 := (hN.at hix).2.2.2.2.2
    rw [← tel_eq hix] at a8
    have i := ih (k + 1) (by omega)
    rw [tsm_s hkl] at i
    have no : (tsm T1 T2 F k && decide ((F[k]).2.1 = 2 ∨ eT (tel T1 (F[k]).1) = eT (tel T2 (F[k]).1))) = false → zJ G 6 m_MD_clash 223 [some (zA q), some v1, some v2, some (zI (nI v)), some (zI (tb (tsm T1 T2 F k))), some (zI (nI k))] [] (twp q h N) (fun o h' => o = zR (zI (if tsm T1 T2 F F.length = true then 0 else 1)) ∧ h' = twp q h N) := by
      intro e
      rw [e] at i
      refine zj_iconst (v := 0) hG d_MD_clash_223 rfl ?_
      refine zj_istore hG d_MD_clash_224 (by decide) rfl rfl ?_
      refine zj_iinc hG d_MD_clash_226 rfl (nI_1 k) (by decide) rfl rfl ?_
      refine zj_goto (tgt := 156) hG d_MD_clash_229 (by decide) ?_
      exact i
    have yes : (tsm T1 T2 F k && decide ((F[k]).2.1 = 2 ∨ eT (tel T1 (F[k]).1) = eT (tel T2 (F[k]).1))) = true → zJ G 6 m_MD_clash 219 [some (zA q), some v1, some v2, some (zI (nI v)), some (zI (tb (tsm T1 T2 F k))), some (zI (nI k))] [] (twp q h N) (fun o h' => o = zR (zI (if tsm T1 T2 F F.length = true then 0 else 1)) ∧ h' = twp q h N) := by
      intro e
      rw [e] at i
      refine zj_iconst (v := 1) hG d_MD_clash_219 rfl ?_
      refine zj_goto (tgt := 224) hG d_MD_clash_220 (by decide) ?_
      refine zj_istore hG d_MD_clash_224 (by decide) rfl rfl ?_
      refine zj_iinc hG d_MD_clash_226 rfl (nI_1 k) (by decide) rfl rfl ?_
      refine zj_goto (tgt := 156) hG d_MD_clash_229 (by decide) ?_
      exact i
    refine zj_iload hG d_MD_clash_156 rfl ?_
    refine zj_aload_n hG d_MD_clash_158 rfl rfl ?_
    refine t_getA (o := 1) hG hT d_MD_clash_159 f_MD_13 rfl rfl ?_
    refine zj_iload_n hG d_MD_clash_162 rfl rfl ?_
    refine t_ald (v) hG hT d_MD_clash_163 (by first | decide | omega) (by first | decide | omega) rfl hv ?_
    rw [f1]
    refine zj_icmp_ge (tgt := 232) hG d_MD_clash_164 (by decide) (fun c => absurd c (nI_ge hkl (by omega))) (fun _ => ?_)
    refine zj_iload hG d_MD_clash_167 rfl ?_
    refine zj_if_eq (tgt := 223) hG d_MD_clash_169 (by decide) (fun c169 => ?_) (fun c169 => ?_)
    · exact no (by rw [tb_f c169]; rfl)
    refine zj_aload_n hG d_MD_clash_172 rfl rfl ?_
    refine t_getA (o := 3) hG hT d_MD_clash_173 f_MD_20 rfl rfl ?_
    refine zj_bipush (v := 24) hG d_MD_clash_176 rfl ?_
    refine zj_iload_n hG d_MD_clash_178 rfl rfl ?_
    refine zj_imul hG d_MD_clash_179 ?_
    refine zj_iload hG d_MD_clash_180 rfl ?_
    refine zj_iadd hG d_MD_clash_182 ?_
    refine t_ald (24 * v + k) hG hT d_MD_clash_183 (by first | decide | omega) (by first | decide | omega) (by rw [nI_24, nI_add]) (by show _ < 192; omega) ?_
    refine zj_iconst (v := 2) hG d_MD_clash_184 rfl ?_
    rw [b2]
    refine zj_icmp_eq (tgt := 219) hG d_MD_clash_185 (by decide) (fun c185 => ?_) (fun c185 => ?_)
    · exact yes (by rw [tb_t c169]; simp [c185])
    refine zj_aload_n hG d_MD_clash_188 rfl rfl ?_
    refine t_getA (o := 24) hG hT d_MD_clash_189 f_MD_83 rfl rfl ?_
    refine zj_iload hG d_MD_clash_192 rfl ?_
    refine t_ald (k) hG hT d_MD_clash_194 (by first | decide | omega) (by first | decide | omega) rfl (by show _ < 24; omega) ?_
    refine zj_aload_n hG d_MD_clash_195 rfl rfl ?_
    refine t_getA (o := 19) hG hT d_MD_clash_196 f_MD_68 rfl rfl ?_
    refine zj_aload_n hG d_MD_clash_199 rfl rfl ?_
    refine zj_aload_n hG d_MD_clash_200 rfl rfl ?_
    refine t_getA (o := 2) hG hT d_MD_clash_201 f_MD_17 rfl rfl ?_
    refine zj_bipush (v := 24) hG d_MD_clash_204 rfl ?_
    refine zj_iload_n hG d_MD_clash_206 rfl rfl ?_
    refine zj_imul hG d_MD_clash_207 ?_
    refine zj_iload hG d_MD_clash_208 rfl ?_
    refine zj_iadd hG d_MD_clash_210 ?_
    refine t_ald (24 * v + k) hG hT d_MD_clash_211 (by first | decide | omega) (by first | decide | omega) (by rw [nI_24, nI_add]) (by show _ < 192; omega) ?_
    rw [h24 k hkl, b1]
    refine zj_callR (y' := m_MD_find) hG (zcP (as := [_]) hG d_MD_clash_212 c_MD_find (z_w7 47 rfl) (z_w7 49 rfl) (z_w7 48 rfl) (z_w7 8 rfl) rfl ⟨by decide, by decide⟩ hT.1 (by decide) (by decide) (show _ = some 1 from by decide +kernel) rfl) c_MD_find rfl (by omega) rfl (z_le rfl) (z_le rfl) (k_MD_find hG hT hN _) ?_
    rw [tix_fnd hix]
    refine t_ald (tix T2 (F[k]).1) hG hT d_MD_clash_215 (by first | decide | omega) (by first | decide | omega) rfl (by show _ < 26; omega) ?_
    rw [a8]
    refine zj_icmp_ne (tgt := 223) hG d_MD_clash_216 (by decide) (fun c216 => ?_) (fun c216 => ?_)
    · exact no (by simp [c185, c216])
    · exact yes (by rw [tb_t c169]; simp [c216])
end MD32
