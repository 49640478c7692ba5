/-! PART 23: the reference: what is joined -/
def tjt (L : List tQ) (j1 : Nat) (x1 : tQ) (j2 : Nat) (x2 : tQ) (a : Int32) : Int32 × List tQ :=
  if x1.1 = 1 ∧ x2.1 = 1 then tkq L (1, x1.2.1 * a + x2.2.1, 0, 0, 0, 0)
  else if x1.1 = 5 ∧ x2.1 = 6 ∧ x1.2.1 = x2.2.1 ∧ x1.2.2.1 = a ∧ x2.2.2.1 = a then (x1.2.1, L)
  else tkq L (7, nI j1, nI j2, a, 0, 0)
def twh (y1 a y2 : Int32) : Int64 := y1.toInt64 * a.toInt64 + y2.toInt64
def tjc (c : Int32) (w : Int64) (lo hi : Int32) : Int32 := if ¬ c = 0 ∨ w < lo.toInt64 ∨ ¬ w ≤ hi.toInt64 then 1 else 0
def tjn (m : Int32) (k r : Nat) (e1 e2 : tE) (j1 j2 : Nat) (x1 x2 : tQ) (a lo hi : Int32) (X : tXt) : tXt :=
  let w := twh ((eR e1).headD 0) a ((eR e2).headD 0)
  (tgo (X.1.set k (e1.1, e1.2.1, lo, hi, (if m = 1 then [w.toInt32] else eR e1), (if m = 2 then (tjt X.2.1 j1 x1 j2 x2 a).1 else eT e1))) r, (if m = 2 then (tjt X.2.1 j1 x1 j2 x2 a).2 else X.2.1), X.2.2.1, (if m = 1 then tjc X.2.2.2 w lo hi else X.2.2.2))
section MD10
variable {G : zG} {q : Nat} {h : zH} {N : Nat → Nat → Int32} {X : tXt}
set_option maxRecDepth 4000 in
theorem k_MD_join (hG : zOK G) (hT : twOK q h) (hX : tX N X) {k r pr j1 j2 : Nat} {x1 x2 : tQ} (hk : k < X.1.length) (hr : r < X.1.length) (hkr : k ≠ r) (hl : X.2.1.length + 1 ≤ 1024) (a : Int32) (hpr : pr + 7 < 1088) (h1 : N 0 27 = 1 → (∃ y, eR X.1[k] = [y]) ∧ ∃ y, eR X.1[r] = [y]) (h2 : N 0 27 = 2 → (eT X.1[k] = nI j1 ∧ X.2.1[j1]? = some x1) ∧ (eT X.1[r] = nI j2 ∧ X.2.1[j2]? = some x2)) :
    zJ G 2 m_MD_join 0 [some (zA q), some (zI (nI k)), some (zI (nI r)), some (zI a), some (zI (nI pr)), none, none, none, none] [] (twp q h N) (fun o h' => ∃ N', o = zR0 ∧ h' = twp q h N' ∧ (tX N' (tjn (N 0 27) k r X.1[k] X.1[r] j1 j2 x1 x2 a (N 9 (pr + 6)) (N 9 (pr + 7)) X) ∧ tFr pA N N')) := by
  obtain ⟨T, L, K, c⟩ := X
  obtain ⟨hN, hS, hK, hc⟩ := hX
  simp only at hN hS hK hc hk hr hl h1 h2
  show zJ G 2 m_MD_join 0 [some (zA q), some (zI (nI k)), some (zI (nI r)), some (zI a), some (zI (nI pr)), none, none, none, none] [] (twp q h N) (fun o h' => ∃ N', o = zR0 ∧ h' = twp q h N' ∧ (tX N' (tjn (N 0 27) k r T[k] T[r] j1 j2 x1 x2 a (N 9 (pr + 6)) (N 9 (pr + 7)) (T, L, K, c)) ∧ tFr pA N N'))
  have hlT := hN.l
  obtain ⟨a1, a2, a3, a4, a5, a8⟩ := hN.at hk
  obtain ⟨b1, b2, b3, b4, b5, b8⟩ := hN.at hr
  refine zj_aload_n hG d_MD_join_0 rfl rfl ?_
  refine t_getA (o := 19) hG hT d_MD_join_1 f_MD_68 rfl rfl ?_
  refine zj_iload_n hG d_MD_join_4 rfl rfl ?_
  refine t_ald (k) hG hT d_MD_join_5 (by first | decide | omega) (by first | decide | omega) rfl (by show _ < 26; omega) ?_
  refine zj_istore hG d_MD_join_6 (by decide) rfl rfl ?_
  refine zj_aload_n hG d_MD_join_8 rfl rfl ?_
  refine t_getA (o := 19) hG hT d_MD_join_9 f_MD_68 rfl rfl ?_
  refine zj_iload_n hG d_MD_join_12 rfl rfl ?_
  refine t_ald (r) hG hT d_MD_join_13 (by first | decide | omega) (by first | decide | omega) rfl (by show _ < 26; omega) ?_
  refine zj_istore hG d_MD_join_14 (by decide) rfl rfl ?_
  refine zj_aload_n hG d_MD_join_16 rfl rfl ?_
  refine t_getA (o := 16) hG hT d_MD_join_17 f_MD_59 rfl rfl ?_
  refine zj_iload_n hG d_MD_join_20 rfl rfl ?_
  refine zj_aload_n hG d_MD_join_21 rfl rfl ?_
  refine t_getA (o := 9) hG hT d_MD_join_22 f_MD_38 rfl rfl ?_
  refine zj_iload hG d_MD_join_25 rfl ?_
  refine zj_bipush (v := 6) hG d_MD_join_27 rfl ?_
  refine zj_iadd hG d_MD_join_29 ?_
  refine t_ald (pr + 6) hG hT d_MD_join_30 (by first | decide | omega) (by first | decide | omega) (nI_a6 _) (by show _ < 1088; omega) ?_
  refine t_ast (k) hG hT d_MD_join_31 (by first | decide | omega) (by first | decide | omega) rfl (by show _ < 26; omega) ?_
  refine zj_aload_n hG d_MD_join_32 rfl rfl ?_
  refine t_getA (o := 17) hG hT d_MD_join_33 f_MD_62 rfl rfl ?_
  refine zj_iload_n hG d_MD_join_36 rfl rfl ?_
  refine zj_aload_n hG d_MD_join_37 rfl rfl ?_
  refine t_getA (o := 9) hG hT d_MD_join_38 f_MD_38 rfl rfl ?_
  refine zj_iload hG d_MD_join_41 rfl ?_
  refine zj_bipush (v := 7) hG d_MD_join_43 rfl ?_
  refine zj_iadd hG d_MD_join_45 ?_
  refine t_ald (pr + 7) hG hT d_MD_join_46 (by first | decide | omega) (by first | decide | omega) (nI_a7 _) (by show _ < 1088; omega) ?_
  refine t_ast (k) hG hT d_MD_join_47 (by first | decide | omega) (by first | decide | omega) rfl (by show _ < 26; omega) ?_
  rw [a8, b8, zu_a (show (9 : Nat) ≠ 16 by omega)]
  generalize N 9 (pr + 6) = lo
  generalize N 9 (pr + 7) = hi
  generalize hM : zu (zu N 16 k lo) 17 k hi = M
  have fM : tFr pT N M := by
    rw [← hM]
    exact tFr.put (tFr.put tFr.rfl' rfl) rfl
  have tM : tTab M (T.set k (T[k].1, T[k].2.1, lo, hi, eR T[k], eT T[k])) := by
    have u := (hN.lo hk lo).hi (k := k) (by simpa using hk) hi
    rw [List.set_set] at u
    simp only [List.getElem_set_self] at u
    rw [← hM]
    exact u
  clear hM
  have sM : tSto M L := hS.fr fM (by intro o i e; simp [pS] at e; simp [pT]; omega)
  have kM : tWk M K := hK.fr fM (by intro o i e; simp [pK] at e; simp [pT]; omega)
  have cM : M 0 28 = c := (fM 0 28 rfl).trans hc
  have mM : M 0 27 = N 0 27 := fM 0 27 rfl
  have fA : tFr pA N M := fM.mono (by intro o i e; simp [pA] at e; exact e.1.1)
  have hkk : k < (T.set k (T[k].1, T[k].2.1, lo, hi, eR T[k], eT T[k])).length := by simpa using hk
  have hrr : r < (T.set k (T[k].1, T[k].2.1, lo, hi, eR T[k], eT T[k])).length := by simpa using hr
  -- the end
  have fin : ∀ (M1 : Nat → Nat → Int32) (e : tE) (L1 : List tQ) (c1 : Int32) (w1 w2 w3 w4 : Option zV), tX M1 (T.set k e, L1, K, c1) → tFr pA N M1 → zJ G 2 m_MD_join 295 [some (zA q), some (zI (nI k)), some (zI (nI r)), some (zI a), some (zI (nI pr)), w1, w2, w3, w4] [] (twp q h M1) (fun o h' => ∃ N', o = zR0 ∧ h' = twp q h N' ∧ (tX N' (tgo (T.set k e) r, L1, K, c1) ∧ tFr pA N N')) := by
    intro M1 e L1 c1 w1 w2 w3 w4 g1 g2
    obtain ⟨g3, g4, g5, g6⟩ := g1
    refine zj_aload_n hG d_MD_join_295 rfl rfl ?_
    refine zj_iload_n hG d_MD_join_296 rfl rfl ?_
    refine zj_callU (y' := m_MD_go) hG (zcP (as := [_]) hG d_MD_join_297 c_MD_go (z_w7 114 rfl) (z_w7 116 rfl) (z_w7 115 rfl) (z_w7 8 rfl) rfl ⟨by decide, by decide⟩ hT.1 (by decide) (by decide) (show _ = some 1 from by decide +kernel) rfl) c_MD_go rfl (by omega) rfl (z_le rfl) (z_le rfl) (k_MD_go hG hT g3 (by simpa using hr)) (fun N297 e297 => ?_)
    obtain ⟨r1, r2⟩ := e297
    exact zj_vret hG d_MD_join_300 rfl ⟨_, rfl, rfl, ⟨r1, g4.fr r2 (by intro o i e; simp [pS] at e; simp [pT]; omega), g5.fr r2 (by intro o i e; simp [pK] at e; simp [pT]; omega), (r2 0 28 rfl).trans g6⟩, g2.trans (r2.mono (by intro o i e; simp [pA] at e; exact e.1.1))⟩
  refine zj_aload_n hG d_MD_join_48 rfl rfl ?_
  refine t_getI hG hT d_MD_join_49 f_MD_118 rfl ?_
  refine zj_iconst (v := 1) hG d_MD_join_52 rfl ?_
  rw [mM]
  refine zj_icmp_ne (tgt := 142) hG d_MD_join_53 (by decide) (fun c53 => ?_) (fun c53 => ?_)
  · rw [tjn]
    simp only [if_neg c53]
    refine zj_aload_n hG d_MD_join_142 rfl rfl ?_
    refine t_getI hG hT d_MD_join_143 f_MD_118 rfl ?_
    refine zj_iconst (v := 2) hG d_MD_join_146 rfl ?_
    rw [mM]
    refine zj_icmp_ne (tgt := 295) hG d_MD_join_147 (by decide) (fun c147 => ?_) (fun c147 => ?_)
    · simp only [if_neg c147]
      exact fin M _ L c _ _ _ _ ⟨tM, sM, kM, cM⟩ fA
    · simp only [if_pos c147]
      obtain ⟨⟨ht1, hj1⟩, ⟨ht2, hj2⟩⟩ := h2 c147
      have hl1 := (List.getElem?_eq_some_iff.mp hj1).1
      have hl2 := (List.getElem?_eq_some_iff.mp hj2).1
      obtain ⟨p1, p2, p3, p4, p5, p6⟩ := sM.2.2 j1 x1 hj1
      obtain ⟨q1, q2, q3, q4, q5, q6⟩ := sM.2.2 j2 x2 hj2
      rw [ht1, ht2]
      have n1 := k_MD_isNumber (N := M) hG hT (k := j1) (by omega)
      have n2 := k_MD_isNumber (N := M) hG hT (k := j2) (by omega)
      rw [p1] at n1
      rw [q1] at n2
      have g10 := k_MD_argument (N := M) (j := 0) hG hT (k := j1) (by omega)
      have g11 := k_MD_argument (N := M) (j := 1) hG hT (k := j1) (by omega)
      have g20 := k_MD_argument (N := M) (j := 0) hG hT (k := j2) (by omega)
      have g21 := k_MD_argument (N := M) (j := 1) hG hT (k := j2) (by omega)
      rw [show 5 * j1 + 0 = 5 * j1 from rfl, p2] at g10
      rw [p3] at g11
      rw [show 5 * j2 + 0 = 5 * j2 from rfl, q2] at g20
      rw [q3] at g21
      have wr : ∀ (M1 : Nat → Nat → Int32) (t : Int32) (w3 w4 : Option zV) (L1 : List tQ), tFr pS M M1 → tSto M1 L1 → (t, L1) = tjt L j1 x1 j2 x2 a → zJ G 2 m_MD_join 294 [some (zA q), some (zI (nI k)), some (zI (nI r)), some (zI a), some (zI (nI pr)), some (zI (nI j1)), some (zI (nI j2)), w3, w4] [zI t, zI (nI k), zA (q + 19)] (twp q h M1) (fun o h' => ∃ N', o = zR0 ∧ h' = twp q h N' ∧ (tX N' (tgo (T.set k (T[k].1, T[k].2.1, lo, hi, eR T[k], (tjt L j1 x1 j2 x2 a).1)) r, (tjt L j1 x1 j2 x2 a).2, K, c) ∧ tFr pA N N')) := by
        intro M1 t w3 w4 L1 f1 f2 f3
        rw [← f3]
        have f4 : tFr pTS M (zu M1 19 k t) := tFr.put (f1.mono (by intro o i e; simp [pTS] at e; exact e.2)) rfl
        refine t_ast (k) hG hT d_MD_join_294 (by first | decide | omega) (by first | decide | omega) rfl (by show _ < 26; omega) ?_
        refine fin _ _ L1 c _ _ _ _ ⟨?_, f2.fr (P := pT) (tFr.put tFr.rfl' rfl) (by intro o i e; simp [pS] at e; simp [pT]; omega), kM.fr f4 (by intro o i e; simp [pK] at e; simp [pTS, pT, pS]; omega), (f4 0 28 rfl).trans cM⟩ (fA.trans (f4.mono (by intro o i e; simp [pA] at e; simp [pTS]; exact e.1)))
        have u := (tM.fr f1 (by intro o i e; simp [pT] at e; simp [pS]; omega)).t hkk t
        rw [List.set_set] at u
        simp only [List.getElem_set_self] at u
        exact u
      -- the bool 'both' stands in place 7
      have tail : ∀ (bo : Bool) (v : Int32) (w4 : Option zV), v = tb bo → bo = decide (x1.1 = 5 ∧ x2.1 = 6 ∧ x1.2.1 = x2.2.1 ∧ x1.2.2.1 = a ∧ x2.2.2.1 = a) → zJ G 2 m_MD_join 217 [some (zA q), some (zI (nI k)), some (zI (nI r)), some (zI a), some (zI (nI pr)), some (zI (nI j1)), some (zI (nI j2)), none, w4] [zI v] (twp q h M) (fun o h' => ∃ N', o = zR0 ∧ h' = twp q h N' ∧ (tX N' (tgo (T.set k (T[k].1, T[k].2.1, lo, hi, eR T[k], (tjt L j1 x1 j2 x2 a).1)) r, (tjt L j1 x1 j2 x2 a).2, K, c) ∧ tFr pA N N')) := by
        intro bo v w4 hv hbo
        subst hv
        have els : ¬ (x1.1 = 1 ∧ x2.1 = 1) → zJ G 2 m_MD_join 266 [some (zA q), some (zI (nI k)), some (zI (nI r)), some (zI a), some (zI (nI pr)), some (zI (nI j1)), some (zI (nI j2)), some (zI (tb bo)), w4] [zI (nI k), zA (q + 19)] (twp q h M) (fun o h' => ∃ N', o = zR0 ∧ h' = twp q h N' ∧ (tX N' (tgo (T.set k (T[k].1, T[k].2.1, lo, hi, eR T[k], (tjt L j1 x1 j2 x2 a).1)) r, (tjt L j1 x1 j2 x2 a).2, K, c) ∧ tFr pA N N')) := by
          intro hno
          refine zj_iload hG d_MD_join_266 rfl ?_
          refine zj_if_eq (tgt := 281) hG d_MD_join_268 (by decide) (fun c268 => ?_) (fun c268 => ?_)
          · have hb := tb_f c268
            rw [hb] at hbo
            have hb2 := of_decide_eq_false hbo.symm
            refine zj_aload_n hG d_MD_join_281 rfl rfl ?_
            refine zj_bipush (v := 7) hG d_MD_join_282 rfl ?_
            refine zj_iload hG d_MD_join_284 rfl ?_
            refine zj_iload hG d_MD_join_286 rfl ?_
            refine zj_iload_n hG d_MD_join_288 rfl rfl ?_
            refine zj_iconst (v := 0) hG d_MD_join_289 rfl ?_
            refine zj_iconst (v := 0) hG d_MD_join_290 rfl ?_
            refine zj_callT (y' := m_MD_known) hG (zcP (as := [_, _, _, _, _, _]) hG d_MD_join_291 c_MD_known (z_w7 29 rfl) (z_w7 31 rfl) (z_w7 30 rfl) (z_w7 8 rfl) rfl ⟨by decide, by decide⟩ hT.1 (by decide) (by decide) (show _ = some 6 from by decide +kernel) rfl) c_MD_known rfl (by omega) rfl (z_le rfl) (z_le rfl) (k_MD_known hG hT sM (by omega) _ _ _ _ _ _) (fun v291 N291 e291 => ?_)
            obtain ⟨r1, r2, r3⟩ := e291
            exact wr N291 v291 _ _ _ r3 r2 (by rw [tjt, if_neg hno, if_neg hb2, r1]; rfl)
          · have hb := tb_t c268
            rw [hb] at hbo
            have hb2 := of_decide_eq_true hbo.symm
            refine zj_aload_n hG d_MD_join_271 rfl rfl ?_
            refine zj_iload hG d_MD_join_272 rfl ?_
            refine zj_iconst (v := 0) hG d_MD_join_274 rfl ?_
            refine zj_callR (y' := m_MD_argument) hG (zcP (as := [_, _]) hG d_MD_join_275 c_MD_argument (z_w7 136 rfl) (z_w7 138 rfl) (z_w7 137 rfl) (z_w7 8 rfl) rfl ⟨by decide, by decide⟩ hT.1 (by decide) (by decide) (show _ = some 2 from by decide +kernel) rfl) c_MD_argument rfl (by omega) rfl (z_le rfl) (z_le rfl) g10 ?_
            refine zj_goto (tgt := 294) hG d_MD_join_278 (by decide) ?_
            exact wr M _ _ _ L tFr.rfl' sM (by rw [tjt, if_neg hno, if_pos hb2])
        refine zj_istore hG d_MD_join_217 (by decide) rfl rfl ?_
        refine zj_aload_n hG d_MD_join_219 rfl rfl ?_
        refine t_getA (o := 19) hG hT d_MD_join_220 f_MD_68 rfl rfl ?_
        refine zj_iload_n hG d_MD_join_223 rfl rfl ?_
        refine zj_aload_n hG d_MD_join_224 rfl rfl ?_
        refine zj_iload hG d_MD_join_225 rfl ?_
        refine zj_callR (y' := m_MD_isNumber) hG (zcP (as := [_]) hG d_MD_join_227 c_MD_isNumber (z_w7 132 rfl) (z_w7 134 rfl) (z_w7 133 rfl) (z_w7 8 rfl) rfl ⟨by decide, by decide⟩ hT.1 (by decide) (by decide) (show _ = some 1 from by decide +kernel) rfl) c_MD_isNumber rfl (by omega) rfl (z_le rfl) (z_le rfl) n1 ?_
        refine zj_if_eq (tgt := 266) hG d_MD_join_230 (by decide) (fun c230 => ?_) (fun c230 => ?_)
        · exact els (fun g => tb_n c230 g.1)
        refine zj_aload_n hG d_MD_join_233 rfl rfl ?_
        refine zj_iload hG d_MD_join_234 rfl ?_
        refine zj_callR (y' := m_MD_isNumber) hG (zcP (as := [_]) hG d_MD_join_236 c_MD_isNumber (z_w7 132 rfl) (z_w7 134 rfl) (z_w7 133 rfl) (z_w7 8 rfl) rfl ⟨by decide, by decide⟩ hT.1 (by decide) (by decide) (show _ = some 1 from by decide +kernel) rfl) c_MD_isNumber rfl (by omega) rfl (z_le rfl) (z_le rfl) n2 ?_
        refine zj_if_eq (tgt := 266) hG d_MD_join_239 (by decide) (fun c239 => ?_) (fun c239 => ?_)
        · exact els (fun g => tb_n c239 g.2)
        refine zj_aload_n hG d_MD_join_242 rfl rfl ?_
        refine zj_aload_n hG d_MD_join_243 rfl rfl ?_
        refine zj_iload hG d_MD_join_244 rfl ?_
        refine zj_iconst (v := 0) hG d_MD_join_246 rfl ?_
        refine zj_callR (y' := m_MD_argument) hG (zcP (as := [_, _]) hG d_MD_join_247 c_MD_argument (z_w7 136 rfl) (z_w7 138 rfl) (z_w7 137 rfl) (z_w7 8 rfl) rfl ⟨by decide, by decide⟩ hT.1 (by decide) (by decide) (show _ = some 2 from by decide +kernel) rfl) c_MD_argument rfl (by omega) rfl (z_le rfl) (z_le rfl) g10 ?_
        refine zj_iload_n hG d_MD_join_250 rfl rfl ?_
        refine zj_imul hG d_MD_join_251 ?_
        refine zj_aload_n hG d_MD_join_252 rfl rfl ?_
        refine zj_iload hG d_MD_join_253 rfl ?_
        refine zj_iconst (v := 0) hG d_MD_join_255 rfl ?_
        refine zj_callR (y' := m_MD_argument) hG (zcP (as := [_, _]) hG d_MD_join_256 c_MD_argument (z_w7 136 rfl) (z_w7 138 rfl) (z_w7 137 rfl) (z_w7 8 rfl) rfl ⟨by decide, by decide⟩ hT.1 (by decide) (by decide) (show _ = some 2 from by decide +kernel) rfl) c_MD_argument rfl (by omega) rfl (z_le rfl) (z_le rfl) g20 ?_
        refine zj_iadd hG d_MD_join_259 ?_
        refine zj_callT (y' := m_MD_number) hG (zcP (as := [_]) hG d_MD_join_260 c_MD_number (z_w7 25 rfl) (z_w7 27 rfl) (z_w7 26 rfl) (z_w7 8 rfl) rfl ⟨by decide, by decide⟩ hT.1 (by decide) (by decide) (show _ = some 1 from by decide +kernel) rfl) c_MD_number rfl (by omega) rfl (z_le rfl) (z_le rfl) (k_MD_number hG hT sM (by omega) _) (fun v260 N260 e260 => ?_)
        obtain ⟨r1, r2, r3⟩ := e260
        refine zj_goto (tgt := 294) hG d_MD_join_263 (by decide) ?_
        exact wr N260 v260 _ _ _ r3 r2 (by rw [tjt, if_pos ⟨tb_d c230, tb_d c239⟩, r1]; rfl)
      have no : ¬ (x1.1 = 5 ∧ x2.1 = 6 ∧ x1.2.1 = x2.2.1 ∧ x1.2.2.1 = a ∧ x2.2.2.1 = a) → zJ G 2 m_MD_join 216 [some (zA q), some (zI (nI k)), some (zI (nI r)), some (zI a), some (zI (nI pr)), some (zI (nI j1)), some (zI (nI j2)), none, none] [] (twp q h M) (fun o h' => ∃ N', o = zR0 ∧ h' = twp q h N' ∧ (tX N' (tgo (T.set k (T[k].1, T[k].2.1, lo, hi, eR T[k], (tjt L j1 x1 j2 x2 a).1)) r, (tjt L j1 x1 j2 x2 a).2, K, c) ∧ tFr pA N N')) := by
        intro g
        refine zj_iconst (v := 0) hG d_MD_join_216 rfl ?_
        exact tail false 0 _ rfl (by simp [g])
      refine zj_aload_n hG d_MD_join_150 rfl rfl ?_
      refine t_getA (o := 22) hG hT d_MD_join_151 f_MD_77 rfl rfl ?_
      refine zj_iload hG d_MD_join_154 rfl ?_
      refine t_ald (j1) hG hT d_MD_join_156 (by first | decide | omega) (by first | decide | omega) rfl (by show _ < 1024; omega) ?_
      refine zj_iconst (v := 5) hG d_MD_join_157 rfl ?_
      rw [p1]
      refine zj_icmp_ne (tgt := 216) hG d_MD_join_158 (by decide) (fun c158 => ?_) (fun c158 => ?_)
      · exact no (fun g => c158 g.1)
      refine zj_aload_n hG d_MD_join_161 rfl rfl ?_
      refine t_getA (o := 22) hG hT d_MD_join_162 f_MD_77 rfl rfl ?_
      refine zj_iload hG d_MD_join_165 rfl ?_
      refine t_ald (j2) hG hT d_MD_join_167 (by first | decide | omega) (by first | decide | omega) rfl (by show _ < 1024; omega) ?_
      refine zj_bipush (v := 6) hG d_MD_join_168 rfl ?_
      rw [q1]
      refine zj_icmp_ne (tgt := 216) hG d_MD_join_170 (by decide) (fun c170 => ?_) (fun c170 => ?_)
      · exact no (fun g => c170 g.2.1)
      refine zj_aload_n hG d_MD_join_173 rfl rfl ?_
      refine zj_iload hG d_MD_join_174 rfl ?_
      refine zj_iconst (v := 0) hG d_MD_join_176 rfl ?_
      refine zj_callR (y' := m_MD_argument) hG (zcP (as := [_, _]) hG d_MD_join_177 c_MD_argument (z_w7 136 rfl) (z_w7 138 rfl) (z_w7 137 rfl) (z_w7 8 rfl) rfl ⟨by decide, by decide⟩ hT.1 (by decide) (by decide) (show _ = some 2 from by decide +kernel) rfl) c_MD_argument rfl (by omega) rfl (z_le rfl) (z_le rfl) g10 ?_
      refine zj_aload_n hG d_MD_join_180 rfl rfl ?_
      refine zj_iload hG d_MD_join_181 rfl ?_
      refine zj_iconst (v := 0) hG d_MD_join_183 rfl ?_
      refine zj_callR (y' := m_MD_argument) hG (zcP (as := [_, _]) hG d_MD_join_184 c_MD_argument (z_w7 136 rfl) (z_w7 138 rfl) (z_w7 137 rfl) (z_w7 8 rfl) rfl ⟨by decide, by decide⟩ hT.1 (by decide) (by decide) (show _ = some 2 from by decide +kernel) rfl) c_MD_argument rfl (by omega) rfl (z_le rfl) (z_le rfl) g20 ?_
      refine zj_icmp_ne (tgt := 216) hG d_MD_join_187 (by decide) (fun c187 => ?_) (fun c187 => ?_)
      · exact no (fun g => c187 g.2.2.1)
      refine zj_aload_n hG d_MD_join_190 rfl rfl ?_
      refine zj_iload hG d_MD_join_191 rfl ?_
      refine zj_iconst (v := 1) hG d_MD_join_193 rfl ?_
      refine zj_callR (y' := m_MD_argument) hG (zcP (as := [_, _]) hG d_MD_join_194 c_MD_argument (z_w7 136 rfl) (z_w7 138 rfl) (z_w7 137 rfl) (z_w7 8 rfl) rfl ⟨by decide, by decide⟩ hT.1 (by decide) (by decide) (show _ = some 2 from by decide +kernel) rfl) c_MD_argument rfl (by omega) rfl (z_le rfl) (z_le rfl) g11 ?_
      refine zj_iload_n hG d_MD_join_197 rfl rfl ?_
      refine zj_icmp_ne (tgt := 216) hG d_MD_join_198 (by decide) (fun c198 => ?_) (fun c198 => ?_)
      · exact no (fun g => c198 g.2.2.2.1)
      refine zj_aload_n hG d_MD_join_201 rfl rfl ?_
      refine zj_iload hG d_MD_join_202 rfl ?_
      refine zj_iconst (v := 1) hG d_MD_join_204 rfl ?_
      refine zj_callR (y' := m_MD_argument) hG (zcP (as := [_, _]) hG d_MD_join_205 c_MD_argument (z_w7 136 rfl) (z_w7 138 rfl) (z_w7 137 rfl) (z_w7 8 rfl) rfl ⟨by decide, by decide⟩ hT.1 (by decide) (by decide) (show _ = some 2 from by decide +kernel) rfl) c_MD_argument rfl (by omega) rfl (z_le rfl) (z_le rfl) g21 ?_
      refine zj_iload_n hG d_MD_join_208 rfl rfl ?_
      refine zj_icmp_ne (tgt := 216) hG d_MD_join_209 (by decide) (fun c209 => ?_) (fun c209 => ?_)
      · exact no (fun g => c209 g.2.2.2.2)
      refine zj_iconst (v := 1) hG d_MD_join_212 rfl ?_
      refine zj_goto (tgt := 217) hG d_MD_join_213 (by decide) ?_
      exact tail true 1 _ rfl (by simp [c158, c170, c187, c198, c209])
  · have c532 : ¬ N 0 27 = 2 := by rw [c53]; decide
    obtain ⟨⟨y1, hy1⟩, ⟨y2, hy2⟩⟩ := h1 c53
    rw [tjn]
    simp only [if_pos c53, if_neg c532, hy1, hy2, List.headD_cons]
    rw [hy1] at a5
    rw [hy2] at b5
    have d1 : M 18 (7 * k + 1) = y1 := by
      have := (tM.at hkk).2.2.2.2.1
      simp only [List.getElem_set_self, hy1] at this
      exact this.one
    have d2 : M 18 (7 * r + 1) = y2 := by
      have := (tM.at hrr).2.2.2.2.1
      rw [List.getElem_set_ne hkr, hy2] at this
      exact this.one
    have d3 : M 16 k = lo := by
      have := (tM.at hkk).2.2.1
      simpa using this
    have d4 : M 17 k = hi := by
      have := (tM.at hkk).2.2.2.1
      simpa using this
    have d0 : M 18 (7 * k) = 1 := by
      have := (tM.at hkk).2.2.2.2.1
      simp only [List.getElem_set_self, hy1] at this
      exact this.1
    have wr : ∀ (v : Int32), (v = 0 ∨ v = 1) → v = tjc c (twh y1 a y2) lo hi → zJ G 2 m_MD_join 125 [some (zA q), some (zI (nI k)), some (zI (nI r)), some (zI a), some (zI (nI pr)), some (zI (eT T[k])), some (zI (eT T[r])), some (zL (twh y1 a y2)), none] [zI v, zA q] (twp q h M) (fun o h' => ∃ N', o = zR0 ∧ h' = twp q h N' ∧ (tX N' (tgo (T.set k (T[k].1, T[k].2.1, lo, hi, [(twh y1 a y2).toInt32], eT T[k])) r, L, K, tjc c (twh y1 a y2) lo hi) ∧ tFr pA N N')) := by
      intro v hv01 hv
      refine t_putZ hG hT d_MD_join_125 f_MD_214 rfl rfl hv01 ?_
      refine zj_aload_n hG d_MD_join_128 rfl rfl ?_
      refine t_getA (o := 18) hG hT d_MD_join_129 f_MD_65 rfl rfl ?_
      refine zj_bipush (v := 7) hG d_MD_join_132 rfl ?_
      refine zj_iload_n hG d_MD_join_134 rfl rfl ?_
      refine zj_imul hG d_MD_join_135 ?_
      refine zj_iconst (v := 1) hG d_MD_join_136 rfl ?_
      refine zj_iadd hG d_MD_join_137 ?_
      refine zj_lload hG d_MD_join_138 rfl ?_
      refine zj_l2i hG d_MD_join_140 ?_
      refine t_ast (7 * k + 1) hG hT d_MD_join_141 (by first | decide | omega) (by first | decide | omega) (by rw [nI_7, nI_1]) (by show _ < 182; omega) ?_
      refine zj_aload_n hG d_MD_join_142 rfl rfl ?_
      refine t_getI hG hT d_MD_join_143 f_MD_118 rfl ?_
      refine zj_iconst (v := 2) hG d_MD_join_146 rfl ?_
      rw [zu_a (show (0 : Nat) ≠ 18 by omega), zu_k (show (27 : Nat) ≠ 28 by omega), mM]
      refine zj_icmp_ne (tgt := 295) hG d_MD_join_147 (by decide) (fun c147 => ?_) (fun c147 => ?_)
      · have f1 : tFr pA M (zu (zu M 0 28 v) 18 (7 * k + 1) (twh y1 a y2).toInt32) := tFr.put (tFr.put tFr.rfl' rfl) rfl
        refine fin _ _ L _ _ _ _ _ ⟨?_, ?_, ?_, ?_⟩ (fA.trans f1)
        · have u := tM.r (N' := zu (zu M 0 28 v) 18 (7 * k + 1) (twh y1 a y2).toInt32) (l := [(twh y1 a y2).toInt32]) hkk (fun o i e g => by rw [zu, if_neg (by omega), zu, if_neg (by simp [pT] at e; omega)]) (tRow.of1 (by rw [zu_k (by omega), zu_a (by omega)]; exact d0) zu_s)
          rw [List.set_set] at u
          simp only [List.getElem_set_self] at u
          exact u
        · refine sM.fr (P := fun o i => pT o i || (o == 0 && i == 28)) (tFr.put (tFr.put tFr.rfl' rfl) rfl) (by intro o i e; simp [pS] at e; simp [pT]; omega)
        · refine kM.fr (P := fun o i => pT o i || (o == 0 && i == 28)) (tFr.put (tFr.put tFr.rfl' rfl) rfl) (by intro o i e; simp [pK] at e; simp [pT]; omega)
        · rw [zu_a (by omega), zu_s, hv]
      · exact absurd c147 c532
    refine zj_aload_n hG d_MD_join_56 rfl rfl ?_
    refine t_getA (o := 18) hG hT d_MD_join_57 f_MD_65 rfl rfl ?_
    refine zj_bipush (v := 7) hG d_MD_join_60 rfl ?_
    refine zj_iload_n hG d_MD_join_62 rfl rfl ?_
    refine zj_imul hG d_MD_join_63 ?_
    refine zj_iconst (v := 1) hG d_MD_join_64 rfl ?_
    refine zj_iadd hG d_MD_join_65 ?_
    refine t_ald (7 * k + 1) hG hT d_MD_join_66 (by first | decide | omega) (by first | decide | omega) (by rw [nI_7, nI_1]) (by show _ < 182; omega) ?_
    refine zj_i2l hG d_MD_join_67 ?_
    refine zj_iload_n hG d_MD_join_68 rfl rfl ?_
    refine zj_i2l hG d_MD_join_69 ?_
    refine zj_lmul hG d_MD_join_70 ?_
    refine zj_aload_n hG d_MD_join_71 rfl rfl ?_
    refine t_getA (o := 18) hG hT d_MD_join_72 f_MD_65 rfl rfl ?_
    refine zj_bipush (v := 7) hG d_MD_join_75 rfl ?_
    refine zj_iload_n hG d_MD_join_77 rfl rfl ?_
    refine zj_imul hG d_MD_join_78 ?_
    refine zj_iconst (v := 1) hG d_MD_join_79 rfl ?_
    refine zj_iadd hG d_MD_join_80 ?_
    refine t_ald (7 * r + 1) hG hT d_MD_join_81 (by first | decide | omega) (by first | decide | omega) (by rw [nI_7, nI_1]) (by show _ < 182; omega) ?_
    refine zj_i2l hG d_MD_join_82 ?_
    refine zj_ladd hG d_MD_join_83 ?_
    rw [d1, d2]
    show zJ G 2 m_MD_join _ _ [zL (twh y1 a y2)] _ _
    refine zj_lstore hG d_MD_join_84 (by decide) rfl rfl ?_
    refine zj_aload_n hG d_MD_join_86 rfl rfl ?_
    refine zj_aload_n hG d_MD_join_87 rfl rfl ?_
    refine t_getI hG hT d_MD_join_88 f_MD_214 rfl ?_
    rw [cM]
    refine zj_if_ne (tgt := 120) hG d_MD_join_91 (by decide) (fun c91 => ?_) (fun c91 => ?_)
    · refine zj_iconst (v := 1) hG d_MD_join_120 rfl ?_
      refine zj_goto (tgt := 125) hG d_MD_join_121 (by decide) ?_
      exact wr 1 (Or.inr rfl) (by rw [tjc, if_pos (Or.inl c91)])
    refine zj_lload hG d_MD_join_94 rfl ?_
    refine zj_aload_n hG d_MD_join_96 rfl rfl ?_
    refine t_getA (o := 16) hG hT d_MD_join_97 f_MD_59 rfl rfl ?_
    refine zj_iload_n hG d_MD_join_100 rfl rfl ?_
    refine t_ald (k) hG hT d_MD_join_101 (by first | decide | omega) (by first | decide | omega) rfl (by show _ < 26; omega) ?_
    refine zj_i2l hG d_MD_join_102 ?_
    refine zj_lcmp hG d_MD_join_103 ?_
    rw [d3]
    refine zj_if_lt (tgt := 120) hG d_MD_join_104 (by decide) (fun c104 => ?_) (fun c104 => ?_)
    · rw [lg_cmp_lt] at c104
      refine zj_iconst (v := 1) hG d_MD_join_120 rfl ?_
      refine zj_goto (tgt := 125) hG d_MD_join_121 (by decide) ?_
      exact wr 1 (Or.inr rfl) (by rw [tjc, if_pos (Or.inr (Or.inl c104))])
    rw [lg_cmp_lt] at c104
    refine zj_lload hG d_MD_join_107 rfl ?_
    refine zj_aload_n hG d_MD_join_109 rfl rfl ?_
    refine t_getA (o := 17) hG hT d_MD_join_110 f_MD_62 rfl rfl ?_
    refine zj_iload_n hG d_MD_join_113 rfl rfl ?_
    refine t_ald (k) hG hT d_MD_join_114 (by first | decide | omega) (by first | decide | omega) rfl (by show _ < 26; omega) ?_
    refine zj_i2l hG d_MD_join_115 ?_
    refine zj_lcmp hG d_MD_join_116 ?_
    rw [d4]
    refine zj_if_le (tgt := 124) hG d_MD_join_117 (by decide) (fun c117 => ?_) (fun c117 => ?_)
    · rw [lg_cmp_le] at c117
      refine zj_iconst (v := 0) hG d_MD_join_124 rfl ?_
      refine wr 0 (Or.inl rfl) ?_
      rw [tjc, if_neg]
      intro g
      rcases g with g | g | g
      · exact g c91
      · exact c104 g
      · exact g c117
    · rw [lg_cmp_le] at c117
      refine zj_iconst (v := 1) hG d_MD_join_120 rfl ?_
      refine zj_goto (tgt := 125) hG d_MD_join_121 (by decide) ?_
      exact wr 1 (Or.inr rfl) (by rw [tjc, if_pos (Or.inr (Or.inr c117))])
end MD10
