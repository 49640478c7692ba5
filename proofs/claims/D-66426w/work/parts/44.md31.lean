/-! PART 44: the reference: translate -/
/-- the table after a route -/
def oTrX (W : sW) (r : sRc) (z : List Nat × List Nat) : tXt := trun 1 (trac (wS W) z.1 z.2) (oTrT ((wV W)[r.1]?.getD []) r.2.1, [], r.2.2, 0)
def oTrans (W : sW) (x v : Int32) : Int32 × Int32 × sW := match oRec W x with
  | none => (1, 0, W)
  | some r => if oVer W v = true then (match oWay W (-1) r.1 v.toNatClampNeg with
    | none => (2, 0, W)
    | some z => if (oTrX W r z).2.2.2 = 0 then (0, nI (z.1.length - 1), sRs W x.toNatClampNeg (some (v.toNatClampNeg, ((wV W)[v.toNatClampNeg]?.getD []).map (fun f => eR (tel (oTrX W r z).1 f.1)), (oTrX W r z).2.2.1))) else (3, 0, W)) else (1, 0, W)
section MD31
variable {G : zG} {q : Nat} {h : zH} {N : Nat → Nat → Int32} {W : sW}
set_option maxRecDepth 4000 in
theorem k_MD_translate (hG : zOK G) (hT : twOK q h) (hA : tA N W) (hS : sSw W) (hK : ∀ b, b < (wV W).length → tDK W (-1) b (tdis W (-1) b)) (x v : Int32)
    (hR : ∀ (j : Nat) (r : sRc) (n : Nat) (z : List Nat × List Nat), x = nI j → j < 16 → wR W j = some r → v = nI n → n < (wV W).length → oWay W (-1) r.1 n = some z → (∀ u ∈ z.1, u < 8) ∧ (∀ s ∈ z.2, s < (wS W).length) ∧ tGo 1 (trac (wS W) z.1 z.2) (oTrT ((wV W)[r.1]?.getD []) r.2.1, [], r.2.2, 0) ∧ ∀ f ∈ ((wV W)[n]?.getD []), tix (oTrX W r z).1 f.1 < (oTrX W r z).1.length) :
    zJ G 6 m_MD_translate 0 [some (zA q), some (zI x), some (zI v), none, none] [] (twp q h N) (fun o h' => ∃ z N', o = zR (zI z) ∧ h' = twp q h N' ∧ (N' 0 0 = (oTrans W x v).1 ∧ z = (oTrans W x v).2.1 ∧ tA N' (oTrans W x v).2.2)) := by
  have hW := hA.1
  have h8 := hW.1.2.2
  have bad : ∀ (M : Nat → Nat → Int32) (y : Int32), tA M W → 0 < y → oTrans W x v = (y, 0, W) → zJ G 6 m_MD_translate 41 [some (zA q), some (zI x), some (zI v), none, none] [zI y, zA q] (twp q h M) (fun o h' => ∃ z N', o = zR (zI z) ∧ h' = twp q h N' ∧ (N' 0 0 = (oTrans W x v).1 ∧ z = (oTrans W x v).2.1 ∧ tA N' (oTrans W x v).2.2)) := by
    intro M y hM hy e
    rw [e]
    refine t_putI hG hT d_MD_translate_41 f_MD_101 rfl rfl ?_
    refine zj_aload_n hG d_MD_translate_44 rfl rfl ?_
    refine t_getI hG hT d_MD_translate_45 f_MD_101 rfl ?_
    rw [zu_s]
    refine zj_if_le (tgt := 53) hG d_MD_translate_48 (by decide) (fun c => absurd c (Int32.not_le.mpr hy)) (fun _ => ?_)
    refine zj_iconst (v := 0) hG d_MD_translate_51 rfl ?_
    exact zj_iret hG d_MD_translate_52 rfl rfl ⟨_, _, rfl, rfl, zu_s, rfl, hM.th y⟩
  refine zj_aload_n hG d_MD_translate_0 rfl rfl ?_
  refine zj_aload_n hG d_MD_translate_1 rfl rfl ?_
  refine zj_iload_n hG d_MD_translate_2 rfl rfl ?_
  refine zj_callR (y' := m_MD_isRecordHandle) hG (zcP (as := [_]) hG d_MD_translate_3 c_MD_isRecordHandle (z_w7 198 rfl) (z_w7 200 rfl) (z_w7 199 rfl) (z_w7 8 rfl) rfl ⟨by decide, by decide⟩ hT.1 (by decide) (by decide) (show _ = some 1 from by decide +kernel) rfl) c_MD_isRecordHandle rfl (by omega) rfl (z_le rfl) (z_le rfl) (k_MD_isRecordHandle hG hT hW x) ?_
  cases hr : oRec W x with
  | none =>
    refine zj_if_eq (tgt := 17) hG d_MD_translate_6 (by decide) (fun _ => ?_) (fun c => absurd (by decide) c)
    refine zj_iconst (v := 1) hG d_MD_translate_17 rfl ?_
    refine zj_goto (tgt := 41) hG d_MD_translate_18 (by decide) ?_
    exact bad N 1 hA (by decide) (by rw [oTrans, hr])
  | some r =>
    obtain ⟨j, hj, rfl, hr2⟩ := oRec_some hr
    obtain ⟨a1, ⟨F, hF, hlF⟩, a3, a4⟩ := hW.r hj hr2
    have hrv := (List.getElem?_eq_some_iff.mp hF).1
    have hrv' : r.1 < (wV W).length := hrv
    refine zj_if_eq (tgt := 17) hG d_MD_translate_6 (by decide) (fun c => absurd c tb1) (fun _ => ?_)
    refine zj_aload_n hG d_MD_translate_9 rfl rfl ?_
    refine zj_iload_n hG d_MD_translate_10 rfl rfl ?_
    refine zj_callR (y' := m_MD_isVersion) hG (zcP (as := [_]) hG d_MD_translate_11 c_MD_isVersion (z_w7 62 rfl) (z_w7 64 rfl) (z_w7 63 rfl) (z_w7 8 rfl) rfl ⟨by decide, by decide⟩ hT.1 (by decide) (by decide) (show _ = some 1 from by decide +kernel) rfl) c_MD_isVersion rfl (by omega) rfl (z_le rfl) (z_le rfl) (k_MD_isVersion hG hT hW v) ?_
    refine zj_if_ne (tgt := 21) hG d_MD_translate_14 (by decide) (fun c14 => ?_) (fun c14 => ?_)
    rotate_left
    · refine zj_iconst (v := 1) hG d_MD_translate_17 rfl ?_
      refine zj_goto (tgt := 41) hG d_MD_translate_18 (by decide) ?_
      exact bad N 1 hA (by decide) (by rw [oTrans, hr]; simp only; rw [if_neg (by rw [tb_f c14]; decide)])
    have hv := tb_t c14
    obtain ⟨n, hn, rfl⟩ := oVer_n h8 hv
    have hop : oTrans W (nI j) (nI n) = (match oWay W (-1) r.1 n with
      | none => (2, 0, W)
      | some z => if (oTrX W r z).2.2.2 = 0 then (0, nI (z.1.length - 1), sRs W j (some (n, ((wV W)[n]?.getD []).map (fun f => eR (tel (oTrX W r z).1 f.1)), (oTrX W r z).2.2.1))) else (3, 0, W)) := by
      rw [oTrans, hr]
      simp only
      rw [if_pos hv, nI_clamp (n := n) (by omega), nI_clamp (n := j) (by omega)]
    refine zj_aload_n hG d_MD_translate_21 rfl rfl ?_
    refine zj_aload_n hG d_MD_translate_22 rfl rfl ?_
    refine t_getA (o := 10) hG hT d_MD_translate_23 f_MD_41 rfl rfl ?_
    refine zj_iload_n hG d_MD_translate_26 rfl rfl ?_
    refine t_ald (j) hG hT d_MD_translate_27 (by first | decide | omega) (by first | decide | omega) rfl hj ?_
    refine zj_iload_n hG d_MD_translate_28 rfl rfl ?_
    refine zj_iconst (v := -1) hG d_MD_translate_29 rfl ?_
    rw [a1]
    refine zj_callT (y' := m_MD_findRoute) hG (zcP (as := [_, _, _]) hG d_MD_translate_30 c_MD_findRoute (z_w8 18 rfl) (z_w8 20 rfl) (z_w8 19 rfl) (z_w7 8 rfl) rfl ⟨by decide, by decide⟩ hT.1 (by decide) (by decide) (show _ = some 3 from by decide +kernel) rfl) c_MD_findRoute rfl (by omega) rfl (z_le rfl) (z_le rfl) (k_MD_findRoute hG hT hW hS hrv' hn (-1) (hK _ (by split <;> assumption))) (fun v30 N30 e30 => ?_)
    obtain ⟨r1, r2, r3⟩ := e30
    subst r1
    have hA2 : tA N30 W := by
      obtain ⟨a, X, b, c⟩ := hA
      exact ⟨a.pr r2, X, b.fr2 r2 (by intro o i e; simp [pA, pT, pS, pW] at e; simp [pR]; omega), c⟩
    cases hw : oWay W (-1) r.1 n with
    | none =>
      refine zj_if_ne (tgt := 40) hG d_MD_translate_33 (by decide) (fun c => absurd rfl c) (fun _ => ?_)
      refine zj_iconst (v := 2) hG d_MD_translate_36 rfl ?_
      refine zj_goto (tgt := 41) hG d_MD_translate_37 (by decide) ?_
      exact bad N30 2 hA2 (by decide) (by rw [hop, hw])
    | some z =>
      rw [hw] at hop
      simp only at hop
      obtain ⟨s1, s2, s3⟩ := r3 z hw
      obtain ⟨p1, p2, p3, p4⟩ := hR j r n z rfl hj hr2 rfl hn hw
      obtain ⟨q1, q2⟩ := oWay_len hK hrv' hn hw
      have hFn : (wV W)[n]? = some (wV W)[n] := List.getElem?_eq_getElem hn
      rw [hF] at p3
      simp only [Option.getD_some] at p3
      have htx : oTrX W r z = trun 1 (trac (wS W) z.1 z.2) (oTrT F r.2.1, [], r.2.2, 0) := by
        rw [oTrX, hF]
        rfl
      rw [hFn] at p4 hop
      simp only [Option.getD_some] at p4 hop
      generalize hY : oTrX W r z = Y at *
      rw [hop]
      clear bad hop
      have hA3 := hA2.th 0
      obtain ⟨hW3, X, hX3, hXl⟩ := hA3
      have z0 : zu N30 0 0 0 0 0 = 0 := zu_s
      have t33 : zu N30 0 0 0 0 33 = nI z.1.length := by rw [zu_k (by omega)]; exact s1
      have t25 : tLs (zu N30 0 0 0) 25 z.1 := fun i y hi => by rw [zu_a (by omega)]; exact s2 i y hi
      have t26 : tLs (zu N30 0 0 0) 26 z.2 := fun i y hi => by rw [zu_a (by omega)]; exact s3 i y hi
      refine zj_if_ne (tgt := 40) hG d_MD_translate_33 (by decide) (fun _ => ?_) (fun c => absurd c tb1)
      refine zj_iconst (v := 0) hG d_MD_translate_40 rfl ?_
      refine t_putI hG hT d_MD_translate_41 f_MD_101 rfl rfl ?_
      refine zj_aload_n hG d_MD_translate_44 rfl rfl ?_
      refine t_getI hG hT d_MD_translate_45 f_MD_101 rfl ?_
      rw [zu_s]
      refine zj_if_le (tgt := 53) hG d_MD_translate_48 (by decide) (fun _ => ?_) (fun c => absurd (by decide) c)
      generalize zu N30 0 0 0 = M at *
      obtain ⟨b1, ⟨F', hF', hlF'⟩, b3, b4⟩ := hW3.r hj hr2
      have hXm : tX (zu (zu M 0 27 1) 0 28 0) (X.1, X.2.1, X.2.2.1, 0) := by
        have f : tFr (fun o i => o == 0 && (i == 27 || i == 28)) M (zu (zu M 0 27 1) 0 28 0) := tFr.put (tFr.put tFr.rfl' rfl) rfl
        exact ⟨hX3.1.fr f (by intro o i e; simp [pT] at e; simp; omega), hX3.2.1.fr f (by intro o i e; simp [pS] at e; simp; omega), hX3.2.2.1.fr f (by intro o i e; simp [pK] at e; simp; omega), zu_s⟩
      have fm : tFr pM M (zu (zu M 0 27 1) 0 28 0) := tFr.put (tFr.put tFr.rfl' rfl) rfl
      have hVr := (hW3.pm fm).2.1 _ F hF
      have h24 := hVr.2.1
      refine zj_sipush (v := 128) hG d_MD_translate_53 rfl ?_
      refine zj_istore_n hG d_MD_translate_56 rfl (by decide) rfl rfl ?_
      refine zj_aload_n hG d_MD_translate_57 rfl rfl ?_
      refine zj_iconst (v := 1) hG d_MD_translate_58 rfl ?_
      refine t_putI hG hT d_MD_translate_59 f_MD_118 rfl rfl ?_
      refine zj_aload_n hG d_MD_translate_62 rfl rfl ?_
      refine zj_iconst (v := 0) hG d_MD_translate_63 rfl ?_
      refine t_putZ hG hT d_MD_translate_64 f_MD_214 rfl rfl (Or.inl rfl) ?_
      refine zj_aload_n hG d_MD_translate_67 rfl rfl ?_
      refine zj_aload_n hG d_MD_translate_68 rfl rfl ?_
      refine t_getA (o := 10) hG hT d_MD_translate_69 f_MD_41 rfl rfl ?_
      refine zj_iload_n hG d_MD_translate_72 rfl rfl ?_
      refine t_ald (j) hG hT d_MD_translate_73 (by first | decide | omega) (by first | decide | omega) rfl hj ?_
      rw [zu_a (show (10 : Nat) ≠ 0 by omega), zu_a (show (10 : Nat) ≠ 0 by omega), b1]
      refine zj_callU (y' := m_MD_take) hG (zcP (as := [_]) hG d_MD_translate_74 c_MD_take (z_w7 14 rfl) (z_w7 16 rfl) (z_w7 15 rfl) (z_w7 8 rfl) rfl ⟨by decide, by decide⟩ hT.1 (by decide) (by decide) (show _ = some 1 from by decide +kernel) rfl) c_MD_take rfl (by omega) rfl (z_le rfl) (z_le rfl) (k_MD_takeX hG hT hXm (by omega) hVr (by simp only; omega)) (fun N74 e74 => ?_)
      obtain ⟨k1, k2⟩ := e74
      have m1 : zu (zu M 0 27 1) 0 28 0 0 27 = 1 := by rw [zu_k (by omega), zu_s]
      rw [m1, ttk_0 (by decide)] at k1
      simp only at k1
      have f4 : tFr pM M N74 := fm.trans (k2.mono pTS_M)
      have mode4 : N74 0 27 = 1 := (k2 0 27 rfl).trans m1
      refine zj_iconst (v := 0) hG d_MD_translate_77 rfl ?_
      refine zj_istore hG d_MD_translate_78 (by decide) rfl rfl ?_
      refine k_MD_tr1 (N := N74) (F := F) (rs := r.2.1) hG hT hj hlF h24 (fun k l hk => (b3 k l hk).fr (fun i _ _ => f4 11 i rfl)) ?_ _ 0 N74 (Nat.zero_add _) (fun _ _ _ => rfl) (by simpa using k1.1)
      intro M5 w5 f5 t5
      refine zj_iconst (v := 0) hG d_MD_translate_118 rfl ?_
      refine zj_istore hG d_MD_translate_119 (by decide) rfl rfl ?_
      have key := k_MD_tr2 (N := M5) (v2 := zI (nI n)) hG hT hj (Q := fun o h' => ∃ y N', o = zR (zI y) ∧ h' = twp q h N' ∧ N' 0 0 = (if Y.2.2.2 = 0 then ((0 : Int32), nI (z.1.length - 1), sRs W j (some (n, ((wV W)[n]).map (fun f => eR (tel Y.1 f.1)), Y.2.2.1))) else (3, 0, W)).1 ∧ y = (if Y.2.2.2 = 0 then ((0 : Int32), nI (z.1.length - 1), sRs W j (some (n, ((wV W)[n]).map (fun f => eR (tel Y.1 f.1)), Y.2.2.1))) else (3, 0, W)).2.1 ∧ tA N' (if Y.2.2.2 = 0 then ((0 : Int32), nI (z.1.length - 1), sRs W j (some (n, ((wV W)[n]).map (fun f => eR (tel Y.1 f.1)), Y.2.2.1))) else (3, 0, W)).2.2) ?_ 128 0 (by omega)
      · rw [show tcp M5 12 (128 * j) 20 0 0 = M5 from tcp_0] at key
        exact key
      intro w6
      refine zj_iconst (v := 0) hG d_MD_translate_151 rfl ?_
      refine zj_istore hG d_MD_translate_152 (by decide) rfl rfl ?_
      have key := k_MD_tr3 (N := tcp M5 12 (128 * j) 20 0 128) (v2 := zI (nI n)) hG hT hj (Q := fun o h' => ∃ y N', o = zR (zI y) ∧ h' = twp q h N' ∧ N' 0 0 = (if Y.2.2.2 = 0 then ((0 : Int32), nI (z.1.length - 1), sRs W j (some (n, ((wV W)[n]).map (fun f => eR (tel Y.1 f.1)), Y.2.2.1))) else (3, 0, W)).1 ∧ y = (if Y.2.2.2 = 0 then ((0 : Int32), nI (z.1.length - 1), sRs W j (some (n, ((wV W)[n]).map (fun f => eR (tel Y.1 f.1)), Y.2.2.1))) else (3, 0, W)).2.1 ∧ tA N' (if Y.2.2.2 = 0 then ((0 : Int32), nI (z.1.length - 1), sRs W j (some (n, ((wV W)[n]).map (fun f => eR (tel Y.1 f.1)), Y.2.2.1))) else (3, 0, W)).2.2) ?_ 1792 0 (by omega)
      · rw [show tcp (tcp M5 12 (128 * j) 20 0 128) 13 (1792 * j) 21 0 0 = tcp M5 12 (128 * j) 20 0 128 from tcp_0] at key
        exact key
      intro w7
      have f7 : ∀ o i, o ≠ 18 → o ≠ 20 → o ≠ 21 → tcp (tcp M5 12 (128 * j) 20 0 128) 13 (1792 * j) 21 0 1792 o i = N74 o i := by
        intro o i e1 e2 e3
        rw [tcp_n (by omega), tcp_n (by omega)]
        exact f5 o i e1
      have wk7 : tWk (tcp (tcp M5 12 (128 * j) 20 0 128) 13 (1792 * j) 21 0 1792) r.2.2 := by
        intro s hs
        obtain ⟨d1, d2, d3⟩ := b4 s hs
        have g13 : ∀ i, tcp M5 12 (128 * j) 20 0 128 13 i = M 13 i := by
          intro i
          rw [tcp_n (by omega), f5 _ _ (by omega)]
          exact f4 13 i rfl
        refine ⟨?_, fun e => ?_, fun e => ?_⟩
        · rw [tcp_n (by omega)]
          have := tcx_at (N := M5) (o1 := 12) (b1 := 128 * j) (o2 := 20) (b2 := 0) (n := 128) hs
          rw [Nat.zero_add] at this
          rw [this, f5 _ _ (by omega), f4 12 _ rfl]
          exact d1
        · have g := d2 e
          rw [show 14 * (128 * j + s) = 1792 * j + 14 * s by omega] at g
          have := tcx_row (N := tcp M5 12 (128 * j) 20 0 128) (o1 := 13) (b1 := 1792 * j) (o2 := 21) (b2 := 0) (n := 1792) (i := 14 * s) (g.fr (fun i _ _ => g13 i)) (by omega)
          rw [Nat.zero_add] at this
          exact this
        · have g := d3 e
          rw [show 14 * (128 * j + s) + 7 = 1792 * j + (14 * s + 7) by omega] at g
          have := tcx_row (N := tcp M5 12 (128 * j) 20 0 128) (o1 := 13) (b1 := 1792 * j) (o2 := 21) (b2 := 0) (n := 1792) (i := 14 * s + 7) (g.fr (fun i _ _ => g13 i)) (by omega)
          rw [Nat.zero_add] at this
          exact this
      have tT7 : tTab (tcp (tcp M5 12 (128 * j) 20 0 128) 13 (1792 * j) 21 0 1792) (oTrT F r.2.1) := t5.fr (P := fun o _ => o == 20 || o == 21) (fun o i e => by rw [tcp_n (by simp at e; omega), tcp_n (by simp at e; omega)]) (by intro o i e; simp [pT] at e; simp; omega)
      generalize tcp (tcp M5 12 (128 * j) 20 0 128) 13 (1792 * j) 21 0 1792 = M7 at *
      have fM7 : tFr (fun o i => pM o i || o == 20 || o == 21) M M7 := by
        intro o i e
        simp at e
        have e18 : o ≠ 18 := by
          intro g
          subst g
          have := e.1.1
          simp [pM, pA, pT] at this
        rw [f7 o i e18 e.1.2 e.2]
        exact f4 o i e.1.1
      have hW7 : tW M7 W := hW3.fr fM7 (by intro o i e; simp [pP] at e; simp [pM, pA, pT, pS, pW]; omega)
      have hX7 : tX M7 (oTrT F r.2.1, X.2.1, r.2.2, 0) := ⟨tT7, k1.2.1.fr (P := fun o _ => o == 18 || o == 20 || o == 21) (fun o i e => f7 o i (by simp at e; omega) (by simp at e; omega) (by simp at e; omega)) (by intro o i e; simp [pS] at e; simp; omega), wk7, by rw [f7 _ _ (by omega) (by omega) (by omega)]; exact k1.2.2.2⟩
      have mode7 : M7 0 27 = 1 := (f7 0 27 (by omega) (by omega) (by omega)).trans mode4
      refine zj_aload_n hG d_MD_translate_190 rfl rfl ?_
      refine zj_callU (y' := m_MD_goRoute) hG (zcP (as := []) hG d_MD_translate_191 c_MD_goRoute (z_w8 30 rfl) (z_w8 32 rfl) (z_w8 31 rfl) (z_w7 8 rfl) rfl ⟨by decide, by decide⟩ hT.1 (by decide) (by decide) (show _ = some 0 from by decide +kernel) rfl) c_MD_goRoute rfl (by omega) rfl (z_le rfl) (z_le rfl) (k_MD_goRoute hG hT hW7 hS q1 (by omega) ((fM7 0 33 rfl).trans t33) (fun i y hi => (fM7 25 i rfl).trans (t25 i y hi)) (fun i y hi => (fM7 26 i rfl).trans (t26 i y hi)) p1 p2 hX7 (by rw [mode7]; exact tGo_1 _ _ _ _ _ (by omega) p3)) (fun N191 e191 => ?_)
      obtain ⟨g1, g2⟩ := e191
      rw [mode7, trun_1, ← htx] at g1
      have hW8 : tW N191 W := hW7.pa g2
      have hA8 : tA N191 W := ⟨hW8, _, g1, hXl⟩
      refine zj_aload_n hG d_MD_translate_194 rfl rfl ?_
      refine zj_aload_n hG d_MD_translate_195 rfl rfl ?_
      refine t_getI hG hT d_MD_translate_196 f_MD_214 rfl ?_
      rw [g1.2.2.2]
      simp only
      refine zj_if_eq (tgt := 206) hG d_MD_translate_199 (by decide) (fun c199 => ?_) (fun c199 => ?_)
      rotate_left
      · rw [if_neg c199]
        refine zj_iconst (v := 3) hG d_MD_translate_202 rfl ?_
        refine zj_goto (tgt := 207) hG d_MD_translate_203 (by decide) ?_
        refine t_putI hG hT d_MD_translate_207 f_MD_101 rfl rfl ?_
        refine zj_aload_n hG d_MD_translate_210 rfl rfl ?_
        refine t_getI hG hT d_MD_translate_211 f_MD_101 rfl ?_
        rw [zu_s]
        refine zj_if_le (tgt := 219) hG d_MD_translate_214 (by decide) (fun c => absurd c (by decide)) (fun _ => ?_)
        refine zj_iconst (v := 0) hG d_MD_translate_217 rfl ?_
        exact zj_iret hG d_MD_translate_218 rfl rfl ⟨_, _, rfl, rfl, zu_s, rfl, hA8.th 3⟩
      rw [if_pos c199]
      obtain ⟨hW9, -⟩ := hA8.th 0
      have hX9 : tX (zu N191 0 0 0) (Y.1, X.2.1, Y.2.2) := g1.fr2 (P := fun o i => o == 0 && i == 0) (tFr.put tFr.rfl' rfl) (by intro o i e; simp [pA, pT, pS, pW] at e; simp; omega)
      have z9 : zu N191 0 0 0 0 0 = 0 := zu_s
      have t9 : zu N191 0 0 0 0 33 = nI z.1.length := by
        rw [zu_k (by omega), g2 0 33 rfl, fM7 0 33 rfl]
        exact t33
      refine zj_iconst (v := 0) hG d_MD_translate_206 rfl ?_
      refine t_putI hG hT d_MD_translate_207 f_MD_101 rfl rfl ?_
      refine zj_aload_n hG d_MD_translate_210 rfl rfl ?_
      refine t_getI hG hT d_MD_translate_211 f_MD_101 rfl ?_
      rw [zu_s]
      refine zj_if_le (tgt := 219) hG d_MD_translate_214 (by decide) (fun _ => ?_) (fun c => absurd (by decide) c)
      generalize zu N191 0 0 0 = M9 at *
      refine zj_aload_n hG d_MD_translate_219 rfl rfl ?_
      refine t_getA (o := 10) hG hT d_MD_translate_220 f_MD_41 rfl rfl ?_
      refine zj_iload_n hG d_MD_translate_223 rfl rfl ?_
      refine zj_iload_n hG d_MD_translate_224 rfl rfl ?_
      refine t_ast (j) hG hT d_MD_translate_225 (by first | decide | omega) (by first | decide | omega) rfl hj ?_
      refine zj_iconst (v := 0) hG d_MD_translate_226 rfl ?_
      refine zj_istore hG d_MD_translate_227 (by decide) rfl rfl ?_
      have f10 : tFr (fun o _ => o == 10) M9 (zu M9 10 j (nI n)) := tFr.put tFr.rfl' rfl
      refine k_MD_tr4 (N := zu M9 10 j (nI n)) (F := (wV W)[n]) (T := Y.1) hG hT hj (by omega) ((hW9.2.1 n _ hFn).fr f10 (by intro o i e; simp [pV] at e; simp; omega)) (hX9.1.fr f10 (by intro o i e; simp [pT] at e; simp; omega)) p4 ?_ _ 0 _ (Nat.zero_add _) (fun _ _ _ => rfl) (fun _ _ e => by omega)
      intro M11 w11 f11 r11
      refine zj_iconst (v := 0) hG d_MD_translate_283 rfl ?_
      refine zj_istore hG d_MD_translate_284 (by decide) rfl rfl ?_
      have key := k_MD_tr5 (N := M11) (v2 := zI (nI n)) hG hT hj (Q := fun o h' => ∃ y N', o = zR (zI y) ∧ h' = twp q h N' ∧ N' 0 0 = (0 : Int32) ∧ y = nI (z.1.length - 1) ∧ tA N' (sRs W j (some (n, ((wV W)[n]).map (fun f => eR (tel Y.1 f.1)), Y.2.2.1)))) ?_ 128 0 (by omega)
      · rw [show tcp M11 20 0 12 (128 * j) 0 = M11 from tcp_0] at key
        exact key
      intro w12
      refine zj_iconst (v := 0) hG d_MD_translate_316 rfl ?_
      refine zj_istore hG d_MD_translate_317 (by decide) rfl rfl ?_
      have key := k_MD_tr6 (N := tcp M11 20 0 12 (128 * j) 128) (v2 := zI (nI n)) hG hT hj (Q := fun o h' => ∃ y N', o = zR (zI y) ∧ h' = twp q h N' ∧ N' 0 0 = (0 : Int32) ∧ y = nI (z.1.length - 1) ∧ tA N' (sRs W j (some (n, ((wV W)[n]).map (fun f => eR (tel Y.1 f.1)), Y.2.2.1)))) ?_ 1792 0 (by omega)
      · rw [show tcp (tcp M11 20 0 12 (128 * j) 128) 21 0 13 (1792 * j) 0 = tcp M11 20 0 12 (128 * j) 128 from tcp_0] at key
        exact key
      intro w13
      have f13 : ∀ o i, ¬ (o = 10 ∧ i = j) → ¬ (o = 11 ∧ 168 * j ≤ i ∧ i < 168 * j + 168) → ¬ (o = 12 ∧ 128 * j ≤ i ∧ i < 128 * j + 128) → ¬ (o = 13 ∧ 1792 * j ≤ i ∧ i < 1792 * j + 1792) → tcp (tcp M11 20 0 12 (128 * j) 128) 21 0 13 (1792 * j) 1792 o i = M9 o i := by
        intro o i e1 e2 e3 e4
        rw [tcp_n e4, tcp_n e3, f11 o i e2, zu, if_neg e1]
      have hzl : 1 ≤ z.1.length := by omega
      refine zj_aload_n hG d_MD_translate_355 rfl rfl ?_
      refine t_getI hG hT d_MD_translate_356 f_MD_299 rfl ?_
      refine zj_iconst (v := 1) hG d_MD_translate_359 rfl ?_
      refine zj_isub hG d_MD_translate_360 ?_
      rw [f13 _ _ (by omega) (by omega) (by omega) (by omega), t9, nI_sub1 hzl]
      refine zj_iret hG d_MD_translate_361 rfl rfl ⟨_, _, rfl, rfl, ?_, rfl, hW9.rc (fun o i _ e1 e2 e3 e4 => f13 o i e1 e2 e3 e4) ⟨?_, ⟨_, hFn, by simp⟩, fun k l hk => ?_, fun s hs => ?_⟩, _, hX9.fr2 (P := fun o _ => 10 ≤ o && o ≤ 13) (fun o i e => f13 o i (by simp at e; omega) (by simp at e; omega) (by simp at e; omega) (by simp at e; omega)) (by intro o i e; simp [pA, pT, pS, pW] at e; simp; omega), hXl⟩
      · rw [f13 _ _ (by omega) (by omega) (by omega) (by omega), z9]
      · rw [tcp_n (by omega), tcp_n (by omega), f11 _ _ (by omega), zu_s]
      · have hk2 := (List.getElem?_eq_some_iff.mp hk).1
        have hk3 : k < ((wV W)[n]).length := by simpa using hk2
        simp only [List.getElem?_map, List.getElem?_eq_getElem hk3, Option.map_some, Option.some.injEq] at hk
        rw [← hk]
        exact (r11 k hk3).fr (fun i _ _ => by rw [tcp_n (by omega), tcp_n (by omega)])
      · obtain ⟨d1, d2, d3⟩ := hX9.2.2.1 s hs
        have g20 : ∀ i, M11 20 i = M9 20 i := fun i => by rw [f11 _ _ (by omega), zu_a (by omega)]
        have g21 : ∀ i, tcp M11 20 0 12 (128 * j) 128 21 i = M9 21 i := fun i => by rw [tcp_n (by omega), f11 _ _ (by omega), zu_a (by omega)]
        refine ⟨?_, fun e => ?_, fun e => ?_⟩
        · rw [tcp_n (by omega), tcx_at hs, Nat.zero_add, g20]
          exact d1
        · have g := d2 e
          rw [show 14 * (128 * j + s) = 1792 * j + 14 * s by omega]
          refine tcx_row (N := tcp M11 20 0 12 (128 * j) 128) ?_ (by omega)
          rw [Nat.zero_add]
          exact g.fr (fun i _ _ => g21 i)
        · have g := d3 e
          rw [show 14 * (128 * j + s) + 7 = 1792 * j + (14 * s + 7) by omega]
          refine tcx_row (N := tcp M11 20 0 12 (128 * j) 128) ?_ (by omega)
          rw [Nat.zero_add]
          exact g.fr (fun i _ _ => g21 i)
end MD31
