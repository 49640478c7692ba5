/-! PART 25: the reference: a primitive back -/
/-- unwrapped -/
def tuwp (m : Int32) (k : Nat) (e : tE) (s : Nat) (X : tXt) : tXt :=
  (X.1.set k (e.1, 0, e.2.2.1, e.2.2.2.1, (if m = 1 then tuw e else eR e), (if m = 2 then (topn X.2.1 (tjx e) (txx X.2.1 e) (eL e) (eH e)).1 else 0)),
   (if m = 2 then (topn X.2.1 (tjx e) (txx X.2.1 e) (eL e) (eH e)).2 else X.2.1), (if m = 1 then zw X.2.2.1 s (if (eR e).length = 1 then tK0 else (1, eR e, [])) else X.2.2.1), X.2.2.2)
/-- a primitive back -/
def tba (m : Int32) (p : tPm) (s : Nat) (X : tXt) : tXt :=
  let e := tel X.1 p.2.1
  let k := tix X.1 p.2.1
  if p.1 = 0 ∨ p.1 = 4 then (X.1.map (tmv (tbeh p.1 p.2.1 p.2.2.1) p.2.1), X.2)
  else if p.1 = 1 then tdpt m s k e X
  else if p.1 = 2 then tarr m p s X
  else if p.1 = 3 then tuwp m k e s X
  else if p.1 = 5 then tjn m k (tix X.1 (tbes p.2.1 p.2.2.2.1)) e (tel X.1 (tbes p.2.1 p.2.2.2.1)) (tjx e) (tjx (tel X.1 (tbes p.2.1 p.2.2.2.1))) (txx X.2.1 e) (txx X.2.1 (tel X.1 (tbes p.2.1 p.2.2.2.1))) p.2.2.1 p.2.2.2.2.2.1 p.2.2.2.2.2.2 X
  else if p.1 = 6 then tch m k (e.1, e.2.1, p.2.2.2.2.2.1, p.2.2.2.2.2.2, e.2.2.2.2) s p false (tbnd k p.2.2.2.2.2.1 p.2.2.2.2.2.2 X)
  else tch m k e s p false X
def tbK (p : tPm) (T : List tE) : Prop := T.length ≤ 24 ∧ (p.1 = 0 ∨ p.1 = 4 ∨ p.1 = 2 ∨ tix T p.2.1 < T.length ∧ (p.1 = 1 ∨ p.1 = 8 ∨ p.1 = 3 ∨ (p.1 = 6 ∧ ¬ p.2.2.1 = 0 ∧ ¬ p.2.2.2.1 = 0 ∨ p.1 = 7) ∧ eS (tel T p.2.1) = 0 ∨ p.1 = 5 ∧ eS (tel T p.2.1) = 0 ∧ tix T (tbes p.2.1 p.2.2.2.1) < T.length ∧ tix T p.2.1 ≠ tix T (tbes p.2.1 p.2.2.2.1) ∧ eS (tel T (tbes p.2.1 p.2.2.2.1)) = 0))
section MD12
variable {G : zG} {q : Nat} {h : zH} {N : Nat → Nat → Int32} {X : tXt}
set_option maxRecDepth 4000 in
theorem k_MD_back (hG : zOK G) (hT : twOK q h) (hX : tX N X) (hI : tInv (N 0 27) X) (hl : X.2.1.length + 3 ≤ 1024) {st i : Nat} (hs : 8 * st + i < 136) {p : tPm} (hp : tPr N (8 * (8 * st + i)) p) (hm : N 0 27 = 1 → 8 * st + i < 128) (hK : tbK p X.1) :
    zJ G 4 m_MD_back 0 [some (zA q), some (zI (nI st)), some (zI (nI i)), none, none, none, none, none, none, none] [] (twp q h N) (fun o h' => ∃ N', o = zR0 ∧ h' = twp q h N' ∧ (tX N' (tba (N 0 27) p (8 * st + i) X) ∧ tFr pA N N')) := by
  obtain ⟨hN, hS, hW, hc⟩ := id hX
  have hlT := hN.l
  have hp' := hp
  obtain ⟨p0, p1, p2, p3, p5, p6, p7⟩ := hp'
  have hl' : X.2.1.length < 1024 := by omega
  refine zj_aload_n hG d_MD_back_0 rfl rfl ?_
  refine zj_iload_n hG d_MD_back_1 rfl rfl ?_
  refine zj_iload_n hG d_MD_back_2 rfl rfl ?_
  refine zj_callR (y' := m_MD_at) hG (zcP (as := [_, _]) hG d_MD_back_3 c_MD_at (z_w7 78 rfl) (z_w7 80 rfl) (z_w7 79 rfl) (z_w7 8 rfl) rfl ⟨by decide, by decide⟩ hT.1 (by decide) (by decide) (show _ = some 2 from by decide +kernel) rfl) c_MD_at rfl (by omega) rfl (z_le rfl) (z_le rfl) (k_MD_at hG st i _ _) ?_
  generalize hr : 8 * (8 * st + i) = r at *
  generalize hsl : 8 * st + i = s at *
  have hr7 : r + 7 < 1088 := by omega
  refine zj_istore_n hG d_MD_back_6 rfl (by decide) rfl rfl ?_
  refine zj_aload_n hG d_MD_back_7 rfl rfl ?_
  refine t_getA (o := 9) hG hT d_MD_back_8 f_MD_38 rfl rfl ?_
  refine zj_iload_n hG d_MD_back_11 rfl rfl ?_
  refine t_ald (r) hG hT d_MD_back_12 (by first | decide | omega) (by first | decide | omega) rfl (by show _ < 1088; omega) ?_
  refine zj_istore hG d_MD_back_13 (by decide) rfl rfl ?_
  refine zj_aload_n hG d_MD_back_15 rfl rfl ?_
  refine t_getA (o := 9) hG hT d_MD_back_16 f_MD_38 rfl rfl ?_
  refine zj_iload_n hG d_MD_back_19 rfl rfl ?_
  refine zj_iconst (v := 1) hG d_MD_back_20 rfl ?_
  refine zj_iadd hG d_MD_back_21 ?_
  refine t_ald (r + 1) hG hT d_MD_back_22 (by first | decide | omega) (by first | decide | omega) (nI_1 _) (by show _ < 1088; omega) ?_
  refine zj_istore hG d_MD_back_23 (by decide) rfl rfl ?_
  refine zj_aload_n hG d_MD_back_25 rfl rfl ?_
  refine t_getA (o := 9) hG hT d_MD_back_26 f_MD_38 rfl rfl ?_
  refine zj_iload_n hG d_MD_back_29 rfl rfl ?_
  refine zj_iconst (v := 2) hG d_MD_back_30 rfl ?_
  refine zj_iadd hG d_MD_back_31 ?_
  refine t_ald (r + 2) hG hT d_MD_back_32 (by first | decide | omega) (by first | decide | omega) (nI_a2 _) (by show _ < 1088; omega) ?_
  refine zj_istore hG d_MD_back_33 (by decide) rfl rfl ?_
  refine zj_aload_n hG d_MD_back_35 rfl rfl ?_
  refine t_getA (o := 9) hG hT d_MD_back_36 f_MD_38 rfl rfl ?_
  refine zj_iload_n hG d_MD_back_39 rfl rfl ?_
  refine zj_iconst (v := 3) hG d_MD_back_40 rfl ?_
  refine zj_iadd hG d_MD_back_41 ?_
  refine t_ald (r + 3) hG hT d_MD_back_42 (by first | decide | omega) (by first | decide | omega) (nI_a3 _) (by show _ < 1088; omega) ?_
  refine zj_istore hG d_MD_back_43 (by decide) rfl rfl ?_
  refine zj_bipush (v := 8) hG d_MD_back_45 rfl ?_
  refine zj_iload_n hG d_MD_back_47 rfl rfl ?_
  refine zj_imul hG d_MD_back_48 ?_
  refine zj_iload_n hG d_MD_back_49 rfl rfl ?_
  refine zj_iadd hG d_MD_back_50 ?_
  refine zj_istore hG d_MD_back_51 (by decide) rfl rfl ?_
  refine zj_aload_n hG d_MD_back_53 rfl rfl ?_
  refine zj_iload hG d_MD_back_54 rfl ?_
  rw [p0, p1, p2, p3, show (8 : Int32) * nI st + nI i = nI s by rw [nI_8, nI_add, hsl]]
  refine zj_callR (y' := m_MD_find) hG (zcP (as := [_]) hG d_MD_back_56 c_MD_find (z_w7 47 rfl) (z_w7 49 rfl) (z_w7 48 rfl) (z_w7 8 rfl) rfl ⟨by decide, by decide⟩ hT.1 (by decide) (by decide) (show _ = some 1 from by decide +kernel) rfl) c_MD_find rfl (by omega) rfl (z_le rfl) (z_le rfl) (k_MD_find hG hT hN _) ?_
  refine zj_istore hG d_MD_back_59 (by decide) rfl rfl ?_
  refine zj_iload hG d_MD_back_61 rfl ?_
  have ret : ∀ (M : Nat → Nat → Int32) (ls : List (Option zV)), tX M (tba (N 0 27) p s X) → tFr pA N M → zJ G 4 m_MD_back 286 ls [] (twp q h M) (fun o h' => ∃ N', o = zR0 ∧ h' = twp q h N' ∧ (tX N' (tba (N 0 27) p s X) ∧ tFr pA N N')) := by
    intro M ls g1 g2
    exact zj_vret hG d_MD_back_286 rfl ⟨M, rfl, rfl, g1, g2⟩
  obtain ⟨h24, hK⟩ := hK
  have mv : (p.1 = 0 ∨ p.1 = 4) → ∀ v : zV, zJ G 4 m_MD_back 104 [some (zA q), some (zI (nI st)), some (zI (nI i)), some (zI (nI r)), some (zI p.1), some (zI p.2.1), some (zI p.2.2.1), some (zI p.2.2.2.1), some (zI (nI s)), some v] [] (twp q h N) (fun o h' => ∃ N', o = zR0 ∧ h' = twp q h N' ∧ (tX N' (tba (N 0 27) p s X) ∧ tFr pA N N')) := by
    intro g v
    refine zj_aload_n hG d_MD_back_104 rfl rfl ?_
    refine zj_aload_n hG d_MD_back_105 rfl rfl ?_
    refine zj_iload hG d_MD_back_106 rfl ?_
    refine zj_iload hG d_MD_back_108 rfl ?_
    refine zj_iload hG d_MD_back_110 rfl ?_
    refine zj_callR (y' := m_MD_pathBehind) hG (zcP (as := [_, _, _]) hG d_MD_back_112 c_MD_pathBehind (z_w7 82 rfl) (z_w7 84 rfl) (z_w7 83 rfl) (z_w7 8 rfl) rfl ⟨by decide, by decide⟩ hT.1 (by decide) (by decide) (show _ = some 3 from by decide +kernel) rfl) c_MD_pathBehind rfl (by omega) rfl (z_le rfl) (z_le rfl) (k_MD_pathBehind hG _ _ _ _ _) ?_
    refine zj_iload hG d_MD_back_115 rfl ?_
    refine zj_callU (y' := m_MD_move) hG (zcP (as := [_, _]) hG d_MD_back_117 c_MD_move (z_w7 92 rfl) (z_w7 94 rfl) (z_w7 93 rfl) (z_w7 8 rfl) rfl ⟨by decide, by decide⟩ hT.1 (by decide) (by decide) (show _ = some 2 from by decide +kernel) rfl) c_MD_move rfl (by omega) rfl (z_le rfl) (z_le rfl) (k_MD_move hG hT hN _ _) (fun N117 e117 => ?_)
    obtain ⟨r1, r2⟩ := e117
    refine zj_goto (tgt := 286) hG d_MD_back_120 (by decide) ?_
    refine ret _ _ ?_ (r2.mono pT_A)
    rw [tba]
    simp only [if_pos g]
    exact hX.fr r2 pT_SK r1
  rcases hK with g | g | g | ⟨hk, hK⟩
  · have := mv (Or.inl g) (zI (tfnd X.1 p.2.1))
    rw [g] at this ⊢
    exact zj_tableIn (off := 41) (tgt := 104) hG d_MD_back_63 (by decide) (by decide) rfl rfl this
  · have := mv (Or.inr g) (zI (tfnd X.1 p.2.1))
    rw [g] at this ⊢
    exact zj_tableIn (off := 41) (tgt := 104) hG d_MD_back_63 (by decide) (by decide) rfl rfl this
  · have n0 : ¬ (p.1 = 0 ∨ p.1 = 4) := by rw [g]; decide
    have n1 : ¬ p.1 = 1 := by rw [g]; decide
    rw [g]
    refine zj_tableIn (off := 71) (tgt := 134) hG d_MD_back_63 (by decide) (by decide) rfl rfl ?_
    refine zj_aload_n hG d_MD_back_134 rfl rfl ?_
    refine zj_iload_n hG d_MD_back_135 rfl rfl ?_
    refine zj_iload hG d_MD_back_136 rfl ?_
    refine zj_callU (y' := m_MD_arrive) hG (zcP (as := [_, _]) hG d_MD_back_138 c_MD_arrive (z_w7 99 rfl) (z_w7 101 rfl) (z_w7 100 rfl) (z_w7 8 rfl) rfl ⟨by decide, by decide⟩ hT.1 (by decide) (by decide) (show _ = some 2 from by decide +kernel) rfl) c_MD_arrive rfl (by omega) rfl (z_le rfl) (z_le rfl) (k_MD_arrive hG hT hX h24 hl' hm hr7 hp) (fun N138 e138 => ?_)
    obtain ⟨r1, r2⟩ := e138
    refine zj_goto (tgt := 286) hG d_MD_back_141 (by decide) ?_
    refine ret _ _ ?_ r2
    rw [tba]
    simp only [if_neg n0, if_neg n1, if_pos g]
    exact r1
  have hfn := tix_fnd hk
  have hel := tel_eq hk
  rw [hfn]
  have chg : ∀ (hd : p.1 = 6 → ¬ p.2.2.1 = 0 ∧ ¬ p.2.2.2.1 = 0) (hx : p.1 = 6 ∨ p.1 = 7 → eS (tel X.1 p.2.1) = 0), zJ G 3 m_MD_change 0 [some (zA q), some (zI (nI (tix X.1 p.2.1))), some (zI p.1), some (zI p.2.2.1), some (zI p.2.2.2.1), some (zI 0), some (zI (nI s)), some (zI (nI r)), none, none] [] (twp q h N) (fun o h' => ∃ N', o = zR0 ∧ h' = twp q h N' ∧ (tX N' (tch (N 0 27) (tix X.1 p.2.1) (tel X.1 p.2.1) s p false X) ∧ tFr pA N N')) := by
    intro hd hx
    rw [hel] at hx ⊢
    exact k_MD_change hG hT hX hI hl' hm hk hr7 hp false hd hx
  have def8 : (p.1 = 7 ∨ p.1 = 8) → (p.1 = 7 → eS (tel X.1 p.2.1) = 0) → zJ G 4 m_MD_back 270 [some (zA q), some (zI (nI st)), some (zI (nI i)), some (zI (nI r)), some (zI p.1), some (zI p.2.1), some (zI p.2.2.1), some (zI p.2.2.2.1), some (zI (nI s)), some (zI (nI (tix X.1 p.2.1)))] [] (twp q h N) (fun o h' => ∃ N', o = zR0 ∧ h' = twp q h N' ∧ (tX N' (tba (N 0 27) p s X) ∧ tFr pA N N')) := by
    intro g gs
    have n6 : ¬ p.1 = 6 := by rcases g with g | g <;> rw [g] <;> decide
    have ch := chg (fun e => absurd e n6) (fun e => gs (by rcases e with e | e; exact absurd e n6; exact e))
    refine zj_aload_n hG d_MD_back_270 rfl rfl ?_
    refine zj_iload hG d_MD_back_271 rfl ?_
    refine zj_iload hG d_MD_back_273 rfl ?_
    refine zj_iload hG d_MD_back_275 rfl ?_
    refine zj_iload hG d_MD_back_277 rfl ?_
    refine zj_iconst (v := 0) hG d_MD_back_279 rfl ?_
    refine zj_iload hG d_MD_back_280 rfl ?_
    refine zj_iload_n hG d_MD_back_282 rfl rfl ?_
    refine zj_callU (y' := m_MD_change) hG (zcP (as := [_, _, _, _, _, _, _]) hG d_MD_back_283 c_MD_change (z_w7 140 rfl) (z_w7 142 rfl) (z_w7 141 rfl) (z_w7 8 rfl) rfl ⟨by decide, by decide⟩ hT.1 (by decide) (by decide) (show _ = some 7 from by decide +kernel) rfl) c_MD_change rfl (by omega) rfl (z_le rfl) (z_le rfl) ch (fun N283 e283 => ?_)
    obtain ⟨r1, r2⟩ := e283
    refine ret _ _ ?_ r2
    have n0 : ¬ (p.1 = 0 ∨ p.1 = 4) := by rcases g with g | g <;> rw [g] <;> decide
    have n1 : ¬ p.1 = 1 := by rcases g with g | g <;> rw [g] <;> decide
    have n2 : ¬ p.1 = 2 := by rcases g with g | g <;> rw [g] <;> decide
    have n3 : ¬ p.1 = 3 := by rcases g with g | g <;> rw [g] <;> decide
    have n5 : ¬ p.1 = 5 := by rcases g with g | g <;> rw [g] <;> decide
    rw [tba]
    simp only [if_neg n0, if_neg n1, if_neg n2, if_neg n3, if_neg n5, if_neg n6]
    exact r1
  have row0 : ∀ {k : Nat} (hk : k < X.1.length), eS X.1[k] = 0 → N 0 27 = 1 → ∃ y, eR X.1[k] = [y] := fun hk e m1 => hI.2 m1 _ (List.getElem_mem hk) (by rw [e]; decide) (by rw [e]; decide)
  rcases hK with g | g | g | ⟨hK, hsort⟩ | ⟨g, hsort, hk2, hne, hsort2⟩
  · have n0 : ¬ (p.1 = 0 ∨ p.1 = 4) := by rw [g]; decide
    rw [g]
    refine zj_tableIn (off := 60) (tgt := 123) hG d_MD_back_63 (by decide) (by decide) rfl rfl ?_
    refine zj_aload_n hG d_MD_back_123 rfl rfl ?_
    refine zj_iload hG d_MD_back_124 rfl ?_
    refine zj_iload hG d_MD_back_126 rfl ?_
    refine zj_callU (y' := m_MD_depart) hG (zcP (as := [_, _]) hG d_MD_back_128 c_MD_depart (z_w7 106 rfl) (z_w7 108 rfl) (z_w7 107 rfl) (z_w7 8 rfl) rfl ⟨by decide, by decide⟩ hT.1 (by decide) (by decide) (show _ = some 2 from by decide +kernel) rfl) c_MD_depart rfl (by omega) rfl (z_le rfl) (z_le rfl) (k_MD_depart hG hT hX hm hk hfn (fun m1 => hI.2 m1 _ (List.getElem_mem hk))) (fun N128 e128 => ?_)
    obtain ⟨r1, r2⟩ := e128
    refine zj_goto (tgt := 286) hG d_MD_back_131 (by decide) ?_
    refine ret _ _ ?_ r2
    rw [tba]
    simp only [if_neg n0, if_pos g]
    rw [hel]
    exact r1
  · have := def8 (Or.inr g) (fun e => absurd e (by rw [g]; decide))
    rw [g] at this ⊢
    exact zj_tableOut (tgt := 270) hG d_MD_back_63 (Or.inr (by decide)) rfl this
  · have n0 : ¬ (p.1 = 0 ∨ p.1 = 4) := by rw [g]; decide
    have n1 : ¬ p.1 = 1 := by rw [g]; decide
    have n2 : ¬ p.1 = 2 := by rw [g]; decide
    have htf : tba (N 0 27) p s X = tuwp (N 0 27) (tix X.1 p.2.1) X.1[tix X.1 p.2.1] s X := by
      rw [tba]
      simp only [if_neg n0, if_neg n1, if_neg n2, if_pos g]
      rw [hel]
    rw [htf] at ret ⊢
    generalize hke : tix X.1 p.2.1 = k at *
    have t1 := hN.s hk 0
    have f1 : tFr pT N (zu N 15 k 0) := tFr.put tFr.rfl' rfl
    have hk1 : k < (X.1.set k ((X.1[k]).1, 0, (X.1[k]).2.2)).length := by simpa using hk
    have m1 : zu N 15 k 0 0 27 = N 0 27 := zu_a (by omega)
    rw [g]
    refine zj_tableIn (off := 81) (tgt := 144) hG d_MD_back_63 (by decide) (by decide) rfl rfl ?_
    have trm : ∀ (M : Nat → Nat → Int32) (e : tE) (K2 : Nat → tK), tFr pA N M → M 0 27 = N 0 27 → tTab M (X.1.set k e) → tSto M X.2.1 → tWk M K2 → M 0 28 = X.2.2.2 → (e.1, e.2.1, e.2.2.1, e.2.2.2.1, eR e) = ((X.1[k]).1, (0 : Int32), (X.1[k]).2.2.1, (X.1[k]).2.2.2.1, (if N 0 27 = 1 then tuw X.1[k] else eR X.1[k])) → eT e = eT X.1[k] → K2 = (if N 0 27 = 1 then zw X.2.2.1 s (if (eR X.1[k]).length = 1 then tK0 else (1, eR X.1[k], [])) else X.2.2.1) → zJ G 4 m_MD_back 168 [some (zA q), some (zI (nI st)), some (zI (nI i)), some (zI (nI r)), some (zI 3), some (zI p.2.1), some (zI p.2.2.1), some (zI p.2.2.2.1), some (zI (nI s)), some (zI (nI k))] [] (twp q h M) (fun o h' => ∃ N', o = zR0 ∧ h' = twp q h N' ∧ (tX N' (tuwp (N 0 27) k X.1[k] s X) ∧ tFr pA N N')) := by
      intro M e K2 fM mM tM sM kM cM he het hK2
      have hke2 : k < (X.1.set k e).length := by simpa using hk
      have wr : ∀ (M2 : Nat → Nat → Int32) (t : Int32) (L2 : List tQ), tFr pS M M2 → tSto M2 L2 → t = (if N 0 27 = 2 then (topn X.2.1 (tjx X.1[k]) (txx X.2.1 X.1[k]) (eL X.1[k]) (eH X.1[k])).1 else 0) → L2 = (if N 0 27 = 2 then (topn X.2.1 (tjx X.1[k]) (txx X.2.1 X.1[k]) (eL X.1[k]) (eH X.1[k])).2 else X.2.1) → zJ G 4 m_MD_back 192 [some (zA q), some (zI (nI st)), some (zI (nI i)), some (zI (nI r)), some (zI 3), some (zI p.2.1), some (zI p.2.2.1), some (zI p.2.2.2.1), some (zI (nI s)), some (zI (nI k))] [zI t, zI (nI k), zA (q + 19)] (twp q h M2) (fun o h' => ∃ N', o = zR0 ∧ h' = twp q h N' ∧ (tX N' (tuwp (N 0 27) k X.1[k] s X) ∧ tFr pA N N')) := by
        intro M2 t L2 g1 g2 g3 g4
        have g5 : tFr pTS M (zu M2 19 k t) := tFr.put (g1.mono (by intro o i e; simp [pTS] at e; exact e.2)) rfl
        refine t_ast (k) hG hT d_MD_back_192 (by first | decide | omega) (by first | decide | omega) rfl (by show _ < 26; omega) ?_
        refine zj_goto (tgt := 286) hG d_MD_back_193 (by decide) ?_
        refine ret _ _ ⟨?_, ?_, ?_, ?_⟩ (fM.trans (g5.mono pTS_A))
        · have u := (tM.fr g1 (by intro o i e; simp [pT] at e; simp [pS]; omega)).t hke2 t
          rw [List.set_set] at u
          simp only [List.getElem_set_self] at u
          obtain ⟨e1, e2, e3, e4, e5, e6⟩ := e
          simp only [Prod.mk.injEq] at he
          obtain ⟨rfl, rfl, rfl, rfl, he5⟩ := he
          simp only at u he5
          rw [show e5 = _ from he5] at u
          rw [tuwp]
          simp only [← g3]
          exact u
        · show tSto _ (if N 0 27 = 2 then _ else _)
          rw [← g4]
          exact g2.fr (P := pT) (tFr.put tFr.rfl' rfl) (by intro o i e; simp [pS] at e; simp [pT]; omega)
        · show tWk _ (if N 0 27 = 1 then _ else _)
          rw [← hK2]
          exact kM.fr g5 (by intro o i e; simp [pK] at e; simp [pTS, pT, pS]; omega)
        · exact (g5 0 28 rfl).trans cM
      refine zj_aload_n hG d_MD_back_168 rfl rfl ?_
      refine t_getA (o := 19) hG hT d_MD_back_169 f_MD_68 rfl rfl ?_
      refine zj_iload hG d_MD_back_172 rfl ?_
      refine zj_aload_n hG d_MD_back_174 rfl rfl ?_
      refine t_getI hG hT d_MD_back_175 f_MD_118 rfl ?_
      refine zj_iconst (v := 2) hG d_MD_back_178 rfl ?_
      rw [mM]
      refine zj_icmp_ne (tgt := 191) hG d_MD_back_179 (by decide) (fun c179 => ?_) (fun c179 => ?_)
      · refine zj_iconst (v := 0) hG d_MD_back_191 rfl ?_
        exact wr M 0 _ tFr.rfl' sM (by rw [if_neg c179]) (by rw [if_neg c179])
      · obtain ⟨y1, y2⟩ := hI.t c179 (by omega) (List.getElem_mem hk)
        have hget : (X.1.set k e)[k] = e := by simp
        have hlo : eL e = eL X.1[k] := by
          have := congrArg (fun z => z.2.2.1) he
          exact this
        have hhi : eH e = eH X.1[k] := by
          have := congrArg (fun z => z.2.2.2.1) he
          exact this
        refine zj_aload_n hG d_MD_back_182 rfl rfl ?_
        refine zj_iload hG d_MD_back_183 rfl ?_
        refine zj_callT (y' := m_MD_opened) hG (zcP (as := [_]) hG d_MD_back_185 c_MD_opened (z_w8 42 rfl) (z_w8 44 rfl) (z_w8 43 rfl) (z_w7 8 rfl) rfl ⟨by decide, by decide⟩ hT.1 (by decide) (by decide) (show _ = some 1 from by decide +kernel) rfl) c_MD_opened rfl (by omega) rfl (z_le rfl) (z_le rfl) (k_MD_opened hG hT tM sM hl' hke2 (by rw [hget, het]; exact y1) y2) (fun v185 N185 e185 => ?_)
        obtain ⟨r1, r2, r3⟩ := e185
        rw [hget, hlo, hhi] at r1 r2
        refine zj_goto (tgt := 192) hG d_MD_back_188 (by decide) ?_
        exact wr N185 v185 _ r3 r2 (by rw [if_pos c179, r1]) (by rw [if_pos c179])
    refine zj_aload_n hG d_MD_back_144 rfl rfl ?_
    refine t_getA (o := 15) hG hT d_MD_back_145 f_MD_56 rfl rfl ?_
    refine zj_iload hG d_MD_back_148 rfl ?_
    refine zj_iconst (v := 0) hG d_MD_back_150 rfl ?_
    refine t_ast (k) hG hT d_MD_back_151 (by first | decide | omega) (by first | decide | omega) rfl (by show _ < 26; omega) ?_
    refine zj_aload_n hG d_MD_back_152 rfl rfl ?_
    refine t_getI hG hT d_MD_back_153 f_MD_118 rfl ?_
    refine zj_iconst (v := 1) hG d_MD_back_156 rfl ?_
    rw [m1]
    refine zj_icmp_ne (tgt := 168) hG d_MD_back_157 (by decide) (fun c157 => ?_) (fun c157 => ?_)
    · refine trm _ _ X.2.2.1 (f1.mono pT_A) m1 t1 (hS.fr f1 (by intro o i e; simp [pS] at e; simp [pT]; omega)) (hW.fr f1 (by intro o i e; simp [pK] at e; simp [pT]; omega)) ((f1 0 28 rfl).trans hc) ?_ rfl (by rw [if_neg c157])
      rw [if_neg c157]
    · refine zj_aload_n hG d_MD_back_160 rfl rfl ?_
      refine zj_iload hG d_MD_back_161 rfl ?_
      refine zj_iload hG d_MD_back_163 rfl ?_
      refine zj_callU (y' := m_MD_unwrap) hG (zcP (as := [_, _]) hG d_MD_back_165 c_MD_unwrap (z_w8 38 rfl) (z_w8 40 rfl) (z_w8 39 rfl) (z_w7 8 rfl) rfl ⟨by decide, by decide⟩ hT.1 (by decide) (by decide) (show _ = some 2 from by decide +kernel) rfl) c_MD_unwrap rfl (by omega) rfl (z_le rfl) (z_le rfl) (k_MD_unwrap hG hT t1 (hW.fr f1 (by intro o i e; simp [pK] at e; simp [pT]; omega)) (hm c157) hk1) (fun N165 e165 => ?_)
      obtain ⟨r1, r2, r3⟩ := e165
      rw [tsetR_eq hk1, List.set_set] at r1
      simp only [List.getElem_set_self] at r1 r2
      refine trm _ _ _ ((f1.mono pT_A).trans (r3.mono pB_A)) ((r3 0 27 rfl).trans m1) r1 ((hS.fr f1 (by intro o i e; simp [pS] at e; simp [pT]; omega)).fr r3 (by intro o i e; simp [pS] at e; simp [pB, pT]; omega)) r2 ((r3 0 28 rfl).trans ((f1 0 28 rfl).trans hc)) ?_ rfl (by rw [if_pos c157])
      rw [if_pos c157]
      rfl
  · rcases hK with ⟨g, ga, gb⟩ | g
    · have n0 : ¬ (p.1 = 0 ∨ p.1 = 4) := by rw [g]; decide
      have n1 : ¬ p.1 = 1 := by rw [g]; decide
      have n2 : ¬ p.1 = 2 := by rw [g]; decide
      have n3 : ¬ p.1 = 3 := by rw [g]; decide
      have n5 : ¬ p.1 = 5 := by rw [g]; decide
      have htf : tba (N 0 27) p s X = tch (N 0 27) (tix X.1 p.2.1) ((X.1[tix X.1 p.2.1]).1, (X.1[tix X.1 p.2.1]).2.1, p.2.2.2.2.2.1, p.2.2.2.2.2.2, (X.1[tix X.1 p.2.1]).2.2.2.2) s p false (tbnd (tix X.1 p.2.1) p.2.2.2.2.2.1 p.2.2.2.2.2.2 X) := by
        rw [tba]
        simp only [if_neg n0, if_neg n1, if_neg n2, if_neg n3, if_neg n5, if_pos g]
        rw [hel]
      rw [hel] at hsort
      rw [htf] at ret ⊢
      generalize hke : tix X.1 p.2.1 = k at *
      rw [g]
      refine zj_tableIn (off := 156) (tgt := 219) hG d_MD_back_63 (by decide) (by decide) rfl rfl ?_
      refine zj_aload_n hG d_MD_back_219 rfl rfl ?_
      refine t_getA (o := 16) hG hT d_MD_back_220 f_MD_59 rfl rfl ?_
      refine zj_iload hG d_MD_back_223 rfl ?_
      refine zj_aload_n hG d_MD_back_225 rfl rfl ?_
      refine t_getA (o := 9) hG hT d_MD_back_226 f_MD_38 rfl rfl ?_
      refine zj_iload_n hG d_MD_back_229 rfl rfl ?_
      refine zj_bipush (v := 6) hG d_MD_back_230 rfl ?_
      refine zj_iadd hG d_MD_back_232 ?_
      refine t_ald (r + 6) hG hT d_MD_back_233 (by first | decide | omega) (by first | decide | omega) (nI_a6 _) (by show _ < 1088; omega) ?_
      refine t_ast (k) hG hT d_MD_back_234 (by first | decide | omega) (by first | decide | omega) rfl (by show _ < 26; omega) ?_
      refine zj_aload_n hG d_MD_back_235 rfl rfl ?_
      refine t_getA (o := 17) hG hT d_MD_back_236 f_MD_62 rfl rfl ?_
      refine zj_iload hG d_MD_back_239 rfl ?_
      refine zj_aload_n hG d_MD_back_241 rfl rfl ?_
      refine t_getA (o := 9) hG hT d_MD_back_242 f_MD_38 rfl rfl ?_
      refine zj_iload_n hG d_MD_back_245 rfl rfl ?_
      refine zj_bipush (v := 7) hG d_MD_back_246 rfl ?_
      refine zj_iadd hG d_MD_back_248 ?_
      refine t_ald (r + 7) hG hT d_MD_back_249 (by first | decide | omega) (by first | decide | omega) (nI_a7 _) (by show _ < 1088; omega) ?_
      refine t_ast (k) hG hT d_MD_back_250 (by first | decide | omega) (by first | decide | omega) rfl (by show _ < 26; omega) ?_
      rw [zu_a (show (9 : Nat) ≠ 16 by omega), p6, p7]
      generalize hM : zu (zu N 16 k p.2.2.2.2.2.1) 17 k p.2.2.2.2.2.2 = M
      have fM : tFr pT N M := by
        rw [← hM]
        exact tFr.put (tFr.put tFr.rfl' rfl) rfl
      have xM : tX M (tbnd k p.2.2.2.2.2.1 p.2.2.2.2.2.2 X) := by
        refine hX.fr fM pT_SK ?_
        rw [modify_set hk, ← hM]
        have u := (hN.lo hk p.2.2.2.2.2.1).hi (k := k) (by simpa using hk) p.2.2.2.2.2.2
        rw [List.set_set] at u
        simp only [List.getElem_set_self] at u
        exact u
      clear hM
      have mM : M 0 27 = N 0 27 := fM 0 27 rfl
      have hkb : k < (tbnd k p.2.2.2.2.2.1 p.2.2.2.2.2.2 X).1.length := by
        rw [tbnd]
        simpa using hk
      have hgb : (tbnd k p.2.2.2.2.2.1 p.2.2.2.2.2.2 X).1[k] = ((X.1[k]).1, (X.1[k]).2.1, p.2.2.2.2.2.1, p.2.2.2.2.2.2, (X.1[k]).2.2.2.2) := by
        simp [tbnd, List.getElem_modify]
      have iM : tInv (M 0 27) (tbnd k p.2.2.2.2.2.1 p.2.2.2.2.2.2 X) := by
        have hmem : ∀ e ∈ (tbnd k p.2.2.2.2.2.1 p.2.2.2.2.2.2 X).1, ∃ e' ∈ X.1, eS e = eS e' ∧ eR e = eR e' ∧ eT e = eT e' := by
          intro e he
          rw [tbnd] at he
          simp only at he
          rw [modify_set hk] at he
          rcases List.mem_or_eq_of_mem_set he with e1 | e1
          · exact ⟨e, e1, rfl, rfl, rfl⟩
          · subst e1
            exact ⟨_, List.getElem_mem hk, rfl, rfl, rfl⟩
        rw [mM]
        refine ⟨fun m2 e he => ?_, fun m1 e he s1 s2 => ?_⟩
        · obtain ⟨e', h1, h2, h3, h4⟩ := hmem e he
          rw [h4]
          exact hI.1 m2 e' h1
        · obtain ⟨e', h1, h2, h3, h4⟩ := hmem e he
          rw [h3]
          rw [h2] at s1 s2
          exact hI.2 m1 e' h1 s1 s2
      have ch := k_MD_change (i := k) (s := s) (r := r) hG hT xM iM hl' (by rw [mM]; exact hm) hkb hr7 (hp.fr fM (fun _ => rfl)) false (fun _ => ⟨ga, gb⟩) (fun _ => by rw [hgb]; exact hsort)
      rw [hgb, mM, g] at ch
      refine zj_aload_n hG d_MD_back_251 rfl rfl ?_
      refine zj_iload hG d_MD_back_252 rfl ?_
      refine zj_iload hG d_MD_back_254 rfl ?_
      refine zj_iload hG d_MD_back_256 rfl ?_
      refine zj_iload hG d_MD_back_258 rfl ?_
      refine zj_iconst (v := 0) hG d_MD_back_260 rfl ?_
      refine zj_iload hG d_MD_back_261 rfl ?_
      refine zj_iload_n hG d_MD_back_263 rfl rfl ?_
      refine zj_callU (y' := m_MD_change) hG (zcP (as := [_, _, _, _, _, _, _]) hG d_MD_back_264 c_MD_change (z_w7 140 rfl) (z_w7 142 rfl) (z_w7 141 rfl) (z_w7 8 rfl) rfl ⟨by decide, by decide⟩ hT.1 (by decide) (by decide) (show _ = some 7 from by decide +kernel) rfl) c_MD_change rfl (by omega) rfl (z_le rfl) (z_le rfl) ch (fun N264 e264 => ?_)
      obtain ⟨r1, r2⟩ := e264
      refine zj_goto (tgt := 286) hG d_MD_back_267 (by decide) ?_
      exact ret _ _ r1 ((fM.mono pT_A).trans r2)
    · have := def8 (Or.inl g) (fun _ => hsort)
      rw [g] at this ⊢
      exact zj_tableOut (tgt := 270) hG d_MD_back_63 (Or.inr (by decide)) rfl this
  · have n0 : ¬ (p.1 = 0 ∨ p.1 = 4) := by rw [g]; decide
    have n1 : ¬ p.1 = 1 := by rw [g]; decide
    have n2 : ¬ p.1 = 2 := by rw [g]; decide
    have n3 : ¬ p.1 = 3 := by rw [g]; decide
    have hel2 := tel_eq hk2
    have hfn2 := tix_fnd hk2
    have hsA : eS X.1[tix X.1 p.2.1] = 0 := by rw [← hel]; exact hsort
    have hsB : eS X.1[tix X.1 (tbes p.2.1 p.2.2.2.1)] = 0 := by rw [← hel2]; exact hsort2
    rw [g]
    refine zj_tableIn (off := 133) (tgt := 196) hG d_MD_back_63 (by decide) (by decide) rfl rfl ?_
    refine zj_aload_n hG d_MD_back_196 rfl rfl ?_
    refine zj_iload hG d_MD_back_197 rfl ?_
    refine zj_aload_n hG d_MD_back_199 rfl rfl ?_
    refine zj_iload hG d_MD_back_200 rfl ?_
    refine zj_iload hG d_MD_back_202 rfl ?_
    refine zj_callR (y' := m_MD_besides) hG (zcS (as := [_, _]) hG d_MD_back_204 c_MD_besides (z_w7 129 rfl) (z_w7 130 rfl) (z_w1 11 rfl) ⟨by decide, by decide⟩ (show _ = some 2 from by decide +kernel) rfl) c_MD_besides rfl (by omega) rfl (z_le rfl) (z_le rfl) (k_MD_besides hG _ _ _) ?_
    refine zj_callR (y' := m_MD_find) hG (zcP (as := [_]) hG d_MD_back_207 c_MD_find (z_w7 47 rfl) (z_w7 49 rfl) (z_w7 48 rfl) (z_w7 8 rfl) rfl ⟨by decide, by decide⟩ hT.1 (by decide) (by decide) (show _ = some 1 from by decide +kernel) rfl) c_MD_find rfl (by omega) rfl (z_le rfl) (z_le rfl) (k_MD_find hG hT hN _) ?_
    rw [hfn2]
    refine zj_iload hG d_MD_back_210 rfl ?_
    refine zj_iload_n hG d_MD_back_212 rfl rfl ?_
    refine zj_callU (y' := m_MD_join) hG (zcP (as := [_, _, _, _]) hG d_MD_back_213 c_MD_join (z_w8 46 rfl) (z_w8 48 rfl) (z_w8 47 rfl) (z_w7 8 rfl) rfl ⟨by decide, by decide⟩ hT.1 (by decide) (by decide) (show _ = some 4 from by decide +kernel) rfl) c_MD_join rfl (by omega) rfl (z_le rfl) (z_le rfl) (k_MD_join (j1 := tjx X.1[tix X.1 p.2.1]) (x1 := txx X.2.1 X.1[tix X.1 p.2.1]) (j2 := tjx X.1[tix X.1 (tbes p.2.1 p.2.2.2.1)]) (x2 := txx X.2.1 X.1[tix X.1 (tbes p.2.1 p.2.2.2.1)]) hG hT hX hk hk2 hne (by omega) p.2.2.1 hr7 (fun m1 => ⟨row0 hk hsA m1, row0 hk2 hsB m1⟩) (fun m2 => ⟨hI.t m2 (by omega) (List.getElem_mem hk), hI.t m2 (by omega) (List.getElem_mem hk2)⟩)) (fun N213 e213 => ?_)
    obtain ⟨r1, r2⟩ := e213
    refine zj_goto (tgt := 286) hG d_MD_back_216 (by decide) ?_
    refine ret _ _ ?_ r2
    rw [tba]
    simp only [if_neg n0, if_neg n1, if_neg n2, if_neg n3, if_pos g]
    rw [hel, hel2]
    rw [p6, p7] at r1
    exact r1
end MD12
