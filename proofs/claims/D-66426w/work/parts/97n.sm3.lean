/-! PART 97n: a card goes forth as the reference does (one primitive, 2) -/
section SM3
variable {G : zG} {h : zH} {c r w q s : Nat} {fl : Nat → Bool} {K : Nat → tK} {P : List pE} {p : tPm} {T : List tE} {L : List tQ} {c0 : Int32} {F : List tFd}
theorem fo_mv (hk : p.1 = 0 ∨ p.1 = 4) : tfo 1 p s (T, L, K, c0) = (T.map (tmv (pmP p) (tbeh p.1 (pmP p) (pmA p))), L, K, c0) := by
  unfold tfo; simp only; rw [if_pos hk]
theorem fo_1 (hk : p.1 = 1) : tfo 1 p s (T, L, K, c0) = (T ++ [(pmP p, pmS p, pmL p, pmH p, (if (K s).1 = 1 then (K s).2.1 else trow0 (pmS p) (pmL p) (pmH p)), 0)], L, zw K s tK0, c0) := by
  unfold tfo; simp only; rw [if_neg (by rw [hk]; decide), if_pos hk]
  unfold tarr tnew tnewL; simp
theorem fo_2 (hk : p.1 = 2) : tfo 1 p s (T, L, K, c0) = (tgo T (tix T (pmP p)), L, zw K s (if tpl0 (tel T (pmP p)) then tK0 else (1, eR (tel T (pmP p)), [])), c0) := by
  unfold tfo; simp only; rw [if_neg (by rw [hk]; decide), if_neg (by rw [hk]; decide), if_pos hk]
  unfold tdpt; simp
theorem fo_3 (hk : p.1 = 3) : tfo 1 p s (T, L, K, c0) = (T.set (tix T (pmP p)) (eP (tel T (pmP p)), 1, eL (tel T (pmP p)), eH (tel T (pmP p)), twr (tel T (pmP p)) (K s) ((eR (tel T (pmP p))).headD 0), 0), L, zw K s tK0, c0) := by
  unfold tfo; simp only; rw [if_neg (by rw [hk]; decide), if_neg (by rw [hk]; decide), if_neg (by rw [hk]; decide), if_pos hk]
  unfold twrp; simp
theorem fo_5 (hk : p.1 = 5) : tfo 1 p s (T, L, K, c0) = (T.set (tix T (pmP p)) (eP (tel T (pmP p)), eS (tel T (pmP p)), tqo (eL (tel T (pmP p))) (pmA p), tqo (eH (tel T (pmP p))) (pmA p), [tqo ((eR (tel T (pmP p))).headD 0) (pmA p)], eT (tel T (pmP p))) ++ [(tbes (pmP p) (pmB p), 0, 0, pmA p - 1, [tre ((eR (tel T (pmP p))).headD 0) (pmA p)], 0)], L, K, c0) := by
  unfold tfo; simp only; rw [if_neg (by rw [hk]; decide), if_neg (by rw [hk]; decide), if_neg (by rw [hk]; decide), if_neg (by rw [hk]; decide), if_pos hk]
  unfold tsp tnew tnewL; simp
/-- the entry behind a turn: its bounds, if it was scaled -/
def tuE (p : tPm) (T : List tE) (k : tK) : tE := ((eP (tel T (pmP p))), eS (tel T (pmP p)), (if p.1 = 6 then tsc true (eL (tel T (pmP p))) (pmA p) (pmB p) 0 0 else eL (tel T (pmP p))), (if p.1 = 6 then tsc true (eH (tel T (pmP p))) (pmA p) (pmB p) 0 0 else eH (tel T (pmP p))), tchR (eR (tel T (pmP p))) k p.1 (pmA p) (pmB p) true (pmL p) (pmH p), eT (tel T (pmP p)))
theorem fo_678 (hk : p.1 = 6 ∨ p.1 = 7 ∨ p.1 = 8) (hl : tix T (pmP p) < T.length) : tfo 1 p s (T, L, K, c0) = (T.set (tix T (pmP p)) (tuE p T (K s)), L, zw K s (tchK (eR (tel T (pmP p))) (K s) p.1 (pmA p) (pmB p) true (pmL p) (pmH p)), c0) := by
  have ne : ∀ n : Int32, n ≠ 6 → n ≠ 7 → n ≠ 8 → ¬ p.1 = n := fun n a b d e => by
    rcases hk with g | g | g
    · exact a (e.symm.trans g)
    · exact b (e.symm.trans g)
    · exact d (e.symm.trans g)
  unfold tfo; simp only
  rw [if_neg (by rintro (e | e); exact ne 0 (by decide) (by decide) (by decide) e; exact ne 4 (by decide) (by decide) (by decide) e), if_neg (ne 1 (by decide) (by decide) (by decide)), if_neg (ne 2 (by decide) (by decide) (by decide)), if_neg (ne 3 (by decide) (by decide) (by decide)), if_neg (ne 5 (by decide) (by decide) (by decide))]
  by_cases k6 : p.1 = 6
  · rw [if_pos k6]
    unfold tbnd tch tuE
    simp only
    rw [modify_set (by simpa using hl), List.set_set, List.getElem_set_self]
    simp [k6]
  · rw [if_neg k6]
    unfold tch tuE
    simp [k6]
set_option maxRecDepth 4000 in
/-- one primitive forth -/
theorem k_wk_fo (hG : zOK G) (x : cCd h c r fl P K) (wk : cWk h w c r q p) (hs : s < 128) (hfl : fl s = cfl p) (hV : sV F) (hO : sOk p F) (hT : (T.map tfd).Perm F) (hr : rOk T) (hk : kOk p (K s)) (hP : P.Perm (cP T)) (hn : zn h + 6 ≤ g0 G + 603072) (hsl : zs h + 28 ≤ 7211114) :
    zJ G 11 m_Walker_one 0 [some (zA w), some (zA r), some (zA q), some (zI (nI s)), some (zI (tb false))] [] h (fun o h' => o = zR0 ∧ ∃ P', cCd h' c r fl P' (tfo 1 p s (T, L, K, c0)).2.2.1 ∧ P'.Perm (cP (tfo 1 p s (T, L, K, c0)).1) ∧ cGw c r h h' 5 24) := by
  have hO0 := hO
  obtain ⟨⟨p0, pok, plh, pz⟩, _⟩ := hO0
  have ep := pnat_eq p0
  have nd := hV.nd hT
  have hPl : P.length < 100 := by rw [hP.length_eq]; have := cP_len hV hT; omega
  have pok' := cP_ok hV hT hP
  have hF' := tfo_F (m := 1) (s := s) (X := (T, L, K, c0)) hV hO hT
  have hV' := (sf_V hV hO).1
  rcases sOk_k hO with k | k | k | k | k | k | k | k | k
  · -- renamed
    obtain ⟨n, en, hn9⟩ := i_n (sOk_a hO k).1 (sOk_a hO k).2
    rw [fo_mv (Or.inl k)] at hF' ⊢
    rw [k] at hF' ⊢
    refine ((k_one_ren hG x wk k ep pok en hn9 false (by
      simp only [Bool.false_eq_true, if_false]
      exact ⟨pok', cP_nd hV' hF' hP⟩)).more (by omega)).mono ?_
    rintro o h' ⟨q1, P', q2, q3, q4⟩
    refine ⟨q1, P', q2, ?_, q4.mono (by omega) (by omega)⟩
    rw [cP_mv]
    exact q3.trans (hP.map _)
  · -- comes
    rw [fo_1 k]
    have hk1 : (K s).1 = 0 ∨ (K s).1 = 1 := by
      rcases hk with g | ⟨_, g, _⟩ | ⟨g, _⟩
      · exact Or.inl g
      · exact Or.inr g
      · rw [k] at g; exact absurd g (by decide)
    refine (k_one_chg hG wk (Or.inl k) false void_Q (fun s2 => ?_) (fun s2 => ?_)).more (by omega)
    · have k0 : (K s).1 = 0 := by
        rcases hk with g | ⟨_, _, g, _⟩ | ⟨g, _⟩
        · exact g
        · exact absurd s2 g
        · rw [k] at g; exact absurd g (by decide)
      obtain ⟨x1, ⟨es, bd, km⟩, xp⟩ := x
      refine ⟨rfl, P, ⟨x1, ⟨es, bd, km_0 km k0⟩, xp⟩, ?_, cGw.rfl'.mono (by omega) (by omega)⟩
      rw [cP_app]
      rw [cP_none s2, List.append_nil]
      exact hP
    · have hS : pmS p = 0 ∨ pmS p = 1 := by
        rcases hO.2 with ⟨_, _, _, g, _⟩ | ⟨_, g⟩
        · rcases g with g | g | g
          · exact Or.inl g
          · exact Or.inr g
          · exact absurd g s2
        · rcases g with ⟨g, _⟩ | ⟨g, _⟩ | ⟨g, _⟩ | ⟨g, _⟩ | ⟨g, _⟩ | ⟨g, _⟩ | ⟨g, _⟩ | ⟨g, _⟩ <;> rw [k] at g <;> exact absurd g (by decide)
      have hno : ∀ e ∈ P, e.1 ≠ pmP p := by
        intro e he
        obtain ⟨e', h1, h2, _⟩ := cP_path (hP.mem_iff.mp he)
        rcases hO.2 with ⟨_, g, _⟩ | ⟨_, g⟩
        · rw [← h2]; exact g (tfd e') (hT.mem_iff.mp (List.mem_map.mpr ⟨e', h1, rfl⟩))
        · rcases g with ⟨g, _⟩ | ⟨g, _⟩ | ⟨g, _⟩ | ⟨g, _⟩ | ⟨g, _⟩ | ⟨g, _⟩ | ⟨g, _⟩ | ⟨g, _⟩ <;> rw [k] at g <;> exact absurd g (by decide)
      have hf1 : fl s = decide (pmS p = 1) := by rw [hfl]; unfold cfl; rw [decide_eq_false (by rw [k]; decide)]; rfl
      rw [show (decide (p.1 = 1) != false) = true by rw [decide_eq_true k]; rfl]
      refine (k_wk_come hG x wk hs ⟨p0, pok.1⟩ hno hPl plh (by omega) (by omega)).mono ?_
      rintro o h' ⟨q1, P', q2, q3, q4⟩
      refine ⟨q1, P', q2, ?_, q4.mono (by omega) (by omega)⟩
      rw [come_eq hS hk1 hf1] at q3
      rw [cP_app]
      rw [cP_one s2]
      exact (q3.trans (List.Perm.cons _ hP)).trans (List.perm_append_singleton _ _).symm
  · -- goes
    rw [fo_2 k]
    obtain ⟨hl, eSe, eLe, eHe⟩ := tel_S hV hT (sOk_f hO (by rw [k]; decide))
    refine (k_one_chg hG wk (Or.inr k) false void_Q (fun s2 => ?_) (fun s2 => ?_)).more (by omega)
    · have k0 : (K s).1 = 0 := by
        rcases hk with g | ⟨_, _, g, _⟩ | ⟨g, _⟩
        · exact g
        · exact absurd s2 g
        · rw [k] at g; exact absurd g (by decide)
      have t0 : tpl0 (tel T (pmP p)) = true := by unfold tpl0; rw [eSe, s2]; rfl
      obtain ⟨x1, ⟨es, bd, km⟩, xp⟩ := x
      rw [if_pos t0]
      refine ⟨rfl, P, ⟨x1, ⟨es, bd, km_0 km k0⟩, xp⟩, hP.trans ?_, cGw.rfl'.mono (by omega) (by omega)⟩
      refine List.Perm.trans ?_ (cP_perm (tgo_filter nd hl)).symm
      rw [cP_filter]
      refine List.Perm.of_eq ?_
      symm
      rw [List.filter_eq_self]
      intro e he
      obtain ⟨e', h1, h2, h3⟩ := cP_path he
      refine decide_eq_true (fun g => h3 ?_)
      have : e' = tel T (pmP p) := by rw [← tel_of nd h1, h2, g]
      rw [this, eSe, s2]
    · have hS : pmS p = 0 ∨ pmS p = 1 := by
        have := (hV.1 _ (sOk_f hO (by rw [k]; decide))).2.2.1
        rcases this with g | g | g
        · exact Or.inl g
        · exact Or.inr g
        · exact absurd g s2
      have hf1 : fl s = decide (eS (tel T (pmP p)) = 1) := by rw [hfl, eSe]; unfold cfl; rw [decide_eq_false (by rw [k]; decide)]; rfl
      have hin : (pmP p, fl s, eR (tel T (pmP p))) ∈ P := by
        rw [hP.mem_iff, hf1]
        exact cP_mem nd hl (by rw [eSe]; exact s2)
      have hb : fl s = false → ∃ y, eR (tel T (pmP p)) = [y] := fun g => by
        refine hr _ (tel_mem hl) ?_
        rw [hf1] at g
        rw [eSe] at g ⊢
        rcases hS with e | e
        · exact e
        · rw [e] at g; exact absurd g (by decide)
      rw [show (decide (p.1 = 1) != false) = false by rw [decide_eq_false (by rw [k]; decide)]; rfl]
      refine (k_wk_go hG x wk hs hin hb plh hn hsl).mono ?_
      rintro o h' ⟨q1, P', q2, q3, q4⟩
      have eg := go_eq (e := tel T (pmP p)) (f := fl s) (by rw [eSe]; exact hS) hf1
      rw [eLe, eHe] at eg
      rw [eg] at q2
      refine ⟨q1, P', q2, q3.trans ?_, q4⟩
      refine List.Perm.trans ?_ (cP_perm (tgo_filter nd hl)).symm
      rw [cP_filter]
      exact hP.filter _
  · -- wrapped
    rw [fo_3 k]
    obtain ⟨hl, eSe, eLe, eHe⟩ := tel_S hV hT (sOk_f hO (by rw [k]; decide))
    have s0 := sOk_3 hO k
    obtain ⟨v, hv⟩ := hr _ (tel_mem hl) (by rw [eSe]; exact s0)
    have hk1 : (K s).1 = 0 ∨ (K s).1 = 1 := by
      rcases hk with g | ⟨_, g, _⟩ | ⟨g, _⟩
      · exact Or.inl g
      · exact Or.inr g
      · rw [k] at g; exact absurd g (by decide)
    have hf1 : fl s = true := by rw [hfl]; unfold cfl; rw [decide_eq_true k]; rfl
    have hin : (pmP p, false, [v]) ∈ P := by
      rw [hP.mem_iff, ← hv]
      have := cP_mem nd hl (by rw [eSe, s0]; decide)
      rwa [eSe, s0] at this
    refine ((k_one_wrap hG x wk k hs hf1 plh false hin (fun _ => ⟨v, rfl⟩) hn hsl).more (by omega)).mono ?_
    rintro o h' ⟨q1, P', q2, q3, q4⟩
    refine ⟨q1, P', by simpa using q2, q3.trans ?_, q4⟩
    rw [cP_set nd hl (show eP (eP (tel T (pmP p)), (1 : Int32), eL (tel T (pmP p)), eH (tel T (pmP p)), twr (tel T (pmP p)) (K s) ((eR (tel T (pmP p))).headD 0), (0 : Int32)) = pmP p from tel_p hl) (show (1 : Int32) ≠ 2 by decide) (by rw [eSe, s0]; decide)]
    have ew := wr_eq (e := tel T (pmP p)) (k := K s) (x := v) hk1
    rw [eLe, eHe] at ew
    rw [hv]
    simp only [Bool.false_eq_true, if_false, Bool.not_false, List.headD_cons]
    rw [ew]
    exact hP.map _
  · -- lifted
    rw [fo_mv (Or.inr k)] at hF' ⊢
    rw [k] at hF' ⊢
    refine ((k_one_lift hG x wk k ep pok (sOk_4 hO k) false (by
      simp only [Bool.false_eq_true, if_false]
      exact ⟨pok', cP_nd hV' hF' hP⟩)).more (by omega)).mono ?_
    rintro o h' ⟨q1, P', q2, q3, q4⟩
    refine ⟨q1, P', q2, ?_, q4.mono (by omega) (by omega)⟩
    rw [cP_mv]
    exact q3.trans (hP.map _)
  · -- split
    rw [fo_5 k]
    obtain ⟨hl, eSe, eLe, eHe⟩ := tel_S hV hT (sOk_f hO (by rw [k]; decide))
    obtain ⟨s0, hA, hB, hno, h24⟩ := sOk_5 hO k
    obtain ⟨v, hv⟩ := hr _ (tel_mem hl) (by rw [eSe]; exact s0)
    obtain ⟨n, en, hn9⟩ := i_n hB.1 hB.2
    obtain ⟨r1, r2⟩ := nren_ok pok hn9
    have ht : tbes (pmP p) (pmB p) = nI (nren (pnat (pmP p)) n) := by
      rw [en]
      conv => lhs; rw [ep]
      exact tbes_n pok.1 pok.2.1 pok.2.2 hn9
    have hin : (pmP p, false, [v]) ∈ P := by
      rw [hP.mem_iff, ← hv]
      have := cP_mem nd hl (by rw [eSe, s0]; decide)
      rwa [eSe, s0] at this
    have hno' : ∀ e ∈ P, e.1 ≠ tbes (pmP p) (pmB p) := by
      intro e he
      obtain ⟨e', h1, h2, _⟩ := cP_path (hP.mem_iff.mp he)
      rw [← h2]; exact hno (tfd e') (hT.mem_iff.mp (List.mem_map.mpr ⟨e', h1, rfl⟩))
    refine k_one_part hG wk k false void_Q (((k_wk_split hG x wk ep pok en hn9 (i_1 hA.1) hin ?_ hno' hPl (by omega) (by omega)).more (by omega)).mono ?_)
    · rw [ht]
      exact ⟨nI_pos' (by have := r1.1; omega), by rw [pnat_n (by have := r1.1; omega)]; exact r1.1⟩
    rintro o h' ⟨q1, P', q2, q3, q4⟩
    refine ⟨q1, P', q2, q3.trans ?_, q4.mono (by omega) (by omega)⟩
    rw [cP_app, cP_one (show (0 : Int32) ≠ 2 by decide), cP_set nd hl (show eP (eP (tel T (pmP p)), eS (tel T (pmP p)), tqo (eL (tel T (pmP p))) (pmA p), tqo (eH (tel T (pmP p))) (pmA p), [tqo ((eR (tel T (pmP p))).headD 0) (pmA p)], eT (tel T (pmP p))) = pmP p from tel_p hl) (show eS (tel T (pmP p)) ≠ 2 by rw [eSe, s0]; decide) (by rw [eSe, s0]; decide)]
    rw [hv]
    refine List.Perm.trans ?_ (List.perm_append_singleton _ _).symm
    refine List.Perm.cons _ ?_
    show (List.map _ P).Perm (List.map (fun e => if e.1 = pmP p then (e.1, decide (eS (tel T (pmP p)) = 1), [tqo v (pmA p)]) else e) (cP T))
    rw [eSe, s0]
    exact hP.map _
  all_goals
    have hk678 : p.1 = 6 ∨ p.1 = 7 ∨ p.1 = 8 := by rw [k]; decide
    obtain ⟨hl, eSe, eLe, eHe⟩ := tel_S hV hT (sOk_f hO (by rw [k]; decide))
    obtain ⟨u1, u2, u3⟩ := sOk_678 hO hk678
    have s2 : pmS p ≠ 2 := by
      rcases hk678 with g | g | g
      · rw [u1 (Or.inl g)]; decide
      · rw [u1 (Or.inr g)]; decide
      · rw [u2 g]; decide
    have hf1 : fl s = decide (eS (tel T (pmP p)) = 1) := by rw [hfl, eSe]; unfold cfl; rw [decide_eq_false (by rw [k]; decide)]; rfl
    have hin : (pmP p, fl s, eR (tel T (pmP p))) ∈ P := by
      rw [hP.mem_iff, hf1]
      exact cP_mem nd hl (by rw [eSe]; exact s2)
    have hkd : (K s).1 = 0 ∨ (K s).1 = 2 ∨ (K s).1 = 3 := by
      rcases hk with g | ⟨g, _⟩ | ⟨_, g, _⟩
      · exact Or.inl g
      · rw [k] at g; exact absurd g (by decide)
      · exact Or.inr g
    rw [fo_678 hk678 hl]
    refine ((k_one_turn hG x wk hk678 hs hkd u3 false hin (fun g => hr _ (tel_mem hl) (by rw [eSe]; exact u1 g)) hn hsl).more (by omega)).mono ?_
    rintro o h' ⟨q1, P', q2, q3, q4⟩
    refine ⟨q1, P', q2, q3.trans ?_, q4⟩
    rw [cP_set nd hl (show eP (tuE p T (K s)) = pmP p from tel_p hl) (show eS (tel T (pmP p)) ≠ 2 by rw [eSe]; exact s2) (by rw [eSe]; exact s2)]
    rw [hf1]
    exact hP.map _
end SM3
