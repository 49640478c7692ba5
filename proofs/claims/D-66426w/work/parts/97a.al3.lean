/-! PART 97a: the component: a card's single places (wrap, split, join) -/
section AL3
variable {G : zG} {h : zH} {c : Nat} {es : List Nat} {fl : Nat → Bool} {K : Nat → tK}
/-- what a number becomes as a list -/
def cWr (k : tK) (x L H : Int32) : List Int32 := if k.1 = 0 then [x] else match k.2.1 with
  | [] => if x = tnear L H then [] else [x]
  | _ :: t => x :: t
set_option maxRecDepth 4000 in
theorem k_Card_wrap1 (hG : zOK G) (x : cBd h c es) (y : cKm h c es fl K) {s : Nat} (hs : s < 128) (hfl : fl s = true) {a : Nat} {v : Int32} (pa : pls h a false [v]) (oa : cOth h c a) {q : Nat} (hq : zt h q = 12) (hqc : za h q 1000 ≠ c) (hl : zi h q 5 ≤ zi h q 6) :
    zJ G 3 m_Card_wrap1 0 [some (zA c), some (zA a), some (zA q), some (zI (nI s)), none, none] [] h (fun o h' => o = zR0 ∧ ∃ es', cBd h' c es' ∧ cKm h' c es' fl (zw K s tK0) ∧ pls h' a true (cWr (K s) v (zi h q 5) (zi h q 6)) ∧ cOp c a h h' 0 0 ∧ cCc c h h') := by
  have b1 := x.1
  have a6h := pa.1
  have v0 : zi h (za h a 3) 0 = v := pa.2.2.2.2.2.2 0 v rfl
  refine zj_aload_n hG d_Card_wrap1_0 rfl rfl ?_
  refine zj_getA hG d_Card_wrap1_1 f_Card_116 (by assumption) rfl ?_
  refine zj_iconst (v := 0) hG d_Card_wrap1_4 rfl ?_
  refine zj_iald hG d_Card_wrap1_5 pa.2.1 (pa.in (i := 0) (by omega)) ?_
  rw [show zi h (za h a 3) (0 : Int32).toNatClampNeg = v from v0]
  refine zj_istore hG d_Card_wrap1_6 (by decide) rfl rfl ?_
  refine zj_aload_n hG d_Card_wrap1_8 rfl rfl ?_
  refine zj_iload_n hG d_Card_wrap1_9 rfl rfl ?_
  refine zj_callA (y' := m_Card_take) hG (zcP (as := [_]) hG d_Card_wrap1_10 c_Card_take (z_w5 86 rfl) (z_w5 88 rfl) (z_w5 87 rfl) (z_w4 69 rfl) rfl ⟨by decide, by decide⟩ b1 (by decide) (by decide) (show _ = some 1 from by decide +kernel) rfl) c_Card_take rfl (by omega) rfl (z_le rfl) (z_le rfl) (k_Card_take hG x y hs) (fun v10 h10 e10 => ?_)
  obtain ⟨e, es', rfl, tk, bd, hpm, km, he⟩ := e10
  obtain ⟨pa2, g0, oa2, sm⟩ := take_go hG x y pa oa tk
  have q2 := sm q (by omega) hqc
  have hq2 : zt h10 q = 12 := by rw [q2.1]; exact hq
  have a6 := pa2.1
  have na := pa2.ne
  -- the place as a list of one
  have pcL : cPc h10 a (zsi h10 a 1 1) := ⟨_, rfl, fun d g _ => by funext j; exact zu_a g, fun j g _ => zu_k g⟩
  have pl1 : pls (zsi h10 a 1 1) a true [v] := by
    obtain ⟨u1, u2, u3, u4, u5, u6, u7⟩ := pa2
    refine ⟨u1, u2, u3, zu_s, (zu_k (by decide)).trans u5, u6, fun i z hz => ?_⟩
    exact (zu_a na).trans (u7 i z hz)
  have bd1 := bd.pc pcL
  have km1 := km.pc bd pcL a6 oa2.1 oa2.2 pa2.2.1
  have g1 := (g0.trans (cOp.pc (c := c) pcL)).mono (Nat.le_refl 0) (Nat.le_refl 0)
  have cc1 : cCc c h (zsi h10 a 1 1) := (tk.cc x).trans (pcL.cc bd.1 a6 pa2.2.1)
  have q3 : zi (zsi h10 a 1 1) q = zi h q := by
    have : q ≠ a := fun g => by rw [g, a6] at hq2; cases hq2
    rw [← q2.2.2.1]
    funext j
    exact zu_a this
  have fin : ∀ L, L = cWr (K s) v (zi h q 5) (zi h q 6) → L = [v] → zJ G 3 m_Card_wrap1 75 [some (zA c), some (zA a), some (zA q), some (zI (nI s)), some (zI v), some (zA e)] [] (zsi h10 a 1 1) (fun o h' => o = zR0 ∧ ∃ es', cBd h' c es' ∧ cKm h' c es' fl (zw K s tK0) ∧ pls h' a true (cWr (K s) v (zi h q 5) (zi h q 6)) ∧ cOp c a h h' 0 0 ∧ cCc c h h') := by
    intro L h1 h2
    rw [← h1, h2]
    exact zj_vret hG d_Card_wrap1_75 rfl ⟨rfl, es', bd1, km1, pl1, g1, cc1⟩
  rcases he with ⟨k0, rfl⟩ | ⟨k0, e0, em, kd⟩
  · refine zj_astore hG d_Card_wrap1_13 (by decide) rfl rfl ?_
    refine zj_aload_n hG d_Card_wrap1_15 rfl rfl ?_
    refine zj_iconst (v := 1) hG d_Card_wrap1_16 rfl ?_
    refine zj_putZ hG d_Card_wrap1_17 f_Card_120 a6  rfl rfl  (Or.inr rfl) ?_
    refine zj_aload hG d_Card_wrap1_20 rfl ?_
    refine zj_ifnull (tgt := 56) hG d_Card_wrap1_22 (by decide) (fun _ => ?_) (fun c => absurd rfl c)
    refine zj_aload hG d_Card_wrap1_56 rfl ?_
    refine zj_ifnull (tgt := 75) hG d_Card_wrap1_58 (by decide) (fun _ => ?_) (fun c => absurd rfl c)
    exact fin _ (show [v] = _ by unfold cWr; rw [if_pos k0]) rfl
  · obtain ⟨_, k1, k2, k3, k4⟩ := bd1.2.2.2.2.2.2.2.2.1 e (hpm.mem_iff.mpr em)
    have ec : e ≠ c := fun g => by rw [g, bd1.1] at k1; cases k1
    have oa3 : cOth (zsi h10 a 1 1) c a := oa2
    obtain ⟨n1, n2, n3, n4⟩ := oa3.fg.ne pl1 k3 ec
    have kd1 : pls (zsi h10 a 1 1) (za h10 e 2) true (K s).2.1 := by
      rw [← hfl]
      exact kd.1.pc pcL n1 n4 n3 n2
    have w6 := kd1.1
    refine zj_astore hG d_Card_wrap1_13 (by decide) rfl rfl ?_
    refine zj_aload_n hG d_Card_wrap1_15 rfl rfl ?_
    refine zj_iconst (v := 1) hG d_Card_wrap1_16 rfl ?_
    refine zj_putZ hG d_Card_wrap1_17 f_Card_120 a6  rfl rfl  (Or.inr rfl) ?_
    refine zj_aload hG d_Card_wrap1_20 rfl ?_
    refine zj_ifnull (tgt := 56) hG d_Card_wrap1_22 (by decide) (fun c => absurd c e0) (fun _ => ?_)
    refine zj_aload hG d_Card_wrap1_25 rfl ?_
    refine zj_getA hG d_Card_wrap1_27 f_Card_87 (by assumption) rfl ?_
    refine zj_getI hG d_Card_wrap1_30 f_Card_123 (by assumption) rfl ?_
    rw [show zi (zsi h10 a 1 1) (za h10 e 2) 2 = nI (K s).2.1.length from kd1.2.2.2.2.1]
    cases hK : (K s).2.1 with
    | nil =>
      refine zj_if_le (tgt := 56) hG d_Card_wrap1_33 (by decide) (fun _ => ?_) (fun c => absurd (Int32.le_refl _) c)
      refine zj_aload hG d_Card_wrap1_56 rfl ?_
      refine zj_ifnull (tgt := 75) hG d_Card_wrap1_58 (by decide) (fun c => absurd c e0) (fun _ => ?_)
      refine zj_iload hG d_Card_wrap1_61 rfl ?_
      refine zj_aload_n hG d_Card_wrap1_63 rfl rfl ?_
      refine zj_callR (y' := m_Prim_zero) hG (zcV (as := []) hG d_Card_wrap1_64 c_Prim_zero (z_w5 90 rfl) (z_w5 91 rfl) (z_w5 92 rfl) ⟨by decide, by decide⟩ hq2 (by decide) (by decide) (show _ = some 0 from by decide +kernel) rfl) c_Prim_zero rfl (by omega) rfl (z_le rfl) (z_le rfl) (k_Prim_zero (h := zsi h10 a 1 1) hG hq2 (by rw [q3]; exact hl)) ?_
      rw [q3]
      by_cases hv : v = tnear (zi h q 5) (zi h q 6)
      · refine zj_icmp_ne (tgt := 75) hG d_Card_wrap1_67 (by decide) (fun c => absurd hv c) (fun _ => ?_)
        refine zj_aload_n hG d_Card_wrap1_70 rfl rfl ?_
        refine zj_iconst (v := 0) hG d_Card_wrap1_71 rfl ?_
        refine zj_putI hG d_Card_wrap1_72 f_Card_123 (by assumption) rfl rfl ?_
        have pcS : cPc (zsi h10 a 1 1) a (zsi (zsi h10 a 1 1) a 2 0) := ⟨_, rfl, fun d g _ => by funext j; exact zu_a g, fun j _ g => zu_k g⟩
        have pl2 : pls (zsi (zsi h10 a 1 1) a 2 0) a true [] := by
          obtain ⟨u1, u2, u3, u4, u5, u6, u7⟩ := pl1
          exact ⟨u1, u2, u3, (zu_k (by decide)).trans u4, zu_s, by decide, fun i z hz => by simp at hz⟩
        have ew : cWr (K s) v (zi h q 5) (zi h q 6) = [] := by unfold cWr; rw [if_neg k0, hK]; exact if_pos hv
        rw [ew]
        exact zj_vret hG d_Card_wrap1_75 rfl ⟨rfl, es', bd1.pc pcS, km1.pc bd1 pcS a6 oa3.1 oa3.2 pl1.2.1, pl2, (g1.trans (cOp.pc pcS)).mono (by omega) (by omega), cc1.trans (pcS.cc bd1.1 a6 pl1.2.1)⟩
      · refine zj_icmp_ne (tgt := 75) hG d_Card_wrap1_67 (by decide) (fun _ => ?_) (fun c => absurd c hv)
        exact fin _ (show [v] = _ by unfold cWr; rw [if_neg k0, hK]; exact (if_neg hv).symm) rfl
    | cons w t =>
      rw [hK] at kd1
      have len6 := kd1.2.2.2.2.2.1
      refine zj_if_le (tgt := 56) hG d_Card_wrap1_33 (by decide) (fun c => absurd c (nI_nle (by simp) (by omega))) (fun _ => ?_)
      refine zj_aload_n hG d_Card_wrap1_36 rfl rfl ?_
      refine zj_aload hG d_Card_wrap1_37 rfl ?_
      refine zj_getA hG d_Card_wrap1_39 f_Card_87 (by assumption) rfl ?_
      refine zj_callP (y' := m_Place_copy) hG (zcV (as := [_]) hG d_Card_wrap1_42 c_Place_copy (z_w4 143 rfl) (z_w4 114 rfl) (z_w4 115 rfl) ⟨by decide, by decide⟩ a6 (by decide) (by decide) (show _ = some 1 from by decide +kernel) rfl) c_Place_copy rfl (by omega) rfl (z_le rfl) (z_le rfl) (k_Place_copy (h := zsi h10 a 1 1) hG pl1.1 pl1.2.1 pl1.2.2.1 kd1 n1.symm n2.symm) (fun h42 e42 => ?_)
      obtain ⟨p1, p2⟩ := e42
      have bd2 := bd1.pc p2
      have km2 := km1.pc bd1 p2 a6 oa3.1 oa3.2 pl1.2.1
      have g2 := (g1.trans (cOp.pc (c := c) p2)).mono (Nat.le_refl 0) (Nat.le_refl 0)
      have oa4 := oa3.op (cOp.pc (c := c) p2)
      have a64 := p1.1
      refine zj_aload_n hG d_Card_wrap1_45 rfl rfl ?_
      refine zj_getA hG d_Card_wrap1_46 f_Card_116 (by assumption) rfl ?_
      refine zj_iconst (v := 0) hG d_Card_wrap1_49 rfl ?_
      refine zj_iload hG d_Card_wrap1_50 rfl ?_
      refine zj_iast hG d_Card_wrap1_52 p1.2.1 (p1.in (i := 0) (by omega)) ?_
      refine zj_goto (tgt := 75) hG d_Card_wrap1_53 (by decide) ?_
      have na2 := p1.ne
      have pcN : cPc h42 a (zsi h42 (za h42 a 3) 0 v) := ⟨_, rfl, fun d _ g => by funext j; exact zu_a g, fun j _ _ => zu_a na2.symm⟩
      have pl3 : pls (zsi h42 (za h42 a 3) 0 v) a true (v :: t) := by
        obtain ⟨u1, u2, u3, u4, u5, u6, u7⟩ := p1
        refine ⟨u1, u2, u3, (zu_a na2.symm).trans u4, (zu_a na2.symm).trans u5, u6, fun i z hz => ?_⟩
        cases i with
        | zero =>
          have : v = z := by simpa using hz
          rw [← this]; exact zu_s
        | succ i => exact (zu_k (by omega)).trans (u7 (i + 1) z (by simpa using hz))
      have ew : cWr (K s) v (zi h q 5) (zi h q 6) = v :: t := by unfold cWr; rw [if_neg k0, hK]
      rw [ew]
      exact zj_vret hG d_Card_wrap1_75 rfl ⟨rfl, es', bd2.pc pcN, km2.pc bd2 pcN a64 oa4.1 oa4.2 p1.2.1, pl3, (g2.trans (cOp.pc pcN)).mono (by omega) (by omega), (cc1.trans (p2.cc bd1.1 a6 pl1.2.1)).trans (pcN.cc bd2.1 a64 p1.2.1)⟩
set_option maxRecDepth 4000 in
theorem k_Card_split1 (hG : zOK G) {v0 : zV} {a a2 : Nat} {v : Int32} {b2 : Bool} {l2 : List Int32} (pa : pls h a false [v]) (pr : pls h a2 b2 l2) (hne : a2 ≠ a) (hne3 : za h a2 3 ≠ za h a 3) {q : Nat} (hq : zt h q = 12) (hA : 1 ≤ zi h q 2) :
    zJ G 2 m_Card_split1 0 [some v0, some (zA a), some (zA a2), some (zA q), none] [] h (fun o h' => o = zR0 ∧ pls h' a false [tqo v (zi h q 2)] ∧ pls h' a2 false [tre v (zi h q 2)] ∧ ∃ h1, cPc h a h1 ∧ pls h1 a false [tqo v (zi h q 2)] ∧ cPc h1 a2 h') := by
  have a6 := pa.1
  have e0 : zi h (za h a 3) 0 = v := pa.2.2.2.2.2.2 0 v rfl
  have han := ne0_1 hA
  have qa : q ≠ a := fun g => by rw [g, a6] at hq; cases hq
  have qa3 : q ≠ za h a 3 := fun g => by have := pa.2.1; rw [← g, hq] at this; cases this
  have n1 : a2 ≠ za h a 3 := fun g => by have := pa.2.1; rw [← g, pr.1] at this; cases this
  have n2 : za h a2 3 ≠ a := fun g => by have := pr.2.1; rw [g, a6] at this; cases this
  refine zj_aload_n hG d_Card_split1_0 rfl rfl ?_
  refine zj_getA hG d_Card_split1_1 f_Card_116 (by assumption) rfl ?_
  refine zj_iconst (v := 0) hG d_Card_split1_4 rfl ?_
  refine zj_iald hG d_Card_split1_5 pa.2.1 (pa.in (i := 0) (by omega)) ?_
  rw [show zi h (za h a 3) (0 : Int32).toNatClampNeg = v from e0]
  refine zj_istore hG d_Card_split1_6 (by decide) rfl rfl ?_
  refine zj_aload_n hG d_Card_split1_8 rfl rfl ?_
  refine zj_iconst (v := 0) hG d_Card_split1_9 rfl ?_
  refine zj_iload hG d_Card_split1_10 rfl ?_
  refine zj_aload_n hG d_Card_split1_12 rfl rfl ?_
  refine zj_getI hG d_Card_split1_13 f_Card_126 (by assumption) rfl ?_
  refine zj_callR (y' := m_Math_floorDivI) hG (zcS (as := [_, _]) hG d_Card_split1_16 c_Math_floorDivI (z_w6 8 rfl) (z_w3 224 rfl) (z_w1 26 rfl) ⟨by decide, by decide⟩ (show _ = some 2 from by decide +kernel) rfl) c_Math_floorDivI rfl (by omega) rfl (z_le rfl) (z_le rfl) (k_Math_floorDivI hG _ _ han _) ?_
  rw [tqo_cflI _ (i32_pos hA)]
  refine zj_callP (y' := m_Place_set) hG (zcV (as := [_, _]) hG d_Card_split1_19 c_Place_set (z_w4 88 rfl) (z_w2 228 rfl) (z_w2 229 rfl) ⟨by decide, by decide⟩ a6 (by decide) (by decide) (show _ = some 2 from by decide +kernel) rfl) c_Place_set rfl (by omega) rfl (z_le rfl) (z_le rfl) (k_pl_set hG pa false _) (fun h19 e19 => ?_)
  obtain ⟨p1, p2⟩ := e19
  have pr2 := pr.pc p2 hne n1 n2 hne3
  have p20 := p2
  obtain ⟨I, rfl, i1, i2⟩ := p2
  have zq2 : zi (cSi h I) q = zi h q := i1 q qa qa3
  have r6 := pr2.1
  refine zj_aload_n hG d_Card_split1_22 rfl rfl ?_
  refine zj_iconst (v := 0) hG d_Card_split1_23 rfl ?_
  refine zj_iload hG d_Card_split1_24 rfl ?_
  refine zj_aload_n hG d_Card_split1_26 rfl rfl ?_
  refine zj_getI hG d_Card_split1_27 f_Card_126 hq rfl ?_
  rw [zq2]
  refine zj_callR (y' := m_Math_floorModI) hG (zcS (as := [_, _]) hG d_Card_split1_30 c_Math_floorModI (z_w6 9 rfl) (z_w6 10 rfl) (z_w1 26 rfl) ⟨by decide, by decide⟩ (show _ = some 2 from by decide +kernel) rfl) c_Math_floorModI rfl (by omega) rfl (z_le rfl) (z_le rfl) (k_Math_floorModI hG _ _ han _) ?_
  rw [tre_cfmI _ (i32_pos hA)]
  refine zj_callP (y' := m_Place_set) hG (zcV (as := [_, _]) hG d_Card_split1_33 c_Place_set (z_w4 88 rfl) (z_w2 228 rfl) (z_w2 229 rfl) ⟨by decide, by decide⟩ r6 (by decide) (by decide) (show _ = some 2 from by decide +kernel) rfl) c_Place_set rfl (by omega) rfl (z_le rfl) (z_le rfl) (k_pl_set hG pr2 false _) (fun h33 e33 => ?_)
  obtain ⟨p3, p4⟩ := e33
  have p5 := p1.pc p4 hne.symm n2.symm n1.symm hne3.symm
  exact zj_vret hG d_Card_split1_36 rfl ⟨rfl, p5, p3, _, p20, p1, p4⟩
end AL3
