/-! PART 41: the reference: the table taken over a route -/
/-- forth or back; step; primitive's number; primitive -/
abbrev tAc : Type := Bool × Nat × Nat × tPm
def tra (m : Int32) (X : tXt) (a : tAc) : tXt := if a.1 = true then tfo m a.2.2.2 (8 * a.2.1 + a.2.2.1) X else tba m a.2.2.2 (8 * a.2.1 + a.2.2.1) X
def trun (m : Int32) (as : List tAc) (X : tXt) : tXt := as.foldl (tra m) X
def tGo (m : Int32) : List tAc → tXt → Prop
  | [], _ => True
  | a :: t, X => (tInv m X ∧ X.2.1.length + 3 ≤ 1024 ∧ (if a.1 = true then tfK a.2.2.2 X.1 else tbK a.2.2.2 X.1)) ∧ tGo m t (tra m X a)
theorem tGo_app (m : Int32) : ∀ (a b : List tAc) (X : tXt), tGo m (a ++ b) X ↔ tGo m a X ∧ tGo m b (trun m a X) := by
  intro a
  induction a with
  | nil => intro b X; simp [tGo, trun]
  | cons x t ih =>
    intro b X
    simp only [List.cons_append, tGo, ih, trun, List.foldl_cons, and_assoc]
theorem trun_app (m : Int32) (a b : List tAc) (X : tXt) : trun m (a ++ b) X = trun m b (trun m a X) := by
  simp [trun]
/-- a step's primitives, in a direction -/
def tact (s : Nat) (ps : List tPm) (f : Bool) (i : Nat) : tAc := if f = true then (true, s, i, (ps[i]?).getD (0, 0, 0, 0, 0, 0, 0)) else (false, s, ps.length - 1 - i, (ps[ps.length - 1 - i]?).getD (0, 0, 0, 0, 0, 0, 0))
def tacs (s : Nat) (ps : List tPm) (f : Bool) (i n : Nat) : List tAc := (List.range' i n).map (tact s ps f)
/-- a route's -/
def trac (S : List sSt) : List Nat → List Nat → List tAc
  | v :: vs, s :: ss => (match S[s]? with
    | none => []
    | some x => tacs s x.2.2 (decide (x.1 = v)) 0 x.2.2.length) ++ trac S vs ss
  | _, _ => []
theorem oWay_len {W : sW} {w : Int32} {x y : Nat} {z : List Nat × List Nat} (hK : ∀ b, b < (wV W).length → tDK W w b (tdis W w b)) (hx : x < (wV W).length) (hy : y < (wV W).length) (h : oWay W w x y = some z) : z.1.length = z.2.length + 1 ∧ z.1.length ≤ (wV W).length := by
  have key : ∀ (a b : Nat), a < (wV W).length → b < (wV W).length → (if tdis W w b a < 100 then some (if y < x then ((tpv W w (tdis W w b) (tdis W w b a) a).reverse, (tps W w (tdis W w b) (tdis W w b a) a).reverse) else (tpv W w (tdis W w b) (tdis W w b a) a, tps W w (tdis W w b) (tdis W w b a) a)) else none) = some z → z.1.length = z.2.length + 1 ∧ z.1.length ≤ (wV W).length := by
    intro a b ha hb h
    by_cases hlt : tdis W w b a < 100
    · rw [if_pos hlt] at h
      have := ((hK b hb).2 a ha hlt).1
      cases h
      split
      · refine ⟨?_, ?_⟩ <;> simp only [List.length_reverse, tpv_len, tps_len] <;> omega
      · refine ⟨?_, ?_⟩ <;> simp only [tpv_len, tps_len] <;> omega
    · rw [if_neg hlt] at h
      cases h
  exact key (if x < y then x else y) (if x < y then y else x) (by split <;> assumption) (by split <;> assumption) h
section MD28
variable {G : zG} {q : Nat} {h : zH} {N : Nat → Nat → Int32} {W : sW}
set_option maxRecDepth 4000 in
theorem k_MD_goI (hG : zOK G) (hT : twOK q h) (hW : tW N W) {s : Nat} {x : sSt} (hx : (wS W)[s]? = some x) {v1 : zV} {f : Bool} {Q : zO → zH → Prop} {X0 : tXt}
    (nx : ∀ (M : Nat → Nat → Int32) (w : zV), tFr pA N M → tX M X0 → zJ G 5 m_MD_goRoute 90 [some (zA q), some v1, some (zI (nI s)), some (zI (tb f)), some w] [] (twp q h M) Q) :
    ∀ (n i : Nat) (M : Nat → Nat → Int32) (X : tXt), i + n = x.2.2.length → tFr pA N M → tX M X → tGo (N 0 27) (tacs s x.2.2 f i n) X → trun (N 0 27) (tacs s x.2.2 f i n) X = X0 → zJ G 5 m_MD_goRoute 43 [some (zA q), some v1, some (zI (nI s)), some (zI (tb f)), some (zI (nI i))] [] (twp q h M) Q := by
  have hs := (List.getElem?_eq_some_iff.mp hx).1
  have hs' : s < (wS W).length := hs
  have h16 := hW.2.2.2.1.2
  obtain ⟨e1, e2, e3, e4, e5⟩ := hW.2.2.2.2.1 s x hx
  intro n
  induction n with
  | zero =>
    intro i M X hi fr hX hg hr
    have hsz : M 8 s = nI x.2.2.length := (fr 8 s rfl).trans e3
    refine zj_iload hG d_MD_goRoute_43 rfl ?_
    refine zj_aload_n hG d_MD_goRoute_45 rfl rfl ?_
    refine t_getA (o := 8) hG hT d_MD_goRoute_46 f_MD_35 rfl rfl ?_
    refine zj_iload_n hG d_MD_goRoute_49 rfl rfl ?_
    refine t_ald (s) hG hT d_MD_goRoute_50 (by first | decide | omega) (by first | decide | omega) rfl (by show _ < 17; omega) ?_
    rw [hsz]
    refine zj_icmp_ge (tgt := 90) hG d_MD_goRoute_51 (by decide) (fun _ => ?_) (fun c => absurd (nI_le (by omega) (by omega)) c)
    have : X = X0 := by
      rw [← hr]
      rfl
    subst this
    exact nx M _ fr hX
  | succ n ih =>
    intro i M X hi fr hX hg hr
    have hil : i < x.2.2.length := by omega
    have hsz : M 8 s = nI x.2.2.length := (fr 8 s rfl).trans e3
    have hm : M 0 27 = N 0 27 := fr 0 27 rfl
    have hc : tacs s x.2.2 f i (n + 1) = tact s x.2.2 f i :: tacs s x.2.2 f (i + 1) n := by
      rw [tacs, List.range'_succ]
      rfl
    rw [hc] at hg hr
    obtain ⟨⟨g1, g2, g3⟩, g4⟩ := hg
    refine zj_iload hG d_MD_goRoute_43 rfl ?_
    refine zj_aload_n hG d_MD_goRoute_45 rfl rfl ?_
    refine t_getA (o := 8) hG hT d_MD_goRoute_46 f_MD_35 rfl rfl ?_
    refine zj_iload_n hG d_MD_goRoute_49 rfl rfl ?_
    refine t_ald (s) hG hT d_MD_goRoute_50 (by first | decide | omega) (by first | decide | omega) rfl (by show _ < 17; omega) ?_
    rw [hsz]
    refine zj_icmp_ge (tgt := 90) hG d_MD_goRoute_51 (by decide) (fun c => absurd c (nI_ge hil (by omega))) (fun _ => ?_)
    refine zj_iload_n hG d_MD_goRoute_54 rfl rfl ?_
    cases f with
    | true =>
      have ha : tact s x.2.2 true i = (true, s, i, x.2.2[i]) := by
        rw [tact, List.getElem?_eq_getElem hil]
        rfl
      rw [ha] at g3 g4 hr
      have hp := (e5 i _ (List.getElem?_eq_getElem hil)).fr fr (fun _ => rfl)
      refine zj_if_eq (tgt := 68) hG d_MD_goRoute_55 (by decide) (fun c => absurd c tb1) (fun _ => ?_)
      refine zj_aload_n hG d_MD_goRoute_58 rfl rfl ?_
      refine zj_iload_n hG d_MD_goRoute_59 rfl rfl ?_
      refine zj_iload hG d_MD_goRoute_60 rfl ?_
      refine zj_callU (y' := m_MD_forth) hG (zcP (as := [_, _]) hG d_MD_goRoute_62 c_MD_forth (z_w7 74 rfl) (z_w7 76 rfl) (z_w7 75 rfl) (z_w7 8 rfl) rfl ⟨by decide, by decide⟩ hT.1 (by decide) (by decide) (show _ = some 2 from by decide +kernel) rfl) c_MD_forth rfl (by omega) rfl (z_le rfl) (z_le rfl) (k_MD_forth hG hT hX (by rw [hm]; exact g1) g2 (by omega) hp (by omega) g3) (fun N62 e62 => ?_)
      obtain ⟨r1, r2⟩ := e62
      rw [hm] at r1
      refine zj_goto (tgt := 84) hG d_MD_goRoute_65 (by decide) ?_
      refine zj_iinc hG d_MD_goRoute_84 rfl (nI_1 i) (by decide) rfl rfl ?_
      refine zj_goto (tgt := 43) hG d_MD_goRoute_87 (by decide) ?_
      exact ih (i + 1) N62 _ (by omega) (fr.trans r2) r1 g4 hr
    | false =>
      have ha : tact s x.2.2 false i = (false, s, x.2.2.length - 1 - i, x.2.2[x.2.2.length - 1 - i]) := by
        rw [tact, List.getElem?_eq_getElem (show x.2.2.length - 1 - i < x.2.2.length by omega)]
        rfl
      rw [ha] at g3 g4 hr
      have hp := (e5 (x.2.2.length - 1 - i) _ (List.getElem?_eq_getElem (by omega))).fr fr (fun _ => rfl)
      refine zj_if_eq (tgt := 68) hG d_MD_goRoute_55 (by decide) (fun _ => ?_) (fun c => absurd (by decide) c)
      refine zj_aload_n hG d_MD_goRoute_68 rfl rfl ?_
      refine zj_iload_n hG d_MD_goRoute_69 rfl rfl ?_
      refine zj_aload_n hG d_MD_goRoute_70 rfl rfl ?_
      refine t_getA (o := 8) hG hT d_MD_goRoute_71 f_MD_35 rfl rfl ?_
      refine zj_iload_n hG d_MD_goRoute_74 rfl rfl ?_
      refine t_ald (s) hG hT d_MD_goRoute_75 (by first | decide | omega) (by first | decide | omega) rfl (by show _ < 17; omega) ?_
      refine zj_iconst (v := 1) hG d_MD_goRoute_76 rfl ?_
      refine zj_isub hG d_MD_goRoute_77 ?_
      refine zj_iload hG d_MD_goRoute_78 rfl ?_
      refine zj_isub hG d_MD_goRoute_80 ?_
      rw [hsz, nI_sub1 (by omega), pk_sub (by omega)]
      refine zj_callU (y' := m_MD_back) hG (zcP (as := [_, _]) hG d_MD_goRoute_81 c_MD_back (z_w8 34 rfl) (z_w8 36 rfl) (z_w8 35 rfl) (z_w7 8 rfl) rfl ⟨by decide, by decide⟩ hT.1 (by decide) (by decide) (show _ = some 2 from by decide +kernel) rfl) c_MD_back rfl (by omega) rfl (z_le rfl) (z_le rfl) (k_MD_back hG hT hX (by rw [hm]; exact g1) g2 (by omega) hp (by omega) g3) (fun N81 e81 => ?_)
      obtain ⟨r1, r2⟩ := e81
      rw [hm] at r1
      refine zj_iinc hG d_MD_goRoute_84 rfl (nI_1 i) (by decide) rfl rfl ?_
      refine zj_goto (tgt := 43) hG d_MD_goRoute_87 (by decide) ?_
      exact ih (i + 1) N81 _ (by omega) (fr.trans r2) r1 g4 hr
set_option maxRecDepth 4000 in
theorem k_MD_goO (hG : zOK G) (hT : twOK q h) (hW : tW N W) (hS : sSw W) {L1 L2 : List Nat} (hl : L1.length = L2.length + 1) (h9 : L1.length ≤ 9) (h33 : N 0 33 = nI L1.length) (h25 : tLs N 25 L1) (h26 : tLs N 26 L2) (hv : ∀ v ∈ L1, v < 8) (hst : ∀ s ∈ L2, s < (wS W).length) {Q : zO → zH → Prop} {X0 : tXt}
    (nx : ∀ M : Nat → Nat → Int32, tFr pA N M → tX M X0 → Q zR0 (twp q h M)) :
    ∀ (n k : Nat) (M : Nat → Nat → Int32) (X : tXt) (w2 w3 w4 : Option zV), k + n = L2.length → tFr pA N M → tX M X → tGo (N 0 27) (trac (wS W) (L1.drop k) (L2.drop k)) X → trun (N 0 27) (trac (wS W) (L1.drop k) (L2.drop k)) X = X0 → zJ G 5 m_MD_goRoute 2 [some (zA q), some (zI (nI k)), w2, w3, w4] [] (twp q h M) Q := by
  have h8 := hW.1.2.2
  have h16 := hW.2.2.2.1.2
  intro n
  induction n with
  | zero =>
    intro k M X w2 w3 w4 hk fr hX hg hr
    have h33' : M 0 33 = nI L1.length := (fr 0 33 rfl).trans h33
    have : k = L2.length := by omega
    subst this
    refine zj_iload_n hG d_MD_goRoute_2 rfl rfl ?_
    refine zj_iconst (v := 1) hG d_MD_goRoute_3 rfl ?_
    refine zj_iadd hG d_MD_goRoute_4 ?_
    refine zj_aload_n hG d_MD_goRoute_5 rfl rfl ?_
    refine t_getI hG hT d_MD_goRoute_6 f_MD_299 rfl ?_
    rw [h33', nI_1]
    refine zj_icmp_ge (tgt := 96) hG d_MD_goRoute_9 (by decide) (fun _ => ?_) (fun c => absurd (nI_le (by omega) (by omega)) c)
    have e : X = X0 := by
      rw [← hr, List.drop_length]
      cases hd : L1.drop L2.length with
      | nil => rfl
      | cons a t => rfl
    subst e
    exact zj_vret hG d_MD_goRoute_96 rfl (nx M fr hX)
  | succ n ih =>
    intro k M X w2 w3 w4 hk fr hX hg hr
    have h33' : M 0 33 = nI L1.length := (fr 0 33 rfl).trans h33
    have hk2 : k < L2.length := by omega
    have hk1 : k < L1.length := by omega
    have hs : L2[k] < (wS W).length := hst _ (List.getElem_mem hk2)
    have he : (wS W)[L2[k]]? = some (wS W)[L2[k]] := List.getElem?_eq_getElem hs
    obtain ⟨e1, e2, e3⟩ := hW.2.2.2.2.1 _ _ he
    obtain ⟨b1, b2⟩ := hS _ (List.getElem_mem hs)
    have hvk := hv _ (List.getElem_mem hk1)
    have hW2 : tW M W := hW.pa fr
    have q26 : M 26 k = nI L2[k] := (fr 26 k rfl).trans (h26 k _ (List.getElem?_eq_getElem hk2))
    have q25 : M 25 k = nI L1[k] := (fr 25 k rfl).trans (h25 k _ (List.getElem?_eq_getElem hk1))
    have q6 : M 6 L2[k] = nI ((wS W)[L2[k]]).1 := (fr 6 _ rfl).trans e1
    have hm : M 0 27 = N 0 27 := fr 0 27 rfl
    have hc : trac (wS W) (L1.drop k) (L2.drop k) = tacs L2[k] ((wS W)[L2[k]]).2.2 (decide (((wS W)[L2[k]]).1 = L1[k])) 0 ((wS W)[L2[k]]).2.2.length ++ trac (wS W) (L1.drop (k + 1)) (L2.drop (k + 1)) := by
      rw [List.drop_eq_getElem_cons hk1, List.drop_eq_getElem_cons hk2, trac, he]
    rw [hc, tGo_app] at hg
    rw [hc, trun_app] at hr
    have fin : ∀ (b : Bool) (y : Int32), b = decide (((wS W)[L2[k]]).1 = L1[k]) → y = tb b → ∀ w4 : Option zV, zJ G 5 m_MD_goRoute 39 [some (zA q), some (zI (nI k)), some (zI (nI L2[k])), w3, w4] [zI y] (twp q h M) Q := by
      intro b y hb hy w4
      subst hy
      rw [← hb] at hg hr
      refine zj_istore_n hG d_MD_goRoute_39 rfl (by decide) rfl rfl ?_
      refine zj_iconst (v := 0) hG d_MD_goRoute_40 rfl ?_
      refine zj_istore hG d_MD_goRoute_41 (by decide) rfl rfl ?_
      refine k_MD_goI hG hT hW2 he (X0 := trun (N 0 27) (tacs L2[k] ((wS W)[L2[k]]).2.2 b 0 ((wS W)[L2[k]]).2.2.length) X) ?_ _ 0 M X (Nat.zero_add _) tFr.rfl' hX (by rw [hm]; exact hg.1) (by rw [hm])
      intro M2 w f2 hX2
      refine zj_iinc hG d_MD_goRoute_90 rfl (nI_1 k) (by decide) rfl rfl ?_
      refine zj_goto (tgt := 2) hG d_MD_goRoute_93 (by decide) ?_
      exact ih (k + 1) M2 _ _ _ _ (by omega) (fr.trans f2) hX2 hg.2 hr
    refine zj_iload_n hG d_MD_goRoute_2 rfl rfl ?_
    refine zj_iconst (v := 1) hG d_MD_goRoute_3 rfl ?_
    refine zj_iadd hG d_MD_goRoute_4 ?_
    refine zj_aload_n hG d_MD_goRoute_5 rfl rfl ?_
    refine t_getI hG hT d_MD_goRoute_6 f_MD_299 rfl ?_
    rw [h33', nI_1]
    refine zj_icmp_ge (tgt := 96) hG d_MD_goRoute_9 (by decide) (fun c => absurd c (nI_ge (a := k + 1) (b := L1.length) (by omega) (by omega))) (fun _ => ?_)
    refine zj_aload_n hG d_MD_goRoute_12 rfl rfl ?_
    refine t_getA (o := 26) hG hT d_MD_goRoute_13 f_MD_89 rfl rfl ?_
    refine zj_iload_n hG d_MD_goRoute_16 rfl rfl ?_
    refine t_ald (k) hG hT d_MD_goRoute_17 (by first | decide | omega) (by first | decide | omega) rfl (by show _ < 9; omega) ?_
    rw [q26]
    refine zj_istore_n hG d_MD_goRoute_18 rfl (by decide) rfl rfl ?_
    refine zj_aload_n hG d_MD_goRoute_19 rfl rfl ?_
    refine t_getA (o := 6) hG hT d_MD_goRoute_20 f_MD_29 rfl rfl ?_
    refine zj_iload_n hG d_MD_goRoute_23 rfl rfl ?_
    refine t_ald (L2[k]) hG hT d_MD_goRoute_24 (by first | decide | omega) (by first | decide | omega) rfl (by show _ < 17; omega) ?_
    refine zj_aload_n hG d_MD_goRoute_25 rfl rfl ?_
    refine t_getA (o := 25) hG hT d_MD_goRoute_26 f_MD_86 rfl rfl ?_
    refine zj_iload_n hG d_MD_goRoute_29 rfl rfl ?_
    refine t_ald (k) hG hT d_MD_goRoute_30 (by first | decide | omega) (by first | decide | omega) rfl (by show _ < 9; omega) ?_
    rw [q6, q25]
    refine zj_icmp_ne (tgt := 38) hG d_MD_goRoute_31 (by decide) (fun c31 => ?_) (fun c31 => ?_)
    · refine zj_iconst (v := 0) hG d_MD_goRoute_38 rfl ?_
      exact fin false 0 (decide_eq_false (fun e => c31 (by rw [e]))).symm rfl _
    · refine zj_iconst (v := 1) hG d_MD_goRoute_34 rfl ?_
      refine zj_goto (tgt := 39) hG d_MD_goRoute_35 (by decide) ?_
      exact fin true 1 (decide_eq_true ((nI_eq (by omega) (by omega)).mp c31)).symm rfl _
theorem k_MD_goRoute (hG : zOK G) (hT : twOK q h) (hW : tW N W) (hS : sSw W) {L1 L2 : List Nat} (hl : L1.length = L2.length + 1) (h9 : L1.length ≤ 9) (h33 : N 0 33 = nI L1.length) (h25 : tLs N 25 L1) (h26 : tLs N 26 L2) (hv : ∀ v ∈ L1, v < 8) (hst : ∀ s ∈ L2, s < (wS W).length) {X : tXt} (hX : tX N X) (hg : tGo (N 0 27) (trac (wS W) L1 L2) X) :
    zJ G 5 m_MD_goRoute 0 [some (zA q), none, none, none, none] [] (twp q h N) (fun o h' => ∃ N', o = zR0 ∧ h' = twp q h N' ∧ (tX N' (trun (N 0 27) (trac (wS W) L1 L2) X) ∧ tFr pA N N')) := by
  refine zj_iconst (v := 0) hG d_MD_goRoute_0 rfl ?_
  refine zj_istore_n hG d_MD_goRoute_1 rfl (by decide) rfl rfl ?_
  exact k_MD_goO hG hT hW hS hl h9 h33 h25 h26 hv hst (fun M f hM => ⟨M, rfl, rfl, hM, f⟩) L2.length 0 N X _ _ _ (by omega) tFr.rfl' hX hg rfl
set_option maxRecDepth 4000 in
theorem k_MD_route (hG : zOK G) (hT : twOK q h) (hA : tA N W) (hS : sSw W) (hK : ∀ b, b < (wV W).length → tDK W (-1) b (tdis W (-1) b)) (x y k : Int32) :
    zJ G 3 m_MD_route 0 [some (zA q), some (zI x), some (zI y), some (zI k)] [] (twp q h N) (fun o h' => ∃ z N', o = zR (zI z) ∧ h' = twp q h N' ∧ (N' 0 0 = (oRoute W x y k).1 ∧ z = (oRoute W x y k).2 ∧ tA N' W)) := by
  have hW := hA.1
  have h8 := hW.1.2.2
  have bad : ¬ (oVer W x = true ∧ oVer W y = true) → zJ G 3 m_MD_route 21 [some (zA q), some (zI x), some (zI y), some (zI k)] [zA q] (twp q h N) (fun o h' => ∃ z N', o = zR (zI z) ∧ h' = twp q h N' ∧ (N' 0 0 = (oRoute W x y k).1 ∧ z = (oRoute W x y k).2 ∧ tA N' W)) := by
    intro e
    rw [oRoute, if_neg e]
    refine zj_iconst (v := 1) hG d_MD_route_21 rfl ?_
    refine t_putI hG hT d_MD_route_22 f_MD_101 rfl rfl ?_
    refine zj_aload_n hG d_MD_route_25 rfl rfl ?_
    refine t_getI hG hT d_MD_route_26 f_MD_101 rfl ?_
    rw [zu_s]
    refine zj_if_le (tgt := 34) hG d_MD_route_29 (by decide) (fun c => absurd c (by decide)) (fun _ => ?_)
    refine zj_iconst (v := 0) hG d_MD_route_32 rfl ?_
    exact zj_iret hG d_MD_route_33 rfl rfl ⟨_, _, rfl, rfl, zu_s, rfl, hA.th 1⟩
  refine zj_aload_n hG d_MD_route_0 rfl rfl ?_
  refine zj_aload_n hG d_MD_route_1 rfl rfl ?_
  refine zj_iload_n hG d_MD_route_2 rfl rfl ?_
  refine zj_callR (y' := m_MD_isVersion) hG (zcP (as := [_]) hG d_MD_route_3 c_MD_isVersion (z_w7 62 rfl) (z_w7 64 rfl) (z_w7 63 rfl) (z_w7 8 rfl) rfl ⟨by decide, by decide⟩ hT.1 (by decide) (by decide) (show _ = some 1 from by decide +kernel) rfl) c_MD_isVersion rfl (by omega) rfl (z_le rfl) (z_le rfl) (k_MD_isVersion hG hT hW x) ?_
  refine zj_if_eq (tgt := 21) hG d_MD_route_6 (by decide) (fun c6 => ?_) (fun c6 => ?_)
  · exact bad (fun g => by rw [tb_f c6] at g; cases g.1)
  refine zj_aload_n hG d_MD_route_9 rfl rfl ?_
  refine zj_iload_n hG d_MD_route_10 rfl rfl ?_
  refine zj_callR (y' := m_MD_isVersion) hG (zcP (as := [_]) hG d_MD_route_11 c_MD_isVersion (z_w7 62 rfl) (z_w7 64 rfl) (z_w7 63 rfl) (z_w7 8 rfl) rfl ⟨by decide, by decide⟩ hT.1 (by decide) (by decide) (show _ = some 1 from by decide +kernel) rfl) c_MD_isVersion rfl (by omega) rfl (z_le rfl) (z_le rfl) (k_MD_isVersion hG hT hW y) ?_
  refine zj_if_eq (tgt := 21) hG d_MD_route_14 (by decide) (fun c14 => ?_) (fun c14 => ?_)
  · exact bad (fun g => by rw [tb_f c14] at g; cases g.2)
  have hv1 := tb_t c6
  have hv2 := tb_t c14
  obtain ⟨n1, hn1, rfl⟩ := oVer_n h8 hv1
  obtain ⟨n2, hn2, rfl⟩ := oVer_n h8 hv2
  rw [oRoute, if_pos ⟨hv1, hv2⟩, nI_clamp (by omega), nI_clamp (by omega)]
  have hA0 := hA.th 0
  refine zj_iconst (v := 0) hG d_MD_route_17 rfl ?_
  refine zj_goto (tgt := 22) hG d_MD_route_18 (by decide) ?_
  refine t_putI hG hT d_MD_route_22 f_MD_101 rfl rfl ?_
  refine zj_aload_n hG d_MD_route_25 rfl rfl ?_
  refine t_getI hG hT d_MD_route_26 f_MD_101 rfl ?_
  rw [zu_s]
  refine zj_if_le (tgt := 34) hG d_MD_route_29 (by decide) (fun _ => ?_) (fun c => absurd (by decide) c)
  refine zj_aload_n hG d_MD_route_34 rfl rfl ?_
  refine zj_iload_n hG d_MD_route_35 rfl rfl ?_
  refine zj_iload_n hG d_MD_route_36 rfl rfl ?_
  refine zj_iconst (v := -1) hG d_MD_route_37 rfl ?_
  refine zj_callT (y' := m_MD_findRoute) hG (zcP (as := [_, _, _]) hG d_MD_route_38 c_MD_findRoute (z_w8 18 rfl) (z_w8 20 rfl) (z_w8 19 rfl) (z_w7 8 rfl) rfl ⟨by decide, by decide⟩ hT.1 (by decide) (by decide) (show _ = some 3 from by decide +kernel) rfl) c_MD_findRoute rfl (by omega) rfl (z_le rfl) (z_le rfl) (k_MD_findRoute hG hT hA0.1 hS hn1 hn2 (-1) (hK _ (by split <;> assumption))) (fun v38 N38 e38 => ?_)
  obtain ⟨r1, r2, r3⟩ := e38
  subst r1
  have hA2 : tA N38 W := by
    obtain ⟨a, X, b, c⟩ := hA0
    exact ⟨a.pr r2, X, b.fr2 r2 (by intro o i e; simp [pA, pT, pS, pW] at e; simp [pR]; omega), c⟩
  have z0 : N38 0 0 = 0 := (r2 0 0 rfl).trans zu_s
  cases hw : oWay W (-1) n1 n2 with
  | none =>
    refine zj_if_eq (tgt := 65) hG d_MD_route_41 (by decide) (fun _ => ?_) (fun c => absurd (by decide) c)
    refine zj_iconst (v := -1) hG d_MD_route_65 rfl ?_
    exact zj_iret hG d_MD_route_66 rfl rfl ⟨_, _, rfl, rfl, z0, rfl, hA2⟩
  | some z =>
    obtain ⟨s1, s2, s3⟩ := r3 z hw
    have hzl : z.1.length ≤ 8 := by
      have := (oWay_len hK hn1 hn2 hw).2
      omega
    refine zj_if_eq (tgt := 65) hG d_MD_route_41 (by decide) (fun c => absurd c tb1) (fun _ => ?_)
    refine zj_iload_n hG d_MD_route_44 rfl rfl ?_
    simp only
    refine zj_if_lt (tgt := 65) hG d_MD_route_45 (by decide) (fun c45 => ?_) (fun c45 => ?_)
    · rw [if_neg (fun g => Int32.not_le.mpr c45 g.1)]
      refine zj_iconst (v := -1) hG d_MD_route_65 rfl ?_
      exact zj_iret hG d_MD_route_66 rfl rfl ⟨_, _, rfl, rfl, z0, rfl, hA2⟩
    refine zj_iload_n hG d_MD_route_48 rfl rfl ?_
    refine zj_aload_n hG d_MD_route_49 rfl rfl ?_
    refine t_getI hG hT d_MD_route_50 f_MD_299 rfl ?_
    rw [s1]
    refine zj_icmp_ge (tgt := 65) hG d_MD_route_53 (by decide) (fun c53 => ?_) (fun c53 => ?_)
    · rw [if_neg (fun g => Int32.not_lt.mpr c53 g.2)]
      refine zj_iconst (v := -1) hG d_MD_route_65 rfl ?_
      exact zj_iret hG d_MD_route_66 rfl rfl ⟨_, _, rfl, rfl, z0, rfl, hA2⟩
    · rw [if_pos ⟨Int32.not_lt.mp c45, Int32.not_le.mp c53⟩]
      obtain ⟨m, hm, rfl⟩ : ∃ m, m < z.1.length ∧ k = nI m := by
        rcases pk_ix k (n := z.1.length) (by omega) with e | e | e
        · exact absurd e c45
        · exact absurd e c53
        · exact e
      rw [nI_clamp (by omega)]
      refine zj_aload_n hG d_MD_route_56 rfl rfl ?_
      refine t_getA (o := 25) hG hT d_MD_route_57 f_MD_86 rfl rfl ?_
      refine zj_iload_n hG d_MD_route_60 rfl rfl ?_
      refine t_ald (m) hG hT d_MD_route_61 (by first | decide | omega) (by first | decide | omega) rfl (by show _ < 9; omega) ?_
      refine zj_goto (tgt := 66) hG d_MD_route_62 (by decide) ?_
      rw [s2 m _ (List.getElem?_eq_getElem hm)]
      exact zj_iret hG d_MD_route_66 rfl rfl ⟨_, _, rfl, rfl, z0, by rw [List.getElem?_eq_getElem hm]; rfl, hA2⟩
end MD28
