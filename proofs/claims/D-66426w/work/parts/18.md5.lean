/-! PART 18: the reference: fields go, what is kept at work, wrapping -/
/-- what is kept: 0 nothing, 1 a row, 2 and 3 two rows -/
abbrev tK : Type := Int32 × List Int32 × List Int32
abbrev tK0 : tK := (0, [], [])
def tWk (N : Nat → Nat → Int32) (K : Nat → tK) : Prop := ∀ s, s < 128 → N 20 s = (K s).1 ∧ ((K s).1 ≠ 0 → tRow N 21 (14 * s) (K s).2.1) ∧ ((K s).1 = 2 ∨ (K s).1 = 3 → tRow N 21 (14 * s + 7) (K s).2.2)
def pK (o i : Nat) : Bool := o == 20 || o == 21
/-- the table, what is kept, the rows at work -/
def pB (o i : Nat) : Bool := pT o i || o == 20 || o == 21 || o == 28 || o == 29
theorem tRow.fr {N N' : Nat → Nat → Int32} {o b : Nat} {l : List Int32} (h : tRow N o b l) (f : ∀ i, b ≤ i → i < b + 7 → N' o i = N o i) : tRow N' o b l := by
  refine ⟨(f b (by omega) (by omega)).trans h.1, h.2.1, fun i x hi => (f _ (by omega) ?_).trans (h.2.2 i x hi)⟩
  have := (List.getElem?_eq_some_iff.mp hi).1
  have := h.2.1
  omega
theorem tWk.fr {P : Nat → Nat → Bool} {N N' : Nat → Nat → Int32} {K : Nat → tK} (h : tWk N K) (f : tFr P N N') (hp : ∀ o i, pK o i = true → P o i = false) : tWk N' K := by
  have g : ∀ o i, pK o i = true → N' o i = N o i := fun o i e => f o i (hp o i e)
  intro s hs
  obtain ⟨a1, a2, a3⟩ := h s hs
  exact ⟨(g 20 s rfl).trans a1, fun e => (a2 e).fr (fun i _ _ => g 21 i rfl), fun e => (a3 e).fr (fun i _ _ => g 21 i rfl)⟩
/-- one slot is written -/
theorem tWk.up {N N' : Nat → Nat → Int32} {K : Nat → tK} (h : tWk N K) {s : Nat} {w : tK} (f : ∀ o i, pK o i = true → ¬ (o = 20 ∧ i = s) → ¬ (o = 21 ∧ 14 * s ≤ i ∧ i < 14 * s + 14) → N' o i = N o i) (hw : N' 20 s = w.1 ∧ (w.1 ≠ 0 → tRow N' 21 (14 * s) w.2.1) ∧ (w.1 = 2 ∨ w.1 = 3 → tRow N' 21 (14 * s + 7) w.2.2)) : tWk N' (zw K s w) := by
  intro s' hs'
  by_cases g : s' = s
  · subst g
    rw [zw_s]
    exact hw
  · rw [zw_n g]
    obtain ⟨a1, a2, a3⟩ := h s' hs'
    exact ⟨(f 20 s' rfl (by omega) (by omega)).trans a1, fun e => (a2 e).fr (fun i _ _ => f 21 i rfl (by omega) (by omega)), fun e => (a3 e).fr (fun i _ _ => f 21 i rfl (by omega) (by omega))⟩
theorem tWk.z {N : Nat → Nat → Int32} {K : Nat → tK} (h : tWk N K) (s : Nat) : tWk (zu N 20 s 0) (zw K s tK0) :=
  h.up (fun o i _ e _ => if_neg e) ⟨zu_s, fun e => absurd rfl e, fun e => by rcases e with e | e <;> exact absurd e (by decide)⟩
theorem tRow.one {N : Nat → Nat → Int32} {o b : Nat} {x : Int32} (h : tRow N o b [x]) : N o (b + 1) = x := h.2.2 0 x rfl
theorem tRow.of1 {N : Nat → Nat → Int32} {o b : Nat} {x : Int32} (h1 : N o b = 1) (h2 : N o (b + 1) = x) : tRow N o b [x] := by
  refine ⟨h1, by simp, fun i y hi => ?_⟩
  have : i = 0 := by
    have := (List.getElem?_eq_some_iff.mp hi).1
    simp at this
    omega
  subst this
  simp at hi
  subst hi
  exact h2
theorem tRow.cnt0 {N : Nat → Nat → Int32} {o b : Nat} {l : List Int32} (h : tRow N o b l) : N o b = 0 ↔ l = [] := by
  have h2 := h.2.1
  rw [h.1]
  constructor
  · intro e
    have := (nI_eq (b := 0) (by omega) (by omega)).mp e
    exact List.length_eq_zero_iff.mp this
  · intro e
    subst e
    rfl
theorem tRow.cntp {N : Nat → Nat → Int32} {o b : Nat} {l : List Int32} (h : tRow N o b l) : 0 < N o b ↔ l ≠ [] := by
  have h2 := h.2.1
  rw [h.1]
  have : (0 : Int32) < nI l.length ↔ 0 < l.length := nI_ltI (a := 0) (by omega) (by omega)
  rw [this]
  exact List.length_pos_iff
theorem tRow.cnt1 {N : Nat → Nat → Int32} {o b : Nat} {l : List Int32} (h : tRow N o b l) : N o b = 1 ↔ l.length = 1 := by
  have h2 := h.2.1
  rw [h.1]
  exact nI_eq (b := 1) (by omega) (by omega)
/-- the last one takes the place -/
def tgo (T : List tE) (k : Nat) : List tE := match T.getLast? with
  | none => []
  | some z => (T.set k z).dropLast
section MD5
variable {G : zG} {q : Nat} {h : zH} {N : Nat → Nat → Int32} {L : List tQ} {T : List tE} {K : Nat → tK}
set_option maxRecDepth 4000 in
theorem k_MD_go (hG : zOK G) (hT : twOK q h) (hN : tTab N T) {k : Nat} (hk : k < T.length) :
    zJ G 1 m_MD_go 0 [some (zA q), some (zI (nI k))] [] (twp q h N) (fun o h' => ∃ N', o = zR0 ∧ h' = twp q h N' ∧ (tTab N' (tgo T k) ∧ tFr pT N N')) := by
  obtain ⟨n, hn⟩ : ∃ n, T.length = n + 1 := ⟨T.length - 1, by omega⟩
  have hl := hN.l
  have hF := hN.1
  have hz : T.getLast? = some T[n] := by
    rw [List.getLast?_eq_getElem?, show T.length - 1 = n by omega]
    exact List.getElem?_eq_getElem (by omega)
  obtain ⟨a1, a2, a3, a4, a5, a8⟩ := hN.at (k := n) (by omega)
  refine zj_aload_n hG d_MD_go_0 rfl rfl ?_
  refine zj_dup hG d_MD_go_1 (by first | exact zc_A _ | rfl) ?_
  refine t_getI hG hT d_MD_go_2 f_MD_108 rfl ?_
  refine zj_iconst (v := 1) hG d_MD_go_5 rfl ?_
  refine zj_isub hG d_MD_go_6 ?_
  refine t_putI hG hT d_MD_go_7 f_MD_108 rfl rfl ?_
  rw [hF, hn, nI_pred]
  refine zj_aload_n hG d_MD_go_10 rfl rfl ?_
  refine t_getA (o := 14) hG hT d_MD_go_11 f_MD_53 rfl rfl ?_
  refine zj_iload_n hG d_MD_go_14 rfl rfl ?_
  refine zj_aload_n hG d_MD_go_15 rfl rfl ?_
  refine t_getA (o := 14) hG hT d_MD_go_16 f_MD_53 rfl rfl ?_
  refine zj_aload_n hG d_MD_go_19 rfl rfl ?_
  refine t_getI hG hT d_MD_go_20 f_MD_108 rfl ?_
  refine t_ald (n) hG hT d_MD_go_23 (by first | decide | omega) (by first | decide | omega) (by simp [zu]) (by show _ < 26; omega) ?_
  refine t_ast (k) hG hT d_MD_go_24 (by first | decide | omega) (by first | decide | omega) rfl (by show _ < 26; omega) ?_
  refine zj_aload_n hG d_MD_go_25 rfl rfl ?_
  refine t_getA (o := 15) hG hT d_MD_go_26 f_MD_56 rfl rfl ?_
  refine zj_iload_n hG d_MD_go_29 rfl rfl ?_
  refine zj_aload_n hG d_MD_go_30 rfl rfl ?_
  refine t_getA (o := 15) hG hT d_MD_go_31 f_MD_56 rfl rfl ?_
  refine zj_aload_n hG d_MD_go_34 rfl rfl ?_
  refine t_getI hG hT d_MD_go_35 f_MD_108 rfl ?_
  refine t_ald (n) hG hT d_MD_go_38 (by first | decide | omega) (by first | decide | omega) (by simp [zu]) (by show _ < 26; omega) ?_
  refine t_ast (k) hG hT d_MD_go_39 (by first | decide | omega) (by first | decide | omega) rfl (by show _ < 26; omega) ?_
  refine zj_aload_n hG d_MD_go_40 rfl rfl ?_
  refine t_getA (o := 16) hG hT d_MD_go_41 f_MD_59 rfl rfl ?_
  refine zj_iload_n hG d_MD_go_44 rfl rfl ?_
  refine zj_aload_n hG d_MD_go_45 rfl rfl ?_
  refine t_getA (o := 16) hG hT d_MD_go_46 f_MD_59 rfl rfl ?_
  refine zj_aload_n hG d_MD_go_49 rfl rfl ?_
  refine t_getI hG hT d_MD_go_50 f_MD_108 rfl ?_
  refine t_ald (n) hG hT d_MD_go_53 (by first | decide | omega) (by first | decide | omega) (by simp [zu]) (by show _ < 26; omega) ?_
  refine t_ast (k) hG hT d_MD_go_54 (by first | decide | omega) (by first | decide | omega) rfl (by show _ < 26; omega) ?_
  refine zj_aload_n hG d_MD_go_55 rfl rfl ?_
  refine t_getA (o := 17) hG hT d_MD_go_56 f_MD_62 rfl rfl ?_
  refine zj_iload_n hG d_MD_go_59 rfl rfl ?_
  refine zj_aload_n hG d_MD_go_60 rfl rfl ?_
  refine t_getA (o := 17) hG hT d_MD_go_61 f_MD_62 rfl rfl ?_
  refine zj_aload_n hG d_MD_go_64 rfl rfl ?_
  refine t_getI hG hT d_MD_go_65 f_MD_108 rfl ?_
  refine t_ald (n) hG hT d_MD_go_68 (by first | decide | omega) (by first | decide | omega) (by simp [zu]) (by show _ < 26; omega) ?_
  refine t_ast (k) hG hT d_MD_go_69 (by first | decide | omega) (by first | decide | omega) rfl (by show _ < 26; omega) ?_
  refine zj_aload_n hG d_MD_go_70 rfl rfl ?_
  refine t_getA (o := 19) hG hT d_MD_go_71 f_MD_68 rfl rfl ?_
  refine zj_iload_n hG d_MD_go_74 rfl rfl ?_
  refine zj_aload_n hG d_MD_go_75 rfl rfl ?_
  refine t_getA (o := 19) hG hT d_MD_go_76 f_MD_68 rfl rfl ?_
  refine zj_aload_n hG d_MD_go_79 rfl rfl ?_
  refine t_getI hG hT d_MD_go_80 f_MD_108 rfl ?_
  refine t_ald (n) hG hT d_MD_go_83 (by first | decide | omega) (by first | decide | omega) (by simp [zu]) (by show _ < 26; omega) ?_
  refine t_ast (k) hG hT d_MD_go_84 (by first | decide | omega) (by first | decide | omega) rfl (by show _ < 26; omega) ?_
  refine zj_aload_n hG d_MD_go_85 rfl rfl ?_
  refine t_getA (o := 18) hG hT d_MD_go_86 f_MD_65 rfl rfl ?_
  refine zj_bipush (v := 7) hG d_MD_go_89 rfl ?_
  refine zj_aload_n hG d_MD_go_91 rfl rfl ?_
  refine t_getI hG hT d_MD_go_92 f_MD_108 rfl ?_
  refine zj_imul hG d_MD_go_95 ?_
  refine zj_aload_n hG d_MD_go_96 rfl rfl ?_
  refine t_getA (o := 18) hG hT d_MD_go_97 f_MD_65 rfl rfl ?_
  refine zj_bipush (v := 7) hG d_MD_go_100 rfl ?_
  refine zj_iload_n hG d_MD_go_102 rfl rfl ?_
  refine zj_imul hG d_MD_go_103 ?_
  generalize hM : zu (zu (zu (zu (zu (zu N 0 18 (nI n)) 14 k _) 15 k _) 16 k _) 17 k _) 19 k _ = M
  have e0 : M 0 18 = nI n := by rw [← hM]; simp [zu]
  have e1 : M 14 k = eP T[n] := by rw [← hM, ← a1]; simp [zu]
  have e2 : M 15 k = eS T[n] := by rw [← hM, ← a2]; simp [zu]
  have e3 : M 16 k = eL T[n] := by rw [← hM, ← a3]; simp [zu]
  have e4 : M 17 k = eH T[n] := by rw [← hM, ← a4]; simp [zu]
  have e5 : M 19 k = eT T[n] := by rw [← hM, ← a8]; simp [zu]
  have e6 : ∀ o i, ¬ (o = 0 ∧ i = 18) → i ≠ k ∨ o = 18 ∨ o < 14 ∨ 19 < o → M o i = N o i := by
    intro o i g1 g2
    rw [← hM]
    simp only [zu]
    repeat rw [if_neg (by omega)]
  have e7 : tFr pT N M := by
    rw [← hM]
    repeat (refine tFr.put ?_ rfl)
    exact tFr.rfl'
  clear hM
  rw [e0, nI_7, nI_7]
  refine zj_callV (y' := m_MD_copyRow) hG (zcS (as := [_, _, _, _]) hG d_MD_go_104 c_MD_copyRow (z_w7 103 rfl) (z_w7 104 rfl) (z_w1 11 rfl) ⟨by decide, by decide⟩ (show _ = some 4 from by decide +kernel) rfl) c_MD_copyRow rfl (by omega) rfl (z_le rfl) (z_le rfl) (k_MD_copyRow hG hT M (by decide) (by decide) (by show _ ≤ 182; omega) (by show _ ≤ 182; omega) (by omega)) ?_
  refine zj_vret hG d_MD_go_107 rfl ⟨_, rfl, rfl, ?_, ?_⟩
  · have f : ∀ o i, ¬ (o = 18 ∧ 7 * k ≤ i ∧ i < 7 * k + 7) → tcp M 18 (7 * n) 18 (7 * k) 7 o i = M o i := fun o i g => tcp_n g
    have hu : tTab (zu (tcp M 18 (7 * n) 18 (7 * k) 7) 0 18 (nI (n + 1))) (T.set k T[n]) := by
      refine hN.up hk (fun o i g1 g2 => ?_) ⟨?_, ?_, ?_, ?_, ?_, ?_⟩
      · by_cases g : o = 0 ∧ i = 18
        · rw [g.1, g.2, hF, hn]
          exact zu_s
        · have g1' : 14 ≤ o ∧ o ≤ 19 := by
            simp [pT] at g1
            omega
          rw [zu, if_neg g, f o i (by omega), e6 o i (by omega) (by omega)]
      · rw [zu_a (by omega), f _ _ (by omega), e1]
      · rw [zu_a (by omega), f _ _ (by omega), e2]
      · rw [zu_a (by omega), f _ _ (by omega), e3]
      · rw [zu_a (by omega), f _ _ (by omega), e4]
      · refine (tcp_row (N := M) (o1 := 18) (b1 := 7 * n) (o2 := 18) (b2 := 7 * k) (a5.fr (fun i _ _ => e6 18 i (by omega) (by omega)))).fr (fun i _ _ => zu_a (by omega))
      · rw [zu_a (by omega), f _ _ (by omega), e5]
    rw [tgo, hz]
    refine ⟨?_, by simp; omega, fun j e hj => ?_⟩
    · rw [f _ _ (by omega), e0]
      simp [hn]
    · have hj' : j < n := by
        have := (List.getElem?_eq_some_iff.mp hj).1
        simp at this
        omega
      rw [List.getElem?_dropLast, if_pos (by simp; omega)] at hj
      obtain ⟨b1, b2, b3, b4, b5, b6⟩ := hu.2.2 j e hj
      rw [zu_a (by omega)] at b1 b2 b3 b4 b6
      exact ⟨b1, b2, b3, b4, b5.fr (fun i _ _ => (zu_a (by omega)).symm), b6⟩
  · intro o i e
    rw [tcp_n (by simp [pT] at e; omega)]
    exact e7 o i e
set_option maxRecDepth 4000 in
theorem k_MD_keepOne (hG : zOK G) (hT : twOK q h) (hN : tTab N T) (hK : tWk N K) {s k : Nat} (hs : s < 128) (hk : k < T.length) :
    zJ G 1 m_MD_keepOne 0 [some (zA q), some (zI (nI s)), some (zI (nI k))] [] (twp q h N) (fun o h' => ∃ N', o = zR0 ∧ h' = twp q h N' ∧ (tWk N' (zw K s (1, eR T[k], [])) ∧ tFr pK N N')) := by
  have hl := hN.l
  refine zj_aload_n hG d_MD_keepOne_0 rfl rfl ?_
  refine t_getA (o := 20) hG hT d_MD_keepOne_1 f_MD_71 rfl rfl ?_
  refine zj_iload_n hG d_MD_keepOne_4 rfl rfl ?_
  refine zj_iconst (v := 1) hG d_MD_keepOne_5 rfl ?_
  refine t_ast (s) hG hT d_MD_keepOne_6 (by first | decide | omega) (by first | decide | omega) rfl (by show _ < 128; omega) ?_
  refine zj_aload_n hG d_MD_keepOne_7 rfl rfl ?_
  refine t_getA (o := 18) hG hT d_MD_keepOne_8 f_MD_65 rfl rfl ?_
  refine zj_bipush (v := 7) hG d_MD_keepOne_11 rfl ?_
  refine zj_iload_n hG d_MD_keepOne_13 rfl rfl ?_
  refine zj_imul hG d_MD_keepOne_14 ?_
  refine zj_aload_n hG d_MD_keepOne_15 rfl rfl ?_
  refine t_getA (o := 21) hG hT d_MD_keepOne_16 f_MD_74 rfl rfl ?_
  refine zj_bipush (v := 14) hG d_MD_keepOne_19 rfl ?_
  refine zj_iload_n hG d_MD_keepOne_21 rfl rfl ?_
  refine zj_imul hG d_MD_keepOne_22 ?_
  rw [nI_7, nI_14]
  refine zj_callV (y' := m_MD_copyRow) hG (zcS (as := [_, _, _, _]) hG d_MD_keepOne_23 c_MD_copyRow (z_w7 103 rfl) (z_w7 104 rfl) (z_w1 11 rfl) ⟨by decide, by decide⟩ (show _ = some 4 from by decide +kernel) rfl) c_MD_copyRow rfl (by omega) rfl (z_le rfl) (z_le rfl) (k_MD_copyRow hG hT _ (by decide) (by decide) (by show _ ≤ 182; omega) (by show _ ≤ 1792; omega) (by omega)) ?_
  refine zj_vret hG d_MD_keepOne_26 rfl ⟨_, rfl, rfl, ?_, ?_⟩
  · refine hK.up (fun o i e g1 g2 => ?_) ⟨?_, fun _ => tcp_row ((hN.at hk).2.2.2.2.1.fr (fun i _ _ => zu_a (by omega))), fun e => by rcases e with e | e <;> exact absurd (show (1 : Int32) = _ from e) (by decide)⟩
    · rw [tcp_n (by omega)]
      exact if_neg g1
    · rw [tcp_n (by omega), zu_s]
  · intro o i e
    rw [tcp_n (by simp [pK] at e; omega)]
    exact if_neg (by simp [pK] at e; omega)
/-- wrapped; unwrapped -/
def twr (e : tE) (w : tK) (x : Int32) : List Int32 := if w.1 = 1 then (match w.2.1 with
  | [] => if x = tnear (eL e) (eH e) then [] else [x]
  | _ :: t => x :: t) else [x]
def tuw (e : tE) : List Int32 := match eR e with
  | [] => [tnear (eL e) (eH e)]
  | x :: _ => [x]
def tsetR (T : List tE) (k : Nat) (l : List Int32) : List tE := T.modify k (fun e => (e.1, e.2.1, e.2.2.1, e.2.2.2.1, l, e.2.2.2.2.2))
theorem tsetR_eq {T : List tE} {k : Nat} (hk : k < T.length) (l : List Int32) : tsetR T k l = T.set k (T[k].1, T[k].2.1, T[k].2.2.1, T[k].2.2.2.1, l, T[k].2.2.2.2.2) := by
  unfold tsetR
  apply List.ext_getElem?
  intro j
  rw [List.getElem?_modify, List.getElem?_set]
  by_cases g : k = j
  · subst g
    simp [hk]
  · simp [g]
set_option maxRecDepth 4000 in
theorem k_MD_wrap (hG : zOK G) (hT : twOK q h) (hN : tTab N T) (hK : tWk N K) {s k : Nat} (hs : s < 128) (hk : k < T.length) {x : Int32} (hx : eR T[k] = [x]) :
    zJ G 1 m_MD_wrap 0 [some (zA q), some (zI (nI k)), some (zI (nI s)), none] [] (twp q h N) (fun o h' => ∃ N', o = zR0 ∧ h' = twp q h N' ∧ (tTab N' (tsetR T k (twr T[k] (K s) x)) ∧ tWk N' (zw K s tK0) ∧ tFr pB N N')) := by
  have hl := hN.l
  obtain ⟨a1, a2, a3, a4, a5, a8⟩ := hN.at hk
  rw [hx] at a5
  obtain ⟨w1, w2, w3⟩ := hK s hs
  have fin : ∀ (M : Nat → Nat → Int32), (∀ o i, ¬ (o = 18 ∧ 7 * k ≤ i ∧ i < 7 * k + 7) → M o i = N o i) → tRow M 18 (7 * k) (twr T[k] (K s) x) → zJ G 1 m_MD_wrap 118 [some (zA q), some (zI (nI k)), some (zI (nI s)), some (zI x)] [] (twp q h M) (fun o h' => ∃ N', o = zR0 ∧ h' = twp q h N' ∧ (tTab N' (tsetR T k (twr T[k] (K s) x)) ∧ tWk N' (zw K s tK0) ∧ tFr pB N N')) := by
    intro M f hr
    have hK' : tWk M K := hK.fr (P := pT) (fun o i e => f o i (by simp [pT] at e; omega)) (by intro o i e; simp [pK] at e; simp [pT]; omega)
    refine zj_aload_n hG d_MD_wrap_118 rfl rfl ?_
    refine t_getA (o := 20) hG hT d_MD_wrap_119 f_MD_71 rfl rfl ?_
    refine zj_iload_n hG d_MD_wrap_122 rfl rfl ?_
    refine zj_iconst (v := 0) hG d_MD_wrap_123 rfl ?_
    refine t_ast (s) hG hT d_MD_wrap_124 (by first | decide | omega) (by first | decide | omega) rfl hs ?_
    refine zj_vret hG d_MD_wrap_125 rfl ⟨_, rfl, rfl, ?_, hK'.z s, ?_⟩
    · rw [tsetR_eq hk]
      refine hN.r hk (fun o i e g => ?_) (hr.fr (fun i _ _ => zu_a (by omega)))
      rw [zu_a (by simp [pT] at e; omega)]
      exact f o i g
    · refine tFr.put (fun o i e => f o i ?_) rfl
      simp [pB, pT] at e
      omega
  refine zj_aload_n hG d_MD_wrap_0 rfl rfl ?_
  refine t_getA (o := 18) hG hT d_MD_wrap_1 f_MD_65 rfl rfl ?_
  refine zj_bipush (v := 7) hG d_MD_wrap_4 rfl ?_
  refine zj_iload_n hG d_MD_wrap_6 rfl rfl ?_
  refine zj_imul hG d_MD_wrap_7 ?_
  refine zj_iconst (v := 1) hG d_MD_wrap_8 rfl ?_
  refine zj_iadd hG d_MD_wrap_9 ?_
  refine t_ald (7 * k + 1) hG hT d_MD_wrap_10 (by first | decide | omega) (by first | decide | omega) (by rw [nI_7, nI_1]) (by show _ < 182; omega) ?_
  rw [a5.one]
  refine zj_istore_n hG d_MD_wrap_11 rfl (by decide) rfl rfl ?_
  refine zj_aload_n hG d_MD_wrap_12 rfl rfl ?_
  refine t_getA (o := 20) hG hT d_MD_wrap_13 f_MD_71 rfl rfl ?_
  refine zj_iload_n hG d_MD_wrap_16 rfl rfl ?_
  refine t_ald (s) hG hT d_MD_wrap_17 (by first | decide | omega) (by first | decide | omega) rfl hs ?_
  refine zj_iconst (v := 1) hG d_MD_wrap_18 rfl ?_
  rw [w1]
  refine zj_icmp_ne (tgt := 118) hG d_MD_wrap_19 (by decide) (fun c19 => ?_) (fun c19 => ?_)
  · refine fin N (fun _ _ _ => rfl) ?_
    rw [twr, if_neg c19]
    exact a5
  have w2' := w2 (by rw [c19]; decide)
  refine zj_aload_n hG d_MD_wrap_22 rfl rfl ?_
  refine t_getA (o := 21) hG hT d_MD_wrap_23 f_MD_74 rfl rfl ?_
  refine zj_bipush (v := 14) hG d_MD_wrap_26 rfl ?_
  refine zj_iload_n hG d_MD_wrap_28 rfl rfl ?_
  refine zj_imul hG d_MD_wrap_29 ?_
  refine zj_aload_n hG d_MD_wrap_30 rfl rfl ?_
  refine t_getA (o := 18) hG hT d_MD_wrap_31 f_MD_65 rfl rfl ?_
  refine zj_bipush (v := 7) hG d_MD_wrap_34 rfl ?_
  refine zj_iload_n hG d_MD_wrap_36 rfl rfl ?_
  refine zj_imul hG d_MD_wrap_37 ?_
  rw [nI_7, nI_14]
  refine zj_callV (y' := m_MD_copyRow) hG (zcS (as := [_, _, _, _]) hG d_MD_wrap_38 c_MD_copyRow (z_w7 103 rfl) (z_w7 104 rfl) (z_w1 11 rfl) ⟨by decide, by decide⟩ (show _ = some 4 from by decide +kernel) rfl) c_MD_copyRow rfl (by omega) rfl (z_le rfl) (z_le rfl) (k_MD_copyRow hG hT _ (by decide) (by decide) (by show _ ≤ 1792; omega) (by show _ ≤ 182; omega) (by omega)) ?_
  generalize hM : tcp N 21 (14 * s) 18 (7 * k) 7 = M
  have f : ∀ o i, ¬ (o = 18 ∧ 7 * k ≤ i ∧ i < 7 * k + 7) → M o i = N o i := fun o i g => by rw [← hM]; exact tcp_n g
  have hr : tRow M 18 (7 * k) (K s).2.1 := by rw [← hM]; exact tcp_row w2'
  clear hM
  have fin2 : ∀ (c : Int32), (c = if (K s).2.1 = [] then 1 else nI (K s).2.1.length) → ¬ ((K s).2.1 = [] ∧ x = tnear (eL T[k]) (eH T[k])) → zJ G 1 m_MD_wrap 105 [some (zA q), some (zI (nI k)), some (zI (nI s)), some (zI x)] [zI c, zI (7 * nI k), zA (q + 18)] (twp q h M) (fun o h' => ∃ N', o = zR0 ∧ h' = twp q h N' ∧ (tTab N' (tsetR T k (twr T[k] (K s) x)) ∧ tWk N' (zw K s tK0) ∧ tFr pB N N')) := by
    intro c hc hne
    refine t_ast (7 * k) hG hT d_MD_wrap_105 (by first | decide | omega) (by first | decide | omega) (nI_7 _) (by show _ < 182; omega) ?_
    refine zj_aload_n hG d_MD_wrap_106 rfl rfl ?_
    refine t_getA (o := 18) hG hT d_MD_wrap_107 f_MD_65 rfl rfl ?_
    refine zj_bipush (v := 7) hG d_MD_wrap_110 rfl ?_
    refine zj_iload_n hG d_MD_wrap_112 rfl rfl ?_
    refine zj_imul hG d_MD_wrap_113 ?_
    refine zj_iconst (v := 1) hG d_MD_wrap_114 rfl ?_
    refine zj_iadd hG d_MD_wrap_115 ?_
    refine zj_iload_n hG d_MD_wrap_116 rfl rfl ?_
    refine t_ast (7 * k + 1) hG hT d_MD_wrap_117 (by first | decide | omega) (by first | decide | omega) (by rw [nI_7, nI_1]) (by show _ < 182; omega) ?_
    refine fin _ (fun o i g => ?_) ?_
    · rw [zu, if_neg (by omega), zu, if_neg (by omega)]
      exact f o i g
    · rw [twr, if_pos c19]
      cases hw : (K s).2.1 with
      | nil =>
        rw [hw] at hc hne
        have hne' : ¬ x = tnear (eL T[k]) (eH T[k]) := fun e => hne ⟨rfl, e⟩
        simp only [if_neg hne']
        refine tRow.of1 ?_ zu_s
        rw [zu_k (by omega), zu_s, hc, if_pos rfl]
      | cons y t =>
        rw [hw] at hc hr
        rw [if_neg (by simp)] at hc
        refine ⟨?_, hr.2.1, fun i z hi => ?_⟩
        · rw [zu_k (by omega), zu_s, hc]
          simp
        · cases i with
          | zero =>
            simp at hi
            subst hi
            exact zu_s
          | succ i =>
            rw [zu_k (by omega), zu_k (by omega)]
            exact hr.2.2 (i + 1) z (by simpa using hi)
  have fin3 : ¬ ((K s).2.1 = [] ∧ x = tnear (eL T[k]) (eH T[k])) → zJ G 1 m_MD_wrap 72 [some (zA q), some (zI (nI k)), some (zI (nI s)), some (zI x)] [] (twp q h M) (fun o h' => ∃ N', o = zR0 ∧ h' = twp q h N' ∧ (tTab N' (tsetR T k (twr T[k] (K s) x)) ∧ tWk N' (zw K s tK0) ∧ tFr pB N N')) := by
    intro hne
    refine zj_aload_n hG d_MD_wrap_72 rfl rfl ?_
    refine t_getA (o := 18) hG hT d_MD_wrap_73 f_MD_65 rfl rfl ?_
    refine zj_bipush (v := 7) hG d_MD_wrap_76 rfl ?_
    refine zj_iload_n hG d_MD_wrap_78 rfl rfl ?_
    refine zj_imul hG d_MD_wrap_79 ?_
    refine zj_aload_n hG d_MD_wrap_80 rfl rfl ?_
    refine t_getA (o := 18) hG hT d_MD_wrap_81 f_MD_65 rfl rfl ?_
    refine zj_bipush (v := 7) hG d_MD_wrap_84 rfl ?_
    refine zj_iload_n hG d_MD_wrap_86 rfl rfl ?_
    refine zj_imul hG d_MD_wrap_87 ?_
    refine t_ald (7 * k) hG hT d_MD_wrap_88 (by first | decide | omega) (by first | decide | omega) (nI_7 _) (by show _ < 182; omega) ?_
    refine zj_if_le (tgt := 104) hG d_MD_wrap_89 (by decide) (fun c89 => ?_) (fun c89 => ?_)
    · refine zj_iconst (v := 1) hG d_MD_wrap_104 rfl ?_
      refine fin2 _ ?_ hne
      rw [if_pos]
      exact Classical.not_not.mp (fun g => Int32.not_le.mpr (hr.cntp.mpr g) c89)
    · refine zj_aload_n hG d_MD_wrap_92 rfl rfl ?_
      refine t_getA (o := 18) hG hT d_MD_wrap_93 f_MD_65 rfl rfl ?_
      refine zj_bipush (v := 7) hG d_MD_wrap_96 rfl ?_
      refine zj_iload_n hG d_MD_wrap_98 rfl rfl ?_
      refine zj_imul hG d_MD_wrap_99 ?_
      refine t_ald (7 * k) hG hT d_MD_wrap_100 (by first | decide | omega) (by first | decide | omega) (nI_7 _) (by show _ < 182; omega) ?_
      refine zj_goto (tgt := 105) hG d_MD_wrap_101 (by decide) ?_
      refine fin2 _ ?_ hne
      rw [if_neg, hr.1]
      exact hr.cntp.mp (Int32.not_le.mp c89)
  refine zj_aload_n hG d_MD_wrap_41 rfl rfl ?_
  refine t_getA (o := 18) hG hT d_MD_wrap_42 f_MD_65 rfl rfl ?_
  refine zj_bipush (v := 7) hG d_MD_wrap_45 rfl ?_
  refine zj_iload_n hG d_MD_wrap_47 rfl rfl ?_
  refine zj_imul hG d_MD_wrap_48 ?_
  refine t_ald (7 * k) hG hT d_MD_wrap_49 (by first | decide | omega) (by first | decide | omega) (nI_7 _) (by show _ < 182; omega) ?_
  refine zj_if_gt (tgt := 72) hG d_MD_wrap_50 (by decide) (fun c50 => ?_) (fun c50 => ?_)
  · exact fin3 (fun g => (hr.cntp.mp c50) g.1)
  have hnil : (K s).2.1 = [] := Classical.not_not.mp (fun g => c50 (hr.cntp.mpr g))
  refine zj_iload_n hG d_MD_wrap_53 rfl rfl ?_
  refine zj_aload_n hG d_MD_wrap_54 rfl rfl ?_
  refine t_getA (o := 16) hG hT d_MD_wrap_55 f_MD_59 rfl rfl ?_
  refine zj_iload_n hG d_MD_wrap_58 rfl rfl ?_
  refine t_ald (k) hG hT d_MD_wrap_59 (by first | decide | omega) (by first | decide | omega) rfl (by show _ < 26; omega) ?_
  refine zj_aload_n hG d_MD_wrap_60 rfl rfl ?_
  refine t_getA (o := 17) hG hT d_MD_wrap_61 f_MD_62 rfl rfl ?_
  refine zj_iload_n hG d_MD_wrap_64 rfl rfl ?_
  refine t_ald (k) hG hT d_MD_wrap_65 (by first | decide | omega) (by first | decide | omega) rfl (by show _ < 26; omega) ?_
  rw [f 16 k (by omega), f 17 k (by omega), a3, a4]
  refine zj_callR (y' := m_MD_nearest) hG (zcS (as := [_, _]) hG d_MD_wrap_66 c_MD_nearest (z_w7 22 rfl) (z_w7 23 rfl) (z_w1 11 rfl) ⟨by decide, by decide⟩ (show _ = some 2 from by decide +kernel) rfl) c_MD_nearest rfl (by omega) rfl (z_le rfl) (z_le rfl) (k_MD_nearest hG _ _ _) ?_
  refine zj_icmp_eq (tgt := 118) hG d_MD_wrap_69 (by decide) (fun c69 => ?_) (fun c69 => ?_)
  · refine fin M f ?_
    rw [twr, if_pos c19, hnil]
    simp only [if_pos c69]
    rw [← hnil]
    exact hr
  · exact fin3 (fun g => c69 g.2)
set_option maxRecDepth 4000 in
theorem k_MD_unwrap (hG : zOK G) (hT : twOK q h) (hN : tTab N T) (hK : tWk N K) {s k : Nat} (hs : s < 128) (hk : k < T.length) :
    zJ G 2 m_MD_unwrap 0 [some (zA q), some (zI (nI k)), some (zI (nI s))] [] (twp q h N) (fun o h' => ∃ N', o = zR0 ∧ h' = twp q h N' ∧ (tTab N' (tsetR T k (tuw T[k])) ∧ tWk N' (zw K s (if (eR T[k]).length = 1 then tK0 else (1, eR T[k], []))) ∧ tFr pB N N')) := by
  have hl := hN.l
  obtain ⟨a1, a2, a3, a4, a5, a8⟩ := hN.at hk
  have fin : ∀ (M : Nat → Nat → Int32), tFr pK N M → tWk M (zw K s (if (eR T[k]).length = 1 then tK0 else (1, eR T[k], []))) → zJ G 2 m_MD_unwrap 26 [some (zA q), some (zI (nI k)), some (zI (nI s))] [] (twp q h M) (fun o h' => ∃ N', o = zR0 ∧ h' = twp q h N' ∧ (tTab N' (tsetR T k (tuw T[k])) ∧ tWk N' (zw K s (if (eR T[k]).length = 1 then tK0 else (1, eR T[k], []))) ∧ tFr pB N N')) := by
    intro M f hM
    have b5 : tRow M 18 (7 * k) (eR T[k]) := a5.fr (fun i _ _ => f 18 i rfl)
    have fin2 : ∀ (M2 : Nat → Nat → Int32), (∀ o i, ¬ (o = 18 ∧ 7 * k ≤ i ∧ i < 7 * k + 7) → M2 o i = M o i) → (∃ x, tuw T[k] = [x] ∧ M2 18 (7 * k + 1) = x) → zJ G 2 m_MD_unwrap 64 [some (zA q), some (zI (nI k)), some (zI (nI s))] [] (twp q h M2) (fun o h' => ∃ N', o = zR0 ∧ h' = twp q h N' ∧ (tTab N' (tsetR T k (tuw T[k])) ∧ tWk N' (zw K s (if (eR T[k]).length = 1 then tK0 else (1, eR T[k], []))) ∧ tFr pB N N')) := by
      intro M2 g1 g2
      obtain ⟨x, g2, g3⟩ := g2
      have g4 : tFr pT M (zu M2 18 (7 * k) 1) := tFr.put (fun o i e => g1 o i (by simp [pT] at e; omega)) rfl
      refine zj_aload_n hG d_MD_unwrap_64 rfl rfl ?_
      refine t_getA (o := 18) hG hT d_MD_unwrap_65 f_MD_65 rfl rfl ?_
      refine zj_bipush (v := 7) hG d_MD_unwrap_68 rfl ?_
      refine zj_iload_n hG d_MD_unwrap_70 rfl rfl ?_
      refine zj_imul hG d_MD_unwrap_71 ?_
      refine zj_iconst (v := 1) hG d_MD_unwrap_72 rfl ?_
      refine t_ast (7 * k) hG hT d_MD_unwrap_73 (by first | decide | omega) (by first | decide | omega) (nI_7 _) (by show _ < 182; omega) ?_
      refine zj_vret hG d_MD_unwrap_74 rfl ⟨_, rfl, rfl, ?_, hM.fr g4 (by intro o i e; simp [pK] at e; simp [pT]; omega), (f.mono (by intro o i e; simp [pB] at e; simp [pK]; omega)).trans (g4.mono (by intro o i e; simp [pB] at e; exact e.1.1.1.1))⟩
      rw [tsetR_eq hk, g2]
      refine hN.r hk (fun o i e g => ?_) (tRow.of1 zu_s ?_)
      · rw [zu, if_neg (by omega), g1 o i g]
        exact f o i (by simp [pT] at e; simp [pK]; omega)
      · rw [zu_k (by omega), g3]
    refine zj_aload_n hG d_MD_unwrap_26 rfl rfl ?_
    refine t_getA (o := 18) hG hT d_MD_unwrap_27 f_MD_65 rfl rfl ?_
    refine zj_bipush (v := 7) hG d_MD_unwrap_30 rfl ?_
    refine zj_iload_n hG d_MD_unwrap_32 rfl rfl ?_
    refine zj_imul hG d_MD_unwrap_33 ?_
    refine t_ald (7 * k) hG hT d_MD_unwrap_34 (by first | decide | omega) (by first | decide | omega) (nI_7 _) (by show _ < 182; omega) ?_
    refine zj_if_ne (tgt := 64) hG d_MD_unwrap_35 (by decide) (fun c35 => ?_) (fun c35 => ?_)
    · refine fin2 M (fun _ _ _ => rfl) ?_
      cases hr : eR T[k] with
      | nil => exact absurd (b5.cnt0.mpr hr) c35
      | cons x t =>
        refine ⟨x, by rw [tuw, hr], ?_⟩
        rw [hr] at b5
        exact b5.2.2 0 x rfl
    · have hnil := b5.cnt0.mp c35
      refine zj_aload_n hG d_MD_unwrap_38 rfl rfl ?_
      refine t_getA (o := 18) hG hT d_MD_unwrap_39 f_MD_65 rfl rfl ?_
      refine zj_bipush (v := 7) hG d_MD_unwrap_42 rfl ?_
      refine zj_iload_n hG d_MD_unwrap_44 rfl rfl ?_
      refine zj_imul hG d_MD_unwrap_45 ?_
      refine zj_iconst (v := 1) hG d_MD_unwrap_46 rfl ?_
      refine zj_iadd hG d_MD_unwrap_47 ?_
      refine zj_aload_n hG d_MD_unwrap_48 rfl rfl ?_
      refine t_getA (o := 16) hG hT d_MD_unwrap_49 f_MD_59 rfl rfl ?_
      refine zj_iload_n hG d_MD_unwrap_52 rfl rfl ?_
      refine t_ald (k) hG hT d_MD_unwrap_53 (by first | decide | omega) (by first | decide | omega) rfl (by show _ < 26; omega) ?_
      refine zj_aload_n hG d_MD_unwrap_54 rfl rfl ?_
      refine t_getA (o := 17) hG hT d_MD_unwrap_55 f_MD_62 rfl rfl ?_
      refine zj_iload_n hG d_MD_unwrap_58 rfl rfl ?_
      refine t_ald (k) hG hT d_MD_unwrap_59 (by first | decide | omega) (by first | decide | omega) rfl (by show _ < 26; omega) ?_
      rw [f 16 k rfl, f 17 k rfl, a3, a4]
      refine zj_callR (y' := m_MD_nearest) hG (zcS (as := [_, _]) hG d_MD_unwrap_60 c_MD_nearest (z_w7 22 rfl) (z_w7 23 rfl) (z_w1 11 rfl) ⟨by decide, by decide⟩ (show _ = some 2 from by decide +kernel) rfl) c_MD_nearest rfl (by omega) rfl (z_le rfl) (z_le rfl) (k_MD_nearest hG _ _ _) ?_
      refine t_ast (7 * k + 1) hG hT d_MD_unwrap_63 (by first | decide | omega) (by first | decide | omega) (by rw [nI_7, nI_1]) (by show _ < 182; omega) ?_
      exact fin2 _ (fun o i g => if_neg (by omega)) ⟨tnear (eL T[k]) (eH T[k]), by rw [tuw, hnil], zu_s⟩
  have f0 : tFr pK N (zu N 20 s 0) := tFr.put tFr.rfl' rfl
  refine zj_aload_n hG d_MD_unwrap_0 rfl rfl ?_
  refine t_getA (o := 20) hG hT d_MD_unwrap_1 f_MD_71 rfl rfl ?_
  refine zj_iload_n hG d_MD_unwrap_4 rfl rfl ?_
  refine zj_iconst (v := 0) hG d_MD_unwrap_5 rfl ?_
  refine t_ast (s) hG hT d_MD_unwrap_6 (by first | decide | omega) (by first | decide | omega) rfl hs ?_
  refine zj_aload_n hG d_MD_unwrap_7 rfl rfl ?_
  refine t_getA (o := 18) hG hT d_MD_unwrap_8 f_MD_65 rfl rfl ?_
  refine zj_bipush (v := 7) hG d_MD_unwrap_11 rfl ?_
  refine zj_iload_n hG d_MD_unwrap_13 rfl rfl ?_
  refine zj_imul hG d_MD_unwrap_14 ?_
  refine t_ald (7 * k) hG hT d_MD_unwrap_15 (by first | decide | omega) (by first | decide | omega) (nI_7 _) (by show _ < 182; omega) ?_
  refine zj_iconst (v := 1) hG d_MD_unwrap_16 rfl ?_
  rw [zu_a (by omega)]
  refine zj_icmp_eq (tgt := 26) hG d_MD_unwrap_17 (by decide) (fun c17 => ?_) (fun c17 => ?_)
  · refine fin _ f0 ?_
    rw [if_pos (a5.cnt1.mp c17)]
    exact hK.z s
  · refine zj_aload_n hG d_MD_unwrap_20 rfl rfl ?_
    refine zj_iload_n hG d_MD_unwrap_21 rfl rfl ?_
    refine zj_iload_n hG d_MD_unwrap_22 rfl rfl ?_
    refine zj_callU (y' := m_MD_keepOne) hG (zcP (as := [_, _]) hG d_MD_unwrap_23 c_MD_keepOne (z_w7 110 rfl) (z_w7 112 rfl) (z_w7 111 rfl) (z_w7 8 rfl) rfl ⟨by decide, by decide⟩ hT.1 (by decide) (by decide) (show _ = some 2 from by decide +kernel) rfl) c_MD_keepOne rfl (by omega) rfl (z_le rfl) (z_le rfl) (k_MD_keepOne hG hT (hN.fr f0 (by intro o i e; simp [pT] at e; simp [pK]; omega)) (hK.z s) hs hk) (fun N23 e23 => ?_)
    obtain ⟨r1, r2⟩ := e23
    refine fin _ (f0.trans r2) ?_
    rw [if_neg (fun g => c17 (a5.cnt1.mpr g))]
    have : zw (zw K s tK0) s (1, eR T[k], []) = zw K s (1, eR T[k], []) := by
      funext j
      unfold zw
      split <;> rfl
    rw [this] at r1
    exact r1
end MD5
