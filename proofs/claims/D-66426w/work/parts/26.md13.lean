/-! PART 26: the whole state, as both sides mean it; how the reference holds it -/
/-- a step: from, to, primitives; a record: version, rows, what is kept -/
abbrev sSt : Type := Nat × Nat × List tPm
abbrev sRc : Type := Nat × List (List Int32) × (Nat → tK)
/-- versions, begun, steps, the step under way, records by their handles -/
abbrev sW : Type := List (List tFd) × Bool × List sSt × Option (Nat × List tPm) × (Nat → Option sRc)
abbrev wV (W : sW) : List (List tFd) := W.1
abbrev wB (W : sW) : Bool := W.2.1
abbrev wS (W : sW) : List sSt := W.2.2.1
abbrev wU (W : sW) : Option (Nat × List tPm) := W.2.2.2.1
abbrev wR (W : sW) : Nat → Option sRc := W.2.2.2.2
def tPs (N : Nat → Nat → Int32) (s : Nat) (ps : List tPm) : Prop := N 8 s = nI ps.length ∧ ps.length ≤ 8 ∧ ∀ (i : Nat) (p : tPm), ps[i]? = some p → tPr N (8 * (8 * s + i)) p
def tSt (N : Nat → Nat → Int32) (s : Nat) (x : sSt) : Prop := N 6 s = nI x.1 ∧ N 7 s = nI x.2.1 ∧ tPs N s x.2.2
def tUn (N : Nat → Nat → Int32) (s : Nat) (u : Nat × List tPm) : Prop := N 6 s = nI u.1 ∧ tPs N s u.2
def tRc (N : Nat → Nat → Int32) (V : List (List tFd)) (h : Nat) (r : sRc) : Prop :=
  N 10 h = nI r.1 ∧ (∃ f, V[r.1]? = some f ∧ r.2.1.length = f.length) ∧ (∀ (k : Nat) (l : List Int32), r.2.1[k]? = some l → tRow N 11 (7 * (24 * h + k)) l) ∧
  ∀ s, s < 128 → N 12 (128 * h + s) = (r.2.2 s).1 ∧ ((r.2.2 s).1 ≠ 0 → tRow N 13 (14 * (128 * h + s)) (r.2.2 s).2.1) ∧ ((r.2.2 s).1 = 2 ∨ (r.2.2 s).1 = 3 → tRow N 13 (14 * (128 * h + s) + 7) (r.2.2 s).2.2)
def tRo (N : Nat → Nat → Int32) (V : List (List tFd)) (h : Nat) : Option sRc → Prop
  | none => N 10 h = -1
  | some r => tRc N V h r
def tW (N : Nat → Nat → Int32) (W : sW) : Prop :=
  (N 0 1 = nI (wV W).length ∧ 1 ≤ (wV W).length ∧ (wV W).length ≤ 8) ∧ (∀ (v : Nat) (f : List tFd), (wV W)[v]? = some f → tVer N v f) ∧ N 0 7 = tb (wB W) ∧ (N 0 8 = nI (wS W).length ∧ (wS W).length ≤ 16) ∧
  (∀ (s : Nat) (x : sSt), (wS W)[s]? = some x → tSt N s x) ∧ N 0 13 = tb (wU W).isSome ∧ (∀ u, wU W = some u → tUn N (wS W).length u) ∧ ∀ h, h < 16 → tRo N (wV W) h (wR W h)
def pP (o i : Nat) : Bool := (1 ≤ o && o ≤ 13) || (o == 0 && (i == 1 || i == 7 || i == 8 || i == 13))
section TWF
variable {N N' : Nat → Nat → Int32} {W : sW} {P : Nat → Nat → Bool}
theorem tPs.fr {s : Nat} {ps : List tPm} (h : tPs N s ps) (g : ∀ o i, pP o i = true → N' o i = N o i) : tPs N' s ps :=
  ⟨(g 8 s rfl).trans h.1, h.2.1, fun i p hp => (h.2.2 i p hp).fr (P := fun o _ => !(o == 9)) (fun o j e => by simp at e; subst e; exact g 9 j rfl) (fun _ => rfl)⟩
theorem tRc.fr {V : List (List tFd)} {h : Nat} {r : sRc} (x : tRc N V h r) (g10 : N' 10 h = N 10 h) (g11 : ∀ i, 168 * h ≤ i → i < 168 * h + 168 → N' 11 i = N 11 i) (g12 : ∀ i, 128 * h ≤ i → i < 128 * h + 128 → N' 12 i = N 12 i) (g13 : ∀ i, 1792 * h ≤ i → i < 1792 * h + 1792 → N' 13 i = N 13 i) (h24 : r.2.1.length ≤ 24) : tRc N' V h r := by
  obtain ⟨a, b, c, d⟩ := x
  refine ⟨g10.trans a, b, fun k l hk => (c k l hk).fr (fun i _ _ => g11 i (by omega) ?_), fun s hs => ?_⟩
  · have := (List.getElem?_eq_some_iff.mp hk).1
    omega
  · obtain ⟨d1, d2, d3⟩ := d s hs
    exact ⟨(g12 _ (by omega) (by omega)).trans d1, fun e => (d2 e).fr (fun i _ _ => g13 i (by omega) (by omega)), fun e => (d3 e).fr (fun i _ _ => g13 i (by omega) (by omega))⟩
theorem tW.len (x : tW N W) {h : Nat} {r : sRc} (hh : h < 16) (hr : wR W h = some r) : r.2.1.length ≤ 24 := by
  have := x.2.2.2.2.2.2.2 h hh
  rw [hr] at this
  obtain ⟨-, ⟨f, hf, hl⟩, -⟩ := this
  rw [hl]
  exact (x.2.1 _ f hf).2.1
theorem tW.fr (x : tW N W) (f : tFr P N N') (hp : ∀ o i, pP o i = true → P o i = false) : tW N' W := by
  have g : ∀ o i, pP o i = true → N' o i = N o i := fun o i e => f o i (hp o i e)
  have x' := x
  obtain ⟨⟨a1, a2, a3⟩, b, c, ⟨d1, d2⟩, e, u, v, w⟩ := x'
  refine ⟨⟨(g 0 1 rfl).trans a1, a2, a3⟩, fun i z hz => (b i z hz).fr f (fun o i e => hp o i (by simp [pV] at e; simp [pP]; omega)), (g 0 7 rfl).trans c, ⟨(g 0 8 rfl).trans d1, d2⟩, fun s z hz => ?_, (g 0 13 rfl).trans u, fun z hz => ?_, fun h hh => ?_⟩
  · obtain ⟨e1, e2, e3⟩ := e s z hz
    exact ⟨(g 6 s rfl).trans e1, (g 7 s rfl).trans e2, e3.fr g⟩
  · obtain ⟨e1, e2⟩ := v z hz
    exact ⟨(g 6 _ rfl).trans e1, e2.fr g⟩
  · have := w h hh
    cases hr : wR W h with
    | none =>
      rw [hr] at this
      exact (g 10 h rfl).trans this
    | some r =>
      rw [hr] at this
      exact tRc.fr this (g 10 h rfl) (fun i _ _ => g 11 i rfl) (fun i _ _ => g 12 i rfl) (fun i _ _ => g 13 i rfl) (x.len hh hr)
/-- one record is written anew -/
def sRs (W : sW) (h : Nat) (r : Option sRc) : sW := (wV W, wB W, wS W, wU W, zw (wR W) h r)
theorem tW.rc (x : tW N W) {h : Nat} {r : Option sRc} (g : ∀ o i, pP o i = true → ¬ (o = 10 ∧ i = h) → ¬ (o = 11 ∧ 168 * h ≤ i ∧ i < 168 * h + 168) → ¬ (o = 12 ∧ 128 * h ≤ i ∧ i < 128 * h + 128) → ¬ (o = 13 ∧ 1792 * h ≤ i ∧ i < 1792 * h + 1792) → N' o i = N o i) (hr : tRo N' (wV W) h r) : tW N' (sRs W h r) := by
  have x' := x
  obtain ⟨⟨a1, a2, a3⟩, b, c, ⟨d1, d2⟩, e, u, v, w⟩ := x'
  have gp : ∀ {s : Nat} {ps : List tPm}, tPs N s ps → tPs N' s ps := fun z =>
    ⟨(g 8 _ rfl (by omega) (by omega) (by omega) (by omega)).trans z.1, z.2.1, fun i p hp => (z.2.2 i p hp).fr (P := fun o _ => !(o == 9)) (fun o j e => by simp at e; subst e; exact g 9 j rfl (by omega) (by omega) (by omega) (by omega)) (fun _ => rfl)⟩
  refine ⟨⟨(g 0 1 rfl (by omega) (by omega) (by omega) (by omega)).trans a1, a2, a3⟩, fun i z hz => (b i z hz).fr (P := fun o i => !(pV o i)) (fun o i e => g o i (by simp [pV] at e; simp [pP]; omega) (by simp [pV] at e; omega) (by simp [pV] at e; omega) (by simp [pV] at e; omega) (by simp [pV] at e; omega)) (fun o i e => by simp [e]), (g 0 7 rfl (by omega) (by omega) (by omega) (by omega)).trans c, ⟨(g 0 8 rfl (by omega) (by omega) (by omega) (by omega)).trans d1, d2⟩, fun s z hz => ?_, (g 0 13 rfl (by omega) (by omega) (by omega) (by omega)).trans u, fun z hz => ?_, fun h' hh => ?_⟩
  · obtain ⟨e1, e2, e3⟩ := e s z hz
    exact ⟨(g 6 s rfl (by omega) (by omega) (by omega) (by omega)).trans e1, (g 7 s rfl (by omega) (by omega) (by omega) (by omega)).trans e2, gp e3⟩
  · obtain ⟨e1, e2⟩ := v z hz
    exact ⟨(g 6 _ rfl (by omega) (by omega) (by omega) (by omega)).trans e1, gp e2⟩
  · by_cases e0 : h' = h
    · subst e0
      show tRo N' (wV W) h' (zw (wR W) h' r h')
      rw [zw_s]
      exact hr
    · show tRo N' (wV W) h' (zw (wR W) h r h')
      rw [zw_n e0]
      have := w h' hh
      cases hr2 : wR W h' with
      | none =>
        rw [hr2] at this
        exact (g 10 h' rfl (by omega) (by omega) (by omega) (by omega)).trans this
      | some r2 =>
        rw [hr2] at this
        exact tRc.fr this (g 10 h' rfl (by omega) (by omega) (by omega) (by omega)) (fun i _ _ => g 11 i rfl (by omega) (by omega) (by omega) (by omega)) (fun i _ _ => g 12 i rfl (by omega) (by omega) (by omega) (by omega)) (fun i _ _ => g 13 i rfl (by omega) (by omega) (by omega) (by omega)) (x.len hh hr2)
end TWF
/-- the record of a handle -/
def oRec (W : sW) (h : Int32) : Option sRc := if 0 ≤ h ∧ h < 16 then wR W h.toNatClampNeg else none
theorem oRec_n {W : sW} {h : Int32} (e : h < 0 ∨ nI 16 ≤ h) : oRec W h = none := by
  unfold oRec
  rw [if_neg]
  intro g
  rcases e with e | e
  · exact Int32.not_le.mpr e g.1
  · exact Int32.not_lt.mpr e g.2
theorem oRec_i {W : sW} {j : Nat} (hj : j < 16) : oRec W (nI j) = wR W j := by
  unfold oRec
  rw [if_pos ⟨nI_pos' (by omega), nI_lt (b := 16) hj (by omega)⟩, nI_clamp (by omega)]
/-- the field of a version at a path, of a sort -/
def oFld (V : List (List tFd)) (v : Nat) (p s : Int32) : Option Nat := (V[v]?.getD []).findIdx? (fun f => decide (f.1 = p ∧ f.2.1 = s))
section MD13
variable {G : zG} {q : Nat} {h : zH} {N : Nat → Nat → Int32} {W : sW}
theorem k_MD_thrown (hG : zOK G) (hT : twOK q h) : zJ G 0 m_MD_thrown 0 [some (zA q)] [] (twp q h N) (fun o h' => o = zR (zI (N 0 0)) ∧ h' = twp q h N) := by
  refine zj_aload_n hG d_MD_thrown_0 rfl rfl ?_
  refine t_getI hG hT d_MD_thrown_1 f_MD_101 rfl ?_
  exact zj_iret hG d_MD_thrown_4 rfl rfl ⟨rfl, rfl⟩
def oVer (W : sW) (v : Int32) : Bool := decide (0 ≤ v ∧ v < nI (wV W).length)
set_option maxRecDepth 4000 in
theorem k_MD_isVersion (hG : zOK G) (hT : twOK q h) (hW : tW N W) (v : Int32) : zJ G 0 m_MD_isVersion 0 [some (zA q), some (zI v)] [] (twp q h N) (fun o h' => o = zR (zI (tb (oVer W v))) ∧ h' = twp q h N) := by
  have hv := hW.1.1
  refine zj_iload_n hG d_MD_isVersion_0 rfl rfl ?_
  refine zj_if_lt (tgt := 16) hG d_MD_isVersion_1 (by decide) (fun c1 => ?_) (fun c1 => ?_)
  · refine zj_iconst (v := 0) hG d_MD_isVersion_16 rfl ?_
    exact zj_iret hG d_MD_isVersion_17 rfl rfl ⟨by rw [show oVer W v = false by simp only [oVer, decide_eq_false_iff_not]; exact fun g => Int32.not_le.mpr c1 g.1]; rfl, rfl⟩
  refine zj_iload_n hG d_MD_isVersion_4 rfl rfl ?_
  refine zj_aload_n hG d_MD_isVersion_5 rfl rfl ?_
  refine t_getI hG hT d_MD_isVersion_6 f_MD_7 rfl ?_
  rw [hv]
  refine zj_icmp_ge (tgt := 16) hG d_MD_isVersion_9 (by decide) (fun c9 => ?_) (fun c9 => ?_)
  · refine zj_iconst (v := 0) hG d_MD_isVersion_16 rfl ?_
    exact zj_iret hG d_MD_isVersion_17 rfl rfl ⟨by rw [show oVer W v = false by simp only [oVer, decide_eq_false_iff_not]; exact fun g => Int32.not_lt.mpr c9 g.2]; rfl, rfl⟩
  · refine zj_iconst (v := 1) hG d_MD_isVersion_12 rfl ?_
    refine zj_goto (tgt := 17) hG d_MD_isVersion_13 (by decide) ?_
    exact zj_iret hG d_MD_isVersion_17 rfl rfl ⟨by rw [show oVer W v = true by simp only [oVer, decide_eq_true_eq]; exact ⟨Int32.not_lt.mp c1, Int32.not_le.mp c9⟩]; rfl, rfl⟩
theorem tRo_neg {V : List (List tFd)} {j : Nat} {r : Option sRc} (x : tRo N V j r) (hV : V.length ≤ 8) : N 10 j < 0 ↔ r = none := by
  cases r with
  | none =>
    rw [show N 10 j = -1 from x]
    exact ⟨fun _ => rfl, fun _ => by decide⟩
  | some r =>
    obtain ⟨a, ⟨f, hf, -⟩, -⟩ := x
    have := (List.getElem?_eq_some_iff.mp hf).1
    rw [a]
    exact ⟨fun e => absurd e (nI_pos (by omega)), fun e => by cases e⟩
set_option maxRecDepth 4000 in
theorem k_MD_isRecordHandle (hG : zOK G) (hT : twOK q h) (hW : tW N W) (x : Int32) : zJ G 0 m_MD_isRecordHandle 0 [some (zA q), some (zI x)] [] (twp q h N) (fun o h' => o = zR (zI (tb (oRec W x).isSome)) ∧ h' = twp q h N) := by
  refine zj_iload_n hG d_MD_isRecordHandle_0 rfl rfl ?_
  refine zj_if_lt (tgt := 23) hG d_MD_isRecordHandle_1 (by decide) (fun c1 => ?_) (fun c1 => ?_)
  · rw [oRec_n (Or.inl c1)]
    refine zj_iconst (v := 0) hG d_MD_isRecordHandle_23 rfl ?_
    exact zj_iret hG d_MD_isRecordHandle_24 rfl rfl ⟨rfl, rfl⟩
  refine zj_iload_n hG d_MD_isRecordHandle_4 rfl rfl ?_
  refine zj_bipush (v := 16) hG d_MD_isRecordHandle_5 rfl ?_
  refine zj_icmp_ge (tgt := 23) hG d_MD_isRecordHandle_7 (by decide) (fun c7 => ?_) (fun c7 => ?_)
  · rw [oRec_n (Or.inr c7)]
    refine zj_iconst (v := 0) hG d_MD_isRecordHandle_23 rfl ?_
    exact zj_iret hG d_MD_isRecordHandle_24 rfl rfl ⟨rfl, rfl⟩
  obtain ⟨j, hj, rfl⟩ : ∃ j, j < 16 ∧ x = nI j := by
    rcases pk_ix x (n := 16) (by omega) with e | e | e
    · exact absurd e c1
    · exact absurd e c7
    · exact e
  have hr := hW.2.2.2.2.2.2.2 j hj
  have hn := tRo_neg hr hW.1.2.2
  rw [oRec_i hj]
  refine zj_aload_n hG d_MD_isRecordHandle_10 rfl rfl ?_
  refine t_getA (o := 10) hG hT d_MD_isRecordHandle_11 f_MD_41 rfl rfl ?_
  refine zj_iload_n hG d_MD_isRecordHandle_14 rfl rfl ?_
  refine t_ald (j) hG hT d_MD_isRecordHandle_15 (by first | decide | omega) (by first | decide | omega) rfl (by show _ < 16; omega) ?_
  refine zj_if_lt (tgt := 23) hG d_MD_isRecordHandle_16 (by decide) (fun c16 => ?_) (fun c16 => ?_)
  · rw [hn.mp c16]
    refine zj_iconst (v := 0) hG d_MD_isRecordHandle_23 rfl ?_
    exact zj_iret hG d_MD_isRecordHandle_24 rfl rfl ⟨rfl, rfl⟩
  · have : (wR W j).isSome = true := by
      cases hw : wR W j with
      | none => exact absurd (hn.mpr hw) c16
      | some r => rfl
    rw [this]
    refine zj_iconst (v := 1) hG d_MD_isRecordHandle_19 rfl ?_
    refine zj_goto (tgt := 24) hG d_MD_isRecordHandle_20 (by decide) ?_
    exact zj_iret hG d_MD_isRecordHandle_24 rfl rfl ⟨rfl, rfl⟩
end MD13
