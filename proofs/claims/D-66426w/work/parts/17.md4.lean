/-! PART 17: the reference's table: looked up, taken, moved -/
def tget (T : List tE) (p : Int32) : Option tE := T.find? (fun e => decide (eP e = p))
theorem tfnd_cases (T : List tE) (p : Int32) : (tfnd T p = -1 ∧ tget T p = none ∧ ∀ e ∈ T, eP e ≠ p) ∨ ∃ k, ∃ hk : k < T.length, tfnd T p = nI k ∧ tget T p = some T[k] ∧ eP T[k] = p ∧ ∀ j (hj : j < k), eP (T[j]'(Nat.lt_trans hj hk)) ≠ p := by
  cases hf : T.findIdx? (fun e => decide (eP e = p)) with
  | none =>
    left
    have h0 := List.findIdx?_eq_none_iff.mp hf
    refine ⟨by simp [tfnd, hf], ?_, fun e he => by simpa using h0 e he⟩
    rw [tget, List.find?_eq_none]
    intro e he
    simpa using h0 e he
  | some k =>
    right
    obtain ⟨h1, h2, h3⟩ := List.findIdx?_eq_some_iff_getElem.mp hf
    refine ⟨k, h1, by simp [tfnd, hf], ?_, by simpa using h2, fun j hj => by simpa using h3 j hj⟩
    rw [tget, List.find?_eq_some_iff_getElem]
    exact ⟨h2, k, h1, rfl, fun j hj => by simpa using h3 j hj⟩
theorem nI_n1 {k : Nat} (hk : k < 2 ^ 31) : ¬ nI k < 0 := nI_pos hk
section TT
variable {N : Nat → Nat → Int32} {T : List tE} {k : Nat}
/-- one place of a field is written -/
theorem tTab.up {N' : Nat → Nat → Int32} {e' : tE} (h : tTab N T) (hk : k < T.length) (f : ∀ o i, pT o i = true → ¬ (14 ≤ o ∧ o ≤ 17 ∧ i = k ∨ o = 19 ∧ i = k ∨ o = 18 ∧ 7 * k ≤ i ∧ i < 7 * k + 7) → N' o i = N o i) (he : tAt N' k e') : tTab N' (T.set k e') := by
  refine ⟨by rw [f 0 18 rfl (by omega), h.1]; simp, by simpa using h.2.1, fun j e hj => ?_⟩
  rw [List.getElem?_set] at hj
  by_cases g : k = j
  · subst g
    rw [if_pos rfl, if_pos hk] at hj
    cases hj
    exact he
  · rw [if_neg g] at hj
    obtain ⟨a1, a2, a3, a4, ⟨a5, a6, a7⟩, a8⟩ := h.2.2 j e hj
    refine ⟨(f 14 j rfl (by omega)).trans a1, (f 15 j rfl (by omega)).trans a2, (f 16 j rfl (by omega)).trans a3, (f 17 j rfl (by omega)).trans a4, ⟨(f 18 _ rfl (by omega)).trans a5, a6, fun i x hi => (f 18 _ rfl ?_).trans (a7 i x hi)⟩, (f 19 j rfl (by omega)).trans a8⟩
    have := (List.getElem?_eq_some_iff.mp hi).1
    omega
theorem tTab.p (h : tTab N T) (hk : k < T.length) (x : Int32) : tTab (zu N 14 k x) (T.set k (x, T[k].2)) := by
  obtain ⟨a1, a2, a3, a4, ⟨a5, a6, a7⟩, a8⟩ := h.at hk
  refine h.up hk (fun o i _ g => if_neg (by omega)) ⟨zu_s, ?_, ?_, ?_, ⟨?_, a6, fun i y hi => ?_⟩, ?_⟩ <;> (rw [zu_a (by omega)]; first | assumption | exact a7 i y hi)
theorem tTab.s (h : tTab N T) (hk : k < T.length) (x : Int32) : tTab (zu N 15 k x) (T.set k (T[k].1, x, T[k].2.2)) := by
  obtain ⟨a1, a2, a3, a4, ⟨a5, a6, a7⟩, a8⟩ := h.at hk
  refine h.up hk (fun o i _ g => if_neg (by omega)) ⟨?_, zu_s, ?_, ?_, ⟨?_, a6, fun i y hi => ?_⟩, ?_⟩ <;> (rw [zu_a (by omega)]; first | assumption | exact a7 i y hi)
theorem tTab.lo (h : tTab N T) (hk : k < T.length) (x : Int32) : tTab (zu N 16 k x) (T.set k (T[k].1, T[k].2.1, x, T[k].2.2.2)) := by
  obtain ⟨a1, a2, a3, a4, ⟨a5, a6, a7⟩, a8⟩ := h.at hk
  refine h.up hk (fun o i _ g => if_neg (by omega)) ⟨?_, ?_, zu_s, ?_, ⟨?_, a6, fun i y hi => ?_⟩, ?_⟩ <;> (rw [zu_a (by omega)]; first | assumption | exact a7 i y hi)
theorem tTab.hi (h : tTab N T) (hk : k < T.length) (x : Int32) : tTab (zu N 17 k x) (T.set k (T[k].1, T[k].2.1, T[k].2.2.1, x, T[k].2.2.2.2)) := by
  obtain ⟨a1, a2, a3, a4, ⟨a5, a6, a7⟩, a8⟩ := h.at hk
  refine h.up hk (fun o i _ g => if_neg (by omega)) ⟨?_, ?_, ?_, zu_s, ⟨?_, a6, fun i y hi => ?_⟩, ?_⟩ <;> (rw [zu_a (by omega)]; first | assumption | exact a7 i y hi)
theorem tTab.t (h : tTab N T) (hk : k < T.length) (x : Int32) : tTab (zu N 19 k x) (T.set k (T[k].1, T[k].2.1, T[k].2.2.1, T[k].2.2.2.1, T[k].2.2.2.2.1, x)) := by
  obtain ⟨a1, a2, a3, a4, ⟨a5, a6, a7⟩, a8⟩ := h.at hk
  refine h.up hk (fun o i _ g => if_neg (by omega)) ⟨?_, ?_, ?_, ?_, ⟨?_, a6, fun i y hi => ?_⟩, zu_s⟩ <;> (rw [zu_a (by omega)]; first | assumption | exact a7 i y hi)
/-- a row is written -/
theorem tTab.r {N' : Nat → Nat → Int32} {l : List Int32} (h : tTab N T) (hk : k < T.length) (f : ∀ o i, pT o i = true → ¬ (o = 18 ∧ 7 * k ≤ i ∧ i < 7 * k + 7) → N' o i = N o i) (hl : tRow N' 18 (7 * k) l) : tTab N' (T.set k (T[k].1, T[k].2.1, T[k].2.2.1, T[k].2.2.2.1, l, T[k].2.2.2.2.2)) := by
  obtain ⟨a1, a2, a3, a4, -, a8⟩ := h.at hk
  exact h.up hk (fun o i e g => f o i e (by omega)) ⟨(f 14 k rfl (by omega)).trans a1, (f 15 k rfl (by omega)).trans a2, (f 16 k rfl (by omega)).trans a3, (f 17 k rfl (by omega)).trans a4, hl, (f 19 k rfl (by omega)).trans a8⟩
end TT
/-- a version's field: path, sort, bounds -/
abbrev tFd : Type := Int32 × Int32 × Int32 × Int32
def tVer (N : Nat → Nat → Int32) (v : Nat) (V : List tFd) : Prop := N 1 v = nI V.length ∧ V.length ≤ 24 ∧ ∀ (k : Nat) (f : tFd), V[k]? = some f → N 2 (24 * v + k) = f.1 ∧ N 3 (24 * v + k) = f.2.1 ∧ N 4 (24 * v + k) = f.2.2.1 ∧ N 5 (24 * v + k) = f.2.2.2
def pV (o i : Nat) : Bool := 1 ≤ o && o ≤ 5
theorem tVer.fr {P : Nat → Nat → Bool} {N N' : Nat → Nat → Int32} {v : Nat} {V : List tFd} (h : tVer N v V) (f : tFr P N N') (hp : ∀ o i, pV o i = true → P o i = false) : tVer N' v V := by
  have g : ∀ o i, pV o i = true → N' o i = N o i := fun o i e => f o i (hp o i e)
  refine ⟨(g 1 v rfl).trans h.1, h.2.1, fun k e hk => ?_⟩
  obtain ⟨a1, a2, a3, a4⟩ := h.2.2 k e hk
  exact ⟨(g 2 _ rfl).trans a1, (g 3 _ rfl).trans a2, (g 4 _ rfl).trans a3, (g 5 _ rfl).trans a4⟩
def ttk1 (m : Int32) (x : List tE × List tQ) (f : tFd) : List tE × List tQ := (x.1 ++ [tnew m x.2 f.1 f.2.1 f.2.2.1 f.2.2.2], tnewL m x.2 f.2.1 f.2.2.1 f.2.2.2)
def ttk (m : Int32) (L : List tQ) (V : List tFd) : List tE × List tQ := V.foldl (ttk1 m) ([], L)
theorem tkn_len (L : List tQ) (x : tQ) : (tkn L x).length ≤ L.length + 1 := by
  unfold tkn
  split <;> simp
theorem tnewL_len (m : Int32) (L : List tQ) (s a b : Int32) : (tnewL m L s a b).length ≤ L.length + 1 := by
  unfold tnewL
  split
  · exact tkn_len _ _
  · omega
theorem ttk_len (m : Int32) : ∀ (V : List tFd) (x : List tE × List tQ), (V.foldl (ttk1 m) x).1.length = x.1.length + V.length ∧ (V.foldl (ttk1 m) x).2.length ≤ x.2.length + V.length := by
  intro V
  induction V with
  | nil => intro x; simp
  | cons f V ih =>
    intro x
    have h1 := ih (ttk1 m x f)
    have h2 := tnewL_len m x.2 f.2.1 f.2.2.1 f.2.2.2
    simp only [List.foldl_cons, List.length_cons]
    constructor
    · rw [h1.1]
      simp [ttk1]
      omega
    · refine Nat.le_trans h1.2 ?_
      show (tnewL m x.2 f.2.1 f.2.2.1 f.2.2.2).length + V.length ≤ _
      omega
/-- a field that moves from f to t -/
def tmvp (f t p : Int32) : Int32 := if tcut p (tdep f) = f then (if tdep t = 4 then t else t ||| ((if tdep f = 4 then 0 else p >>> ((7 * tdep f) &&& 31)) <<< ((7 * tdep t) &&& 31))) else p
def tmv (f t : Int32) (e : tE) : tE := (tmvp f t (eP e), e.2)
theorem tmv_set (f t : Int32) (T : List tE) {k : Nat} (hk : k < T.length) (z : tE) (hz : z = tmv f t T[k]) : ((T.take k).map (tmv f t) ++ T.drop k).set k z = (T.take (k + 1)).map (tmv f t) ++ T.drop (k + 1) := by
  rw [List.set_append_right _ _ (by simp; omega), List.drop_eq_getElem_cons hk]
  have : k - ((T.take k).map (tmv f t)).length = 0 := by simp; omega
  rw [this, List.set_cons_zero, List.take_succ_eq_append_getElem hk, List.map_append, hz]
  simp
theorem tmv_get (f t : Int32) (T : List tE) {k : Nat} (hk : k < T.length) (hk' : k < ((T.take k).map (tmv f t) ++ T.drop k).length) : ((T.take k).map (tmv f t) ++ T.drop k)[k] = T[k] := by
  rw [List.getElem_append_right (by simp; omega)]
  simp
  congr 1
  omega
section MD4
variable {G : zG} {q : Nat} {h : zH} {N : Nat → Nat → Int32} {L : List tQ} {T : List tE}
def trec (T : List tE) (p : Int32) : Bool := decide (p = 0) || (match tget T p with
  | some e => decide (eS e = 2)
  | none => false)
set_option maxRecDepth 4000 in
theorem k_MD_isRecord (hG : zOK G) (hT : twOK q h) (hN : tTab N T) (p : Int32) : zJ G 1 m_MD_isRecord 0 [some (zA q), some (zI p), none] [] (twp q h N) (fun o h' => o = zR (zI (tb (trec T p))) ∧ h' = twp q h N) := by
  have hl := hN.l
  rcases tfnd_cases T p with ⟨f1, f2, -⟩ | ⟨k, hk, f1, f2, -⟩
  · refine zj_aload_n hG d_MD_isRecord_0 rfl rfl ?_
    refine zj_iload_n hG d_MD_isRecord_1 rfl rfl ?_
    refine zj_callR (y' := m_MD_find) hG (zcP (as := [_]) hG d_MD_isRecord_2 c_MD_find (z_w7 47 rfl) (z_w7 49 rfl) (z_w7 48 rfl) (z_w7 8 rfl) rfl ⟨by decide, by decide⟩ hT.1 (by decide) (by decide) (show _ = some 1 from by decide +kernel) rfl) c_MD_find rfl (by omega) rfl (z_le rfl) (z_le rfl) (k_MD_find hG hT hN _) ?_
    rw [f1]
    refine zj_istore_n hG d_MD_isRecord_5 rfl (by decide) rfl rfl ?_
    refine zj_iload_n hG d_MD_isRecord_6 rfl rfl ?_
    refine zj_if_eq (tgt := 24) hG d_MD_isRecord_7 (by decide) (fun c7 => ?_) (fun c7 => ?_)
    · refine zj_iconst (v := 1) hG d_MD_isRecord_24 rfl ?_
      refine zj_goto (tgt := 29) hG d_MD_isRecord_25 (by decide) ?_
      exact zj_iret hG d_MD_isRecord_29 rfl (by first | rfl | (split <;> rfl)) ⟨by simp [trec, tb, *], rfl⟩
    · refine zj_iload_n hG d_MD_isRecord_10 rfl rfl ?_
      refine zj_if_lt (tgt := 28) hG d_MD_isRecord_11 (by decide) (fun c11 => ?_) (fun c11 => ?_)
      · refine zj_iconst (v := 0) hG d_MD_isRecord_28 rfl ?_
        exact zj_iret hG d_MD_isRecord_29 rfl (by first | rfl | (split <;> rfl)) ⟨by simp [trec, tb, *], rfl⟩
      · exact absurd (by decide) c11
  · have hs := (hN.at hk).2.1
    refine zj_aload_n hG d_MD_isRecord_0 rfl rfl ?_
    refine zj_iload_n hG d_MD_isRecord_1 rfl rfl ?_
    refine zj_callR (y' := m_MD_find) hG (zcP (as := [_]) hG d_MD_isRecord_2 c_MD_find (z_w7 47 rfl) (z_w7 49 rfl) (z_w7 48 rfl) (z_w7 8 rfl) rfl ⟨by decide, by decide⟩ hT.1 (by decide) (by decide) (show _ = some 1 from by decide +kernel) rfl) c_MD_find rfl (by omega) rfl (z_le rfl) (z_le rfl) (k_MD_find hG hT hN _) ?_
    rw [f1]
    refine zj_istore_n hG d_MD_isRecord_5 rfl (by decide) rfl rfl ?_
    refine zj_iload_n hG d_MD_isRecord_6 rfl rfl ?_
    refine zj_if_eq (tgt := 24) hG d_MD_isRecord_7 (by decide) (fun c7 => ?_) (fun c7 => ?_)
    · refine zj_iconst (v := 1) hG d_MD_isRecord_24 rfl ?_
      refine zj_goto (tgt := 29) hG d_MD_isRecord_25 (by decide) ?_
      exact zj_iret hG d_MD_isRecord_29 rfl rfl ⟨by simp [trec, tb, c7], rfl⟩
    refine zj_iload_n hG d_MD_isRecord_10 rfl rfl ?_
    refine zj_if_lt (tgt := 28) hG d_MD_isRecord_11 (by decide) (fun c11 => ?_) (fun c11 => ?_)
    · exact absurd c11 (nI_pos (by omega))
    refine zj_aload_n hG d_MD_isRecord_14 rfl rfl ?_
    refine t_getA (o := 15) hG hT d_MD_isRecord_15 f_MD_56 rfl rfl ?_
    refine zj_iload_n hG d_MD_isRecord_18 rfl rfl ?_
    refine t_ald (k) hG hT d_MD_isRecord_19 (by first | decide | omega) (by first | decide | omega) rfl (by show _ < 26; omega) ?_
    refine zj_iconst (v := 2) hG d_MD_isRecord_20 rfl ?_
    rw [hs]
    refine zj_icmp_ne (tgt := 28) hG d_MD_isRecord_21 (by decide) (fun c21 => ?_) (fun c21 => ?_)
    · refine zj_iconst (v := 0) hG d_MD_isRecord_28 rfl ?_
      exact zj_iret hG d_MD_isRecord_29 rfl rfl ⟨by simp [trec, tb, c7, f2, c21], rfl⟩
    · refine zj_iconst (v := 1) hG d_MD_isRecord_24 rfl ?_
      refine zj_goto (tgt := 29) hG d_MD_isRecord_25 (by decide) ?_
      exact zj_iret hG d_MD_isRecord_29 rfl rfl ⟨by simp [trec, tb, c7, f2, c21], rfl⟩
set_option maxRecDepth 4000 in
theorem k_MD_takeL (hG : zOK G) (hT : twOK q h) {v : Nat} {V : List tFd} (hv : v < 8) (hV : tVer N v V) (hl : L.length + V.length < 1024) : ∀ (n k : Nat) (M : Nat → Nat → Int32), k + n = V.length → tTab M (ttk (N 0 27) L (V.take k)).1 → tSto M (ttk (N 0 27) L (V.take k)).2 → tFr pTS N M →
    zJ G 3 m_MD_take 7 [some (zA q), some (zI (nI v)), some (zI (nI k))] [] (twp q h M) (fun o h' => ∃ N', o = zR0 ∧ h' = twp q h N' ∧ (tTab N' (ttk (N 0 27) L V).1 ∧ tSto N' (ttk (N 0 27) L V).2 ∧ tFr pTS N N')) := by
  intro n
  induction n with
  | zero =>
    intro k M hk h1 h2 h3
    have hV' : tVer M v V := hV.fr h3 (by intro o i e; simp [pV] at e; simp [pTS, pT, pS]; omega)
    have hV2 := hV.2.1
    rw [List.take_of_length_le (by omega)] at h1 h2
    refine zj_iload_n hG d_MD_take_7 rfl rfl ?_
    refine zj_aload_n hG d_MD_take_8 rfl rfl ?_
    refine t_getA (o := 1) hG hT d_MD_take_9 f_MD_13 rfl rfl ?_
    refine zj_iload_n hG d_MD_take_12 rfl rfl ?_
    refine t_ald (v) hG hT d_MD_take_13 (by first | decide | omega) (by first | decide | omega) rfl hv ?_
    rw [hV'.1]
    refine zj_icmp_ge (tgt := 72) hG d_MD_take_14 (by decide) (fun c14 => ?_) (fun c14 => ?_)
    · exact zj_vret hG d_MD_take_72 rfl ⟨M, rfl, rfl, h1, h2, h3⟩
    · exact absurd (nI_le (by omega) (by omega)) c14
  | succ n ih =>
    intro k M hk h1 h2 h3
    have hV' : tVer M v V := hV.fr h3 (by intro o i e; simp [pV] at e; simp [pTS, pT, pS]; omega)
    have hV2 := hV.2.1
    have hkl : k < V.length := by omega
    obtain ⟨a1, a2, a3, a4⟩ := hV'.2.2 k _ (List.getElem?_eq_getElem hkl)
    have hm : M 0 27 = N 0 27 := h3 0 27 rfl
    have hlen := ttk_len (N 0 27) (V.take k) ([], L)
    have hl1 : (ttk (N 0 27) L (V.take k)).1.length ≤ 24 := by
      have := hlen.1
      simp at this
      unfold ttk
      omega
    have hl2 : (ttk (N 0 27) L (V.take k)).2.length < 1024 := by
      have := hlen.2
      simp at this
      unfold ttk
      omega
    refine zj_iload_n hG d_MD_take_7 rfl rfl ?_
    refine zj_aload_n hG d_MD_take_8 rfl rfl ?_
    refine t_getA (o := 1) hG hT d_MD_take_9 f_MD_13 rfl rfl ?_
    refine zj_iload_n hG d_MD_take_12 rfl rfl ?_
    refine t_ald (v) hG hT d_MD_take_13 (by first | decide | omega) (by first | decide | omega) rfl hv ?_
    rw [hV'.1]
    refine zj_icmp_ge (tgt := 72) hG d_MD_take_14 (by decide) (fun c14 => ?_) (fun c14 => ?_)
    · exact absurd c14 (nI_ge hkl (by omega))
    refine zj_aload_n hG d_MD_take_17 rfl rfl ?_
    refine zj_aload_n hG d_MD_take_18 rfl rfl ?_
    refine t_getA (o := 2) hG hT d_MD_take_19 f_MD_17 rfl rfl ?_
    refine zj_bipush (v := 24) hG d_MD_take_22 rfl ?_
    refine zj_iload_n hG d_MD_take_24 rfl rfl ?_
    refine zj_imul hG d_MD_take_25 ?_
    refine zj_iload_n hG d_MD_take_26 rfl rfl ?_
    refine zj_iadd hG d_MD_take_27 ?_
    refine t_ald (24 * v + k) hG hT d_MD_take_28 (by first | decide | omega) (by first | decide | omega) (by rw [nI_24, nI_add]) (by show _ < 192; omega) ?_
    refine zj_aload_n hG d_MD_take_29 rfl rfl ?_
    refine t_getA (o := 3) hG hT d_MD_take_30 f_MD_20 rfl rfl ?_
    refine zj_bipush (v := 24) hG d_MD_take_33 rfl ?_
    refine zj_iload_n hG d_MD_take_35 rfl rfl ?_
    refine zj_imul hG d_MD_take_36 ?_
    refine zj_iload_n hG d_MD_take_37 rfl rfl ?_
    refine zj_iadd hG d_MD_take_38 ?_
    refine t_ald (24 * v + k) hG hT d_MD_take_39 (by first | decide | omega) (by first | decide | omega) (by rw [nI_24, nI_add]) (by show _ < 192; omega) ?_
    refine zj_aload_n hG d_MD_take_40 rfl rfl ?_
    refine t_getA (o := 4) hG hT d_MD_take_41 f_MD_23 rfl rfl ?_
    refine zj_bipush (v := 24) hG d_MD_take_44 rfl ?_
    refine zj_iload_n hG d_MD_take_46 rfl rfl ?_
    refine zj_imul hG d_MD_take_47 ?_
    refine zj_iload_n hG d_MD_take_48 rfl rfl ?_
    refine zj_iadd hG d_MD_take_49 ?_
    refine t_ald (24 * v + k) hG hT d_MD_take_50 (by first | decide | omega) (by first | decide | omega) (by rw [nI_24, nI_add]) (by show _ < 192; omega) ?_
    refine zj_aload_n hG d_MD_take_51 rfl rfl ?_
    refine t_getA (o := 5) hG hT d_MD_take_52 f_MD_26 rfl rfl ?_
    refine zj_bipush (v := 24) hG d_MD_take_55 rfl ?_
    refine zj_iload_n hG d_MD_take_57 rfl rfl ?_
    refine zj_imul hG d_MD_take_58 ?_
    refine zj_iload_n hG d_MD_take_59 rfl rfl ?_
    refine zj_iadd hG d_MD_take_60 ?_
    refine t_ald (24 * v + k) hG hT d_MD_take_61 (by first | decide | omega) (by first | decide | omega) (by rw [nI_24, nI_add]) (by show _ < 192; omega) ?_
    rw [a1, a2, a3, a4]
    refine zj_callT (y' := m_MD_come) hG (zcP (as := [_, _, _, _]) hG d_MD_take_62 c_MD_come (z_w7 18 rfl) (z_w7 20 rfl) (z_w7 19 rfl) (z_w7 8 rfl) rfl ⟨by decide, by decide⟩ hT.1 (by decide) (by decide) (show _ = some 4 from by decide +kernel) rfl) c_MD_come rfl (by omega) rfl (z_le rfl) (z_le rfl) (k_MD_come hG hT h1 h2 hl1 hl2 _ _ _ _) (fun v62 N62 e62 => ?_)
    obtain ⟨r1, r2, r3, r4⟩ := e62
    refine zj_pop hG d_MD_take_65 (by first | exact zc_A _ | rfl) ?_
    refine zj_iinc hG d_MD_take_66 rfl (nI_1 k) (by decide) rfl rfl ?_
    refine zj_goto (tgt := 7) hG d_MD_take_69 (by decide) ?_
    have hs : ttk (N 0 27) L (V.take (k + 1)) = ttk1 (N 0 27) (ttk (N 0 27) L (V.take k)) V[k] := by
      rw [ttk, List.take_succ_eq_append_getElem hkl, List.foldl_append]
      rfl
    refine ih (k + 1) N62 (by omega) ?_ ?_ (h3.trans r4)
    · rw [hs]
      rw [hm] at r2
      exact r2
    · rw [hs]
      rw [hm] at r3
      exact r3
set_option maxRecDepth 4000 in
theorem k_MD_take (hG : zOK G) (hT : twOK q h) {v : Nat} {V : List tFd} (hv : v < 8) (hV : tVer N v V) (hS : tSto N L) (hl : L.length + V.length < 1024) :
    zJ G 3 m_MD_take 0 [some (zA q), some (zI (nI v)), none] [] (twp q h N) (fun o h' => ∃ N', o = zR0 ∧ h' = twp q h N' ∧ (tTab N' (ttk (N 0 27) L V).1 ∧ tSto N' (ttk (N 0 27) L V).2 ∧ tFr pTS N N')) := by
  refine zj_aload_n hG d_MD_take_0 rfl rfl ?_
  refine zj_iconst (v := 0) hG d_MD_take_1 rfl ?_
  refine t_putI hG hT d_MD_take_2 f_MD_108 rfl rfl ?_
  refine zj_iconst (v := 0) hG d_MD_take_5 rfl ?_
  refine zj_istore_n hG d_MD_take_6 rfl (by decide) rfl rfl ?_
  have f : tFr pT N (zu N 0 18 0) := tFr.put tFr.rfl' rfl
  exact k_MD_takeL hG hT hv hV hl V.length 0 _ (by omega) ⟨zu_s, by simp [ttk], fun k e hk => by simp [ttk] at hk⟩ (hS.fr f (by intro o i e; simp [pS] at e; simp [pT]; omega)) (f.mono (by intro o i e; simp [pTS] at e; exact e.1))
set_option maxRecDepth 4000 in
theorem k_MD_moveL (hG : zOK G) (hT : twOK q h) (f t : Int32) (hl : T.length ≤ 25) : ∀ (n k : Nat) (M : Nat → Nat → Int32) (w : Option zV), k + n = T.length → tTab M ((T.take k).map (tmv f t) ++ T.drop k) → tFr pT N M →
    zJ G 2 m_MD_move 14 [some (zA q), some (zI f), some (zI t), some (zI (tdep f)), some (zI (tdep t)), some (zI (nI k)), w] [] (twp q h M) (fun o h' => ∃ N', o = zR0 ∧ h' = twp q h N' ∧ (tTab N' (T.map (tmv f t)) ∧ tFr pT N N')) := by
  intro n
  induction n with
  | zero =>
    intro k M w hk h1 h2
    have hF := h1.1
    rw [show ((T.take k).map (tmv f t) ++ T.drop k).length = T.length by simp; omega] at hF
    rw [List.take_of_length_le (by omega), List.drop_eq_nil_of_le (by omega), List.append_nil] at h1
    refine zj_iload hG d_MD_move_14 rfl ?_
    refine zj_aload_n hG d_MD_move_16 rfl rfl ?_
    refine t_getI hG hT d_MD_move_17 f_MD_108 rfl ?_
    rw [hF]
    refine zj_icmp_ge (tgt := 94) hG d_MD_move_20 (by decide) (fun c20 => ?_) (fun c20 => ?_)
    · exact zj_vret hG d_MD_move_94 rfl ⟨M, rfl, rfl, h1, h2⟩
    · exact absurd (nI_le (by omega) (by omega)) c20
  | succ n ih =>
    intro k M w hk h1 h2
    have hkl : k < T.length := by omega
    have hlen : ((T.take k).map (tmv f t) ++ T.drop k).length = T.length := by simp; omega
    have hF := h1.1
    rw [hlen] at hF
    have hk' : k < ((T.take k).map (tmv f t) ++ T.drop k).length := by omega
    have hp := (h1.at hk').1
    have hg := tmv_get f t T hkl hk'
    rw [hg] at hp
    have fin : ∀ (w : Option zV) (M2 : Nat → Nat → Int32), tTab M2 (((T.take k).map (tmv f t) ++ T.drop k).set k (tmv f t T[k])) → tFr pT N M2 → zJ G 2 m_MD_move 88 [some (zA q), some (zI f), some (zI t), some (zI (tdep f)), some (zI (tdep t)), some (zI (nI k)), w] [] (twp q h M2) (fun o h' => ∃ N', o = zR0 ∧ h' = twp q h N' ∧ (tTab N' (T.map (tmv f t)) ∧ tFr pT N N')) := by
      intro w M2 g1 g2
      refine zj_iinc hG d_MD_move_88 rfl (nI_1 k) (by decide) rfl rfl ?_
      refine zj_goto (tgt := 14) hG d_MD_move_91 (by decide) ?_
      refine ih (k + 1) M2 w (by omega) ?_ g2
      rw [← tmv_set f t T hkl _ rfl]
      exact g1
    have fin2 : ∀ (w : zV) (x : Int32), x = tmvp f t (eP T[k]) → zJ G 2 m_MD_move 87 [some (zA q), some (zI f), some (zI t), some (zI (tdep f)), some (zI (tdep t)), some (zI (nI k)), some w] [zI x, zI (nI k), zA (q + 14)] (twp q h M) (fun o h' => ∃ N', o = zR0 ∧ h' = twp q h N' ∧ (tTab N' (T.map (tmv f t)) ∧ tFr pT N N')) := by
      intro w x hx
      refine t_ast (k) hG hT d_MD_move_87 (by first | decide | omega) (by first | decide | omega) rfl (by show _ < 26; omega) ?_
      refine fin _ _ ?_ (tFr.put h2 rfl)
      have := h1.p hk' x
      rw [hg, hx] at this
      rw [hx]
      exact this
    refine zj_iload hG d_MD_move_14 rfl ?_
    refine zj_aload_n hG d_MD_move_16 rfl rfl ?_
    refine t_getI hG hT d_MD_move_17 f_MD_108 rfl ?_
    rw [hF]
    refine zj_icmp_ge (tgt := 94) hG d_MD_move_20 (by decide) (fun c20 => ?_) (fun c20 => ?_)
    · exact absurd c20 (nI_ge hkl (by omega))
    refine zj_aload_n hG d_MD_move_23 rfl rfl ?_
    refine t_getA (o := 14) hG hT d_MD_move_24 f_MD_53 rfl rfl ?_
    refine zj_iload hG d_MD_move_27 rfl ?_
    refine t_ald (k) hG hT d_MD_move_29 (by first | decide | omega) (by first | decide | omega) rfl (by show _ < 26; omega) ?_
    refine zj_iload_n hG d_MD_move_30 rfl rfl ?_
    refine zj_iload_n hG d_MD_move_31 rfl rfl ?_
    rw [hp]
    refine zj_callR (y' := m_MD_isIn) hG (zcS (as := [_, _, _]) hG d_MD_move_32 c_MD_isIn (z_w7 96 rfl) (z_w7 97 rfl) (z_w1 11 rfl) ⟨by decide, by decide⟩ (show _ = some 3 from by decide +kernel) rfl) c_MD_isIn rfl (by omega) rfl (z_le rfl) (z_le rfl) (k_MD_isIn hG _ _ _ _) ?_
    refine zj_if_eq (tgt := 88) hG d_MD_move_35 (by decide) (fun c35 => ?_) (fun c35 => ?_)
    · have hne : ¬ tcut (eP T[k]) (tdep f) = f := by
        intro e
        simp [tb, e] at c35
      refine fin _ _ ?_ h2
      have e : tmv f t T[k] = T[k] := by simp [tmv, tmvp, hne]
      rw [e, ← hg, List.set_getElem_self]
      exact h1
    have hin : tcut (eP T[k]) (tdep f) = f := by
      by_cases e : tcut (eP T[k]) (tdep f) = f
      · exact e
      · exact absurd (by simp [tb, e]) c35
    refine zj_iload_n hG d_MD_move_38 rfl rfl ?_
    refine zj_iconst (v := 4) hG d_MD_move_39 rfl ?_
    refine zj_icmp_ne (tgt := 47) hG d_MD_move_40 (by decide) (fun c40 => ?_) (fun c40 => ?_)
    · refine zj_aload_n hG d_MD_move_47 rfl rfl ?_
      refine t_getA (o := 14) hG hT d_MD_move_48 f_MD_53 rfl rfl ?_
      refine zj_iload hG d_MD_move_51 rfl ?_
      refine t_ald (k) hG hT d_MD_move_53 (by first | decide | omega) (by first | decide | omega) rfl (by show _ < 26; omega) ?_
      refine zj_bipush (v := 7) hG d_MD_move_54 rfl ?_
      refine zj_iload_n hG d_MD_move_56 rfl rfl ?_
      refine zj_imul hG d_MD_move_57 ?_
      refine zj_ishr hG d_MD_move_58 ?_
      rw [hp]
      refine zj_istore hG d_MD_move_59 (by decide) rfl rfl ?_
      refine zj_aload_n hG d_MD_move_61 rfl rfl ?_
      refine t_getA (o := 14) hG hT d_MD_move_62 f_MD_53 rfl rfl ?_
      refine zj_iload hG d_MD_move_65 rfl ?_
      refine zj_iload hG d_MD_move_67 rfl ?_
      refine zj_iconst (v := 4) hG d_MD_move_69 rfl ?_
      refine zj_icmp_ne (tgt := 77) hG d_MD_move_70 (by decide) (fun c70 => ?_) (fun c70 => ?_)
      · refine zj_iload_n hG d_MD_move_77 rfl rfl ?_
        refine zj_iload hG d_MD_move_78 rfl ?_
        refine zj_bipush (v := 7) hG d_MD_move_80 rfl ?_
        refine zj_iload hG d_MD_move_82 rfl ?_
        refine zj_imul hG d_MD_move_84 ?_
        refine zj_ishl hG d_MD_move_85 ?_
        refine zj_ior hG d_MD_move_86 ?_
        exact fin2 _ _ (by rw [tmvp, if_pos hin, if_neg c70, if_neg c40])
      · refine zj_iload_n hG d_MD_move_73 rfl rfl ?_
        refine zj_goto (tgt := 87) hG d_MD_move_74 (by decide) ?_
        exact fin2 _ _ (by rw [tmvp, if_pos hin, if_pos c70])
    · refine zj_iconst (v := 0) hG d_MD_move_43 rfl ?_
      refine zj_goto (tgt := 59) hG d_MD_move_44 (by decide) ?_
      refine zj_istore hG d_MD_move_59 (by decide) rfl rfl ?_
      refine zj_aload_n hG d_MD_move_61 rfl rfl ?_
      refine t_getA (o := 14) hG hT d_MD_move_62 f_MD_53 rfl rfl ?_
      refine zj_iload hG d_MD_move_65 rfl ?_
      refine zj_iload hG d_MD_move_67 rfl ?_
      refine zj_iconst (v := 4) hG d_MD_move_69 rfl ?_
      refine zj_icmp_ne (tgt := 77) hG d_MD_move_70 (by decide) (fun c70 => ?_) (fun c70 => ?_)
      · refine zj_iload_n hG d_MD_move_77 rfl rfl ?_
        refine zj_iload hG d_MD_move_78 rfl ?_
        refine zj_bipush (v := 7) hG d_MD_move_80 rfl ?_
        refine zj_iload hG d_MD_move_82 rfl ?_
        refine zj_imul hG d_MD_move_84 ?_
        refine zj_ishl hG d_MD_move_85 ?_
        refine zj_ior hG d_MD_move_86 ?_
        exact fin2 _ _ (by rw [tmvp, if_pos hin, if_neg c70, if_pos c40])
      · refine zj_iload_n hG d_MD_move_73 rfl rfl ?_
        refine zj_goto (tgt := 87) hG d_MD_move_74 (by decide) ?_
        exact fin2 _ _ (by rw [tmvp, if_pos hin, if_pos c70])
theorem k_MD_move (hG : zOK G) (hT : twOK q h) (hN : tTab N T) (f t : Int32) :
    zJ G 2 m_MD_move 0 [some (zA q), some (zI f), some (zI t), none, none, none, none] [] (twp q h N) (fun o h' => ∃ N', o = zR0 ∧ h' = twp q h N' ∧ (tTab N' (T.map (tmv f t)) ∧ tFr pT N N')) := by
  refine zj_iload_n hG d_MD_move_0 rfl rfl ?_
  refine zj_callR (y' := m_MD_depth) hG (zcS (as := [_]) hG d_MD_move_1 c_MD_depth (z_w7 37 rfl) (z_w7 38 rfl) (z_w1 11 rfl) ⟨by decide, by decide⟩ (show _ = some 1 from by decide +kernel) rfl) c_MD_depth rfl (by omega) rfl (z_le rfl) (z_le rfl) (k_MD_depth hG _ _) ?_
  refine zj_istore_n hG d_MD_move_4 rfl (by decide) rfl rfl ?_
  refine zj_iload_n hG d_MD_move_5 rfl rfl ?_
  refine zj_callR (y' := m_MD_depth) hG (zcS (as := [_]) hG d_MD_move_6 c_MD_depth (z_w7 37 rfl) (z_w7 38 rfl) (z_w1 11 rfl) ⟨by decide, by decide⟩ (show _ = some 1 from by decide +kernel) rfl) c_MD_depth rfl (by omega) rfl (z_le rfl) (z_le rfl) (k_MD_depth hG _ _) ?_
  refine zj_istore hG d_MD_move_9 (by decide) rfl rfl ?_
  refine zj_iconst (v := 0) hG d_MD_move_11 rfl ?_
  refine zj_istore hG d_MD_move_12 (by decide) rfl rfl ?_
  exact k_MD_moveL hG hT f t hN.l T.length 0 N none (by omega) (by simpa using hN) tFr.rfl'
end MD4
