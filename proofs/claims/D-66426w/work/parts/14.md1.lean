/-! PART 14: the reference's small methods: paths, rows, the table -/
theorem i_lt_of {a b : Int32} (h : ¬ a ≤ b) : b < a := Int32.not_le.mp h
theorem i_le_of {a b : Int32} (h : ¬ a < b) : b ≤ a := Int32.not_lt.mp h
theorem z_le {a b : Nat} (h : Nat.ble a b = true) : a ≤ b := Nat.le_of_ble_eq_true h
theorem nI_7 (n : Nat) : (7 : Int32) * nI n = nI (7 * n) := pk_mul 7 n
/-- frames of the reference: what may change -/
def tFr (P : Nat → Nat → Bool) (N N' : Nat → Nat → Int32) : Prop := ∀ o i, P o i = false → N' o i = N o i
theorem tFr.rfl' {P : Nat → Nat → Bool} {N : Nat → Nat → Int32} : tFr P N N := fun _ _ _ => rfl
theorem tFr.trans {P : Nat → Nat → Bool} {N N' N2 : Nat → Nat → Int32} (a : tFr P N N') (b : tFr P N' N2) : tFr P N N2 := fun o i e => (b o i e).trans (a o i e)
theorem tFr.mono {P P2 : Nat → Nat → Bool} {N N' : Nat → Nat → Int32} (a : tFr P N N') (h : ∀ o i, P2 o i = false → P o i = false) : tFr P2 N N' := fun o i e => a o i (h o i e)
theorem tFr.put {P : Nat → Nat → Bool} {N N' : Nat → Nat → Int32} {o i : Nat} {x : Int32} (a : tFr P N N') (h : P o i = true) : tFr P N (zu N' o i x) := by
  intro o' i' e
  unfold zu
  split
  · rename_i g
    rw [g.1, g.2, h] at e
    cases e
  · exact a o' i' e
/-- the table's places; the store's; those of what is kept at work -/
def pT (o i : Nat) : Bool := (14 ≤ o && o ≤ 19) || (o == 0 && i == 18)
def pS (o i : Nat) : Bool := o == 22 || o == 23 || (o == 0 && i == 29)
def pW (o i : Nat) : Bool := o == 20 || o == 21 || o == 28 || o == 29 || (o == 0 && i == 28)
def pTS (o i : Nat) : Bool := pT o i || pS o i
def pA (o i : Nat) : Bool := pT o i || pS o i || pW o i
/-- a row of numbers -/
def tRow (N : Nat → Nat → Int32) (o b : Nat) (l : List Int32) : Prop := N o b = nI l.length ∧ l.length ≤ 6 ∧ ∀ i x, l[i]? = some x → N o (b + 1 + i) = x
/-- a field of the table: path, sort, bounds, row, term -/
abbrev tE : Type := Int32 × Int32 × Int32 × Int32 × List Int32 × Int32
abbrev eP (e : tE) : Int32 := e.1
abbrev eS (e : tE) : Int32 := e.2.1
abbrev eL (e : tE) : Int32 := e.2.2.1
abbrev eH (e : tE) : Int32 := e.2.2.2.1
abbrev eR (e : tE) : List Int32 := e.2.2.2.2.1
abbrev eT (e : tE) : Int32 := e.2.2.2.2.2
def tAt (N : Nat → Nat → Int32) (k : Nat) (e : tE) : Prop := N 14 k = eP e ∧ N 15 k = eS e ∧ N 16 k = eL e ∧ N 17 k = eH e ∧ tRow N 18 (7 * k) (eR e) ∧ N 19 k = eT e
def tTab (N : Nat → Nat → Int32) (T : List tE) : Prop := N 0 18 = nI T.length ∧ T.length ≤ 25 ∧ ∀ k e, T[k]? = some e → tAt N k e
theorem tTab.fr {P : Nat → Nat → Bool} {N N' : Nat → Nat → Int32} {T : List tE} (h : tTab N T) (f : tFr P N N') (hp : ∀ o i, pT o i = true → P o i = false) : tTab N' T := by
  have g : ∀ o i, pT o i = true → N' o i = N o i := fun o i e => f o i (hp o i e)
  refine ⟨(g 0 18 rfl).trans h.1, h.2.1, fun k e hk => ?_⟩
  obtain ⟨a1, a2, a3, a4, ⟨a5, a6, a7⟩, a8⟩ := h.2.2 k e hk
  exact ⟨(g 14 k rfl).trans a1, (g 15 k rfl).trans a2, (g 16 k rfl).trans a3, (g 17 k rfl).trans a4, ⟨(g 18 _ rfl).trans a5, a6, fun i x hi => (g 18 _ rfl).trans (a7 i x hi)⟩, (g 19 k rfl).trans a8⟩
/-- where a path is -/
def tfnd (T : List tE) (p : Int32) : Int32 := match T.findIdx? (fun e => decide (eP e = p)) with
  | none => -1
  | some k => nI k
theorem tfnd_no {T : List tE} {p : Int32} (h : ∀ (k : Nat) (e : tE), T[k]? = some e → eP e ≠ p) : tfnd T p = -1 := by
  have : T.findIdx? (fun e => decide (eP e = p)) = none := by
    rw [List.findIdx?_eq_none_iff]
    intro e he
    obtain ⟨k, hk⟩ := List.getElem?_of_mem he
    simpa using h k e hk
  simp [tfnd, this]
theorem tfnd_at {T : List tE} {p : Int32} {k : Nat} {e : tE} (he : T[k]? = some e) (hp : eP e = p) (h : ∀ (j : Nat) (e' : tE), j < k → T[j]? = some e' → eP e' ≠ p) : tfnd T p = nI k := by
  have : T.findIdx? (fun e => decide (eP e = p)) = some k := by
    rw [List.findIdx?_eq_some_iff_getElem]
    have hk : k < T.length := (List.getElem?_eq_some_iff.mp he).1
    refine ⟨hk, ?_, ?_⟩
    · have := (List.getElem?_eq_some_iff.mp he).2
      simp [this, hp]
    · intro j hj
      have := h j (T[j]) hj (List.getElem?_eq_getElem (by omega))
      simpa using this
  simp [tfnd, this]
section MD1
variable {G : zG} {q : Nat} {h : zH} {N : Nat → Nat → Int32}
def tnear (a b : Int32) : Int32 := if a ≤ 0 then (if 0 ≤ b then 0 else b) else a
set_option maxRecDepth 4000 in
theorem k_MD_nearest (hG : zOK G) (a b : Int32) (h : zH) : zJ G 0 m_MD_nearest 0 [some (zI a), some (zI b)] [] h (fun o h' => o = zR (zI (tnear a b)) ∧ h' = h) := by
  refine zj_iload_n hG d_MD_nearest_0 rfl rfl ?_
  refine zj_if_le (tgt := 8) hG d_MD_nearest_1 (by decide) (fun c1 => ?_) (fun c1 => ?_)
  · refine zj_iload_n hG d_MD_nearest_8 rfl rfl ?_
    refine zj_if_ge (tgt := 16) hG d_MD_nearest_9 (by decide) (fun c9 => ?_) (fun c9 => ?_)
    · refine zj_iconst (v := 0) hG d_MD_nearest_16 rfl ?_
      exact zj_iret hG d_MD_nearest_17 rfl rfl ⟨by simp [tnear, *], rfl⟩
    · refine zj_iload_n hG d_MD_nearest_12 rfl rfl ?_
      refine zj_goto (tgt := 17) hG d_MD_nearest_13 (by decide) ?_
      exact zj_iret hG d_MD_nearest_17 rfl rfl ⟨by simp [tnear, *], rfl⟩
  · refine zj_iload_n hG d_MD_nearest_4 rfl rfl ?_
    refine zj_goto (tgt := 17) hG d_MD_nearest_5 (by decide) ?_
    exact zj_iret hG d_MD_nearest_17 rfl rfl ⟨by simp [tnear, *], rfl⟩
/-- the path cut to d names -/
def tcut (p d : Int32) : Int32 := if d < 4 then p &&& (((1 : Int32) <<< ((7 * d) &&& 31)) - 1) else p
set_option maxRecDepth 4000 in
theorem k_MD_cutTo (hG : zOK G) (p d : Int32) (h : zH) : zJ G 0 m_MD_cutTo 0 [some (zI p), some (zI d)] [] h (fun o h' => o = zR (zI (tcut p d)) ∧ h' = h) := by
  refine zj_iload_n hG d_MD_cutTo_0 rfl rfl ?_
  refine zj_iconst (v := 4) hG d_MD_cutTo_1 rfl ?_
  refine zj_icmp_lt (tgt := 9) hG d_MD_cutTo_2 (by decide) (fun c2 => ?_) (fun c2 => ?_)
  · refine zj_iload_n hG d_MD_cutTo_9 rfl rfl ?_
    refine zj_iconst (v := 1) hG d_MD_cutTo_10 rfl ?_
    refine zj_bipush (v := 7) hG d_MD_cutTo_11 rfl ?_
    refine zj_iload_n hG d_MD_cutTo_13 rfl rfl ?_
    refine zj_imul hG d_MD_cutTo_14 ?_
    refine zj_ishl hG d_MD_cutTo_15 ?_
    refine zj_iconst (v := 1) hG d_MD_cutTo_16 rfl ?_
    refine zj_isub hG d_MD_cutTo_17 ?_
    refine zj_iand hG d_MD_cutTo_18 ?_
    exact zj_iret hG d_MD_cutTo_19 rfl rfl ⟨by simp [tcut, *], rfl⟩
  · refine zj_iload_n hG d_MD_cutTo_5 rfl rfl ?_
    refine zj_goto (tgt := 19) hG d_MD_cutTo_6 (by decide) ?_
    exact zj_iret hG d_MD_cutTo_19 rfl rfl ⟨by simp [tcut, *], rfl⟩
def tlast (p d : Int32) : Int32 := (p >>> ((7 * (d - 1)) &&& 31)) &&& 127
theorem k_MD_lastName (hG : zOK G) (p d : Int32) (h : zH) : zJ G 0 m_MD_lastName 0 [some (zI p), some (zI d)] [] h (fun o h' => o = zR (zI (tlast p d)) ∧ h' = h) := by
  refine zj_iload_n hG d_MD_lastName_0 rfl rfl ?_
  refine zj_bipush (v := 7) hG d_MD_lastName_1 rfl ?_
  refine zj_iload_n hG d_MD_lastName_3 rfl rfl ?_
  refine zj_iconst (v := 1) hG d_MD_lastName_4 rfl ?_
  refine zj_isub hG d_MD_lastName_5 ?_
  refine zj_imul hG d_MD_lastName_6 ?_
  refine zj_ishr hG d_MD_lastName_7 ?_
  refine zj_bipush (v := 127) hG d_MD_lastName_8 rfl ?_
  refine zj_iand hG d_MD_lastName_10 ?_
  exact zj_iret hG d_MD_lastName_11 rfl rfl ⟨rfl, rfl⟩
def tins (p d n : Int32) : Int32 := p ||| (n <<< ((7 * d) &&& 31))
theorem k_MD_inside (hG : zOK G) (p d n : Int32) (h : zH) : zJ G 0 m_MD_inside 0 [some (zI p), some (zI d), some (zI n)] [] h (fun o h' => o = zR (zI (tins p d n)) ∧ h' = h) := by
  refine zj_iload_n hG d_MD_inside_0 rfl rfl ?_
  refine zj_iload_n hG d_MD_inside_1 rfl rfl ?_
  refine zj_bipush (v := 7) hG d_MD_inside_2 rfl ?_
  refine zj_iload_n hG d_MD_inside_4 rfl rfl ?_
  refine zj_imul hG d_MD_inside_5 ?_
  refine zj_ishl hG d_MD_inside_6 ?_
  refine zj_ior hG d_MD_inside_7 ?_
  exact zj_iret hG d_MD_inside_8 rfl rfl ⟨rfl, rfl⟩
def tb (b : Bool) : Int32 := if b then 1 else 0
theorem tb_z (b : Bool) : tb b = 0 ∨ tb b = 1 := by cases b <;> simp [tb]
set_option maxRecDepth 4000 in
theorem k_MD_isIn (hG : zOK G) (p w d : Int32) (h : zH) : zJ G 1 m_MD_isIn 0 [some (zI p), some (zI w), some (zI d)] [] h (fun o h' => o = zR (zI (tb (decide (tcut p d = w)))) ∧ h' = h) := by
  refine zj_iload_n hG d_MD_isIn_0 rfl rfl ?_
  refine zj_iload_n hG d_MD_isIn_1 rfl rfl ?_
  refine zj_callR (y' := m_MD_cutTo) hG (zcS (as := [_, _]) hG d_MD_isIn_2 c_MD_cutTo (z_w7 40 rfl) (z_w7 41 rfl) (z_w1 11 rfl) ⟨by decide, by decide⟩ (show _ = some 2 from by decide +kernel) rfl) c_MD_cutTo rfl (by omega) rfl (z_le rfl) (z_le rfl) (k_MD_cutTo hG _ _ _) ?_
  refine zj_iload_n hG d_MD_isIn_5 rfl rfl ?_
  refine zj_icmp_ne (tgt := 13) hG d_MD_isIn_6 (by decide) (fun c6 => ?_) (fun c6 => ?_)
  · refine zj_iconst (v := 0) hG d_MD_isIn_13 rfl ?_
    exact zj_iret hG d_MD_isIn_14 rfl (by first | rfl | (split <;> rfl)) ⟨by simp [tb, *], rfl⟩
  · refine zj_iconst (v := 1) hG d_MD_isIn_9 rfl ?_
    refine zj_goto (tgt := 14) hG d_MD_isIn_10 (by decide) ?_
    exact zj_iret hG d_MD_isIn_14 rfl (by first | rfl | (split <;> rfl)) ⟨by simp [tb, *], rfl⟩
/-- how many names a path has; -1 when it is none -/
def tdp (p : Int32) : Nat → Int32 → Int32 → Int32
  | 0, _, _ => -1
  | n + 1, l, d => if l = 0 then d else if p < 0 ∨ l &&& 127 = 0 ∨ 100 < l &&& 127 ∨ d = 4 then -1 else tdp p n (l >>> ((7 : Int32) &&& 31)) (d + 1)
def tdep (p : Int32) : Int32 := tdp p 5 p 0
set_option maxRecDepth 4000 in
theorem k_MD_depthL (hG : zOK G) (p : Int32) (h : zH) : ∀ (n : Nat) (l d : Int32) (w : Option zV), d = nI (4 - n) → n ≤ 4 → zJ G 0 m_MD_depth 4 [some (zI p), some (zI d), some (zI l), w] [] h (fun o h' => o = zR (zI (tdp p (n + 1) l d)) ∧ h' = h) := by
  intro n
  induction n with
  | zero =>
    intro l d w hd hn
    have hd4 : d = 4 := hd
    refine zj_iload_n hG d_MD_depth_4 rfl rfl ?_
    refine zj_if_eq (tgt := 45) hG d_MD_depth_5 (by decide) (fun c5 => ?_) (fun c5 => ?_)
    · refine zj_iload_n hG d_MD_depth_45 rfl rfl ?_
      exact zj_iret hG d_MD_depth_46 rfl rfl ⟨by simp [tdp, *], rfl⟩
    · refine zj_iload_n hG d_MD_depth_8 rfl rfl ?_
      refine zj_bipush (v := 127) hG d_MD_depth_9 rfl ?_
      refine zj_iand hG d_MD_depth_11 ?_
      refine zj_istore_n hG d_MD_depth_12 rfl (by decide) rfl rfl ?_
      refine zj_iload_n hG d_MD_depth_13 rfl rfl ?_
      refine zj_if_lt (tgt := 32) hG d_MD_depth_14 (by decide) (fun c14 => ?_) (fun c14 => ?_)
      · refine zj_iconst (v := -1) hG d_MD_depth_32 rfl ?_
        exact zj_iret hG d_MD_depth_33 rfl rfl ⟨by simp [tdp, *], rfl⟩
      · refine zj_iload_n hG d_MD_depth_17 rfl rfl ?_
        refine zj_if_eq (tgt := 32) hG d_MD_depth_18 (by decide) (fun c18 => ?_) (fun c18 => ?_)
        · refine zj_iconst (v := -1) hG d_MD_depth_32 rfl ?_
          exact zj_iret hG d_MD_depth_33 rfl rfl ⟨by simp [tdp, *], rfl⟩
        · refine zj_iload_n hG d_MD_depth_21 rfl rfl ?_
          refine zj_bipush (v := 100) hG d_MD_depth_22 rfl ?_
          refine zj_icmp_gt (tgt := 32) hG d_MD_depth_24 (by decide) (fun c24 => ?_) (fun c24 => ?_)
          · refine zj_iconst (v := -1) hG d_MD_depth_32 rfl ?_
            exact zj_iret hG d_MD_depth_33 rfl rfl ⟨by simp [tdp, *], rfl⟩
          · refine zj_iload_n hG d_MD_depth_27 rfl rfl ?_
            refine zj_iconst (v := 4) hG d_MD_depth_28 rfl ?_
            refine zj_icmp_ne (tgt := 34) hG d_MD_depth_29 (by decide) (fun c29 => ?_) (fun c29 => ?_)
            · exact absurd hd4 c29
            · refine zj_iconst (v := -1) hG d_MD_depth_32 rfl ?_
              exact zj_iret hG d_MD_depth_33 rfl rfl ⟨by simp [tdp, *], rfl⟩
  | succ n ih =>
    intro l d w hd hn
    have hd4 : d ≠ 4 := by
      rw [hd]
      intro e
      have := (nI_eq (a := 4 - (n + 1)) (b := 4) (by omega) (by omega)).mp e
      omega
    have hd5 : d + 1 = nI (4 - n) := by
      rw [hd, nI_1]
      congr 1
      omega
    have ih' := ih (l >>> ((7 : Int32) &&& 31)) (d + 1)
    rw [tdp]
    refine zj_iload_n hG d_MD_depth_4 rfl rfl ?_
    refine zj_if_eq (tgt := 45) hG d_MD_depth_5 (by decide) (fun c5 => ?_) (fun c5 => ?_)
    · refine zj_iload_n hG d_MD_depth_45 rfl rfl ?_
      exact zj_iret hG d_MD_depth_46 rfl rfl ⟨by simp [c5], rfl⟩
    rw [if_neg c5]
    refine zj_iload_n hG d_MD_depth_8 rfl rfl ?_
    refine zj_bipush (v := 127) hG d_MD_depth_9 rfl ?_
    refine zj_iand hG d_MD_depth_11 ?_
    refine zj_istore_n hG d_MD_depth_12 rfl (by decide) rfl rfl ?_
    refine zj_iload_n hG d_MD_depth_13 rfl rfl ?_
    refine zj_if_lt (tgt := 32) hG d_MD_depth_14 (by decide) (fun c14 => ?_) (fun c14 => ?_)
    · refine zj_iconst (v := -1) hG d_MD_depth_32 rfl ?_
      exact zj_iret hG d_MD_depth_33 rfl rfl ⟨by simp [c14], rfl⟩
    refine zj_iload_n hG d_MD_depth_17 rfl rfl ?_
    refine zj_if_eq (tgt := 32) hG d_MD_depth_18 (by decide) (fun c18 => ?_) (fun c18 => ?_)
    · refine zj_iconst (v := -1) hG d_MD_depth_32 rfl ?_
      exact zj_iret hG d_MD_depth_33 rfl rfl ⟨by simp [c18], rfl⟩
    refine zj_iload_n hG d_MD_depth_21 rfl rfl ?_
    refine zj_bipush (v := 100) hG d_MD_depth_22 rfl ?_
    refine zj_icmp_gt (tgt := 32) hG d_MD_depth_24 (by decide) (fun c24 => ?_) (fun c24 => ?_)
    · refine zj_iconst (v := -1) hG d_MD_depth_32 rfl ?_
      exact zj_iret hG d_MD_depth_33 rfl rfl ⟨by simp [c24], rfl⟩
    refine zj_iload_n hG d_MD_depth_27 rfl rfl ?_
    refine zj_iconst (v := 4) hG d_MD_depth_28 rfl ?_
    refine zj_icmp_ne (tgt := 34) hG d_MD_depth_29 (by decide) (fun c29 => ?_) (fun c29 => ?_)
    · have e : ¬ (p < 0 ∨ l &&& 127 = 0 ∨ 100 < l &&& 127 ∨ d = 4) := by
        intro g
        rcases g with g | g | g | g
        · exact c14 g
        · exact c18 g
        · exact c24 g
        · exact hd4 g
      rw [if_neg e]
      refine zj_iload_n hG d_MD_depth_34 rfl rfl ?_
      refine zj_bipush (v := 7) hG d_MD_depth_35 rfl ?_
      refine zj_ishr hG d_MD_depth_37 ?_
      refine zj_istore_n hG d_MD_depth_38 rfl (by decide) rfl rfl ?_
      refine zj_iinc hG d_MD_depth_39 rfl rfl (by decide) rfl rfl ?_
      refine zj_goto (tgt := 4) hG d_MD_depth_42 (by decide) ?_
      exact ih' _ hd5 (by omega)
    · exact absurd (by simpa using c29) hd4
theorem k_MD_depth (hG : zOK G) (p : Int32) (h : zH) : zJ G 0 m_MD_depth 0 [some (zI p), none, none, none] [] h (fun o h' => o = zR (zI (tdep p)) ∧ h' = h) := by
  refine zj_iconst (v := 0) hG d_MD_depth_0 rfl ?_
  refine zj_istore_n hG d_MD_depth_1 rfl (by decide) rfl rfl ?_
  refine zj_iload_n hG d_MD_depth_2 rfl rfl ?_
  refine zj_istore_n hG d_MD_depth_3 rfl (by decide) rfl rfl ?_
  exact k_MD_depthL hG p h 4 p 0 none rfl (by omega)
/-- the order of paths, by names -/
def tbf : Nat → Nat → Nat → Bool
  | 0, m, r => decide (m % 128 < r % 128)
  | n + 1, m, r => if m % 128 = r % 128 ∧ m ≠ 0 then tbf n (m / 128) (r / 128) else decide (m % 128 < r % 128)
set_option maxRecDepth 4000 in
theorem k_MD_beforeL (hG : zOK G) (h : zH) (p r0 : Int32) : ∀ (n m r : Nat), m < 128 ^ n → m < 2 ^ 31 → r < 2 ^ 31 → zJ G 0 m_MD_before 4 [some (zI p), some (zI r0), some (zI (nI m)), some (zI (nI r))] [] h (fun o h' => o = zR (zI (tb (tbf n m r))) ∧ h' = h) := by
  intro n
  induction n with
  | zero =>
    intro m r hm h1 h2
    have hm0 : m = 0 := by simpa using hm
    subst hm0
    have e2 : nI r &&& 127 = nI (r % 128) := pk_andN (by omega) 7 rfl
    have e3 : nI 0 &&& 127 = nI 0 := rfl
    have f0 : nI (r % 128) ≤ nI 0 ↔ r % 128 ≤ 0 := nI_leI (by omega) (by omega)
    have f1 : nI 0 < nI (r % 128) ↔ 0 < r % 128 := nI_ltI (by omega) (by omega)
    have f2 : nI 0 = nI (r % 128) ↔ 0 = r % 128 := nI_eq (by omega) (by omega)
    refine zj_iload_n hG d_MD_before_4 rfl rfl ?_
    refine zj_bipush (v := 127) hG d_MD_before_5 rfl ?_
    refine zj_iand hG d_MD_before_7 ?_
    refine zj_iload_n hG d_MD_before_8 rfl rfl ?_
    refine zj_bipush (v := 127) hG d_MD_before_9 rfl ?_
    refine zj_iand hG d_MD_before_11 ?_
    refine zj_icmp_ne (tgt := 32) hG d_MD_before_12 (by decide) (fun c12 => ?_) (fun c12 => ?_)
    · refine zj_iload_n hG d_MD_before_32 rfl rfl ?_
      refine zj_bipush (v := 127) hG d_MD_before_33 rfl ?_
      refine zj_iand hG d_MD_before_35 ?_
      refine zj_iload_n hG d_MD_before_36 rfl rfl ?_
      refine zj_bipush (v := 127) hG d_MD_before_37 rfl ?_
      refine zj_iand hG d_MD_before_39 ?_
      refine zj_icmp_ge (tgt := 47) hG d_MD_before_40 (by decide) (fun c40 => ?_) (fun c40 => ?_)
      · refine zj_iconst (v := 0) hG d_MD_before_47 rfl ?_
        exact zj_iret hG d_MD_before_48 rfl (by first | rfl | (split <;> rfl)) ⟨by simp only [e2, e3, f0, f1, f2, Int32.not_le] at *; simp [tb, tbf]; try omega, rfl⟩
      · refine zj_iconst (v := 1) hG d_MD_before_43 rfl ?_
        refine zj_goto (tgt := 48) hG d_MD_before_44 (by decide) ?_
        exact zj_iret hG d_MD_before_48 rfl (by first | rfl | (split <;> rfl)) ⟨by simp only [e2, e3, f0, f1, f2, Int32.not_le] at *; simp [tb, tbf]; try omega, rfl⟩
    · refine zj_iload_n hG d_MD_before_15 rfl rfl ?_
      refine zj_if_eq (tgt := 32) hG d_MD_before_16 (by decide) (fun c16 => ?_) (fun c16 => ?_)
      · refine zj_iload_n hG d_MD_before_32 rfl rfl ?_
        refine zj_bipush (v := 127) hG d_MD_before_33 rfl ?_
        refine zj_iand hG d_MD_before_35 ?_
        refine zj_iload_n hG d_MD_before_36 rfl rfl ?_
        refine zj_bipush (v := 127) hG d_MD_before_37 rfl ?_
        refine zj_iand hG d_MD_before_39 ?_
        refine zj_icmp_ge (tgt := 47) hG d_MD_before_40 (by decide) (fun c40 => ?_) (fun c40 => ?_)
        · refine zj_iconst (v := 0) hG d_MD_before_47 rfl ?_
          exact zj_iret hG d_MD_before_48 rfl (by first | rfl | (split <;> rfl)) ⟨by simp only [e2, e3, f0, f1, f2, Int32.not_le] at *; simp [tb, tbf]; try omega, rfl⟩
        · refine zj_iconst (v := 1) hG d_MD_before_43 rfl ?_
          refine zj_goto (tgt := 48) hG d_MD_before_44 (by decide) ?_
          exact zj_iret hG d_MD_before_48 rfl (by first | rfl | (split <;> rfl)) ⟨by simp only [e2, e3, f0, f1, f2, Int32.not_le] at *; simp [tb, tbf]; try omega, rfl⟩
      · exact absurd rfl c16
  | succ n ih =>
    intro m r hm h1 h2
    have e1 : nI m &&& 127 = nI (m % 128) := pk_andN (by omega) 7 rfl
    have e2 : nI r &&& 127 = nI (r % 128) := pk_andN (by omega) 7 rfl
    have e3 : nI m >>> ((7 : Int32) &&& 31) = nI (m / 128) := pk_shrN (by omega) _ 7 rfl
    have e4 : nI r >>> ((7 : Int32) &&& 31) = nI (r / 128) := pk_shrN (by omega) _ 7 rfl
    have hm' : m / 128 < 128 ^ n := by
      rw [Nat.pow_succ] at hm
      omega
    have ih' := ih (m / 128) (r / 128) hm' (by omega) (by omega)
    have f0 : nI (r % 128) ≤ nI (m % 128) ↔ r % 128 ≤ m % 128 := nI_leI (by omega) (by omega)
    have fin : ∀ (Q : zO → zH → Prop), (Q (zR (zI (tb (decide (m % 128 < r % 128))))) h) → zJ G 0 m_MD_before 32 [some (zI p), some (zI r0), some (zI (nI m)), some (zI (nI r))] [] h Q := by
      intro Q hQ
      refine zj_iload_n hG d_MD_before_32 rfl rfl ?_
      refine zj_bipush (v := 127) hG d_MD_before_33 rfl ?_
      refine zj_iand hG d_MD_before_35 ?_
      refine zj_iload_n hG d_MD_before_36 rfl rfl ?_
      refine zj_bipush (v := 127) hG d_MD_before_37 rfl ?_
      refine zj_iand hG d_MD_before_39 ?_
      rw [e1, e2]
      refine zj_icmp_ge (tgt := 47) hG d_MD_before_40 (by decide) (fun c40 => ?_) (fun c40 => ?_)
      · rw [f0] at c40
        rw [show decide (m % 128 < r % 128) = false by simp; omega] at hQ
        refine zj_iconst (v := 0) hG d_MD_before_47 rfl ?_
        exact zj_iret hG d_MD_before_48 rfl rfl hQ
      · rw [f0] at c40
        rw [show decide (m % 128 < r % 128) = true by simp; omega] at hQ
        refine zj_iconst (v := 1) hG d_MD_before_43 rfl ?_
        refine zj_goto (tgt := 48) hG d_MD_before_44 (by decide) ?_
        exact zj_iret hG d_MD_before_48 rfl rfl hQ
    rw [tbf]
    refine zj_iload_n hG d_MD_before_4 rfl rfl ?_
    refine zj_bipush (v := 127) hG d_MD_before_5 rfl ?_
    refine zj_iand hG d_MD_before_7 ?_
    refine zj_iload_n hG d_MD_before_8 rfl rfl ?_
    refine zj_bipush (v := 127) hG d_MD_before_9 rfl ?_
    refine zj_iand hG d_MD_before_11 ?_
    rw [e1, e2]
    refine zj_icmp_ne (tgt := 32) hG d_MD_before_12 (by decide) (fun c12 => ?_) (fun c12 => ?_)
    · rw [if_neg (fun g => c12 (by rw [g.1]))]
      exact fin _ ⟨rfl, rfl⟩
    have c12' := (nI_eq (by omega) (by omega)).mp c12
    refine zj_iload_n hG d_MD_before_15 rfl rfl ?_
    refine zj_if_eq (tgt := 32) hG d_MD_before_16 (by decide) (fun c16 => ?_) (fun c16 => ?_)
    · have : m = 0 := (nI_eq (b := 0) (by omega) (by omega)).mp c16
      rw [if_neg (fun g => g.2 this)]
      exact fin _ ⟨rfl, rfl⟩
    · have : m ≠ 0 := fun g => c16 (by rw [g]; rfl)
      rw [if_pos ⟨c12', this⟩]
      refine zj_iload_n hG d_MD_before_19 rfl rfl ?_
      refine zj_bipush (v := 7) hG d_MD_before_20 rfl ?_
      refine zj_ishr hG d_MD_before_22 ?_
      refine zj_istore_n hG d_MD_before_23 rfl (by decide) rfl rfl ?_
      refine zj_iload_n hG d_MD_before_24 rfl rfl ?_
      refine zj_bipush (v := 7) hG d_MD_before_25 rfl ?_
      refine zj_ishr hG d_MD_before_27 ?_
      refine zj_istore_n hG d_MD_before_28 rfl (by decide) rfl rfl ?_
      refine zj_goto (tgt := 4) hG d_MD_before_29 (by decide) ?_
      rw [e3, e4]
      exact ih'
theorem k_MD_before (hG : zOK G) (h : zH) {m r : Nat} (h1 : m < 2 ^ 31) (h2 : r < 2 ^ 31) : zJ G 0 m_MD_before 0 [some (zI (nI m)), some (zI (nI r)), none, none] [] h (fun o h' => o = zR (zI (tb (tbf 5 m r))) ∧ h' = h) := by
  refine zj_iload_n hG d_MD_before_0 rfl rfl ?_
  refine zj_istore_n hG d_MD_before_1 rfl (by decide) rfl rfl ?_
  refine zj_iload_n hG d_MD_before_2 rfl rfl ?_
  refine zj_istore_n hG d_MD_before_3 rfl (by decide) rfl rfl ?_
  exact k_MD_beforeL hG h _ _ 5 m r (by omega) h1 h2
variable {T : List tE}
set_option maxRecDepth 4000 in
theorem k_MD_findL (hG : zOK G) (hT : twOK q h) (hN : tTab N T) (p : Int32) : ∀ (n k : Nat), k + n = T.length → (∀ (j : Nat) (e : tE), j < k → T[j]? = some e → eP e ≠ p) → zJ G 0 m_MD_find 2 [some (zA q), some (zI p), some (zI (nI k))] [] (twp q h N) (fun o h' => o = zR (zI (tfnd T p)) ∧ h' = twp q h N) := by
  obtain ⟨hF, hL, hE⟩ := hN
  intro n
  induction n with
  | zero =>
    intro k hk hp
    refine zj_iload_n hG d_MD_find_2 rfl rfl ?_
    refine zj_aload_n hG d_MD_find_3 rfl rfl ?_
    refine t_getI hG hT d_MD_find_4 f_MD_108 rfl ?_
    refine zj_icmp_ge (tgt := 28) hG d_MD_find_7 (by decide) (fun c7 => ?_) (fun c7 => ?_)
    · rw [tfnd_no (fun j e hj => hp j e (by have := (List.getElem?_eq_some_iff.mp hj).1; omega) hj)]
      refine zj_iconst (v := -1) hG d_MD_find_28 rfl ?_
      exact zj_iret hG d_MD_find_29 rfl rfl ⟨rfl, rfl⟩
    · rw [hF] at c7
      exact absurd (nI_le (by omega) (by omega)) c7
  | succ n ih =>
    intro k hk hp
    have hkl : k < T.length := by omega
    have he : T[k]? = some T[k] := List.getElem?_eq_getElem hkl
    have hpk := (hE k _ he).1
    refine zj_iload_n hG d_MD_find_2 rfl rfl ?_
    refine zj_aload_n hG d_MD_find_3 rfl rfl ?_
    refine t_getI hG hT d_MD_find_4 f_MD_108 rfl ?_
    refine zj_icmp_ge (tgt := 28) hG d_MD_find_7 (by decide) (fun c7 => ?_) (fun c7 => ?_)
    · rw [hF] at c7
      exact absurd c7 (nI_ge hkl (by omega))
    refine zj_aload_n hG d_MD_find_10 rfl rfl ?_
    refine t_getA (o := 14) hG hT d_MD_find_11 f_MD_53 rfl rfl ?_
    refine zj_iload_n hG d_MD_find_14 rfl rfl ?_
    refine t_ald (k) hG hT d_MD_find_15 (by first | decide | omega) (by first | decide | omega) rfl (by show _ < tLn _; simp only [tLn]; omega) ?_
    refine zj_iload_n hG d_MD_find_16 rfl rfl ?_
    rw [hpk]
    refine zj_icmp_ne (tgt := 22) hG d_MD_find_17 (by decide) (fun c17 => ?_) (fun c17 => ?_)
    · refine zj_iinc hG d_MD_find_22 rfl (nI_1 k) (by decide) rfl rfl ?_
      refine zj_goto (tgt := 2) hG d_MD_find_25 (by decide) ?_
      refine ih (k + 1) (by omega) (fun j e hj hje => ?_)
      rcases Nat.lt_or_ge j k with g | g
      · exact hp j e g hje
      · have : j = k := by omega
        subst this
        rw [he] at hje
        cases hje
        exact c17
    · rw [tfnd_at he c17 hp]
      refine zj_iload_n hG d_MD_find_20 rfl rfl ?_
      exact zj_iret hG d_MD_find_21 rfl rfl ⟨rfl, rfl⟩
theorem k_MD_find (hG : zOK G) (hT : twOK q h) (hN : tTab N T) (p : Int32) : zJ G 0 m_MD_find 0 [some (zA q), some (zI p), none] [] (twp q h N) (fun o h' => o = zR (zI (tfnd T p)) ∧ h' = twp q h N) := by
  refine zj_iconst (v := 0) hG d_MD_find_0 rfl ?_
  refine zj_istore_n hG d_MD_find_1 rfl (by decide) rfl rfl ?_
  exact k_MD_findL hG hT hN p T.length 0 (by omega) (fun j e hj => by omega)
/-- seven numbers copied -/
def tcp (N : Nat → Nat → Int32) (o1 b1 o2 b2 n : Nat) : Nat → Nat → Int32 := fun o x => if o = o2 ∧ b2 ≤ x ∧ x < b2 + n then N o1 (b1 + (x - b2)) else N o x
theorem tcp_s {N : Nat → Nat → Int32} {o1 b1 o2 b2 n : Nat} (hd : o1 ≠ o2 ∨ b2 ≤ b1 ∨ b1 + 7 ≤ b2) (hn : n < 7) : zu (tcp N o1 b1 o2 b2 n) o2 (b2 + n) (tcp N o1 b1 o2 b2 n o1 (b1 + n)) = tcp N o1 b1 o2 b2 (n + 1) := by
  have e : tcp N o1 b1 o2 b2 n o1 (b1 + n) = N o1 (b1 + n) := if_neg (by omega)
  rw [e]
  funext o x
  unfold zu tcp
  by_cases g : o = o2 ∧ x = b2 + n
  · rw [if_pos g, if_pos (by omega)]
    congr 1
    omega
  · rw [if_neg g]
    by_cases g2 : o = o2 ∧ b2 ≤ x ∧ x < b2 + n
    · rw [if_pos g2, if_pos (by omega)]
    · rw [if_neg g2, if_neg (by omega)]
theorem tcp_0 {N : Nat → Nat → Int32} {o1 b1 o2 b2 : Nat} : tcp N o1 b1 o2 b2 0 = N := by
  funext o x
  exact if_neg (by omega)
theorem tcp_row {N : Nat → Nat → Int32} {o1 b1 o2 b2 : Nat} {l : List Int32} (h : tRow N o1 b1 l) : tRow (tcp N o1 b1 o2 b2 7) o2 b2 l := by
  obtain ⟨a, b, c⟩ := h
  refine ⟨?_, b, fun i x hi => ?_⟩
  · unfold tcp
    rw [if_pos (by omega), ← a]
    congr 1
    omega
  · have := (List.getElem?_eq_some_iff.mp hi).1
    unfold tcp
    rw [if_pos (by omega), ← c i x hi]
    congr 1
    omega
theorem tcp_n {N : Nat → Nat → Int32} {o1 b1 o2 b2 n o x : Nat} (h : ¬ (o = o2 ∧ b2 ≤ x ∧ x < b2 + n)) : tcp N o1 b1 o2 b2 n o x = N o x := if_neg h
set_option maxRecDepth 4000 in
theorem k_MD_copyRowL (hG : zOK G) (hT : twOK q h) {o1 o2 b1 b2 : Nat} (g1 : 1 ≤ o1 ∧ o1 ≤ 29) (g2 : 1 ≤ o2 ∧ o2 ≤ 29) (l1 : b1 + 7 ≤ tLn o1) (l2 : b2 + 7 ≤ tLn o2) (hd : o1 ≠ o2 ∨ b2 ≤ b1 ∨ b1 + 7 ≤ b2) : ∀ (n i : Nat), i + n = 7 →
    zJ G 0 m_MD_copyRow 3 [some (zA (q + o1)), some (zI (nI b1)), some (zA (q + o2)), some (zI (nI b2)), some (zI (nI i))] [] (twp q h (tcp N o1 b1 o2 b2 i)) (fun o h' => o = zR0 ∧ h' = twp q h (tcp N o1 b1 o2 b2 7)) := by
  intro n
  induction n with
  | zero =>
    intro i hi
    have : i = 7 := by omega
    subst this
    refine zj_iload hG d_MD_copyRow_3 rfl ?_
    refine zj_bipush (v := 7) hG d_MD_copyRow_5 rfl ?_
    refine zj_icmp_ge (tgt := 28) hG d_MD_copyRow_7 (by decide) (fun c7 => ?_) (fun c7 => ?_)
    · exact zj_vret hG d_MD_copyRow_28 rfl ⟨rfl, rfl⟩
    · exact absurd (by decide) c7
  | succ n ih =>
    intro i hi
    refine zj_iload hG d_MD_copyRow_3 rfl ?_
    refine zj_bipush (v := 7) hG d_MD_copyRow_5 rfl ?_
    refine zj_icmp_ge (tgt := 28) hG d_MD_copyRow_7 (by decide) (fun c7 => ?_) (fun c7 => ?_)
    · exact absurd c7 (nI_ge (a := i) (b := 7) (by omega) (by omega))
    · refine zj_aload_n hG d_MD_copyRow_10 rfl rfl ?_
      refine zj_iload_n hG d_MD_copyRow_11 rfl rfl ?_
      refine zj_iload hG d_MD_copyRow_12 rfl ?_
      refine zj_iadd hG d_MD_copyRow_14 ?_
      refine zj_aload_n hG d_MD_copyRow_15 rfl rfl ?_
      refine zj_iload_n hG d_MD_copyRow_16 rfl rfl ?_
      refine zj_iload hG d_MD_copyRow_17 rfl ?_
      refine zj_iadd hG d_MD_copyRow_19 ?_
      refine t_ald (b1 + i) hG hT d_MD_copyRow_20 (by first | decide | omega) (by first | decide | omega) (nI_add _ _) (by omega) ?_
      refine t_ast (b2 + i) hG hT d_MD_copyRow_21 (by first | decide | omega) (by first | decide | omega) (nI_add _ _) (by omega) ?_
      refine zj_iinc hG d_MD_copyRow_22 rfl (nI_1 i) (by decide) rfl rfl ?_
      refine zj_goto (tgt := 3) hG d_MD_copyRow_25 (by decide) ?_
      rw [tcp_s hd (by omega)]
      exact ih (i + 1) (by omega)
theorem k_MD_copyRow (hG : zOK G) (hT : twOK q h) (N : Nat → Nat → Int32) {o1 o2 b1 b2 : Nat} (g1 : 1 ≤ o1 ∧ o1 ≤ 29) (g2 : 1 ≤ o2 ∧ o2 ≤ 29) (l1 : b1 + 7 ≤ tLn o1) (l2 : b2 + 7 ≤ tLn o2) (hd : o1 ≠ o2 ∨ b2 ≤ b1 ∨ b1 + 7 ≤ b2) :
    zJ G 0 m_MD_copyRow 0 [some (zA (q + o1)), some (zI (nI b1)), some (zA (q + o2)), some (zI (nI b2)), none] [] (twp q h N) (fun o h' => o = zR0 ∧ h' = twp q h (tcp N o1 b1 o2 b2 7)) := by
  refine zj_iconst (v := 0) hG d_MD_copyRow_0 rfl ?_
  refine zj_istore hG d_MD_copyRow_1 (by decide) rfl rfl ?_
  have := k_MD_copyRowL (N := N) hG hT g1 g2 l1 l2 hd 7 0 (by omega)
  rw [tcp_0] at this
  exact this
set_option maxRecDepth 4000 in
theorem k_MD_sameRowL (hG : zOK G) (hT : twOK q h) {o1 o2 b1 b2 : Nat} (g1 : 1 ≤ o1 ∧ o1 ≤ 29) (g2 : 1 ≤ o2 ∧ o2 ≤ 29) (l1 : b1 + 7 ≤ tLn o1) (l2 : b2 + 7 ≤ tLn o2) {x y : List Int32} (hx : tRow N o1 b1 x) (hy : tRow N o2 b2 y) (hl : x.length = y.length) : ∀ (n k : Nat), k + n = x.length → x.take k = y.take k →
    zJ G 0 m_MD_sameRow 19 [some (zA (q + o1)), some (zI (nI b1)), some (zA (q + o2)), some (zI (nI b2)), some (zI 1), some (zI (nI (k + 1)))] [] (twp q h N) (fun o h' => o = zR (zI (tb (decide (x = y)))) ∧ h' = twp q h N) := by
  obtain ⟨a1, a2, a3⟩ := hx
  obtain ⟨d1, d2, d3⟩ := hy
  intro n
  induction n with
  | zero =>
    intro k hk ht
    rw [List.take_of_length_le (by omega), List.take_of_length_le (by omega)] at ht
    have ht' : decide (x = y) = true := by simp [ht]
    rw [ht']
    refine zj_iload hG d_MD_sameRow_19 rfl ?_
    refine zj_if_eq (tgt := 60) hG d_MD_sameRow_21 (by decide) (fun c21 => ?_) (fun c21 => ?_)
    · exact absurd c21 (by decide)
    refine zj_iload hG d_MD_sameRow_24 rfl ?_
    refine zj_aload_n hG d_MD_sameRow_26 rfl rfl ?_
    refine zj_iload_n hG d_MD_sameRow_27 rfl rfl ?_
    refine t_ald (b1) hG hT d_MD_sameRow_28 (by first | decide | omega) (by first | decide | omega) rfl (by omega) ?_
    rw [a1]
    refine zj_icmp_gt (tgt := 60) hG d_MD_sameRow_29 (by decide) (fun c29 => ?_) (fun c29 => ?_)
    · refine zj_iload hG d_MD_sameRow_60 rfl ?_
      exact zj_iret hG d_MD_sameRow_62 rfl rfl ⟨rfl, rfl⟩
    · exact absurd (nI_lt (a := x.length) (b := k + 1) (by omega) (by omega)) c29
  | succ n ih =>
    intro k hk ht
    have hkx : x[k]? = some x[k] := List.getElem?_eq_getElem (by omega)
    have hky : y[k]? = some y[k] := List.getElem?_eq_getElem (by omega)
    refine zj_iload hG d_MD_sameRow_19 rfl ?_
    refine zj_if_eq (tgt := 60) hG d_MD_sameRow_21 (by decide) (fun c21 => ?_) (fun c21 => ?_)
    · exact absurd c21 (by decide)
    refine zj_iload hG d_MD_sameRow_24 rfl ?_
    refine zj_aload_n hG d_MD_sameRow_26 rfl rfl ?_
    refine zj_iload_n hG d_MD_sameRow_27 rfl rfl ?_
    refine t_ald (b1) hG hT d_MD_sameRow_28 (by first | decide | omega) (by first | decide | omega) rfl (by omega) ?_
    rw [a1]
    refine zj_icmp_gt (tgt := 60) hG d_MD_sameRow_29 (by decide) (fun c29 => ?_) (fun c29 => ?_)
    · exact absurd c29 (nI_nlt (a := x.length) (b := k + 1) (by omega) (by omega))
    refine zj_aload_n hG d_MD_sameRow_32 rfl rfl ?_
    refine zj_iload_n hG d_MD_sameRow_33 rfl rfl ?_
    refine zj_iload hG d_MD_sameRow_34 rfl ?_
    refine zj_iadd hG d_MD_sameRow_36 ?_
    refine t_ald (b1 + (k + 1)) hG hT d_MD_sameRow_37 (by first | decide | omega) (by first | decide | omega) (nI_add _ _) (by omega) ?_
    refine zj_aload_n hG d_MD_sameRow_38 rfl rfl ?_
    refine zj_iload_n hG d_MD_sameRow_39 rfl rfl ?_
    refine zj_iload hG d_MD_sameRow_40 rfl ?_
    refine zj_iadd hG d_MD_sameRow_42 ?_
    refine t_ald (b2 + (k + 1)) hG hT d_MD_sameRow_43 (by first | decide | omega) (by first | decide | omega) (nI_add _ _) (by omega) ?_
    rw [show b1 + (k + 1) = b1 + 1 + k by omega, show b2 + (k + 1) = b2 + 1 + k by omega, a3 k _ hkx, d3 k _ hky]
    refine zj_icmp_ne (tgt := 51) hG d_MD_sameRow_44 (by decide) (fun c44 => ?_) (fun c44 => ?_)
    · have : decide (x = y) = false := by
        simp only [decide_eq_false_iff_not]
        intro e
        subst e
        exact c44 rfl
      rw [this]
      refine zj_iconst (v := 0) hG d_MD_sameRow_51 rfl ?_
      refine zj_istore hG d_MD_sameRow_52 (by decide) rfl rfl ?_
      refine zj_iinc hG d_MD_sameRow_54 rfl rfl (by decide) rfl rfl ?_
      refine zj_goto (tgt := 19) hG d_MD_sameRow_57 (by decide) ?_
      refine zj_iload hG d_MD_sameRow_19 rfl ?_
      refine zj_if_eq (tgt := 60) hG d_MD_sameRow_21 (by decide) (fun c21 => ?_) (fun c21 => ?_)
      · refine zj_iload hG d_MD_sameRow_60 rfl ?_
        exact zj_iret hG d_MD_sameRow_62 rfl rfl ⟨rfl, rfl⟩
      · exact absurd rfl c21
    · refine zj_iconst (v := 1) hG d_MD_sameRow_47 rfl ?_
      refine zj_goto (tgt := 52) hG d_MD_sameRow_48 (by decide) ?_
      refine zj_istore hG d_MD_sameRow_52 (by decide) rfl rfl ?_
      refine zj_iinc hG d_MD_sameRow_54 rfl (nI_1 _) (by decide) rfl rfl ?_
      refine zj_goto (tgt := 19) hG d_MD_sameRow_57 (by decide) ?_
      refine ih (k + 1) (by omega) ?_
      rw [List.take_succ, List.take_succ, hkx, hky, ht, c44]
theorem k_MD_sameRow (hG : zOK G) (hT : twOK q h) {o1 o2 b1 b2 : Nat} (g1 : 1 ≤ o1 ∧ o1 ≤ 29) (g2 : 1 ≤ o2 ∧ o2 ≤ 29) (l1 : b1 + 7 ≤ tLn o1) (l2 : b2 + 7 ≤ tLn o2) {x y : List Int32} (hx : tRow N o1 b1 x) (hy : tRow N o2 b2 y) :
    zJ G 0 m_MD_sameRow 0 [some (zA (q + o1)), some (zI (nI b1)), some (zA (q + o2)), some (zI (nI b2)), none, none] [] (twp q h N) (fun o h' => o = zR (zI (tb (decide (x = y)))) ∧ h' = twp q h N) := by
  refine zj_aload_n hG d_MD_sameRow_0 rfl rfl ?_
  refine zj_iload_n hG d_MD_sameRow_1 rfl rfl ?_
  refine t_ald (b1) hG hT d_MD_sameRow_2 (by first | decide | omega) (by first | decide | omega) rfl (by omega) ?_
  refine zj_aload_n hG d_MD_sameRow_3 rfl rfl ?_
  refine zj_iload_n hG d_MD_sameRow_4 rfl rfl ?_
  refine t_ald (b2) hG hT d_MD_sameRow_5 (by first | decide | omega) (by first | decide | omega) rfl (by omega) ?_
  rw [hx.1, hy.1]
  refine zj_icmp_ne (tgt := 13) hG d_MD_sameRow_6 (by decide) (fun c6 => ?_) (fun c6 => ?_)
  · have : decide (x = y) = false := by
      simp only [decide_eq_false_iff_not]
      intro e
      subst e
      exact c6 rfl
    rw [this]
    refine zj_iconst (v := 0) hG d_MD_sameRow_13 rfl ?_
    refine zj_istore hG d_MD_sameRow_14 (by decide) rfl rfl ?_
    refine zj_iconst (v := 1) hG d_MD_sameRow_16 rfl ?_
    refine zj_istore hG d_MD_sameRow_17 (by decide) rfl rfl ?_
    refine zj_iload hG d_MD_sameRow_19 rfl ?_
    refine zj_if_eq (tgt := 60) hG d_MD_sameRow_21 (by decide) (fun c21 => ?_) (fun c21 => ?_)
    · refine zj_iload hG d_MD_sameRow_60 rfl ?_
      exact zj_iret hG d_MD_sameRow_62 rfl rfl ⟨rfl, rfl⟩
    · exact absurd rfl c21
  · have hl : x.length = y.length := (nI_eq (by have := hx.2.1; omega) (by have := hy.2.1; omega)).mp c6
    refine zj_iconst (v := 1) hG d_MD_sameRow_9 rfl ?_
    refine zj_goto (tgt := 14) hG d_MD_sameRow_10 (by decide) ?_
    refine zj_istore hG d_MD_sameRow_14 (by decide) rfl rfl ?_
    refine zj_iconst (v := 1) hG d_MD_sameRow_16 rfl ?_
    refine zj_istore hG d_MD_sameRow_17 (by decide) rfl rfl ?_
    exact k_MD_sameRowL hG hT g1 g2 l1 l2 hx hy hl x.length 0 (by omega) (by simp)
end MD1
