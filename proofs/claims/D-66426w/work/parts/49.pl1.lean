/-! PART 49: plain laws: distances -/
/-- distances: what holds through all rounds -/
def tD1 (W : sW) (w : Int32) (b : Nat) (D : Nat → Nat) : Prop := D b = 0 ∧ (∀ u, D u ≤ 100) ∧ ∀ u, u < (wV W).length → u ≠ b → D u < 100 → ∃ v, v < (wV W).length ∧ oAdj W w u v = true ∧ D v + 1 ≤ D u
theorem tD1.r1 {W : sW} {w : Int32} {b u v : Nat} {D : Nat → Nat} (hv : v < (wV W).length) (h : tD1 W w b D) : tD1 W w b (tr1 W w u D v) := by
  obtain ⟨h1, h2, h3⟩ := h
  unfold tr1
  split
  · rename_i g
    have hub : u ≠ b := by
      intro e
      rw [e, h1] at g
      omega
    refine ⟨by rw [zw_n (fun e => hub e.symm)]; exact h1, fun x => ?_, fun x hx hxb hxl => ?_⟩
    · unfold zw
      split
      · have := h2 u
        omega
      · exact h2 x
    · have hd : ∀ y, zw D u (D v + 1) y ≤ D y := by
        intro y
        unfold zw
        split
        · rename_i e
          subst e
          omega
        · omega
      by_cases e : x = u
      · subst e
        refine ⟨v, hv, g.1, ?_⟩
        rw [zw_s]
        have := hd v
        omega
      · rw [zw_n e] at hxl ⊢
        obtain ⟨y, hy, ha, hle⟩ := h3 x hx hxb hxl
        exact ⟨y, hy, ha, by have := hd y; omega⟩
  · exact ⟨h1, h2, h3⟩
theorem tD1.r2 {W : sW} {w : Int32} {b u : Nat} {D : Nat → Nat} (h : tD1 W w b D) : ∀ n, n ≤ (wV W).length → tD1 W w b ((List.range n).foldl (tr1 W w u) D) := by
  intro n
  induction n with
  | zero => intro _; exact h
  | succ n ih =>
    intro hn
    rw [fold_range_s]
    exact (ih (by omega)).r1 (by omega)
theorem tD1.r3 {W : sW} {w : Int32} {b : Nat} {D : Nat → Nat} (h : tD1 W w b D) : ∀ n, n ≤ (wV W).length → tD1 W w b ((List.range n).foldl (tr2 W w (wV W).length) D) := by
  intro n
  induction n with
  | zero => intro _; exact h
  | succ n ih =>
    intro hn
    rw [fold_range_s]
    exact (ih (by omega)).r2 _ (Nat.le_refl _)
theorem tdis_1 (W : sW) (w : Int32) {b : Nat} : tD1 W w b (tdis W w b) := by
  have : ∀ n, n ≤ (wV W).length → tD1 W w b ((List.range n).foldl (tr3 W w (wV W).length) (tr0 b)) := by
    intro n
    induction n with
    | zero =>
      intro _
      refine ⟨by simp [tr0], fun u => ?_, fun u hu hub hl => ?_⟩
      · show tr0 b u ≤ 100
        unfold tr0
        split <;> omega
      · simp [tr0, hub] at hl
    | succ n ih =>
      intro hn
      rw [fold_range_s]
      exact (ih (by omega)).r3 _ (Nat.le_refl _)
  exact this _ (Nat.le_refl _)
theorem tr1_dec {W : sW} {w : Int32} {u v : Nat} {D : Nat → Nat} (x : Nat) : tr1 W w u D v x ≤ D x := by
  unfold tr1
  split
  · unfold zw
    split
    · rename_i g e
      subst e
      omega
    · omega
  · omega
theorem tr1_rel {W : sW} {w : Int32} {u v : Nat} {D : Nat → Nat} (h : oAdj W w u v = true) : tr1 W w u D v u ≤ D v + 1 := by
  unfold tr1
  split
  · rw [zw_s]
    omega
  · rename_i g
    have : ¬ D v + 1 < D u := fun e => g ⟨h, e⟩
    omega
theorem tr2_dec {W : sW} {w : Int32} {u : Nat} {D : Nat → Nat} (x : Nat) : ∀ n, ((List.range n).foldl (tr1 W w u) D) x ≤ D x := by
  intro n
  induction n with
  | zero => exact Nat.le_refl _
  | succ n ih =>
    rw [fold_range_s]
    exact Nat.le_trans (tr1_dec x) ih
theorem tr2_rel {W : sW} {w : Int32} {u v : Nat} {D : Nat → Nat} (h : oAdj W w u v = true) : ∀ n, v < n → ((List.range n).foldl (tr1 W w u) D) u ≤ D v + 1 := by
  intro n
  induction n with
  | zero => intro hv; omega
  | succ n ih =>
    intro hv
    rw [fold_range_s]
    by_cases e : v = n
    · subst e
      refine Nat.le_trans (tr1_rel h) ?_
      have := tr2_dec (W := W) (w := w) (u := u) (D := D) v v
      omega
    · exact Nat.le_trans (tr1_dec u) (ih (by omega))
theorem tr3_dec {W : sW} {w : Int32} {m : Nat} {D : Nat → Nat} (x : Nat) : ∀ n, ((List.range n).foldl (tr2 W w m) D) x ≤ D x := by
  intro n
  induction n with
  | zero => exact Nat.le_refl _
  | succ n ih =>
    rw [fold_range_s]
    exact Nat.le_trans (tr2_dec x m) ih
theorem tr3_rel {W : sW} {w : Int32} {u v m : Nat} {D : Nat → Nat} (h : oAdj W w u v = true) (hv : v < m) : ∀ n, u < n → ((List.range n).foldl (tr2 W w m) D) u ≤ D v + 1 := by
  intro n
  induction n with
  | zero => intro hu; omega
  | succ n ih =>
    intro hu
    rw [fold_range_s]
    by_cases e : u = n
    · subst e
      refine Nat.le_trans (tr2_rel h m hv) ?_
      have := tr3_dec (W := W) (w := w) (m := m) (D := D) v u
      omega
    · exact Nat.le_trans (tr2_dec u m) (ih (by omega))
/-- walks of a length to b -/
def tWa (W : sW) (w : Int32) (b : Nat) : Nat → Nat → Prop
  | 0, u => u = b
  | k + 1, u => u < (wV W).length ∧ ∃ v, v < (wV W).length ∧ oAdj W w u v = true ∧ tWa W w b k v
theorem tdis_w {W : sW} {w : Int32} {b : Nat} : ∀ (k u : Nat), k ≤ (wV W).length → tWa W w b k u → tdis W w b u ≤ k := by
  have key : ∀ (n k u : Nat), k ≤ n → tWa W w b k u → ((List.range n).foldl (tr3 W w (wV W).length) (tr0 b)) u ≤ k := by
    intro n
    induction n with
    | zero =>
      intro k u hk hw
      have : k = 0 := by omega
      subst this
      have e : u = b := hw
      subst e
      simp [tr0]
    | succ n ih =>
      intro k u hk hw
      rw [fold_range_s]
      by_cases e : k ≤ n
      · exact Nat.le_trans (tr3_dec u _) (ih k u e hw)
      · have : k = n + 1 := by omega
        subst this
        obtain ⟨hu, v, hv, ha, hw'⟩ := hw
        refine Nat.le_trans (tr3_rel ha hv _ hu) ?_
        have := ih n v (Nat.le_refl _) hw'
        omega
  intro k u hk hw
  exact key _ k u hk hw
theorem countP_lt {p q : Nat → Bool} : ∀ (l : List Nat), (∀ x, p x = true → q x = true) → (∃ x, x ∈ l ∧ q x = true ∧ p x = false) → l.countP p < l.countP q := by
  intro l
  induction l with
  | nil => intro _ h; obtain ⟨x, hx, -⟩ := h; cases hx
  | cons a t ih =>
    intro hpq h
    have hm : t.countP p ≤ t.countP q := List.countP_mono_left (fun x _ hx => hpq x hx)
    obtain ⟨x, hx, h1, h2⟩ := h
    rw [List.countP_cons, List.countP_cons]
    rcases List.mem_cons.mp hx with e | e
    · subst e
      rw [h1, h2]
      simp
      omega
    · have := ih hpq ⟨x, e, h1, h2⟩
      cases ha : p a with
      | false =>
        simp
        split <;> omega
      | true =>
        rw [hpq a ha]
        simp
        omega
/-- reached within k -/
noncomputable def tRe (W : sW) (w : Int32) (b k u : Nat) : Bool := @decide (∃ j, j ≤ k ∧ tWa W w b j u) (Classical.propDecidable _)
theorem tRe_iff {W : sW} {w : Int32} {b k u : Nat} : tRe W w b k u = true ↔ ∃ j, j ≤ k ∧ tWa W w b j u := by
  unfold tRe
  exact @decide_eq_true_iff _ (Classical.propDecidable _)
theorem tWa_lt {W : sW} {w : Int32} {b k u : Nat} (hb : b < (wV W).length) (h : tWa W w b k u) : u < (wV W).length := by
  cases k with
  | zero =>
    have e : u = b := h
    omega
  | succ k => exact h.1
theorem tRe_stable {W : sW} {w : Int32} {b k : Nat} (hs : ∀ u, tRe W w b (k + 1) u = true → tRe W w b k u = true) : ∀ m u, tWa W w b m u → tRe W w b k u = true := by
  intro m
  induction m with
  | zero => intro u h; exact tRe_iff.mpr ⟨0, by omega, h⟩
  | succ m ih =>
    intro u h
    obtain ⟨hu, v, hv, ha, hw⟩ := h
    obtain ⟨j, hj, hjw⟩ := tRe_iff.mp (ih v hw)
    exact hs u (tRe_iff.mpr ⟨j + 1, by omega, hu, v, hv, ha, hjw⟩)
theorem tWa_short {W : sW} {w : Int32} {b : Nat} (hb : b < (wV W).length) {m u : Nat} (h : tWa W w b m u) : ∃ j, j < (wV W).length ∧ tWa W w b j u := by
  have key : ∀ k, (∃ i, i < k ∧ ∀ u, tRe W w b (i + 1) u = true → tRe W w b i u = true) ∨ k + 1 ≤ (List.range (wV W).length).countP (tRe W w b k) := by
    intro k
    induction k with
    | zero =>
      right
      have : 0 < (List.range (wV W).length).countP (tRe W w b 0) := List.countP_pos_iff.mpr ⟨b, List.mem_range.mpr hb, tRe_iff.mpr ⟨0, by omega, rfl⟩⟩
      omega
    | succ k ih =>
      rcases ih with ⟨i, hi, hs⟩ | hc
      · exact Or.inl ⟨i, by omega, hs⟩
      · by_cases hs : ∀ u, tRe W w b (k + 1) u = true → tRe W w b k u = true
        · exact Or.inl ⟨k, by omega, hs⟩
        · right
          obtain ⟨x, hx⟩ := Classical.not_forall.mp hs
          obtain ⟨h1, h2⟩ := Classical.not_imp.mp hx
          obtain ⟨j, hj, hw⟩ := tRe_iff.mp h1
          have := countP_lt (p := tRe W w b k) (q := tRe W w b (k + 1)) (List.range (wV W).length) (fun y hy => by obtain ⟨j, hj, hw⟩ := tRe_iff.mp hy; exact tRe_iff.mpr ⟨j, by omega, hw⟩) ⟨x, List.mem_range.mpr (tWa_lt hb hw), h1, by simpa using h2⟩
          omega
  rcases key (wV W).length with ⟨i, hi, hs⟩ | hc
  · obtain ⟨j, hj, hw⟩ := tRe_iff.mp (tRe_stable hs m u h)
    exact ⟨j, by omega, hw⟩
  · have := List.countP_le_length (p := tRe W w b (wV W).length) (l := List.range (wV W).length)
    simp at this
    omega
theorem tdis_ok (W : sW) (w : Int32) {b : Nat} (hb : b < (wV W).length) : tDK W w b (tdis W w b) := by
  obtain ⟨h1, h2, h3⟩ := tdis_1 W w (b := b)
  have walk : ∀ (n u : Nat), tdis W w b u ≤ n → u < (wV W).length → tdis W w b u < 100 → ∃ j, j ≤ tdis W w b u ∧ tWa W w b j u := by
    intro n
    induction n with
    | zero =>
      intro u hu hl h100
      rcases Nat.decEq u b with g | g
      · obtain ⟨v, -, -, h⟩ := h3 u hl g h100
        omega
      · exact ⟨0, by omega, g⟩
    | succ n ih =>
      intro u hu hl h100
      rcases Nat.decEq u b with g | g
      · obtain ⟨v, hv, ha, h⟩ := h3 u hl g h100
        obtain ⟨j, hj, hw⟩ := ih v (by omega) hv (by omega)
        exact ⟨j + 1, by omega, hl, v, hv, ha, hw⟩
      · exact ⟨0, by omega, g⟩
  refine ⟨h1, fun u hu hl => ?_⟩
  obtain ⟨j, hj, hw⟩ := walk _ u (Nat.le_refl _) hu hl
  obtain ⟨j2, hj2, hw2⟩ := tWa_short hb hw
  have hle := tdis_w j2 u (by omega) hw2
  refine ⟨by omega, fun hub => ?_⟩
  have hj' : tdis W w b u = j2 ∨ tdis W w b u < j2 := by omega
  -- the first way of the shortest walk
  have hd : ∀ j, tWa W w b j u → tdis W w b u ≤ j := by
    intro j hj
    rcases Nat.lt_or_ge j (wV W).length with g | g
    · exact tdis_w j u (by omega) hj
    · omega
  have hwj : tWa W w b (tdis W w b u) u := by
    have e : j = tdis W w b u := by
      have := hd j hw
      omega
    rw [← e]
    exact hw
  cases hD : tdis W w b u with
  | zero =>
    rw [hD] at hwj
    exact absurd hwj hub
  | succ k =>
    rw [hD] at hwj
    obtain ⟨-, v, hv, ha, hw3⟩ := hwj
    refine ⟨v, hv, ha, ?_⟩
    have e1 := tdis_w k v (by omega) hw3
    rcases Nat.lt_or_ge (tdis W w b v) k with g | g
    · obtain ⟨i, hi, hwi⟩ := walk _ v (Nat.le_refl _) hv (by omega)
      have := hd (i + 1) ⟨hu, v, hv, ha, hwi⟩
      omega
    · omega
