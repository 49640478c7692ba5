/-! PART 54: plain laws: the order of paths -/
/-- a path's place: its names, the first one highest -/
def pkn : Nat → Nat → Nat
  | 0, _ => 0
  | n + 1, m => (m % 128) * 128 ^ n + pkn n (m / 128)
theorem pkn_lt : ∀ (n m : Nat), pkn n m < 128 ^ n := by
  intro n
  induction n with
  | zero => intro m; simp [pkn]
  | succ n ih =>
    intro m
    have h1 := ih (m / 128)
    have h2 : m % 128 < 128 := Nat.mod_lt _ (by omega)
    have h3 : (m % 128) * 128 ^ n + 128 ^ n ≤ 128 * 128 ^ n := by
      rw [← Nat.succ_mul]
      exact Nat.mul_le_mul_right _ h2
    rw [pkn, Nat.pow_succ, Nat.mul_comm (128 ^ n) 128]
    omega
theorem pkn_cmp {n m r : Nat} : pkn (n + 1) m < pkn (n + 1) r ↔ m % 128 < r % 128 ∨ m % 128 = r % 128 ∧ pkn n (m / 128) < pkn n (r / 128) := by
  have h1 := pkn_lt n (m / 128)
  have h2 := pkn_lt n (r / 128)
  rw [pkn, pkn]
  rcases Nat.lt_trichotomy (m % 128) (r % 128) with g | g | g
  · have : (m % 128) * 128 ^ n + 128 ^ n ≤ (r % 128) * 128 ^ n := by
      rw [← Nat.succ_mul]
      exact Nat.mul_le_mul_right _ g
    omega
  · rw [g]
    omega
  · have : (r % 128) * 128 ^ n + 128 ^ n ≤ (m % 128) * 128 ^ n := by
      rw [← Nat.succ_mul]
      exact Nat.mul_le_mul_right _ g
    omega
theorem cri_s {n m : Nat} (m0 : ¬ m = 0) (h : cri (n + 1) m = true) : 1 ≤ m % 128 ∧ cri n (m / 128) = true := by
  rw [cri, if_neg m0] at h
  by_cases g : 1 ≤ m % 128 ∧ m % 128 ≤ 100
  · rw [if_pos g] at h
    exact ⟨g.1, h⟩
  · rw [if_neg g] at h
    cases h
theorem tbf_pkn : ∀ (n m r : Nat), m < 128 ^ n → r < 128 ^ n → cri n m = true → cri n r = true → (tbf n m r = true ↔ pkn n m < pkn n r) := by
  intro n
  induction n with
  | zero =>
    intro m r hm hr _ _
    have hm0 : m = 0 := by simpa using hm
    have hr0 : r = 0 := by simpa using hr
    subst hm0
    subst hr0
    simp [tbf, pkn]
  | succ n ih =>
    intro m r hm hr cm cr
    have hm' : m / 128 < 128 ^ n := by
      rw [Nat.pow_succ] at hm
      omega
    have hr' : r / 128 < 128 ^ n := by
      rw [Nat.pow_succ] at hr
      omega
    rw [pkn_cmp, tbf]
    by_cases g : m % 128 = r % 128
    · by_cases m0 : m = 0
      · have r0 : r = 0 := by
          by_cases e : r = 0
          · exact e
          · have := (cri_s e cr).1
            omega
        subst m0
        subst r0
        simp
      · have c1 := cri_s m0 cm
        have r0 : ¬ r = 0 := by
          intro e
          subst e
          omega
        have c2 := cri_s r0 cr
        rw [if_pos ⟨g, m0⟩, ih _ _ hm' hr' c1.2 c2.2]
        omega
    · rw [if_neg (fun x => g x.1)]
      simp [g]
