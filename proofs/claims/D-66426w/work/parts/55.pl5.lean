/-! PART 55: plain laws: the component's order of paths -/
theorem nI_dlt {a b : Nat} (ha : a < 128) (hb : b < 128) : nI a - nI b < 0 ↔ a < b := by
  rw [Int32.lt_iff_toInt_lt, pk_sub_toInt (by omega) (by omega)]
  simp
  omega
/-- the component's order of paths is that of their places too -/
theorem ccm_pkn : ∀ (n m r : Nat), m < 128 ^ n → r < 128 ^ n → (ccm n m r < 0 ↔ pkn n m < pkn n r) := by
  intro n
  induction n with
  | zero =>
    intro m r hm hr
    have hm0 : m = 0 := by simpa using hm
    have hr0 : r = 0 := by simpa using hr
    subst hm0
    subst hr0
    rw [ccm, nI_dlt (by omega) (by omega)]
    simp [pkn]
  | succ n ih =>
    intro m r hm hr
    have hm' : m / 128 < 128 ^ n := by
      rw [Nat.pow_succ] at hm
      omega
    have hr' : r / 128 < 128 ^ n := by
      rw [Nat.pow_succ] at hr
      omega
    have d1 : m % 128 < 128 := Nat.mod_lt _ (by omega)
    have d2 : r % 128 < 128 := Nat.mod_lt _ (by omega)
    rw [pkn_cmp, ccm]
    by_cases g : m ≠ r ∧ m % 128 = r % 128
    · rw [if_pos g, ih _ _ hm' hr']
      have := g.2
      omega
    · rw [if_neg g, nI_dlt d1 d2]
      by_cases e : m = r
      · subst e
        omega
      · have : ¬ m % 128 = r % 128 := fun x => g ⟨e, x⟩
        omega
