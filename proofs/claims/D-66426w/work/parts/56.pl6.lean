/-! PART 56: plain law: paths as numbers to the base 128 -/
theorem nI_or (a b : Nat) : nI a ||| nI b = nI (a ||| b) := by
  apply Int32.toBitVec_inj.mp
  rw [Int32.toBitVec_or]
  show BitVec.ofNat 32 a ||| BitVec.ofNat 32 b = BitVec.ofNat 32 (a ||| b)
  exact BitVec.ofNat_or.symm
theorem or_add {a b k : Nat} (h : a < 2 ^ k) : a ||| (b * 2 ^ k) = a + b * 2 ^ k := by
  have := Nat.shiftLeft_add_eq_or_of_lt h b
  rw [Nat.shiftLeft_eq] at this
  rw [Nat.or_comm]
  omega
theorem nI_orA {a b : Nat} (k : Nat) (h : a < 2 ^ k) : nI a ||| nI (b * 2 ^ k) = nI (a + b * 2 ^ k) := by rw [nI_or, or_add h]
theorem le4 {k : Nat} (h : k ≤ 4) : k = 0 ∨ k = 1 ∨ k = 2 ∨ k = 3 ∨ k = 4 := by omega
theorem tcut_n {m k : Nat} (hm : m < 2 ^ 28) (hk : k ≤ 4) : tcut (nI m) (nI k) = nI (m % 128 ^ k) := by
  rcases le4 hk with rfl | rfl | rfl | rfl | rfl
  · exact pk_andN (by omega) 0 (by decide)
  · exact pk_andN (by omega) 7 (by decide)
  · exact pk_andN (by omega) 14 (by decide)
  · exact pk_andN (by omega) 21 (by decide)
  · rw [Nat.mod_eq_of_lt (by omega)]; rfl
theorem ctop_n {m k : Nat} (hm : m < 2 ^ 28) (hk : k ≤ 4) : ctop (nI m) (nI k) = nI (m % 128 ^ k) := by
  rcases le4 hk with rfl | rfl | rfl | rfl | rfl
  · exact pk_andN (by omega) 0 (by decide)
  · exact pk_andN (by omega) 7 (by decide)
  · exact pk_andN (by omega) 14 (by decide)
  · exact pk_andN (by omega) 21 (by decide)
  · exact pk_andN (by omega) 28 (by decide)
theorem sar_n {m k : Nat} (hm : m < 2 ^ 28) (hk : k ≤ 4) : nI m >>> ((7 * nI k) &&& 31) = nI (m / 128 ^ k) := by
  rcases le4 hk with rfl | rfl | rfl | rfl | rfl
  · exact pk_shrN (by omega) _ 0 (by decide)
  · exact pk_shrN (by omega) _ 7 (by decide)
  · exact pk_shrN (by omega) _ 14 (by decide)
  · exact pk_shrN (by omega) _ 21 (by decide)
  · exact pk_shrN (by omega) _ 28 (by decide)
theorem shl_n {m k : Nat} (hk : k ≤ 4) (h : m * 128 ^ k < 2 ^ 32) : nI m <<< ((7 * nI k) &&& 31) = nI (m * 128 ^ k) := by
  rcases le4 hk with rfl | rfl | rfl | rfl | rfl
  · exact pk_shlN _ 0 (by decide) (by omega)
  · exact pk_shlN _ 7 (by decide) (by omega)
  · exact pk_shlN _ 14 (by decide) (by omega)
  · exact pk_shlN _ 21 (by decide) (by omega)
  · exact pk_shlN _ 28 (by decide) (by omega)
theorem and127 (m : Nat) (hm : m < 2 ^ 32) : nI m &&& 127 = nI (m % 128) := pk_andN hm 7 (by decide)
theorem pw7 (k : Nat) : 128 ^ k = 2 ^ (7 * k) := by rw [Nat.pow_mul]
theorem orA {a b k : Nat} (h : a < 128 ^ k) : nI a ||| nI (b * 128 ^ k) = nI (a + b * 128 ^ k) := by
  rw [pw7] at h ⊢
  exact nI_orA _ h
theorem tins_n {a k n : Nat} (ha : a < 128 ^ k) (hk : k ≤ 3) (hn : n < 128) : tins (nI a) (nI k) (nI n) = nI (a + n * 128 ^ k) := by
  unfold tins
  have h4 : 128 ^ k ≤ 128 ^ 3 := Nat.pow_le_pow_right (by decide) hk
  have : n * 128 ^ k ≤ 127 * 128 ^ 3 := Nat.mul_le_mul (by omega) h4
  rw [shl_n (by omega) (by omega), orA ha]
theorem nI_sb1 {k : Nat} (h : 1 ≤ k) : nI k - 1 = nI (k - 1) := by
  obtain ⟨j, rfl⟩ : ∃ j, k = j + 1 := ⟨k - 1, by omega⟩
  exact nI_pred j
theorem nI_sb2 {k : Nat} (h : 2 ≤ k) : nI k - 2 = nI (k - 2) := by
  have e : nI k - 2 = nI k - 1 - 1 := by
    show nI k - (1 + 1) = _
    rw [Int32.sub_eq_add_neg, Int32.sub_eq_add_neg, Int32.sub_eq_add_neg, Int32.neg_add, Int32.add_assoc, Int32.sub_eq_add_neg]
  rw [e, nI_sb1 (by omega), nI_sb1 (by omega)]
  rfl
theorem tlast_n {m k : Nat} (hm : m < 2 ^ 28) (h1 : 1 ≤ k) (hk : k ≤ 4) : tlast (nI m) (nI k) = nI (m / 128 ^ (k - 1) % 128) := by
  unfold tlast
  rw [nI_sb1 h1, sar_n hm (by omega), and127]
  have := Nat.div_le_self m (128 ^ (k - 1))
  omega
/-- the names of a right path -/
theorem cri_cases {m : Nat} (h : cri 4 m = true) (hm : m < 2 ^ 28) : m = 0 ∧ cdp m = 0 ∨ (∃ a, m = a ∧ 1 ≤ a ∧ a ≤ 100 ∧ cdp m = 1) ∨ (∃ a b, m = a + 128 * b ∧ 1 ≤ a ∧ a ≤ 100 ∧ 1 ≤ b ∧ b ≤ 100 ∧ cdp m = 2) ∨
    (∃ a b c, m = a + 128 * b + 16384 * c ∧ 1 ≤ a ∧ a ≤ 100 ∧ 1 ≤ b ∧ b ≤ 100 ∧ 1 ≤ c ∧ c ≤ 100 ∧ cdp m = 3) ∨ ∃ a b c d, m = a + 128 * b + 16384 * c + 2097152 * d ∧ 1 ≤ a ∧ a ≤ 100 ∧ 1 ≤ b ∧ b ≤ 100 ∧ 1 ≤ c ∧ c ≤ 100 ∧ 1 ≤ d ∧ d ≤ 100 ∧ cdp m = 4 := by
  unfold cri at h
  split at h
  · rename_i e; exact Or.inl ⟨e, by rw [e]; rfl⟩
  split at h
  · rename_i n0 g1
    unfold cri at h
    split at h
    · exact Or.inr (Or.inl ⟨m, rfl, by omega, by omega, by unfold cdp; simp only [if_neg n0]; rw [if_pos (by omega)]⟩)
    split at h
    · rename_i n1 g2
      unfold cri at h
      split at h
      · exact Or.inr (Or.inr (Or.inl ⟨m % 128, m / 128, by omega, by omega, by omega, by omega, by omega, by unfold cdp; rw [if_neg n0, if_neg (by omega), if_pos (by omega)]⟩))
      split at h
      · rename_i n2 g3
        unfold cri at h
        split at h
        · exact Or.inr (Or.inr (Or.inr (Or.inl ⟨m % 128, m / 128 % 128, m / 128 / 128, by omega, by omega, by omega, by omega, by omega, by omega, by omega, by unfold cdp; rw [if_neg n0, if_neg (by omega), if_neg (by omega), if_pos (by omega)]⟩)))
        split at h
        · rename_i n3 g4
          exact Or.inr (Or.inr (Or.inr (Or.inr ⟨m % 128, m / 128 % 128, m / 128 / 128 % 128, m / 128 / 128 / 128, by omega, by omega, by omega, by omega, by omega, by omega, by omega, by omega, by omega, by unfold cdp; rw [if_neg n0, if_neg (by omega), if_neg (by omega), if_neg (by omega)]⟩)))
        · cases h
      · cases h
    · cases h
  · cases h
theorem tdp_step (p l d : Int32) (n : Nat) : tdp p (n + 1) l d = if l = 0 then d else if p < 0 ∨ l &&& 127 = 0 ∨ 100 < l &&& 127 ∨ d = 4 then -1 else tdp p n (l >>> ((7 : Int32) &&& 31)) (d + 1) := rfl
theorem tdp_s {p : Int32} (hp : 0 ≤ p) {m : Nat} (hm : m < 2 ^ 31) (h1 : 1 ≤ m % 128) (h2 : m % 128 ≤ 100) {d : Int32} (hd : ¬ d = 4) (n : Nat) : tdp p (n + 1) (nI m) d = tdp p n (nI (m / 128)) (d + 1) := by
  rw [tdp_step, if_neg (nI_ne0 (by omega) hm), and127 m (by omega), pk_shrN hm _ 7 (by decide), if_neg]
  rintro (g | g | g | g)
  · exact absurd hp (Int32.not_le.mpr g)
  · exact nI_ne0 (by omega) (by omega) g
  · exact nI_nlt (a := 100) (b := m % 128) h2 (by omega) g
  · exact hd g
theorem tdp_0 (p d : Int32) (n : Nat) : tdp p (n + 1) (nI 0) d = d := by rw [tdp_step, if_pos nI_0]
theorem tdp_v {p : Int32} : ∀ (n m k : Nat), n + k = 5 → m < 2 ^ 31 → tdp p n (nI m) (nI k) ≠ -1 → m = 0 ∨ 0 ≤ p ∧ m < 128 ^ (4 - k) ∧ cri (4 - k) m = true := by
  intro n
  induction n with
  | zero => intro m k _ _ h; exact absurd rfl h
  | succ n ih =>
    intro m k hk hm h
    by_cases m0 : m = 0
    · exact Or.inl m0
    right
    rw [tdp_step, if_neg (nI_ne0 (by omega) hm), and127 m (by omega), pk_shrN hm _ 7 (by decide)] at h
    split at h
    · exact absurd rfl h
    rename_i g
    have hk4 : ¬ k = 4 := fun e => g (Or.inr (Or.inr (Or.inr (by rw [e]; rfl))))
    have hp : 0 ≤ p := Int32.not_lt.mp (fun e => g (Or.inl e))
    have g1 : 1 ≤ m % 128 := by
      rcases Nat.eq_zero_or_pos (m % 128) with e | e
      · exact absurd (by rw [e]; exact nI_0) (fun e => g (Or.inr (Or.inl e)))
      · exact e
    have g2 : m % 128 ≤ 100 := by
      rcases Nat.lt_or_ge 100 (m % 128) with e | e
      · exact absurd (nI_lt (a := 100) (b := m % 128) e (by omega)) (fun e => g (Or.inr (Or.inr (Or.inl e))))
      · exact e
    rw [nI_1] at h
    obtain ⟨j, hj⟩ : ∃ j, 4 - k = j + 1 := ⟨3 - k, by omega⟩
    have hj' : 4 - (k + 1) = j := by omega
    have := ih (m / 128) (k + 1) (by omega) (by omega) h
    rw [hj'] at this
    rw [hj, Nat.pow_succ, cri, if_neg m0, if_pos ⟨g1, g2⟩]
    refine ⟨hp, ?_, ?_⟩
    · rcases this with e | e
      · have : 0 < 128 ^ j := Nat.pow_pos (by decide)
        omega
      · omega
    · rcases this with e | e
      · rw [e]; cases j <;> rfl
      · exact e.2.2
theorem cri_0 (n : Nat) : cri n 0 = true := by cases n <;> rfl
theorem cright_iff {p : Int32} : cright p = true ↔ 0 ≤ p ∧ pnat p < 2 ^ 28 ∧ cri 4 (pnat p) = true := by
  unfold cright
  rw [Bool.and_eq_true, decide_eq_true_eq]
  constructor
  · rintro ⟨⟨a, b⟩, c⟩
    refine ⟨a, ?_, c⟩
    rw [pnat_eq a] at b
    have := (Int32.lt_iff_toInt_lt).mp b
    rw [nI_toInt pnat_lt] at this
    have e : (268435456 : Int32).toInt = 268435456 := by decide
    omega
  · rintro ⟨a, b, c⟩
    refine ⟨⟨a, ?_⟩, c⟩
    rw [pnat_eq a]
    exact nI_lt (b := 268435456) b (by omega)
/-- the reference's depth of a right path -/
theorem tdep_n {m : Nat} (h : cri 4 m = true) (hm : m < 2 ^ 28) : tdep (nI m) = nI (cdp m) := by
  have hp : 0 ≤ nI m := nI_pos' (by omega)
  unfold tdep
  rcases cri_cases h hm with ⟨e, hd⟩ | ⟨a, e, a1, a2, hd⟩ | ⟨a, b, e, a1, a2, b1, b2, hd⟩ | ⟨a, b, c, e, a1, a2, b1, b2, c1, c2, hd⟩ | ⟨a, b, c, d, e, a1, a2, b1, b2, c1, c2, d1, d2, hd⟩ <;> rw [hd]
  · rw [e, tdp_0]; rfl
  · rw [tdp_s hp (by omega) (by omega) (by omega) (by decide)]
    rw [show m / 128 = 0 by omega, tdp_0]; rfl
  · rw [tdp_s hp (by omega) (by omega) (by omega) (by decide), tdp_s hp (by omega) (by omega) (by omega) (by decide)]
    rw [show m / 128 / 128 = 0 by omega, tdp_0]; rfl
  · rw [tdp_s hp (by omega) (by omega) (by omega) (by decide), tdp_s hp (by omega) (by omega) (by omega) (by decide), tdp_s hp (by omega) (by omega) (by omega) (by decide)]
    rw [show m / 128 / 128 / 128 = 0 by omega, tdp_0]; rfl
  · rw [tdp_s hp (by omega) (by omega) (by omega) (by decide), tdp_s hp (by omega) (by omega) (by omega) (by decide), tdp_s hp (by omega) (by omega) (by omega) (by decide), tdp_s hp (by omega) (by omega) (by omega) (by decide)]
    rw [show m / 128 / 128 / 128 / 128 = 0 by omega, tdp_0]; rfl
theorem pnat_n {m : Nat} (h : m < 2 ^ 31) : pnat (nI m) = m := nI_clamp h
theorem cright_n {m : Nat} (hm : m < 2 ^ 28) : cright (nI m) = cri 4 m := by
  rw [Bool.eq_iff_iff, cright_iff, pnat_n (by omega)]
  exact ⟨fun g => g.2.2, fun g => ⟨nI_pos' (by omega), hm, g⟩⟩
theorem cright_eq {p : Int32} (h : cright p = true) : ∃ m, p = nI m ∧ m < 2 ^ 28 ∧ cri 4 m = true := by
  obtain ⟨a, b, c⟩ := cright_iff.mp h
  exact ⟨pnat p, pnat_eq a, b, c⟩
theorem tdep_no {p : Int32} (h : cright p = false) : tdep p = -1 := by
  by_cases hp : 0 ≤ p
  · apply Classical.byContradiction
    intro g
    have e := pnat_eq hp
    have := tdp_v (p := p) 5 (pnat p) 0 rfl pnat_lt (by rw [← e]; exact g)
    have : cright p = true := by
      apply cright_iff.mpr
      rcases this with z | z
      · exact ⟨hp, by omega, by rw [z]; rfl⟩
      · exact ⟨hp, by have := z.2.1; omega, z.2.2⟩
    rw [h] at this
    cases this
  · unfold tdep
    rw [tdp_step, if_neg (fun e => hp (by rw [e]; exact Int32.le_refl _)), if_pos (Or.inl (Int32.not_le.mp hp))]
/-- right, and not the whole record: a depth above 0 -/
theorem tdep_pos {p : Int32} : 0 < tdep p ↔ cright p = true ∧ p ≠ 0 := by
  by_cases hc : cright p = true
  · obtain ⟨m, rfl, hm, h⟩ := cright_eq hc
    rw [tdep_n h hm]
    have h4 : cdp m ≤ 4 := (cdp_le hm (Nat.le_refl 4)).mpr (by omega)
    constructor
    · intro g
      refine ⟨hc, fun e => ?_⟩
      have : m = 0 := by
        have := congrArg pnat e
        rw [pnat_n (by omega)] at this
        exact this
      rw [this] at g
      exact absurd g (by decide)
    · rintro ⟨_, g⟩
      have m0 : m ≠ 0 := fun e => g (by rw [e]; rfl)
      have : 0 < cdp m := by
        rcases Nat.eq_zero_or_pos (cdp m) with e | e
        · have := (cdp_le hm (k := 0) (by omega)).mp (by omega)
          omega
        · exact e
      exact nI_lt (a := 0) this (by omega)
  · rw [tdep_no (by simpa using hc)]
    constructor
    · intro g; exact absurd g (by decide)
    · rintro ⟨g, _⟩; exact absurd g hc
