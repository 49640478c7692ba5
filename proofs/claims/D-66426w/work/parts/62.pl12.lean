/-! PART 62: plain law: quotients -/
theorem bmod64 {x : Int} (h1 : -9223372036854775808 ≤ x) (h2 : x < 9223372036854775808) : x.bmod (2 ^ 64) = x := Int.bmod_eq_of_le (by simpa using h1) (by simpa using h2)
theorem bmod32 {x : Int} (h1 : -2147483648 ≤ x) (h2 : x < 2147483648) : x.bmod (2 ^ 32) = x := Int.bmod_eq_of_le (by simpa using h1) (by simpa using h2)
theorem i64_b (a : Int64) : -9223372036854775808 ≤ a.toInt ∧ a.toInt < 9223372036854775808 := by
  have h1 := Int64.le_toInt a
  have h2 := Int64.toInt_lt a
  omega
theorem i32_b (a : Int32) : -2147483648 ≤ a.toInt ∧ a.toInt < 2147483648 := by
  have h1 := Int32.le_toInt a
  have h2 := Int32.toInt_lt a
  omega
/-- the quotient towards 0, and the floor -/
theorem tdiv_floor {a b : Int} (hb : 0 < b) : (a.tdiv b = a / b ∧ a.tdiv b * b ≤ a ∧ (0 ≤ a ∨ a.tdiv b * b = a) ∨ a.tdiv b = a / b + 1 ∧ a < a.tdiv b * b ∧ a < 0 ∧ a ≤ a / b) := by
  have e := Int.tdiv_eq_ediv (a := a) (b := b)
  have m := Int.mul_ediv_add_emod a b
  have m0 := Int.emod_nonneg a (Int.ne_of_gt hb)
  have m1 := Int.emod_lt_of_pos a hb
  have c : a / b * b = b * (a / b) := Int.mul_comm _ _
  by_cases h : 0 ≤ a ∨ b ∣ a
  · rw [if_pos h, Int.add_zero] at e
    refine Or.inl ⟨e, by rw [e]; omega, ?_⟩
    rcases h with h | h
    · exact Or.inl h
    · right
      have := Int.emod_eq_zero_of_dvd h
      rw [e]; omega
  · rw [if_neg h, Int.sign_eq_one_of_pos hb] at e
    have a0 : a < 0 := by omega
    refine Or.inr ⟨e, ?_, a0, ?_⟩
    · rw [e, Int.add_mul]; omega
    · apply (Int.le_ediv_iff_mul_le hb).mpr
      have := Int.mul_le_mul_of_nonneg_left (show 1 ≤ b by omega) (show 0 ≤ -a by omega)
      have e1 : -a * b = -(a * b) := Int.neg_mul _ _
      omega
theorem tdiv_abs {a b : Int} (hb : 0 < b) : (0 ≤ a → 0 ≤ a.tdiv b ∧ a.tdiv b ≤ a ∧ 0 ≤ a.tdiv b * b ∧ a.tdiv b * b ≤ a) ∧ (a < 0 → a ≤ a.tdiv b ∧ a.tdiv b ≤ 0 ∧ a ≤ a.tdiv b * b ∧ a.tdiv b * b ≤ 0) := by
  have m := Int.tmod_add_mul_tdiv a b
  have c : a.tdiv b * b = b * a.tdiv b := Int.mul_comm _ _
  constructor
  · intro h
    have q0 : 0 ≤ a.tdiv b := Int.tdiv_nonneg h (by omega)
    have r0 := Int.tmod_nonneg b h
    have q1 := Int.mul_le_mul_of_nonneg_left (show 1 ≤ b by omega) q0
    have p0 := Int.mul_nonneg q0 (show 0 ≤ b by omega)
    exact ⟨q0, by omega, by omega, by omega⟩
  · intro h
    have e : a.tdiv b = - ((-a).tdiv b) := by rw [Int.neg_tdiv]; omega
    have q0 : 0 ≤ (-a).tdiv b := Int.tdiv_nonneg (by omega) (by omega)
    have m' := Int.tmod_add_mul_tdiv (-a) b
    have r0 := Int.tmod_nonneg b (show 0 ≤ -a by omega)
    have q1 := Int.mul_le_mul_of_nonneg_left (show 1 ≤ b by omega) q0
    have p0 := Int.mul_nonneg q0 (show 0 ≤ b by omega)
    have c2 : (-a).tdiv b * b = b * (-a).tdiv b := Int.mul_comm _ _
    have c3 : a.tdiv b * b = - ((-a).tdiv b * b) := by rw [e, Int.neg_mul]
    exact ⟨by omega, by omega, by omega, by omega⟩
theorem div64 {a b : Int64} (hb : 0 < b.toInt) : (a / b).toInt = a.toInt.tdiv b.toInt ∧ (a / b * b).toInt = a.toInt.tdiv b.toInt * b.toInt := by
  have hA := i64_b a
  have h := tdiv_abs (a := a.toInt) hb
  have e : (a / b).toInt = a.toInt.tdiv b.toInt := Int64.toInt_div_of_ne_right _ _ (by intro e; rw [e] at hb; exact absurd hb (by decide))
  refine ⟨e, ?_⟩
  rw [Int64.toInt_mul, e]
  rcases Int.lt_or_le a.toInt 0 with g | g
  · have := h.2 g
    exact bmod64 (by omega) (by omega)
  · have := h.1 g
    exact bmod64 (by omega) (by omega)
theorem sub1_64 {x : Int64} (h : -9223372036854775808 < x.toInt) : (x - 1).toInt = x.toInt - 1 := by
  rw [Int64.toInt_sub]
  have := i64_b x
  exact bmod64 (by show _ ≤ x.toInt - 1; omega) (by show x.toInt - 1 < _; omega)
theorem tfl_int (a : Int64) {b : Int64} (hb : 0 < b.toInt) : (tfl a b).toInt = a.toInt / b.toInt := by
  obtain ⟨e1, e2⟩ := div64 (a := a) hb
  have hA := i64_b a
  have h := tdiv_abs (a := a.toInt) hb
  unfold tfl
  rcases tdiv_floor (a := a.toInt) hb with ⟨f1, f2, _⟩ | ⟨f1, f2, f3, f4⟩
  · rw [if_pos (Int64.le_iff_toInt_le.mpr (by rw [e2]; exact f2)), e1, f1]
  · rw [if_neg (fun g => by have := Int64.le_iff_toInt_le.mp g; rw [e2] at this; omega), sub1_64 (by rw [e1]; have := h.2 f3; omega), e1, f1]
    omega
theorem xor64 {a b : Int64} (hb : 0 < b.toInt) : 0 ≤ a ^^^ b ↔ 0 ≤ a.toInt := by
  rw [Int64.le_iff_toInt_le]
  have z : (0 : Int64).toInt = 0 := by decide
  rw [z]
  have m1 : (a ^^^ b).toBitVec.msb = (a.toBitVec.msb ^^ b.toBitVec.msb) := by rw [Int64.toBitVec_xor, BitVec.msb_xor]
  have m2 : b.toBitVec.msb = false := by rw [BitVec.msb_eq_toInt]; exact decide_eq_false (by show ¬ b.toInt < 0; omega)
  rw [m2, Bool.xor_false, BitVec.msb_eq_toInt, BitVec.msb_eq_toInt] at m1
  have m3 : ((a ^^^ b).toInt < 0) ↔ (a.toInt < 0) := by
    exact decide_eq_decide.mp m1
  omega
/-- the component's quotient is the reference's -/
theorem cflJ_tfl (a : Int64) {b : Int64} (hb : 0 < b.toInt) : cflJ a b = tfl a b := by
  obtain ⟨e1, e2⟩ := div64 (a := a) hb
  have hA := i64_b a
  unfold cflJ tfl
  rcases tdiv_floor (a := a.toInt) hb with ⟨f1, f2, f3⟩ | ⟨f1, f2, f3, f4⟩
  · rw [if_pos (Int64.le_iff_toInt_le.mpr (by rw [e2]; exact f2)), if_pos]
    rcases f3 with f3 | f3
    · exact Or.inl ((xor64 hb).mpr f3)
    · exact Or.inr (Int64.toInt_inj.mp (by rw [e2]; exact f3))
  · have n1 : ¬ a / b * b ≤ a := fun g => by have := Int64.le_iff_toInt_le.mp g; rw [e2] at this; omega
    have n2 : ¬ (0 ≤ a ^^^ b ∨ a / b * b = a) := by
      rintro (g | g)
      · have := (xor64 hb).mp g; omega
      · rw [← Int64.toInt_inj, e2] at g; omega
    rw [if_neg n1, if_neg n2]
theorem div32 {a b : Int32} (hb : 0 < b.toInt) : (a / b).toInt = a.toInt.tdiv b.toInt ∧ (a / b * b).toInt = a.toInt.tdiv b.toInt * b.toInt := by
  have hA := i32_b a
  have h := tdiv_abs (a := a.toInt) hb
  have e : (a / b).toInt = a.toInt.tdiv b.toInt := Int32.toInt_div_of_ne_right _ _ (by intro e; rw [e] at hb; exact absurd hb (by decide))
  refine ⟨e, ?_⟩
  rw [Int32.toInt_mul, e]
  rcases Int.lt_or_le a.toInt 0 with g | g
  · have := h.2 g
    exact bmod32 (by omega) (by omega)
  · have := h.1 g
    exact bmod32 (by omega) (by omega)
theorem xor32 {a b : Int32} (hb : 0 < b.toInt) : 0 ≤ a ^^^ b ↔ 0 ≤ a.toInt := by
  rw [Int32.le_iff_toInt_le]
  have z : (0 : Int32).toInt = 0 := by decide
  rw [z]
  have m1 : (a ^^^ b).toBitVec.msb = (a.toBitVec.msb ^^ b.toBitVec.msb) := by rw [Int32.toBitVec_xor, BitVec.msb_xor]
  have m2 : b.toBitVec.msb = false := by rw [BitVec.msb_eq_toInt]; exact decide_eq_false (by show ¬ b.toInt < 0; omega)
  rw [m2, Bool.xor_false, BitVec.msb_eq_toInt, BitVec.msb_eq_toInt] at m1
  have m3 : ((a ^^^ b).toInt < 0) ↔ (a.toInt < 0) := by
    exact decide_eq_decide.mp m1
  omega
theorem cflI_int (a : Int32) {b : Int32} (hb : 0 < b.toInt) : (cflI a b).toInt = a.toInt / b.toInt := by
  obtain ⟨e1, e2⟩ := div32 (a := a) hb
  have hA := i32_b a
  have h := tdiv_abs (a := a.toInt) hb
  unfold cflI
  rcases tdiv_floor (a := a.toInt) hb with ⟨f1, f2, f3⟩ | ⟨f1, f2, f3, f4⟩
  · rw [if_pos, e1, f1]
    rcases f3 with f3 | f3
    · exact Or.inl ((xor32 hb).mpr f3)
    · exact Or.inr (Int32.toInt_inj.mp (by rw [e2]; exact f3))
  · rw [if_neg]
    · have := h.2 f3
      rw [Int32.toInt_sub, e1, f1]
      rw [bmod32 (by show _ ≤ a.toInt / b.toInt + 1 - 1; omega) (by show a.toInt / b.toInt + 1 - 1 < _; omega)]
      show a.toInt / b.toInt + 1 - 1 = _
      omega
    · rintro (g | g)
      · have := (xor32 hb).mp g; omega
      · rw [← Int32.toInt_inj, e2] at g; omega
theorem ediv_b {a b : Int} (hb : 0 < b) {M : Int} (hM : 0 ≤ M) (h1 : -M ≤ a) (h2 : a < M) : -M ≤ a / b ∧ a / b < M := by
  have h := tdiv_abs (a := a) hb
  constructor
  · apply (Int.le_ediv_iff_mul_le hb).mpr
    have := Int.mul_le_mul_of_nonneg_left (show 1 ≤ b by omega) hM
    rw [Int.neg_mul]
    omega
  · apply (Int.ediv_lt_iff_lt_mul hb).mpr
    have := Int.mul_le_mul_of_nonneg_left (show 1 ≤ b by omega) hM
    omega
theorem tqo_int (x : Int32) {a : Int32} (ha : 0 < a.toInt) : (tqo x a).toInt = x.toInt / a.toInt := by
  unfold tqo
  rw [Int64.toInt_toInt32, tfl_int _ (by rw [Int32.toInt_toInt64]; exact ha), Int32.toInt_toInt64, Int32.toInt_toInt64]
  have hx := i32_b x
  have := ediv_b ha (M := 2147483648) (by omega) hx.1 hx.2
  exact bmod32 this.1 this.2
theorem tqo_cflI (x : Int32) {a : Int32} (ha : 0 < a.toInt) : cflI x a = tqo x a := Int32.toInt_inj.mp (by rw [cflI_int x ha, tqo_int x ha])
theorem tre_int (x : Int32) {a : Int32} (ha : 0 < a.toInt) : (tre x a).toInt = x.toInt % a.toInt := by
  have hx := i32_b x
  have hA := i32_b a
  have m := Int.mul_ediv_add_emod x.toInt a.toInt
  have m0 := Int.emod_nonneg x.toInt (Int.ne_of_gt ha)
  have m1 := Int.emod_lt_of_pos x.toInt ha
  unfold tre
  rw [Int64.toInt_toInt32, Int64.toInt_sub, Int64.toInt_mul, tfl_int _ (by rw [Int32.toInt_toInt64]; exact ha), Int32.toInt_toInt64, Int32.toInt_toInt64]
  rw [bmod64 (x := a.toInt * (x.toInt / a.toInt)) (by omega) (by omega), bmod64 (by omega) (by omega), bmod32 (by omega) (by omega)]
  omega
theorem cfmI_int (x : Int32) {a : Int32} (ha : 0 < a.toInt) : (cfmI x a).toInt = x.toInt % a.toInt := by
  obtain ⟨e1, e2⟩ := div32 (a := x) ha
  have hx := i32_b x
  have hA := i32_b a
  have h := tdiv_abs (a := x.toInt) ha
  have m := Int.mul_ediv_add_emod x.toInt a.toInt
  have c : x.toInt / a.toInt * a.toInt = a.toInt * (x.toInt / a.toInt) := Int.mul_comm _ _
  have m0 := Int.emod_nonneg x.toInt (Int.ne_of_gt ha)
  have m1 := Int.emod_lt_of_pos x.toInt ha
  have e3 : (x - x / a * a).toInt = x.toInt - x.toInt.tdiv a.toInt * a.toInt := by
    rw [Int32.toInt_sub, e2]
    rcases Int.lt_or_le x.toInt 0 with g | g
    · have := h.2 g
      exact bmod32 (by omega) (by omega)
    · have := h.1 g
      exact bmod32 (by omega) (by omega)
  unfold cfmI
  rcases tdiv_floor (a := x.toInt) ha with ⟨f1, f2, f3⟩ | ⟨f1, f2, f3, f4⟩
  · rw [if_pos, e3, f1]
    · omega
    rcases f3 with f3 | f3
    · exact Or.inl ((xor32 ha).mpr f3)
    · refine Or.inr (Int32.toInt_inj.mp ?_)
      rw [e3, f3]
      show _ = 0
      omega
  · rw [f1, Int.add_mul] at e3 f2
    rw [if_neg]
    · rw [Int32.toInt_add, e3, bmod32 (by omega) (by omega)]
      omega
    · rintro (g | g)
      · have := (xor32 ha).mp g; omega
      · rw [← Int32.toInt_inj, e3] at g
        have : (0 : Int32).toInt = 0 := by decide
        omega
theorem tre_cfmI (x : Int32) {a : Int32} (ha : 0 < a.toInt) : cfmI x a = tre x a := Int32.toInt_inj.mp (by rw [cfmI_int x ha, tre_int x ha])
theorem i32_pos {a : Int32} (h : 1 ≤ a) : 0 < a.toInt := by
  have := Int32.le_iff_toInt_le.mp h
  have : (1 : Int32).toInt = 1 := by decide
  omega
theorem i64_pos {a : Int32} (h : 1 ≤ a) : 0 < a.toInt64.toInt := by rw [Int32.toInt_toInt64]; exact i32_pos h
theorem tqo_mono {x y a : Int32} (ha : 1 ≤ a) (h : x ≤ y) : tqo x a ≤ tqo y a := by
  rw [Int32.le_iff_toInt_le, tqo_int x (i32_pos ha), tqo_int y (i32_pos ha)]
  exact Int.ediv_le_ediv (i32_pos ha) (Int32.le_iff_toInt_le.mp h)
theorem tii_int {q : Int64} : tii q = true ↔ -2147483648 ≤ q.toInt ∧ q.toInt < 2147483648 := by
  unfold tii
  rw [decide_eq_true_eq, Int64.le_iff_toInt_le, Int64.le_iff_toInt_le]
  have e1 : (-2147483648 : Int64).toInt = -2147483648 := by decide
  have e2 : (2147483647 : Int64).toInt = 2147483647 := by decide
  omega
/-- the component's way to ask it -/
theorem tii_c {q : Int64} : tii q = decide (q = q.toInt32.toInt64) := by
  rw [Bool.eq_iff_iff, tii_int, decide_eq_true_eq, ← Int64.toInt_inj, Int32.toInt_toInt64, Int64.toInt_toInt32]
  have := i32_b q.toInt32
  rw [Int64.toInt_toInt32] at this
  constructor
  · rintro ⟨a, b⟩; exact (bmod32 a b).symm
  · intro e; rw [← e] at this; exact this
theorem mul64 (a x : Int32) : (a.toInt64 * x.toInt64).toInt = a.toInt * x.toInt := by
  have hA := i32_b a
  have hX := i32_b x
  rw [Int64.toInt_mul, Int32.toInt_toInt64, Int32.toInt_toInt64]
  have g1 : (a.toInt * x.toInt).natAbs ≤ 2147483648 * 2147483648 := by
    rw [Int.natAbs_mul]
    exact Nat.mul_le_mul (by omega) (by omega)
  exact bmod64 (by omega) (by omega)
theorem tsc_mono {x y a b : Int32} (ha : 1 ≤ a) (hb : 1 ≤ b) (h : x ≤ y) (h1 : tii (tfl (a.toInt64 * x.toInt64) b.toInt64) = true) (h2 : tii (tfl (a.toInt64 * y.toInt64) b.toInt64) = true) : tsc true x a b 0 0 ≤ tsc true y a b 0 0 := by
  have h1 := tii_int.mp h1
  have h2 := tii_int.mp h2
  unfold tsc
  simp only [if_true]
  rw [Int32.le_iff_toInt_le, Int64.toInt_toInt32, Int64.toInt_toInt32, bmod32 h1.1 h1.2, bmod32 h2.1 h2.2, tfl_int _ (i64_pos hb), tfl_int _ (i64_pos hb), mul64, mul64]
  apply Int.ediv_le_ediv (i64_pos hb)
  exact Int.mul_le_mul_of_nonneg_left (Int32.le_iff_toInt_le.mp h) (by have := i32_pos ha; omega)
/-- the component's scaling -/
theorem tsc_s {x a b lo hi : Int32} (hb : 1 ≤ b) : (cquo x a b).toInt32 = tsc true x a b lo hi := by
  unfold cquo tsc
  rw [cflJ_tfl _ (i64_pos hb), Int64.mul_comm]
  rfl
theorem tsc_u {x a b lo hi : Int32} (ha : 1 ≤ a) (h : lo ≤ hi) : (cmxJ lo.toInt64 (cmnJ hi.toInt64 (cquo x b a))).toInt32 = tsc false x a b lo hi := by
  unfold cquo tsc twi
  rw [cflJ_tfl _ (i64_pos ha), Int64.mul_comm]
  simp only [Bool.false_eq_true, if_false]
  congr 1
  generalize tfl (b.toInt64 * x.toInt64) a.toInt64 = v
  have hle : lo.toInt64 ≤ hi.toInt64 := by
    rw [Int64.le_iff_toInt_le, Int32.toInt_toInt64, Int32.toInt_toInt64]
    exact Int32.le_iff_toInt_le.mp h
  unfold cmxJ cmnJ
  by_cases c1 : v < hi.toInt64
  · rw [if_pos c1, if_pos (Int64.le_of_lt c1)]
    by_cases c2 : lo.toInt64 < v
    · rw [if_pos c2, if_pos (Int64.le_of_lt c2)]
    · rw [if_neg c2]
      split
      · rename_i g
        exact Int64.le_antisymm g (Int64.not_lt.mp c2)
      · rfl
  · rw [if_neg c1]
    have c1 := Int64.not_lt.mp c1
    rw [if_pos (Int64.le_trans hle c1)]
    have e1 : (if lo.toInt64 < hi.toInt64 then hi.toInt64 else lo.toInt64) = hi.toInt64 := by
      split
      · rfl
      · rename_i g
        exact Int64.le_antisymm hle (Int64.not_lt.mp g)
    rw [e1]
    split
    · rename_i g
      exact Int64.le_antisymm c1 g
    · rfl
