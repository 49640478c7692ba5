/-! PART 58: plain law: moves of right paths -/
theorem cri_app : ∀ (j n a q : Nat), a < 128 ^ j → (j = 0 ∨ 128 ^ (j - 1) ≤ a) → cri j a = true → cri n q = true → cri (j + n) (a + q * 128 ^ j) = true := by
  intro j
  induction j with
  | zero =>
    intro n a q ha _ _ hq
    have : a = 0 := by simpa using ha
    subst this
    simpa using hq
  | succ j ih =>
    intro n a q ha hb hc hq
    have hb : 128 ^ j ≤ a := by simpa using hb
    have p0 : 0 < 128 ^ j := Nat.pow_pos (by decide)
    have a0 : ¬ a = 0 := by omega
    rw [cri, if_neg a0] at hc
    split at hc
    · rename_i g
      rw [show j + 1 + n = (j + n) + 1 by omega, cri]
      have e : a + q * 128 ^ (j + 1) = a + 128 * (q * 128 ^ j) := by rw [Nat.pow_succ, ← Nat.mul_assoc, Nat.mul_comm _ 128]
      rw [e, if_neg (by omega), if_pos (by omega), show (a + 128 * (q * 128 ^ j)) / 128 = a / 128 + q * 128 ^ j by omega]
      refine ih n (a / 128) q ?_ ?_ hc hq
      · rw [Nat.pow_succ] at ha
        exact Nat.div_lt_of_lt_mul (by rw [Nat.mul_comm]; exact ha)
      · cases j with
        | zero => exact Or.inl rfl
        | succ i =>
          right
          rw [Nat.pow_succ] at hb
          show 128 ^ i ≤ a / 128
          exact (Nat.le_div_iff_mul_le (by decide)).mpr hb
    · cases hc
theorem cri_div : ∀ (j n m : Nat), cri (j + n) m = true → cri n (m / 128 ^ j) = true := by
  intro j
  induction j with
  | zero => intro n m h; simpa using h
  | succ j ih =>
    intro n m h
    rw [show j + 1 + n = (j + n) + 1 by omega, cri] at h
    rw [Nat.pow_succ, Nat.mul_comm, ← Nat.div_div_eq_div_mul]
    split at h
    · rename_i e; rw [e]; simp only [Nat.zero_div]; exact cri_0 n
    split at h
    · exact ih n _ h
    · cases h
theorem cri_mono : ∀ (n k m : Nat), m < 128 ^ n → cri (n + k) m = true → cri n m = true := by
  intro n
  induction n with
  | zero => intro k m h _; rfl
  | succ n ih =>
    intro k m h hc
    rw [show n + 1 + k = (n + k) + 1 by omega, cri] at hc
    rw [cri]
    split at hc
    · rename_i e; rw [if_pos e]
    · rename_i e
      rw [if_neg e]
      split at hc
      · rename_i g
        rw [if_pos g]
        rw [Nat.pow_succ] at h
        exact ih k _ (Nat.div_lt_of_lt_mul (by rw [Nat.mul_comm]; exact h)) hc
      · cases hc
theorem cri_more : ∀ (n k m : Nat), m < 128 ^ n → cri n m = true → cri (n + k) m = true := by
  intro n
  induction n with
  | zero =>
    intro k m h _
    have : m = 0 := by simpa using h
    rw [this]; exact cri_0 _
  | succ n ih =>
    intro k m h hc
    rw [show n + 1 + k = (n + k) + 1 by omega, cri]
    rw [cri] at hc
    split at hc
    · rename_i e; rw [if_pos e]
    · rename_i e
      rw [if_neg e]
      split at hc
      · rename_i g
        rw [if_pos g]
        rw [Nat.pow_succ] at h
        exact ih k _ (Nat.div_lt_of_lt_mul (by rw [Nat.mul_comm]; exact h)) hc
      · cases hc
/-- right paths, the whole record not among them -/
def nok (m : Nat) : Prop := m < 2 ^ 28 ∧ cri 4 m = true ∧ m ≠ 0
theorem nok.c {m : Nat} (h : nok m) : 1 ≤ cdp m ∧ cdp m ≤ 4 ∧ m < 128 ^ cdp m ∧ 128 ^ (cdp m - 1) ≤ m := ⟨cdp1 h.2.2, cdp4 h.1, cdp_lt h.1, cdp_ge h.1 h.2.2⟩
/-- what stands behind the names of f -/
theorem nin_q {f x : Nat} (hf : nok f) (hx : nok x) (hi : nin f x = true) : cri (4 - cdp f) (x / 128 ^ cdp f) = true ∧ x / 128 ^ cdp f < 128 ^ (4 - cdp f) := by
  obtain ⟨h1, h4, _, _⟩ := hf.c
  constructor
  · apply cri_div (cdp f)
    rw [show cdp f + (4 - cdp f) = 4 by omega]
    exact hx.2.1
  · apply Nat.div_lt_of_lt_mul
    rw [← Nat.pow_add, show cdp f + (4 - cdp f) = 4 by omega]
    exact hx.1
theorem nin_t (t q : Nat) (ht : nok t) : nin t (t + q * 128 ^ cdp t) = true := by
  unfold nin
  rw [Nat.add_mul_mod_self_right, Nat.mod_eq_of_lt ht.c.2.2.1]
  exact decide_eq_true rfl
theorem nin_d (t q : Nat) (ht : nok t) : (t + q * 128 ^ cdp t) / 128 ^ cdp t = q := by
  rw [Nat.add_mul_div_right _ _ (Nat.pow_pos (by decide)), Nat.div_eq_of_lt ht.c.2.2.1]
  omega
theorem nin_self {f : Nat} (hf : nok f) : nin f f = true := by
  have := nin_t f 0 hf
  simpa using this
theorem nin_eq0 {f x : Nat} (hf : nok f) (h : nin f x = true) : x / 128 ^ cdp f = 0 ↔ x = f := by
  have := nin_eq h
  constructor
  · intro e; rw [e] at this; omega
  · intro e; rw [e]; exact Nat.div_eq_of_lt hf.c.2.2.1
/-- the moved path is right -/
theorem nmv_ok {f t x : Nat} (hf : nok f) (ht : nok t) (hx : nok x) (hfit : nin f x = true → x / 128 ^ cdp f < 128 ^ (4 - cdp t)) : nok (nmv f t x) ∧ (nin f x = true → x / 128 ^ cdp f * 128 ^ cdp t < 2 ^ 28) := by
  unfold nmv
  by_cases hi : nin f x = true
  · rw [if_pos hi]
    obtain ⟨q1, q2⟩ := nin_q hf hx hi
    have q3 := hfit hi
    obtain ⟨t1, t4, tl, tg⟩ := ht.c
    have hq : x / 128 ^ cdp f * 128 ^ cdp t + 128 ^ cdp t ≤ 2 ^ 28 := by
      have : (x / 128 ^ cdp f + 1) * 128 ^ cdp t ≤ 128 ^ (4 - cdp t) * 128 ^ cdp t := Nat.mul_le_mul_right _ q3
      rw [← Nat.pow_add, show 4 - cdp t + cdp t = 4 by omega, Nat.add_mul] at this
      simpa using this
    refine ⟨⟨by omega, ?_, by have := ht.2.2; omega⟩, fun _ => by have : 0 < 128 ^ cdp t := Nat.pow_pos (by decide); omega⟩
    have c1 : cri (cdp t) t = true := cri_mono (cdp t) (4 - cdp t) t tl (by rw [show cdp t + (4 - cdp t) = 4 by omega]; exact ht.2.1)
    have c2 : cri (4 - cdp t) (x / 128 ^ cdp f) = true := by
      rcases Nat.le_total (4 - cdp f) (4 - cdp t) with g | g
      · have := cri_more (4 - cdp f) (4 - cdp t - (4 - cdp f)) _ q2 q1
        rwa [show 4 - cdp f + (4 - cdp t - (4 - cdp f)) = 4 - cdp t by omega] at this
      · exact cri_mono (4 - cdp t) (4 - cdp f - (4 - cdp t)) _ q3 (by rw [show 4 - cdp t + (4 - cdp f - (4 - cdp t)) = 4 - cdp f by omega]; exact q1)
    have := cri_app (cdp t) (4 - cdp t) t _ tl (Or.inr tg) c1 c2
    rwa [show cdp t + (4 - cdp t) = 4 by omega] at this
  · rw [if_neg hi]
    exact ⟨hx, fun h => absurd h hi⟩
/-- back again -/
theorem nmv_back {f t x : Nat} (hf : nok f) (ht : nok t) (h : nin f x = false → nin t x = false) : nmv t f (nmv f t x) = x := by
  unfold nmv
  by_cases hi : nin f x = true
  · rw [if_pos hi, if_pos (nin_t _ _ ht), nin_d _ _ ht, ← nin_eq hi]
  · rw [if_neg hi]
    rw [if_neg]
    rw [h (by simpa using hi)]
    simp
theorem nmv_inj {f t x y : Nat} (hf : nok f) (ht : nok t) (hx : nin f x = false → nin t x = false) (hy : nin f y = false → nin t y = false) (h : nmv f t x = nmv f t y) : x = y := by
  rw [← nmv_back hf ht hx, h, nmv_back hf ht hy]
theorem nren_ok {f n : Nat} (hf : nok f) (hn : n ≤ 99) : nok (nren f n) ∧ cdp (nren f n) = cdp f := by
  obtain ⟨a, b, c, d⟩ := nren_lt hf.1 hf.2.2 hn
  obtain ⟨e1, e2, e3, _⟩ := npar_cdp hf.1 hf.2.1 hf.2.2
  obtain ⟨f1, f4, fl, fg⟩ := hf.c
  refine ⟨⟨c, ?_, ?_⟩, d⟩
  · have p0 : npar f < 128 ^ (cdp f - 1) := Nat.mod_lt _ (Nat.pow_pos (by decide))
    have := cri_app (cdp f - 1) (4 - (cdp f - 1)) (npar f) (n + 1) p0 (by
      rcases Nat.eq_zero_or_pos (cdp f - 1) with z | z
      · exact Or.inl z
      · right
        have n0 : npar f ≠ 0 := by intro e; rw [e] at e1; have : cdp 0 = 0 := rfl; omega
        have := cdp_ge (m := npar f) (by omega) n0
        rwa [e1] at this) (cri_mono (cdp f - 1) (4 - (cdp f - 1)) _ p0 (by rw [show cdp f - 1 + (4 - (cdp f - 1)) = 4 by omega]; exact e2)) (show cri (4 - (cdp f - 1)) (n + 1) = true by
        rw [show 4 - (cdp f - 1) = (4 - cdp f) + 1 by omega, cri, if_neg (by omega), if_pos (by omega), show (n + 1) / 128 = 0 by omega]
        exact cri_0 _)
    rw [show cdp f - 1 + (4 - (cdp f - 1)) = 4 by omega] at this
    exact this
  · have : 0 < 128 ^ (cdp f - 1) := Nat.pow_pos (by decide)
    omega
theorem nlif_eq {f : Nat} (hf : nok f) (h2 : 2 ≤ cdp f) : nlif f = npar (npar f) + (nname f + 1) * 128 ^ (cdp f - 2) := by
  obtain ⟨e1, e2, e3, e4⟩ := npar_cdp hf.1 hf.2.1 hf.2.2
  unfold nlif nname
  have := hf.c
  have g : 1 ≤ f / 128 ^ (cdp f - 1) := by
    rcases Nat.eq_zero_or_pos (f / 128 ^ (cdp f - 1)) with z | z
    · have := (Nat.div_eq_zero_iff).mp z
      have : 0 < 128 ^ (cdp f - 1) := Nat.pow_pos (by decide)
      omega
    · exact z
  rw [show f / 128 ^ (cdp f - 1) - 1 + 1 = f / 128 ^ (cdp f - 1) by omega]
  congr 1
  show _ = npar f % 128 ^ (cdp (npar f) - 1)
  rw [e1]
  unfold npar
  rw [Nat.mod_mod_of_dvd _ (Nat.pow_dvd_pow _ (by omega)), Nat.sub_sub]
theorem nlif_ok {f : Nat} (hf : nok f) (h2 : 2 ≤ cdp f) : nok (nlif f) ∧ cdp (nlif f) = cdp f - 1 := by
  obtain ⟨e1, e2, e3, e4⟩ := npar_cdp hf.1 hf.2.1 hf.2.2
  obtain ⟨f1, f4, fl, fg⟩ := hf.c
  have n0 : npar f ≠ 0 := by intro e; rw [e] at e1; have : cdp 0 = 0 := rfl; omega
  have hp : nok (npar f) := ⟨by omega, e2, n0⟩
  have : nlif f = nren (npar f) (nname f) := by
    rw [nlif_eq hf h2]
    unfold nren
    rw [e1, Nat.sub_sub]
    unfold npar
    rw [show cdp (f % 128 ^ (cdp f - 1)) = cdp f - 1 from e1, Nat.sub_sub]
  rw [this]
  have := nren_ok hp (nname_le hf.1 hf.2.1)
  rw [e1] at this
  exact this
/-- taken into its record again -/
theorem nsun_lif {f : Nat} (hf : nok f) (h2 : 2 ≤ cdp f) : nsun (nlif f) (nname (npar f)) = f := by
  obtain ⟨a, b, c, d⟩ := nlif_lt hf.1 h2
  have e1 := (npar_cdp hf.1 hf.2.1 hf.2.2).1
  unfold nsun nname
  rw [d, e1]
  unfold nlif npar
  rcases cri_cases hf.2.1 hf.1 with ⟨e, hd⟩ | ⟨a, e, a1, a2, hd⟩ | ⟨a, b, e, a1, a2, b1, b2, hd⟩ | ⟨a, b, c, e, a1, a2, b1, b2, c1, c2, hd⟩ | ⟨a, b, c, d, e, a1, a2, b1, b2, c1, c2, d1, d2, hd⟩
  · omega
  · omega
  · rw [hd]; simp only [Nat.reducePow, Nat.reduceSub, Nat.mod_one]
    omega
  · rw [hd]; simp only [Nat.reducePow, Nat.reduceSub, Nat.mod_one]
    omega
  · rw [hd]; simp only [Nat.reducePow, Nat.reduceSub, Nat.mod_one]
    omega
theorem nren_ren {f n : Nat} (hf : nok f) (hn : n ≤ 99) : nren (nren f n) (nname f) = f := by
  obtain ⟨a, b, c, d⟩ := nren_lt hf.1 hf.2.2 hn
  obtain ⟨e1, e2, e3, e4⟩ := npar_cdp hf.1 hf.2.1 hf.2.2
  have h := nren f n
  rw [nren, d]
  have : nren f n % 128 ^ (cdp f - 1) = npar f := by
    unfold nren
    rw [Nat.add_mul_mod_self_right, Nat.mod_mod]
    rfl
  rw [this]
  exact e4.symm
