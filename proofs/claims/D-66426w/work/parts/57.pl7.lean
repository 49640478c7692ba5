/-! PART 57: plain law: paths that move -/
def nren (f n : Nat) : Nat := f % 128 ^ (cdp f - 1) + (n + 1) * 128 ^ (cdp f - 1)
def nlif (f : Nat) : Nat := f % 128 ^ (cdp f - 2) + f / 128 ^ (cdp f - 1) * 128 ^ (cdp f - 2)
def nsun (f n : Nat) : Nat := f % 128 ^ (cdp f - 1) + (n + 1) * 128 ^ (cdp f - 1) + f / 128 ^ (cdp f - 1) * 128 ^ cdp f
def nin (f x : Nat) : Bool := decide (x % 128 ^ cdp f = f)
def nmv (f t x : Nat) : Nat := if nin f x = true then t + x / 128 ^ cdp f * 128 ^ cdp t else x
theorem cdp4 {m : Nat} (hm : m < 2 ^ 28) : cdp m ≤ 4 := (cdp_le hm (Nat.le_refl 4)).mpr (by omega)
theorem cdp1 {m : Nat} (h0 : m ≠ 0) : 1 ≤ cdp m := by
  unfold cdp
  rw [if_neg h0]
  split
  · omega
  split
  · omega
  split <;> omega
theorem cdp_lt {m : Nat} (hm : m < 2 ^ 28) : m < 128 ^ cdp m := by
  rw [pw7]
  exact (cdp_le hm (cdp4 hm)).mp (Nat.le_refl _)
theorem tbes_n {f n : Nat} (hf : f < 2 ^ 28) (hc : cri 4 f = true) (h0 : f ≠ 0) (hn : n ≤ 99) : tbes (nI f) (nI n) = nI (nren f n) := by
  unfold tbes nren
  have h1 := cdp1 h0
  have h4 := cdp4 hf
  rw [tdep_n hc hf, nI_sb1 h1, tcut_n hf (by omega), nI_1, tins_n (Nat.mod_lt _ (Nat.pow_pos (by decide))) (by omega) (by omega)]
theorem tbeh_0 {f n : Nat} (hf : f < 2 ^ 28) (hc : cri 4 f = true) (h0 : f ≠ 0) (hn : n ≤ 99) : tbeh 0 (nI f) (nI n) = nI (nren f n) := by
  have := tbes_n hf hc h0 hn
  unfold tbeh
  rw [if_pos rfl]
  exact this
theorem tbeh_4 {f : Nat} {a : Int32} (hf : f < 2 ^ 28) (hc : cri 4 f = true) (h2 : 2 ≤ cdp f) : tbeh 4 (nI f) a = nI (nlif f) := by
  unfold tbeh nlif
  have h4 := cdp4 hf
  have hl := cdp_lt hf
  rw [if_neg (by decide), if_pos rfl, tdep_n hc hf, nI_sb2 h2, tcut_n hf (by omega), tlast_n hf (by omega) h4]
  have e : f / 128 ^ (cdp f - 1) < 128 := by
    have : 128 ^ cdp f = 128 * 128 ^ (cdp f - 1) := by
      obtain ⟨j, hj⟩ : ∃ j, cdp f = j + 1 := ⟨cdp f - 1, by omega⟩
      rw [hj, Nat.pow_succ, Nat.mul_comm]; rfl
    rw [this] at hl
    exact Nat.div_lt_of_lt_mul (by rw [Nat.mul_comm]; exact hl)
  rw [Nat.mod_eq_of_lt e, tins_n (Nat.mod_lt _ (Nat.pow_pos (by decide))) (by omega) e]
theorem tmvp_n {f t x : Nat} (hf : f < 2 ^ 28) (hcf : cri 4 f = true) (ht : t < 2 ^ 28) (hct : cri 4 t = true) (hx : x < 2 ^ 28) (hfit : nin f x = true → x / 128 ^ cdp f * 128 ^ cdp t < 2 ^ 28) : tmvp (nI f) (nI t) (nI x) = nI (nmv f t x) := by
  unfold tmvp nmv
  have f4 := cdp4 hf
  have t4 := cdp4 ht
  have tl := cdp_lt ht
  rw [tdep_n hcf hf, tdep_n hct ht, tcut_n hx f4]
  have hm : x % 128 ^ cdp f < 2 ^ 31 := by
    have := Nat.mod_le x (128 ^ cdp f)
    omega
  have ei : (nI (x % 128 ^ cdp f) = nI f) ↔ nin f x = true := by
    unfold nin
    rw [decide_eq_true_eq]
    exact ⟨fun e => by rw [← nI_clamp hm, e, nI_clamp (by omega)], fun e => by rw [e]⟩
  by_cases hi : nin f x = true
  · rw [if_pos (ei.mpr hi), if_pos hi]
    have hfit := hfit hi
    have e0 : (if nI (cdp f) = 4 then (0 : Int32) else nI x >>> ((7 * nI (cdp f)) &&& 31)) = nI (x / 128 ^ cdp f) := by
      split
      · rename_i e
        have : cdp f = 4 := by
          have := congrArg pnat e
          rw [pnat_n (by omega)] at this
          exact this
        rw [this, Nat.div_eq_of_lt (by omega)]; rfl
      · rw [sar_n hx f4]
    rw [e0]
    split
    · rename_i e
      have e : cdp t = 4 := by
        have := congrArg pnat e
        rw [pnat_n (by omega)] at this
        exact this
      rw [e] at hfit ⊢
      have : x / 128 ^ cdp f = 0 := by omega
      rw [this]; simp
    · rw [shl_n t4 (by omega), orA tl]
  · rw [if_neg (fun e => hi (ei.mp e)), if_neg hi]
/-- a path without its name at a place -/
theorem mask_n {x k : Nat} (hx : x < 2 ^ 28) (hk : k ≤ 3) : nI x &&& ((127 <<< ((7 * nI k) &&& 31)) ^^^ (-1)) = nI (x % 128 ^ k ||| (x / 128 ^ (k + 1) * 128 ^ (k + 1))) := by
  have key : ∀ (M : Nat), M < 2 ^ 32 → (∀ i, i < 32 → M.testBit i = !(decide (7 * k ≤ i ∧ i < 7 * k + 7))) → x &&& M = x % 128 ^ k ||| (x / 128 ^ (k + 1) * 128 ^ (k + 1)) := by
    intro M hM hb
    apply Nat.eq_of_testBit_eq
    intro i
    rw [Nat.testBit_and, Nat.testBit_or, pw7, pw7, Nat.testBit_mod_two_pow, ← Nat.shiftLeft_eq, Nat.testBit_shiftLeft, ← Nat.shiftRight_eq_div_pow, Nat.testBit_shiftRight]
    by_cases hi : i < 32
    · rw [hb i hi]
      by_cases c1 : i < 7 * k
      · have c2 : ¬ i ≥ 7 * (k + 1) := by omega
        have c3 : ¬ 7 * k ≤ i := by omega
        simp [c1, c2, c3]
      · by_cases c2 : i ≥ 7 * (k + 1)
        · have c3 : ¬ i < 7 * k + 7 := by omega
          have c4 : 7 * (k + 1) + (i - 7 * (k + 1)) = i := by omega
          simp [c1, c2, c3, c4]
        · have c3 : i < 7 * k + 7 := by omega
          have c4 : 7 * k ≤ i := by omega
          simp [c1, c2, c3, c4]
    · have z : x.testBit i = false := Nat.testBit_lt_two_pow (Nat.lt_of_lt_of_le hx (Nat.pow_le_pow_right (by decide) (by omega)))
      rw [z]
      simp
      intro a
      have c4 : 7 * (k + 1) + (i - 7 * (k + 1)) = i := by omega
      rw [c4, z]
  have go : ∀ (y : Int32), (∀ i, i < 32 → y.toBitVec.toNat.testBit i = !(decide (7 * k ≤ i ∧ i < 7 * k + 7))) → nI x &&& y = nI (x % 128 ^ k ||| (x / 128 ^ (k + 1) * 128 ^ (k + 1))) := by
    intro y hy
    rw [← key y.toBitVec.toNat (BitVec.isLt _) hy]
    apply Int32.toBitVec_inj.mp
    apply BitVec.eq_of_toNat_eq
    rw [Int32.toBitVec_and, BitVec.toNat_and, pk_tn (by omega), pk_tn]
    exact Nat.lt_of_le_of_lt Nat.and_le_right (BitVec.isLt _)
  apply go
  rcases (show k = 0 ∨ k = 1 ∨ k = 2 ∨ k = 3 by omega) with rfl | rfl | rfl | rfl <;> decide
theorem cdp_of {m d : Nat} (h1 : 1 ≤ d) (h4 : d ≤ 4) (ha : 128 ^ (d - 1) ≤ m) (hb : m < 128 ^ d) : cdp m = d := by
  rcases (show d = 1 ∨ d = 2 ∨ d = 3 ∨ d = 4 by omega) with rfl | rfl | rfl | rfl <;> simp only [Nat.reducePow, Nat.reduceSub] at ha hb <;> unfold cdp
  · rw [if_neg (by omega), if_pos (by omega)]
  · rw [if_neg (by omega), if_neg (by omega), if_pos (by omega)]
  · rw [if_neg (by omega), if_neg (by omega), if_neg (by omega), if_pos (by omega)]
  · rw [if_neg (by omega), if_neg (by omega), if_neg (by omega), if_neg (by omega)]
theorem cdp_ge {m : Nat} (hm : m < 2 ^ 28) (h0 : m ≠ 0) : 128 ^ (cdp m - 1) ≤ m := by
  have h1 := cdp1 h0
  have h4 := cdp4 hm
  rcases Nat.lt_or_ge m (128 ^ (cdp m - 1)) with g | g
  · have := (cdp_le hm (k := cdp m - 1) (by omega)).mpr (by rw [← pw7]; exact g)
    omega
  · exact g
theorem nin_eq {f x : Nat} (h : nin f x = true) : x = f + x / 128 ^ cdp f * 128 ^ cdp f := by
  have := Nat.div_add_mod x (128 ^ cdp f)
  rw [of_decide_eq_true h, Nat.mul_comm] at this
  omega
theorem nren_lt {f n : Nat} (hf : f < 2 ^ 28) (h0 : f ≠ 0) (hn : n ≤ 99) : nren f n < 128 ^ cdp f ∧ 128 ^ (cdp f - 1) ≤ nren f n ∧ nren f n < 2 ^ 28 ∧ cdp (nren f n) = cdp f := by
  have h1 := cdp1 h0
  have h4 := cdp4 hf
  have a : nren f n < 128 ^ cdp f ∧ 128 ^ (cdp f - 1) ≤ nren f n ∧ nren f n < 2 ^ 28 := by
    unfold nren
    rcases (show cdp f = 1 ∨ cdp f = 2 ∨ cdp f = 3 ∨ cdp f = 4 by omega) with e | e | e | e <;> rw [e] <;> simp only [Nat.reducePow, Nat.reduceSub] <;> omega
  exact ⟨a.1, a.2.1, a.2.2, cdp_of h1 h4 a.2.1 a.1⟩
theorem nlif_lt {f : Nat} (hf : f < 2 ^ 28) (h2 : 2 ≤ cdp f) : nlif f < 128 ^ (cdp f - 1) ∧ 128 ^ (cdp f - 2) ≤ nlif f ∧ nlif f < 2 ^ 28 ∧ cdp (nlif f) = cdp f - 1 := by
  have h4 := cdp4 hf
  have hl := cdp_lt hf
  have f0 : f ≠ 0 := by intro e; rw [e] at h2; exact absurd h2 (by decide)
  have hg := cdp_ge hf f0
  have a : nlif f < 128 ^ (cdp f - 1) ∧ 128 ^ (cdp f - 2) ≤ nlif f ∧ nlif f < 2 ^ 28 := by
    unfold nlif
    rcases (show cdp f = 2 ∨ cdp f = 3 ∨ cdp f = 4 by omega) with e | e | e <;> rw [e] at hl hg ⊢ <;> simp only [Nat.reducePow, Nat.reduceSub] at hl hg ⊢ <;> omega
  exact ⟨a.1, a.2.1, a.2.2, cdp_of (by omega) (by omega) (by rw [Nat.sub_sub]; exact a.2.1) a.1⟩
theorem cren_n {x f n : Nat} (hx : x < 2 ^ 28) (hf : f < 2 ^ 28) (h0 : f ≠ 0) (hn : n ≤ 99) (hi : nin f x = true) : cren (nI x) f (nI n) = nI (nmv f (nren f n) x) := by
  have h1 := cdp1 h0
  have h4 := cdp4 hf
  have hx' := nin_eq hi
  have hl := cdp_lt hf
  unfold nmv
  rw [if_pos hi, (nren_lt hf h0 hn).2.2.2]
  unfold cren nren
  rw [nI_sb1 h1, mask_n hx (by omega), nI_1]
  have hs : (n + 1) * 128 ^ (cdp f - 1) < 2 ^ 32 := by
    have : 128 ^ (cdp f - 1) ≤ 128 ^ 3 := Nat.pow_le_pow_right (by decide) (by omega)
    have : (n + 1) * 128 ^ (cdp f - 1) ≤ 100 * 128 ^ 3 := Nat.mul_le_mul (by omega) this
    omega
  rw [shl_n (by omega) hs, nI_or, Nat.or_assoc, Nat.or_comm (x / _ * _), ← Nat.or_assoc]
  have e1 : x % 128 ^ (cdp f - 1) ||| (n + 1) * 128 ^ (cdp f - 1) = x % 128 ^ (cdp f - 1) + (n + 1) * 128 ^ (cdp f - 1) := by
    rw [pw7]
    exact or_add (Nat.mod_lt _ (Nat.pow_pos (by decide)))
  rw [e1, show cdp f - 1 + 1 = cdp f by omega]
  have e2 : x % 128 ^ (cdp f - 1) + (n + 1) * 128 ^ (cdp f - 1) < 128 ^ cdp f := by
    rcases (show cdp f = 1 ∨ cdp f = 2 ∨ cdp f = 3 ∨ cdp f = 4 by omega) with e | e | e | e <;> rw [e] <;> simp only [Nat.reducePow, Nat.reduceSub] <;> omega
  rw [show ∀ a b : Nat, a < 128 ^ cdp f → a ||| b * 128 ^ cdp f = a + b * 128 ^ cdp f from fun a b h => by rw [pw7] at h ⊢; exact or_add h]
  · congr 1
    rcases (show cdp f = 1 ∨ cdp f = 2 ∨ cdp f = 3 ∨ cdp f = 4 by omega) with e | e | e | e <;> rw [e] at hx' ⊢ <;> simp only [Nat.reducePow, Nat.reduceSub] at hx' ⊢ <;> omega
  · exact e2
theorem nI_s2a {d : Nat} (h : 2 ≤ d) : nI d - 2 + 1 = nI (d - 1) := by
  rw [nI_sb2 h, nI_1]
  congr 1; omega
theorem clif_n {x f : Nat} (hx : x < 2 ^ 28) (hf : f < 2 ^ 28) (h2 : 2 ≤ cdp f) (hi : nin f x = true) : clif (nI x) f = nI (nmv f (nlif f) x) := by
  have h4 := cdp4 hf
  have hx' := nin_eq hi
  have hl := cdp_lt hf
  unfold nmv
  rw [if_pos hi, (nlif_lt hf h2).2.2.2]
  unfold clif nlif
  rw [nI_s2a h2, nI_sb2 h2, ctop_n hx (by omega), ush7 hx (by omega), ← pw7]
  have hs : x / 128 ^ (cdp f - 1) * 128 ^ (cdp f - 2) < 2 ^ 32 := by
    rcases (show cdp f = 2 ∨ cdp f = 3 ∨ cdp f = 4 by omega) with e | e | e <;> rw [e] <;> simp only [Nat.reducePow, Nat.reduceSub] <;> omega
  rw [shl_n (by omega) hs, orA (Nat.mod_lt _ (Nat.pow_pos (by decide)))]
  congr 1
  rcases (show cdp f = 2 ∨ cdp f = 3 ∨ cdp f = 4 by omega) with e | e | e <;> rw [e] at hx' hl ⊢ <;> simp only [Nat.reducePow, Nat.reduceSub] at hx' hl ⊢ <;> omega
theorem nsun_lt {f n : Nat} (h0 : f ≠ 0) (h3 : f < 2 ^ 21) (hn : n ≤ 99) : nsun f n < 128 ^ (cdp f + 1) ∧ 128 ^ cdp f ≤ nsun f n ∧ nsun f n < 2 ^ 28 ∧ cdp (nsun f n) = cdp f + 1 ∧ cdp f ≤ 3 := by
  have hf : f < 2 ^ 28 := by omega
  have h1 := cdp1 h0
  have h4 : cdp f ≤ 3 := (cdp_le hf (by omega)).mpr (by omega)
  have hl := cdp_lt hf
  have hg := cdp_ge hf h0
  have a : nsun f n < 128 ^ (cdp f + 1) ∧ 128 ^ cdp f ≤ nsun f n ∧ nsun f n < 2 ^ 28 := by
    unfold nsun
    rcases (show cdp f = 1 ∨ cdp f = 2 ∨ cdp f = 3 by omega) with e | e | e <;> rw [e] at hl hg ⊢ <;> simp only [Nat.reducePow, Nat.reduceSub, Nat.reduceAdd] at hl hg ⊢ <;> omega
  exact ⟨a.1, a.2.1, a.2.2, cdp_of (by omega) (by omega) a.2.1 a.1, h4⟩
theorem csun_n {x f n : Nat} (hx : x < 2 ^ 21) (h0 : f ≠ 0) (h3 : f < 2 ^ 21) (hn : n ≤ 99) (hi : nin f x = true) : csun (nI x) f (nI n) = nI (nmv f (nsun f n) x) := by
  have hf : f < 2 ^ 28 := by omega
  have h1 := cdp1 h0
  have h4 : cdp f ≤ 3 := (nsun_lt h0 h3 hn).2.2.2.2
  have hx' := nin_eq hi
  have hl := cdp_lt hf
  unfold nmv
  rw [if_pos hi, (nsun_lt h0 h3 hn).2.2.2.1]
  unfold csun nsun
  rw [nI_sb1 h1, nI_1, ctop_n (by omega) (by omega), ush7 (by omega) (by omega), ← pw7, nI_1, show cdp f - 1 + 1 = cdp f by omega]
  have hs : x / 128 ^ (cdp f - 1) * 128 ^ cdp f < 2 ^ 32 ∧ (n + 1) * 128 ^ (cdp f - 1) < 2 ^ 32 ∧ x % 128 ^ (cdp f - 1) + (n + 1) * 128 ^ (cdp f - 1) < 128 ^ cdp f := by
    rcases (show cdp f = 1 ∨ cdp f = 2 ∨ cdp f = 3 by omega) with e | e | e <;> rw [e] <;> simp only [Nat.reducePow, Nat.reduceSub] <;> omega
  rw [shl_n (by omega) hs.2.1, shl_n (by omega) hs.1, orA (Nat.mod_lt _ (Nat.pow_pos (by decide))), orA hs.2.2]
  congr 1
  rcases (show cdp f = 1 ∨ cdp f = 2 ∨ cdp f = 3 by omega) with e | e | e <;> rw [e] at hx' hl ⊢ <;> simp only [Nat.reducePow, Nat.reduceSub, Nat.reduceAdd] at hx' hl ⊢ <;> omega
def npar (m : Nat) : Nat := m % 128 ^ (cdp m - 1)
def nname (m : Nat) : Nat := m / 128 ^ (cdp m - 1) - 1
theorem cpar_n {m : Nat} (hm : m < 2 ^ 28) (h0 : m ≠ 0) : cpar m = nI (npar m) := by
  unfold cpar npar
  have := cdp4 hm
  rw [nI_sb1 (cdp1 h0), ctop_n hm (by omega)]
theorem tpar_n {m : Nat} (hm : m < 2 ^ 28) (hc : cri 4 m = true) (h0 : m ≠ 0) : tcut (nI m) (tdep (nI m) - 1) = nI (npar m) := by
  unfold npar
  have := cdp4 hm
  rw [tdep_n hc hm, nI_sb1 (cdp1 h0), tcut_n hm (by omega)]
theorem cname_n {m : Nat} (hm : m < 2 ^ 28) (h0 : m ≠ 0) : cname m = nI (nname m) := by
  unfold cname nname
  have h4 := cdp4 hm
  have h1 := cdp1 h0
  have hl := cdp_lt hm
  have hg := cdp_ge hm h0
  rw [nI_sb1 h1, ush7 hm (by omega), ← pw7]
  have a : 1 ≤ m / 128 ^ (cdp m - 1) ∧ m / 128 ^ (cdp m - 1) < 128 := by
    rcases (show cdp m = 1 ∨ cdp m = 2 ∨ cdp m = 3 ∨ cdp m = 4 by omega) with e | e | e | e <;> rw [e] at hl hg ⊢ <;> simp only [Nat.reducePow, Nat.reduceSub] at hl hg ⊢ <;> omega
  rw [and127 _ (by omega), Nat.mod_eq_of_lt a.2, nI_sb1 a.1]
/-- the names of a right path are from 0 to 99 -/
theorem nname_le {m : Nat} (hm : m < 2 ^ 28) (hc : cri 4 m = true) : nname m ≤ 99 := by
  unfold nname
  rcases cri_cases hc hm with ⟨e, hd⟩ | ⟨a, e, a1, a2, hd⟩ | ⟨a, b, e, a1, a2, b1, b2, hd⟩ | ⟨a, b, c, e, a1, a2, b1, b2, c1, c2, hd⟩ | ⟨a, b, c, d, e, a1, a2, b1, b2, c1, c2, d1, d2, hd⟩ <;> rw [hd] <;> simp only [Nat.reducePow, Nat.reduceSub] <;> omega
theorem npar_cdp {m : Nat} (hm : m < 2 ^ 28) (hc : cri 4 m = true) (h0 : m ≠ 0) : cdp (npar m) = cdp m - 1 ∧ cri 4 (npar m) = true ∧ npar m < 2 ^ 21 ∧ m = npar m + (nname m + 1) * 128 ^ (cdp m - 1) := by
  unfold npar nname
  rcases cri_cases hc hm with ⟨e, hd⟩ | ⟨a, e, a1, a2, hd⟩ | ⟨a, b, e, a1, a2, b1, b2, hd⟩ | ⟨a, b, c, e, a1, a2, b1, b2, c1, c2, hd⟩ | ⟨a, b, c, d, e, a1, a2, b1, b2, c1, c2, d1, d2, hd⟩
  · exact absurd e h0
  · rw [hd]; simp only [Nat.reducePow, Nat.reduceSub, Nat.mod_one]; exact ⟨rfl, rfl, by omega, by omega⟩
  · rw [hd]; simp only [Nat.reducePow, Nat.reduceSub]
    have g : m % 128 = a := by omega
    rw [g]
    refine ⟨?_, ?_, by omega, by omega⟩
    · rw [cdp, if_neg (by omega), if_pos (by omega)]
    · rw [cri, if_neg (by omega), if_pos (by omega), show a / 128 = 0 by omega]; rfl
  · rw [hd]; simp only [Nat.reducePow, Nat.reduceSub]
    have g : m % 16384 = a + 128 * b := by omega
    rw [g]
    refine ⟨?_, ?_, by omega, by omega⟩
    · rw [cdp, if_neg (by omega), if_neg (by omega), if_pos (by omega)]
    · rw [cri, if_neg (by omega), if_pos (by omega), show (a + 128 * b) / 128 = b by omega, cri, if_neg (by omega), if_pos (by omega), show b / 128 = 0 by omega]; rfl
  · rw [hd]; simp only [Nat.reducePow, Nat.reduceSub]
    have g : m % 2097152 = a + 128 * b + 16384 * c := by omega
    rw [g]
    refine ⟨?_, ?_, by omega, by omega⟩
    · rw [cdp, if_neg (by omega), if_neg (by omega), if_neg (by omega), if_pos (by omega)]
    · rw [cri, if_neg (by omega), if_pos (by omega), show (a + 128 * b + 16384 * c) / 128 = b + 128 * c by omega, cri, if_neg (by omega), if_pos (by omega), show (b + 128 * c) / 128 = c by omega, cri, if_neg (by omega), if_pos (by omega), show c / 128 = 0 by omega]; rfl
/-- the component's way to the field beside -/
theorem cbes_n {f n : Nat} (hf : f < 2 ^ 28) (hc : cri 4 f = true) (h0 : f ≠ 0) (hn : n ≤ 99) : cchild (npar f) (nI n) = nI (nren f n) := by
  obtain ⟨e1, e2, e3, _⟩ := npar_cdp hf hc h0
  have h4 := cdp4 hf
  have h1 := cdp1 h0
  unfold cchild nren
  rw [e1, nI_1]
  have hs : (n + 1) * 128 ^ (cdp f - 1) < 2 ^ 32 := by
    have : 128 ^ (cdp f - 1) ≤ 128 ^ 3 := Nat.pow_le_pow_right (by decide) (by omega)
    have : (n + 1) * 128 ^ (cdp f - 1) ≤ 100 * 128 ^ 3 := Nat.mul_le_mul (by omega) this
    omega
  rw [shl_n (by omega) hs]
  exact orA (by unfold npar; exact Nat.mod_lt _ (Nat.pow_pos (by decide)))
