/-! PART 61: plain law: right schemas -/
theorem npar_lt {x : Nat} (h : nok x) : npar x < x := by
  obtain ⟨_, _, _, e⟩ := npar_cdp h.1 h.2.1 h.2.2
  have : 0 < 128 ^ (cdp x - 1) := Nat.pow_pos (by decide)
  have : 1 * 1 ≤ (nname x + 1) * 128 ^ (cdp x - 1) := Nat.mul_le_mul (by omega) this
  omega
theorem nin_cdp {t x : Nat} (ht : nok t) (hx : nok x) (h : nin t x = true) (hne : x ≠ t) : cdp t + 1 ≤ cdp x := by
  have e := nin_eq h
  have q0 : x / 128 ^ cdp t ≠ 0 := fun z => hne ((nin_eq0 ht h).mp z)
  rcases Nat.lt_or_ge (cdp t) (cdp x) with g | g
  · exact g
  · exfalso
    have hl := hx.c.2.2.1
    have : 128 ^ cdp x ≤ 128 ^ cdp t := Nat.pow_le_pow_right (by decide) g
    exact q0 (Nat.div_eq_of_lt (by omega))
/-- what lies in a field and is not the field: so does its record -/
theorem nin_par {t x : Nat} (ht : nok t) (hx : nok x) (h : nin t x = true) (hne : x ≠ t) : nin t (npar x) = true := by
  have := nin_cdp ht hx h hne
  unfold nin npar at *
  rw [decide_eq_true_eq] at *
  rw [Nat.mod_mod_of_dvd _ (Nat.pow_dvd_pow _ (by omega))]
  exact h
theorem nin_up {t x : Nat} (ht : nok t) (hx : nok x) (h : nin t (npar x) = true) : nin t x = true := by
  obtain ⟨e1, e2, e3, e4⟩ := npar_cdp hx.1 hx.2.1 hx.2.2
  have n0 : npar x ≠ 0 := by
    intro e
    rw [e] at h
    have := nin_eq h
    rw [Nat.zero_div, Nat.zero_mul] at this
    exact ht.2.2 (by omega)
  have hp : nok (npar x) := ⟨by omega, e2, n0⟩
  have hle : cdp t ≤ cdp x - 1 := by
    by_cases e : npar x = t
    · rw [← e, e1]; exact Nat.le_refl _
    · have := nin_cdp ht hp h e
      omega
  unfold nin npar at *
  rw [decide_eq_true_eq] at *
  rw [Nat.mod_mod_of_dvd _ (Nat.pow_dvd_pow _ hle)] at h
  exact h
/-- the record of a moved path -/
theorem npar_mv {f t x : Nat} (hf : nok f) (ht : nok t) (hx : nok x) (h : nin f x = true) (hne : x ≠ f) (hct : cdp t ≤ cdp f) : npar (nmv f t x) = nmv f t (npar x) := by
  have h1 := nin_cdp hf hx h hne
  have hp := nin_par hf hx h hne
  obtain ⟨q1, q2⟩ := nin_q hf hx h
  have hfit : x / 128 ^ cdp f < 128 ^ (4 - cdp t) := Nat.lt_of_lt_of_le q2 (Nat.pow_le_pow_right (by decide) (by omega))
  obtain ⟨ok, _⟩ := nmv_ok hf ht hx (fun _ => hfit)
  obtain ⟨t1, t4, tl, tg⟩ := ht.c
  obtain ⟨x1, x4, xl, xg⟩ := hx.c
  have hmv : nmv f t x = t + x / 128 ^ cdp f * 128 ^ cdp t := by unfold nmv; rw [if_pos h]
  have hmv2 : nmv f t (npar x) = t + npar x / 128 ^ cdp f * 128 ^ cdp t := by unfold nmv; rw [if_pos hp]
  -- the depth of the moved path
  have pw : ∀ a b : Nat, a + b = cdp x → 128 ^ cdp x = 128 ^ a * 128 ^ b := fun a b e => by rw [← e, Nat.pow_add]
  have d1 : 128 ^ (cdp x - 1 - cdp f) ≤ x / 128 ^ cdp f := by
    rw [Nat.le_div_iff_mul_le (Nat.pow_pos (by decide)), ← Nat.pow_add, show cdp x - 1 - cdp f + cdp f = cdp x - 1 by omega]
    exact xg
  have d2 : x / 128 ^ cdp f < 128 ^ (cdp x - cdp f) := by
    apply Nat.div_lt_of_lt_mul
    rw [← Nat.pow_add, show cdp f + (cdp x - cdp f) = cdp x by omega]
    exact xl
  have hd : cdp (nmv f t x) = cdp x - cdp f + cdp t := by
    apply cdp_of (by omega) (by omega)
    · rw [hmv, show cdp x - cdp f + cdp t - 1 = (cdp x - 1 - cdp f) + cdp t by omega, Nat.pow_add]
      have := Nat.mul_le_mul_right (128 ^ cdp t) d1
      omega
    · rw [hmv, Nat.pow_add]
      have := Nat.mul_le_mul_right (128 ^ cdp t) (Nat.succ_le_of_lt d2)
      rw [Nat.succ_mul] at this
      omega
  unfold npar at hmv2 ⊢
  rw [hd, hmv2, hmv, show cdp x - cdp f + cdp t - 1 = cdp t + (cdp x - 1 - cdp f) by omega, Nat.pow_add, Nat.mod_mul, Nat.add_mul_mod_self_right, Nat.mod_eq_of_lt tl, nin_d _ _ ht, show cdp x - 1 = cdp f + (cdp x - 1 - cdp f) by omega, Nat.pow_add, Nat.mod_mul_right_div_self, Nat.mul_comm]
  rw [show cdp f + (cdp x - 1 - cdp f) - cdp f = cdp x - 1 - cdp f by omega]
/-- a right field -/
def fok (f : tFd) : Prop := 0 ≤ f.1 ∧ nok (pnat f.1) ∧ (f.2.1 = 0 ∨ f.2.1 = 1 ∨ f.2.1 = 2) ∧ f.2.2.1 ≤ f.2.2.2 ∧ (f.2.1 = 2 → f.2.2.1 = 0 ∧ f.2.2.2 = 0)
/-- its record is there -/
def fpar (F : List tFd) (m : Nat) : Prop := npar m = 0 ∨ ∃ g ∈ F, g.1 = nI (npar m) ∧ g.2.1 = 2
def sV (F : List tFd) : Prop := (∀ f ∈ F, fok f) ∧ (F.map (fun f => f.1)).Nodup ∧ F.length ≤ 24 ∧ ∀ f ∈ F, fpar F (pnat f.1)
theorem fpar.perm {F F' : List tFd} {m : Nat} (h : F.Perm F') (x : fpar F m) : fpar F' m := by
  rcases x with e | ⟨g, a, b, c⟩
  · exact Or.inl e
  · exact Or.inr ⟨g, h.mem_iff.mp a, b, c⟩
theorem sV.perm {F F' : List tFd} (h : F.Perm F') (x : sV F) : sV F' :=
  ⟨fun f hf => x.1 f (h.mem_iff.mpr hf), (h.map _).nodup_iff.mp x.2.1, by rw [← h.length_eq]; exact x.2.2.1, fun f hf => (x.2.2.2 f (h.mem_iff.mpr hf)).perm h⟩
/-- a primitive that can be done, with what it keeps of its field -/
def sOk (p : tPm) (F : List tFd) : Prop :=
  (0 ≤ pmP p ∧ nok (pnat (pmP p)) ∧ pmL p ≤ pmH p ∧ (pmS p = 2 → pmL p = 0 ∧ pmH p = 0)) ∧
  (p.1 = 1 ∧ (∀ f ∈ F, f.1 ≠ pmP p) ∧ fpar F (pnat (pmP p)) ∧ (pmS p = 0 ∨ pmS p = 1 ∨ pmS p = 2) ∧ F.length < 24 ∨
   (pmP p, pmS p, pmL p, pmH p) ∈ F ∧
    (p.1 = 0 ∧ (0 ≤ pmA p ∧ pmA p ≤ 99) ∧ (∀ f ∈ F, f.1 ≠ tbeh 0 (pmP p) (pmA p)) ∨
     p.1 = 2 ∧ (∀ f ∈ F, f.1 ≠ pmP p → nin (pnat (pmP p)) (pnat f.1) = false) ∨
     p.1 = 3 ∧ pmS p = 0 ∨
     p.1 = 4 ∧ 2 ≤ cdp (pnat (pmP p)) ∧ (∀ f ∈ F, f.1 ≠ tbeh 4 (pmP p) (pmA p)) ∨
     p.1 = 5 ∧ pmS p = 0 ∧ (2 ≤ pmA p ∧ pmA p ≤ 1000) ∧ (0 ≤ pmB p ∧ pmB p ≤ 99) ∧ (∀ f ∈ F, f.1 ≠ tbes (pmP p) (pmB p)) ∧ F.length < 24 ∨
     p.1 = 6 ∧ pmS p = 0 ∧ (1 ≤ pmA p ∧ pmA p ≤ 1000) ∧ (1 ≤ pmB p ∧ pmB p ≤ 1000) ∧ tii (tfl ((pmA p).toInt64 * (pmL p).toInt64) (pmB p).toInt64) = true ∧ tii (tfl ((pmA p).toInt64 * (pmH p).toInt64) (pmB p).toInt64) = true ∨
     p.1 = 7 ∧ pmS p = 0 ∨
     p.1 = 8 ∧ pmS p = 1))
theorem sOk.perm {p : tPm} {F F' : List tFd} (h : F.Perm F') (x : sOk p F) : sOk p F' := by
  have hm : ∀ {P : tFd → Prop}, (∀ f ∈ F, P f) → ∀ f ∈ F', P f := fun g f hf => g f (h.mem_iff.mpr hf)
  have hl := h.length_eq
  refine ⟨x.1, ?_⟩
  rcases x.2 with ⟨a, b, c, d, e⟩ | ⟨a, b⟩
  · exact Or.inl ⟨a, hm b, c.perm h, d, by rw [← hl]; exact e⟩
  · refine Or.inr ⟨h.mem_iff.mp a, ?_⟩
    rcases b with ⟨k, u, v⟩ | ⟨k, u⟩ | z | ⟨k, u, v⟩ | ⟨k, u, v, w, y, z⟩ | z | z | z
    · exact Or.inl ⟨k, u, hm v⟩
    · exact Or.inr (Or.inl ⟨k, hm u⟩)
    · exact Or.inr (Or.inr (Or.inl z))
    · exact Or.inr (Or.inr (Or.inr (Or.inl ⟨k, u, hm v⟩)))
    · exact Or.inr (Or.inr (Or.inr (Or.inr (Or.inl ⟨k, u, v, w, hm y, by rw [← hl]; exact z⟩))))
    · exact Or.inr (Or.inr (Or.inr (Or.inr (Or.inr (Or.inl z)))))
    · exact Or.inr (Or.inr (Or.inr (Or.inr (Or.inr (Or.inr (Or.inl z))))))
    · exact Or.inr (Or.inr (Or.inr (Or.inr (Or.inr (Or.inr (Or.inr z))))))
theorem fd_eq {F : List tFd} (hn : (F.map (fun f => f.1)).Nodup) {e e' : tFd} (h : e ∈ F) (h' : e' ∈ F) (g : e.1 = e'.1) : e = e' := by
  induction F with
  | nil => cases h
  | cons x t ih =>
    have hn : x.1 ∉ t.map (fun e => e.1) ∧ (t.map (fun e => e.1)).Nodup := List.nodup_cons.mp hn
    rcases List.mem_cons.mp h with z | z <;> rcases List.mem_cons.mp h' with z' | z'
    · rw [z, z']
    · exact absurd (by rw [← z, g]; exact List.mem_map.mpr ⟨e', z', rfl⟩) hn.1
    · exact absurd (by rw [← z', ← g]; exact List.mem_map.mpr ⟨e, z, rfl⟩) hn.1
    · exact ih hn.2 z z'
/-- the fields in which a field lies are there -/
theorem sV.anc {F : List tFd} (hV : sV F) {t : Nat} (ht : nok t) : ∀ (n : Nat) (f : tFd), f ∈ F → pnat f.1 ≤ n → nin t (pnat f.1) = true → ∃ g ∈ F, g.1 = nI t := by
  intro n
  induction n with
  | zero =>
    intro f hf hn _
    have := (hV.1 f hf).2.1.2.2
    omega
  | succ n ih =>
    intro f hf hn hi
    obtain ⟨f0, fo, _⟩ := hV.1 f hf
    by_cases e : pnat f.1 = t
    · exact ⟨f, hf, by rw [← e]; exact pnat_eq f0⟩
    · have hi2 := nin_par ht fo hi e
      have hlt := npar_lt fo
      rcases hV.2.2.2 f hf with z | ⟨g, hg, h1, h2⟩
      · rw [z] at hi2
        have := nin_eq hi2
        rw [Nat.zero_div, Nat.zero_mul] at this
        exact absurd (by omega) ht.2.2
      · have hp : pnat g.1 = npar (pnat f.1) := by rw [h1]; exact pnat_n (by have := fo.1; omega)
        exact ih g hg (by omega) (by rw [hp]; exact hi2)
theorem sV.clear {F : List tFd} (hV : sV F) {t : Nat} (ht : nok t) (hno : ∀ f ∈ F, f.1 ≠ nI t) {f : tFd} (hf : f ∈ F) : nin t (pnat f.1) = false := by
  rcases h : nin t (pnat f.1) with _ | _
  · rfl
  · obtain ⟨g, hg, e⟩ := hV.anc ht _ f hf (Nat.le_refl _) h
    exact absurd e (hno g hg)
