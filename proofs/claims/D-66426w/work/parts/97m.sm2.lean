/-! PART 97m: a card goes forth as the reference does (one primitive) -/
section SM2
variable {G : zG} {h : zH} {c r w q s : Nat} {fl : Nat → Bool} {K : Nat → tK} {P : List pE} {p : tPm} {T : List tE} {L : List tQ} {c0 : Int32} {F : List tFd}
theorem sOk_k {p : tPm} {F : List tFd} (h : sOk p F) : p.1 = 0 ∨ p.1 = 1 ∨ p.1 = 2 ∨ p.1 = 3 ∨ p.1 = 4 ∨ p.1 = 5 ∨ p.1 = 6 ∨ p.1 = 7 ∨ p.1 = 8 := by
  rcases h.2 with ⟨k, _⟩ | ⟨_, h⟩
  · exact Or.inr (Or.inl k)
  · rcases h with ⟨k, _⟩ | ⟨k, _⟩ | ⟨k, _⟩ | ⟨k, _⟩ | ⟨k, _⟩ | ⟨k, _⟩ | ⟨k, _⟩ | ⟨k, _⟩ <;> rw [k] <;> decide
/-- the field of a primitive that does not come -/
theorem sOk_f {p : tPm} {F : List tFd} (h : sOk p F) (k1 : p.1 ≠ 1) : (pmP p, pmS p, pmL p, pmH p) ∈ F := by
  rcases h.2 with ⟨k, _⟩ | ⟨hm, _⟩
  · exact absurd k k1
  · exact hm
theorem tel_S (hV : sV F) (hT : (T.map tfd).Perm F) (hm : (pmP p, pmS p, pmL p, pmH p) ∈ F) : tix T (pmP p) < T.length ∧ eS (tel T (pmP p)) = pmS p ∧ eL (tel T (pmP p)) = pmL p ∧ eH (tel T (pmP p)) = pmH p := by
  obtain ⟨hl, he⟩ := tel_f hV.2.1 hT hm
  have he : tfd (tel T (pmP p)) = (pmP p, pmS p, pmL p, pmH p) := he
  unfold tfd at he
  simp only [Prod.mk.injEq] at he
  exact ⟨hl, he.2.1, he.2.2.1, he.2.2.2⟩
theorem km_0 {es : List Nat} (x : cKm h c es fl K) (h0 : (K s).1 = 0) : cKm h c es fl (zw K s tK0) := by
  refine x.congr (fun t _ => ?_)
  by_cases e : t = s
  · subst e
    rw [zw_s, h0]
    exact ⟨rfl, fun g => absurd rfl g, fun g => absurd (show (0 : Int32) = 2 ∨ (0 : Int32) = 3 from g) (by decide)⟩
  · rw [zw_n e]
    exact ⟨rfl, fun _ => rfl, fun _ => rfl⟩
theorem sOk_a {p : tPm} {F : List tFd} (h : sOk p F) (k0 : p.1 = 0) : 0 ≤ pmA p ∧ pmA p ≤ 99 := by
  rcases h.2 with ⟨k, _⟩ | ⟨_, h⟩
  · rw [k0] at k; exact absurd k (by decide)
  · rcases h with ⟨k, u, _⟩ | ⟨k, _⟩ | ⟨k, _⟩ | ⟨k, _⟩ | ⟨k, _⟩ | ⟨k, _⟩ | ⟨k, _⟩ | ⟨k, _⟩
    · exact u
    all_goals (rw [k0] at k; exact absurd k (by decide))
theorem sOk_4 {p : tPm} {F : List tFd} (h : sOk p F) (k0 : p.1 = 4) : 2 ≤ cdp (pnat (pmP p)) := by
  rcases h.2 with ⟨k, _⟩ | ⟨_, h⟩
  · rw [k0] at k; exact absurd k (by decide)
  · rcases h with ⟨k, _⟩ | ⟨k, _⟩ | ⟨k, _⟩ | ⟨k, u, _⟩ | ⟨k, _⟩ | ⟨k, _⟩ | ⟨k, _⟩ | ⟨k, _⟩
    · rw [k0] at k; exact absurd k (by decide)
    · rw [k0] at k; exact absurd k (by decide)
    · rw [k0] at k; exact absurd k (by decide)
    · exact u
    all_goals (rw [k0] at k; exact absurd k (by decide))
theorem sOk_5 {p : tPm} {F : List tFd} (h : sOk p F) (k0 : p.1 = 5) : pmS p = 0 ∧ (2 ≤ pmA p ∧ pmA p ≤ 1000) ∧ (0 ≤ pmB p ∧ pmB p ≤ 99) ∧ (∀ f ∈ F, f.1 ≠ tbes (pmP p) (pmB p)) ∧ F.length < 24 := by
  rcases h.2 with ⟨k, _⟩ | ⟨_, h⟩
  · rw [k0] at k; exact absurd k (by decide)
  · rcases h with ⟨k, _⟩ | ⟨k, _⟩ | ⟨k, _⟩ | ⟨k, _⟩ | ⟨k, u⟩ | ⟨k, _⟩ | ⟨k, _⟩ | ⟨k, _⟩
    · rw [k0] at k; exact absurd k (by decide)
    · rw [k0] at k; exact absurd k (by decide)
    · rw [k0] at k; exact absurd k (by decide)
    · rw [k0] at k; exact absurd k (by decide)
    · exact u
    all_goals (rw [k0] at k; exact absurd k (by decide))
theorem sOk_3 {p : tPm} {F : List tFd} (h : sOk p F) (k0 : p.1 = 3) : pmS p = 0 := by
  rcases h.2 with ⟨k, _⟩ | ⟨_, h⟩
  · rw [k0] at k; exact absurd k (by decide)
  · rcases h with ⟨k, _⟩ | ⟨k, _⟩ | ⟨k, u⟩ | ⟨k, _⟩ | ⟨k, _⟩ | ⟨k, _⟩ | ⟨k, _⟩ | ⟨k, _⟩
    · rw [k0] at k; exact absurd k (by decide)
    · rw [k0] at k; exact absurd k (by decide)
    · exact u
    all_goals (rw [k0] at k; exact absurd k (by decide))
/-- scaling, mapping, sorting -/
theorem sOk_678 {p : tPm} {F : List tFd} (h : sOk p F) (k0 : p.1 = 6 ∨ p.1 = 7 ∨ p.1 = 8) : (p.1 = 6 ∨ p.1 = 7 → pmS p = 0) ∧ (p.1 = 8 → pmS p = 1) ∧ (p.1 = 6 → 1 ≤ pmA p ∧ 1 ≤ pmB p ∧ pmL p ≤ pmH p) := by
  have lh := h.1.2.2.1
  rcases h.2 with ⟨k, _⟩ | ⟨_, h⟩
  · rw [k] at k0; exact absurd k0 (by decide)
  · rcases h with ⟨k, _⟩ | ⟨k, _⟩ | ⟨k, _⟩ | ⟨k, _⟩ | ⟨k, _⟩ | ⟨k, u, v, w, _⟩ | ⟨k, u⟩ | ⟨k, u⟩
    · rw [k] at k0; exact absurd k0 (by decide)
    · rw [k] at k0; exact absurd k0 (by decide)
    · rw [k] at k0; exact absurd k0 (by decide)
    · rw [k] at k0; exact absurd k0 (by decide)
    · rw [k] at k0; exact absurd k0 (by decide)
    · exact ⟨fun _ => u, fun e => by rw [k] at e; exact absurd e (by decide), fun _ => ⟨v.1, w.1, lh⟩⟩
    · exact ⟨fun _ => u, fun e => by rw [k] at e; exact absurd e (by decide), fun e => by rw [k] at e; exact absurd e (by decide)⟩
    · exact ⟨fun e => by rcases e with e | e <;> rw [k] at e <;> exact absurd e (by decide), fun _ => u, fun e => by rw [k] at e; exact absurd e (by decide)⟩
/-- what comes: the reference's row -/
theorem come_eq {k : tK} {f : Bool} (hS : pmS p = 0 ∨ pmS p = 1) (hk : k.1 = 0 ∨ k.1 = 1) (hf : f = decide (pmS p = 1)) : cCome k f (pmS p) (pmL p) (pmH p) = (decide (pmS p = 1), if k.1 = 1 then k.2.1 else trow0 (pmS p) (pmL p) (pmH p)) := by
  unfold cCome
  rcases hk with e | e
  · rw [if_pos e, if_neg (show ¬ k.1 = 1 by rw [e]; decide)]
    unfold trow0
    rcases hS with g | g <;> rw [g] <;> rfl
  · rw [if_neg (by rw [e]; decide), if_pos e, hf]
theorem wr_eq {e : tE} {k : tK} {x : Int32} (hk : k.1 = 0 ∨ k.1 = 1) : cWr k x (eL e) (eH e) = twr e k x := by
  unfold cWr twr
  rcases hk with g | g
  · rw [if_pos g, if_neg (by rw [g]; decide)]
  · rw [if_neg (by rw [g]; decide), if_pos g]
    cases k.2.1 <;> rfl
theorem go_eq {e : tE} {f : Bool} (hS : eS e = 0 ∨ eS e = 1) (hf : f = decide (eS e = 1)) : cGoK f (eR e) (eL e) (eH e) = if tpl0 e = true then tK0 else (1, eR e, []) := by
  have : cGoD f (eR e) (eL e) (eH e) = tpl0 e := by
    unfold cGoD tpl0
    rcases hS with g | g <;> rw [hf, g] <;> simp
  unfold cGoK
  rw [this]
end SM2
