/-! PART 49b: plain laws: routes -/
/-- the versions and steps of a route are right -/
theorem tpv_mem {W : sW} {w : Int32} {b : Nat} {D : Nat → Nat} (hK : tDK W w b D) : ∀ (r u : Nat), u < (wV W).length → D u = r → D u < 100 → (∀ x ∈ tpv W w D r u, x < (wV W).length) ∧ ∀ s ∈ tps W w D r u, s < (wS W).length := by
  intro r
  induction r with
  | zero =>
    intro u hu hD h100
    refine ⟨fun x hx => ?_, fun s hs => by simp [tps] at hs⟩
    simp [tpv] at hx
    omega
  | succ r ih =>
    intro u hu hD h100
    have hub : u ≠ b := by
      intro e
      rw [e, hK.1] at hD
      omega
    obtain ⟨t1, t2, t3, -⟩ := tnx_ok ((hK.2 u hu h100).2 hub)
    obtain ⟨i1, i2⟩ := ih (tnx W w D u) t1 (by omega) (by omega)
    obtain ⟨s, hs⟩ := Option.isSome_iff_exists.mp t2
    refine ⟨fun x hx => ?_, fun s' hs' => ?_⟩
    · rw [tpv] at hx
      rcases List.mem_cons.mp hx with e | e
      · omega
      · exact i1 x e
    · rw [tps, hs] at hs'
      rcases List.mem_cons.mp hs' with e | e
      · rw [e]
        exact (oBtw_lt hs).1
      · exact i2 s' e
theorem oWay_mem {W : sW} {w : Int32} {x y : Nat} {z : List Nat × List Nat} (hx : x < (wV W).length) (hy : y < (wV W).length) (h : oWay W w x y = some z) : (∀ u ∈ z.1, u < (wV W).length) ∧ ∀ s ∈ z.2, s < (wS W).length := by
  have key : ∀ (a b : Nat), a < (wV W).length → b < (wV W).length → (if tdis W w b a < 100 then some (if y < x then ((tpv W w (tdis W w b) (tdis W w b a) a).reverse, (tps W w (tdis W w b) (tdis W w b a) a).reverse) else (tpv W w (tdis W w b) (tdis W w b a) a, tps W w (tdis W w b) (tdis W w b a) a)) else none) = some z → (∀ u ∈ z.1, u < (wV W).length) ∧ ∀ s ∈ z.2, s < (wS W).length := by
    intro a b ha hb h
    by_cases hlt : tdis W w b a < 100
    · rw [if_pos hlt] at h
      have := tpv_mem (tdis_ok W w hb) _ a ha rfl hlt
      cases h
      split
      · exact ⟨fun u hu => this.1 u (List.mem_reverse.mp hu), fun s hs => this.2 s (List.mem_reverse.mp hs)⟩
      · exact this
    · rw [if_neg hlt] at h
      cases h
  exact key (if x < y then x else y) (if x < y then y else x) (by split <;> assumption) (by split <;> assumption) h
