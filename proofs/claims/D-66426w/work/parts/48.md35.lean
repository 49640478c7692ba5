/-! PART 48: the reference as it begins -/
def oW0 : sW := ([[]], false, [], none, fun _ => none)
theorem tIn.ok {q S : Nat} {h0 h : zH} (x : tIn q 29 S h0 h) : twOK q h ∧ h = twp q h (fun o i => zi h (q + o) i) ∧ tA (fun o i => zi h (q + o) i) oW0 := by
  obtain ⟨x1, x2, x3, x4, x5, x6, x7⟩ := x
  have n0 : ∀ i, zi h (q + 0) i = if i = 1 then 1 else 0 := x6
  have nz : ∀ o i, 1 ≤ o → o ≤ 29 → o ≠ 10 → zi h (q + o) i = 0 := by
    intro o i h1 h2 h3
    rw [(x5 o h1 h2).2.2 i, if_neg (fun g => h3 g.1)]
  have n10 : ∀ i, i < 16 → zi h (q + 10) i = -1 := by
    intro i hi
    rw [(x5 10 (by omega) (by omega)).2.2 i, if_pos ⟨rfl, hi⟩]
  refine ⟨⟨x3, fun j h1 h2 => x4 j h1 h2 ?_, fun o h1 h2 => ⟨(x5 o h1 h2).1, (x5 o h1 h2).2.1⟩⟩, ?_, ?_, ([], [], fun _ => tK0, 0), ⟨?_, ?_, ?_, ?_⟩, by simp⟩
  · unfold tO
    split <;> omega
  · have e : (fun a i => if q ≤ a ∧ a < q + 30 then (fun o i => zi h (q + o) i) (a - q) i else zi h a i) = zi h := by
      funext a i
      split
      · rename_i g
        show zi h (q + (a - q)) i = zi h a i
        rw [show q + (a - q) = a by omega]
      · rfl
    unfold twp
    rw [e]
  · refine ⟨⟨?_, by decide, by decide⟩, fun v f hf => ?_, ?_, ⟨?_, by decide⟩, (fun s y hy => by change ([] : List sSt)[s]? = some y at hy; simp at hy), ?_, fun u hu => (by cases hu), fun j hj => ?_⟩
    · exact (n0 1).trans (by decide)
    · change ([[]] : List (List tFd))[v]? = some f at hf
      cases v with
      | zero =>
        simp at hf
        subst hf
        exact ⟨nz 1 0 (by omega) (by omega) (by omega), by simp, fun k y hk => by simp at hk⟩
      | succ v => simp at hf
    · exact (n0 7).trans (by decide)
    · exact (n0 8).trans (by decide)
    · exact (n0 13).trans (by decide)
    · exact n10 j hj
  · exact ⟨(n0 18).trans (by decide), by simp, fun k e hk => by simp at hk⟩
  · exact ⟨(n0 29).trans (by decide), by simp, fun k e hk => by simp at hk⟩
  · intro s hs
    exact ⟨nz 20 s (by omega) (by omega) (by omega), fun e => absurd rfl e, fun e => by rcases e with e | e <;> exact absurd (show (0 : Int32) = _ from e) (by decide)⟩
  · exact (n0 28).trans (by decide)
