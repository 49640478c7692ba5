/-! PART 63: plain law: a primitive keeps a schema right, and can be taken back -/
theorem tmvp_f {f0 t0 : Nat} (hf : nok f0) (ht : nok t0) (hct : cdp t0 ≤ cdp f0) {x : Int32} (h0 : 0 ≤ x) (hx : nok (pnat x)) : tmvp (nI f0) (nI t0) x = nI (nmv f0 t0 (pnat x)) ∧ nok (nmv f0 t0 (pnat x)) := by
  obtain ⟨ok, fit⟩ := nmv_ok hf ht hx (fun h => Nat.lt_of_lt_of_le (nin_q hf hx h).2 (Nat.pow_le_pow_right (by decide) (by omega)))
  refine ⟨?_, ok⟩
  have := tmvp_n hf.1 hf.2.1 ht.1 ht.2.1 hx.1 fit
  rwa [← pnat_eq h0] at this
theorem tmvp_b {f0 t0 : Nat} (hf : nok f0) (ht : nok t0) (hct : cdp t0 ≤ cdp f0) {x : Int32} (h0 : 0 ≤ x) (hx : nok (pnat x)) (hc : nin t0 (pnat x) = false) : tmvp (nI t0) (nI f0) (tmvp (nI f0) (nI t0) x) = x := by
  obtain ⟨e, ok⟩ := tmvp_f hf ht hct h0 hx
  have hb := nmv_back hf ht (x := pnat x) (fun _ => hc)
  have := tmvp_n ht.1 ht.2.1 hf.1 hf.2.1 ok.1 (fun h => ?_)
  · rw [e, this, hb]; exact (pnat_eq h0).symm
  · unfold nmv at h ⊢
    by_cases hi : nin f0 (pnat x) = true
    · rw [if_pos hi, nin_d _ _ ht]
      have := nin_eq hi
      have := hx.1
      omega
    · rw [if_neg hi, hc] at h
      cases h
theorem nI_inj {a b : Nat} (ha : a < 2 ^ 31) (hb : b < 2 ^ 31) (h : nI a = nI b) : a = b := by
  rw [← nI_clamp ha, h, nI_clamp hb]
theorem mv_V {F : List tFd} (hV : sV F) {f0 t0 : Nat} (hf : nok f0) (ht : nok t0) (hct : cdp t0 ≤ cdp f0) (hno : ∀ f ∈ F, f.1 ≠ nI t0) (hpar : fpar F t0) (hpt : nin f0 (npar t0) = false) :
    sV (F.map (fun f => (tmvp (nI f0) (nI t0) f.1, f.2))) ∧ (F.map (fun f => ((tmvp (nI f0) (nI t0) f.1, f.2) : tFd))).map (fun f => (tmvp (nI t0) (nI f0) f.1, f.2)) = F := by
  have hcl : ∀ f ∈ F, nin t0 (pnat f.1) = false := fun f h => hV.clear ht hno h
  have hmv : ∀ f ∈ F, tmvp (nI f0) (nI t0) f.1 = nI (nmv f0 t0 (pnat f.1)) ∧ nok (nmv f0 t0 (pnat f.1)) := fun f h => tmvp_f hf ht hct (hV.1 f h).1 (hV.1 f h).2.1
  have hpn : ∀ f ∈ F, pnat (tmvp (nI f0) (nI t0) f.1) = nmv f0 t0 (pnat f.1) := fun f h => by
    rw [(hmv f h).1]; exact pnat_n (by have := (hmv f h).2.1; omega)
  constructor
  · refine ⟨?_, ?_, by rw [List.length_map]; exact hV.2.2.1, ?_⟩
    · intro f h
      obtain ⟨g, hg, rfl⟩ := List.mem_map.mp h
      have := hV.1 g hg
      refine ⟨?_, ?_, this.2.2⟩
      · show 0 ≤ tmvp (nI f0) (nI t0) g.1
        rw [(hmv g hg).1]; exact nI_pos' (by have := (hmv g hg).2.1; omega)
      · show nok (pnat (tmvp (nI f0) (nI t0) g.1))
        rw [hpn g hg]; exact (hmv g hg).2
    · rw [List.map_map]
      have : (F.map (fun f => f.1)).Nodup := hV.2.1
      have e : F.map ((fun f : tFd => f.1) ∘ fun f => (tmvp (nI f0) (nI t0) f.1, f.2)) = (F.map (fun f => f.1)).map (fun x => tmvp (nI f0) (nI t0) x) := by rw [List.map_map]; rfl
      rw [e]
      unfold List.Nodup
      rw [List.pairwise_map]
      refine List.Pairwise.imp_of_mem ?_ this
      intro a b ha hb hne he
      obtain ⟨x, hx, rfl⟩ := List.mem_map.mp ha
      obtain ⟨y, hy, rfl⟩ := List.mem_map.mp hb
      apply hne
      rw [(hmv x hx).1, (hmv y hy).1] at he
      have he := nI_inj (by have := (hmv x hx).2.1; omega) (by have := (hmv y hy).2.1; omega) he
      have := nmv_inj hf ht (fun _ => hcl x hx) (fun _ => hcl y hy) he
      rw [pnat_eq (hV.1 x hx).1, this, ← pnat_eq (hV.1 y hy).1]
    · intro f h
      obtain ⟨g, hg, rfl⟩ := List.mem_map.mp h
      show fpar _ (pnat (tmvp (nI f0) (nI t0) g.1))
      rw [hpn g hg]
      have go := (hV.1 g hg).2.1
      -- where a field of the old table has gone
      have mem : ∀ r ∈ F, r.2.1 = 2 → ∃ q ∈ F.map (fun f => ((tmvp (nI f0) (nI t0) f.1, f.2) : tFd)), q.1 = nI (nmv f0 t0 (pnat r.1)) ∧ q.2.1 = 2 := fun r hr h2 => ⟨_, List.mem_map.mpr ⟨r, hr, rfl⟩, (hmv r hr).1, h2⟩
      by_cases hi : nin f0 (pnat g.1) = true
      · by_cases e : pnat g.1 = f0
        · have : nmv f0 t0 (pnat g.1) = t0 := by
            unfold nmv
            rw [if_pos hi, e, Nat.div_eq_of_lt hf.c.2.2.1]; omega
          rw [this]
          rcases hpar with z | ⟨r, hr, r1, r2⟩
          · exact Or.inl z
          · obtain ⟨q, hq, q1, q2⟩ := mem r hr r2
            have hp : pnat r.1 = npar t0 := by rw [r1]; exact pnat_n (by have := npar_lt ht; have := ht.1; omega)
            refine Or.inr ⟨q, hq, ?_, q2⟩
            rw [q1, hp]
            unfold nmv
            rw [hpt]; rfl
        · rw [show fpar _ (nmv f0 t0 (pnat g.1)) = (npar (nmv f0 t0 (pnat g.1)) = 0 ∨ _) from rfl, npar_mv hf ht go hi e hct]
          right
          have hi2 := nin_par hf go hi e
          rcases hV.2.2.2 g hg with z | ⟨r, hr, r1, r2⟩
          · rw [z] at hi2
            have := nin_eq hi2
            rw [Nat.zero_div, Nat.zero_mul] at this
            exact absurd (by omega) hf.2.2
          · obtain ⟨q, hq, q1, q2⟩ := mem r hr r2
            have hp : pnat r.1 = npar (pnat g.1) := by rw [r1]; exact pnat_n (by have := npar_lt go; have := go.1; omega)
            exact ⟨q, hq, by rw [q1, hp], q2⟩
      · have hi : nin f0 (pnat g.1) = false := by simpa using hi
        have e : nmv f0 t0 (pnat g.1) = pnat g.1 := by unfold nmv; rw [hi]; rfl
        rw [e]
        rcases hV.2.2.2 g hg with z | ⟨r, hr, r1, r2⟩
        · exact Or.inl z
        · obtain ⟨q, hq, q1, q2⟩ := mem r hr r2
          have hp : pnat r.1 = npar (pnat g.1) := by rw [r1]; exact pnat_n (by have := npar_lt go; have := go.1; omega)
          have : nin f0 (npar (pnat g.1)) = false := by
            rcases hh : nin f0 (npar (pnat g.1)) with _ | _
            · rfl
            · rw [nin_up hf go hh] at hi; cases hi
          refine Or.inr ⟨q, hq, ?_, q2⟩
          rw [q1, hp]
          unfold nmv
          rw [this]; rfl
  · rw [List.map_map]
    conv => rhs; rw [← List.map_id F]
    apply List.map_congr_left
    intro f hf'
    show (tmvp (nI t0) (nI f0) (tmvp (nI f0) (nI t0) f.1), f.2) = f
    rw [tmvp_b hf ht hct (hV.1 f hf').1 (hV.1 f hf').2.1 (hcl f hf')]
theorem npar_ren {f n : Nat} (hf : nok f) (hn : n ≤ 99) : npar (nren f n) = npar f := by
  unfold npar
  rw [(nren_ok hf hn).2]
  unfold nren
  rw [Nat.add_mul_mod_self_right, Nat.mod_mod]
theorem npar_lif {f : Nat} (hf : nok f) (h2 : 2 ≤ cdp f) : npar (nlif f) = npar (npar f) := by
  have e1 := (npar_cdp hf.1 hf.2.1 hf.2.2).1
  rw [nlif_eq hf h2]
  have hd := (nlif_ok hf h2).2
  rw [nlif_eq hf h2] at hd
  rw [npar, hd, show cdp f - 1 - 1 = cdp f - 2 by omega, Nat.add_mul_mod_self_right, Nat.mod_eq_of_lt]
  rw [npar, e1, show cdp f - 1 - 1 = cdp f - 2 by omega]
  exact Nat.mod_lt _ (Nat.pow_pos (by decide))
/-- a record lies not in what lies in it -/
theorem nin_no {f r : Nat} (hf : nok f) (hc : cdp r < cdp f) (hr : r < 2 ^ 28) : nin f r = false := by
  rcases h : nin f r with _ | _
  · rfl
  · have e := nin_eq h
    have := hf.c
    by_cases r0 : r = 0
    · rw [r0] at e
      have := hf.2.2
      omega
    · have g1 := cdp_lt hr
      have : 128 ^ cdp r ≤ 128 ^ (cdp f - 1) := Nat.pow_le_pow_right (by decide) (by omega)
      omega
theorem i_n {a : Int32} (h0 : 0 ≤ a) (h1 : a ≤ 99) : ∃ n, a = nI n ∧ n ≤ 99 := by
  refine ⟨pnat a, pnat_eq h0, ?_⟩
  have h := Int32.le_iff_toInt_le.mp h1
  rw [pnat_eq h0, nI_toInt pnat_lt] at h
  have : (99 : Int32).toInt = 99 := by decide
  omega
