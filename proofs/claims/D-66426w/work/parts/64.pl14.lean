/-! PART 64: plain law: a primitive keeps a schema right, and can be taken back (all kinds) -/
theorem fpar_map {F : List tFd} {g : tFd → tFd} {m : Nat} (h : fpar F m) (hg : ∀ f ∈ F, f.2.1 = 2 → (g f).1 = f.1 ∧ (g f).2.1 = 2) : fpar (F.map g) m := by
  rcases h with e | ⟨r, a, b, c⟩
  · exact Or.inl e
  · exact Or.inr ⟨g r, List.mem_map.mpr ⟨r, a, rfl⟩, by rw [(hg r a c).1, b], (hg r a c).2⟩
/-- a field changed at its place -/
theorem chg_V {F : List tFd} (hV : sV F) {p : Int32} (φ : tFd → tFd) (h1 : ∀ f ∈ F, f.1 = p → (φ f).1 = f.1 ∧ f.2.1 ≠ 2 ∧ fok (φ f)) : sV (F.map (fun f => if f.1 = p then φ f else f)) := by
  have hp : ∀ f ∈ F, (if f.1 = p then φ f else f).1 = f.1 := by
    intro f hf
    split
    · rename_i e; exact (h1 f hf e).1
    · rfl
  refine ⟨?_, ?_, by rw [List.length_map]; exact hV.2.2.1, ?_⟩
  · intro f h
    obtain ⟨g, hg, rfl⟩ := List.mem_map.mp h
    split
    · rename_i e; exact (h1 g hg e).2.2
    · exact hV.1 g hg
  · rw [List.map_map]
    have : F.map ((fun f : tFd => f.1) ∘ fun f => if f.1 = p then φ f else f) = F.map (fun f => f.1) := List.map_congr_left (fun f hf => hp f hf)
    rw [this]; exact hV.2.1
  · intro f h
    obtain ⟨g, hg, rfl⟩ := List.mem_map.mp h
    rw [hp g hg]
    apply fpar_map (hV.2.2.2 g hg)
    intro r hr r2
    by_cases e : r.1 = p
    · exact absurd r2 (h1 r hr e).2.1
    · rw [if_neg e]; exact ⟨rfl, r2⟩
theorem fpar_app {F : List tFd} {x : tFd} {m : Nat} (h : fpar F m) : fpar (F ++ [x]) m := by
  rcases h with e | ⟨r, a, b, c⟩
  · exact Or.inl e
  · exact Or.inr ⟨r, List.mem_append_left _ a, b, c⟩
theorem add_V {F : List tFd} (hV : sV F) {x : tFd} (hx : fok x) (hno : ∀ f ∈ F, f.1 ≠ x.1) (hp : fpar F (pnat x.1)) (hl : F.length < 24) : sV (F ++ [x]) := by
  refine ⟨?_, ?_, by simp; omega, ?_⟩
  · intro f h
    rcases List.mem_append.mp h with h | h
    · exact hV.1 f h
    · rw [List.mem_singleton.mp h]; exact hx
  · rw [List.map_append, List.nodup_append]
    refine ⟨hV.2.1, by simp, ?_⟩
    intro a ha b hb
    obtain ⟨f, hf, rfl⟩ := List.mem_map.mp ha
    simp at hb
    rw [hb]
    exact hno f hf
  · intro f h
    rcases List.mem_append.mp h with h | h
    · exact fpar_app (hV.2.2.2 f h)
    · rw [List.mem_singleton.mp h]; exact fpar_app hp
theorem rem_V {F : List tFd} (hV : sV F) {p : Int32} (h : ∀ f ∈ F, f.1 ≠ p → nin (pnat p) (pnat f.1) = false) (hp : 0 ≤ p ∧ nok (pnat p)) : sV (F.filter (fun f => decide (f.1 ≠ p))) := by
  refine ⟨?_, ?_, Nat.le_trans (List.length_filter_le _ _) hV.2.2.1, ?_⟩
  · intro f hf
    exact hV.1 f (List.mem_filter.mp hf).1
  · exact List.Nodup.sublist (List.Sublist.map _ List.filter_sublist) hV.2.1
  · intro f hf
    obtain ⟨a, b⟩ := List.mem_filter.mp hf
    have b : f.1 ≠ p := by simpa using b
    rcases hV.2.2.2 f a with e | ⟨r, hr, r1, r2⟩
    · exact Or.inl e
    · refine Or.inr ⟨r, List.mem_filter.mpr ⟨hr, ?_⟩, r1, r2⟩
      have : r.1 ≠ p := by
        intro e
        have fo := (hV.1 f a).2.1
        have g : nin (pnat p) (npar (pnat f.1)) = true := by
          have : pnat p = npar (pnat f.1) := by rw [← e, r1]; exact pnat_n (by have := npar_lt fo; have := fo.1; omega)
          rw [← this]; exact nin_self hp.2
        have := nin_up hp.2 fo g
        rw [h f a b] at this
        cases this
      simpa using this
theorem map_undo {F : List tFd} {p : Int32} {φ ψ : tFd → tFd} (h1 : ∀ f ∈ F, f.1 = p → (φ f).1 = p ∧ ψ (φ f) = f) : (F.map (fun f => if f.1 = p then φ f else f)).map (fun f => if f.1 = p then ψ f else f) = F := by
  rw [List.map_map]
  conv => rhs; rw [← List.map_id F]
  apply List.map_congr_left
  intro f hf
  simp only [Function.comp, id]
  by_cases e : f.1 = p
  · rw [if_pos e, if_pos (h1 f hf e).1, (h1 f hf e).2]
  · rw [if_neg e, if_neg e]
theorem filter_no {F : List tFd} {p : Int32} (h : ∀ f ∈ F, f.1 ≠ p) : F.filter (fun f => decide (f.1 ≠ p)) = F := by
  rw [List.filter_eq_self]
  intro f hf
  simpa using h f hf
theorem filter_back {F : List tFd} (hn : (F.map (fun f => f.1)).Nodup) {x : tFd} (hx : x ∈ F) : (F.filter (fun f => decide (f.1 ≠ x.1)) ++ [x]).Perm F := by
  induction F with
  | nil => cases hx
  | cons y t ih =>
    have hn : y.1 ∉ t.map (fun e => e.1) ∧ (t.map (fun e => e.1)).Nodup := List.nodup_cons.mp hn
    by_cases e : y.1 = x.1
    · have : x = y := fd_eq (F := y :: t) (List.nodup_cons.mpr hn) hx List.mem_cons_self e.symm
      subst this
      rw [List.filter_cons_of_neg (by simp), filter_no (fun f hf g => hn.1 (List.mem_map.mpr ⟨f, hf, g⟩))]
      exact List.perm_append_singleton _ _
    · rw [List.filter_cons_of_pos (by simpa using e)]
      have hx : x ∈ t := by
        rcases List.mem_cons.mp hx with z | z
        · exact absurd (by rw [z]) e
        · exact z
      exact (ih hn.2 hx).cons y
theorem sOk.mv {p : tPm} {F : List tFd} (hV : sV F) (hO : sOk p F) (h : p.1 = 0 ∨ p.1 = 4) : ∃ t0, nok t0 ∧ tbeh p.1 (pmP p) (pmA p) = nI t0 ∧ cdp t0 ≤ cdp (pnat (pmP p)) ∧ (∀ f ∈ F, f.1 ≠ nI t0) ∧ fpar F t0 ∧ nin (pnat (pmP p)) (npar t0) = false ∧ (pmP p, pmS p, pmL p, pmH p) ∈ F := by
  obtain ⟨⟨p0, pok, _, _⟩, h2⟩ := hO
  have e := pnat_eq p0
  rcases h2 with ⟨k, _⟩ | ⟨hm, h2⟩
  · rcases h with h | h <;> rw [h] at k <;> exact absurd k (by decide)
  have hpp := hV.2.2.2 _ hm
  have hpp : fpar F (pnat (pmP p)) := hpp
  obtain ⟨c1, c2, c3, c4⟩ := npar_cdp pok.1 pok.2.1 pok.2.2
  obtain ⟨d1, d4, _, _⟩ := pok.c
  rcases h with h | h
  · rcases h2 with ⟨k, u, v⟩ | ⟨k, u⟩ | ⟨k, u⟩ | ⟨k, u⟩ | ⟨k, u⟩ | ⟨k, u⟩ | ⟨k, u⟩ | ⟨k, u⟩
    · obtain ⟨n, hn, hn9⟩ := i_n u.1 u.2
      have ht : tbeh 0 (pmP p) (pmA p) = nI (nren (pnat (pmP p)) n) := by
        rw [hn]
        conv => lhs; rw [e]
        exact tbeh_0 pok.1 pok.2.1 pok.2.2 hn9
      obtain ⟨r1, r2⟩ := nren_ok pok hn9
      rw [ht] at v
      have hr := npar_ren pok hn9
      refine ⟨_, r1, by rw [h]; exact ht, Nat.le_of_eq r2, v, ?_, ?_, hm⟩
      · unfold fpar; rw [hr]; exact hpp
      · rw [hr]; exact nin_no pok (by omega) (by omega)
    all_goals (rw [h] at k; exact absurd k (by decide))
  · rcases h2 with ⟨k, u⟩ | ⟨k, u⟩ | ⟨k, u⟩ | ⟨k, u, v⟩ | ⟨k, u⟩ | ⟨k, u⟩ | ⟨k, u⟩ | ⟨k, u⟩
    · rw [h] at k; exact absurd k (by decide)
    · rw [h] at k; exact absurd k (by decide)
    · rw [h] at k; exact absurd k (by decide)
    · have ht : tbeh 4 (pmP p) (pmA p) = nI (nlif (pnat (pmP p))) := by
        conv => lhs; rw [e]
        exact tbeh_4 pok.1 pok.2.1 u
      obtain ⟨r1, r2⟩ := nlif_ok pok u
      rw [ht] at v
      have hr := npar_lif pok u
      have n0 : npar (pnat (pmP p)) ≠ 0 := by intro z; rw [z] at c1; have : cdp 0 = 0 := rfl; omega
      have pok2 : nok (npar (pnat (pmP p))) := ⟨by omega, c2, n0⟩
      obtain ⟨b1, b2, b3, b4⟩ := npar_cdp pok2.1 pok2.2.1 pok2.2.2
      refine ⟨_, r1, by rw [h]; exact ht, by omega, v, ?_, ?_, hm⟩
      · rcases hpp with z | ⟨g, hg, g1, g2⟩
        · exact absurd z n0
        · have := hV.2.2.2 g hg
          rw [g1, pnat_n (by omega)] at this
          unfold fpar; rw [hr]; exact this
      · rw [hr]; exact nin_no pok (by omega) (by omega)
    all_goals (rw [h] at k; exact absurd k (by decide))
theorem i_1 {a : Int32} (h : 2 ≤ a) : 1 ≤ a := Int32.le_trans (by decide) h
/-- the schema behind a primitive is right, and back again it is as it was -/
theorem sf_V {p : tPm} {F : List tFd} (hV : sV F) (hO : sOk p F) : sV (sf p F) ∧ (sb p (sf p F)).Perm F := by
  by_cases c0 : p.1 = 0 ∨ p.1 = 4
  · obtain ⟨t0, t1, t2, t3, t4, t5, t6, _⟩ := hO.mv hV c0
    obtain ⟨⟨p0, pok, _⟩, _⟩ := hO
    have e := pnat_eq p0
    obtain ⟨a, b⟩ := mv_V hV pok t1 t3 t4 t5 t6
    unfold sf sb
    rw [if_pos c0, if_pos c0, t2, e]
    exact ⟨a, List.Perm.of_eq b⟩
  unfold sf sb
  rw [if_neg c0, if_neg c0]
  obtain ⟨⟨p0, pok, plh, pz⟩, h2⟩ := hO
  rcases h2 with ⟨k, h1, h2, h3, h4⟩ | ⟨hm, h2⟩
  · rw [if_pos k, if_pos k]
    refine ⟨add_V hV ⟨p0, pok, h3, plh, pz⟩ h1 h2 h4, ?_⟩
    rw [List.filter_append, filter_no h1]
    simp
  have uniq : ∀ f ∈ F, f.1 = pmP p → f = (pmP p, pmS p, pmL p, pmH p) := fun f hf g => fd_eq hV.2.1 hf hm g
  have fo := hV.1 _ hm
  rcases h2 with ⟨k, u, v⟩ | ⟨k, u⟩ | ⟨k, u⟩ | ⟨k, u⟩ | ⟨k, u, v, w, y, z⟩ | ⟨k, u, v, w, y, z⟩ | ⟨k, u⟩ | ⟨k, u⟩
  · exact absurd (Or.inl k) c0
  · rw [if_neg (by rw [k]; decide), if_pos k, if_neg (by rw [k]; decide), if_pos k]
    exact ⟨rem_V hV u ⟨p0, pok⟩, filter_back hV.2.1 hm⟩
  · rw [if_neg (by rw [k]; decide), if_neg (by rw [k]; decide), if_pos k, if_neg (by rw [k]; decide), if_neg (by rw [k]; decide), if_pos k]
    refine ⟨chg_V hV (fun f => (f.1, 1, f.2.2)) (fun f hf g => ?_), List.Perm.of_eq (map_undo (fun f hf g => ?_))⟩
    · have e := uniq f hf g
      refine ⟨rfl, ?_, ⟨(hV.1 f hf).1, (hV.1 f hf).2.1, Or.inr (Or.inl rfl), (hV.1 f hf).2.2.2.1, fun e => absurd (show (1 : Int32) = 2 from e) (by decide)⟩⟩
      rw [e]; show pmS p ≠ 2; rw [u]; decide
    · have e := uniq f hf g
      refine ⟨g, ?_⟩
      rw [e]
      show (pmP p, 0, pmL p, pmH p) = (pmP p, pmS p, pmL p, pmH p)
      rw [u]
  · exact absurd (Or.inr k) c0
  · rw [if_neg (by rw [k]; decide), if_neg (by rw [k]; decide), if_neg (by rw [k]; decide), if_pos k, if_neg (by rw [k]; decide), if_neg (by rw [k]; decide), if_neg (by rw [k]; decide), if_pos k]
    obtain ⟨n, hn, hn9⟩ := i_n w.1 w.2
    have e := pnat_eq p0
    have ht : tbes (pmP p) (pmB p) = nI (nren (pnat (pmP p)) n) := by
      rw [hn]
      conv => lhs; rw [e]
      exact tbes_n pok.1 pok.2.1 pok.2.2 hn9
    obtain ⟨r1, r2⟩ := nren_ok pok hn9
    have hr := npar_ren pok hn9
    have hp' : ∀ f ∈ F, (if f.1 = pmP p then ((f.1, f.2.1, tqo f.2.2.1 (pmA p), tqo f.2.2.2 (pmA p)) : tFd) else f).1 = f.1 := by
      intro f hf; split <;> rfl
    constructor
    · refine add_V (chg_V hV (fun f => (f.1, f.2.1, tqo f.2.2.1 (pmA p), tqo f.2.2.2 (pmA p))) (fun f hf g => ?_)) ?_ ?_ ?_ ?_
      · have e := uniq f hf g
        refine ⟨rfl, ?_, ⟨(hV.1 f hf).1, (hV.1 f hf).2.1, (hV.1 f hf).2.2.1, tqo_mono (i_1 v.1) (hV.1 f hf).2.2.2.1, fun z => absurd (by rw [e] at z; exact u.symm.trans z) (by decide)⟩⟩
        rw [e]; show pmS p ≠ 2; rw [u]; decide
      · refine ⟨?_, ?_, Or.inl rfl, ?_, fun z => absurd (show (0 : Int32) = 2 from z) (by decide)⟩
        · show 0 ≤ tbes (pmP p) (pmB p)
          rw [ht]; exact nI_pos' (by have := r1.1; omega)
        · show nok (pnat (tbes (pmP p) (pmB p)))
          rw [ht, pnat_n (by have := r1.1; omega)]; exact r1
        · show (0 : Int32) ≤ pmA p - 1
          have a1 := Int32.le_iff_toInt_le.mp v.1
          have a2 := Int32.le_iff_toInt_le.mp v.2
          have q1 : (2 : Int32).toInt = 2 := by decide
          have q2 : (1000 : Int32).toInt = 1000 := by decide
          have q3 : (0 : Int32).toInt = 0 := by decide
          have q4 : (1 : Int32).toInt = 1 := by decide
          rw [Int32.le_iff_toInt_le, Int32.toInt_sub, bmod32 (by omega) (by omega)]
          omega
      · intro f hf
        obtain ⟨g, hg, rfl⟩ := List.mem_map.mp hf
        rw [hp' g hg]; exact y g hg
      · show fpar _ (pnat (tbes (pmP p) (pmB p)))
        rw [ht, pnat_n (by have := r1.1; omega)]
        have hq : fpar F (nren (pnat (pmP p)) n) := by unfold fpar; rw [hr]; exact hV.2.2.2 _ hm
        apply fpar_map hq
        intro r hr r2
        by_cases e : r.1 = pmP p
        · rw [uniq r hr e] at r2
          rw [show pmS p = 2 from r2] at u; exact absurd u (by decide)
        · rw [if_neg e]; exact ⟨rfl, r2⟩
      · rw [List.length_map]; exact z
    · rw [List.map_append, map_undo (φ := fun f => (f.1, f.2.1, tqo f.2.2.1 (pmA p), tqo f.2.2.2 (pmA p))) (ψ := fun f => (f.1, f.2.1, pmL p, pmH p)) (fun f hf g => ⟨g, by rw [uniq f hf g]⟩), List.filter_append, filter_no y]
      · have hne : ¬ tbes (pmP p) (pmB p) = pmP p := fun e => y _ hm e.symm
        simp only [List.map_cons, List.map_nil, if_neg hne]
        simp
  · rw [if_neg (by rw [k]; decide), if_neg (by rw [k]; decide), if_neg (by rw [k]; decide), if_neg (by rw [k]; decide), if_pos k, if_neg (by rw [k]; decide), if_neg (by rw [k]; decide), if_neg (by rw [k]; decide), if_neg (by rw [k]; decide), if_pos k]
    refine ⟨chg_V hV (fun f => (f.1, f.2.1, tsc true f.2.2.1 (pmA p) (pmB p) 0 0, tsc true f.2.2.2 (pmA p) (pmB p) 0 0)) (fun f hf g => ?_), List.Perm.of_eq (map_undo (fun f hf g => ⟨g, ?_⟩))⟩
    · have e := uniq f hf g
      refine ⟨rfl, ?_, ⟨(hV.1 f hf).1, (hV.1 f hf).2.1, (hV.1 f hf).2.2.1, ?_, fun z => absurd (by rw [e] at z; exact u.symm.trans z) (by decide)⟩⟩
      · rw [e]; show pmS p ≠ 2; rw [u]; decide
      · rw [e]; exact tsc_mono v.1 w.1 plh y z
    · rw [uniq f hf g]
  · have k0 : ∀ n : Int32, n ≠ 7 → ¬ p.1 = n := fun n h e => h (by rw [← e, k])
    rw [if_neg (k0 1 (by decide)), if_neg (k0 2 (by decide)), if_neg (k0 3 (by decide)), if_neg (k0 5 (by decide)), if_neg (k0 6 (by decide)), if_neg (k0 1 (by decide)), if_neg (k0 2 (by decide)), if_neg (k0 3 (by decide)), if_neg (k0 5 (by decide)), if_neg (k0 6 (by decide))]
    exact ⟨hV, List.Perm.refl _⟩
  · have k0 : ∀ n : Int32, n ≠ 8 → ¬ p.1 = n := fun n h e => h (by rw [← e, k])
    rw [if_neg (k0 1 (by decide)), if_neg (k0 2 (by decide)), if_neg (k0 3 (by decide)), if_neg (k0 5 (by decide)), if_neg (k0 6 (by decide)), if_neg (k0 1 (by decide)), if_neg (k0 2 (by decide)), if_neg (k0 3 (by decide)), if_neg (k0 5 (by decide)), if_neg (k0 6 (by decide))]
    exact ⟨hV, List.Perm.refl _⟩
