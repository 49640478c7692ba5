/-! PART 67: plain law: chains of primitives; the state is right (sInv) -/
def sCh : List tPm → List tFd → Prop
  | [], _ => True
  | p :: t, F => sOk p F ∧ sCh t (sf p F)
def sfs (ps : List tPm) (F : List tFd) : List tFd := ps.foldl (fun F p => sf p F) F
theorem sCh.perm : ∀ {ps : List tPm} {F F' : List tFd}, F.Perm F' → sCh ps F → sCh ps F' := by
  intro ps
  induction ps with
  | nil => intro F F' _ _; trivial
  | cons p t ih => intro F F' h x; exact ⟨x.1.perm h, ih (sf_perm h) x.2⟩
theorem sfs_perm : ∀ {ps : List tPm} {F F' : List tFd}, F.Perm F' → (sfs ps F).Perm (sfs ps F') := by
  intro ps
  induction ps with
  | nil => intro F F' h; exact h
  | cons p t ih => intro F F' h; exact ih (sf_perm h)
theorem sCh.V : ∀ {ps : List tPm} {F : List tFd}, sV F → sCh ps F → sV (sfs ps F) := by
  intro ps
  induction ps with
  | nil => intro F h _; exact h
  | cons p t ih => intro F h x; exact ih (sf_V h x.1).1 x.2
theorem sfs_app (ps qs : List tPm) (F : List tFd) : sfs (ps ++ qs) F = sfs qs (sfs ps F) := List.foldl_append
theorem sCh_app : ∀ {ps qs : List tPm} {F : List tFd}, sCh (ps ++ qs) F ↔ sCh ps F ∧ sCh qs (sfs ps F) := by
  intro ps
  induction ps with
  | nil => intro qs F; exact ⟨fun h => ⟨trivial, h⟩, fun h => h.2⟩
  | cons p t ih =>
    intro qs F
    show sOk p F ∧ sCh (t ++ qs) (sf p F) ↔ (sOk p F ∧ sCh t (sf p F)) ∧ sCh qs (sfs t (sf p F))
    rw [ih]
    exact and_assoc.symm
theorem sOk_hl {p : tPm} {F : List tFd} {T : List tE} (hV : sV F) (h : sOk p F) (hT : (T.map tfd).Perm F) (c0 : ¬ p.1 = 0) (c4 : ¬ p.1 = 4) (c1 : ¬ p.1 = 1) : tix T p.2.1 < T.length := by
  rcases (sOk_tfK hV h hT).2 with g | g | g | g
  · exact absurd g c0
  · exact absurd g c4
  · exact absurd g c1
  · exact g.1
/-- forth, the table apart from its order -/
theorem tfo_F {m : Int32} {p : tPm} {s : Nat} {X : tXt} {F : List tFd} (hV : sV F) (h : sOk p F) (hT : (X.1.map tfd).Perm F) : ((tfo m p s X).1.map tfd).Perm (sf p F) :=
  (tfo_sf (hV.nd hT) (fun a b c => sOk_hl hV h hT a b c)).trans (sf_perm hT)
theorem tba_F {m : Int32} {p : tPm} {s : Nat} {X : tXt} {F : List tFd} (hV : sV F) (h : sOk p F) (hT : (X.1.map tfd).Perm (sf p F)) : ((tba m p s X).1.map tfd).Perm F := by
  obtain ⟨hV', hb⟩ := sf_V hV h
  refine ((tba_sb (hV'.nd hT) (fun a b c => ?_) (fun k => ?_)).trans (sb_perm hT)).trans hb
  · rcases (sOk_tbK hV h hT).2 with g | g | g | g
    · exact absurd g a
    · exact absurd g b
    · exact absurd g c
    · exact g.1
  · obtain ⟨hl2, _⟩ := tel_f hV'.2.1 hT (sf_mem5 (F := F) k)
    refine ⟨hl2, ?_⟩
    rcases h.2 with ⟨k', _⟩ | ⟨fm, h'⟩
    · rw [k] at k'; exact absurd k' (by decide)
    · rcases h' with ⟨k', _⟩ | ⟨k', _⟩ | ⟨k', _⟩ | ⟨k', _⟩ | ⟨_, _, _, _, y, _⟩ | ⟨k', _⟩ | ⟨k', _⟩ | ⟨k', _⟩
      · rw [k] at k'; exact absurd k' (by decide)
      · rw [k] at k'; exact absurd k' (by decide)
      · rw [k] at k'; exact absurd k' (by decide)
      · rw [k] at k'; exact absurd k' (by decide)
      · exact y _ fm
      · rw [k] at k'; exact absurd k' (by decide)
      · rw [k] at k'; exact absurd k' (by decide)
      · rw [k] at k'; exact absurd k' (by decide)
theorem tf0_F {p : tPm} {T : List tE} {F : List tFd} (hV : sV F) (h : sOk p F) (hT : (T.map tfd).Perm F) : ((tf0 p T).map tfd).Perm (sf p F) := tfo_F (X := (T, _)) hV h hT
theorem tf0s_F : ∀ {ps : List tPm} {T : List tE} {F : List tFd}, sV F → sCh ps F → (T.map tfd).Perm F → ((tf0s ps T).map tfd).Perm (sfs ps F) := by
  intro ps
  induction ps with
  | nil => intro T F _ _ h; exact h
  | cons p t ih => intro T F hV h hT; exact ih (sf_V hV h.1).1 h.2 (tf0_F hV h.1 hT)
theorem tCh_of : ∀ {ps : List tPm} {T : List tE} {F : List tFd}, sV F → sCh ps F → (T.map tfd).Perm F → tCh ps T := by
  intro ps
  induction ps with
  | nil => intro T F _ _ _ i p h; simp at h
  | cons p t ih =>
    intro T F hV h hT i q hi
    cases i with
    | zero =>
      simp at hi
      subst hi
      exact sOk_tfK hV h.1 hT
    | succ i => exact ih (sf_V hV h.1).1 h.2 (tf0_F hV h.1 hT) i q (by simpa using hi)
theorem map_tE0 (F : List tFd) : (F.map tE0).map tfd = F := by
  rw [List.map_map]
  conv => rhs; rw [← List.map_id F]
  rfl
/-- the schema under way: right, and its chain is as the reference wants it -/
theorem under_ok {W : sW} {u : Nat × List tPm} {F : List tFd} (hV : sV F) (hF : (wV W)[u.1]? = some F) (hc : sCh u.2 F) : ((tUW W u).map tfd).Perm (sfs u.2 F) ∧ tCh u.2 (((wV W)[u.1]?.getD []).map tE0) ∧ sV (sfs u.2 F) := by
  unfold tUW
  rw [hF]
  exact ⟨tf0s_F hV hc (List.Perm.of_eq (map_tE0 F)), tCh_of hV hc (List.Perm.of_eq (map_tE0 F)), hc.V hV⟩
/-- the place of a path -/
def pk (x : Int32) : Nat := pkn 4 (pnat x)
def sSo (F : List tFd) : Prop := F.Pairwise (fun f g => pk f.1 < pk g.1)
theorem pkn_inj : ∀ (n m r : Nat), m < 128 ^ n → r < 128 ^ n → pkn n m = pkn n r → m = r := by
  intro n
  induction n with
  | zero => intro m r hm hr _; simp at hm hr; omega
  | succ n ih =>
    intro m r hm hr h
    rw [Nat.pow_succ] at hm hr
    have a := pkn_lt n (m / 128)
    have b := pkn_lt n (r / 128)
    have e1 : ¬ pkn (n + 1) m < pkn (n + 1) r := by omega
    have e2 : ¬ pkn (n + 1) r < pkn (n + 1) m := by omega
    rw [pkn_cmp] at e1 e2
    have e3 : m % 128 = r % 128 := by omega
    have := ih (m / 128) (r / 128) (by omega) (by omega) (by omega)
    omega
theorem pk_inj {x y : Int32} (hx : 0 ≤ x ∧ pnat x < 2 ^ 28) (hy : 0 ≤ y ∧ pnat y < 2 ^ 28) (h : pk x = pk y) : x = y := by
  have := pkn_inj 4 _ _ hx.2 hy.2 h
  rw [pnat_eq hx.1, this, ← pnat_eq hy.1]
theorem so_eq {F F' : List tFd} (h : sSo F) (h' : sSo F') (hp : F.Perm F') : F = F' := by
  refine List.Perm.eq_of_pairwise (fun a b _ _ u v => ?_) h h' hp
  omega
