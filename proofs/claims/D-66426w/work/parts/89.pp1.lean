/-! PART 89: the component: places by their paths -/
def plc (h : zH) (a : Nat) : Bool × List Int32 := (decide (zi h a 1 = 1), (List.range (zi h a 2).toNatClampNeg).map (fun i => zi h (za h a 3) i))
theorem pls.plc {h : zH} {a : Nat} {b : Bool} {l : List Int32} (x : pls h a b l) : plc h a = (b, l) := by
  obtain ⟨a1, a2, a3, a4, a5, a6, a7⟩ := x
  unfold Jvm.Pilot.CLensPathsLaw_law_r4238_e0cd02.plc
  rw [a4, a5, nI_clamp (by omega)]
  congr 1
  · cases b <;> simp [tb]
  · apply List.ext_getElem
    · simp
    · intro i h1 h2
      rw [List.getElem_map, List.getElem_range]
      exact a7 i _ (List.getElem?_eq_getElem h2)
/-- what stands at a path: whether it is a list, and the numbers -/
abbrev pE : Type := Int32 × Bool × List Int32
def cPe (h : zH) (a : Nat) : pE := (zi h a 0, plc h a)
def cPl (h : zH) (r : Nat) (P : List pE) : Prop := ∃ rs, cRr h 3 r rs ∧ P = rs.map (cPe h) ∧ ∀ a ∈ rs, pls h a (plc h a).1 (plc h a).2
section PP1
variable {G : zG} {h : zH} {r : Nat} {P : List pE}
theorem pls.sr {h' : zH} {a : Nat} {b : Bool} {l : List Int32} (x : pls h a b l) (y : cSr 3 h h' a) (i : cIs 3 h' r a) : pls h' a b l := by
  obtain ⟨a1, a2, a3, a4, a5, a6, a7⟩ := x
  obtain ⟨y1, y2, y3⟩ := y
  obtain ⟨i1, i2, i3⟩ := i
  obtain ⟨j1, j2, _⟩ := i3 rfl
  refine ⟨i1, j1, j2, by rw [y1]; exact a4, by rw [y1]; exact a5, a6, fun i x hx => ?_⟩
  rw [y2, y3 rfl]; exact a7 i x hx
theorem cPl.f (x : cPl h r P) : zt h r = 3 ∧ za h r 1000 = r ∧ zi h r 2 = nI P.length ∧ P.length ≤ 100 ∧ (∀ e ∈ P, cPv e.1) ∧ P.Pairwise (fun e g => pk e.1 < pk g.1) := by
  obtain ⟨rs, x, rfl, _⟩ := x
  obtain ⟨f1, f2, f3, f4, f5, f6, f7⟩ := x.f
  refine ⟨f2, f3, by rw [List.length_map]; exact f4, by rw [List.length_map]; exact f5, fun f hf => ?_, ?_⟩
  · obtain ⟨a, ha, rfl⟩ := List.mem_map.mp hf
    exact (f6 a ha).2
  · rw [List.pairwise_map]; exact f7
theorem pl_nd (x : cPl h r P) : (P.map (fun e => e.1)).Nodup := by
  unfold List.Nodup
  rw [List.pairwise_map]
  refine x.f.2.2.2.2.2.imp ?_
  intro a b g e
  rw [e] at g
  omega
/-- rows that stayed as they were -/
theorem pl_keep {h' : zH} {rs : List Nat} (hw : ∀ a ∈ rs, pls h a (plc h a).1 (plc h a).2) (sr : ∀ a ∈ rs, cSr 3 h h' a) (is : ∀ a ∈ rs, cIs 3 h' r a) : (∀ a ∈ rs, cPe h' a = cPe h a) ∧ ∀ a ∈ rs, pls h' a (plc h' a).1 (plc h' a).2 := by
  have key : ∀ a ∈ rs, pls h' a (plc h a).1 (plc h a).2 := fun a ha => (hw a ha).sr (sr a ha) (is a ha)
  refine ⟨fun a ha => ?_, fun a ha => ?_⟩
  · unfold cPe
    rw [(key a ha).plc, (sr a ha).1]
  · rw [(key a ha).plc]; exact key a ha
theorem cPl.fr {h' : zH} (x : cPl h r P) (e : ∀ a, zt h a ≠ 0 → za h a 1000 = r → cSm h h' a) : cPl h' r P := by
  obtain ⟨rs, x, rfl, hw⟩ := x
  obtain ⟨x', sr⟩ := x.sm e
  obtain ⟨k1, k2⟩ := pl_keep (r := r) hw sr (fun a ha => (x'.f.2.2.2.2.2.1 a ha).1)
  exact ⟨rs, x', List.map_congr_left (fun a ha => (k1 a ha).symm), k2⟩
theorem cPl.fr2 {h' : zH} {r' : Nat} (x : cPl h r P) (hne : r ≠ r') (e : cFr r' h h') : cPl h' r P := x.fr (fun a h1 h2 => e a h1 (by rw [h2]; exact hne))
/-- a place written where it stands -/
theorem cPl.set {h' : zH} {rs : List Nat} (x : cRr h 3 r rs) (hw : ∀ a ∈ rs, pls h a (plc h a).1 (plc h a).2) {a : Nat} (ha : a ∈ rs) (y : cPc h a h') {b : Bool} {l : List Int32} (z : pls h' a b l) :
    cPl h' r ((rs.map (cPe h)).map (fun e => if e.1 = zi h a 0 then (e.1, b, l) else e)) ∧ cRr h' 3 r rs ∧ (∀ c ∈ rs, pls h' c (plc h' c).1 (plc h' c).2) ∧ cFr r h h' := by
  obtain ⟨I, rfl, y1, y2⟩ := y
  obtain ⟨n1, n2⟩ := x.ne ha
  obtain ⟨n3, n4, n5⟩ := n2 rfl
  have is := x.f.2.2.2.2.2.1
  have oth : ∀ c ∈ rs, c ≠ a → I c = zi h c ∧ I (za h c 3) = zi h (za h c 3) := fun c hc e => by
    refine ⟨y1 c e (fun g => n4 (by rw [← g]; exact hc)), y1 _ (fun g => ?_) (x.ne2 hc ha e rfl)⟩
    exact ((x.ne hc).2 rfl).2.1 (by rw [g]; exact ha)
  have x' : cRr (cSi h I) 3 r rs := x.set rfl rfl rfl (y1 r n1.symm n3.symm) (fun c hc => by
    by_cases e : c = a
    · rw [e]; exact y2 0 (by decide) (by decide)
    · show I c 0 = zi h c 0; rw [(oth c hc e).1])
  have key : ∀ c ∈ rs, c ≠ a → pls (cSi h I) c (plc h c).1 (plc h c).2 := fun c hc e => (hw c hc).sr (r := r) ⟨(oth c hc e).1, rfl, fun _ => (oth c hc e).2⟩ (x'.f.2.2.2.2.2.1 c hc).1
  have hw' : ∀ c ∈ rs, pls (cSi h I) c (plc (cSi h I) c).1 (plc (cSi h I) c).2 := fun c hc => by
    by_cases e : c = a
    · subst e; rw [z.plc]; exact z
    · rw [(key c hc e).plc]; exact key c hc e
  refine ⟨⟨rs, x', ?_, hw'⟩, x', hw', fun c h1 h2 => ⟨rfl, rfl, y1 c (fun e => h2 (by rw [e]; exact (is a ha).1.2.1)) (fun e => h2 (by rw [e]; exact ((is a ha).1.2.2 rfl).2.2.1)), rfl, rfl⟩⟩
  rw [List.map_map]
  apply List.map_congr_left
  intro c hc
  show (if (cPe h c).1 = zi h a 0 then ((cPe h c).1, b, l) else cPe h c) = cPe (cSi h I) c
  by_cases e : c = a
  · subst e
    rw [if_pos (show (cPe h c).1 = zi h c 0 from rfl)]
    unfold cPe
    rw [z.plc]
    show (zi h c 0, b, l) = (I c 0, b, l)
    rw [y2 0 (by decide) (by decide)]
  · rw [if_neg (show ¬ (cPe h c).1 = zi h a 0 from fun g => e (x.inj hc ha g))]
    unfold cPe
    rw [(key c hc e).plc]
    show (zi h c 0, plc h c) = (I c 0, plc h c)
    rw [(oth c hc e).1]
theorem k_pl_add (hG : zOK G) (x : cPl h r P) (hl : P.length < 100) {p : Int32} (hp : cPv p) (hno : ∀ e ∈ P, e.1 ≠ p) (hn : zn h + 5 ≤ g0 G + 603072) (hs : zs h + 20 ≤ 7211114) :
    zJ G 6 m_Rows_add 0 [some (zA r), some (zI p), none] [] h (fun o h' => ∃ v, o = zR v ∧ ∃ a rs, v = zA a ∧ cRr h' 3 r rs ∧ (∀ c ∈ rs, pls h' c (plc h' c).1 (plc h' c).2) ∧ a ∈ rs ∧ pls h' a false [0] ∧ zi h' a 0 = p ∧ (rs.map (cPe h')).Perm ((p, false, [0]) :: P) ∧ cGr r h h' 3 12) := by
  obtain ⟨rs, x, rfl, hw⟩ := x
  refine (k_r_add hG x (by simpa using hl) hp (fun b hb => hno _ (List.mem_map.mpr ⟨b, hb, rfl⟩)) hn hs).mono ?_
  rintro o h' ⟨v, rfl, a, l1, l2, rfl, e1, e2, x', e4, e5, e6, e7, e8⟩
  have am : a ∈ l1 ++ a :: l2 := List.mem_append_right _ List.mem_cons_self
  have is' := x'.f.2.2.2.2.2.1
  have mem : ∀ c ∈ rs, c ∈ l1 ++ a :: l2 := fun c hc => by
    rw [e1] at hc
    rcases List.mem_append.mp hc with g | g
    · exact List.mem_append_left _ g
    · exact List.mem_append_right _ (List.mem_cons_of_mem _ g)
  obtain ⟨k1, k2⟩ := pl_keep (r := r) hw e7 (fun c hc => (is' c (mem c hc)).1)
  have pa : pls h' a false [0] := by
    obtain ⟨w1, w2, w3⟩ := e5.2.1 rfl
    obtain ⟨i1, i2, i3⟩ := (is' a am).1
    refine ⟨i1, (i3 rfl).1, (i3 rfl).2.1, w1, w2, by decide, fun i x hx => ?_⟩
    cases i with
    | zero => simp at hx; rw [← hx]; exact w3
    | succ i => simp at hx
  refine ⟨_, rfl, a, l1 ++ a :: l2, rfl, x', fun c hc => ?_, am, pa, e4, ?_, e6, e8⟩
  · by_cases e : c = a
    · subst e; rw [pa.plc]; exact pa
    · refine k2 c ?_
      rw [e1]
      rcases List.mem_append.mp hc with g | g
      · exact List.mem_append_left _ g
      · rcases List.mem_cons.mp g with g | g
        · exact absurd g e
        · exact List.mem_append_right _ g
  · rw [List.map_append, List.map_cons]
    have ea : cPe h' a = (p, false, [0]) := by unfold cPe; rw [pa.plc, e4]
    have g1 : l1.map (cPe h') = l1.map (cPe h) := List.map_congr_left (fun b hb => k1 b (by rw [e1]; exact List.mem_append_left _ hb))
    have g2 : l2.map (cPe h') = l2.map (cPe h) := List.map_congr_left (fun b hb => k1 b (by rw [e1]; exact List.mem_append_right _ hb))
    rw [ea, g1, g2, e1, List.map_append]
    exact List.perm_middle
end PP1
