/-! PART 76: the component: rows, by the rows' addresses -/
/-- rows r with these rows, in order -/
def cRr (h : zH) (K r : Nat) (rs : List Nat) : Prop := ∃ ks sp, cRw h K r ks sp ∧ rs = ks.map (cRo h)
/-- a row of theirs -/
def cIs (K : Nat) (h : zH) (r a : Nat) : Prop := zt h a = K + 3 ∧ za h a 1000 = r ∧ (K = 3 → zt h (za h a 3) = 21 ∧ zl h (za h a 3) = 6 ∧ za h (za h a 3) 1000 = r ∧ za h (za h a 3) 1001 = a)
/-- a row is as it was -/
def cSr (K : Nat) (h h' : zH) (a : Nat) : Prop := zi h' a = zi h a ∧ za h' a = za h a ∧ (K = 3 → zi h' (za h a 3) = zi h (za h a 3))
theorem cSr.rfl' {K : Nat} {h : zH} {a : Nat} : cSr K h h a := ⟨rfl, rfl, fun _ => rfl⟩
theorem cSr.trans {K : Nat} {h h1 h2 : zH} {a : Nat} (x : cSr K h h1 a) (y : cSr K h1 h2 a) : cSr K h h2 a := by
  obtain ⟨a1, a2, a3⟩ := x
  obtain ⟨b1, b2, b3⟩ := y
  rw [a2] at b3
  exact ⟨b1.trans a1, b2.trans a2, fun e => (b3 e).trans (a3 e)⟩
section CT1
variable {G : zG} {h : zH} {K r : Nat} {rs : List Nat}
theorem cRr.f (x : cRr h K r rs) : (K = 2 ∨ K = 3 ∨ K = 4) ∧ zt h r = K ∧ za h r 1000 = r ∧ zi h r 2 = nI rs.length ∧ rs.length ≤ 100 ∧ (∀ a ∈ rs, cIs K h r a ∧ cPv (zi h a 0)) ∧ rs.Pairwise (fun a b => pk (zi h a 0) < pk (zi h b 0)) := by
  obtain ⟨ks, sp, x, rfl⟩ := x
  refine ⟨x.1.1, x.1.2.1, x.1.2.2.1, by rw [List.length_map]; exact x.1.2.2.2.2.2.2.2.1, by rw [List.length_map]; exact x.1.2.2.2.2.2.2.2.2.1, ?_, ?_⟩
  · intro a ha
    obtain ⟨k, hk, rfl⟩ := List.mem_map.mp ha
    have kn := x.1.2.2.2.2.2.2.1 k (List.mem_append_left _ hk)
    exact ⟨⟨kn.2.2.1, kn.2.2.2.1, fun e => kn.2.2.2.2.2 e⟩, x.1.2.2.2.2.2.2.2.2.2 k hk⟩
  · rw [List.pairwise_map]; exact x.2
/-- paths tell rows apart -/
theorem cRr.inj (x : cRr h K r rs) {a b : Nat} (ha : a ∈ rs) (hb : b ∈ rs) (e : zi h a 0 = zi h b 0) : a = b := by
  obtain ⟨i, hi, rfl⟩ := List.mem_iff_getElem.mp ha
  obtain ⟨j, hj, rfl⟩ := List.mem_iff_getElem.mp hb
  have hs := x.f.2.2.2.2.2.2
  rw [List.pairwise_iff_getElem] at hs
  rcases Nat.lt_trichotomy i j with q | q | q
  · have := hs i j hi hj q; rw [e] at this; omega
  · subst q; rfl
  · have := hs j i hj hi q; rw [e] at this; omega
theorem cRr.nd (x : cRr h K r rs) : rs.Nodup := by
  refine x.f.2.2.2.2.2.2.imp ?_
  intro a b h e
  rw [e] at h
  omega
theorem cRr.sm {h' : zH} (x : cRr h K r rs) (e : ∀ a, zt h a ≠ 0 → za h a 1000 = r → cSm h h' a) : cRr h' K r rs ∧ ∀ a ∈ rs, cSr K h h' a := by
  obtain ⟨ks, sp, x, rfl⟩ := x
  obtain ⟨x', rk⟩ := x.sm e
  refine ⟨⟨ks, sp, x', List.map_congr_left (fun k hk => (rk k hk).1.symm)⟩, fun a ha => ?_⟩
  obtain ⟨k, hk, rfl⟩ := List.mem_map.mp ha
  exact ⟨(rk k hk).2.1, (rk k hk).2.2.1, (rk k hk).2.2.2⟩
theorem k_r_at (hG : zOK G) (x : cRr h K r rs) (p : Int32) : zJ G 0 m_Rows_at 0 [some (zA r), some (zI p), none] [] h (fun o h' => ∃ v, o = zR v ∧ ∃ a, v = zA a ∧ h' = h ∧ (a = 0 ∧ (∀ b ∈ rs, zi h b 0 ≠ p) ∨ a ≠ 0 ∧ a ∈ rs ∧ zi h a 0 = p)) := by
  refine zj_wf hG (fun wf => ?_)
  obtain ⟨ks, sp, x, rfl⟩ := x
  refine (k_Rows_at hG x.1 p).mono ?_
  rintro o h' ⟨rfl, rfl⟩
  refine ⟨_, rfl, _, rfl, rfl, ?_⟩
  cases hf : ks.find? (fun k => decide (cPt h' k = p)) with
  | none =>
    left
    refine ⟨rfl, fun e he => ?_⟩
    obtain ⟨k, hk, rfl⟩ := List.mem_map.mp he
    have := List.find?_eq_none.mp hf k hk
    simpa using this
  | some k =>
    right
    have hk := List.mem_of_find?_eq_some hf
    have hp : cPt h' k = p := of_decide_eq_true (List.find?_some (p := fun k => decide (cPt h' k = p)) hf)
    have kn := x.1.2.2.2.2.2.2.1 k (List.mem_append_left _ hk)
    exact ⟨(wf _ kn.in.2.2.1).1, List.mem_map.mpr ⟨k, hk, rfl⟩, hp⟩
theorem k_r_get (hG : zOK G) (x : cRr h K r rs) {n : Nat} (hn : n < rs.length) : zJ G 0 m_Rows_get 0 [some (zA r), some (zI (nI n)), none, none] [] h (fun o h' => o = zR (zA rs[n]) ∧ h' = h) := by
  obtain ⟨ks, sp, x, rfl⟩ := x
  have hn' : n < ks.length := by simpa using hn
  refine (k_Rows_get hG x.1 hn').mono ?_
  rintro o h' ⟨rfl, rfl⟩
  have e : (ks[n]?).getD 0 = ks[n] := by rw [List.getElem?_eq_getElem hn']; rfl
  refine ⟨?_, rfl⟩
  rw [e, List.getElem_map]
/-- what a row holds is written -/
theorem cRr.set (x : cRr h K r rs) {h' : zH} (ht : zt h' = zt h) (hl : zl h' = zl h) (hz : za h' = za h) (hr : zi h' r = zi h r) (h0 : ∀ a ∈ rs, zi h' a 0 = zi h a 0) : cRr h' K r rs := by
  obtain ⟨ks, sp, ⟨⟨b1, b2, b3, b4, b5, b6, b7, b8, b9, b10⟩, b11⟩, rfl⟩ := x
  have pt : ∀ k ∈ ks, cPt h' k = cPt h k := fun k hk => by
    show zi h' (za h' k 0) 0 = zi h (za h k 0) 0
    rw [hz]
    exact h0 _ (List.mem_map.mpr ⟨k, hk, rfl⟩)
  refine ⟨ks, sp, ⟨⟨b1, by rw [ht]; exact b2, by rw [hz]; exact b3, ?_, ?_, b6, fun k hk => ?_, by rw [hr]; exact b8, b9, fun k hk => by rw [pt k hk]; exact b10 k hk⟩, so_congr b11 pt⟩, ?_⟩
  · show cLs (fun k => za h' k 1) (za h' r 0) ks
    rw [hz]; exact b4
  · show cLs (fun k => za h' k 1) (za h' r 1) sp
    rw [hz]; exact b5
  · have := b7 k hk
    unfold cKn at this ⊢
    rw [ht, hz, hl]; exact this
  · apply List.map_congr_left
    intro k _
    show za h k 0 = za h' k 0
    rw [hz]
/-- a row of theirs is not another cell of theirs -/
theorem cRr.ne (x : cRr h K r rs) {a : Nat} (ha : a ∈ rs) : a ≠ r ∧ (K = 3 → za h a 3 ≠ r ∧ za h a 3 ∉ rs ∧ za h a 3 ≠ a) := by
  obtain ⟨f1, f2, f3, f4, f5, f6, f7⟩ := x.f
  obtain ⟨⟨i1, i2, i3⟩, _⟩ := f6 a ha
  refine ⟨fun e => by rw [e, f2] at i1; omega, fun e3 => ⟨fun e => ?_, fun e => ?_, fun e => ?_⟩⟩
  · have := (i3 e3).1; rw [e, f2] at this; omega
  · have := (i3 e3).1; rw [(f6 _ e).1.1] at this; omega
  · have := (i3 e3).1; rw [e, i1] at this; omega
theorem cRr.ne2 (x : cRr h K r rs) {a b : Nat} (ha : a ∈ rs) (hb : b ∈ rs) (hab : a ≠ b) (e3 : K = 3) : za h a 3 ≠ za h b 3 := by
  obtain ⟨f1, f2, f3, f4, f5, f6, f7⟩ := x.f
  intro e
  have h1 := ((f6 a ha).1.2.2 e3).2.2.2
  have h2 := ((f6 b hb).1.2.2 e3).2.2.2
  rw [e, h2] at h1
  exact hab h1.symm
theorem k_r_remove (hG : zOK G) (x : cRr h K r rs) {p : Int32} (hp : ∃ a ∈ rs, zi h a 0 = p) :
    zJ G 0 m_Rows_remove 0 [some (zA r), some (zI p), none, none] [] h (fun o h' => o = zR0 ∧ ∃ l1 a l2, rs = l1 ++ a :: l2 ∧ zi h a 0 = p ∧ cRr h' K r (l1 ++ l2) ∧ cFr r h h' ∧ (∀ b ∈ rs, cSr K h h' b) ∧ zn h' = zn h ∧ zs h' = zs h) := by
  obtain ⟨ks, sp, x, rfl⟩ := x
  obtain ⟨a, ha, ep⟩ := hp
  obtain ⟨k, hk, rfl⟩ := List.mem_map.mp ha
  refine (k_Rows_remove hG x ⟨k, hk, ep⟩).mono ?_
  rintro o h' ⟨rfl, lk, l1, k', t, e1, e2, e3⟩
  have sr : ∀ j ∈ ks, za h' j 0 = za h j 0 ∧ cSr K h h' (za h j 0) := fun j hj => by
    obtain ⟨_, _, q3, q4, q5, q6⟩ := (x.1.2.2.2.2.2.2.1 j (List.mem_append_left _ hj)).lk x.1.2.1 x.1.1 lk
    exact ⟨q3, q4, q5, q6⟩
  refine ⟨rfl, l1.map (cRo h), cRo h k', t.map (cRo h), by rw [e1]; simp, e2, ⟨l1 ++ t, k' :: sp, e3, ?_⟩, lk.fr x.1.2.2.1, fun b hb => ?_, lk.1, lk.2.1⟩
  · rw [← List.map_append]
    apply List.map_congr_left
    intro j hj
    refine (sr j ?_).1.symm
    rw [e1]
    rcases List.mem_append.mp hj with g | g
    · exact List.mem_append_left _ g
    · exact List.mem_append_right _ (List.mem_cons_of_mem _ g)
  · obtain ⟨j, hj, rfl⟩ := List.mem_map.mp hb
    exact (sr j hj).2
theorem k_r_clear (hG : zOK G) (x : cRr h K r rs) : zJ G 1 m_Rows_clear 0 [some (zA r)] [] h (fun o h' => o = zR0 ∧ cRr h' K r [] ∧ cFr r h h' ∧ zn h' = zn h ∧ zs h' = zs h) := by
  obtain ⟨ks, sp, x, rfl⟩ := x
  refine (k_Rows_clear hG x).mono ?_
  rintro o h' ⟨rfl, lk, sp', x'⟩
  exact ⟨rfl, ⟨[], sp', x', rfl⟩, lk.fr x.1.2.2.1, lk.1, lk.2.1⟩
theorem k_r_add (hG : zOK G) (x : cRr h K r rs) (hl : rs.length < 100) {p : Int32} (hp : cPv p) (hno : ∀ b ∈ rs, zi h b 0 ≠ p) (hn : zn h + 5 ≤ g0 G + 603072) (hs : zs h + 20 ≤ 7211114) :
    zJ G 6 m_Rows_add 0 [some (zA r), some (zI p), none] [] h (fun o h' => ∃ v, o = zR v ∧ ∃ a l1 l2, v = zA a ∧ rs = l1 ++ l2 ∧ a ∉ rs ∧ cRr h' K r (l1 ++ a :: l2) ∧ zi h' a 0 = p ∧ cNew K h' a ∧ cFr r h h' ∧ (∀ b ∈ rs, cSr K h h' b) ∧ zn h ≤ zn h' ∧ zn h' ≤ zn h + 3 ∧ zs h ≤ zs h' ∧ zs h' ≤ zs h + 12) := by
  obtain ⟨ks, sp, x, rfl⟩ := x
  refine (k_Rows_add hG x (by simpa using hl) hp (fun j hj => hno _ (List.mem_map.mpr ⟨j, hj, rfl⟩)) hn hs).mono ?_
  rintro o h' ⟨v, rfl, ⟨k, l1, l2, sp', c1, c2, c3, c4, c5, c6, c7, c8⟩, c9⟩
  have kn' : ∀ j ∈ l1 ++ k :: l2, cKn h' K r j := fun j hj => c4.1.2.2.2.2.2.2.1 j (List.mem_append_left _ hj)
  have mem : ∀ j ∈ ks, j ∈ l1 ++ k :: l2 := fun j hj => by
    rw [c2] at hj
    rcases List.mem_append.mp hj with g | g
    · exact List.mem_append_left _ g
    · exact List.mem_append_right _ (List.mem_cons_of_mem _ g)
  refine ⟨v, rfl, za h' k 0, l1.map (cRo h), l2.map (cRo h), c1, by rw [c2, List.map_append], fun g => ?_, ⟨l1 ++ k :: l2, sp', c4, ?_⟩, c5, c6, c7, fun b hb => ?_, c9⟩
  · obtain ⟨j, hj, e⟩ := List.mem_map.mp g
    have e2 : za h' j 0 = za h' k 0 := by rw [(c8 j hj).1]; exact e
    have := (kn' j (mem j hj)).row (kn' k (List.mem_append_right _ List.mem_cons_self)) e2
    rw [this] at hj
    exact c3 hj
  · rw [List.map_append, List.map_cons]
    have g1 : l1.map (cRo h') = l1.map (cRo h) := List.map_congr_left (fun j hj => (c8 j (by rw [c2]; exact List.mem_append_left _ hj)).1)
    have g2 : l2.map (cRo h') = l2.map (cRo h) := List.map_congr_left (fun j hj => (c8 j (by rw [c2]; exact List.mem_append_right _ hj)).1)
    rw [g1, g2]
  · obtain ⟨j, hj, rfl⟩ := List.mem_map.mp hb
    exact ⟨(c8 j hj).2.1, (c8 j hj).2.2.1, (c8 j hj).2.2.2⟩
/-- what a move makes of the rows -/
def cMoved (K r : Nat) (rs : List Nat) (f : Int32 → Int32) (h h' : zH) : Prop := ∃ rs', rs'.Perm rs ∧ cRr h' K r rs' ∧ cFr r h h' ∧ (∀ b ∈ rs, zi h' b 0 = f (zi h b 0) ∧ (∀ j, j ≠ 0 → zi h' b j = zi h b j) ∧ za h' b = za h b ∧ (K = 3 → zi h' (za h b 3) = zi h (za h b 3))) ∧ zn h' = zn h ∧ zs h' = zs h
theorem moved {ks sp : List Nat} {f : Int32 → Int32} {h' : zH} (x : cRw h K r ks sp) (lk : cLk (cMv h (ks.map (cRo h)) f) r h') (e : ∃ ks', ks'.Perm ks ∧ cRw h' K r ks' sp) : cMoved K r (ks.map (cRo h)) f h h' := by
  obtain ⟨ks', hp, x'⟩ := e
  have x0 : cRr h K r (ks.map (cRo h)) := ⟨ks, sp, x, rfl⟩
  have key : ∀ k ∈ ks, za h' k 0 = za h k 0 ∧ zi h' (za h k 0) = zi (cMv h (ks.map (cRo h)) f) (za h k 0) ∧ za h' (za h k 0) = za h (za h k 0) ∧ (K = 3 → zi h' (za h (za h k 0) 3) = zi (cMv h (ks.map (cRo h)) f) (za h (za h k 0) 3)) := fun k hk => by
    have kn : cKn (cMv h (ks.map (cRo h)) f) K r k := x.1.2.2.2.2.2.2.1 k (List.mem_append_left _ hk)
    obtain ⟨_, _, q3, q4, q5, q6⟩ := kn.lk x.1.2.1 x.1.1 lk
    exact ⟨q3, q4, q5, q6⟩
  refine ⟨ks'.map (cRo h), hp.map _, ⟨ks', sp, x', List.map_congr_left (fun k hk => (key k (hp.mem_iff.mp hk)).1.symm)⟩, ?_, fun b hb => ?_, lk.1, lk.2.1⟩
  · intro a e f'
    have := lk.fr x.1.2.2.1 a e f'
    refine ⟨this.1, this.2.1, ?_, this.2.2.2.1, this.2.2.2.2⟩
    rw [this.2.2.1]
    funext j
    refine cMv_i (fun g => f' ?_) j
    obtain ⟨k, hk, rfl⟩ := List.mem_map.mp g
    exact (x.1.2.2.2.2.2.2.1 k (List.mem_append_left _ hk)).2.2.2.1
  · obtain ⟨k, hk, rfl⟩ := List.mem_map.mp hb
    obtain ⟨_, q4, q5, q6⟩ := key k hk
    refine ⟨?_, fun j hj => ?_, q5, fun e3 => ?_⟩
    · rw [q4]
      show (if (0 : Nat) = 0 ∧ _ then _ else _) = _
      rw [if_pos ⟨rfl, hb⟩]
    · rw [q4]
      show (if j = 0 ∧ _ then _ else _) = _
      rw [if_neg (fun g => hj g.1)]
    · rw [q6 e3]
      funext j
      exact cMv_i ((x0.ne hb).2 e3).2.1 j
theorem k_r_rename (hG : zOK G) (x : cRr h K r rs) {m : Nat} (hm : m < 2 ^ 28) (n : Int32) (hv : ∀ b ∈ rs, cPv (cif m (fun x => cren x m n) (zi h b 0))) (hd : (rs.map (fun b => cif m (fun x => cren x m n) (zi h b 0))).Nodup) :
    zJ G 3 m_Rows_rename 0 [some (zA r), some (zI (nI m)), some (zI n), none] [] h (fun o h' => o = zR0 ∧ cMoved K r rs (cif m (fun x => cren x m n)) h h') := by
  obtain ⟨ks, sp, x, rfl⟩ := x
  refine (k_Rows_rename hG x hm n (fun k hk => hv _ (List.mem_map.mpr ⟨k, hk, rfl⟩)) (by rw [List.map_map] at hd; exact hd)).mono ?_
  rintro o h' ⟨rfl, lk, e⟩
  exact ⟨rfl, moved x lk e⟩
theorem k_r_lift (hG : zOK G) (x : cRr h K r rs) {m : Nat} (hm : m < 2 ^ 28) (hv : ∀ b ∈ rs, cPv (cif m (fun x => clif x m) (zi h b 0))) (hd : (rs.map (fun b => cif m (fun x => clif x m) (zi h b 0))).Nodup) :
    zJ G 3 m_Rows_lift 0 [some (zA r), some (zI (nI m)), none] [] h (fun o h' => o = zR0 ∧ cMoved K r rs (cif m (fun x => clif x m)) h h') := by
  obtain ⟨ks, sp, x, rfl⟩ := x
  refine (k_Rows_lift hG x hm (fun k hk => hv _ (List.mem_map.mpr ⟨k, hk, rfl⟩)) (by rw [List.map_map] at hd; exact hd)).mono ?_
  rintro o h' ⟨rfl, lk, e⟩
  exact ⟨rfl, moved x lk e⟩
theorem k_r_sink (hG : zOK G) (x : cRr h K r rs) {m : Nat} (hm : m < 2 ^ 28) (n : Int32) (hv : ∀ b ∈ rs, cPv (cif m (fun x => csun x m n) (zi h b 0))) (hd : (rs.map (fun b => cif m (fun x => csun x m n) (zi h b 0))).Nodup) :
    zJ G 3 m_Rows_sink 0 [some (zA r), some (zI (nI m)), some (zI n), none] [] h (fun o h' => o = zR0 ∧ cMoved K r rs (cif m (fun x => csun x m n)) h h') := by
  obtain ⟨ks, sp, x, rfl⟩ := x
  refine (k_Rows_sink hG x hm n (fun k hk => hv _ (List.mem_map.mpr ⟨k, hk, rfl⟩)) (by rw [List.map_map] at hd; exact hd)).mono ?_
  rintro o h' ⟨rfl, lk, e⟩
  exact ⟨rfl, moved x lk e⟩
theorem k_r_inside (hG : zOK G) (x : cRr h K r rs) {m : Nat} (hm : m < 2 ^ 28) : zJ G 2 m_Rows_inside 0 [some (zA r), some (zI (nI m)), none, none] [] h (fun o h' => o = zR (zI (nI (rs.countP (fun b => cnin m (zi h b 0))))) ∧ h' = h) := by
  obtain ⟨ks, sp, x, rfl⟩ := x
  have := k_Rows_inside hG x.1 hm
  rw [List.countP_map]
  exact this
end CT1
