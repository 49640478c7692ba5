/-! PART 73: the component: rows (order, rename, lift, sink, inside) -/
theorem cIn.lk {h h' : zH} {r k : Nat} {l : List Nat} (x : cIn h r k l h') (h8 : ∀ j ∈ k :: l, zt h j = 8 ∧ za h j 1000 = r) (ho : za h r 1000 = r) : cLk h r h' := by
  obtain ⟨A, l1, l2, rfl, _, _, _, hA⟩ := x
  have mem : ∀ a, (a = k ∨ a ∈ l) → a ∈ k :: l := fun a g => List.mem_cons.mpr g
  refine ⟨rfl, rfl, rfl, rfl, rfl, fun _ _ => rfl, fun _ _ => rfl, fun a e f => ?_, fun a e => ?_, fun a e => ?_, fun a j e => ?_⟩
  · funext j
    rcases hA a j with g | ⟨g, _⟩ | ⟨_, g⟩
    · exact g
    · exact absurd g e
    · exact absurd (h8 a (mem a g)).1 f
  · funext j
    rcases hA a j with g | ⟨g, _⟩ | ⟨_, g⟩
    · exact g
    · exact absurd (by rw [g]; exact ho) e
    · exact absurd (h8 a (mem a g)).2 e
  · rcases hA a 0 with g | ⟨g, _⟩ | ⟨g, _⟩
    · exact g
    · exact absurd g e
    · cases g
  · rcases hA a j with g | ⟨_, g⟩ | ⟨g, _⟩
    · exact g
    · omega
    · omega
section CR4
variable {G : zG} {h : zH} {K r : Nat}
theorem k_Rows_orderL (hG : zOK G) {ks sp : List Nat} (x : cRw0 h K r ks sp) (hd : (ks.map (cPt h)).Nodup) : ∀ (t l : List Nat) (h1 : zH) (a : Nat) (v : Option zV), cLk h r h1 → cLs (cNx h1) (za h1 r 0) l → cLs (cNx h1) a t → (l ++ t).Perm ks → cSo h l → za h1 r 1 = za h r 1 → (∀ j ∈ sp, za h1 j 1 = za h j 1) → zi h1 r 2 = zi h r 2 →
    zJ G 2 m_Rows_order 10 [some (zA r), some (zA a), v] [] h1 (fun o h' => o = zR0 ∧ cLk h r h' ∧ ∃ ks', ks'.Perm ks ∧ cRw h' K r ks' sp) := by
  obtain ⟨hkR, hr, ho, hc, hsp, hnd, hkn, hm, hl, hpv⟩ := x
  intro t
  induction t with
  | nil =>
    intro l h1 a v lk hcl hca hp hso e1 e2 e3
    have ha : a = 0 := hca
    subst ha
    have hp : l.Perm ks := by simpa using hp
    have kn1 : ∀ k ∈ ks ++ sp, _ := fun k hk => (hkn k hk).lk hr hkR lk
    refine zj_aload_n hG d_Rows_order_10 rfl rfl ?_
    refine zj_ifnull (tgt := 29) hG d_Rows_order_11 (by decide) (fun _ => ?_) (fun c => absurd rfl c)
    refine zj_vret hG d_Rows_order_29 rfl ⟨rfl, lk, l, hp, ⟨hkR, ?_, ?_, hcl, ?_, ?_, ?_, ?_, ?_, ?_⟩, ?_⟩
    · rw [lk.2.2.1]; exact hr
    · rw [lk.2.2.2.2.2.2.2.2.2.2 r 1000 (by omega)]; exact ho
    · rw [e1]; exact hsp.congr e2
    · exact (hp.append_right _).nodup_iff.mpr hnd
    · intro k hk
      refine (kn1 k ?_).1
      rcases List.mem_append.mp hk with g | g
      · exact List.mem_append_left _ (hp.mem_iff.mp g)
      · exact List.mem_append_right _ g
    · rw [e3, hm, hp.length_eq]
    · rw [hp.length_eq]; exact hl
    · intro k hk
      have hk' := hp.mem_iff.mp hk
      rw [(kn1 k (List.mem_append_left _ hk')).2.1]
      exact hpv k hk'
    · exact so_congr hso (fun k hk => (kn1 k (List.mem_append_left _ (hp.mem_iff.mp hk))).2.1)
  | cons k t ih =>
    intro l h1 a v lk hcl hca hp hso e1 e2 e3
    obtain ⟨rfl, k0, hca⟩ := hca
    have kn1 : ∀ k ∈ ks ++ sp, _ := fun k hk => (hkn k hk).lk hr hkR lk
    have mem : ∀ j ∈ l ++ a :: t, j ∈ ks := fun j hj => hp.mem_iff.mp hj
    have am : a ∈ ks := mem a (List.mem_append_right _ List.mem_cons_self)
    have a8 := (kn1 a (List.mem_append_left _ am)).1.1
    have hr1 : zt h1 r = K := by rw [lk.2.2.1]; exact hr
    have ho1 : za h1 r 1000 = r := by rw [lk.2.2.2.2.2.2.2.2.2.2 r 1000 (by omega)]; exact ho
    have ndl : (l ++ a :: t).Nodup := hp.nodup_iff.mpr (List.nodup_append.mp hnd).1
    have ndk : (a :: l).Nodup := by
      have : (a :: (l ++ t)).Nodup := List.perm_middle.nodup_iff.mp ndl
      exact this.sublist (List.Sublist.cons_cons _ (List.sublist_append_left _ _))
    have memk : ∀ j ∈ a :: l, j ∈ ks := fun j hj => by
      rcases List.mem_cons.mp hj with g | g
      · rw [g]; exact am
      · exact mem j (List.mem_append_left _ g)
    have pt : ∀ j ∈ ks, cPt h1 j = cPt h j := fun j hj => (kn1 j (List.mem_append_left _ hj)).2.1
    refine zj_aload_n hG d_Rows_order_10 rfl rfl ?_
    refine zj_ifnull (tgt := 29) hG d_Rows_order_11 (by decide) (fun c => absurd c k0) (fun _ => ?_)
    refine zj_aload_n hG d_Rows_order_14 rfl rfl ?_
    refine zj_astore_n hG d_Rows_order_15 rfl (by decide) rfl rfl ?_
    refine zj_aload_n hG d_Rows_order_16 rfl rfl ?_
    refine zj_getA hG d_Rows_order_17 f_Rows_25 (by assumption) rfl ?_
    refine zj_astore_n hG d_Rows_order_20 rfl (by decide) rfl rfl ?_
    refine zj_aload_n hG d_Rows_order_21 rfl rfl ?_
    refine zj_aload_n hG d_Rows_order_22 rfl rfl ?_
    refine zj_callP (y' := m_Rows_insert) hG (zcP (as := [_]) hG d_Rows_order_23 c_Rows_insert (z_w2 234 rfl) (z_w2 236 rfl) (z_w2 235 rfl) (z_w2 89 rfl) rfl ⟨by decide, by decide⟩ hr1 (by omega) (by omega) (show _ = some 1 from by decide +kernel) rfl) c_Rows_insert rfl (by omega) rfl (z_le rfl) (z_le rfl) (k_Rows_insert hG hkR hr1 hcl ndk k0 (fun j hj => ⟨⟨(kn1 j (List.mem_append_left _ (memk j hj))).1.1, (kn1 j (List.mem_append_left _ (memk j hj))).1.2.2.1⟩, by rw [pt j (memk j hj)]; exact hpv j (memk j hj)⟩) (so_congr hso (fun j hj => pt j (memk j (List.mem_cons_of_mem _ hj)))) (fun j hj => ?ne)) (fun h23 e23 => ?_)
    case ne =>
      rw [pt j (memk j (List.mem_cons_of_mem _ hj)), pt a am]
      intro e
      have jm := memk j (List.mem_cons_of_mem _ hj)
      have inj : ∀ u ∈ ks, ∀ w ∈ ks, cPt h u = cPt h w → u = w := by
        intro u hu w hw g
        obtain ⟨i, hi, rfl⟩ := List.mem_iff_getElem.mp hu
        obtain ⟨i', hi', rfl⟩ := List.mem_iff_getElem.mp hw
        unfold List.Nodup at hd
        rw [List.pairwise_map, List.pairwise_iff_getElem] at hd
        rcases Nat.lt_trichotomy i i' with q | q | q
        · exact absurd g (hd i i' hi hi' q)
        · subst q; rfl
        · exact absurd g.symm (hd i' i hi' hi q)
      have := inj j jm a am e
      rw [this] at hj
      exact (List.nodup_cons.mp ndk).1 hj
    have lk2 := e23.lk (fun j hj => ⟨(kn1 j (List.mem_append_left _ (memk j hj))).1.1, (kn1 j (List.mem_append_left _ (memk j hj))).1.2.1⟩) ho1
    obtain ⟨A, l1, l2, rfl, hl12, hcl2, hso2, hA⟩ := e23
    refine zj_goto (tgt := 10) hG d_Rows_order_26 (by decide) ?_
    have hpm : (l1 ++ a :: l2 ++ t).Perm ks := by
      refine List.Perm.trans ?_ hp
      rw [hl12]
      have e1 : (l1 ++ a :: l2 ++ t).Perm (a :: (l1 ++ l2 ++ t)) := by simp only [List.append_assoc, List.cons_append]; exact List.perm_middle
      have e2 : (l1 ++ l2 ++ a :: t).Perm (a :: (l1 ++ l2 ++ t)) := List.perm_middle
      exact e1.trans e2.symm
    have notin : ∀ j, j ∈ ks ++ sp → j ∉ a :: l → A j 1 = za h1 j 1 := by
      intro j hj hn
      rcases hA j 1 with g | ⟨_, g⟩ | ⟨_, g⟩
      · exact g
      · cases g
      · exact absurd (List.mem_cons.mpr g) hn
    refine ih (l1 ++ a :: l2) _ _ _ (lk.trans lk2) hcl2 ?_ hpm ?_ ?_ ?_ e3
    · refine hca.congr (fun j hj => ?_)
      refine notin j (List.mem_append_left _ (mem j (List.mem_append_right _ (List.mem_cons_of_mem _ hj)))) (fun g => ?_)
      have n2 : (a :: (l ++ t)).Nodup := List.perm_middle.nodup_iff.mp ndl
      obtain ⟨n3, n4⟩ := List.nodup_cons.mp n2
      rcases List.mem_cons.mp g with q | q
      · exact n3 (by rw [← q]; exact List.mem_append_right _ hj)
      · exact (List.nodup_append.mp n4).2.2 j q j hj rfl
    · refine so_congr hso2 (fun j hj => ?_)
      exact (pt j (hpm.mem_iff.mp (List.mem_append_left _ hj))).symm
    · show A r 1 = za h r 1
      rw [← e1]
      rcases hA r 1 with g | ⟨_, g⟩ | ⟨_, g⟩
      · exact g
      · cases g
      · have := (kn1 r (List.mem_append_left _ (memk r (List.mem_cons.mpr g)))).1.1
        rw [hr1] at this; omega
    · intro j hj
      show A j 1 = za h j 1
      rw [← e2 j hj]
      refine notin j (List.mem_append_right _ hj) (fun g => ?_)
      exact (List.nodup_append.mp hnd).2.2 j (memk j g) j hj rfl
theorem k_Rows_order (hG : zOK G) {ks sp : List Nat} (x : cRw0 h K r ks sp) (hd : (ks.map (cPt h)).Nodup) : zJ G 2 m_Rows_order 0 [some (zA r), none, none] [] h (fun o h' => o = zR0 ∧ cLk h r h' ∧ ∃ ks', ks'.Perm ks ∧ cRw h' K r ks' sp) := by
  have x' := x
  obtain ⟨hkR, hr, ho, hc, hsp, hnd, hkn, hm, hl, hpv⟩ := x
  refine zj_aload_n hG d_Rows_order_0 rfl rfl ?_
  refine zj_getA hG d_Rows_order_1 (f_Rows_7 hkR) (by assumption) (zM_7 hkR).1 ?_
  refine zj_astore_n hG d_Rows_order_4 rfl (by decide) rfl rfl ?_
  refine zj_aload_n hG d_Rows_order_5 rfl rfl ?_
  refine zj_null hG d_Rows_order_6 ?_
  refine zj_putA hG d_Rows_order_7 (f_Rows_7 hkR) (by assumption) (zM_7 hkR).1 (Or.inl (zM_7 hkR).2) ?_
  have kr : ∀ j ∈ ks ++ sp, j ≠ r := fun j hj => ((hkn j hj).ne hr hkR).1
  refine k_Rows_orderL hG x' hd ks [] (zsa h r 0 0) _ _ ⟨rfl, rfl, rfl, rfl, rfl, fun _ _ => rfl, fun _ _ => rfl, fun a e f => ?_, fun a e => ?_, fun a e => ?_, fun a j e => ?_⟩ ?_ ?_ (List.Perm.refl _) List.Pairwise.nil ?_ (fun j hj => ?_) rfl
  · funext j; exact zu_a e
  · funext j; exact zu_a (fun g => e (by rw [g]; exact ho))
  · exact zu_a e
  · exact zu_k (by omega)
  · exact zu_s
  · exact hc.congr (fun j hj => zu_k (by decide))
  · exact zu_k (by decide)
  · exact zu_k (by decide)
/-- the paths of these rows changed by f -/
def cMv (h : zH) (rs : List Nat) (f : Int32 → Int32) : zH := (zn h, zs h, zt h, zl h, fun a j => if j = 0 ∧ a ∈ rs then f (zi h a 0) else zi h a j, za h, zj h)
theorem cMv_s {rs : List Nat} {f : Int32 → Int32} {p : Nat} (hp : p ∉ rs) : zsi (cMv h rs f) p 0 (f (zi h p 0)) = cMv h (rs ++ [p]) f := by
  unfold cMv zsi zu
  congr 5
  funext a j
  show (if a = p ∧ j = 0 then f (zi h p 0) else (if j = 0 ∧ a ∈ rs then f (zi h a 0) else zi h a j)) = (if j = 0 ∧ a ∈ rs ++ [p] then f (zi h a 0) else zi h a j)
  by_cases e : a = p ∧ j = 0
  · obtain ⟨rfl, rfl⟩ := e
    simp
  · by_cases j0 : j = 0
    · have : a ≠ p := fun g => e ⟨g, j0⟩
      simp [j0, this]
    · simp [j0]
theorem cMv_n {rs : List Nat} {f : Int32 → Int32} {p : Nat} (hp : f (zi h p 0) = zi h p 0) : cMv h (rs ++ [p]) f = cMv h rs f := by
  unfold cMv
  congr 5
  funext a j
  by_cases e : a = p ∧ j = 0
  · obtain ⟨rfl, rfl⟩ := e
    by_cases g : a ∈ rs
    · simp [g]
    · simp [g, hp]
  · by_cases j0 : j = 0
    · have : a ≠ p := fun g => e ⟨g, j0⟩
      simp [j0, this]
    · simp [j0]
theorem cMv_i {rs : List Nat} {f : Int32 → Int32} {p : Nat} (hp : p ∉ rs) (j : Nat) : zi (cMv h rs f) p j = zi h p j := by
  show (if j = 0 ∧ p ∈ rs then f (zi h p 0) else zi h p j) = zi h p j
  rw [if_neg (fun g => hp g.2)]
theorem cMv_0 {f : Int32 → Int32} : cMv h [] f = h := by
  unfold cMv
  simp
/-- rows with their paths changed -/
theorem cRw.mv {ks sp : List Nat} {f : Int32 → Int32} (x : cRw h K r ks sp) (hv : ∀ k ∈ ks, cPv (f (cPt h k))) (hd : (ks.map (fun k => f (cPt h k))).Nodup) : cRw0 (cMv h (ks.map (cRo h)) f) K r ks sp ∧ (ks.map (cPt (cMv h (ks.map (cRo h)) f))).Nodup ∧ ∀ k ∈ ks, cPt (cMv h (ks.map (cRo h)) f) k = f (cPt h k) := by
  obtain ⟨⟨hkR, hr, ho, hc, hsp, hnd, hkn, hm, hl, hpv⟩, hso⟩ := x
  have pt : ∀ k ∈ ks, cPt (cMv h (ks.map (cRo h)) f) k = f (cPt h k) := fun k hk => by
    show (if (0 : Nat) = 0 ∧ za h k 0 ∈ ks.map (cRo h) then f (zi h (za h k 0) 0) else _) = _
    rw [if_pos ⟨rfl, List.mem_map.mpr ⟨k, hk, rfl⟩⟩]
  have nr : r ∉ ks.map (cRo h) := fun g => by
    obtain ⟨k, hk, e⟩ := List.mem_map.mp g
    exact ((hkn k (List.mem_append_left _ hk)).ne hr hkR).2.1 e
  refine ⟨⟨hkR, hr, ho, hc, hsp, hnd, hkn, ?_, hl, fun k hk => by rw [pt k hk]; exact hv k hk⟩, ?_, pt⟩
  · rw [cMv_i nr]; exact hm
  · rw [List.map_congr_left pt]; exact hd
/-- whether a path lies in another one; and if so, another path -/
def cif (m : Nat) (g : Int32 → Int32) (x : Int32) : Int32 := if ctop x (nI (cdp m)) = nI m then g x else x
theorem k_Rows_renameL (hG : zOK G) {ks sp : List Nat} (x : cRw h K r ks sp) {m : Nat} (hm : m < 2 ^ 28) (n : Int32) (hv : ∀ k ∈ ks, cPv (cif m (fun x => cren x m n) (cPt h k))) (hd : (ks.map (fun k => cif m (fun x => cren x m n) (cPt h k))).Nodup) : ∀ (t l : List Nat) (a : Nat), ks = l ++ t → cLs (cNx h) a t →
    zJ G 3 m_Rows_rename 5 [some (zA r), some (zI (nI m)), some (zI n), some (zA a)] [] (cMv h (l.map (cRo h)) (cif m (fun x => cren x m n))) (fun o h' => o = zR0 ∧ cLk (cMv h (ks.map (cRo h)) (cif m (fun x => cren x m n))) r h' ∧ ∃ ks', ks'.Perm ks ∧ cRw h' K r ks' sp) := by
  have hkR := x.1.1
  have hkN : K + 3 = 5 ∨ K + 3 = 6 ∨ K + 3 = 7 := by omega
  have hr := x.1.2.1
  intro t
  induction t with
  | nil =>
    intro l a hl hca
    have ha : a = 0 := hca
    subst ha
    have : l = ks := by rw [hl]; simp
    subst this
    obtain ⟨x1, x2, _⟩ := x.mv hv hd
    have hr1 : zt (cMv h (l.map (cRo h)) (cif m (fun x => cren x m n))) r = K := hr
    refine zj_aload_n hG d_Rows_rename_5 rfl rfl ?_
    refine zj_ifnull (tgt := 50) hG d_Rows_rename_6 (by decide) (fun _ => ?_) (fun c => absurd rfl c)
    refine zj_aload_n hG d_Rows_rename_50 rfl rfl ?_
    refine zj_callP (y' := m_Rows_order) hG (zcP (as := []) hG d_Rows_rename_51 c_Rows_order (z_w3 193 rfl) (z_w3 195 rfl) (z_w3 194 rfl) (z_w2 89 rfl) rfl ⟨by decide, by decide⟩ hr1 (by omega) (by omega) (show _ = some 0 from by decide +kernel) rfl) c_Rows_order rfl (by omega) rfl (z_le rfl) (z_le rfl) (k_Rows_order hG x1 x2) (fun h51 e51 => ?_)
    exact zj_vret hG d_Rows_rename_54 rfl ⟨rfl, e51⟩
  | cons k t ih =>
    intro l a hl hca
    obtain ⟨rfl, a0, hca⟩ := hca
    have am : a ∈ ks := by rw [hl]; exact List.mem_append_right _ List.mem_cons_self
    have ak := x.1.2.2.2.2.2.2.1 a (List.mem_append_left _ am)
    have a8 : zt (cMv h (l.map (cRo h)) (cif m (fun x => cren x m n))) a = 8 := ak.1
    have ap : zt (cMv h (l.map (cRo h)) (cif m (fun x => cren x m n))) (za h a 0) = K + 3 := ak.2.2.1
    have hnd := (List.nodup_append.mp x.1.2.2.2.2.2.1).1
    have np : za h a 0 ∉ l.map (cRo h) := by
      intro g
      obtain ⟨j, hj, e⟩ := List.mem_map.mp g
      have jk := x.1.2.2.2.2.2.2.1 j (List.mem_append_left _ (by rw [hl]; exact List.mem_append_left _ hj))
      have : j = a := by
        rw [← jk.2.2.2.2.1, ← ak.2.2.2.2.1]
        show za h (cRo h j) 1001 = _
        rw [e]
      rw [hl] at hnd
      exact (List.nodup_append.mp hnd).2.2 j hj a List.mem_cons_self this
    have go : zJ G 3 m_Rows_rename 42 [some (zA r), some (zI (nI m)), some (zI n), some (zA a)] [] (cMv h ((l ++ [a]).map (cRo h)) (cif m (fun x => cren x m n))) (fun o h' => o = zR0 ∧ cLk (cMv h (ks.map (cRo h)) (cif m (fun x => cren x m n))) r h' ∧ ∃ ks', ks'.Perm ks ∧ cRw h' K r ks' sp) := by
      have a8' : zt (cMv h ((l ++ [a]).map (cRo h)) (cif m (fun x => cren x m n))) a = 8 := ak.1
      refine zj_aload_n hG d_Rows_rename_42 rfl rfl ?_
      refine zj_getA hG d_Rows_rename_43 f_Rows_25 (by assumption) rfl ?_
      refine zj_astore_n hG d_Rows_rename_46 rfl (by decide) rfl rfl ?_
      refine zj_goto (tgt := 5) hG d_Rows_rename_47 (by decide) ?_
      exact ih (l ++ [a]) _ (by rw [hl]; simp) hca
    have e2 : (l ++ [a]).map (cRo h) = l.map (cRo h) ++ [za h a 0] := by simp
    rw [e2] at go
    refine zj_aload_n hG d_Rows_rename_5 rfl rfl ?_
    refine zj_ifnull (tgt := 50) hG d_Rows_rename_6 (by decide) (fun c => absurd c a0) (fun _ => ?_)
    refine zj_aload_n hG d_Rows_rename_9 rfl rfl ?_
    refine zj_getA hG d_Rows_rename_10 f_Rows_13 (by assumption) rfl ?_
    refine zj_getI hG d_Rows_rename_13 (f_Rows_19 hkN) ap (zM_19 hkN).1 ?_
    refine zj_iload_n hG d_Rows_rename_16 rfl rfl ?_
    rw [show za (cMv h (l.map (cRo h)) (cif m (fun x => cren x m n))) a 0 = za h a 0 from rfl, cMv_i np]
    refine zj_callR (y' := m_Paths_isIn) hG (zcS (as := [_, _]) hG d_Rows_rename_17 c_Paths_isIn (z_w3 189 rfl) (z_w3 190 rfl) (z_w1 16 rfl) ⟨by decide, by decide⟩ (show _ = some 2 from by decide +kernel) rfl) c_Paths_isIn rfl (by omega) rfl (z_le rfl) (z_le rfl) (k_Paths_isIn hG _ hm _) ?_
    refine zj_if_eq (tgt := 42) hG d_Rows_rename_20 (by decide) (fun c20 => ?_) (fun c20 => ?_)
    · have g : ¬ ctop (zi h (za h a 0) 0) (nI (cdp m)) = nI m := fun e => by rw [decide_eq_true e] at c20; exact absurd c20 (by decide)
      rw [cMv_n (by unfold cif; rw [if_neg g])] at go
      exact go
    · have g : ctop (zi h (za h a 0) 0) (nI (cdp m)) = nI m := by
        apply Classical.byContradiction
        intro e
        exact c20 (by rw [decide_eq_false e]; rfl)
      refine zj_aload_n hG d_Rows_rename_23 rfl rfl ?_
      refine zj_getA hG d_Rows_rename_24 f_Rows_13 (by assumption) rfl ?_
      refine zj_aload_n hG d_Rows_rename_27 rfl rfl ?_
      refine zj_getA hG d_Rows_rename_28 f_Rows_13 (by assumption) rfl ?_
      refine zj_getI hG d_Rows_rename_31 (f_Rows_19 hkN) ap (zM_19 hkN).1 ?_
      refine zj_iload_n hG d_Rows_rename_34 rfl rfl ?_
      refine zj_iload_n hG d_Rows_rename_35 rfl rfl ?_
      rw [show za (cMv h (l.map (cRo h)) (cif m (fun x => cren x m n))) a 0 = za h a 0 from rfl, cMv_i np]
      refine zj_callR (y' := m_Paths_renamed) hG (zcS (as := [_, _, _]) hG d_Rows_rename_36 c_Paths_renamed (z_w3 192 rfl) (z_w3 178 rfl) (z_w1 16 rfl) ⟨by decide, by decide⟩ (show _ = some 3 from by decide +kernel) rfl) c_Paths_renamed rfl (by omega) rfl (z_le rfl) (z_le rfl) (k_Paths_renamed hG _ hm _ _) ?_
      refine zj_putI hG d_Rows_rename_39 (f_Rows_19 hkN) ap (zM_19 hkN).2.1 (zM_19 hkN).2.2 ?_
      have e3 : cren (zi h (za h a 0) 0) m n = cif m (fun x => cren x m n) (zi h (za h a 0) 0) := by unfold cif; rw [if_pos g]
      rw [e3]
      have e4 := cMv_s (h := h) (f := cif m (fun x => cren x m n)) np
      rw [← e4] at go
      exact go
theorem k_Rows_rename (hG : zOK G) {ks sp : List Nat} (x : cRw h K r ks sp) {m : Nat} (hm : m < 2 ^ 28) (n : Int32) (hv : ∀ k ∈ ks, cPv (cif m (fun x => cren x m n) (cPt h k))) (hd : (ks.map (fun k => cif m (fun x => cren x m n) (cPt h k))).Nodup) :
    zJ G 3 m_Rows_rename 0 [some (zA r), some (zI (nI m)), some (zI n), none] [] h (fun o h' => o = zR0 ∧ cLk (cMv h (ks.map (cRo h)) (cif m (fun x => cren x m n))) r h' ∧ ∃ ks', ks'.Perm ks ∧ cRw h' K r ks' sp) := by
  have hkR := x.1.1
  have hr := x.1.2.1
  refine zj_aload_n hG d_Rows_rename_0 rfl rfl ?_
  refine zj_getA hG d_Rows_rename_1 (f_Rows_7 hkR) (by assumption) (zM_7 hkR).1 ?_
  refine zj_astore_n hG d_Rows_rename_4 rfl (by decide) rfl rfl ?_
  have := k_Rows_renameL hG x hm n hv hd ks [] _ rfl x.1.2.2.2.1
  rw [show ([] : List Nat).map (cRo h) = [] from rfl, cMv_0] at this
  exact this
theorem k_Rows_liftL (hG : zOK G) {ks sp : List Nat} (x : cRw h K r ks sp) {m : Nat} (hm : m < 2 ^ 28) (hv : ∀ k ∈ ks, cPv (cif m (fun x => clif x m) (cPt h k))) (hd : (ks.map (fun k => cif m (fun x => clif x m) (cPt h k))).Nodup) : ∀ (t l : List Nat) (a : Nat), ks = l ++ t → cLs (cNx h) a t →
    zJ G 3 m_Rows_lift 5 [some (zA r), some (zI (nI m)), some (zA a)] [] (cMv h (l.map (cRo h)) (cif m (fun x => clif x m))) (fun o h' => o = zR0 ∧ cLk (cMv h (ks.map (cRo h)) (cif m (fun x => clif x m))) r h' ∧ ∃ ks', ks'.Perm ks ∧ cRw h' K r ks' sp) := by
  have hkR := x.1.1
  have hkN : K + 3 = 5 ∨ K + 3 = 6 ∨ K + 3 = 7 := by omega
  have hr := x.1.2.1
  intro t
  induction t with
  | nil =>
    intro l a hl hca
    have ha : a = 0 := hca
    subst ha
    have : l = ks := by rw [hl]; simp
    subst this
    obtain ⟨x1, x2, _⟩ := x.mv hv hd
    have hr1 : zt (cMv h (l.map (cRo h)) (cif m (fun x => clif x m))) r = K := hr
    refine zj_aload_n hG d_Rows_lift_5 rfl rfl ?_
    refine zj_ifnull (tgt := 49) hG d_Rows_lift_6 (by decide) (fun _ => ?_) (fun c => absurd rfl c)
    refine zj_aload_n hG d_Rows_lift_49 rfl rfl ?_
    refine zj_callP (y' := m_Rows_order) hG (zcP (as := []) hG d_Rows_lift_50 c_Rows_order (z_w3 193 rfl) (z_w3 195 rfl) (z_w3 194 rfl) (z_w2 89 rfl) rfl ⟨by decide, by decide⟩ hr1 (by omega) (by omega) (show _ = some 0 from by decide +kernel) rfl) c_Rows_order rfl (by omega) rfl (z_le rfl) (z_le rfl) (k_Rows_order hG x1 x2) (fun h50 e50 => ?_)
    exact zj_vret hG d_Rows_lift_53 rfl ⟨rfl, e50⟩
  | cons k t ih =>
    intro l a hl hca
    obtain ⟨rfl, a0, hca⟩ := hca
    have am : a ∈ ks := by rw [hl]; exact List.mem_append_right _ List.mem_cons_self
    have ak := x.1.2.2.2.2.2.2.1 a (List.mem_append_left _ am)
    have a8 : zt (cMv h (l.map (cRo h)) (cif m (fun x => clif x m))) a = 8 := ak.1
    have ap : zt (cMv h (l.map (cRo h)) (cif m (fun x => clif x m))) (za h a 0) = K + 3 := ak.2.2.1
    have hnd := (List.nodup_append.mp x.1.2.2.2.2.2.1).1
    have np : za h a 0 ∉ l.map (cRo h) := by
      intro g
      obtain ⟨j, hj, e⟩ := List.mem_map.mp g
      have jk := x.1.2.2.2.2.2.2.1 j (List.mem_append_left _ (by rw [hl]; exact List.mem_append_left _ hj))
      have : j = a := by
        rw [← jk.2.2.2.2.1, ← ak.2.2.2.2.1]
        show za h (cRo h j) 1001 = _
        rw [e]
      rw [hl] at hnd
      exact (List.nodup_append.mp hnd).2.2 j hj a List.mem_cons_self this
    have go : zJ G 3 m_Rows_lift 41 [some (zA r), some (zI (nI m)), some (zA a)] [] (cMv h ((l ++ [a]).map (cRo h)) (cif m (fun x => clif x m))) (fun o h' => o = zR0 ∧ cLk (cMv h (ks.map (cRo h)) (cif m (fun x => clif x m))) r h' ∧ ∃ ks', ks'.Perm ks ∧ cRw h' K r ks' sp) := by
      have a8' : zt (cMv h ((l ++ [a]).map (cRo h)) (cif m (fun x => clif x m))) a = 8 := ak.1
      refine zj_aload_n hG d_Rows_lift_41 rfl rfl ?_
      refine zj_getA hG d_Rows_lift_42 f_Rows_25 (by assumption) rfl ?_
      refine zj_astore_n hG d_Rows_lift_45 rfl (by decide) rfl rfl ?_
      refine zj_goto (tgt := 5) hG d_Rows_lift_46 (by decide) ?_
      exact ih (l ++ [a]) _ (by rw [hl]; simp) hca
    have e2 : (l ++ [a]).map (cRo h) = l.map (cRo h) ++ [za h a 0] := by simp
    rw [e2] at go
    refine zj_aload_n hG d_Rows_lift_5 rfl rfl ?_
    refine zj_ifnull (tgt := 49) hG d_Rows_lift_6 (by decide) (fun c => absurd c a0) (fun _ => ?_)
    refine zj_aload_n hG d_Rows_lift_9 rfl rfl ?_
    refine zj_getA hG d_Rows_lift_10 f_Rows_13 (by assumption) rfl ?_
    refine zj_getI hG d_Rows_lift_13 (f_Rows_19 hkN) ap (zM_19 hkN).1 ?_
    refine zj_iload_n hG d_Rows_lift_16 rfl rfl ?_
    rw [show za (cMv h (l.map (cRo h)) (cif m (fun x => clif x m))) a 0 = za h a 0 from rfl, cMv_i np]
    refine zj_callR (y' := m_Paths_isIn) hG (zcS (as := [_, _]) hG d_Rows_lift_17 c_Paths_isIn (z_w3 189 rfl) (z_w3 190 rfl) (z_w1 16 rfl) ⟨by decide, by decide⟩ (show _ = some 2 from by decide +kernel) rfl) c_Paths_isIn rfl (by omega) rfl (z_le rfl) (z_le rfl) (k_Paths_isIn hG _ hm _) ?_
    refine zj_if_eq (tgt := 41) hG d_Rows_lift_20 (by decide) (fun c20 => ?_) (fun c20 => ?_)
    · have g : ¬ ctop (zi h (za h a 0) 0) (nI (cdp m)) = nI m := fun e => by rw [decide_eq_true e] at c20; exact absurd c20 (by decide)
      rw [cMv_n (by unfold cif; rw [if_neg g])] at go
      exact go
    · have g : ctop (zi h (za h a 0) 0) (nI (cdp m)) = nI m := by
        apply Classical.byContradiction
        intro e
        exact c20 (by rw [decide_eq_false e]; rfl)
      refine zj_aload_n hG d_Rows_lift_23 rfl rfl ?_
      refine zj_getA hG d_Rows_lift_24 f_Rows_13 (by assumption) rfl ?_
      refine zj_aload_n hG d_Rows_lift_27 rfl rfl ?_
      refine zj_getA hG d_Rows_lift_28 f_Rows_13 (by assumption) rfl ?_
      refine zj_getI hG d_Rows_lift_31 (f_Rows_19 hkN) ap (zM_19 hkN).1 ?_
      refine zj_iload_n hG d_Rows_lift_34 rfl rfl ?_
      rw [show za (cMv h (l.map (cRo h)) (cif m (fun x => clif x m))) a 0 = za h a 0 from rfl, cMv_i np]
      refine zj_callR (y' := m_Paths_lifted) hG (zcS (as := [_, _]) hG d_Rows_lift_35 c_Paths_lifted (z_w3 214 rfl) (z_w3 181 rfl) (z_w1 16 rfl) ⟨by decide, by decide⟩ (show _ = some 2 from by decide +kernel) rfl) c_Paths_lifted rfl (by omega) rfl (z_le rfl) (z_le rfl) (k_Paths_lifted hG _ hm _) ?_
      refine zj_putI hG d_Rows_lift_38 (f_Rows_19 hkN) ap (zM_19 hkN).2.1 (zM_19 hkN).2.2 ?_
      have e3 : clif (zi h (za h a 0) 0) m = cif m (fun x => clif x m) (zi h (za h a 0) 0) := by unfold cif; rw [if_pos g]
      rw [e3]
      have e4 := cMv_s (h := h) (f := cif m (fun x => clif x m)) np
      rw [← e4] at go
      exact go
theorem k_Rows_lift (hG : zOK G) {ks sp : List Nat} (x : cRw h K r ks sp) {m : Nat} (hm : m < 2 ^ 28) (hv : ∀ k ∈ ks, cPv (cif m (fun x => clif x m) (cPt h k))) (hd : (ks.map (fun k => cif m (fun x => clif x m) (cPt h k))).Nodup) :
    zJ G 3 m_Rows_lift 0 [some (zA r), some (zI (nI m)), none] [] h (fun o h' => o = zR0 ∧ cLk (cMv h (ks.map (cRo h)) (cif m (fun x => clif x m))) r h' ∧ ∃ ks', ks'.Perm ks ∧ cRw h' K r ks' sp) := by
  have hkR := x.1.1
  have hr := x.1.2.1
  refine zj_aload_n hG d_Rows_lift_0 rfl rfl ?_
  refine zj_getA hG d_Rows_lift_1 (f_Rows_7 hkR) (by assumption) (zM_7 hkR).1 ?_
  refine zj_astore_n hG d_Rows_lift_4 rfl (by decide) rfl rfl ?_
  have := k_Rows_liftL hG x hm hv hd ks [] _ rfl x.1.2.2.2.1
  rw [show ([] : List Nat).map (cRo h) = [] from rfl, cMv_0] at this
  exact this
theorem k_Rows_sinkL (hG : zOK G) {ks sp : List Nat} (x : cRw h K r ks sp) {m : Nat} (hm : m < 2 ^ 28) (n : Int32) (hv : ∀ k ∈ ks, cPv (cif m (fun x => csun x m n) (cPt h k))) (hd : (ks.map (fun k => cif m (fun x => csun x m n) (cPt h k))).Nodup) : ∀ (t l : List Nat) (a : Nat), ks = l ++ t → cLs (cNx h) a t →
    zJ G 3 m_Rows_sink 5 [some (zA r), some (zI (nI m)), some (zI n), some (zA a)] [] (cMv h (l.map (cRo h)) (cif m (fun x => csun x m n))) (fun o h' => o = zR0 ∧ cLk (cMv h (ks.map (cRo h)) (cif m (fun x => csun x m n))) r h' ∧ ∃ ks', ks'.Perm ks ∧ cRw h' K r ks' sp) := by
  have hkR := x.1.1
  have hkN : K + 3 = 5 ∨ K + 3 = 6 ∨ K + 3 = 7 := by omega
  have hr := x.1.2.1
  intro t
  induction t with
  | nil =>
    intro l a hl hca
    have ha : a = 0 := hca
    subst ha
    have : l = ks := by rw [hl]; simp
    subst this
    obtain ⟨x1, x2, _⟩ := x.mv hv hd
    have hr1 : zt (cMv h (l.map (cRo h)) (cif m (fun x => csun x m n))) r = K := hr
    refine zj_aload_n hG d_Rows_sink_5 rfl rfl ?_
    refine zj_ifnull (tgt := 50) hG d_Rows_sink_6 (by decide) (fun _ => ?_) (fun c => absurd rfl c)
    refine zj_aload_n hG d_Rows_sink_50 rfl rfl ?_
    refine zj_callP (y' := m_Rows_order) hG (zcP (as := []) hG d_Rows_sink_51 c_Rows_order (z_w3 193 rfl) (z_w3 195 rfl) (z_w3 194 rfl) (z_w2 89 rfl) rfl ⟨by decide, by decide⟩ hr1 (by omega) (by omega) (show _ = some 0 from by decide +kernel) rfl) c_Rows_order rfl (by omega) rfl (z_le rfl) (z_le rfl) (k_Rows_order hG x1 x2) (fun h51 e51 => ?_)
    exact zj_vret hG d_Rows_sink_54 rfl ⟨rfl, e51⟩
  | cons k t ih =>
    intro l a hl hca
    obtain ⟨rfl, a0, hca⟩ := hca
    have am : a ∈ ks := by rw [hl]; exact List.mem_append_right _ List.mem_cons_self
    have ak := x.1.2.2.2.2.2.2.1 a (List.mem_append_left _ am)
    have a8 : zt (cMv h (l.map (cRo h)) (cif m (fun x => csun x m n))) a = 8 := ak.1
    have ap : zt (cMv h (l.map (cRo h)) (cif m (fun x => csun x m n))) (za h a 0) = K + 3 := ak.2.2.1
    have hnd := (List.nodup_append.mp x.1.2.2.2.2.2.1).1
    have np : za h a 0 ∉ l.map (cRo h) := by
      intro g
      obtain ⟨j, hj, e⟩ := List.mem_map.mp g
      have jk := x.1.2.2.2.2.2.2.1 j (List.mem_append_left _ (by rw [hl]; exact List.mem_append_left _ hj))
      have : j = a := by
        rw [← jk.2.2.2.2.1, ← ak.2.2.2.2.1]
        show za h (cRo h j) 1001 = _
        rw [e]
      rw [hl] at hnd
      exact (List.nodup_append.mp hnd).2.2 j hj a List.mem_cons_self this
    have go : zJ G 3 m_Rows_sink 42 [some (zA r), some (zI (nI m)), some (zI n), some (zA a)] [] (cMv h ((l ++ [a]).map (cRo h)) (cif m (fun x => csun x m n))) (fun o h' => o = zR0 ∧ cLk (cMv h (ks.map (cRo h)) (cif m (fun x => csun x m n))) r h' ∧ ∃ ks', ks'.Perm ks ∧ cRw h' K r ks' sp) := by
      have a8' : zt (cMv h ((l ++ [a]).map (cRo h)) (cif m (fun x => csun x m n))) a = 8 := ak.1
      refine zj_aload_n hG d_Rows_sink_42 rfl rfl ?_
      refine zj_getA hG d_Rows_sink_43 f_Rows_25 (by assumption) rfl ?_
      refine zj_astore_n hG d_Rows_sink_46 rfl (by decide) rfl rfl ?_
      refine zj_goto (tgt := 5) hG d_Rows_sink_47 (by decide) ?_
      exact ih (l ++ [a]) _ (by rw [hl]; simp) hca
    have e2 : (l ++ [a]).map (cRo h) = l.map (cRo h) ++ [za h a 0] := by simp
    rw [e2] at go
    refine zj_aload_n hG d_Rows_sink_5 rfl rfl ?_
    refine zj_ifnull (tgt := 50) hG d_Rows_sink_6 (by decide) (fun c => absurd c a0) (fun _ => ?_)
    refine zj_aload_n hG d_Rows_sink_9 rfl rfl ?_
    refine zj_getA hG d_Rows_sink_10 f_Rows_13 (by assumption) rfl ?_
    refine zj_getI hG d_Rows_sink_13 (f_Rows_19 hkN) ap (zM_19 hkN).1 ?_
    refine zj_iload_n hG d_Rows_sink_16 rfl rfl ?_
    rw [show za (cMv h (l.map (cRo h)) (cif m (fun x => csun x m n))) a 0 = za h a 0 from rfl, cMv_i np]
    refine zj_callR (y' := m_Paths_isIn) hG (zcS (as := [_, _]) hG d_Rows_sink_17 c_Paths_isIn (z_w3 189 rfl) (z_w3 190 rfl) (z_w1 16 rfl) ⟨by decide, by decide⟩ (show _ = some 2 from by decide +kernel) rfl) c_Paths_isIn rfl (by omega) rfl (z_le rfl) (z_le rfl) (k_Paths_isIn hG _ hm _) ?_
    refine zj_if_eq (tgt := 42) hG d_Rows_sink_20 (by decide) (fun c20 => ?_) (fun c20 => ?_)
    · have g : ¬ ctop (zi h (za h a 0) 0) (nI (cdp m)) = nI m := fun e => by rw [decide_eq_true e] at c20; exact absurd c20 (by decide)
      rw [cMv_n (by unfold cif; rw [if_neg g])] at go
      exact go
    · have g : ctop (zi h (za h a 0) 0) (nI (cdp m)) = nI m := by
        apply Classical.byContradiction
        intro e
        exact c20 (by rw [decide_eq_false e]; rfl)
      refine zj_aload_n hG d_Rows_sink_23 rfl rfl ?_
      refine zj_getA hG d_Rows_sink_24 f_Rows_13 (by assumption) rfl ?_
      refine zj_aload_n hG d_Rows_sink_27 rfl rfl ?_
      refine zj_getA hG d_Rows_sink_28 f_Rows_13 (by assumption) rfl ?_
      refine zj_getI hG d_Rows_sink_31 (f_Rows_19 hkN) ap (zM_19 hkN).1 ?_
      refine zj_iload_n hG d_Rows_sink_34 rfl rfl ?_
      refine zj_iload_n hG d_Rows_sink_35 rfl rfl ?_
      rw [show za (cMv h (l.map (cRo h)) (cif m (fun x => csun x m n))) a 0 = za h a 0 from rfl, cMv_i np]
      refine zj_callR (y' := m_Paths_sunk) hG (zcS (as := [_, _, _]) hG d_Rows_sink_36 c_Paths_sunk (z_w5 63 rfl) (z_w5 64 rfl) (z_w1 16 rfl) ⟨by decide, by decide⟩ (show _ = some 3 from by decide +kernel) rfl) c_Paths_sunk rfl (by omega) rfl (z_le rfl) (z_le rfl) (k_Paths_sunk hG _ hm _ _) ?_
      refine zj_putI hG d_Rows_sink_39 (f_Rows_19 hkN) ap (zM_19 hkN).2.1 (zM_19 hkN).2.2 ?_
      have e3 : csun (zi h (za h a 0) 0) m n = cif m (fun x => csun x m n) (zi h (za h a 0) 0) := by unfold cif; rw [if_pos g]
      rw [e3]
      have e4 := cMv_s (h := h) (f := cif m (fun x => csun x m n)) np
      rw [← e4] at go
      exact go
theorem k_Rows_sink (hG : zOK G) {ks sp : List Nat} (x : cRw h K r ks sp) {m : Nat} (hm : m < 2 ^ 28) (n : Int32) (hv : ∀ k ∈ ks, cPv (cif m (fun x => csun x m n) (cPt h k))) (hd : (ks.map (fun k => cif m (fun x => csun x m n) (cPt h k))).Nodup) :
    zJ G 3 m_Rows_sink 0 [some (zA r), some (zI (nI m)), some (zI n), none] [] h (fun o h' => o = zR0 ∧ cLk (cMv h (ks.map (cRo h)) (cif m (fun x => csun x m n))) r h' ∧ ∃ ks', ks'.Perm ks ∧ cRw h' K r ks' sp) := by
  have hkR := x.1.1
  have hr := x.1.2.1
  refine zj_aload_n hG d_Rows_sink_0 rfl rfl ?_
  refine zj_getA hG d_Rows_sink_1 (f_Rows_7 hkR) (by assumption) (zM_7 hkR).1 ?_
  refine zj_astore_n hG d_Rows_sink_4 rfl (by decide) rfl rfl ?_
  have := k_Rows_sinkL hG x hm n hv hd ks [] _ rfl x.1.2.2.2.1
  rw [show ([] : List Nat).map (cRo h) = [] from rfl, cMv_0] at this
  exact this
/-- how many lie in a path -/
def cnin (m : Nat) (x : Int32) : Bool := decide (x ≠ nI m) && decide (ctop x (nI (cdp m)) = nI m)
theorem k_Rows_insideL (hG : zOK G) (hkN : K + 3 = 5 ∨ K + 3 = 6 ∨ K + 3 = 7) {m : Nat} (hm : m < 2 ^ 28) {v0 : zV} : ∀ (t : List Nat) (a n : Nat), cLs (cNx h) a t → (∀ k ∈ t, cKt h (K + 3) k) → zJ G 2 m_Rows_inside 7 [some v0, some (zI (nI m)), some (zI (nI n)), some (zA a)] [] h (fun o h' => o = zR (zI (nI (n + t.countP (fun k => cnin m (cPt h k))))) ∧ h' = h) := by
  intro t
  induction t with
  | nil =>
    intro a n hca _
    have ha : a = 0 := hca
    subst ha
    refine zj_aload_n hG d_Rows_inside_7 rfl rfl ?_
    refine zj_ifnull (tgt := 52) hG d_Rows_inside_8 (by decide) (fun _ => ?_) (fun c => absurd rfl c)
    refine zj_iload_n hG d_Rows_inside_52 rfl rfl ?_
    exact zj_iret hG d_Rows_inside_53 rfl rfl ⟨by simp, rfl⟩
  | cons k t ih =>
    intro a n hca hk
    obtain ⟨rfl, a0, hca⟩ := hca
    obtain ⟨k1, k2⟩ := hk a List.mem_cons_self
    have hk' : ∀ k ∈ t, cKt h (K + 3) k := fun k hk' => hk k (List.mem_cons_of_mem _ hk')
    have no : cnin m (cPt h a) = false → zJ G 2 m_Rows_inside 41 [some v0, some (zI (nI m)), some (zI (nI n)), some (zA a)] [zI (nI n)] h (fun o h' => o = zR (zI (nI (n + (a :: t).countP (fun k => cnin m (cPt h k))))) ∧ h' = h) := by
      intro e
      rw [List.countP_cons_of_neg (by rw [e]; decide)]
      refine zj_iconst (v := 0) hG d_Rows_inside_41 rfl ?_
      refine zj_iadd hG d_Rows_inside_42 ?_
      rw [show nI n + 0 = nI n from Int32.add_zero _]
      refine zj_istore_n hG d_Rows_inside_43 rfl (by decide) rfl rfl ?_
      refine zj_aload_n hG d_Rows_inside_44 rfl rfl ?_
      refine zj_getA hG d_Rows_inside_45 f_Rows_25 (by assumption) rfl ?_
      refine zj_astore_n hG d_Rows_inside_48 rfl (by decide) rfl rfl ?_
      refine zj_goto (tgt := 7) hG d_Rows_inside_49 (by decide) ?_
      exact ih _ n hca hk'
    refine zj_aload_n hG d_Rows_inside_7 rfl rfl ?_
    refine zj_ifnull (tgt := 52) hG d_Rows_inside_8 (by decide) (fun c => absurd c a0) (fun _ => ?_)
    refine zj_iload_n hG d_Rows_inside_11 rfl rfl ?_
    refine zj_aload_n hG d_Rows_inside_12 rfl rfl ?_
    refine zj_getA hG d_Rows_inside_13 f_Rows_13 (by assumption) rfl ?_
    refine zj_getI hG d_Rows_inside_16 (f_Rows_19 hkN) k2 (zM_19 hkN).1 ?_
    refine zj_iload_n hG d_Rows_inside_19 rfl rfl ?_
    refine zj_icmp_eq (tgt := 41) hG d_Rows_inside_20 (by decide) (fun c20 => ?_) (fun c20 => ?_)
    · exact no (by unfold cnin; rw [decide_eq_false (show ¬ cPt h a ≠ nI m from fun g => g c20)]; rfl)
    · refine zj_aload_n hG d_Rows_inside_23 rfl rfl ?_
      refine zj_getA hG d_Rows_inside_24 f_Rows_13 (by assumption) rfl ?_
      refine zj_getI hG d_Rows_inside_27 (f_Rows_19 hkN) k2 (zM_19 hkN).1 ?_
      refine zj_iload_n hG d_Rows_inside_30 rfl rfl ?_
      refine zj_callR (y' := m_Paths_isIn) hG (zcS (as := [_, _]) hG d_Rows_inside_31 c_Paths_isIn (z_w3 189 rfl) (z_w3 190 rfl) (z_w1 16 rfl) ⟨by decide, by decide⟩ (show _ = some 2 from by decide +kernel) rfl) c_Paths_isIn rfl (by omega) rfl (z_le rfl) (z_le rfl) (k_Paths_isIn hG _ hm _) ?_
      refine zj_if_eq (tgt := 41) hG d_Rows_inside_34 (by decide) (fun c34 => ?_) (fun c34 => ?_)
      · refine no ?_
        unfold cnin
        rcases hh : decide (ctop (cPt h a) (nI (cdp m)) = nI m) with _ | _
        · rw [Bool.and_false]
        · rw [show decide (ctop (zi h (za h a 0) 0) (nI (cdp m)) = nI m) = true from hh] at c34
          exact absurd c34 (by decide)
      · have e : cnin m (cPt h a) = true := by
          unfold cnin
          rw [decide_eq_true (show cPt h a ≠ nI m from c20)]
          rcases hh : decide (ctop (cPt h a) (nI (cdp m)) = nI m) with _ | _
          · exact absurd (by rw [show decide (ctop (zi h (za h a 0) 0) (nI (cdp m)) = nI m) = false from hh]; rfl) c34
          · rfl
        rw [List.countP_cons_of_pos (by rw [e])]
        refine zj_iconst (v := 1) hG d_Rows_inside_37 rfl ?_
        refine zj_goto (tgt := 42) hG d_Rows_inside_38 (by decide) ?_
        refine zj_iadd hG d_Rows_inside_42 ?_
        rw [nI_1]
        refine zj_istore_n hG d_Rows_inside_43 rfl (by decide) rfl rfl ?_
        refine zj_aload_n hG d_Rows_inside_44 rfl rfl ?_
        refine zj_getA hG d_Rows_inside_45 f_Rows_25 (by assumption) rfl ?_
        refine zj_astore_n hG d_Rows_inside_48 rfl (by decide) rfl rfl ?_
        refine zj_goto (tgt := 7) hG d_Rows_inside_49 (by decide) ?_
        have := ih _ (n + 1) hca hk'
        rw [show n + 1 + t.countP (fun k => cnin m (cPt h k)) = n + (t.countP (fun k => cnin m (cPt h k)) + 1) by omega] at this
        exact this
theorem k_Rows_inside (hG : zOK G) {ks sp : List Nat} (x : cRw0 h K r ks sp) {m : Nat} (hm : m < 2 ^ 28) : zJ G 2 m_Rows_inside 0 [some (zA r), some (zI (nI m)), none, none] [] h (fun o h' => o = zR (zI (nI (ks.countP (fun k => cnin m (cPt h k))))) ∧ h' = h) := by
  have hkR := x.1
  have hr := x.2.1
  refine zj_iconst (v := 0) hG d_Rows_inside_0 rfl ?_
  refine zj_istore_n hG d_Rows_inside_1 rfl (by decide) rfl rfl ?_
  refine zj_aload_n hG d_Rows_inside_2 rfl rfl ?_
  refine zj_getA hG d_Rows_inside_3 (f_Rows_7 hkR) (by assumption) (zM_7 hkR).1 ?_
  refine zj_astore_n hG d_Rows_inside_6 rfl (by decide) rfl rfl ?_
  have := k_Rows_insideL hG (by omega) hm ks _ 0 x.2.2.2.1 x.kt (v0 := zA r)
  rw [Nat.zero_add] at this
  exact this
end CR4
