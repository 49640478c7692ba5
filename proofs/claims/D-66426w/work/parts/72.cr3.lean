/-! PART 72: the component: rows (what they are; remove, clear) -/
/-- a knot of the rows r, with its row -/
def cKn (h : zH) (K r k : Nat) : Prop := zt h k = 8 ∧ za h k 1000 = r ∧ zt h (za h k 0) = K + 3 ∧ za h (za h k 0) 1000 = r ∧ za h (za h k 0) 1001 = k ∧
  (K = 3 → zt h (za h (za h k 0) 3) = 21 ∧ zl h (za h (za h k 0) 3) = 6 ∧ za h (za h (za h k 0) 3) 1000 = r ∧ za h (za h (za h k 0) 3) 1001 = za h k 0)
/-- rows r with these knots, and these to spare -/
def cRw0 (h : zH) (K r : Nat) (ks sp : List Nat) : Prop :=
  (K = 2 ∨ K = 3 ∨ K = 4) ∧ zt h r = K ∧ za h r 1000 = r ∧ cLs (cNx h) (za h r 0) ks ∧ cLs (cNx h) (za h r 1) sp ∧ (ks ++ sp).Nodup ∧ (∀ k ∈ ks ++ sp, cKn h K r k) ∧ zi h r 2 = nI ks.length ∧ ks.length ≤ 100 ∧ (∀ k ∈ ks, cPv (cPt h k))
def cRw (h : zH) (K r : Nat) (ks sp : List Nat) : Prop := cRw0 h K r ks sp ∧ cSo h ks
/-- only the links of r have changed -/
def cLk (h : zH) (r : Nat) (h' : zH) : Prop := zn h' = zn h ∧ zs h' = zs h ∧ zt h' = zt h ∧ zl h' = zl h ∧ zj h' = zj h ∧ (∀ a, a ≠ r → zi h' a = zi h a) ∧ (∀ j, j ≠ 2 → zi h' r j = zi h r j) ∧
  (∀ a, a ≠ r → zt h a ≠ 8 → za h' a = za h a) ∧ (∀ a, za h a 1000 ≠ r → za h' a = za h a) ∧ (∀ a, a ≠ r → za h' a 0 = za h a 0) ∧ ∀ a j, 2 ≤ j → za h' a j = za h a j
theorem cLk.rfl' {h : zH} {r : Nat} : cLk h r h := ⟨rfl, rfl, rfl, rfl, rfl, fun _ _ => rfl, fun _ _ => rfl, fun _ _ _ => rfl, fun _ _ => rfl, fun _ _ => rfl, fun _ _ _ => rfl⟩
theorem cLk.trans {h h1 h2 : zH} {r : Nat} (x : cLk h r h1) (y : cLk h1 r h2) : cLk h r h2 := by
  obtain ⟨a1, a2, a3, a4, a5, a6, a7, a8, a9, a10, a11⟩ := x
  obtain ⟨b1, b2, b3, b4, b5, b6, b7, b8, b9, b10, b11⟩ := y
  refine ⟨b1.trans a1, b2.trans a2, b3.trans a3, b4.trans a4, b5.trans a5, fun a e => (b6 a e).trans (a6 a e), fun a e => (b7 a e).trans (a7 a e), fun a e f => (b8 a e (by rw [a3]; exact f)).trans (a8 a e f), fun a e => (b9 a (by rw [a11 a 1000 (by omega)]; exact e)).trans (a9 a e), fun a e => (b10 a e).trans (a10 a e), fun a j e => (b11 a j e).trans (a11 a j e)⟩
theorem cKn.ne {h : zH} {K r k : Nat} (x : cKn h K r k) (hr : zt h r = K) (hK : K = 2 ∨ K = 3 ∨ K = 4) : k ≠ r ∧ za h k 0 ≠ r ∧ zt h (za h k 0) ≠ 8 ∧ (K = 3 → za h (za h k 0) 3 ≠ r ∧ zt h (za h (za h k 0) 3) ≠ 8) := by
  obtain ⟨a1, a2, a3, a4, a5, a6⟩ := x
  refine ⟨fun e => by rw [e, hr] at a1; omega, fun e => by rw [e, hr] at a3; omega, by omega, fun e3 => ⟨fun e => ?_, by have := (a6 e3).1; omega⟩⟩
  have := (a6 e3).1
  rw [e, hr] at this
  omega
theorem cKn.lk {h h' : zH} {K r k : Nat} (x : cKn h K r k) (hr : zt h r = K) (hK : K = 2 ∨ K = 3 ∨ K = 4) (y : cLk h r h') : cKn h' K r k ∧ cPt h' k = cPt h k ∧ za h' k 0 = za h k 0 ∧ zi h' (za h k 0) = zi h (za h k 0) ∧ za h' (za h k 0) = za h (za h k 0) ∧ (K = 3 → zi h' (za h (za h k 0) 3) = zi h (za h (za h k 0) 3)) := by
  obtain ⟨n1, n2, n3, n4⟩ := x.ne hr hK
  obtain ⟨b1, b2, b3, b4, b5, b6, b7, b8, b9, b10, b11⟩ := y
  have e1 := b10 k n1
  have e2 := b8 _ n2 n3
  have e3 := b6 _ n2
  refine ⟨?_, by show zi h' (za h' k 0) 0 = zi h (za h k 0) 0; rw [e1, e3], e1, e3, e2, fun e => b6 _ (n4 e).1⟩
  obtain ⟨a1, a2, a3, a4, a5, a6⟩ := x
  unfold cKn
  rw [e1, e2, b3, b4, b11 k 1000 (by omega)]
  refine ⟨a1, a2, a3, a4, a5, fun e => ?_⟩
  rw [b11 _ 1000 (by omega), b11 _ 1001 (by omega)]
  exact a6 e
theorem v_Rows_clear_18 {G : zG} (hG : zOK G) {h : zH} {K r : Nat} (hkR : K = 2 ∨ K = 3 ∨ K = 4) (hr : zt h r = K) (x0 : zV) (rest : List zV) : zCall G m_Rows_clear 18 3 m_Rows_remove.1 (zA r :: [x0]) rest (x0 :: zA r :: rest) h := by
  rcases hkR with rfl | rfl | rfl
  · exact (zcU (as := [_]) (owner := "LensPaths$Rows") hG d_Rows_clear_18 c_Rows_remove (z_w3 87 rfl) (z_w3 89 rfl) (z_w3 205 rfl) (z_w3 88 rfl) (z_w3 91 rfl) ⟨by decide, by decide⟩ hr (by decide) (by decide) (show _ = some 1 from by decide +kernel) rfl)
  · exact (zcU (as := [_]) (owner := "LensPaths$Rows") hG d_Rows_clear_18 c_Rows_remove (z_w3 87 rfl) (z_w3 89 rfl) (z_w3 205 rfl) (z_w3 88 rfl) (z_w3 90 rfl) ⟨by decide, by decide⟩ hr (by decide) (by decide) (show _ = some 1 from by decide +kernel) rfl)
  · exact (zcU (as := [_]) (owner := "LensPaths$Rows") hG d_Rows_clear_18 c_Rows_remove (z_w3 87 rfl) (z_w3 89 rfl) (z_w3 205 rfl) (z_w3 88 rfl) (z_w3 92 rfl) ⟨by decide, by decide⟩ hr (by decide) (by decide) (show _ = some 1 from by decide +kernel) rfl)
section CR3
variable {G : zG} {h : zH} {K r : Nat}
theorem cRw0.kt {ks sp : List Nat} (x : cRw0 h K r ks sp) : ∀ k ∈ ks, cKt h (K + 3) k := fun k hk => by
  have := x.2.2.2.2.2.2.1 k (List.mem_append_left _ hk)
  exact ⟨this.1, this.2.2.1⟩
theorem k_Rows_at (hG : zOK G) {ks sp : List Nat} (x : cRw0 h K r ks sp) (p : Int32) : zJ G 0 m_Rows_at 0 [some (zA r), some (zI p), none] [] h (fun o h' => o = zR (zA (((ks.find? (fun k => decide (cPt h k = p))).map (cRo h)).getD 0)) ∧ h' = h) :=
  k_Rows_atK hG x.1 x.2.1 x.2.2.2.1 x.kt p
theorem k_Rows_get (hG : zOK G) {ks sp : List Nat} (x : cRw0 h K r ks sp) {n : Nat} (hn : n < ks.length) : zJ G 0 m_Rows_get 0 [some (zA r), some (zI (nI n)), none, none] [] h (fun o h' => o = zR (zA (cRo h ((ks[n]?).getD 0))) ∧ h' = h) :=
  k_Rows_getK hG x.1 x.2.1 x.2.2.2.1 x.kt (by have := x.2.2.2.2.2.2.2.2.1; omega) hn
theorem so_sub {ks l : List Nat} (x : cSo h ks) (hs : l.Sublist ks) : cSo h l := List.Pairwise.sublist hs x
theorem so_congr {h' : zH} {ks : List Nat} (x : cSo h ks) (e : ∀ k ∈ ks, cPt h' k = cPt h k) : cSo h' ks := by
  refine List.Pairwise.imp_of_mem ?_ x
  intro a b ha hb g
  rw [e a ha, e b hb]; exact g
theorem k_Rows_removeF (hG : zOK G) {sp l1 t : List Nat} {k : Nat} (x : cRw h K r (l1 ++ k :: t) sp) (p : Int32) (b : Nat) (hb : (l1 = [] ∧ b = 0) ∨ ∃ l0, l1 = l0 ++ [b]) :
    zJ G 0 m_Rows_remove 28 [some (zA r), some (zI p), some (zA b), some (zA k)] [] h (fun o h' => o = zR0 ∧ cLk h r h' ∧ cRw h' K r (l1 ++ t) (k :: sp)) := by
  obtain ⟨⟨hkR, hr, ho, hc, hsp, hnd, hkn, hm, hl, hpv⟩, hso⟩ := x
  have km : k ∈ l1 ++ k :: t := List.mem_append_right _ List.mem_cons_self
  have kk := hkn k (List.mem_append_left _ km)
  have k8 : zt h k = 8 := kk.1
  obtain ⟨kr, _⟩ := kk.ne hr hkR
  have k0 := hc.at.1
  have nd0 : (l1 ++ k :: t).Nodup := (List.nodup_append.mp hnd).1
  have ndsp : ∀ j ∈ l1 ++ k :: t, j ∉ sp := fun j hj hs => (List.nodup_append.mp hnd).2.2 j hj j hs rfl
  have all8 : ∀ j ∈ (l1 ++ k :: t) ++ sp, j ≠ r ∧ zt h j = 8 ∧ za h j 1000 = r := fun j hj => ⟨((hkn j hj).ne hr hkR).1, (hkn j hj).1, (hkn j hj).2.1⟩
  -- the end, whatever became of the first link
  have fin : ∀ (A : Nat → Nat → Nat), cLk h r (cSa h A) → cLs (fun j => A j 1) (A r 0) (l1 ++ t) → (∀ j, j ∉ l1 → j ≠ r → A j 1 = za h j 1) → A r 1 = za h r 1 → zJ G 0 m_Rows_remove 51 [some (zA r), some (zI p), some (zA b), some (zA k)] [] (cSa h A) (fun o h' => o = zR0 ∧ cLk h r h' ∧ cRw h' K r (l1 ++ t) (k :: sp)) := by
    intro A hlk hA hA1 hAr
    have hr' : zt (cSa h A) r = K := hr
    have k8' : zt (cSa h A) k = 8 := k8
    refine zj_aload_n hG d_Rows_remove_51 rfl rfl ?_
    refine zj_aload_n hG d_Rows_remove_52 rfl rfl ?_
    refine zj_getA hG d_Rows_remove_53 (f_Rows_34 hkR) hr' (zM_34 hkR).1 ?_
    refine zj_putA hG d_Rows_remove_56 f_Rows_25 (by assumption) rfl (Or.inl rfl) ?_
    refine zj_aload_n hG d_Rows_remove_59 rfl rfl ?_
    refine zj_aload_n hG d_Rows_remove_60 rfl rfl ?_
    refine zj_putA hG d_Rows_remove_61 (f_Rows_34 hkR) hr' (zM_34 hkR).1 (Or.inl (zM_34 hkR).2) ?_
    refine zj_aload_n hG d_Rows_remove_64 rfl rfl ?_
    refine zj_dup hG d_Rows_remove_65 (by first | exact zc_A _ | rfl) ?_
    refine zj_getI hG d_Rows_remove_66 (f_Rows_51 hkR) hr' (zM_51 hkR).1 ?_
    refine zj_iconst (v := 1) hG d_Rows_remove_69 rfl ?_
    refine zj_isub hG d_Rows_remove_70 ?_
    refine zj_putI hG d_Rows_remove_71 (f_Rows_51 hkR) hr' (zM_51 hkR).2.1 (zM_51 hkR).2.2 ?_
    have kl1 : k ∉ l1 := fun e => by
      have := (List.nodup_append.mp nd0).2.2 k e k List.mem_cons_self
      exact this rfl
    have hB : ∀ a j, ¬ (a = k ∧ j = 1) → ¬ (a = r ∧ j = 1) → zu (zu A k 1 (A r 1)) r 1 k a j = A a j := fun a j g1 g2 => by unfold zu; rw [if_neg g2, if_neg g1]
    have lk : cLk h r (zn h, zs h, zt h, zl h, zu (zi h) r 2 (zi h r 2 - 1), zu (zu A k 1 (A r 1)) r 1 k, zj h) := by
      obtain ⟨_, _, _, _, _, _, _, b8, b9, b10, b11⟩ := hlk
      refine ⟨rfl, rfl, rfl, rfl, rfl, fun a e => ?_, fun j e => zu_k e, fun a e f => ?_, fun a e => ?_, fun a e => ?_, fun a j e => ?_⟩
      · funext j; exact zu_a e
      · funext j
        rw [← b8 a e f]
        exact hB a j (fun g => f (by rw [g.1]; exact k8)) (fun g => e g.1)
      · funext j
        rw [← b9 a e]
        exact hB a j (fun g => e (by rw [g.1]; exact kk.2.1)) (fun g => e (by rw [g.1]; exact ho))
      · rw [← b10 a e]
        exact hB a 0 (fun g => by cases g.2) (fun g => by cases g.2)
      · rw [← b11 a j e]
        exact hB a j (fun g => by omega) (fun g => by omega)
    refine zj_vret hG d_Rows_remove_74 rfl ⟨rfl, lk, ⟨hkR, hr, ?_, ?_, ?_, ?_, ?_, ?_, ?_, ?_⟩, ?_⟩
    · rw [lk.2.2.2.2.2.2.2.2.2.2 r 1000 (by omega)]; exact ho
    · show cLs (fun j => zu (zu A k 1 (A r 1)) r 1 k j 1) (zu (zu A k 1 (A r 1)) r 1 k r 0) (l1 ++ t)
      rw [hB r 0 (fun g => by cases g.2) (fun g => by cases g.2)]
      refine hA.congr (fun j hj => ?_)
      have jm : j ∈ l1 ++ k :: t := by
        rcases List.mem_append.mp hj with g | g
        · exact List.mem_append_left _ g
        · exact List.mem_append_right _ (List.mem_cons_of_mem _ g)
      refine hB j 1 (fun g => ?_) (fun g => (all8 j (List.mem_append_left _ jm)).1 g.1)
      rw [g.1] at hj
      rcases List.mem_append.mp hj with e | e
      · exact kl1 e
      · exact (List.nodup_cons.mp (List.nodup_append.mp nd0).2.1).1 e
    · refine ⟨zu_s, k0, ?_⟩
      show cLs (fun j => zu (zu A k 1 (A r 1)) r 1 k j 1) (zu (zu A k 1 (A r 1)) r 1 k k 1) sp
      have hsp' : cLs (cNx h) (A r 1) sp := by rw [hAr]; exact hsp
      rw [zu_a kr, zu_s]
      refine hsp'.congr (fun j hj => ?_)
      show zu (zu A k 1 (A r 1)) r 1 k j 1 = za h j 1
      have jr := (all8 j (List.mem_append_right _ hj)).1
      rw [hB j 1 (fun g => ndsp k km (by rw [← g.1]; exact hj)) (fun g => jr g.1)]
      exact hA1 j (fun g => ndsp j (List.mem_append_left _ g) hj) jr
    · have e : (l1 ++ t ++ k :: sp).Perm (l1 ++ k :: t ++ sp) := by
        rw [List.append_assoc, List.append_assoc]
        refine List.Perm.append_left _ ?_
        exact List.perm_middle
      exact e.nodup_iff.mpr hnd
    · intro j hj
      have jm : j ∈ (l1 ++ k :: t) ++ sp := by
        simp only [List.mem_append, List.mem_cons] at hj ⊢
        rcases hj with (g | g) | g | g
        · exact Or.inl (Or.inl g)
        · exact Or.inl (Or.inr (Or.inr g))
        · exact Or.inl (Or.inr (Or.inl g))
        · exact Or.inr g
      exact ((hkn j jm).lk hr hkR lk).1
    · show zu (zi h) r 2 (zi h r 2 - 1) r 2 = nI (l1 ++ t).length
      rw [zu_s, hm, show (l1 ++ k :: t).length = (l1 ++ t).length + 1 by simp; omega, nI_pred]
    · have : (l1 ++ k :: t).length = (l1 ++ t).length + 1 := by simp; omega
      omega
    · intro j hj
      have jm : j ∈ l1 ++ k :: t := by
        rcases List.mem_append.mp hj with g | g
        · exact List.mem_append_left _ g
        · exact List.mem_append_right _ (List.mem_cons_of_mem _ g)
      rw [((hkn j (List.mem_append_left _ jm)).lk hr hkR lk).2.1]
      exact hpv j jm
    · have sub : (l1 ++ t).Sublist (l1 ++ k :: t) := List.Sublist.append (List.Sublist.refl _) (List.sublist_cons_self _ _)
      refine so_congr (so_sub hso sub) (fun j hj => ?_)
      exact ((hkn j (List.mem_append_left _ (sub.subset hj))).lk hr hkR lk).2.1
  rcases hb with ⟨rfl, rfl⟩ | ⟨l0, rfl⟩
  · refine zj_aload_n hG d_Rows_remove_28 rfl rfl ?_
    refine zj_ifnonnull (tgt := 43) hG d_Rows_remove_29 (by decide) (fun c => absurd rfl c) (fun _ => ?_)
    refine zj_aload_n hG d_Rows_remove_32 rfl rfl ?_
    refine zj_aload_n hG d_Rows_remove_33 rfl rfl ?_
    refine zj_getA hG d_Rows_remove_34 f_Rows_25 (by assumption) rfl ?_
    refine zj_putA hG d_Rows_remove_37 (f_Rows_7 hkR) (by assumption) (zM_7 hkR).1 (Or.inl (zM_7 hkR).2) ?_
    refine zj_goto (tgt := 51) hG d_Rows_remove_40 (by decide) ?_
    refine fin (zu (za h) r 0 (za h k 1)) ⟨rfl, rfl, rfl, rfl, rfl, fun _ _ => rfl, fun _ _ => rfl, fun a e f => ?_, fun a e => ?_, fun a e => ?_, fun a j e => ?_⟩ ?_ (fun j _ e => zu_a e) ?_
    · funext j; exact zu_a e
    · funext j; exact zu_a (fun g => e (by rw [g]; exact ho))
    · exact zu_a e
    · exact zu_k (by omega)
    · show cLs (fun j => zu (za h) r 0 (za h k 1) j 1) (zu (za h) r 0 (za h k 1) r 0) t
      rw [zu_s]
      exact hc.2.2.congr (fun j hj => zu_k (by decide))
    · exact zu_k (by decide)
  · have bm : b ∈ l0 ++ [b] ++ k :: t := by simp
    have b8 := all8 b (List.mem_append_left _ bm)
    have hc2 : cLs (cNx h) (za h r 0) (l0 ++ b :: k :: t) := by simpa using hc
    have nd2 : (l0 ++ b :: k :: t).Nodup := by simpa using nd0
    have b0 := hc2.at.1
    have bt := b8.2.1
    refine zj_aload_n hG d_Rows_remove_28 rfl rfl ?_
    refine zj_ifnonnull (tgt := 43) hG d_Rows_remove_29 (by decide) (fun _ => ?_) (fun c => absurd c b0)
    refine zj_aload_n hG d_Rows_remove_43 rfl rfl ?_
    refine zj_aload_n hG d_Rows_remove_44 rfl rfl ?_
    refine zj_getA hG d_Rows_remove_45 f_Rows_25 (by assumption) rfl ?_
    refine zj_putA hG d_Rows_remove_48 f_Rows_25 (by assumption) rfl (Or.inl rfl) ?_
    refine fin (zu (za h) b 1 (za h k 1)) ⟨rfl, rfl, rfl, rfl, rfl, fun _ _ => rfl, fun _ _ => rfl, fun a e f => ?_, fun a e => ?_, fun a e => ?_, fun a j e => ?_⟩ ?_ (fun j e f => ?_) ?_
    · funext j; exact zu_a (fun g => f (by rw [g]; exact bt))
    · funext j; exact zu_a (fun g => e (by rw [g]; exact b8.2.2))
    · exact zu_k (by decide)
    · exact zu_k (by omega)
    · show cLs (fun j => zu (za h) b 1 (za h k 1) j 1) (zu (za h) b 1 (za h k 1) r 0) (l0 ++ [b] ++ t)
      rw [zu_k (by decide)]
      have := hc2.del (g := fun j => zu (za h) b 1 (za h k 1) j 1) nd2 (fun j hj e => zu_a e) zu_s
      simpa using this
    · exact zu_a (fun g => e (by rw [g]; simp))
    · exact zu_a (fun g => b8.1 g.symm)
theorem k_Rows_removeL (hG : zOK G) (hkR : K = 2 ∨ K = 3 ∨ K = 4) {sp ks : List Nat} (x : cRw h K r ks sp) (p : Int32) : ∀ (t l1 : List Nat) (k b : Nat), ks = l1 ++ k :: t → (∀ j ∈ l1, cPt h j ≠ p) → (∃ j ∈ k :: t, cPt h j = p) → ((l1 = [] ∧ b = 0) ∨ ∃ l0, l1 = l0 ++ [b]) →
    zJ G 0 m_Rows_remove 7 [some (zA r), some (zI p), some (zA b), some (zA k)] [] h (fun o h' => o = zR0 ∧ cLk h r h' ∧ ∃ l1 k t, ks = l1 ++ k :: t ∧ cPt h k = p ∧ cRw h' K r (l1 ++ t) (k :: sp)) := by
  have hkN : K + 3 = 5 ∨ K + 3 = 6 ∨ K + 3 = 7 := by omega
  intro t
  induction t with
  | nil =>
    intro l1 k b hk hl1 hex hb
    subst hk
    have kk := x.1.kt k (List.mem_append_right _ List.mem_cons_self)
    obtain ⟨k1, k2⟩ := kk
    have kp : cPt h k = p := by
      obtain ⟨j, hj, e⟩ := hex
      rw [List.mem_singleton.mp hj] at e
      exact e
    refine zj_aload_n hG d_Rows_remove_7 rfl rfl ?_
    refine zj_getA hG d_Rows_remove_8 f_Rows_13 (by assumption) rfl ?_
    refine zj_getI hG d_Rows_remove_11 (f_Rows_19 hkN) k2 (zM_19 hkN).1 ?_
    refine zj_iload_n hG d_Rows_remove_14 rfl rfl ?_
    refine zj_icmp_eq (tgt := 28) hG d_Rows_remove_15 (by decide) (fun _ => ?_) (fun c => absurd kp c)
    refine (k_Rows_removeF hG x p b hb).mono ?_
    rintro o h' ⟨e1, e2, e3⟩
    exact ⟨e1, e2, l1, k, [], rfl, kp, e3⟩
  | cons e t ih =>
    intro l1 k b hk hl1 hex hb
    have kk := x.1.kt k (by rw [hk]; exact List.mem_append_right _ List.mem_cons_self)
    obtain ⟨k1, k2⟩ := kk
    refine zj_aload_n hG d_Rows_remove_7 rfl rfl ?_
    refine zj_getA hG d_Rows_remove_8 f_Rows_13 (by assumption) rfl ?_
    refine zj_getI hG d_Rows_remove_11 (f_Rows_19 hkN) k2 (zM_19 hkN).1 ?_
    refine zj_iload_n hG d_Rows_remove_14 rfl rfl ?_
    refine zj_icmp_eq (tgt := 28) hG d_Rows_remove_15 (by decide) (fun c15 => ?_) (fun c15 => ?_)
    · have kp : cPt h k = p := c15
      rw [hk] at x
      refine (k_Rows_removeF hG x p b hb).mono ?_
      rintro o h' ⟨e1, e2, e3⟩
      exact ⟨e1, e2, l1, k, e :: t, hk, kp, e3⟩
    · have hc := x.1.2.2.2.1
      rw [hk] at hc
      obtain ⟨hz, _, _⟩ := hc.at.2
      have hz : za h k 1 = e := hz
      refine zj_aload_n hG d_Rows_remove_18 rfl rfl ?_
      refine zj_astore_n hG d_Rows_remove_19 rfl (by decide) rfl rfl ?_
      refine zj_aload_n hG d_Rows_remove_20 rfl rfl ?_
      refine zj_getA hG d_Rows_remove_21 f_Rows_25 k1 rfl ?_
      rw [hz]
      refine zj_astore_n hG d_Rows_remove_24 rfl (by decide) rfl rfl ?_
      refine zj_goto (tgt := 7) hG d_Rows_remove_25 (by decide) ?_
      refine ih (l1 ++ [k]) e k (by rw [hk]; simp) ?_ ?_ (Or.inr ⟨l1, rfl⟩)
      · intro j hj
        rcases List.mem_append.mp hj with g | g
        · exact hl1 j g
        · rw [List.mem_singleton.mp g]; exact c15
      · obtain ⟨j, hj, ej⟩ := hex
        rcases List.mem_cons.mp hj with g | g
        · rw [g] at ej; exact absurd ej c15
        · exact ⟨j, g, ej⟩
theorem k_Rows_remove (hG : zOK G) {sp ks : List Nat} (x : cRw h K r ks sp) {p : Int32} (hp : ∃ j ∈ ks, cPt h j = p) :
    zJ G 0 m_Rows_remove 0 [some (zA r), some (zI p), none, none] [] h (fun o h' => o = zR0 ∧ cLk h r h' ∧ ∃ l1 k t, ks = l1 ++ k :: t ∧ cPt h k = p ∧ cRw h' K r (l1 ++ t) (k :: sp)) := by
  have hkR := x.1.1
  have hr := x.1.2.1
  have hc := x.1.2.2.2.1
  cases hks : ks with
  | nil => obtain ⟨j, hj, _⟩ := hp; rw [hks] at hj; cases hj
  | cons k t =>
    rw [hks] at hc
    have hz : za h r 0 = k := hc.1
    refine zj_null hG d_Rows_remove_0 ?_
    refine zj_astore_n hG d_Rows_remove_1 rfl (by decide) rfl rfl ?_
    refine zj_aload_n hG d_Rows_remove_2 rfl rfl ?_
    refine zj_getA hG d_Rows_remove_3 (f_Rows_7 hkR) hr (zM_7 hkR).1 ?_
    rw [hz, ← hks]
    refine zj_astore_n hG d_Rows_remove_6 rfl (by decide) rfl rfl ?_
    exact k_Rows_removeL hG hkR x p t [] k 0 hks (fun j hj => by cases hj) (by rw [← hks]; exact hp) (Or.inl ⟨rfl, rfl⟩)
theorem k_Rows_clearL (hG : zOK G) {r K : Nat} : ∀ (n : Nat) (h : zH) (ks sp : List Nat), ks.length = n → cRw h K r ks sp → zJ G 1 m_Rows_clear 0 [some (zA r)] [] h (fun o h' => o = zR0 ∧ cLk h r h' ∧ ∃ sp, cRw h' K r [] sp) := by
  intro n
  induction n with
  | zero =>
    intro h ks sp hl x
    have : ks = [] := List.eq_nil_of_length_eq_zero hl
    subst this
    have hkR := x.1.1
    have hr := x.1.2.1
    have hz : za h r 0 = 0 := x.1.2.2.2.1
    refine zj_aload_n hG d_Rows_clear_0 rfl rfl ?_
    refine zj_getA hG d_Rows_clear_1 (f_Rows_7 hkR) (by assumption) (zM_7 hkR).1 ?_
    refine zj_ifnull (tgt := 24) hG d_Rows_clear_4 (by decide) (fun _ => ?_) (fun c => absurd hz c)
    exact zj_vret hG d_Rows_clear_24 rfl ⟨rfl, cLk.rfl', sp, x⟩
  | succ n ih =>
    intro h ks sp hl x
    have hkR := x.1.1
    have hkN : K + 3 = 5 ∨ K + 3 = 6 ∨ K + 3 = 7 := by omega
    have hr := x.1.2.1
    cases ks with
    | nil => simp at hl
    | cons k t =>
      have hc := x.1.2.2.2.1
      have hz : za h r 0 = k := hc.1
      obtain ⟨k1, k2⟩ := x.1.kt k List.mem_cons_self
      refine zj_aload_n hG d_Rows_clear_0 rfl rfl ?_
      refine zj_getA hG d_Rows_clear_1 (f_Rows_7 hkR) (by assumption) (zM_7 hkR).1 ?_
      rw [hz]
      refine zj_ifnull (tgt := 24) hG d_Rows_clear_4 (by decide) (fun c => absurd c hc.2.1) (fun _ => ?_)
      refine zj_aload_n hG d_Rows_clear_7 rfl rfl ?_
      refine zj_aload_n hG d_Rows_clear_8 rfl rfl ?_
      refine zj_getA hG d_Rows_clear_9 (f_Rows_7 hkR) hr (zM_7 hkR).1 ?_
      rw [hz]
      refine zj_getA hG d_Rows_clear_12 f_Rows_13 (by assumption) rfl ?_
      refine zj_getI hG d_Rows_clear_15 (f_Rows_19 hkN) k2 (zM_19 hkN).1 ?_
      refine zj_callP (y' := m_Rows_remove) hG (v_Rows_clear_18 hG hkR hr _ _) c_Rows_remove rfl (by omega) rfl (z_le rfl) (z_le rfl) (k_Rows_remove hG x ⟨k, List.mem_cons_self, rfl⟩) (fun h18 e18 => ?_)
      obtain ⟨lk, l1, k', t', hkt, hkp, x'⟩ := e18
      refine zj_goto (tgt := 0) hG d_Rows_clear_21 (by decide) ?_
      refine (ih h18 (l1 ++ t') (k' :: sp) (by have := congrArg List.length hkt; simp at this hl ⊢; omega) x').mono ?_
      rintro o h2 ⟨q1, q2, q3⟩
      exact ⟨q1, lk.trans q2, q3⟩
theorem k_Rows_clear (hG : zOK G) {ks sp : List Nat} (x : cRw h K r ks sp) : zJ G 1 m_Rows_clear 0 [some (zA r)] [] h (fun o h' => o = zR0 ∧ cLk h r h' ∧ ∃ sp, cRw h' K r [] sp) := k_Rows_clearL hG _ h ks sp rfl x
end CR3
