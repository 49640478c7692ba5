/-! PART 70: the component: rows (at, get, insert) -/
/-- a chain: from a on, by f -/
def cLs (f : Nat → Nat) : Nat → List Nat → Prop
  | a, [] => a = 0
  | a, k :: t => a = k ∧ k ≠ 0 ∧ cLs f (f k) t
theorem cLs.congr {f g : Nat → Nat} : ∀ {l : List Nat} {a : Nat}, cLs f a l → (∀ x ∈ l, g x = f x) → cLs g a l := by
  intro l
  induction l with
  | nil => intro a h _; exact h
  | cons k t ih =>
    intro a h hg
    refine ⟨h.1, h.2.1, ?_⟩
    rw [hg k List.mem_cons_self]
    exact ih h.2.2 (fun x hx => hg x (List.mem_cons_of_mem _ hx))
theorem cLs.ins {f g : Nat → Nat} {c n : Nat} {t : List Nat} : ∀ {l : List Nat} {a : Nat}, cLs f a (l ++ c :: t) → (l ++ c :: t).Nodup → n ≠ 0 → (∀ x ∈ l ++ c :: t, x ≠ c → g x = f x) → g c = n → g n = f c → cLs g a (l ++ c :: n :: t) := by
  intro l
  induction l with
  | nil =>
    intro a h hn n0 hg h1 h2
    refine ⟨h.1, h.2.1, ?_⟩
    refine ⟨h1, n0, ?_⟩
    rw [h2]
    have hn : c ∉ t ∧ t.Nodup := List.nodup_cons.mp hn
    exact h.2.2.congr (fun x hx => hg x (List.mem_cons_of_mem _ hx) (fun e => hn.1 (by rw [← e]; exact hx)))
  | cons k t' ih =>
    intro a h hn n0 hg h1 h2
    have hn : k ∉ t' ++ c :: t ∧ (t' ++ c :: t).Nodup := List.nodup_cons.mp hn
    refine ⟨h.1, h.2.1, ?_⟩
    have hk : k ≠ c := fun e => hn.1 (by rw [e]; exact List.mem_append_right _ List.mem_cons_self)
    rw [hg k List.mem_cons_self hk]
    exact ih h.2.2 hn.2 n0 (fun x hx => hg x (List.mem_cons_of_mem _ hx)) h1 h2
/-- without one -/
theorem cLs.del {f g : Nat → Nat} {b c : Nat} {t : List Nat} : ∀ {l : List Nat} {a : Nat}, cLs f a (l ++ b :: c :: t) → (l ++ b :: c :: t).Nodup → (∀ x ∈ l ++ b :: t, x ≠ b → g x = f x) → g b = f c → cLs g a (l ++ b :: t) := by
  intro l
  induction l with
  | nil =>
    intro a h hn hg h1
    obtain ⟨n1, n2⟩ : b ∉ c :: t ∧ (c :: t).Nodup := List.nodup_cons.mp hn
    refine ⟨h.1, h.2.1, ?_⟩
    rw [h1]
    exact h.2.2.2.2.congr (fun x hx => hg x (List.mem_cons_of_mem _ hx) (fun e => n1 (by rw [← e]; exact List.mem_cons_of_mem _ hx)))
  | cons k t' ih =>
    intro a h hn hg h1
    obtain ⟨n1, n2⟩ : k ∉ t' ++ b :: c :: t ∧ (t' ++ b :: c :: t).Nodup := List.nodup_cons.mp hn
    refine ⟨h.1, h.2.1, ?_⟩
    have hk : k ≠ b := fun e => n1 (by rw [e]; exact List.mem_append_right _ List.mem_cons_self)
    rw [hg k List.mem_cons_self hk]
    exact ih h.2.2 n2 (fun x hx => hg x (List.mem_cons_of_mem _ hx)) h1
theorem cLs.at {f : Nat → Nat} {c : Nat} {t : List Nat} : ∀ {l : List Nat} {a : Nat}, cLs f a (l ++ c :: t) → c ≠ 0 ∧ cLs f (f c) t := by
  intro l
  induction l with
  | nil => intro a h; exact ⟨h.2.1, h.2.2⟩
  | cons k t' ih => intro a h; exact ih h.2.2
/-- the next one; the row; its path -/
abbrev cNx (h : zH) : Nat → Nat := fun k => za h k 1
abbrev cRo (h : zH) (k : Nat) : Nat := za h k 0
abbrev cPt (h : zH) (k : Nat) : Int32 := zi h (za h k 0) 0
theorem zM_7 {k : Nat} (h : k = 2 ∨ k = 3 ∨ k = 4) : zq k 0 = true ∧ (zF k 0).2.2.2 = false := by rcases h with rfl | rfl | rfl <;> exact ⟨rfl, rfl⟩
theorem zM_34 {k : Nat} (h : k = 2 ∨ k = 3 ∨ k = 4) : zq k 1 = true ∧ (zF k 1).2.2.2 = false := by rcases h with rfl | rfl | rfl <;> exact ⟨rfl, rfl⟩
theorem zM_51 {k : Nat} (h : k = 2 ∨ k = 3 ∨ k = 4) : zq k 2 = false ∧ zT k 2 = .int ∧ (zF k 2).2.2.2 = false := by rcases h with rfl | rfl | rfl <;> exact ⟨rfl, rfl, rfl⟩
theorem zM_19 {k : Nat} (h : k = 5 ∨ k = 6 ∨ k = 7) : zq k 0 = false ∧ zT k 0 = .int ∧ (zF k 0).2.2.2 = false := by rcases h with rfl | rfl | rfl <;> exact ⟨rfl, rfl, rfl⟩
/-- a knot of rows of a kind -/
def cKt (h : zH) (R k : Nat) : Prop := zt h k = 8 ∧ zt h (za h k 0) = R
section CR1
variable {G : zG} {h : zH} {K R r : Nat}
theorem k_Rows_atL (hG : zOK G) (hkN : R = 5 ∨ R = 6 ∨ R = 7) (p : Int32) {v0 : zV} : ∀ (ks : List Nat) (a : Nat), cLs (cNx h) a ks → (∀ k ∈ ks, cKt h R k) → zJ G 0 m_Rows_at 5 [some v0, some (zI p), some (zA a)] [] h (fun o h' => o = zR (zA (((ks.find? (fun k => decide (cPt h k = p))).map (cRo h)).getD 0)) ∧ h' = h) := by
  intro ks
  induction ks with
  | nil =>
    intro a hc _
    have hc : a = 0 := hc
    subst hc
    refine zj_aload_n hG d_Rows_at_5 rfl rfl ?_
    refine zj_ifnull (tgt := 28) hG d_Rows_at_6 (by decide) (fun _ => ?_) (fun c => absurd rfl c)
    refine zj_aload_n hG d_Rows_at_28 rfl rfl ?_
    refine zj_ifnonnull (tgt := 36) hG d_Rows_at_29 (by decide) (fun c => absurd rfl c) (fun _ => ?_)
    refine zj_null hG d_Rows_at_32 ?_
    refine zj_goto (tgt := 40) hG d_Rows_at_33 (by decide) ?_
    exact zj_aret hG d_Rows_at_40 rfl (Or.inl ⟨_, rfl⟩) ⟨rfl, rfl⟩
  | cons k t ih =>
    intro a hc hk
    obtain ⟨rfl, k0, hc⟩ := hc
    obtain ⟨k1, k2⟩ := hk a List.mem_cons_self
    refine zj_aload_n hG d_Rows_at_5 rfl rfl ?_
    refine zj_ifnull (tgt := 28) hG d_Rows_at_6 (by decide) (fun c => absurd c k0) (fun _ => ?_)
    refine zj_aload_n hG d_Rows_at_9 rfl rfl ?_
    refine zj_getA hG d_Rows_at_10 f_Rows_13 (by assumption) rfl ?_
    refine zj_getI hG d_Rows_at_13 (f_Rows_19 hkN) k2 (zM_19 hkN).1 ?_
    refine zj_iload_n hG d_Rows_at_16 rfl rfl ?_
    refine zj_icmp_eq (tgt := 28) hG d_Rows_at_17 (by decide) (fun c17 => ?_) (fun c17 => ?_)
    · refine zj_aload_n hG d_Rows_at_28 rfl rfl ?_
      refine zj_ifnonnull (tgt := 36) hG d_Rows_at_29 (by decide) (fun _ => ?_) (fun c => absurd c k0)
      refine zj_aload_n hG d_Rows_at_36 rfl rfl ?_
      refine zj_getA hG d_Rows_at_37 f_Rows_13 (by assumption) rfl ?_
      have e : (a :: t).find? (fun k => decide (cPt h k = p)) = some a := by rw [List.find?_cons, decide_eq_true (show cPt h a = p from c17)]
      rw [e]
      exact zj_aret hG d_Rows_at_40 rfl (Or.inl ⟨_, rfl⟩) ⟨rfl, rfl⟩
    · refine zj_aload_n hG d_Rows_at_20 rfl rfl ?_
      refine zj_getA hG d_Rows_at_21 f_Rows_25 (by assumption) rfl ?_
      refine zj_astore_n hG d_Rows_at_24 rfl (by decide) rfl rfl ?_
      refine zj_goto (tgt := 5) hG d_Rows_at_25 (by decide) ?_
      have e : (a :: t).find? (fun k => decide (cPt h k = p)) = t.find? (fun k => decide (cPt h k = p)) := by rw [List.find?_cons, decide_eq_false (show ¬ cPt h a = p from c17)]
      rw [e]
      exact ih _ hc (fun k hk' => hk k (List.mem_cons_of_mem _ hk'))
theorem k_Rows_atK (hG : zOK G) (hkR : K = 2 ∨ K = 3 ∨ K = 4) (hr : zt h r = K) {ks : List Nat} (hc : cLs (cNx h) (za h r 0) ks) (hk : ∀ k ∈ ks, cKt h (K + 3) k) (p : Int32) : zJ G 0 m_Rows_at 0 [some (zA r), some (zI p), none] [] h (fun o h' => o = zR (zA (((ks.find? (fun k => decide (cPt h k = p))).map (cRo h)).getD 0)) ∧ h' = h) := by
  refine zj_aload_n hG d_Rows_at_0 rfl rfl ?_
  refine zj_getA hG d_Rows_at_1 (f_Rows_7 hkR) (by assumption) (zM_7 hkR).1 ?_
  refine zj_astore_n hG d_Rows_at_4 rfl (by decide) rfl rfl ?_
  exact k_Rows_atL hG (by omega) p ks _ hc hk
theorem k_Rows_getL (hG : zOK G) {n : Nat} (hn : n < 1000) {v0 : zV} : ∀ (m : Nat) (ks : List Nat) (a i : Nat), i + m = n → cLs (cNx h) a ks → (∀ k ∈ ks, zt h k = 8) → m < ks.length → zJ G 0 m_Rows_get 7 [some v0, some (zI (nI n)), some (zA a), some (zI (nI i))] [] h (fun o h' => o = zR (zA (cRo h ((ks[m]?).getD 0))) ∧ h' = h) := by
  intro m
  induction m with
  | zero =>
    intro ks a i hi hc hk hl
    have : i = n := by omega
    subst this
    cases ks with
    | nil => simp at hl
    | cons k t =>
      obtain ⟨rfl, k0, hc⟩ := hc
      have k1 := hk a List.mem_cons_self
      refine zj_iload_n hG d_Rows_get_7 rfl rfl ?_
      refine zj_iload_n hG d_Rows_get_8 rfl rfl ?_
      refine zj_icmp_ge (tgt := 23) hG d_Rows_get_9 (by decide) (fun _ => ?_) (fun c => absurd (Int32.le_refl _) c)
      refine zj_aload_n hG d_Rows_get_23 rfl rfl ?_
      refine zj_getA hG d_Rows_get_24 f_Rows_13 (by assumption) rfl ?_
      exact zj_aret hG d_Rows_get_27 rfl (Or.inl ⟨_, rfl⟩) ⟨rfl, rfl⟩
  | succ m ih =>
    intro ks a i hi hc hk hl
    cases ks with
    | nil => simp at hl
    | cons k t =>
      obtain ⟨rfl, k0, hc⟩ := hc
      have k1 := hk a List.mem_cons_self
      refine zj_iload_n hG d_Rows_get_7 rfl rfl ?_
      refine zj_iload_n hG d_Rows_get_8 rfl rfl ?_
      refine zj_icmp_ge (tgt := 23) hG d_Rows_get_9 (by decide) (fun c => absurd c (nI_ge (by omega) (by omega))) (fun _ => ?_)
      refine zj_aload_n hG d_Rows_get_12 rfl rfl ?_
      refine zj_getA hG d_Rows_get_13 f_Rows_25 (by assumption) rfl ?_
      refine zj_astore_n hG d_Rows_get_16 rfl (by decide) rfl rfl ?_
      refine zj_iinc hG d_Rows_get_17 rfl (nI_1 i) (by decide) rfl rfl ?_
      refine zj_goto (tgt := 7) hG d_Rows_get_20 (by decide) ?_
      have := ih t _ (i + 1) (by omega) hc (fun k hk' => hk k (List.mem_cons_of_mem _ hk')) (by simpa using hl)
      simpa using this
theorem k_Rows_getK (hG : zOK G) (hkR : K = 2 ∨ K = 3 ∨ K = 4) (hr : zt h r = K) {ks : List Nat} (hc : cLs (cNx h) (za h r 0) ks) (hk : ∀ k ∈ ks, cKt h (K + 3) k) (hl : ks.length < 1000) {n : Nat} (hn : n < ks.length) : zJ G 0 m_Rows_get 0 [some (zA r), some (zI (nI n)), none, none] [] h (fun o h' => o = zR (zA (cRo h ((ks[n]?).getD 0))) ∧ h' = h) := by
  refine zj_aload_n hG d_Rows_get_0 rfl rfl ?_
  refine zj_getA hG d_Rows_get_1 (f_Rows_7 hkR) (by assumption) (zM_7 hkR).1 ?_
  refine zj_astore_n hG d_Rows_get_4 rfl (by decide) rfl rfl ?_
  refine zj_iconst (v := 0) hG d_Rows_get_5 rfl ?_
  refine zj_istore_n hG d_Rows_get_6 rfl (by decide) rfl rfl ?_
  exact k_Rows_getL hG (by omega) n ks _ 0 (by omega) hc (fun k hk' => (hk k hk').1) hn
/-- a path that can be compared -/
def cPv (x : Int32) : Prop := 0 ≤ x ∧ pnat x < 2 ^ 28
theorem k_PathsC (hG : zOK G) {x y : Int32} (hx : cPv x) (hy : cPv y) (h : zH) : zJ G 0 m_Paths_compare 0 [some (zI x), some (zI y), none, none] [] h (fun o h' => o = zR (zI (ccm 4 (pnat x) (pnat y))) ∧ h' = h) := by
  have := k_Paths_compare hG hx.2 hy.2 h
  rwa [← pnat_eq hx.1, ← pnat_eq hy.1] at this
theorem ccm_pk {x y : Int32} (hx : cPv x) (hy : cPv y) : ccm 4 (pnat x) (pnat y) < 0 ↔ pk x < pk y := ccm_pkn 4 _ _ hx.2 hy.2
end CR1
