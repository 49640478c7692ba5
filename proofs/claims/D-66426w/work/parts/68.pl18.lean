/-! PART 68: plain law: settling -/
theorem pkn_s : ∀ (n m : Nat), m < 128 ^ n → pkn (n + 1) m = 128 * pkn n m := by
  intro n
  induction n with
  | zero =>
    intro m hm
    have : m = 0 := by simpa using hm
    subst this
    rfl
  | succ n ih =>
    intro m hm
    rw [Nat.pow_succ] at hm
    show (m % 128) * 128 ^ (n + 1) + pkn (n + 1) (m / 128) = 128 * ((m % 128) * 128 ^ n + pkn n (m / 128))
    rw [ih (m / 128) (by omega), Nat.pow_succ, Nat.mul_add, ← Nat.mul_assoc, Nat.mul_comm _ 128]
theorem tbf_pk {x y : Int32} (hx : nok (pnat x)) (hy : nok (pnat y)) : tbf 5 (pnat x) (pnat y) = decide (pk x < pk y) := by
  rw [Bool.eq_iff_iff, decide_eq_true_eq]
  have hx' : pnat x < 128 ^ 4 := hx.1
  have hy' : pnat y < 128 ^ 4 := hy.1
  rw [tbf_pkn 5 _ _ (by omega) (by omega) (cri_more 4 1 _ hx' hx.2.1) (cri_more 4 1 _ hy' hy.2.1), pkn_s 4 _ hx', pkn_s 4 _ hy']
  unfold pk
  omega
theorem stl_perm (T : List tE) : (stl T).Perm (T.map tfd) := List.mergeSort_perm _ _
theorem stl_so {T : List tE} (hV : sV (T.map tfd)) : sSo (stl T) := by
  have e : stl T = (T.map tfd).mergeSort (fun f g => decide (pk f.1 ≤ pk g.1)) := by
    unfold stl
    have := List.map_mergeSort (r := fun f g : tFd => !(tbf 5 (pnat g.1) (pnat f.1))) (s := fun f g : tFd => decide (pk f.1 ≤ pk g.1)) (f := id) (l := T.map tfd) (fun a ha b hb => by
      rw [tbf_pk (hV.1 b hb).2.1 (hV.1 a ha).2.1, Bool.eq_iff_iff]
      simp)
    simpa using this
  have hp := stl_perm T
  have hs : (stl T).Pairwise (fun f g => decide (pk f.1 ≤ pk g.1) = true) := by
    rw [e]
    refine List.pairwise_mergeSort (fun a b c => ?_) (fun a b => ?_) _
    · simp only [decide_eq_true_eq]; omega
    · simp only [Bool.or_eq_true, decide_eq_true_eq]; omega
  have hn : ((stl T).map (fun f => f.1)).Nodup := (hp.map _).nodup_iff.mpr hV.2.1
  unfold List.Nodup at hn
  rw [List.pairwise_map] at hn
  refine List.Pairwise.imp_of_mem ?_ (hs.and hn)
  intro a b ha hb h
  have ha := hV.1 a (hp.mem_iff.mp ha)
  have hb := hV.1 b (hp.mem_iff.mp hb)
  have h1 := of_decide_eq_true h.1
  rcases Nat.lt_or_ge (pk a.1) (pk b.1) with g | g
  · exact g
  · exact absurd (pk_inj ⟨ha.1, ha.2.1.1⟩ ⟨hb.1, hb.2.1.1⟩ (by omega)) h.2
theorem tpl_c {T : List tE} {k : Int32 → Nat} {e : tE} (h : ∀ y ∈ T, tbf 5 (pnat (eP y)) (pnat (eP e)) = decide (k (eP y) < k (eP e))) : tpl T (eP e) T.length = (T.map tfd).countP (fun y => decide (k y.1 < k (tfd e).1)) := by
  unfold tpl
  rw [List.take_length, List.countP_map]
  apply List.countP_congr
  intro y hy
  rw [h y hy]
  exact Iff.rfl
theorem tSet_g {T : List tE} {k : Int32 → Nat} (h0 : ∀ e ∈ T, 0 ≤ eP e) (h24 : T.length ≤ 24) (h : ∀ e ∈ T, ∀ y ∈ T, tbf 5 (pnat (eP y)) (pnat (eP e)) = decide (k (eP y) < k (eP e))) (hs : (stl T).Pairwise (fun f g => k f.1 < k g.1)) : tSet T := by
  have irr : ∀ a : tFd, decide (k a.1 < k a.1) = false := fun a => by simp
  have asy : ∀ a b : tFd, decide (k a.1 < k b.1) = true → decide (k b.1 < k a.1) = false := fun a b h => by simp at h ⊢; omega
  have hs : (stl T).Pairwise (fun a b => decide (k a.1 < k b.1) = true) := hs.imp (fun h => decide_eq_true h)
  refine ⟨h0, h24, ?_, ?_⟩
  · intro j hk
    have he : T[j] ∈ T := List.getElem_mem hk
    rw [tpl_c (k := k) (h _ he)]
    exact rank_at irr asy (stl_perm T) hs (List.mem_map.mpr ⟨_, he, rfl⟩)
  · intro i hi
    obtain ⟨x, hx, e⟩ := rank_sur irr asy (stl_perm T) hs hi
    obtain ⟨y, hy, rfl⟩ := List.mem_map.mp hx
    obtain ⟨j, hk, rfl⟩ := List.mem_iff_getElem.mp hy
    exact ⟨j, hk, by rw [tpl_c (k := k) (h _ hy)]; exact e⟩
/-- settling is right for a right schema -/
theorem tSet_ok {T : List tE} (hV : sV (T.map tfd)) : tSet T := by
  have ok : ∀ e ∈ T, nok (pnat (eP e)) := fun e he => (hV.1 (tfd e) (List.mem_map.mpr ⟨e, he, rfl⟩)).2.1
  exact tSet_g (k := pk) (fun e he => (hV.1 (tfd e) (List.mem_map.mpr ⟨e, he, rfl⟩)).1) (by simpa using hV.2.2.1) (fun e he y hy => tbf_pk (ok y hy) (ok e he)) (stl_so hV)
