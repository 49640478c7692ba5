/-! PART 66: plain law: what a primitive needs forth and back -/
theorem tPt_f (T : List tE) : tPt T = (T.map tfd).map (fun f => f.1) := by rw [List.map_map]; rfl
theorem sV.nd {T : List tE} {F : List tFd} (hV : sV F) (hT : (T.map tfd).Perm F) : (tPt T).Nodup := by
  rw [tPt_f]
  exact (hT.map _).nodup_iff.mpr hV.2.1
theorem tel_f {T : List tE} {F : List tFd} (hn : (F.map (fun f => f.1)).Nodup) (hT : (T.map tfd).Perm F) {f : tFd} (hf : f ∈ F) : tix T f.1 < T.length ∧ tfd (tel T f.1) = f := by
  obtain ⟨e, he, rfl⟩ := List.mem_map.mp (hT.mem_iff.mpr hf)
  have hn' : (tPt T).Nodup := by rw [tPt_f]; exact (hT.map _).nodup_iff.mpr hn
  exact ⟨tix_ex.mpr ⟨e, he, rfl⟩, by rw [show (tfd e).1 = eP e from rfl, tel_of hn' he]⟩
theorem len_f {T : List tE} {F : List tFd} (hT : (T.map tfd).Perm F) : T.length = F.length := by
  rw [← hT.length_eq, List.length_map]
theorem sDo_ok {T : List tE} (hV : sV (T.map tfd)) {k p a b c : Int32} (h : sDo (T.map tfd) k p a b c) : sOk (oNewP T k p a b c) (T.map tfd) := by
  obtain ⟨cp, h⟩ := h
  obtain ⟨p0, po⟩ := cright_nok.mp cp
  unfold oNewP
  rcases h with ⟨k1, h1, h2, h3, h4, h5⟩ | ⟨k1, f, hf, fp, h⟩
  · subst k1
    simp only [if_true]
    have h3' : a = 0 ∨ a = 1 ∨ a = 2 := by
      obtain ⟨u, v⟩ := h3
      have u := Int32.le_iff_toInt_le.mp u
      have v := Int32.le_iff_toInt_le.mp v
      have q0 : (0 : Int32).toInt = 0 := by decide
      have q1 : (1 : Int32).toInt = 1 := by decide
      have q2 : (2 : Int32).toInt = 2 := by decide
      rcases (show a.toInt = 0 ∨ a.toInt = 1 ∨ a.toInt = 2 by omega) with e | e | e
      · exact Or.inl (Int32.toInt_inj.mp (by rw [e, q0]))
      · exact Or.inr (Or.inl (Int32.toInt_inj.mp (by rw [e, q1])))
      · exact Or.inr (Or.inr (Int32.toInt_inj.mp (by rw [e, q2])))
    refine ⟨⟨p0, po, ?_, fun z => ?_⟩, Or.inl ⟨rfl, h1, h2, h3', h5⟩⟩
    · show (if a = 2 then (0 : Int32) else b) ≤ (if a = 2 then 0 else c)
      split
      · exact Int32.le_refl _
      · rename_i g
        exact h4.resolve_left g
    · have z : a = 2 := z
      show (if a = 2 then (0 : Int32) else b) = 0 ∧ (if a = 2 then (0 : Int32) else c) = 0
      rw [if_pos z, if_pos z]; exact ⟨rfl, rfl⟩
  · simp only [if_neg k1]
    obtain ⟨hl, he⟩ := tel_f hV.2.1 (List.Perm.refl _) hf
    rw [fp] at he hl
    have fm : (p, eS (tel T p), eL (tel T p), eH (tel T p)) ∈ T.map tfd := by
      have := tel_p hl
      have e2 : tfd (tel T p) = (p, eS (tel T p), eL (tel T p), eH (tel T p)) := by unfold tfd; rw [this]
      rw [← e2, he]; exact hf
    have fo := (hV.1 _ fm).2.2.2
    refine ⟨⟨p0, po, fo.1, fo.2⟩, Or.inr ⟨fm, ?_⟩⟩
    unfold sDoF at h
    rw [← he] at h
    rcases h with ⟨k, u, v⟩ | ⟨k, u⟩ | ⟨k, u⟩ | ⟨k, u, v⟩ | ⟨k, u, v, w, y, z⟩ | ⟨k, u, v, w, y, z⟩ | ⟨k, u, _⟩ | ⟨k, u⟩ <;> subst k
    · exact Or.inl ⟨rfl, u, v⟩
    · exact Or.inr (Or.inl ⟨rfl, u⟩)
    · exact Or.inr (Or.inr (Or.inl ⟨rfl, u⟩))
    · exact Or.inr (Or.inr (Or.inr (Or.inl ⟨rfl, u, v⟩)))
    · exact Or.inr (Or.inr (Or.inr (Or.inr (Or.inl ⟨rfl, u, v, w, y, z⟩))))
    · exact Or.inr (Or.inr (Or.inr (Or.inr (Or.inr (Or.inl ⟨rfl, u, v, w, y, z⟩)))))
    · exact Or.inr (Or.inr (Or.inr (Or.inr (Or.inr (Or.inr (Or.inl ⟨rfl, u⟩))))))
    · exact Or.inr (Or.inr (Or.inr (Or.inr (Or.inr (Or.inr (Or.inr ⟨rfl, u⟩))))))
theorem ne0_1 {a : Int32} (h : 1 ≤ a) : ¬ a = 0 := by intro e; rw [e] at h; exact absurd h (by decide)
theorem sOk_tfK {p : tPm} {F : List tFd} {T : List tE} (hV : sV F) (h : sOk p F) (hT : (T.map tfd).Perm F) : tfK p T := by
  have h24 := hV.2.2.1
  refine ⟨by rw [len_f hT]; exact h24, ?_⟩
  rcases h.2 with ⟨k, _⟩ | ⟨fm, h⟩
  · exact Or.inr (Or.inr (Or.inl k))
  obtain ⟨hl, he⟩ := tel_f hV.2.1 hT fm
  have hs : eS (tel T (pmP p)) = pmS p := by have := congrArg (fun f : tFd => f.2.1) he; exact this
  rcases h with ⟨k, u, v⟩ | ⟨k, u⟩ | ⟨k, u⟩ | ⟨k, u, v⟩ | ⟨k, u, v, w, y, z⟩ | ⟨k, u, v, w, y, z⟩ | ⟨k, u⟩ | ⟨k, u⟩
  · exact Or.inl k
  · exact Or.inr (Or.inr (Or.inr ⟨hl, Or.inl k⟩))
  · exact Or.inr (Or.inr (Or.inr ⟨hl, Or.inr (Or.inr ⟨Or.inl k, hs.trans u⟩)⟩))
  · exact Or.inr (Or.inl k)
  · exact Or.inr (Or.inr (Or.inr ⟨hl, Or.inr (Or.inr ⟨Or.inr (Or.inl ⟨k, ne0_1 (i_1 v.1)⟩), hs.trans u⟩)⟩))
  · exact Or.inr (Or.inr (Or.inr ⟨hl, Or.inr (Or.inr ⟨Or.inr (Or.inr (Or.inl ⟨k, ne0_1 v.1, ne0_1 w.1⟩)), hs.trans u⟩)⟩))
  · exact Or.inr (Or.inr (Or.inr ⟨hl, Or.inr (Or.inr ⟨Or.inr (Or.inr (Or.inr k)), hs.trans u⟩)⟩))
  · exact Or.inr (Or.inr (Or.inr ⟨hl, Or.inr (Or.inl k)⟩))
/-- the field behind the primitive -/
theorem sf_mem {p : tPm} {F : List tFd} (h : sOk p F) (k0 : ¬ p.1 = 0) (k4 : ¬ p.1 = 4) (k2 : ¬ p.1 = 2) : ∃ f ∈ sf p F, f.1 = pmP p ∧ f.2.1 = (if p.1 = 3 then 1 else pmS p) := by
  unfold sf
  rw [if_neg (by rintro (g | g); exact k0 g; exact k4 g)]
  rcases h.2 with ⟨k, _⟩ | ⟨fm, h⟩
  · rw [if_pos k]
    refine ⟨(pmP p, pmS p, pmL p, pmH p), List.mem_append_right _ List.mem_cons_self, rfl, ?_⟩
    rw [if_neg (by rw [k]; decide)]
  have c1 : ¬ p.1 = 1 := by
    intro e
    rcases h with ⟨k, _⟩ | ⟨k, _⟩ | ⟨k, _⟩ | ⟨k, _⟩ | ⟨k, _⟩ | ⟨k, _⟩ | ⟨k, _⟩ | ⟨k, _⟩ <;> rw [e] at k <;> exact absurd k (by decide)
  rw [if_neg c1, if_neg k2]
  by_cases c3 : p.1 = 3
  · rw [if_pos c3, if_pos c3]
    exact ⟨_, List.mem_map.mpr ⟨_, fm, rfl⟩, by rw [if_pos rfl], by rw [if_pos rfl]⟩
  rw [if_neg c3, if_neg c3]
  by_cases c5 : p.1 = 5
  · rw [if_pos c5]
    exact ⟨_, List.mem_append_left _ (List.mem_map.mpr ⟨_, fm, rfl⟩), by rw [if_pos rfl], by rw [if_pos rfl]⟩
  rw [if_neg c5]
  by_cases c6 : p.1 = 6
  · rw [if_pos c6]
    exact ⟨_, List.mem_map.mpr ⟨_, fm, rfl⟩, by rw [if_pos rfl], by rw [if_pos rfl]⟩
  rw [if_neg c6]
  exact ⟨_, fm, rfl, rfl⟩
theorem sf_mem5 {p : tPm} {F : List tFd} (k : p.1 = 5) : (tbes (pmP p) (pmB p), 0, 0, pmA p - 1) ∈ sf p F := by
  unfold sf
  rw [if_neg (by rw [k]; decide), if_neg (by rw [k]; decide), if_neg (by rw [k]; decide), if_neg (by rw [k]; decide), if_pos k]
  exact List.mem_append_right _ List.mem_cons_self
theorem sOk_tbK {p : tPm} {F : List tFd} {T : List tE} (hV : sV F) (h : sOk p F) (hT : (T.map tfd).Perm (sf p F)) : tbK p T := by
  obtain ⟨hV', _⟩ := sf_V hV h
  refine ⟨by rw [len_f hT]; exact hV'.2.2.1, ?_⟩
  by_cases k0 : p.1 = 0
  · exact Or.inl k0
  by_cases k4 : p.1 = 4
  · exact Or.inr (Or.inl k4)
  by_cases k2 : p.1 = 2
  · exact Or.inr (Or.inr (Or.inl k2))
  obtain ⟨f, fm, fp, fs⟩ := sf_mem h k0 k4 k2
  obtain ⟨hl, he⟩ := tel_f hV'.2.1 hT fm
  rw [fp] at hl he
  have hs : eS (tel T (pmP p)) = (if p.1 = 3 then 1 else pmS p) := by rw [← fs]; have := congrArg (fun f : tFd => f.2.1) he; exact this
  refine Or.inr (Or.inr (Or.inr ⟨hl, ?_⟩))
  rcases h.2 with ⟨k, _⟩ | ⟨_, h'⟩
  · exact Or.inl k
  rcases h' with ⟨k, u, v⟩ | ⟨k, u⟩ | ⟨k, u⟩ | ⟨k, u, v⟩ | ⟨k, u, v, w, y, z⟩ | ⟨k, u, v, w, y, z⟩ | ⟨k, u⟩ | ⟨k, u⟩
  · exact absurd k k0
  · exact absurd k k2
  · exact Or.inr (Or.inr (Or.inl k))
  · exact absurd k k4
  · rw [if_neg (by rw [k]; decide)] at hs
    obtain ⟨hl2, he2⟩ := tel_f hV'.2.1 hT (sf_mem5 (F := F) k)
    refine Or.inr (Or.inr (Or.inr (Or.inr ⟨k, hs.trans u, hl2, ?_, ?_⟩)))
    · intro e
      have a := tel_p hl
      have b := tel_p hl2
      have ee : tel T (pmP p) = tel T (tbes (pmP p) (pmB p)) := by
        unfold tel
        rw [show tix T (pmP p) = tix T (tbes (pmP p) (pmB p)) from e]
      have : pmP p = tbes (pmP p) (pmB p) := a.symm.trans ((congrArg (fun x : tE => x.1) ee).trans b)
      rcases h.2 with ⟨k', _⟩ | ⟨fm', _⟩
      · rw [k] at k'; exact absurd k' (by decide)
      · exact y _ fm' this
    · have := congrArg (fun f : tFd => f.2.1) he2; exact this
  · rw [if_neg (by rw [k]; decide)] at hs
    exact Or.inr (Or.inr (Or.inr (Or.inl ⟨Or.inl ⟨k, ne0_1 v.1, ne0_1 w.1⟩, hs.trans u⟩)))
  · rw [if_neg (by rw [k]; decide)] at hs
    exact Or.inr (Or.inr (Or.inr (Or.inl ⟨Or.inr k, hs.trans u⟩)))
  · exact Or.inr (Or.inl k)
