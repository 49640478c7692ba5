/-! PART 92: the component: cards (take) -/
theorem nd_get {α : Type} {l : List α} (hn : l.Nodup) {i j : Nat} (hi : i < l.length) (hj : j < l.length) (h : l[i] = l[j]) : i = j := by
  unfold List.Nodup at hn
  rw [List.pairwise_iff_getElem] at hn
  rcases Nat.lt_trichotomy i j with g | g | g
  · exact absurd h (hn i j hi hj g)
  · exact g
  · exact absurd h.symm (hn j i hj hi g)
theorem swap_get {α : Type} {l : List α} {i k : Nat} (hi : i < l.length) (hk : k < l.length) (j : Nat) : ((l.set i l[k]).set k l[i])[j]? = if j = k then some l[i] else if j = i then some l[k] else l[j]? := by
  rw [List.getElem?_set, List.getElem?_set]
  by_cases e1 : j = k
  · subst e1
    rw [if_pos rfl, if_pos rfl, if_pos (by rw [List.length_set]; exact hk)]
  · rw [if_neg (fun g => e1 g.symm), if_neg e1]
    by_cases e2 : j = i
    · subst e2
      rw [if_pos rfl, if_pos rfl, if_pos hi]
    · rw [if_neg (fun g => e2 g.symm), if_neg e2]
theorem swap_nd {l : List Nat} (hn : l.Nodup) {i k : Nat} (hi : i < l.length) (hk : k < l.length) : ((l.set i l[k]).set k l[i]).Perm l := by
  have nd : ((l.set i l[k]).set k l[i]).Nodup := by
    unfold List.Nodup
    rw [List.pairwise_iff_getElem]
    intro a b ha hb hab e
    have ha' : a < l.length := by simpa using ha
    have hb' : b < l.length := by simpa using hb
    have ga := swap_get hi hk a
    have gb := swap_get hi hk b
    rw [List.getElem?_eq_getElem ha] at ga
    rw [List.getElem?_eq_getElem hb] at gb
    rw [e] at ga
    rw [ga] at gb
    -- both are places of l
    have key : ∀ j, j < l.length → (if j = k then some l[i] else if j = i then some l[k] else l[j]?) = l[if j = k then i else if j = i then k else j]? := by
      intro j hj
      split
      · rw [List.getElem?_eq_getElem hi]
      · split
        · rw [List.getElem?_eq_getElem hk]
        · rfl
    rw [key a ha', key b hb'] at gb
    have la : (if a = k then i else if a = i then k else a) < l.length := by split; exact hi; split; exact hk; exact ha'
    have lb : (if b = k then i else if b = i then k else b) < l.length := by split; exact hi; split; exact hk; exact hb'
    rw [List.getElem?_eq_getElem la, List.getElem?_eq_getElem lb] at gb
    have := nd_get hn la lb (Option.some.inj gb)
    by_cases a1 : a = k <;> by_cases a2 : a = i <;> by_cases b1 : b = k <;> by_cases b2 : b = i <;> simp only [a1, a2, b1, b2, if_true, if_false] at this <;> first | omega | skip
    all_goals (split at this <;> first | omega | (split at this <;> omega))
  refine (List.perm_ext_iff_of_nodup nd hn).mpr (fun x => ?_)
  constructor
  · intro hx
    obtain ⟨j, hj⟩ := List.mem_iff_getElem?.mp hx
    rw [swap_get hi hk] at hj
    split at hj
    · rw [← Option.some.inj hj]; exact List.getElem_mem hi
    · split at hj
      · rw [← Option.some.inj hj]; exact List.getElem_mem hk
      · exact List.mem_of_getElem? hj
  · intro hx
    obtain ⟨j, hj, rfl⟩ := List.mem_iff_getElem.mp hx
    by_cases e1 : j = k
    · subst e1
      by_cases e2 : i = j
      · subst e2
        exact List.mem_of_getElem? (i := i) (by rw [swap_get hi hk, if_pos rfl])
      · exact List.mem_of_getElem? (i := i) (by rw [swap_get hi hk, if_neg e2, if_pos rfl])
    · by_cases e2 : j = i
      · subst e2
        exact List.mem_of_getElem? (i := k) (by rw [swap_get hi hk, if_pos rfl])
      · exact List.mem_of_getElem? (i := j) (by rw [swap_get hi hk, if_neg e1, if_neg e2, List.getElem?_eq_getElem hj])
section CD2
variable {G : zG} {h : zH} {c : Nat} {es : List Nat} {fl : Nat → Bool} {K : Nat → tK}
set_option maxRecDepth 4000 in
theorem k_Card_take (hG : zOK G) (x : cBd h c es) (y : cKm h c es fl K) {s : Nat} (hs : s < 128) : zJ G 0 m_Card_take 0 [some (zA c), some (zI (nI s)), none, none] [] h (fun o h' => ∃ v, o = zR v ∧ ∃ e es', v = zA e ∧ cTk h c h' ∧ cBd h' c es' ∧ es'.Perm es ∧ cKm h' c es' fl (zw K s tK0) ∧ ((K s).1 = 0 ∧ e = 0 ∨ (K s).1 ≠ 0 ∧ e ≠ 0 ∧ e ∈ es ∧ cKd h' e (fl s) (K s))) := by
  have x0 := x
  obtain ⟨b1, b2, b3, b4, b5, b6, b7, b8, b9, b10, b11⟩ := x
  obtain ⟨ss, m1, m2, m3, m4, m5, m6⟩ := y
  refine zj_iconst (v := 0) hG d_Card_take_0 rfl ?_
  refine zj_istore_n hG d_Card_take_1 rfl (by decide) rfl rfl ?_
  refine k_Card_takeL hG x0 m1 m2 (fun i t ht => by obtain ⟨e, e1, e2, _⟩ := m6 i t ht; exact ⟨e, e1, e2⟩) (fun t ht => (m4 t ht).1) hs ?_ ss.length 0 (by omega) (fun j _ hj => by omega)
  by_cases hi : ss.findIdx (fun x => decide (x = s)) < ss.length
  · -- it is kept
    have his : ss[ss.findIdx (fun x => decide (x = s))] = s := of_decide_eq_true (List.findIdx_getElem (p := fun x => decide (x = s)) (w := hi))
    generalize hI : ss.findIdx (fun x => decide (x = s)) = i at hi his ⊢
    have sm : s ∈ ss := by rw [← his]; exact List.getElem_mem hi
    have hn1 : 1 ≤ ss.length := by omega
    have hie : i < es.length := by omega
    have hke : ss.length - 1 < es.length := by omega
    obtain ⟨e, e1, e2, e3⟩ := m6 i s (by rw [List.getElem?_eq_getElem hi, his])
    have ee : es[i] = e := by rw [List.getElem?_eq_getElem hie] at e1; exact Option.some.inj e1
    have em : e ∈ es := by rw [← ee]; exact List.getElem_mem hie
    have v1 : za h (za h c 2) i = es[i] := by rw [b6 i (by omega), List.getElem?_eq_getElem hie]; rfl
    have v2 : za h (za h c 2) (ss.length - 1) = es[ss.length - 1] := by rw [b6 _ (by omega), List.getElem?_eq_getElem hke]; rfl
    have ck : c ≠ za h c 2 := fun g => by rw [← g, b1] at b3; cases b3
    have hm1 : zi h c 3 - 1 = nI (ss.length - 1) := by
      rw [m1]
      obtain ⟨j, hj⟩ : ∃ j, ss.length = j + 1 := ⟨ss.length - 1, by omega⟩
      rw [hj, nI_pred]; rfl
    have k10 := (b9 e em).2.1
    have l10 := (b9 _ (List.getElem_mem hke)).2.1
    refine zj_iload_n hG d_Card_take_29 rfl rfl ?_
    refine zj_aload_n hG d_Card_take_30 rfl rfl ?_
    refine zj_getI hG d_Card_take_31 f_Card_38 (by assumption) rfl ?_
    rw [m1]
    refine zj_icmp_ne (tgt := 39) hG d_Card_take_34 (by decide) (fun _ => ?_) (fun c => absurd c (fun g => by have := nI_inj (a := i) (b := ss.length) (by omega) (by omega) g; omega))
    refine zj_aload_n hG d_Card_take_39 rfl rfl ?_
    refine zj_getA hG d_Card_take_40 f_Card_24 (by assumption) rfl ?_
    refine zj_iload_n hG d_Card_take_43 rfl rfl ?_
    refine zj_aald hG d_Card_take_44 b3 (by decide) (by decide) (by rw [b4]; exact nI_in' (by omega) (by decide)) ?_
    rw [nI_clamp (by omega), v1]
    refine zj_astore_n hG d_Card_take_45 rfl (by decide) rfl rfl ?_
    refine zj_aload_n hG d_Card_take_46 rfl rfl ?_
    refine zj_dup hG d_Card_take_47 (by first | exact zc_A _ | rfl) ?_
    refine zj_getI hG d_Card_take_48 f_Card_38 (by assumption) rfl ?_
    refine zj_iconst (v := 1) hG d_Card_take_51 rfl ?_
    refine zj_isub hG d_Card_take_52 ?_
    rw [hm1]
    refine zj_putI hG d_Card_take_53 f_Card_38 (by assumption) rfl rfl ?_
    refine zj_aload_n hG d_Card_take_56 rfl rfl ?_
    refine zj_getA hG d_Card_take_57 f_Card_24 (by assumption) rfl ?_
    refine zj_iload_n hG d_Card_take_60 rfl rfl ?_
    refine zj_aload_n hG d_Card_take_61 rfl rfl ?_
    refine zj_getA hG d_Card_take_62 f_Card_24 (by assumption) rfl ?_
    refine zj_aload_n hG d_Card_take_65 rfl rfl ?_
    refine zj_getI hG d_Card_take_66 f_Card_38 (by assumption) rfl ?_
    rw [show zi (zsi h c 3 (nI (ss.length - 1))) c 3 = nI (ss.length - 1) from zu_s]
    refine zj_aald hG d_Card_take_69 b3 (by decide) (by decide) (by rw [b4]; exact nI_in' (by omega) (by decide)) ?_
    rw [nI_clamp (by omega), show za (zsi h c 3 (nI (ss.length - 1))) (za (zsi h c 3 (nI (ss.length - 1))) c 2) (ss.length - 1) = es[ss.length - 1] from v2]
    refine zj_aast hG d_Card_take_70 b3 (by decide) (by decide) (by rw [b4]; exact nI_in' (by omega) (by decide)) l10 (by decide) (by decide) rfl ?_
    rw [nI_clamp (by omega)]
    refine zj_aload_n hG d_Card_take_71 rfl rfl ?_
    refine zj_getA hG d_Card_take_72 f_Card_24 b1 rfl ?_
    rw [show za (zsa (zsi h c 3 (nI (ss.length - 1))) (za (zsi h c 3 (nI (ss.length - 1))) c 2) i es[ss.length - 1]) c 2 = za h c 2 from zu_a ck]
    refine zj_aload_n hG d_Card_take_75 rfl rfl ?_
    refine zj_getI hG d_Card_take_76 f_Card_38 (by assumption) rfl ?_
    refine zj_aload_n hG d_Card_take_79 rfl rfl ?_
    rw [show zi (zsa (zsi h c 3 (nI (ss.length - 1))) (za (zsi h c 3 (nI (ss.length - 1))) c 2) i es[ss.length - 1]) c 3 = nI (ss.length - 1) from zu_s]
    refine zj_aast hG d_Card_take_80 (kv := 10) b3 (by decide) (by decide) (by rw [b4]; exact nI_in' (by omega) (by decide)) (by rw [ee]; exact k10) (by decide) (by decide) rfl ?_
    rw [nI_clamp (by omega)]
    refine zj_aload_n hG d_Card_take_81 rfl rfl ?_
    have tk : cTk h c (zsa (zsa (zsi h c 3 (nI (ss.length - 1))) (za h c 2) i es[ss.length - 1]) (za h c 2) (ss.length - 1) es[i]) := by
      refine ⟨rfl, rfl, rfl, rfl, rfl, fun a g => ?_, fun j g => zu_k g, fun a g => ?_, fun j g => ?_⟩
      · funext j; exact zu_a g
      · funext j; show zu (zu (za h) (za h c 2) i es[ss.length - 1]) (za h c 2) (ss.length - 1) es[i] a j = _; rw [zu_a g, zu_a g]
      · show zu (zu (za h) (za h c 2) i es[ss.length - 1]) (za h c 2) (ss.length - 1) es[i] (za h c 2) j = _
        rw [zu_k (by omega), zu_k (by omega)]
    have hp := swap_nd b8 hie hke
    have bd := x0.tk tk hp (fun j hj => by
      show zu (zu (za h) (za h c 2) i es[ss.length - 1]) (za h c 2) (ss.length - 1) es[i] (za h c 2) j = _
      rw [swap_get hie hke]
      by_cases g1 : j = ss.length - 1
      · subst g1; rw [zu_s, if_pos rfl]; rfl
      · rw [zu_k g1, if_neg g1]
        by_cases g2 : j = i
        · subst g2; rw [zu_s, if_pos rfl]; rfl
        · rw [zu_k g2, if_neg g2]; exact b6 j hj)
    -- the keys that stay
    have gl : ss.getLast? = some ss[ss.length - 1] := by rw [List.getLast?_eq_getElem?, List.getElem?_eq_getElem (by omega)]
    have dp := dl_erase hi gl
    have nd' : (ss.eraseIdx i).Nodup := m3.sublist (List.eraseIdx_sublist _ _)
    have mem' : ∀ t, t ∈ ss.eraseIdx i ↔ t ∈ ss ∧ t ≠ s := by
      intro t
      rw [List.mem_eraseIdx_iff_getElem]
      constructor
      · rintro ⟨j, hj, hne, rfl⟩
        exact ⟨List.getElem_mem hj, fun g => hne (nd_get m3 hj hi (by rw [g, his]))⟩
      · rintro ⟨ht, hne⟩
        obtain ⟨j, hj, rfl⟩ := List.mem_iff_getElem.mp ht
        exact ⟨j, hj, fun g => hne (by subst g; exact his), rfl⟩
    have hlen : ((ss.set i ss[ss.length - 1]).dropLast).length = ss.length - 1 := by simp
    have km : cKm (zsa (zsa (zsi h c 3 (nI (ss.length - 1))) (za h c 2) i es[ss.length - 1]) (za h c 2) (ss.length - 1) es[i]) c ((es.set i es[ss.length - 1]).set (ss.length - 1) es[i]) fl (zw K s tK0) := by
      refine ⟨(ss.set i ss[ss.length - 1]).dropLast, ?_, ?_, dp.nodup_iff.mpr nd', fun t ht => ?_, fun t ht hk => ?_, fun j t hj => ?_⟩
      · rw [hlen]; exact zu_s
      · rw [hlen]; simp; omega
      · obtain ⟨g1, g2⟩ := (mem' t).mp (dp.mem_iff.mp ht)
        rw [zw_n g2]; exact m4 t g1
      · refine dp.mem_iff.mpr ((mem' t).mpr ?_)
        by_cases g : t = s
        · rw [g, zw_s] at hk; exact absurd rfl hk
        · rw [zw_n g] at hk; exact ⟨m5 t ht hk, g⟩
      · have hj' : j < ss.length - 1 := by
          rcases Nat.lt_or_ge j (ss.length - 1) with g | g
          · exact g
          · rw [List.getElem?_eq_none (by rw [hlen]; exact g)] at hj; cases hj
        rw [List.getElem?_dropLast, if_pos (by rw [List.length_set]; exact hj'), List.getElem?_set] at hj
        rw [swap_get hie hke, if_neg (by omega)]
        -- which entry stands there
        have go : ∀ (q : Nat) (f : Nat), ss[q]? = some t → es[q]? = some f → q ≠ i → ∃ e', some f = some e' ∧ zi (zsa (zsa (zsi h c 3 (nI (ss.length - 1))) (za h c 2) i es[ss.length - 1]) (za h c 2) (ss.length - 1) es[i]) e' 0 = nI t ∧ cKd (zsa (zsa (zsi h c 3 (nI (ss.length - 1))) (za h c 2) i es[ss.length - 1]) (za h c 2) (ss.length - 1) es[i]) e' (fl t) (zw K s tK0 t) := by
          intro q f hq hf hqi
          obtain ⟨e', q1, q2, q3⟩ := m6 q t hq
          have ef : f = e' := by rw [hf] at q1; exact Option.some.inj q1
          subst ef
          have f10 := (b9 f (List.mem_of_getElem? hf)).2.1
          have hts : t ≠ s := by
            intro g
            have hql : q < ss.length := by
              rcases Nat.lt_or_ge q ss.length with w | w
              · exact w
              · rw [List.getElem?_eq_none w] at hq; cases hq
            rw [List.getElem?_eq_getElem hql] at hq
            exact hqi (nd_get m3 hql hi (by rw [Option.some.inj hq, g, his]))
          refine ⟨f, rfl, ?_, ?_⟩
          · rw [show zi _ f = zi h f from tk.2.2.2.2.2.1 f (fun g => by rw [g, b1] at f10; cases f10)]; exact q2
          · rw [zw_n hts]; exact q3.tk f10 tk b1 b3
        split at hj
        · rename_i g
          rw [if_pos g.symm]
          have hq : ss[ss.length - 1]? = some t := by rw [List.getElem?_eq_getElem (by omega)]; exact hj
          exact go (ss.length - 1) _ hq (List.getElem?_eq_getElem hke) (by omega)
        · rename_i g
          rw [if_neg (fun w => g w.symm)]
          obtain ⟨e', q1, _⟩ := m6 j t hj
          rw [q1]
          exact go j e' hj q1 (fun w => g w.symm)
    rw [ee] at tk bd km ⊢
    exact zj_aret hG d_Card_take_82 rfl (Or.inl ⟨_, rfl⟩) ⟨_, rfl, e, _, rfl, tk, bd, by rw [← ee]; exact hp, km, Or.inr ⟨(m4 s sm).2, (b9 e em).1, em, e3.tk k10 tk b1 b3⟩⟩
  · -- nothing is kept
    have hi' : ss.findIdx (fun x => decide (x = s)) = ss.length := by
      have := List.findIdx_le_length (xs := ss) (p := fun x => decide (x = s))
      omega
    have hno : s ∉ ss := fun g => by
      have := List.findIdx_eq_length.mp hi' s g
      simp at this
    have k0 : (K s).1 = 0 := by
      apply Classical.byContradiction
      intro g
      exact hno (m5 s hs g)
    rw [hi']
    refine zj_iload_n hG d_Card_take_29 rfl rfl ?_
    refine zj_aload_n hG d_Card_take_30 rfl rfl ?_
    refine zj_getI hG d_Card_take_31 f_Card_38 (by assumption) rfl ?_
    rw [m1]
    refine zj_icmp_ne (tgt := 39) hG d_Card_take_34 (by decide) (fun c => absurd rfl c) (fun _ => ?_)
    refine zj_null hG d_Card_take_37 ?_
    refine zj_aret hG d_Card_take_38 rfl (Or.inl ⟨_, rfl⟩) ⟨_, rfl, 0, es, rfl, cTk.rfl', x0, List.Perm.refl _, ⟨ss, m1, m2, m3, fun t ht => ?_, fun t ht hk => ?_, fun j t hj => ?_⟩, Or.inl ⟨k0, rfl⟩⟩
    · rw [zw_n (fun g => hno (by rw [← g]; exact ht))]; exact m4 t ht
    · by_cases g : t = s
      · rw [g, zw_s] at hk; exact absurd rfl hk
      · rw [zw_n g] at hk; exact m5 t ht hk
    · rw [zw_n (fun g => hno (by rw [← g]; exact List.mem_of_getElem? hj))]; exact m6 j t hj
end CD2
