/-! PART 42: the reference: a version's own terms -/
abbrev tTs : Type := List tE × List tQ × Nat
def tt1 (x : tTs) (e : tE) : tTs := if eS e < 2 then (x.1 ++ [(e.1, e.2.1, e.2.2.1, e.2.2.2.1, e.2.2.2.2.1, nI (x.2.1.idxOf (0, nI x.2.2, 0, 0, 0, 0)))], tkn x.2.1 (0, nI x.2.2, 0, 0, 0, 0), x.2.2 + 1) else (x.1 ++ [e], x.2.1, x.2.2)
def ttt (L : List tQ) (T : List tE) : tTs := T.foldl tt1 ([], L, 0)
theorem ttt_s {L : List tQ} {T : List tE} {k : Nat} (hk : k < T.length) : ttt L (T.take (k + 1)) = tt1 (ttt L (T.take k)) T[k] := by
  rw [ttt, List.take_succ_eq_append_getElem hk, List.foldl_append]
  rfl
theorem ttt_len (L : List tQ) (T : List tE) : ∀ k, k ≤ T.length → (ttt L (T.take k)).1.length = k ∧ (ttt L (T.take k)).2.1.length ≤ L.length + k ∧ (ttt L (T.take k)).2.2 ≤ k := by
  intro k
  induction k with
  | zero => intro _; simp [ttt]
  | succ k ih =>
    intro hk
    obtain ⟨a, b, c⟩ := ih (by omega)
    rw [ttt_s (by omega), tt1]
    have := tkn_len (ttt L (T.take k)).2.1 (0, nI (ttt L (T.take k)).2.2, 0, 0, 0, 0)
    split
    · refine ⟨by simp [a], ?_, ?_⟩ <;> simp only <;> omega
    · refine ⟨by simp [a], ?_, ?_⟩ <;> simp only <;> omega
section MD29
variable {G : zG} {q : Nat} {h : zH} {N : Nat → Nat → Int32} {W : sW}
set_option maxRecDepth 4000 in
theorem k_MD_takeTermsL (hG : zOK G) (hT : twOK q h) {T : List tE} {L : List tQ} {x1 : Int32} (h24 : T.length ≤ 24) (hl : L.length + T.length < 1024) : ∀ (n k : Nat) (M : Nat → Nat → Int32), k + n = T.length → tFr pTS N M → tTab M ((ttt L (T.take k)).1 ++ T.drop k) → tSto M (ttt L (T.take k)).2.1 →
    zJ G 4 m_MD_takeTerms 14 [some (zA q), some (zI x1), some (zI (nI (ttt L (T.take k)).2.2)), some (zI (nI k))] [] (twp q h M) (fun o h' => ∃ N', o = zR0 ∧ h' = twp q h N' ∧ (tTab N' (ttt L T).1 ∧ tSto N' (ttt L T).2.1 ∧ tFr pTS N N')) := by
  intro n
  induction n with
  | zero =>
    intro k M hk f h1 h2
    have hk' : k = T.length := by omega
    subst hk'
    have hl1 := (ttt_len L T T.length (by omega)).1
    have hF := h1.1
    rw [show ((ttt L (T.take T.length)).1 ++ T.drop T.length).length = T.length by rw [List.length_append, hl1]; simp] at hF
    rw [List.drop_length, List.append_nil, List.take_length] at h1
    rw [List.take_length] at h2
    refine zj_iload_n hG d_MD_takeTerms_14 rfl rfl ?_
    refine zj_aload_n hG d_MD_takeTerms_15 rfl rfl ?_
    refine t_getI hG hT d_MD_takeTerms_16 f_MD_108 rfl ?_
    rw [hF]
    refine zj_icmp_ge (tgt := 57) hG d_MD_takeTerms_19 (by decide) (fun _ => ?_) (fun c => absurd (nI_le (by omega) (by omega)) c)
    exact zj_vret hG d_MD_takeTerms_57 rfl ⟨M, rfl, rfl, h1, h2, f⟩
  | succ n ih =>
    intro k M hk f h1 h2
    have hkl : k < T.length := by omega
    obtain ⟨l1, l2, l3⟩ := ttt_len L T k (by omega)
    have hs := ttt_s (L := L) hkl
    generalize hx : ttt L (T.take k) = x at *
    have hlen : (x.1 ++ T.drop k).length = T.length := by simp [l1]; omega
    have hF := h1.1
    rw [hlen] at hF
    have hk' : k < (x.1 ++ T.drop k).length := by omega
    have hget : (x.1 ++ T.drop k)[k] = T[k] := by
      rw [List.getElem_append_right (by omega)]
      simp [l1]
    have hset : ∀ e : tE, (x.1 ++ T.drop k).set k e = (x.1 ++ [e]) ++ T.drop (k + 1) := by
      intro e
      rw [List.set_append_right _ _ (by omega), l1, Nat.sub_self, List.drop_eq_getElem_cons hkl, List.set_cons_zero]
      simp
    obtain ⟨a1, a2, a3, a4, a5, a8⟩ := h1.at hk'
    rw [hget] at a2
    refine zj_iload_n hG d_MD_takeTerms_14 rfl rfl ?_
    refine zj_aload_n hG d_MD_takeTerms_15 rfl rfl ?_
    refine t_getI hG hT d_MD_takeTerms_16 f_MD_108 rfl ?_
    rw [hF]
    refine zj_icmp_ge (tgt := 57) hG d_MD_takeTerms_19 (by decide) (fun c => absurd c (nI_ge hkl (by omega))) (fun _ => ?_)
    refine zj_aload_n hG d_MD_takeTerms_22 rfl rfl ?_
    refine t_getA (o := 15) hG hT d_MD_takeTerms_23 f_MD_56 rfl rfl ?_
    refine zj_iload_n hG d_MD_takeTerms_26 rfl rfl ?_
    refine t_ald (k) hG hT d_MD_takeTerms_27 (by first | decide | omega) (by first | decide | omega) rfl (by show _ < 26; omega) ?_
    refine zj_iconst (v := 2) hG d_MD_takeTerms_28 rfl ?_
    rw [a2]
    refine zj_icmp_ge (tgt := 51) hG d_MD_takeTerms_29 (by decide) (fun c29 => ?_) (fun c29 => ?_)
    · rw [tt1, if_neg (Int32.not_lt.mpr c29)] at hs
      refine zj_iinc hG d_MD_takeTerms_51 rfl (nI_1 k) (by decide) rfl rfl ?_
      refine zj_goto (tgt := 14) hG d_MD_takeTerms_54 (by decide) ?_
      have i := ih (k + 1) M (by omega) f
      rw [hs] at i
      refine i ?_ h2
      rw [← hset, ← hget, List.set_getElem_self]
      exact h1
    · rw [tt1, if_pos (Int32.not_le.mp c29)] at hs
      refine zj_aload_n hG d_MD_takeTerms_32 rfl rfl ?_
      refine t_getA (o := 19) hG hT d_MD_takeTerms_33 f_MD_68 rfl rfl ?_
      refine zj_iload_n hG d_MD_takeTerms_36 rfl rfl ?_
      refine zj_aload_n hG d_MD_takeTerms_37 rfl rfl ?_
      refine zj_iconst (v := 0) hG d_MD_takeTerms_38 rfl ?_
      refine zj_iload_n hG d_MD_takeTerms_39 rfl rfl ?_
      refine zj_iconst (v := 0) hG d_MD_takeTerms_40 rfl ?_
      refine zj_iconst (v := 0) hG d_MD_takeTerms_41 rfl ?_
      refine zj_iconst (v := 0) hG d_MD_takeTerms_42 rfl ?_
      refine zj_iconst (v := 0) hG d_MD_takeTerms_43 rfl ?_
      refine zj_callT (y' := m_MD_known) hG (zcP (as := [_, _, _, _, _, _]) hG d_MD_takeTerms_44 c_MD_known (z_w7 29 rfl) (z_w7 31 rfl) (z_w7 30 rfl) (z_w7 8 rfl) rfl ⟨by decide, by decide⟩ hT.1 (by decide) (by decide) (show _ = some 6 from by decide +kernel) rfl) c_MD_known rfl (by omega) rfl (z_le rfl) (z_le rfl) (k_MD_known hG hT h2 (by omega) _ _ _ _ _ _) (fun v44 N44 e44 => ?_)
      obtain ⟨r1, r2, r3⟩ := e44
      subst r1
      refine t_ast (k) hG hT d_MD_takeTerms_47 (by first | decide | omega) (by first | decide | omega) rfl (by show _ < 26; omega) ?_
      refine zj_iinc hG d_MD_takeTerms_48 rfl (nI_1 _) (by decide) rfl rfl ?_
      refine zj_iinc hG d_MD_takeTerms_51 rfl (nI_1 k) (by decide) rfl rfl ?_
      refine zj_goto (tgt := 14) hG d_MD_takeTerms_54 (by decide) ?_
      have i := ih (k + 1) (zu N44 19 k (nI (x.2.1.idxOf (0, nI x.2.2, 0, 0, 0, 0)))) (by omega) (tFr.put (f.trans (r3.mono (by intro o i e; simp [pTS] at e; exact e.2))) rfl)
      rw [hs] at i
      refine i ?_ (r2.fr (P := pT) (tFr.put tFr.rfl' rfl) (by intro o i e; simp [pS] at e; simp [pT]; omega))
      have u := (h1.fr r3 (by intro o i e; simp [pT] at e; simp [pS]; omega)).t hk' (nI (x.2.1.idxOf (0, nI x.2.2, 0, 0, 0, 0)))
      rw [hset, hget] at u
      exact u
set_option maxRecDepth 4000 in
theorem k_MD_takeTerms (hG : zOK G) (hT : twOK q h) {X : tXt} (hX : tX N X) {v : Nat} {F : List tFd} (hv : v < 8) (hV : tVer N v F) (hl : X.2.1.length + 2 * F.length < 1024) :
    zJ G 4 m_MD_takeTerms 0 [some (zA q), some (zI (nI v)), none, none] [] (twp q h N) (fun o h' => ∃ N', o = zR0 ∧ h' = twp q h N' ∧ (tX N' ((ttt (ttk 2 X.2.1 F).2 (ttk 2 X.2.1 F).1).1, (ttt (ttk 2 X.2.1 F).2 (ttk 2 X.2.1 F).1).2.1, X.2.2) ∧ tFr pM N N' ∧ N' 0 27 = 2)) := by
  have h24 := hV.2.1
  have f0 : tFr pM N (zu N 0 27 2) := tFr.put tFr.rfl' rfl
  have hX0 : tX (zu N 0 27 2) X := hX.fr2 (P := fun o i => o == 0 && i == 27) (tFr.put tFr.rfl' rfl) (by intro o i e; simp [pA, pT, pS, pW] at e; simp; omega)
  have hV0 : tVer (zu N 0 27 2) v F := hV.fr (P := fun o i => o == 0 && i == 27) (tFr.put tFr.rfl' rfl) (by intro o i e; simp [pV] at e; simp; omega)
  obtain ⟨l1, l2⟩ := ttk_len 2 F ([], X.2.1)
  refine zj_aload_n hG d_MD_takeTerms_0 rfl rfl ?_
  refine zj_iconst (v := 2) hG d_MD_takeTerms_1 rfl ?_
  refine t_putI hG hT d_MD_takeTerms_2 f_MD_118 rfl rfl ?_
  refine zj_aload_n hG d_MD_takeTerms_5 rfl rfl ?_
  refine zj_iload_n hG d_MD_takeTerms_6 rfl rfl ?_
  refine zj_callU (y' := m_MD_take) hG (zcP (as := [_]) hG d_MD_takeTerms_7 c_MD_take (z_w7 14 rfl) (z_w7 16 rfl) (z_w7 15 rfl) (z_w7 8 rfl) rfl ⟨by decide, by decide⟩ hT.1 (by decide) (by decide) (show _ = some 1 from by decide +kernel) rfl) c_MD_take rfl (by omega) rfl (z_le rfl) (z_le rfl) (k_MD_takeX hG hT hX0 hv hV0 (by omega)) (fun N7 e7 => ?_)
  obtain ⟨r1, r2⟩ := e7
  rw [show zu N 0 27 2 0 27 = 2 from zu_s] at r1
  have l1' : (ttk 2 X.2.1 F).1.length = F.length := by
    rw [ttk, l1]
    simp
  have l2' : (ttk 2 X.2.1 F).2.length ≤ X.2.1.length + F.length := l2
  refine zj_iconst (v := 0) hG d_MD_takeTerms_10 rfl ?_
  refine zj_istore_n hG d_MD_takeTerms_11 rfl (by decide) rfl rfl ?_
  refine zj_iconst (v := 0) hG d_MD_takeTerms_12 rfl ?_
  refine zj_istore_n hG d_MD_takeTerms_13 rfl (by decide) rfl rfl ?_
  refine (k_MD_takeTermsL (N := N7) (T := (ttk 2 X.2.1 F).1) (L := (ttk 2 X.2.1 F).2) hG hT (by omega) (by omega) _ 0 N7 (Nat.zero_add _) tFr.rfl' (by simpa [ttt] using r1.1) (by simpa [ttt] using r1.2.1)).mono ?_
  rintro o h' ⟨N', e1, e2, e3, e4, e5⟩
  exact ⟨N', e1, e2, ⟨e3, e4, r1.2.2.1.fr e5 (by intro o i e; simp [pK] at e; simp [pTS, pT, pS]; omega), (e5 0 28 rfl).trans r1.2.2.2⟩, f0.trans ((r2.mono pTS_M).trans (e5.mono pTS_M)), (e5 0 27 rfl).trans ((r2 0 27 rfl).trans zu_s)⟩
end MD29
