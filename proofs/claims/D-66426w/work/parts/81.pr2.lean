/-! PART 81: the component: what a primitive does to a schema (1) -/
theorem ctop_in {m : Nat} (hm : nok m) {x : Int32} (h0 : 0 ≤ x) (hx : nok (pnat x)) : ctop x (nI (cdp m)) = nI m ↔ nin m (pnat x) = true := by
  have e : ctop x (nI (cdp m)) = nI (pnat x % 128 ^ cdp m) := by
    conv => lhs; rw [pnat_eq h0]
    exact ctop_n hx.1 hm.c.2.1
  rw [e]
  unfold nin
  rw [decide_eq_true_eq]
  have hlt : pnat x % 128 ^ cdp m < 2 ^ 31 := Nat.lt_of_le_of_lt (Nat.mod_le _ _) pnat_lt
  exact ⟨fun g => nI_inj hlt (by have := hm.1; omega) g, fun g => by rw [g]⟩
theorem cif_eq {m t : Nat} (hm : nok m) (ht : nok t) (hct : cdp t ≤ cdp m) {g : Int32 → Int32} (hg : ∀ y : Nat, nok y → nin m y = true → g (nI y) = nI (nmv m t y)) {x : Int32} (h0 : 0 ≤ x) (hx : nok (pnat x)) : cif m g x = tmvp (nI m) (nI t) x := by
  rw [(tmvp_f hm ht hct h0 hx).1]
  unfold cif
  by_cases hi : nin m (pnat x) = true
  · rw [if_pos ((ctop_in hm h0 hx).mpr hi)]
    conv => lhs; rw [pnat_eq h0]
    exact hg _ hx hi
  · rw [if_neg (fun e => hi ((ctop_in hm h0 hx).mp e))]
    unfold nmv
    rw [if_neg hi]
    exact pnat_eq h0
theorem cnin_eq {m : Nat} (hm : nok m) {x : Int32} (h0 : 0 ≤ x) (hx : nok (pnat x)) : cnin m x = true ↔ x ≠ nI m ∧ nin m (pnat x) = true := by
  unfold cnin
  rw [Bool.and_eq_true, decide_eq_true_eq, decide_eq_true_eq, ctop_in hm h0 hx]
/-- a schema whose paths have been moved is right: so the move can be made -/
theorem mv_hyp {F : List tFd} {g : Int32 → Int32} {m t : Nat} (hV : sV (F.map (fun f => (tmvp (nI m) (nI t) f.1, f.2)))) (he : ∀ f ∈ F, cif m g f.1 = tmvp (nI m) (nI t) f.1) : (∀ f ∈ F, cPv (cif m g f.1)) ∧ (F.map (fun f => cif m g f.1)).Nodup ∧ F.map (fun f => (cif m g f.1, f.2)) = F.map (fun f => (tmvp (nI m) (nI t) f.1, f.2)) := by
  refine ⟨fun f hf => ?_, ?_, List.map_congr_left (fun f hf => by rw [he f hf])⟩
  · rw [he f hf]
    have := hV.1 _ (List.mem_map.mpr ⟨f, hf, rfl⟩)
    exact ⟨this.1, this.2.1.1⟩
  · rw [List.map_congr_left he]
    have := hV.2.1
    rw [List.map_map] at this
    exact this
section PR2
variable {G : zG} {h : zH} {r a : Nat} {F : List tFd} {P : tPm}
/-- the answer of a trial -/
def cTry (r : Nat) (F : List tFd) (P : tPm) (h : zH) (c : Prop) (v : zV) (h' : zH) : Prop := ∃ b : Bool, v = zI (tb b) ∧ (b = true ↔ c) ∧ cGr r h h' 3 12 ∧ (b = false → cSc h' r F) ∧ (b = true → ∃ F', cSc h' r F' ∧ F'.Perm (sf P F))
theorem cTry.no {c : Prop} (x : cSc h r F) (hc : ¬ c) : cTry r F P h c (zI (tb false)) h := ⟨false, rfl, ⟨fun e => (by cases e), fun e => absurd e hc⟩, cGr.rfl'.mono (by omega) (by omega), fun _ => x, fun e => by cases e⟩
/-- who tries what -/
def cTr (h : zH) (r a : Nat) (F : List tFd) (P : tPm) : Prop := cSc h r F ∧ sV F ∧ prm h a P ∧ (0 ≤ pmP P ∧ nok (pnat (pmP P))) ∧ (pmP P, pmS P, pmL P, pmH P) ∈ F
set_option maxRecDepth 4000 in
theorem k_iD_0 (hG : zOK G) (x : cTr h r a F P) (hk : P.1 = 0) {v2 : zV} {x3 : Int32} : zJ G 6 m_Prim_isDone2 64 [some (zA a), some (zA r), some v2, some (zI x3), none] [] h (fun o h' => ∃ v, o = zR v ∧ cTry r F P h (sDoF F (pmP P, pmS P, pmL P, pmH P) P.1 (pmP P) (pmA P) (pmB P)) v h') := by
  obtain ⟨xs, hV, ⟨p0, p1, p2, p3, p4, p5, p6, p7⟩, ⟨q0, qok⟩, hm⟩ := x
  have hr := xs.f.1
  have key : sDoF F (pmP P, pmS P, pmL P, pmH P) P.1 (pmP P) (pmA P) (pmB P) ↔ (0 ≤ pmA P ∧ pmA P ≤ 99) ∧ ∀ g ∈ F, g.1 ≠ tbeh 0 (pmP P) (pmA P) := by
    unfold sDoF; rw [hk]; simp
  have no : ¬ sDoF F (pmP P, pmS P, pmL P, pmH P) P.1 (pmP P) (pmA P) (pmB P) → zJ G 6 m_Prim_isDone2 95 [some (zA a), some (zA r), some v2, some (zI x3), none] [] h (fun o h' => ∃ v, o = zR v ∧ cTry r F P h (sDoF F (pmP P, pmS P, pmL P, pmH P) P.1 (pmP P) (pmA P) (pmB P)) v h') := by
    intro g
    refine zj_iconst (v := 0) hG d_Prim_isDone2_95 rfl ?_
    refine zj_istore hG d_Prim_isDone2_96 (by decide) rfl rfl ?_
    refine zj_iload hG d_Prim_isDone2_98 rfl ?_
    refine zj_if_eq (tgt := 115) hG d_Prim_isDone2_100 (by decide) (fun _ => ?_) (fun c => absurd rfl c)
    refine zj_iload hG d_Prim_isDone2_115 rfl ?_
    exact zj_iret hG d_Prim_isDone2_117 rfl rfl ⟨_, rfl, cTry.no xs g⟩
  refine zj_aload_n hG d_Prim_isDone2_64 rfl rfl ?_
  refine zj_getI hG d_Prim_isDone2_65 f_Prim_18 (by assumption) rfl ?_
  rw [p3]
  refine zj_if_lt (tgt := 95) hG d_Prim_isDone2_68 (by decide) (fun c68 => ?_) (fun c68 => ?_)
  · exact no (fun g => absurd (key.mp g).1.1 (Int32.not_le.mpr c68))
  refine zj_aload_n hG d_Prim_isDone2_71 rfl rfl ?_
  refine zj_getI hG d_Prim_isDone2_72 f_Prim_18 p0 rfl ?_
  rw [p3]
  refine zj_bipush (v := 100) hG d_Prim_isDone2_75 rfl ?_
  refine zj_icmp_ge (tgt := 95) hG d_Prim_isDone2_77 (by decide) (fun c77 => ?_) (fun c77 => ?_)
  · exact no (fun g => absurd (a99.mp (key.mp g).1).2 (Int32.not_lt.mpr c77))
  have ha := a99.mpr ⟨Int32.not_lt.mp c68, Int32.not_le.mp c77⟩
  obtain ⟨n, en, hn9⟩ := i_n ha.1 ha.2
  have ep := pnat_eq q0
  refine zj_aload_n hG d_Prim_isDone2_80 rfl rfl ?_
  refine zj_aload_n hG d_Prim_isDone2_81 rfl rfl ?_
  refine zj_callR (y' := m_Prim_to) hG (zcV (as := []) hG d_Prim_isDone2_82 c_Prim_to (z_w3 173 rfl) (z_w3 174 rfl) (z_w3 175 rfl) ⟨by decide, by decide⟩ p0 (by decide) (by decide) (show _ = some 0 from by decide +kernel) rfl) c_Prim_to rfl (by omega) rfl (z_le rfl) (z_le rfl) (k_Prim_to0 hG p0 (p1.trans hk) (p2.trans ep) qok (p3.trans en) hn9) ?_
  rw [← ep, ← en]
  refine zj_callA (y' := m_Rows_at) hG (zcU (as := [_]) (owner := "LensPaths$Rows") hG d_Prim_isDone2_85 c_Rows_at (z_w3 167 rfl) (z_w2 87 rfl) (z_w2 88 rfl) (z_w2 90 rfl) (z_w2 89 rfl) ⟨by decide, by decide⟩ hr (by decide) (by decide) (show _ = some 1 from by decide +kernel) rfl) c_Rows_at rfl (by omega) rfl (z_le rfl) (z_le rfl) (k_sc_at hG xs (tbeh 0 (pmP P) (pmA P))) (fun v85 h85 e85 => ?_)
  obtain ⟨q, rfl, rfl, hq⟩ := e85
  rcases hq with ⟨rfl, hno⟩ | ⟨a0, a5, af, ap⟩
  rotate_left
  · refine zj_ifnonnull (tgt := 95) hG d_Prim_isDone2_88 (by decide) (fun _ => ?_) (fun c => absurd c a0)
    exact no (fun g => (key.mp g).2 _ af ap)
  have yes := key.mpr ⟨ha, hno⟩
  have ht : tbeh 0 (pmP P) (pmA P) = nI (nren (pnat (pmP P)) n) := by
    rw [en]
    conv => lhs; rw [ep]
    exact tbeh_0 qok.1 qok.2.1 qok.2.2 hn9
  obtain ⟨r1, r2⟩ := nren_ok qok hn9
  have hO : sOk P F := ⟨⟨q0, qok, (hV.1 _ hm).2.2.2.1, (hV.1 _ hm).2.2.2.2⟩, Or.inr ⟨hm, Or.inl ⟨hk, ha, hno⟩⟩⟩
  have hsf := (sf_V hV hO).1
  have esf : sf P F = F.map (fun f => (tmvp (nI (pnat (pmP P))) (nI (nren (pnat (pmP P)) n)) f.1, f.2)) := by
    unfold sf
    rw [if_pos (Or.inl hk), hk, ht, ← ep]
  rw [esf] at hsf
  have he : ∀ f ∈ F, cif (pnat (pmP P)) (fun x => cren x (pnat (pmP P)) (pmA P)) f.1 = tmvp (nI (pnat (pmP P))) (nI (nren (pnat (pmP P)) n)) f.1 := fun f hf => cif_eq qok r1 (Nat.le_of_eq r2) (fun y hy hi => by rw [en]; exact cren_n hy.1 qok.1 qok.2.2 hn9 hi) (hV.1 f hf).1 (hV.1 f hf).2.1
  obtain ⟨m1, m2, m3⟩ := mv_hyp hsf he
  refine zj_ifnonnull (tgt := 95) hG d_Prim_isDone2_88 (by decide) (fun c => absurd rfl c) (fun _ => ?_)
  refine zj_iconst (v := 1) hG d_Prim_isDone2_91 rfl ?_
  refine zj_goto (tgt := 96) hG d_Prim_isDone2_92 (by decide) ?_
  refine zj_istore hG d_Prim_isDone2_96 (by decide) rfl rfl ?_
  refine zj_iload hG d_Prim_isDone2_98 rfl ?_
  refine zj_if_eq (tgt := 115) hG d_Prim_isDone2_100 (by decide) (fun c => absurd c (by decide)) (fun _ => ?_)
  refine zj_aload_n hG d_Prim_isDone2_103 rfl rfl ?_
  refine zj_aload_n hG d_Prim_isDone2_104 rfl rfl ?_
  refine zj_getI hG d_Prim_isDone2_105 f_Prim_15 (by assumption) rfl ?_
  refine zj_aload_n hG d_Prim_isDone2_108 rfl rfl ?_
  refine zj_getI hG d_Prim_isDone2_109 f_Prim_18 (by assumption) rfl ?_
  rw [p2, p3, ep]
  refine zj_callP (y' := m_Rows_rename) hG (zcU (as := [_, _]) (owner := "LensPaths$Rows") hG d_Prim_isDone2_112 c_Rows_rename (z_w3 183 rfl) (z_w3 184 rfl) (z_w3 185 rfl) (z_w3 187 rfl) (z_w3 186 rfl) ⟨by decide, by decide⟩ hr (by decide) (by decide) (show _ = some 2 from by decide +kernel) rfl) c_Rows_rename rfl (by omega) rfl (z_le rfl) (z_le rfl) (k_sc_rename hG xs qok.1 (pmA P) m1 m2) (fun h112 e112 => ?_)
  obtain ⟨F', y1, y2, y3⟩ := e112
  refine zj_iload hG d_Prim_isDone2_115 rfl ?_
  refine zj_iret hG d_Prim_isDone2_117 rfl rfl ⟨_, rfl, true, rfl, ⟨fun _ => by rw [← ep]; exact yes, fun _ => rfl⟩, y3.mono (by omega) (by omega), fun e => (by cases e), fun _ => ⟨F', y1, ?_⟩⟩
  rw [esf, ← m3]
  exact y2
end PR2
