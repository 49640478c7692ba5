/-! PART 82: the component: what a primitive does to a schema (2) -/
section PR3
variable {G : zG} {h : zH} {r a : Nat} {F : List tFd} {P : tPm}
theorem cTr.ok (x : cTr h r a F P) (h2 : sDoF F (pmP P, pmS P, pmL P, pmH P) P.1 (pmP P) (pmA P) (pmB P)) : sOk P F := by
  obtain ⟨xs, hV, hp, ⟨q0, qok⟩, hm⟩ := x
  refine ⟨⟨q0, qok, (hV.1 _ hm).2.2.2.1, (hV.1 _ hm).2.2.2.2⟩, Or.inr ⟨hm, ?_⟩⟩
  unfold sDoF at h2
  rcases h2 with ⟨k, u, v⟩ | ⟨k, u⟩ | ⟨k, u⟩ | ⟨k, u, v⟩ | ⟨k, u, v, w, y, z⟩ | ⟨k, u, v, w, y, z⟩ | ⟨k, u, _⟩ | ⟨k, u⟩
  · exact Or.inl ⟨k, u, v⟩
  · exact Or.inr (Or.inl ⟨k, u⟩)
  · exact Or.inr (Or.inr (Or.inl ⟨k, u⟩))
  · exact Or.inr (Or.inr (Or.inr (Or.inl ⟨k, u, v⟩)))
  · exact Or.inr (Or.inr (Or.inr (Or.inr (Or.inl ⟨k, u, v, w, y, z⟩))))
  · exact Or.inr (Or.inr (Or.inr (Or.inr (Or.inr (Or.inl ⟨k, u, v, w, y, z⟩)))))
  · exact Or.inr (Or.inr (Or.inr (Or.inr (Or.inr (Or.inr (Or.inl ⟨k, u⟩))))))
  · exact Or.inr (Or.inr (Or.inr (Or.inr (Or.inr (Or.inr (Or.inr ⟨k, u⟩))))))
set_option maxRecDepth 4000 in
theorem k_iD_2 (hG : zOK G) (x : cTr h r a F P) (hk : P.1 = 2) {v2 : zV} {x3 : Int32} : zJ G 6 m_Prim_isDone2 118 [some (zA a), some (zA r), some v2, some (zI x3), none] [] h (fun o h' => ∃ v, o = zR v ∧ cTry r F P h (sDoF F (pmP P, pmS P, pmL P, pmH P) P.1 (pmP P) (pmA P) (pmB P)) v h') := by
  obtain ⟨xs, hV, ⟨p0, p1, p2, p3, p4, p5, p6, p7⟩, ⟨q0, qok⟩, hm⟩ := x
  have hr := xs.f.1
  have ep := pnat_eq q0
  have key : sDoF F (pmP P, pmS P, pmL P, pmH P) P.1 (pmP P) (pmA P) (pmB P) ↔ ∀ g ∈ F, g.1 ≠ pmP P → nin (pnat (pmP P)) (pnat g.1) = false := by
    unfold sDoF; rw [hk]; simp
  have cnt : F.countP (fun f => cnin (pnat (pmP P)) f.1) = 0 ↔ sDoF F (pmP P, pmS P, pmL P, pmH P) P.1 (pmP P) (pmA P) (pmB P) := by
    rw [key, List.countP_eq_zero]
    constructor
    · intro g f hf hne
      rcases hh : nin (pnat (pmP P)) (pnat f.1) with _ | _
      · rfl
      · exact absurd ((cnin_eq qok (hV.1 f hf).1 (hV.1 f hf).2.1).mpr ⟨by rw [← ep]; exact hne, hh⟩) (g f hf)
    · intro g f hf hc
      have := (cnin_eq qok (hV.1 f hf).1 (hV.1 f hf).2.1).mp hc
      rw [← ep] at this
      rw [g f hf this.1] at this
      cases this.2
  have cl : F.countP (fun f => cnin (pnat (pmP P)) f.1) < 2 ^ 31 := by
    have := List.countP_le_length (p := fun f : tFd => cnin (pnat (pmP P)) f.1) (l := F)
    have := xs.f.2.2.2.1
    omega
  refine zj_aload_n hG d_Prim_isDone2_118 rfl rfl ?_
  refine zj_aload_n hG d_Prim_isDone2_119 rfl rfl ?_
  refine zj_getI hG d_Prim_isDone2_120 f_Prim_15 (by assumption) rfl ?_
  rw [p2, ep]
  refine zj_callR (y' := m_Rows_inside) hG (zcU (as := [_]) (owner := "LensPaths$Rows") hG d_Prim_isDone2_123 c_Rows_inside (z_w3 197 rfl) (z_w3 198 rfl) (z_w3 199 rfl) (z_w3 201 rfl) (z_w3 200 rfl) ⟨by decide, by decide⟩ hr (by decide) (by decide) (show _ = some 1 from by decide +kernel) rfl) c_Rows_inside rfl (by omega) rfl (z_le rfl) (z_le rfl) (k_sc_inside hG xs qok.1) ?_
  rw [← ep]
  by_cases c0 : F.countP (fun f => cnin (pnat (pmP P)) f.1) = 0
  · have yes := cnt.mp c0
    rw [c0]
    refine zj_if_ne (tgt := 133) hG d_Prim_isDone2_126 (by decide) (fun c => absurd nI_0 c) (fun _ => ?_)
    refine zj_iconst (v := 1) hG d_Prim_isDone2_129 rfl ?_
    refine zj_goto (tgt := 134) hG d_Prim_isDone2_130 (by decide) ?_
    refine zj_istore hG d_Prim_isDone2_134 (by decide) rfl rfl ?_
    refine zj_iload hG d_Prim_isDone2_136 rfl ?_
    refine zj_if_eq (tgt := 149) hG d_Prim_isDone2_138 (by decide) (fun c => absurd c (by decide)) (fun _ => ?_)
    refine zj_aload_n hG d_Prim_isDone2_141 rfl rfl ?_
    refine zj_aload_n hG d_Prim_isDone2_142 rfl rfl ?_
    refine zj_getI hG d_Prim_isDone2_143 f_Prim_15 (by assumption) rfl ?_
    rw [p2]
    refine zj_callP (y' := m_Rows_remove) hG (zcU (as := [_]) (owner := "LensPaths$Rows") hG d_Prim_isDone2_146 c_Rows_remove (z_w3 203 rfl) (z_w3 204 rfl) (z_w3 205 rfl) (z_w3 88 rfl) (z_w3 206 rfl) ⟨by decide, by decide⟩ hr (by decide) (by decide) (show _ = some 1 from by decide +kernel) rfl) c_Rows_remove rfl (by omega) rfl (z_le rfl) (z_le rfl) (k_sc_remove hG xs ⟨_, hm, rfl⟩) (fun h146 e146 => ?_)
    obtain ⟨F', y1, y2, y3⟩ := e146
    refine zj_iload hG d_Prim_isDone2_149 rfl ?_
    refine zj_iret hG d_Prim_isDone2_151 rfl rfl ⟨_, rfl, true, rfl, ⟨fun _ => yes, fun _ => rfl⟩, y3.mono (by omega) (by omega), fun e => (by cases e), fun _ => ⟨F', y1, ?_⟩⟩
    unfold sf
    rw [if_neg (by rw [hk]; decide), if_neg (by rw [hk]; decide), if_pos hk]
    exact y2
  · refine zj_if_ne (tgt := 133) hG d_Prim_isDone2_126 (by decide) (fun _ => ?_) (fun c => absurd c (nI_ne0 (by omega) cl))
    refine zj_iconst (v := 0) hG d_Prim_isDone2_133 rfl ?_
    refine zj_istore hG d_Prim_isDone2_134 (by decide) rfl rfl ?_
    refine zj_iload hG d_Prim_isDone2_136 rfl ?_
    refine zj_if_eq (tgt := 149) hG d_Prim_isDone2_138 (by decide) (fun _ => ?_) (fun c => absurd rfl c)
    refine zj_iload hG d_Prim_isDone2_149 rfl ?_
    exact zj_iret hG d_Prim_isDone2_151 rfl rfl ⟨_, rfl, cTry.no xs (fun g => c0 (cnt.mpr g))⟩
set_option maxRecDepth 4000 in
theorem k_iD_3 (hG : zOK G) (x : cTr h r a F P) (hk : P.1 = 3) {b : Nat} {rs : List Nat} (xr : cRr h 2 r rs) (hF : F = rs.map (fld h)) (hb : b ∈ rs) (hbf : fld h b = (pmP P, pmS P, pmL P, pmH P)) : zJ G 6 m_Prim_isDone2 152 [some (zA a), some (zA r), some (zA b), some (zI (tb (decide (pmS P = 0)))), none] [] h (fun o h' => ∃ v, o = zR v ∧ cTry r F P h (sDoF F (pmP P, pmS P, pmL P, pmH P) P.1 (pmP P) (pmA P) (pmB P)) v h') := by
  obtain ⟨xs, hV, ⟨p0, p1, p2, p3, p4, p5, p6, p7⟩, ⟨q0, qok⟩, hm⟩ := x
  have key : sDoF F (pmP P, pmS P, pmL P, pmH P) P.1 (pmP P) (pmA P) (pmB P) ↔ pmS P = 0 := by
    unfold sDoF; rw [hk]; simp
  have b5 := (xr.f.2.2.2.2.2.1 b hb).1.1
  by_cases s0 : pmS P = 0
  · rw [decide_eq_true s0]
    refine zj_iload_n hG d_Prim_isDone2_152 rfl rfl ?_
    refine zj_if_eq (tgt := 161) hG d_Prim_isDone2_153 (by decide) (fun c => absurd c (by decide)) (fun _ => ?_)
    refine zj_aload_n hG d_Prim_isDone2_156 rfl rfl ?_
    refine zj_iconst (v := 1) hG d_Prim_isDone2_157 rfl ?_
    refine zj_putI hG d_Prim_isDone2_158 f_Prim_85 (by assumption) rfl rfl ?_
    refine zj_iload_n hG d_Prim_isDone2_161 rfl rfl ?_
    have zo : ∀ c, c ≠ b → zi (zsi h b 1 1) c = zi h c := fun c e => by funext j; exact zu_a e
    have z0 : zi (zsi h b 1 1) b 0 = zi h b 0 := zu_k (by decide)
    obtain ⟨y1, y2⟩ := cSc.set (h' := zsi h b 1 1) xr hb rfl rfl rfl zo z0
    refine zj_iret hG d_Prim_isDone2_162 rfl rfl ⟨_, rfl, true, rfl, ⟨fun _ => key.mpr s0, fun _ => rfl⟩, ⟨fun c hc hd => ?_, Nat.le_refl _, by show zn h ≤ zn h + 3; omega, Nat.le_refl _, by show zs h ≤ zs h + 12; omega⟩, fun e => (by cases e), fun _ => ⟨_, y1, List.Perm.of_eq ?_⟩⟩
    · have : c ≠ b := fun e => hd (by rw [e]; exact (xr.f.2.2.2.2.2.1 b hb).1.2.1)
      exact ⟨rfl, rfl, zo c this, rfl, rfl⟩
    · unfold sf
      rw [if_neg (by rw [hk]; decide), if_neg (by rw [hk]; decide), if_neg (by rw [hk]; decide), if_pos hk, ← hF]
      have ebp : zi h b 0 = pmP P := congrArg (fun f : tFd => f.1) hbf
      rw [ebp]
      apply List.map_congr_left
      intro f hf
      by_cases e : f.1 = pmP P
      · rw [if_pos e, if_pos e]
        have ef : f = fld h b := fd_eq hV.2.1 hf (by rw [hbf]; exact hm) (by rw [e, hbf])
        rw [ef]
        unfold fld
        simp [zi, zu]
      · rw [if_neg e, if_neg e]
  · rw [decide_eq_false s0]
    refine zj_iload_n hG d_Prim_isDone2_152 rfl rfl ?_
    refine zj_if_eq (tgt := 161) hG d_Prim_isDone2_153 (by decide) (fun _ => ?_) (fun c => absurd rfl c)
    refine zj_iload_n hG d_Prim_isDone2_161 rfl rfl ?_
    exact zj_iret hG d_Prim_isDone2_162 rfl rfl ⟨_, rfl, cTry.no xs (fun g => s0 (key.mp g))⟩
set_option maxRecDepth 4000 in
theorem k_iD_4 (hG : zOK G) (x : cTr h r a F P) (hk : P.1 = 4) {v2 : zV} {x3 : Int32} : zJ G 6 m_Prim_isDone2 163 [some (zA a), some (zA r), some v2, some (zI x3), none] [] h (fun o h' => ∃ v, o = zR v ∧ cTry r F P h (sDoF F (pmP P, pmS P, pmL P, pmH P) P.1 (pmP P) (pmA P) (pmB P)) v h') := by
  have x0 := x
  obtain ⟨xs, hV, ⟨p0, p1, p2, p3, p4, p5, p6, p7⟩, ⟨q0, qok⟩, hm⟩ := x
  have hr := xs.f.1
  have ep := pnat_eq q0
  have key : sDoF F (pmP P, pmS P, pmL P, pmH P) P.1 (pmP P) (pmA P) (pmB P) ↔ 2 ≤ cdp (pnat (pmP P)) ∧ ∀ g ∈ F, g.1 ≠ tbeh 4 (pmP P) (pmA P) := by
    unfold sDoF; rw [hk]; simp
  have no : ¬ sDoF F (pmP P, pmS P, pmL P, pmH P) P.1 (pmP P) (pmA P) (pmB P) → zJ G 6 m_Prim_isDone2 189 [some (zA a), some (zA r), some v2, some (zI x3), none] [] h (fun o h' => ∃ v, o = zR v ∧ cTry r F P h (sDoF F (pmP P, pmS P, pmL P, pmH P) P.1 (pmP P) (pmA P) (pmB P)) v h') := by
    intro g
    refine zj_iconst (v := 0) hG d_Prim_isDone2_189 rfl ?_
    refine zj_istore hG d_Prim_isDone2_190 (by decide) rfl rfl ?_
    refine zj_iload hG d_Prim_isDone2_192 rfl ?_
    refine zj_if_eq (tgt := 205) hG d_Prim_isDone2_194 (by decide) (fun _ => ?_) (fun c => absurd rfl c)
    refine zj_iload hG d_Prim_isDone2_205 rfl ?_
    exact zj_iret hG d_Prim_isDone2_207 rfl rfl ⟨_, rfl, cTry.no xs g⟩
  have c4 := qok.c.2.1
  refine zj_aload_n hG d_Prim_isDone2_163 rfl rfl ?_
  refine zj_getI hG d_Prim_isDone2_164 f_Prim_15 (by assumption) rfl ?_
  rw [p2, ep]
  refine zj_callR (y' := m_Paths_depth) hG (zcS (as := [_]) hG d_Prim_isDone2_167 c_Paths_depth (z_w3 207 rfl) (z_w2 96 rfl) (z_w1 16 rfl) ⟨by decide, by decide⟩ (show _ = some 1 from by decide +kernel) rfl) c_Paths_depth rfl (by omega) rfl (z_le rfl) (z_le rfl) (k_Paths_depth hG qok.1 _) ?_
  rw [← ep]
  refine zj_iconst (v := 1) hG d_Prim_isDone2_170 rfl ?_
  refine zj_icmp_le (tgt := 189) hG d_Prim_isDone2_171 (by decide) (fun c171 => ?_) (fun c171 => ?_)
  · refine no (fun g => ?_)
    exact nI_ge (a := 1) (b := cdp (pnat (pmP P))) (key.mp g).1 (by omega) c171
  have h2 : 2 ≤ cdp (pnat (pmP P)) := by
    rcases Nat.lt_or_ge (cdp (pnat (pmP P))) 2 with g | g
    · exact absurd (nI_le (a := cdp (pnat (pmP P))) (b := 1) (by omega) (by omega)) c171
    · exact g
  refine zj_aload_n hG d_Prim_isDone2_174 rfl rfl ?_
  refine zj_aload_n hG d_Prim_isDone2_175 rfl rfl ?_
  refine zj_callR (y' := m_Prim_to) hG (zcV (as := []) hG d_Prim_isDone2_176 c_Prim_to (z_w3 173 rfl) (z_w3 174 rfl) (z_w3 175 rfl) ⟨by decide, by decide⟩ p0 (by decide) (by decide) (show _ = some 0 from by decide +kernel) rfl) c_Prim_to rfl (by omega) rfl (z_le rfl) (z_le rfl) (k_Prim_to4 hG p0 (p1.trans hk) (p2.trans ep) qok h2 (pmA P)) ?_
  rw [← ep]
  refine zj_callA (y' := m_Rows_at) hG (zcU (as := [_]) (owner := "LensPaths$Rows") hG d_Prim_isDone2_179 c_Rows_at (z_w3 167 rfl) (z_w2 87 rfl) (z_w2 88 rfl) (z_w2 90 rfl) (z_w2 89 rfl) ⟨by decide, by decide⟩ hr (by decide) (by decide) (show _ = some 1 from by decide +kernel) rfl) c_Rows_at rfl (by omega) rfl (z_le rfl) (z_le rfl) (k_sc_at hG xs (tbeh 4 (pmP P) (pmA P))) (fun v179 h179 e179 => ?_)
  obtain ⟨q, rfl, rfl, hq⟩ := e179
  rcases hq with ⟨rfl, hno⟩ | ⟨a0, a5, af, ap⟩
  rotate_left
  · refine zj_ifnonnull (tgt := 189) hG d_Prim_isDone2_182 (by decide) (fun _ => ?_) (fun c => absurd c a0)
    exact no (fun g => (key.mp g).2 _ af ap)
  have yes := key.mpr ⟨h2, hno⟩
  have ht : tbeh 4 (pmP P) (pmA P) = nI (nlif (pnat (pmP P))) := by
    conv => lhs; rw [ep]
    exact tbeh_4 qok.1 qok.2.1 h2
  obtain ⟨r1, r2⟩ := nlif_ok qok h2
  have hO : sOk P F := x0.ok yes
  have hsf := (sf_V hV hO).1
  have esf : sf P F = F.map (fun f => (tmvp (nI (pnat (pmP P))) (nI (nlif (pnat (pmP P)))) f.1, f.2)) := by
    unfold sf
    rw [if_pos (Or.inr hk), hk, ht, ← ep]
  rw [esf] at hsf
  have he : ∀ f ∈ F, cif (pnat (pmP P)) (fun x => clif x (pnat (pmP P))) f.1 = tmvp (nI (pnat (pmP P))) (nI (nlif (pnat (pmP P)))) f.1 := fun f hf => cif_eq qok r1 (by omega) (fun y hy hi => clif_n hy.1 qok.1 h2 hi) (hV.1 f hf).1 (hV.1 f hf).2.1
  obtain ⟨m1, m2, m3⟩ := mv_hyp hsf he
  refine zj_ifnonnull (tgt := 189) hG d_Prim_isDone2_182 (by decide) (fun c => absurd rfl c) (fun _ => ?_)
  refine zj_iconst (v := 1) hG d_Prim_isDone2_185 rfl ?_
  refine zj_goto (tgt := 190) hG d_Prim_isDone2_186 (by decide) ?_
  refine zj_istore hG d_Prim_isDone2_190 (by decide) rfl rfl ?_
  refine zj_iload hG d_Prim_isDone2_192 rfl ?_
  refine zj_if_eq (tgt := 205) hG d_Prim_isDone2_194 (by decide) (fun c => absurd c (by decide)) (fun _ => ?_)
  refine zj_aload_n hG d_Prim_isDone2_197 rfl rfl ?_
  refine zj_aload_n hG d_Prim_isDone2_198 rfl rfl ?_
  refine zj_getI hG d_Prim_isDone2_199 f_Prim_15 (by assumption) rfl ?_
  rw [p2, ep]
  refine zj_callP (y' := m_Rows_lift) hG (zcU (as := [_]) (owner := "LensPaths$Rows") hG d_Prim_isDone2_202 c_Rows_lift (z_w3 208 rfl) (z_w3 209 rfl) (z_w3 210 rfl) (z_w3 212 rfl) (z_w3 211 rfl) ⟨by decide, by decide⟩ hr (by decide) (by decide) (show _ = some 1 from by decide +kernel) rfl) c_Rows_lift rfl (by omega) rfl (z_le rfl) (z_le rfl) (k_sc_lift hG xs qok.1 m1 m2) (fun h202 e202 => ?_)
  obtain ⟨F', y1, y2, y3⟩ := e202
  refine zj_iload hG d_Prim_isDone2_205 rfl ?_
  refine zj_iret hG d_Prim_isDone2_207 rfl rfl ⟨_, rfl, true, rfl, ⟨fun _ => by rw [← ep]; exact yes, fun _ => rfl⟩, y3.mono (by omega) (by omega), fun e => (by cases e), fun _ => ⟨F', y1, ?_⟩⟩
  rw [esf, ← m3]
  exact y2
end PR3
