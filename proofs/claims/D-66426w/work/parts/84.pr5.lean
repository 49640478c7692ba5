/-! PART 84: the component: what a primitive does to a schema (4) -/
section PR5
variable {G : zG} {h : zH} {r a : Nat} {F : List tFd} {P : tPm}
set_option maxRecDepth 4000 in
theorem k_iD_5 (hG : zOK G) (x : cTr h r a F P) (har : za h a 1000 ≠ r) (hk : P.1 = 5) {b : Nat} {rs : List Nat} (xr : cRr h 2 r rs) (hF : F = rs.map (fld h)) (hb : b ∈ rs) (hbf : fld h b = (pmP P, pmS P, pmL P, pmH P)) (hn : zn h + 5 ≤ g0 G + 603072) (hs : zs h + 20 ≤ 7211114) : zJ G 8 m_Prim_isDone2 208 [some (zA a), some (zA r), some (zA b), some (zI (tb (decide (pmS P = 0)))), none] [] h (fun o h' => ∃ v, o = zR v ∧ cTry r F P h (sDoF F (pmP P, pmS P, pmL P, pmH P) P.1 (pmP P) (pmA P) (pmB P)) v h') := by
  have x0 := x
  obtain ⟨xs, hV, ⟨p0, p1, p2, p3, p4, p5, p6, p7⟩, ⟨q0, qok⟩, hm⟩ := x
  have hr := xs.f.1
  have b5 := (xr.f.2.2.2.2.2.1 b hb).1.1
  have ab : a ≠ b := fun e => by rw [e, b5] at p0; cases p0
  have ep := pnat_eq q0
  have key : sDoF F (pmP P, pmS P, pmL P, pmH P) P.1 (pmP P) (pmA P) (pmB P) ↔ pmS P = 0 ∧ (2 ≤ pmA P ∧ pmA P ≤ 1000) ∧ (0 ≤ pmB P ∧ pmB P ≤ 99) ∧ (∀ g ∈ F, g.1 ≠ tbes (pmP P) (pmB P)) ∧ F.length < 24 := by
    unfold sDoF; rw [hk]; simp
  have no : ¬ sDoF F (pmP P, pmS P, pmL P, pmH P) P.1 (pmP P) (pmA P) (pmB P) → zJ G 8 m_Prim_isDone2 261 [some (zA a), some (zA r), some (zA b), some (zI (tb (decide (pmS P = 0)))), none] [] h (fun o h' => ∃ v, o = zR v ∧ cTry r F P h (sDoF F (pmP P, pmS P, pmL P, pmH P) P.1 (pmP P) (pmA P) (pmB P)) v h') := by
    intro g
    refine zj_iconst (v := 0) hG d_Prim_isDone2_261 rfl ?_
    refine zj_istore hG d_Prim_isDone2_262 (by decide) rfl rfl ?_
    refine zj_iload hG d_Prim_isDone2_264 rfl ?_
    refine zj_if_eq (tgt := 315) hG d_Prim_isDone2_266 (by decide) (fun _ => ?_) (fun c => absurd rfl c)
    refine zj_iload hG d_Prim_isDone2_315 rfl ?_
    exact zj_iret hG d_Prim_isDone2_317 rfl rfl ⟨_, rfl, cTry.no xs g⟩
  refine zj_iload_n hG d_Prim_isDone2_208 rfl rfl ?_
  by_cases s0 : pmS P = 0
  rotate_left
  · refine zj_if_eq (tgt := 261) hG d_Prim_isDone2_209 (by decide) (fun _ => ?_) (fun c => absurd (by rw [decide_eq_false s0]; rfl) c)
    exact no (fun g => s0 (key.mp g).1)
  refine zj_if_eq (tgt := 261) hG d_Prim_isDone2_209 (by decide) (fun c => absurd c (by rw [decide_eq_true s0]; decide)) (fun _ => ?_)
  refine zj_aload_n hG d_Prim_isDone2_212 rfl rfl ?_
  refine zj_getI hG d_Prim_isDone2_213 f_Prim_18 (by assumption) rfl ?_
  refine zj_iconst (v := 2) hG d_Prim_isDone2_216 rfl ?_
  rw [p3]
  refine zj_icmp_lt (tgt := 261) hG d_Prim_isDone2_217 (by decide) (fun c1 => ?_) (fun c1 => ?_)
  · exact no (fun g => absurd (key.mp g).2.1.1 (Int32.not_le.mpr c1))
  refine zj_aload_n hG d_Prim_isDone2_220 rfl rfl ?_
  refine zj_getI hG d_Prim_isDone2_221 f_Prim_18 (by assumption) rfl ?_
  refine zj_sipush (v := 1000) hG d_Prim_isDone2_224 rfl ?_
  rw [p3]
  refine zj_icmp_gt (tgt := 261) hG d_Prim_isDone2_227 (by decide) (fun c2 => ?_) (fun c2 => ?_)
  · exact no (fun g => absurd (key.mp g).2.1.2 (Int32.not_le.mpr c2))
  refine zj_aload_n hG d_Prim_isDone2_230 rfl rfl ?_
  refine zj_getI hG d_Prim_isDone2_231 f_Prim_35 (by assumption) rfl ?_
  rw [p4]
  refine zj_if_lt (tgt := 261) hG d_Prim_isDone2_234 (by decide) (fun c3 => ?_) (fun c3 => ?_)
  · exact no (fun g => absurd (key.mp g).2.2.1.1 (Int32.not_le.mpr c3))
  refine zj_aload_n hG d_Prim_isDone2_237 rfl rfl ?_
  refine zj_getI hG d_Prim_isDone2_238 f_Prim_35 (by assumption) rfl ?_
  refine zj_bipush (v := 100) hG d_Prim_isDone2_241 rfl ?_
  rw [p4]
  refine zj_icmp_ge (tgt := 261) hG d_Prim_isDone2_243 (by decide) (fun c4 => ?_) (fun c4 => ?_)
  · exact no (fun g => absurd (a99.mp (key.mp g).2.2.1).2 (Int32.not_lt.mpr c4))
  have hb9 := a99.mpr ⟨Int32.not_lt.mp c3, Int32.not_le.mp c4⟩
  obtain ⟨n, en, hn9⟩ := i_n hb9.1 hb9.2
  obtain ⟨r1, r2⟩ := nren_ok qok hn9
  have ht : tbes (pmP P) (pmB P) = nI (nren (pnat (pmP P)) n) := by
    rw [en]
    conv => lhs; rw [ep]
    exact tbes_n qok.1 qok.2.1 qok.2.2 hn9
  have t0 : 0 ≤ tbes (pmP P) (pmB P) := by rw [ht]; exact nI_pos' (by have := r1.1; omega)
  have tp : pnat (tbes (pmP P) (pmB P)) = nren (pnat (pmP P)) n := by rw [ht]; exact pnat_n (by have := r1.1; omega)
  have hfree : cfree F (tbes (pmP P) (pmB P)) ↔ (∀ g ∈ F, g.1 ≠ tbes (pmP P) (pmB P)) ∧ F.length < 24 := by
    constructor
    · intro g; exact ⟨g.2.1, g.2.2.1⟩
    · intro g
      refine ⟨cright_nok.mpr ⟨t0, by rw [tp]; exact r1⟩, g.1, g.2, ?_⟩
      rw [tp]
      unfold fpar
      rw [npar_ren qok hn9]
      exact hV.2.2.2 _ hm
  refine zj_aload_n hG d_Prim_isDone2_246 rfl rfl ?_
  refine zj_aload_n hG d_Prim_isDone2_247 rfl rfl ?_
  refine zj_callR (y' := m_Prim_beside) hG (zcV (as := []) hG d_Prim_isDone2_248 c_Prim_beside (z_w3 215 rfl) (z_w3 216 rfl) (z_w3 217 rfl) ⟨by decide, by decide⟩ p0 (by decide) (by decide) (show _ = some 0 from by decide +kernel) rfl) c_Prim_beside rfl (by omega) rfl (z_le rfl) (z_le rfl) (k_Prim_beside hG p0 (p2.trans ep) qok (p4.trans en) hn9) ?_
  rw [← ep, ← en]
  refine zj_callA (y' := m_Schema_isFree) hG (zcV (as := [_]) hG d_Prim_isDone2_251 c_Schema_isFree (z_w3 165 rfl) (z_w2 80 rfl) (z_w2 81 rfl) ⟨by decide, by decide⟩ hr (by decide) (by decide) (show _ = some 1 from by decide +kernel) rfl) c_Schema_isFree rfl (by omega) rfl (z_le rfl) (z_le rfl) (k_Schema_isFree hG xs (tbes (pmP P) (pmB P))) (fun v251 h251 e251 => ?_)
  obtain ⟨w, rfl, rfl, hw⟩ := e251
  rw [hfree] at hw
  rcases w with _ | _
  · refine zj_if_eq (tgt := 261) hG d_Prim_isDone2_254 (by decide) (fun _ => ?_) (fun c => absurd rfl c)
    exact no (fun g => by have := hw.mpr ⟨(key.mp g).2.2.2.1, (key.mp g).2.2.2.2⟩; cases this)
  refine zj_if_eq (tgt := 261) hG d_Prim_isDone2_254 (by decide) (fun c => absurd c (by decide)) (fun _ => ?_)
  obtain ⟨hno, hl24⟩ := hw.mp rfl
  have yes := key.mpr ⟨s0, ⟨i_nlt c1, i_nlt c2⟩, hb9, hno, hl24⟩
  have ha1 : 1 ≤ pmA P := i_1 (i_nlt c1)
  have han : ¬ pmA P = 0 := ne0_1 ha1
  refine zj_iconst (v := 1) hG d_Prim_isDone2_257 rfl ?_
  refine zj_goto (tgt := 262) hG d_Prim_isDone2_258 (by decide) ?_
  refine zj_istore hG d_Prim_isDone2_262 (by decide) rfl rfl ?_
  refine zj_iload hG d_Prim_isDone2_264 rfl ?_
  refine zj_if_eq (tgt := 315) hG d_Prim_isDone2_266 (by decide) (fun c => absurd c (by decide)) (fun _ => ?_)
  refine zj_aload_n hG d_Prim_isDone2_269 rfl rfl ?_
  refine zj_aload_n hG d_Prim_isDone2_270 rfl rfl ?_
  refine zj_getI hG d_Prim_isDone2_271 f_Prim_41 (by assumption) rfl ?_
  refine zj_aload_n hG d_Prim_isDone2_274 rfl rfl ?_
  refine zj_getI hG d_Prim_isDone2_275 f_Prim_18 (by assumption) rfl ?_
  rw [p6, p3]
  refine zj_callR (y' := m_Math_floorDivI) hG (zcS (as := [_, _]) hG d_Prim_isDone2_278 c_Math_floorDivI (z_w3 223 rfl) (z_w3 224 rfl) (z_w1 26 rfl) ⟨by decide, by decide⟩ (show _ = some 2 from by decide +kernel) rfl) c_Math_floorDivI rfl (by omega) rfl (z_le rfl) (z_le rfl) (k_Math_floorDivI hG _ _ han _) ?_
  rw [tqo_cflI _ (i32_pos ha1)]
  refine zj_putI hG d_Prim_isDone2_281 f_Prim_89 (by assumption) rfl rfl ?_
  refine zj_aload_n hG d_Prim_isDone2_284 rfl rfl ?_
  refine zj_aload_n hG d_Prim_isDone2_285 rfl rfl ?_
  have zo : ∀ q : Int32, zi (zsi h251 b 2 q) a = zi h251 a := fun q => by funext j; exact zu_a ab
  refine zj_getI hG d_Prim_isDone2_286 f_Prim_44 p0 rfl ?_
  rw [zo, p7]
  refine zj_aload_n hG d_Prim_isDone2_289 rfl rfl ?_
  refine zj_getI hG d_Prim_isDone2_290 f_Prim_18 p0 rfl ?_
  rw [zo, p3]
  refine zj_callR (y' := m_Math_floorDivI) hG (zcS (as := [_, _]) hG d_Prim_isDone2_293 c_Math_floorDivI (z_w3 223 rfl) (z_w3 224 rfl) (z_w1 26 rfl) ⟨by decide, by decide⟩ (show _ = some 2 from by decide +kernel) rfl) c_Math_floorDivI rfl (by omega) rfl (z_le rfl) (z_le rfl) (k_Math_floorDivI hG _ _ han _) ?_
  rw [tqo_cflI _ (i32_pos ha1)]
  refine zj_putI hG d_Prim_isDone2_296 f_Prim_90 (by assumption) rfl rfl ?_
  refine zj_aload_n hG d_Prim_isDone2_299 rfl rfl ?_
  refine zj_aload_n hG d_Prim_isDone2_300 rfl rfl ?_
  subst hF
  have bset := sc_bnd xr hV hb (tqo (pmL P) (pmA P)) (tqo (pmH P) (pmA P))
  obtain ⟨y1, y2, y3⟩ := bset
  have zo2 : zi (zsi (zsi h251 b 2 (tqo (pmL P) (pmA P))) b 3 (tqo (pmH P) (pmA P))) a = zi h251 a := by funext j; simp [zi, zu, ab]
  refine zj_callR (y' := m_Prim_beside) hG (zcV (as := []) hG d_Prim_isDone2_301 c_Prim_beside (z_w3 215 rfl) (z_w3 216 rfl) (z_w3 217 rfl) ⟨by decide, by decide⟩ p0 (by decide) (by decide) (show _ = some 0 from by decide +kernel) rfl) c_Prim_beside rfl (by omega) rfl (z_le rfl) (z_le rfl) (k_Prim_beside (h := zsi (zsi h251 b 2 (tqo (pmL P) (pmA P))) b 3 (tqo (pmH P) (pmA P))) hG p0 (by rw [zo2]; exact p2.trans ep) qok (by rw [zo2]; exact p4.trans en) hn9) ?_
  rw [← ep, ← en]
  refine zj_iconst (v := 0) hG d_Prim_isDone2_304 rfl ?_
  refine zj_iconst (v := 0) hG d_Prim_isDone2_305 rfl ?_
  refine zj_aload_n hG d_Prim_isDone2_306 rfl rfl ?_
  refine zj_getI hG d_Prim_isDone2_307 f_Prim_18 (by assumption) rfl ?_
  refine zj_iconst (v := 1) hG d_Prim_isDone2_310 rfl ?_
  refine zj_isub hG d_Prim_isDone2_311 ?_
  rw [zo2, p3]
  have ebp : zi h251 b 0 = pmP P := congrArg (fun f : tFd => f.1) hbf
  rw [ebp] at y1
  refine zj_callP (y' := m_Schema_add) hG (zcV (as := [_, _, _, _]) hG d_Prim_isDone2_312 c_Schema_add (z_w3 166 rfl) (z_w2 126 rfl) (z_w2 127 rfl) ⟨by decide, by decide⟩ hr (by decide) (by decide) (show _ = some 4 from by decide +kernel) rfl) c_Schema_add rfl (by omega) rfl (z_le rfl) (z_le rfl) (k_Schema_add hG y1 (by simp at hl24 ⊢; omega) ⟨t0, by rw [tp]; exact r1.1⟩ (fun f hf => ?no2) 0 0 (pmA P - 1) hn hs) (fun h312 e312 => ?_)
  case no2 =>
    obtain ⟨g, hg, rfl⟩ := List.mem_map.mp hf
    split
    · exact hno g hg
    · exact hno g hg
  obtain ⟨F', w1, w2, w3⟩ := e312
  simp only [show ¬ (0 : Int32) = 2 by decide, if_false] at w2
  refine zj_iload hG d_Prim_isDone2_315 rfl ?_
  have g1 : cGr r h251 (zsi (zsi h251 b 2 (tqo (pmL P) (pmA P))) b 3 (tqo (pmH P) (pmA P))) 0 0 := ⟨y3, Nat.le_refl _, Nat.le_refl _, Nat.le_refl _, Nat.le_refl _⟩
  refine zj_iret hG d_Prim_isDone2_317 rfl rfl ⟨_, rfl, true, rfl, ⟨fun _ => yes, fun _ => rfl⟩, (g1.trans w3).mono (by omega) (by omega), fun e => (by cases e), fun _ => ⟨F', w1, w2.trans ?_⟩⟩
  unfold sf
  have e7 : ∀ n : Int32, n ≠ 5 → ¬ P.1 = n := fun n h e => h (by rw [← e, hk])
  rw [if_neg (by rintro (e | e); exact e7 0 (by decide) e; exact e7 4 (by decide) e), if_neg (e7 1 (by decide)), if_neg (e7 2 (by decide)), if_neg (e7 3 (by decide)), if_pos hk]
  refine (List.perm_append_singleton _ _).symm.trans (List.Perm.of_eq ?_)
  congr 1
  apply List.map_congr_left
  intro f hf
  by_cases e : f.1 = pmP P
  · rw [if_pos e, if_pos e]
    have ef : f = (pmP P, pmS P, pmL P, pmH P) := fd_eq hV.2.1 hf hm e
    rw [ef]
  · rw [if_neg e, if_neg e]
set_option maxRecDepth 4000 in
theorem k_Prim_isDone2 (hG : zOK G) (x : cTr h r a F P) (har : za h a 1000 ≠ r) (hk : 0 ≤ P.1 ∧ P.1 ≤ 8) (hk1 : ¬ P.1 = 1) {b : Nat} {rs : List Nat} (xr : cRr h 2 r rs) (hF : F = rs.map (fld h)) (hb : b ∈ rs) (hbf : fld h b = (pmP P, pmS P, pmL P, pmH P)) (hn : zn h + 5 ≤ g0 G + 603072) (hs : zs h + 20 ≤ 7211114) :
    zJ G 8 m_Prim_isDone2 0 [some (zA a), some (zA r), some (zA b), none, none] [] h (fun o h' => ∃ v, o = zR v ∧ cTry r F P h (sDoF F (pmP P, pmS P, pmL P, pmH P) P.1 (pmP P) (pmA P) (pmB P)) v h') := by
  have p0 := x.2.2.1.1
  have p1 := x.2.2.1.2.1
  have p5 := x.2.2.1.2.2.2.2.2.1
  have main : zJ G 8 m_Prim_isDone2 13 [some (zA a), some (zA r), some (zA b), some (zI (tb (decide (pmS P = 0)))), none] [] h (fun o h' => ∃ v, o = zR v ∧ cTry r F P h (sDoF F (pmP P, pmS P, pmL P, pmH P) P.1 (pmP P) (pmA P) (pmB P)) v h') := by
    refine zj_aload_n hG d_Prim_isDone2_13 rfl rfl ?_
    refine zj_getI hG d_Prim_isDone2_14 f_Prim_9 (by assumption) rfl ?_
    rw [p1]
    rcases k_rng hk with e | e | e | e | e | e | e | e | e <;> rw [e]
    · refine zj_tableIn (tgt := 64) hG d_Prim_isDone2_17 (by decide) (by decide) rfl (by decide) ?_
      rw [← e]
      exact (k_iD_0 hG x e).more (by omega)
    · exact absurd e hk1
    · refine zj_tableIn (tgt := 118) hG d_Prim_isDone2_17 (by decide) (by decide) rfl (by decide) ?_
      rw [← e]
      exact (k_iD_2 hG x e).more (by omega)
    · refine zj_tableIn (tgt := 152) hG d_Prim_isDone2_17 (by decide) (by decide) rfl (by decide) ?_
      rw [← e]
      exact (k_iD_3 hG x e xr hF hb hbf).more (by omega)
    · refine zj_tableIn (tgt := 163) hG d_Prim_isDone2_17 (by decide) (by decide) rfl (by decide) ?_
      rw [← e]
      exact (k_iD_4 hG x e).more (by omega)
    · refine zj_tableIn (tgt := 208) hG d_Prim_isDone2_17 (by decide) (by decide) rfl (by decide) ?_
      rw [← e]
      exact k_iD_5 hG x har e xr hF hb hbf hn hs
    · refine zj_tableIn (tgt := 318) hG d_Prim_isDone2_17 (by decide) (by decide) rfl (by decide) ?_
      rw [← e]
      exact (k_iD_6 hG x har e xr hF hb hbf).more (by omega)
    · refine zj_tableIn (tgt := 419) hG d_Prim_isDone2_17 (by decide) (by decide) rfl (by decide) ?_
      rw [← e]
      exact (k_iD_7 hG x e).more (by omega)
    · refine zj_tableOut (tgt := 484) hG d_Prim_isDone2_17 (Or.inr (by decide)) (by decide) ?_
      rw [← e]
      exact (k_iD_8 hG x e).more (by omega)
  refine zj_aload_n hG d_Prim_isDone2_0 rfl rfl ?_
  refine zj_getI hG d_Prim_isDone2_1 f_Prim_88 (by assumption) rfl ?_
  rw [p5]
  refine zj_if_ne (tgt := 11) hG d_Prim_isDone2_4 (by decide) (fun c4 => ?_) (fun c4 => ?_)
  · refine zj_iconst (v := 0) hG d_Prim_isDone2_11 rfl ?_
    refine zj_istore_n hG d_Prim_isDone2_12 rfl (by decide) rfl rfl ?_
    rw [decide_eq_false c4] at main
    exact main
  · refine zj_iconst (v := 1) hG d_Prim_isDone2_7 rfl ?_
    refine zj_goto (tgt := 12) hG d_Prim_isDone2_8 (by decide) ?_
    refine zj_istore_n hG d_Prim_isDone2_12 rfl (by decide) rfl rfl ?_
    rw [decide_eq_true c4] at main
    exact main
end PR5
