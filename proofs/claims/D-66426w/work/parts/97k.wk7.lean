/-! PART 97k: the component: what a walker does to a card (one primitive: wrap, part, turn) -/
section WK7
variable {G : zG} {h : zH} {c r w q : Nat} {fl : Nat → Bool} {K : Nat → tK} {P : List pE} {p : tPm}
set_option maxRecDepth 4000 in
theorem k_one_wrap (hG : zOK G) (x : cCd h c r fl P K) (wk : cWk h w c r q p) (hk : p.1 = 3) {s : Nat} (hs : s < 128) (hfl : fl s = true) (hlh : pmL p ≤ pmH p) (bk : Bool) {l : List Int32} (hin : (pmP p, bk, l) ∈ P) (hl : bk = false → ∃ v, l = [v]) (hn : zn h + 6 ≤ g0 G + 603072) (hsl : zs h + 28 ≤ 7211114) :
    zJ G 9 m_Walker_one 0 [some (zA w), some (zA r), some (zA q), some (zI (nI s)), some (zI (tb bk))] [] h (fun o h' => o = zR0 ∧ ∃ P', cCd h' c r fl P' (zw K s (if bk = true then cUwK l else tK0)) ∧ P'.Perm (P.map (fun e => if e.1 = pmP p then (e.1, !bk, if bk = true then cUwL l (pmL p) (pmH p) else cWr (K s) (l.headD 0) (pmL p) (pmH p)) else e)) ∧ cGw c r h h' 5 24) := by
  refine one_to151 hG wk (by rw [hk]; decide) (by rw [hk]; decide) (by rw [hk]; decide) (by rw [hk]; decide) ?_
  obtain ⟨w1, w2, w3, w4, w5, w6, w7⟩ := wk
  have hq := w5.1
  obtain ⟨es, rs, x1, bd, km, xr, eP, hw, rc⟩ := x.rs
  have r3 := xr.f.2.1
  have c9 := bd.1
  refine zj_aload_n hG d_Walker_one_151 rfl rfl ?_
  refine zj_getI hG d_Walker_one_152 f_Walker_35 (by assumption) rfl ?_
  refine zj_iconst (v := 3) hG d_Walker_one_155 rfl ?_
  rw [w5.2.1]
  refine zj_icmp_ne (tgt := 183) hG d_Walker_one_156 (by decide) (fun c => absurd hk c) (fun _ => ?_)
  refine zj_aload_n hG d_Walker_one_159 rfl rfl ?_
  refine zj_getA hG d_Walker_one_160 f_Walker_9 (by assumption) rfl ?_
  refine zj_aload_n hG d_Walker_one_163 rfl rfl ?_
  refine zj_aload_n hG d_Walker_one_164 rfl rfl ?_
  refine zj_getI hG d_Walker_one_165 f_Walker_44 (by assumption) rfl ?_
  rw [w2, w5.2.2.1]
  refine zj_callA (y' := m_Rows_at) hG (zcU (as := [_]) (owner := "LensPaths$Rows") hG d_Walker_one_168 c_Rows_at (z_w5 123 rfl) (z_w8 78 rfl) (z_w2 88 rfl) (z_w2 90 rfl) (z_w8 79 rfl) ⟨by decide, by decide⟩ r3 (by decide) (by decide) (show _ = some 1 from by decide +kernel) rfl) c_Rows_at rfl (by omega) rfl (z_le rfl) (z_le rfl) (k_r_at hG xr (pmP p)) (fun v168 h168 e168 => ?_)
  obtain ⟨a, rfl, rfl, ha⟩ := e168
  rw [eP] at hin
  obtain ⟨am, ap, pa⟩ := row_of xr hw hin ha
  have lh : zi h168 q 5 ≤ zi h168 q 6 := by rw [w5.2.2.2.2.2.2.1, w5.2.2.2.2.2.2.2]; exact hlh
  have oa := row_oth xr am rc
  refine zj_aload_n hG d_Walker_one_171 rfl rfl ?_
  refine zj_iload_n hG d_Walker_one_172 rfl rfl ?_
  refine zj_iload hG d_Walker_one_173 rfl ?_
  -- the end
  have fin : ∀ (h' : zH) (es' : List Nat) (K' : Nat → tK) (b : Bool) (l' : List Int32) (n sl : Nat), n ≤ 5 → sl ≤ 24 → cBd h' c es' → cKm h' c es' fl K' → pls h' a b l' → cOp c a h168 h' n sl → cCc c h168 h' → ∃ P', cCd h' c r fl P' K' ∧ P'.Perm (P.map (fun e => if e.1 = pmP p then (e.1, b, l') else e)) ∧ cGw c r h168 h' 5 24 := by
    intro h' es' K' b l' n sl hn1 hs1 bd' km' pa' op cc
    obtain ⟨x4, gw⟩ := cCd.op x1 c9 bd.2.1 xr hw am cc op bd' km' pa'
    rw [ap, ← eP] at x4
    exact ⟨_, x4, List.Perm.refl _, gw.mono hn1 hs1⟩
  cases bk with
  | true =>
    refine zj_callP (y' := m_Alg_wrapped) hG (zcF (as := [_, _, _, _]) (k := 9) hG d_Walker_one_175 c_Alg_wrapped (z_w5 153 rfl) (z_w5 155 rfl) (z_w5 154 rfl) (z_w5 158 rfl) (z_w5 156 rfl) (z_w5 76 rfl) (z_w5 157 rfl) (z_selD hG (by decide +kernel) ⟨by decide, by decide⟩) ⟨by decide, by decide⟩ c9 (by decide) (by decide) (show _ = some 4 from by decide +kernel) rfl) c_Alg_wrapped rfl (by omega) rfl (z_le rfl) (z_le rfl) (br_Card_wrapped hG c9 pa.1 true void_Q (fun _ => k_Card_unwrap1 hG bd km hs hfl pa oa hq w6 lh hn hsl) (fun e => by cases e)) (fun h175 e175 => ?_)
    obtain ⟨es', bd', km', pa', op, cc⟩ := e175
    rw [w5.2.2.2.2.2.2.1, w5.2.2.2.2.2.2.2] at pa'
    refine zj_goto (tgt := 223) hG d_Walker_one_180 (by decide) ?_
    exact zj_vret hG d_Walker_one_223 rfl ⟨rfl, fin _ _ _ _ _ _ _ (by omega) (by omega) bd' km' pa' op cc⟩
  | false =>
    obtain ⟨v, rfl⟩ := hl rfl
    refine zj_callP (y' := m_Alg_wrapped) hG (zcF (as := [_, _, _, _]) (k := 9) hG d_Walker_one_175 c_Alg_wrapped (z_w5 153 rfl) (z_w5 155 rfl) (z_w5 154 rfl) (z_w5 158 rfl) (z_w5 156 rfl) (z_w5 76 rfl) (z_w5 157 rfl) (z_selD hG (by decide +kernel) ⟨by decide, by decide⟩) ⟨by decide, by decide⟩ c9 (by decide) (by decide) (show _ = some 4 from by decide +kernel) rfl) c_Alg_wrapped rfl (by omega) rfl (z_le rfl) (z_le rfl) (br_Card_wrapped hG c9 pa.1 false (d := 5) void_Q (fun e => by cases e) (fun _ => (k_Card_wrap1 hG bd km hs hfl pa oa hq w6 lh).more (by omega))) (fun h175 e175 => ?_)
    obtain ⟨es', bd', km', pa', op, cc⟩ := e175
    rw [w5.2.2.2.2.2.2.1, w5.2.2.2.2.2.2.2] at pa'
    refine zj_goto (tgt := 223) hG d_Walker_one_180 (by decide) ?_
    exact zj_vret hG d_Walker_one_223 rfl ⟨rfl, fin _ _ _ _ _ _ _ (by omega) (by omega) bd' km' pa' op cc⟩
set_option maxRecDepth 4000 in
theorem k_one_turn (hG : zOK G) (x : cCd h c r fl P K) (wk : cWk h w c r q p) (hk : p.1 = 6 ∨ p.1 = 7 ∨ p.1 = 8) {s : Nat} (hs : s < 128) (hkd : (K s).1 = 0 ∨ (K s).1 = 2 ∨ (K s).1 = 3) (h6 : p.1 = 6 → 1 ≤ pmA p ∧ 1 ≤ pmB p ∧ pmL p ≤ pmH p) (bk : Bool) {l : List Int32} (hin : (pmP p, fl s, l) ∈ P) (hl : p.1 = 6 ∨ p.1 = 7 → ∃ v, l = [v]) (hn : zn h + 6 ≤ g0 G + 603072) (hsl : zs h + 28 ≤ 7211114) :
    zJ G 9 m_Walker_one 0 [some (zA w), some (zA r), some (zA q), some (zI (nI s)), some (zI (tb bk))] [] h (fun o h' => o = zR0 ∧ ∃ P', cCd h' c r fl P' (zw K s (tchK l (K s) p.1 (pmA p) (pmB p) (!bk) (pmL p) (pmH p))) ∧ P'.Perm (P.map (fun e => if e.1 = pmP p then (e.1, fl s, tchR l (K s) p.1 (pmA p) (pmB p) (!bk) (pmL p) (pmH p)) else e)) ∧ cGw c r h h' 5 24) := by
  have ne : ∀ n : Int32, n ≠ 6 → n ≠ 7 → n ≠ 8 → p.1 ≠ n := fun n a b d e => by
    rcases hk with g | g | g
    · exact a (e.symm.trans g)
    · exact b (e.symm.trans g)
    · exact d (e.symm.trans g)
  refine one_to151 hG wk (ne 0 (by decide) (by decide) (by decide)) (ne 4 (by decide) (by decide) (by decide)) (ne 1 (by decide) (by decide) (by decide)) (ne 2 (by decide) (by decide) (by decide)) ?_
  obtain ⟨w1, w2, w3, w4, w5, w6, w7⟩ := wk
  have hq := w5.1
  obtain ⟨es, rs, x1, bd, km, xr, eP, hw, rc⟩ := x.rs
  have r3 := xr.f.2.1
  have c9 := bd.1
  refine zj_aload_n hG d_Walker_one_151 rfl rfl ?_
  refine zj_getI hG d_Walker_one_152 f_Walker_35 (by assumption) rfl ?_
  refine zj_iconst (v := 3) hG d_Walker_one_155 rfl ?_
  rw [w5.2.1]
  refine zj_icmp_ne (tgt := 183) hG d_Walker_one_156 (by decide) (fun _ => ?_) (fun c => absurd c (ne 3 (by decide) (by decide) (by decide)))
  refine zj_aload_n hG d_Walker_one_183 rfl rfl ?_
  refine zj_getI hG d_Walker_one_184 f_Walker_35 (by assumption) rfl ?_
  refine zj_iconst (v := 5) hG d_Walker_one_187 rfl ?_
  rw [w5.2.1]
  refine zj_icmp_ne (tgt := 202) hG d_Walker_one_188 (by decide) (fun _ => ?_) (fun c => absurd c (ne 5 (by decide) (by decide) (by decide)))
  refine zj_aload_n hG d_Walker_one_202 rfl rfl ?_
  refine zj_getA hG d_Walker_one_203 f_Walker_9 (by assumption) rfl ?_
  refine zj_aload_n hG d_Walker_one_206 rfl rfl ?_
  refine zj_aload_n hG d_Walker_one_207 rfl rfl ?_
  refine zj_getI hG d_Walker_one_208 f_Walker_44 (by assumption) rfl ?_
  rw [w2, w5.2.2.1]
  refine zj_callA (y' := m_Rows_at) hG (zcU (as := [_]) (owner := "LensPaths$Rows") hG d_Walker_one_211 c_Rows_at (z_w5 123 rfl) (z_w8 78 rfl) (z_w2 88 rfl) (z_w2 90 rfl) (z_w8 79 rfl) ⟨by decide, by decide⟩ r3 (by decide) (by decide) (show _ = some 1 from by decide +kernel) rfl) c_Rows_at rfl (by omega) rfl (z_le rfl) (z_le rfl) (k_r_at hG xr (pmP p)) (fun v211 h211 e211 => ?_)
  obtain ⟨a, rfl, rfl, ha⟩ := e211
  rw [eP] at hin
  obtain ⟨am, ap, pa⟩ := row_of xr hw hin ha
  have oa := row_oth xr am rc
  refine zj_aload_n hG d_Walker_one_214 rfl rfl ?_
  refine zj_iload_n hG d_Walker_one_215 rfl rfl ?_
  refine zj_iload hG d_Walker_one_216 rfl ?_
  refine zj_callP (y' := m_Card_turned2) hG (zcF (as := [_, _, _, _]) (k := 9) hG d_Walker_one_218 c_Card_turned2 (z_w6 24 rfl) (z_w6 26 rfl) (z_w6 25 rfl) (z_w6 30 rfl) (z_w6 28 rfl) (z_w5 76 rfl) (z_w6 29 rfl) (z_sel hG (z_w6 27 rfl)) ⟨by decide, by decide⟩ c9 (by decide) (by decide) (show _ = some 4 from by decide +kernel) rfl) c_Card_turned2 rfl (by omega) rfl (z_le rfl) (z_le rfl) (br_Card_turned hG c9 pa.1 void_Q (k_Card_turned1 hG bd km hs hkd pa oa hq w6 (by rw [w5.2.1]; exact hk) (by rw [w5.2.1, w5.2.2.2.1, w5.2.2.2.2.1, w5.2.2.2.2.2.2.1, w5.2.2.2.2.2.2.2]; exact h6) (by rw [w5.2.1]; exact hl) bk hn hsl)) (fun h218 e218 => ?_)
  obtain ⟨es', bd', km', pa', op, cc⟩ := e218
  rw [w5.2.1, w5.2.2.2.1, w5.2.2.2.2.1, w5.2.2.2.2.2.2.1, w5.2.2.2.2.2.2.2] at pa' km'
  obtain ⟨x4, gw⟩ := cCd.op x1 c9 bd.2.1 xr hw am cc op bd' km' pa'
  rw [ap, ← eP] at x4
  exact zj_vret hG d_Walker_one_223 rfl ⟨rfl, _, x4, List.Perm.refl _, gw⟩
set_option maxRecDepth 4000 in
theorem k_one_part (hG : zOK G) (wk : cWk h w c r q p) (hk : p.1 = 5) {s : Int32} (bk : Bool) {Q : zO → zH → Prop} (hQ : ∀ o h', Q o h' → o = zR0 ∨ ∃ x y, o = zX x y) (kc : zJ G 10 m_Walker_part 0 [some (zA w), some (zA r), some (zA q), some (zI (tb bk))] [] h Q) : zJ G 11 m_Walker_one 0 [some (zA w), some (zA r), some (zA q), some (zI s), some (zI (tb bk))] [] h Q := by
  refine one_to151 hG wk (by rw [hk]; decide) (by rw [hk]; decide) (by rw [hk]; decide) (by rw [hk]; decide) ?_
  obtain ⟨w1, w2, w3, w4, w5, w6, w7⟩ := wk
  have hq := w5.1
  refine zj_aload_n hG d_Walker_one_151 rfl rfl ?_
  refine zj_getI hG d_Walker_one_152 f_Walker_35 (by assumption) rfl ?_
  refine zj_iconst (v := 3) hG d_Walker_one_155 rfl ?_
  rw [w5.2.1]
  refine zj_icmp_ne (tgt := 183) hG d_Walker_one_156 (by decide) (fun _ => ?_) (fun c => absurd c (by rw [hk]; decide))
  refine zj_aload_n hG d_Walker_one_183 rfl rfl ?_
  refine zj_getI hG d_Walker_one_184 f_Walker_35 (by assumption) rfl ?_
  refine zj_iconst (v := 5) hG d_Walker_one_187 rfl ?_
  rw [w5.2.1]
  refine zj_icmp_ne (tgt := 202) hG d_Walker_one_188 (by decide) (fun c => absurd hk c) (fun _ => ?_)
  refine zj_aload_n hG d_Walker_one_191 rfl rfl ?_
  refine zj_aload_n hG d_Walker_one_192 rfl rfl ?_
  refine zj_aload_n hG d_Walker_one_193 rfl rfl ?_
  refine zj_iload hG d_Walker_one_194 rfl ?_
  refine zj_call (y' := m_Walker_part) hG (zcP (as := [_, _, _]) hG d_Walker_one_196 c_Walker_part (z_w5 205 rfl) (z_w5 207 rfl) (z_w5 206 rfl) (z_w5 41 rfl) rfl ⟨by decide, by decide⟩ w1 (by decide) (by decide) (show _ = some 3 from by decide +kernel) rfl) c_Walker_part rfl (by omega) rfl (z_le rfl) (z_le rfl) kc ?_ ?_
  · intro v h1 e
    rcases hQ _ _ e with g | ⟨x, y, g⟩
    · cases g
      refine zj_goto (tgt := 223) hG d_Walker_one_199 (by decide) ?_
      exact zj_vret hG d_Walker_one_223 rfl e
    · cases g
  · exact fun q h1 e => e
end WK7
