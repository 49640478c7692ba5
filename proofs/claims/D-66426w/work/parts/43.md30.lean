/-! PART 43: the reference: records translated -/
theorem tcx_s {N : Nat → Nat → Int32} {o1 b1 o2 b2 n : Nat} (hd : o1 ≠ o2) : zu (tcp N o1 b1 o2 b2 n) o2 (b2 + n) (tcp N o1 b1 o2 b2 n o1 (b1 + n)) = tcp N o1 b1 o2 b2 (n + 1) := by
  have e : tcp N o1 b1 o2 b2 n o1 (b1 + n) = N o1 (b1 + n) := if_neg (by omega)
  rw [e]
  funext o x
  unfold zu tcp
  by_cases g : o = o2 ∧ x = b2 + n
  · rw [if_pos g, if_pos (by omega)]
    congr 1
    omega
  · rw [if_neg g]
    by_cases g2 : o = o2 ∧ b2 ≤ x ∧ x < b2 + n
    · rw [if_pos g2, if_pos (by omega)]
    · rw [if_neg g2, if_neg (by omega)]
theorem tcx_at {N : Nat → Nat → Int32} {o1 b1 o2 b2 n i : Nat} (h : i < n) : tcp N o1 b1 o2 b2 n o2 (b2 + i) = N o1 (b1 + i) := by
  unfold tcp
  rw [if_pos (by omega)]
  congr 1
  omega
theorem tcx_row {N : Nat → Nat → Int32} {o1 b1 o2 b2 n i : Nat} {l : List Int32} (h : tRow N o1 (b1 + i) l) (hi : i + 7 ≤ n) : tRow (tcp N o1 b1 o2 b2 n) o2 (b2 + i) l := by
  obtain ⟨a, b, c⟩ := h
  refine ⟨?_, b, fun k x hk => ?_⟩
  · rw [tcx_at (by omega), a]
  · have := (List.getElem?_eq_some_iff.mp hk).1
    rw [show b2 + i + 1 + k = b2 + (i + 1 + k) by omega, tcx_at (by omega), ← c k x hk]
    congr 1
    omega
/-- a record as a table -/
def oTrT (F : List tFd) (rs : List (List Int32)) : List tE := List.zipWith (fun f l => ((f.1, f.2.1, f.2.2.1, f.2.2.2, l, 0) : tE)) F rs
section MD30
variable {G : zG} {q : Nat} {h : zH} {N : Nat → Nat → Int32} {W : sW}
/-- without terms the store plays no part -/
theorem tra_1 (T : List tE) (L : List tQ) (K : Nat → tK) (c : Int32) (a : tAc) : tra 1 (T, L, K, c) a = ((tra 1 (T, [], K, c) a).1, L, (tra 1 (T, [], K, c) a).2.2) := by
  have h2 : ¬ (1 : Int32) = 2 := by decide
  unfold tra
  split
  · rw [tfo, tfo]
    simp only
    split
    · rfl
    · split
      · simp [tarr, tnew, tnewL, h2]
      · split
        · simp [tdpt]
        · split
          · simp [twrp, h2]
          · split
            · simp [tsp, tnew, tnewL, h2]
            · split
              · simp [tbnd, tch, h2]
              · simp [tch, h2]
  · rw [tba, tba]
    simp only
    split
    · rfl
    · split
      · simp [tdpt]
      · split
        · simp [tarr, tnew, tnewL, h2]
        · split
          · simp [tuwp, h2]
          · split
            · simp [tjn, h2]
            · split
              · simp [tbnd, tch, h2]
              · simp [tch, h2]
theorem trun_1 : ∀ (as : List tAc) (T : List tE) (L : List tQ) (K : Nat → tK) (c : Int32), trun 1 as (T, L, K, c) = ((trun 1 as (T, [], K, c)).1, L, (trun 1 as (T, [], K, c)).2.2) := by
  intro as
  induction as with
  | nil => intro T L K c; rfl
  | cons a t ih =>
    intro T L K c
    simp only [trun, List.foldl_cons] at ih ⊢
    rw [tra_1 T L K c a]
    have e := tra_1 T [] K c a
    generalize tra 1 (T, [], K, c) a = Y at *
    obtain ⟨Y1, Y2, Y3, Y4⟩ := Y
    simp only at e ⊢
    rw [ih Y1 L Y3 Y4]
    rw [show ((Y1, Y2, Y3, Y4) : tXt) = (Y1, [], Y3, Y4) from e]
theorem tGo_1 : ∀ (as : List tAc) (T : List tE) (L : List tQ) (K : Nat → tK) (c : Int32), L.length + 3 ≤ 1024 → tGo 1 as (T, [], K, c) → tGo 1 as (T, L, K, c) := by
  intro as
  induction as with
  | nil => intro T L K c _ _; trivial
  | cons a t ih =>
    intro T L K c hl hg
    obtain ⟨⟨g1, g2, g3⟩, g4⟩ := hg
    refine ⟨⟨⟨fun e => absurd e (by decide), g1.2⟩, hl, g3⟩, ?_⟩
    rw [tra_1 T L K c a]
    have e := tra_1 T [] K c a
    generalize tra 1 (T, [], K, c) a = Y at *
    obtain ⟨Y1, Y2, Y3, Y4⟩ := Y
    simp only at e ⊢
    rw [show ((Y1, Y2, Y3, Y4) : tXt) = (Y1, [], Y3, Y4) from e] at g4
    exact ih Y1 L Y3 Y4 hl g4
set_option maxRecDepth 4000 in
/-- rows into the table -/
theorem k_MD_tr1 (hG : zOK G) (hT : twOK q h) {j : Nat} (hj : j < 16) {F : List tFd} {rs : List (List Int32)} (hl : rs.length = F.length) (h24 : F.length ≤ 24) (hrow : ∀ (k : Nat) (l : List Int32), rs[k]? = some l → tRow N 11 (7 * (24 * j + k)) l) {v2 : zV} {x3 : Int32} {Q : zO → zH → Prop}
    (nx : ∀ (M : Nat → Nat → Int32) (w : zV), (∀ o i, o ≠ 18 → M o i = N o i) → tTab M (oTrT F rs) → zJ G 6 m_MD_translate 118 [some (zA q), some (zI (nI j)), some v2, some (zI x3), some w] [] (twp q h M) Q) :
    ∀ (n k : Nat) (M : Nat → Nat → Int32), k + n = F.length → (∀ o i, o ≠ 18 → M o i = N o i) → tTab M ((oTrT F rs).take k ++ (F.map tE0).drop k) → zJ G 6 m_MD_translate 80 [some (zA q), some (zI (nI j)), some v2, some (zI x3), some (zI (nI k))] [] (twp q h M) Q := by
  have hlT : (oTrT F rs).length = F.length := by simp [oTrT, hl]
  intro n
  induction n with
  | zero =>
    intro k M hk f h1
    have hk' : k = F.length := by omega
    subst hk'
    have hF := h1.1
    rw [show ((oTrT F rs).take F.length ++ (F.map tE0).drop F.length).length = F.length by simp [hlT]] at hF
    rw [List.take_of_length_le (by omega), List.drop_eq_nil_of_le (by simp), List.append_nil] at h1
    refine zj_iload hG d_MD_translate_80 rfl ?_
    refine zj_aload_n hG d_MD_translate_82 rfl rfl ?_
    refine t_getI hG hT d_MD_translate_83 f_MD_108 rfl ?_
    rw [hF]
    refine zj_icmp_ge (tgt := 118) hG d_MD_translate_86 (by decide) (fun _ => ?_) (fun c => absurd (nI_le (by omega) (by omega)) c)
    exact nx M _ f h1
  | succ n ih =>
    intro k M hk f h1
    have hkl : k < F.length := by omega
    have hkr : k < rs.length := by omega
    have hlen : ((oTrT F rs).take k ++ (F.map tE0).drop k).length = F.length := by simp [hlT]; omega
    have hF := h1.1
    rw [hlen] at hF
    have hk' : k < ((oTrT F rs).take k ++ (F.map tE0).drop k).length := by omega
    have hget : ((oTrT F rs).take k ++ (F.map tE0).drop k)[k] = tE0 F[k] := by
      rw [List.getElem_append_right (by simp; omega)]
      simp
      congr 2
      omega
    have hset : ((oTrT F rs).take k ++ (F.map tE0).drop k).set k ((F[k]).1, (F[k]).2.1, (F[k]).2.2.1, (F[k]).2.2.2, rs[k], 0) = (oTrT F rs).take (k + 1) ++ (F.map tE0).drop (k + 1) := by
      rw [List.set_append_right _ _ (by simp; omega)]
      have e0 : k - ((oTrT F rs).take k).length = 0 := by simp [hlT]; omega
      rw [e0, List.drop_eq_getElem_cons (by simpa using hkl), List.set_cons_zero, List.take_succ_eq_append_getElem (by omega)]
      simp [oTrT]
    have hr := (hrow k _ (List.getElem?_eq_getElem hkr)).fr (N' := M) (fun i _ _ => f 11 i (by omega))
    refine zj_iload hG d_MD_translate_80 rfl ?_
    refine zj_aload_n hG d_MD_translate_82 rfl rfl ?_
    refine t_getI hG hT d_MD_translate_83 f_MD_108 rfl ?_
    rw [hF]
    refine zj_icmp_ge (tgt := 118) hG d_MD_translate_86 (by decide) (fun c => absurd c (nI_ge hkl (by omega))) (fun _ => ?_)
    refine zj_aload_n hG d_MD_translate_89 rfl rfl ?_
    refine t_getA (o := 11) hG hT d_MD_translate_90 f_MD_44 rfl rfl ?_
    refine zj_aload_n hG d_MD_translate_93 rfl rfl ?_
    refine zj_iload_n hG d_MD_translate_94 rfl rfl ?_
    refine zj_iload hG d_MD_translate_95 rfl ?_
    refine zj_callR (y' := m_MD_rowOf) hG (zcP (as := [_, _]) hG d_MD_translate_97 c_MD_rowOf (z_w7 218 rfl) (z_w7 220 rfl) (z_w7 219 rfl) (z_w7 8 rfl) rfl ⟨by decide, by decide⟩ hT.1 (by decide) (by decide) (show _ = some 2 from by decide +kernel) rfl) c_MD_rowOf rfl (by omega) rfl (z_le rfl) (z_le rfl) (k_MD_rowOf hG j k _ _) ?_
    refine zj_aload_n hG d_MD_translate_100 rfl rfl ?_
    refine t_getA (o := 18) hG hT d_MD_translate_101 f_MD_65 rfl rfl ?_
    refine zj_bipush (v := 7) hG d_MD_translate_104 rfl ?_
    refine zj_iload hG d_MD_translate_106 rfl ?_
    refine zj_imul hG d_MD_translate_108 ?_
    rw [nI_7]
    refine zj_callV (y' := m_MD_copyRow) hG (zcS (as := [_, _, _, _]) hG d_MD_translate_109 c_MD_copyRow (z_w7 103 rfl) (z_w7 104 rfl) (z_w1 11 rfl) ⟨by decide, by decide⟩ (show _ = some 4 from by decide +kernel) rfl) c_MD_copyRow rfl (by omega) rfl (z_le rfl) (z_le rfl) (k_MD_copyRow hG hT _ (by decide) (by decide) (by show _ ≤ 2688; omega) (by show _ ≤ 182; omega) (by omega)) ?_
    refine zj_iinc hG d_MD_translate_112 rfl (nI_1 k) (by decide) rfl rfl ?_
    refine zj_goto (tgt := 80) hG d_MD_translate_115 (by decide) ?_
    refine ih (k + 1) _ (by omega) (fun o i e => by rw [tcp_n (by omega)]; exact f o i e) ?_
    have u := h1.r (N' := tcp M 11 (7 * (24 * j + k)) 18 (7 * k) 7) (l := rs[k]) hk' (fun o i _ g => tcp_n g) (tcp_row hr)
    rw [hget] at u
    rw [← hset]
    exact u
set_option maxRecDepth 4000 in
theorem k_MD_tr2 (hG : zOK G) (hT : twOK q h) {j : Nat} (hj : j < 16) {v2 : zV} {Q : zO → zH → Prop} (nx : ∀ w, zJ G 6 m_MD_translate 151 [some (zA q), some (zI (nI j)), some v2, some (zI 128), some w] [] (twp q h (tcp N 12 (128 * j) 20 0 128)) Q) : ∀ (n k : Nat), k + n = 128 → zJ G 6 m_MD_translate 121 [some (zA q), some (zI (nI j)), some v2, some (zI 128), some (zI (nI k))] [] (twp q h (tcp N 12 (128 * j) 20 0 k)) Q := by
  intro n
  induction n with
  | zero =>
    intro k hk
    have : k = 128 := by omega
    subst this
    refine zj_iload hG d_MD_translate_121 rfl ?_
    refine zj_iload_n hG d_MD_translate_123 rfl rfl ?_
    refine zj_icmp_ge (tgt := 151) hG d_MD_translate_124 (by decide) (fun _ => ?_) (fun c => absurd (by decide) c)
    exact nx _
  | succ n ih =>
    intro k hk
    refine zj_iload hG d_MD_translate_121 rfl ?_
    refine zj_iload_n hG d_MD_translate_123 rfl rfl ?_
    refine zj_icmp_ge (tgt := 151) hG d_MD_translate_124 (by decide) (fun c => absurd c (nI_ge (a := k) (b := 128) (by omega) (by omega))) (fun _ => ?_)
    refine zj_aload_n hG d_MD_translate_127 rfl rfl ?_
    refine t_getA (o := 20) hG hT d_MD_translate_128 f_MD_71 rfl rfl ?_
    refine zj_iload hG d_MD_translate_131 rfl ?_
    refine zj_aload_n hG d_MD_translate_133 rfl rfl ?_
    refine t_getA (o := 12) hG hT d_MD_translate_134 f_MD_47 rfl rfl ?_
    refine zj_iload_n hG d_MD_translate_137 rfl rfl ?_
    refine zj_iload_n hG d_MD_translate_138 rfl rfl ?_
    refine zj_imul hG d_MD_translate_139 ?_
    refine zj_iload hG d_MD_translate_140 rfl ?_
    refine zj_iadd hG d_MD_translate_142 ?_
    refine t_ald (128 * j + k) hG hT d_MD_translate_143 (by first | decide | omega) (by first | decide | omega) (by rw [nI_128, nI_add]) (by show _ < 2048; omega) ?_
    refine t_ast (0 + k) hG hT d_MD_translate_144 (by first | decide | omega) (by first | decide | omega) (by rw [Nat.zero_add]) (by show _ < 128; omega) ?_
    refine zj_iinc hG d_MD_translate_145 rfl (nI_1 k) (by decide) rfl rfl ?_
    refine zj_goto (tgt := 121) hG d_MD_translate_148 (by decide) ?_
    rw [tcx_s (by omega)]
    exact ih (k + 1) (by omega)
set_option maxRecDepth 4000 in
theorem k_MD_tr3 (hG : zOK G) (hT : twOK q h) {j : Nat} (hj : j < 16) {v2 : zV} {Q : zO → zH → Prop} (nx : ∀ w, zJ G 6 m_MD_translate 190 [some (zA q), some (zI (nI j)), some v2, some (zI 128), some w] [] (twp q h (tcp N 13 (1792 * j) 21 0 1792)) Q) : ∀ (n k : Nat), k + n = 1792 → zJ G 6 m_MD_translate 154 [some (zA q), some (zI (nI j)), some v2, some (zI 128), some (zI (nI k))] [] (twp q h (tcp N 13 (1792 * j) 21 0 k)) Q := by
  intro n
  induction n with
  | zero =>
    intro k hk
    have : k = 1792 := by omega
    subst this
    refine zj_iload hG d_MD_translate_154 rfl ?_
    refine zj_bipush (v := 14) hG d_MD_translate_156 rfl ?_
    refine zj_iload_n hG d_MD_translate_158 rfl rfl ?_
    refine zj_imul hG d_MD_translate_159 ?_
    refine zj_icmp_ge (tgt := 190) hG d_MD_translate_160 (by decide) (fun _ => ?_) (fun c => absurd (by decide) c)
    exact nx _
  | succ n ih =>
    intro k hk
    refine zj_iload hG d_MD_translate_154 rfl ?_
    refine zj_bipush (v := 14) hG d_MD_translate_156 rfl ?_
    refine zj_iload_n hG d_MD_translate_158 rfl rfl ?_
    refine zj_imul hG d_MD_translate_159 ?_
    refine zj_icmp_ge (tgt := 190) hG d_MD_translate_160 (by decide) (fun c => absurd c (nI_ge (a := k) (b := 1792) (by omega) (by omega))) (fun _ => ?_)
    refine zj_aload_n hG d_MD_translate_163 rfl rfl ?_
    refine t_getA (o := 21) hG hT d_MD_translate_164 f_MD_74 rfl rfl ?_
    refine zj_iload hG d_MD_translate_167 rfl ?_
    refine zj_aload_n hG d_MD_translate_169 rfl rfl ?_
    refine t_getA (o := 13) hG hT d_MD_translate_170 f_MD_50 rfl rfl ?_
    refine zj_bipush (v := 14) hG d_MD_translate_173 rfl ?_
    refine zj_iload_n hG d_MD_translate_175 rfl rfl ?_
    refine zj_imul hG d_MD_translate_176 ?_
    refine zj_iload_n hG d_MD_translate_177 rfl rfl ?_
    refine zj_imul hG d_MD_translate_178 ?_
    refine zj_iload hG d_MD_translate_179 rfl ?_
    refine zj_iadd hG d_MD_translate_181 ?_
    refine t_ald (1792 * j + k) hG hT d_MD_translate_182 (by first | decide | omega) (by first | decide | omega) (by rw [show (14 : Int32) * 128 = 1792 from rfl, nI_1792, nI_add]) (by show _ < 28672; omega) ?_
    refine t_ast (0 + k) hG hT d_MD_translate_183 (by first | decide | omega) (by first | decide | omega) (by rw [Nat.zero_add]) (by show _ < 1792; omega) ?_
    refine zj_iinc hG d_MD_translate_184 rfl (nI_1 k) (by decide) rfl rfl ?_
    refine zj_goto (tgt := 154) hG d_MD_translate_187 (by decide) ?_
    rw [tcx_s (by omega)]
    exact ih (k + 1) (by omega)
set_option maxRecDepth 4000 in
theorem k_MD_tr5 (hG : zOK G) (hT : twOK q h) {j : Nat} (hj : j < 16) {v2 : zV} {Q : zO → zH → Prop} (nx : ∀ w, zJ G 6 m_MD_translate 316 [some (zA q), some (zI (nI j)), some v2, some (zI 128), some w] [] (twp q h (tcp N 20 0 12 (128 * j) 128)) Q) : ∀ (n k : Nat), k + n = 128 → zJ G 6 m_MD_translate 286 [some (zA q), some (zI (nI j)), some v2, some (zI 128), some (zI (nI k))] [] (twp q h (tcp N 20 0 12 (128 * j) k)) Q := by
  intro n
  induction n with
  | zero =>
    intro k hk
    have : k = 128 := by omega
    subst this
    refine zj_iload hG d_MD_translate_286 rfl ?_
    refine zj_iload_n hG d_MD_translate_288 rfl rfl ?_
    refine zj_icmp_ge (tgt := 316) hG d_MD_translate_289 (by decide) (fun _ => ?_) (fun c => absurd (by decide) c)
    exact nx _
  | succ n ih =>
    intro k hk
    refine zj_iload hG d_MD_translate_286 rfl ?_
    refine zj_iload_n hG d_MD_translate_288 rfl rfl ?_
    refine zj_icmp_ge (tgt := 316) hG d_MD_translate_289 (by decide) (fun c => absurd c (nI_ge (a := k) (b := 128) (by omega) (by omega))) (fun _ => ?_)
    refine zj_aload_n hG d_MD_translate_292 rfl rfl ?_
    refine t_getA (o := 12) hG hT d_MD_translate_293 f_MD_47 rfl rfl ?_
    refine zj_iload_n hG d_MD_translate_296 rfl rfl ?_
    refine zj_iload_n hG d_MD_translate_297 rfl rfl ?_
    refine zj_imul hG d_MD_translate_298 ?_
    refine zj_iload hG d_MD_translate_299 rfl ?_
    refine zj_iadd hG d_MD_translate_301 ?_
    refine zj_aload_n hG d_MD_translate_302 rfl rfl ?_
    refine t_getA (o := 20) hG hT d_MD_translate_303 f_MD_71 rfl rfl ?_
    refine zj_iload hG d_MD_translate_306 rfl ?_
    refine t_ald (0 + k) hG hT d_MD_translate_308 (by first | decide | omega) (by first | decide | omega) (by rw [Nat.zero_add]) (by show _ < 128; omega) ?_
    refine t_ast (128 * j + k) hG hT d_MD_translate_309 (by first | decide | omega) (by first | decide | omega) (by rw [nI_128, nI_add]) (by show _ < 2048; omega) ?_
    refine zj_iinc hG d_MD_translate_310 rfl (nI_1 k) (by decide) rfl rfl ?_
    refine zj_goto (tgt := 286) hG d_MD_translate_313 (by decide) ?_
    rw [tcx_s (by omega)]
    exact ih (k + 1) (by omega)
set_option maxRecDepth 4000 in
theorem k_MD_tr6 (hG : zOK G) (hT : twOK q h) {j : Nat} (hj : j < 16) {v2 : zV} {Q : zO → zH → Prop} (nx : ∀ w, zJ G 6 m_MD_translate 355 [some (zA q), some (zI (nI j)), some v2, some (zI 128), some w] [] (twp q h (tcp N 21 0 13 (1792 * j) 1792)) Q) : ∀ (n k : Nat), k + n = 1792 → zJ G 6 m_MD_translate 319 [some (zA q), some (zI (nI j)), some v2, some (zI 128), some (zI (nI k))] [] (twp q h (tcp N 21 0 13 (1792 * j) k)) Q := by
  intro n
  induction n with
  | zero =>
    intro k hk
    have : k = 1792 := by omega
    subst this
    refine zj_iload hG d_MD_translate_319 rfl ?_
    refine zj_bipush (v := 14) hG d_MD_translate_321 rfl ?_
    refine zj_iload_n hG d_MD_translate_323 rfl rfl ?_
    refine zj_imul hG d_MD_translate_324 ?_
    refine zj_icmp_ge (tgt := 355) hG d_MD_translate_325 (by decide) (fun _ => ?_) (fun c => absurd (by decide) c)
    exact nx _
  | succ n ih =>
    intro k hk
    refine zj_iload hG d_MD_translate_319 rfl ?_
    refine zj_bipush (v := 14) hG d_MD_translate_321 rfl ?_
    refine zj_iload_n hG d_MD_translate_323 rfl rfl ?_
    refine zj_imul hG d_MD_translate_324 ?_
    refine zj_icmp_ge (tgt := 355) hG d_MD_translate_325 (by decide) (fun c => absurd c (nI_ge (a := k) (b := 1792) (by omega) (by omega))) (fun _ => ?_)
    refine zj_aload_n hG d_MD_translate_328 rfl rfl ?_
    refine t_getA (o := 13) hG hT d_MD_translate_329 f_MD_50 rfl rfl ?_
    refine zj_bipush (v := 14) hG d_MD_translate_332 rfl ?_
    refine zj_iload_n hG d_MD_translate_334 rfl rfl ?_
    refine zj_imul hG d_MD_translate_335 ?_
    refine zj_iload_n hG d_MD_translate_336 rfl rfl ?_
    refine zj_imul hG d_MD_translate_337 ?_
    refine zj_iload hG d_MD_translate_338 rfl ?_
    refine zj_iadd hG d_MD_translate_340 ?_
    refine zj_aload_n hG d_MD_translate_341 rfl rfl ?_
    refine t_getA (o := 21) hG hT d_MD_translate_342 f_MD_74 rfl rfl ?_
    refine zj_iload hG d_MD_translate_345 rfl ?_
    refine t_ald (0 + k) hG hT d_MD_translate_347 (by first | decide | omega) (by first | decide | omega) (by rw [Nat.zero_add]) (by show _ < 1792; omega) ?_
    refine t_ast (1792 * j + k) hG hT d_MD_translate_348 (by first | decide | omega) (by first | decide | omega) (by rw [show (14 : Int32) * 128 = 1792 from rfl, nI_1792, nI_add]) (by show _ < 28672; omega) ?_
    refine zj_iinc hG d_MD_translate_349 rfl (nI_1 k) (by decide) rfl rfl ?_
    refine zj_goto (tgt := 319) hG d_MD_translate_352 (by decide) ?_
    rw [tcx_s (by omega)]
    exact ih (k + 1) (by omega)
set_option maxRecDepth 4000 in
/-- rows back into the record -/
theorem k_MD_tr4 (hG : zOK G) (hT : twOK q h) {j v : Nat} (hj : j < 16) (hv : v < 8) {F : List tFd} {T : List tE} (hF : tVer N v F) (hT0 : tTab N T) (hfd : ∀ f ∈ F, tix T f.1 < T.length) {x3 : Int32} {Q : zO → zH → Prop}
    (nx : ∀ (M : Nat → Nat → Int32) (w : zV), (∀ o i, ¬ (o = 11 ∧ 168 * j ≤ i ∧ i < 168 * j + 168) → M o i = N o i) → (∀ k (hk : k < F.length), tRow M 11 (7 * (24 * j + k)) (eR (tel T (F[k]).1))) → zJ G 6 m_MD_translate 283 [some (zA q), some (zI (nI j)), some (zI (nI v)), some (zI x3), some w] [] (twp q h M) Q) :
    ∀ (n k : Nat) (M : Nat → Nat → Int32), k + n = F.length → (∀ o i, ¬ (o = 11 ∧ 168 * j ≤ i ∧ i < 168 * j + 168) → M o i = N o i) → (∀ k' (hk : k' < F.length), k' < k → tRow M 11 (7 * (24 * j + k')) (eR (tel T (F[k']).1))) → zJ G 6 m_MD_translate 229 [some (zA q), some (zI (nI j)), some (zI (nI v)), some (zI x3), some (zI (nI k))] [] (twp q h M) Q := by
  obtain ⟨f1, f2, f3⟩ := hF
  intro n
  induction n with
  | zero =>
    intro k M hk f hr
    refine zj_iload hG d_MD_translate_229 rfl ?_
    refine zj_aload_n hG d_MD_translate_231 rfl rfl ?_
    refine t_getA (o := 1) hG hT d_MD_translate_232 f_MD_13 rfl rfl ?_
    refine zj_iload_n hG d_MD_translate_235 rfl rfl ?_
    refine t_ald (v) hG hT d_MD_translate_236 (by first | decide | omega) (by first | decide | omega) rfl hv ?_
    rw [f _ _ (by omega), f1]
    refine zj_icmp_ge (tgt := 283) hG d_MD_translate_237 (by decide) (fun _ => ?_) (fun c => absurd (nI_le (by omega) (by omega)) c)
    exact nx M _ f (fun k' hk' => hr k' hk' (by omega))
  | succ n ih =>
    intro k M hk f hr
    have hkl : k < F.length := by omega
    obtain ⟨b1, -⟩ := f3 k _ (List.getElem?_eq_getElem hkl)
    have hix := hfd _ (List.getElem_mem hkl)
    have hTM : tTab M T := hT0.fr (P := fun o _ => o == 11) (fun o i e => f o i (by simp at e; omega)) (by intro o i e; simp [pT] at e; simp; omega)
    have hlT := hTM.l
    have a5 := (hTM.at hix).2.2.2.2.1
    rw [← tel_eq hix] at a5
    refine zj_iload hG d_MD_translate_229 rfl ?_
    refine zj_aload_n hG d_MD_translate_231 rfl rfl ?_
    refine t_getA (o := 1) hG hT d_MD_translate_232 f_MD_13 rfl rfl ?_
    refine zj_iload_n hG d_MD_translate_235 rfl rfl ?_
    refine t_ald (v) hG hT d_MD_translate_236 (by first | decide | omega) (by first | decide | omega) rfl hv ?_
    rw [f _ _ (by omega), f1]
    refine zj_icmp_ge (tgt := 283) hG d_MD_translate_237 (by decide) (fun c => absurd c (nI_ge hkl (by omega))) (fun _ => ?_)
    refine zj_aload_n hG d_MD_translate_240 rfl rfl ?_
    refine t_getA (o := 18) hG hT d_MD_translate_241 f_MD_65 rfl rfl ?_
    refine zj_bipush (v := 7) hG d_MD_translate_244 rfl ?_
    refine zj_aload_n hG d_MD_translate_246 rfl rfl ?_
    refine zj_aload_n hG d_MD_translate_247 rfl rfl ?_
    refine t_getA (o := 2) hG hT d_MD_translate_248 f_MD_17 rfl rfl ?_
    refine zj_bipush (v := 24) hG d_MD_translate_251 rfl ?_
    refine zj_iload_n hG d_MD_translate_253 rfl rfl ?_
    refine zj_imul hG d_MD_translate_254 ?_
    refine zj_iload hG d_MD_translate_255 rfl ?_
    refine zj_iadd hG d_MD_translate_257 ?_
    refine t_ald (24 * v + k) hG hT d_MD_translate_258 (by first | decide | omega) (by first | decide | omega) (by rw [nI_24, nI_add]) (by show _ < 192; omega) ?_
    rw [f _ _ (by omega), b1]
    refine zj_callR (y' := m_MD_find) hG (zcP (as := [_]) hG d_MD_translate_259 c_MD_find (z_w7 47 rfl) (z_w7 49 rfl) (z_w7 48 rfl) (z_w7 8 rfl) rfl ⟨by decide, by decide⟩ hT.1 (by decide) (by decide) (show _ = some 1 from by decide +kernel) rfl) c_MD_find rfl (by omega) rfl (z_le rfl) (z_le rfl) (k_MD_find hG hT hTM _) ?_
    rw [tix_fnd hix]
    refine zj_imul hG d_MD_translate_262 ?_
    refine zj_aload_n hG d_MD_translate_263 rfl rfl ?_
    refine t_getA (o := 11) hG hT d_MD_translate_264 f_MD_44 rfl rfl ?_
    refine zj_aload_n hG d_MD_translate_267 rfl rfl ?_
    refine zj_iload_n hG d_MD_translate_268 rfl rfl ?_
    refine zj_iload hG d_MD_translate_269 rfl ?_
    rw [nI_7]
    refine zj_callR (y' := m_MD_rowOf) hG (zcP (as := [_, _]) hG d_MD_translate_271 c_MD_rowOf (z_w7 218 rfl) (z_w7 220 rfl) (z_w7 219 rfl) (z_w7 8 rfl) rfl ⟨by decide, by decide⟩ hT.1 (by decide) (by decide) (show _ = some 2 from by decide +kernel) rfl) c_MD_rowOf rfl (by omega) rfl (z_le rfl) (z_le rfl) (k_MD_rowOf hG j k _ _) ?_
    refine zj_callV (y' := m_MD_copyRow) hG (zcS (as := [_, _, _, _]) hG d_MD_translate_274 c_MD_copyRow (z_w7 103 rfl) (z_w7 104 rfl) (z_w1 11 rfl) ⟨by decide, by decide⟩ (show _ = some 4 from by decide +kernel) rfl) c_MD_copyRow rfl (by omega) rfl (z_le rfl) (z_le rfl) (k_MD_copyRow hG hT _ (by decide) (by decide) (by show _ ≤ 182; omega) (by show _ ≤ 2688; omega) (by omega)) ?_
    refine zj_iinc hG d_MD_translate_277 rfl (nI_1 k) (by decide) rfl rfl ?_
    refine zj_goto (tgt := 229) hG d_MD_translate_280 (by decide) ?_
    refine ih (k + 1) _ (by omega) (fun o i e => by rw [tcp_n (by omega)]; exact f o i e) (fun k' hk' g => ?_)
    by_cases e : k' = k
    · subst e
      exact tcp_row a5
    · exact (hr k' hk' (by omega)).fr (fun i _ _ => tcp_n (by omega))
end MD30
