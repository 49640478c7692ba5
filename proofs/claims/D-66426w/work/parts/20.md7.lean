/-! PART 20: the reference: terms that change, rows that change -/
def tkq (L : List tQ) (x : tQ) : Int32 × List tQ := (nI (L.idxOf x), tkn L x)
/-- what comes of a term j (its numbers: x) -/
def tchd (L : List tQ) (j : Nat) (x : tQ) (k a b : Int32) (f : Bool) (lo hi : Int32) : Int32 × List tQ :=
  if k = 6 then
    if a = b then (nI j, L) else if x.1 = 1 then tkq L (1, tsc f x.2.1 a b lo hi, 0, 0, 0, 0) else if f = true then tkq L (8, nI j, a, b, 0, 0) else tkq L (9, nI j, a, b, lo, hi)
  else if f = false then (nI j, L)
  else if k = 7 then if x.1 = 1 then tkq L (1, if x.2.1 = a then b else x.2.1, 0, 0, 0, 0) else tkq L (10, nI j, a, b, 0, 0)
  else if x.1 = 2 ∨ x.1 = 3 ∨ x.1 = 11 then (nI j, L) else tkq L (11, nI j, 0, 0, 0, 0)
theorem tb_t {f : Bool} (h : ¬ tb f = 0) : f = true := by
  cases f
  · exact absurd rfl h
  · rfl
theorem tb_f {f : Bool} (h : tb f = 0) : f = false := by
  cases f
  · rfl
  · exact absurd h (by decide)
theorem tb_d {p : Prop} {i : Decidable p} (h : ¬ tb (decide p) = 0) : p := by
  have := tb_t h
  simpa using this
theorem tb_n {p : Prop} {i : Decidable p} (h : tb (decide p) = 0) : ¬ p := by
  have := tb_f h
  simpa using this
section MD7
variable {G : zG} {q : Nat} {h : zH} {N : Nat → Nat → Int32} {L : List tQ} {T : List tE} {K : Nat → tK}
set_option maxRecDepth 4000 in
theorem k_MD_changed (hG : zOK G) (hT : twOK q h) (hS : tSto N L) (hl : L.length < 1024) {j : Nat} {x : tQ} (hj : L[j]? = some x) (k a b : Int32) (f : Bool) (lo hi : Int32) (hd : k = 6 → ¬ a = 0 ∧ ¬ b = 0) :
    zJ G 2 m_MD_changed 0 [some (zA q), some (zI (nI j)), some (zI k), some (zI a), some (zI b), some (zI (tb f)), some (zI lo), some (zI hi), none, none] [] (twp q h N) (fun o h' => ∃ v N', o = zR (zI v) ∧ h' = twp q h N' ∧ (v = (tchd L j x k a b f lo hi).1 ∧ tSto N' (tchd L j x k a b f lo hi).2 ∧ tFr pS N N')) := by
  have hjl := (List.getElem?_eq_some_iff.mp hj).1
  obtain ⟨x1, x2, x3, x4, x5, x6⟩ := hS.2.2 j x hj
  have hn := k_MD_isNumber (N := N) hG hT (k := j) (by omega)
  rw [x1] at hn
  have ha0 := k_MD_argument (N := N) (j := 0) hG hT (k := j) (by omega)
  rw [show 5 * j + 0 = 5 * j from rfl, x2] at ha0
  refine zj_iload_n hG d_MD_changed_0 rfl rfl ?_
  refine zj_bipush (v := 6) hG d_MD_changed_1 rfl ?_
  refine zj_icmp_ne (tgt := 122) hG d_MD_changed_3 (by decide) (fun c3 => ?_) (fun c3 => ?_)
  · rw [tchd, if_neg c3]
    refine zj_iload hG d_MD_changed_122 rfl ?_
    refine zj_if_ne (tgt := 129) hG d_MD_changed_124 (by decide) (fun c124 => ?_) (fun c124 => ?_)
    · have hf1 := tb_t c124
      rw [if_neg (by rw [hf1]; decide)]
      refine zj_iload_n hG d_MD_changed_129 rfl rfl ?_
      refine zj_bipush (v := 7) hG d_MD_changed_130 rfl ?_
      refine zj_icmp_ne (tgt := 184) hG d_MD_changed_132 (by decide) (fun c132 => ?_) (fun c132 => ?_)
      · rw [if_neg c132]
        have stay : (x.1 = 2 ∨ x.1 = 3 ∨ x.1 = 11) → zJ G 2 m_MD_changed 215 [some (zA q), some (zI (nI j)), some (zI k), some (zI a), some (zI b), some (zI (tb f)), some (zI lo), some (zI hi), none, none] [] (twp q h N) (fun o h' => ∃ v N', o = zR (zI v) ∧ h' = twp q h N' ∧ (v = (if x.1 = 2 ∨ x.1 = 3 ∨ x.1 = 11 then (nI j, L) else tkq L (11, nI j, 0, 0, 0, 0)).1 ∧ tSto N' (if x.1 = 2 ∨ x.1 = 3 ∨ x.1 = 11 then (nI j, L) else tkq L (11, nI j, 0, 0, 0, 0)).2 ∧ tFr pS N N')) := by
          intro g
          rw [if_pos g]
          refine zj_iload_n hG d_MD_changed_215 rfl rfl ?_
          refine zj_goto (tgt := 230) hG d_MD_changed_216 (by decide) ?_
          exact zj_iret hG d_MD_changed_230 rfl rfl ⟨_, N, rfl, rfl, rfl, hS, tFr.rfl'⟩
        refine zj_aload_n hG d_MD_changed_184 rfl rfl ?_
        refine t_getA (o := 22) hG hT d_MD_changed_185 f_MD_77 rfl rfl ?_
        refine zj_iload_n hG d_MD_changed_188 rfl rfl ?_
        refine t_ald (j) hG hT d_MD_changed_189 (by first | decide | omega) (by first | decide | omega) rfl (by show _ < 1024; omega) ?_
        refine zj_iconst (v := 2) hG d_MD_changed_190 rfl ?_
        rw [x1]
        refine zj_icmp_eq (tgt := 215) hG d_MD_changed_191 (by decide) (fun c191 => ?_) (fun c191 => ?_)
        · exact stay (Or.inl c191)
        refine zj_aload_n hG d_MD_changed_194 rfl rfl ?_
        refine t_getA (o := 22) hG hT d_MD_changed_195 f_MD_77 rfl rfl ?_
        refine zj_iload_n hG d_MD_changed_198 rfl rfl ?_
        refine t_ald (j) hG hT d_MD_changed_199 (by first | decide | omega) (by first | decide | omega) rfl (by show _ < 1024; omega) ?_
        refine zj_iconst (v := 3) hG d_MD_changed_200 rfl ?_
        rw [x1]
        refine zj_icmp_eq (tgt := 215) hG d_MD_changed_201 (by decide) (fun c201 => ?_) (fun c201 => ?_)
        · exact stay (Or.inr (Or.inl c201))
        refine zj_aload_n hG d_MD_changed_204 rfl rfl ?_
        refine t_getA (o := 22) hG hT d_MD_changed_205 f_MD_77 rfl rfl ?_
        refine zj_iload_n hG d_MD_changed_208 rfl rfl ?_
        refine t_ald (j) hG hT d_MD_changed_209 (by first | decide | omega) (by first | decide | omega) rfl (by show _ < 1024; omega) ?_
        refine zj_bipush (v := 11) hG d_MD_changed_210 rfl ?_
        rw [x1]
        refine zj_icmp_ne (tgt := 219) hG d_MD_changed_212 (by decide) (fun c212 => ?_) (fun c212 => ?_)
        · rw [if_neg (by intro g; rcases g with g | g | g; exact c191 g; exact c201 g; exact c212 g)]
          refine zj_aload_n hG d_MD_changed_219 rfl rfl ?_
          refine zj_bipush (v := 11) hG d_MD_changed_220 rfl ?_
          refine zj_iload_n hG d_MD_changed_222 rfl rfl ?_
          refine zj_iconst (v := 0) hG d_MD_changed_223 rfl ?_
          refine zj_iconst (v := 0) hG d_MD_changed_224 rfl ?_
          refine zj_iconst (v := 0) hG d_MD_changed_225 rfl ?_
          refine zj_iconst (v := 0) hG d_MD_changed_226 rfl ?_
          refine zj_callT (y' := m_MD_known) hG (zcP (as := [_, _, _, _, _, _]) hG d_MD_changed_227 c_MD_known (z_w7 29 rfl) (z_w7 31 rfl) (z_w7 30 rfl) (z_w7 8 rfl) rfl ⟨by decide, by decide⟩ hT.1 (by decide) (by decide) (show _ = some 6 from by decide +kernel) rfl) c_MD_known rfl (by omega) rfl (z_le rfl) (z_le rfl) (k_MD_known hG hT hS hl _ _ _ _ _ _) (fun v227 N227 e227 => ?_)
          exact zj_iret hG d_MD_changed_230 rfl rfl ⟨_, _, rfl, rfl, e227⟩
        · exact stay (Or.inr (Or.inr c212))
      · rw [if_pos c132]
        refine zj_aload_n hG d_MD_changed_135 rfl rfl ?_
        refine zj_iload_n hG d_MD_changed_136 rfl rfl ?_
        refine zj_callR (y' := m_MD_isNumber) hG (zcP (as := [_]) hG d_MD_changed_137 c_MD_isNumber (z_w7 132 rfl) (z_w7 134 rfl) (z_w7 133 rfl) (z_w7 8 rfl) rfl ⟨by decide, by decide⟩ hT.1 (by decide) (by decide) (show _ = some 1 from by decide +kernel) rfl) c_MD_isNumber rfl (by omega) rfl (z_le rfl) (z_le rfl) hn ?_
        refine zj_if_eq (tgt := 171) hG d_MD_changed_140 (by decide) (fun c140 => ?_) (fun c140 => ?_)
        · rw [if_neg (tb_n c140)]
          refine zj_aload_n hG d_MD_changed_171 rfl rfl ?_
          refine zj_bipush (v := 10) hG d_MD_changed_172 rfl ?_
          refine zj_iload_n hG d_MD_changed_174 rfl rfl ?_
          refine zj_iload_n hG d_MD_changed_175 rfl rfl ?_
          refine zj_iload hG d_MD_changed_176 rfl ?_
          refine zj_iconst (v := 0) hG d_MD_changed_178 rfl ?_
          refine zj_iconst (v := 0) hG d_MD_changed_179 rfl ?_
          refine zj_callT (y' := m_MD_known) hG (zcP (as := [_, _, _, _, _, _]) hG d_MD_changed_180 c_MD_known (z_w7 29 rfl) (z_w7 31 rfl) (z_w7 30 rfl) (z_w7 8 rfl) rfl ⟨by decide, by decide⟩ hT.1 (by decide) (by decide) (show _ = some 6 from by decide +kernel) rfl) c_MD_known rfl (by omega) rfl (z_le rfl) (z_le rfl) (k_MD_known hG hT hS hl _ _ _ _ _ _) (fun v180 N180 e180 => ?_)
          exact zj_iret hG d_MD_changed_183 rfl rfl ⟨_, _, rfl, rfl, e180⟩
        · rw [if_pos (tb_d c140)]
          refine zj_aload_n hG d_MD_changed_143 rfl rfl ?_
          refine zj_aload_n hG d_MD_changed_144 rfl rfl ?_
          refine zj_iload_n hG d_MD_changed_145 rfl rfl ?_
          refine zj_iconst (v := 0) hG d_MD_changed_146 rfl ?_
          refine zj_callR (y' := m_MD_argument) hG (zcP (as := [_, _]) hG d_MD_changed_147 c_MD_argument (z_w7 136 rfl) (z_w7 138 rfl) (z_w7 137 rfl) (z_w7 8 rfl) rfl ⟨by decide, by decide⟩ hT.1 (by decide) (by decide) (show _ = some 2 from by decide +kernel) rfl) c_MD_argument rfl (by omega) rfl (z_le rfl) (z_le rfl) ha0 ?_
          refine zj_iload_n hG d_MD_changed_150 rfl rfl ?_
          refine zj_icmp_ne (tgt := 159) hG d_MD_changed_151 (by decide) (fun c151 => ?_) (fun c151 => ?_)
          · rw [if_neg c151]
            refine zj_aload_n hG d_MD_changed_159 rfl rfl ?_
            refine zj_iload_n hG d_MD_changed_160 rfl rfl ?_
            refine zj_iconst (v := 0) hG d_MD_changed_161 rfl ?_
            refine zj_callR (y' := m_MD_argument) hG (zcP (as := [_, _]) hG d_MD_changed_162 c_MD_argument (z_w7 136 rfl) (z_w7 138 rfl) (z_w7 137 rfl) (z_w7 8 rfl) rfl ⟨by decide, by decide⟩ hT.1 (by decide) (by decide) (show _ = some 2 from by decide +kernel) rfl) c_MD_argument rfl (by omega) rfl (z_le rfl) (z_le rfl) ha0 ?_
            refine zj_callT (y' := m_MD_number) hG (zcP (as := [_]) hG d_MD_changed_165 c_MD_number (z_w7 25 rfl) (z_w7 27 rfl) (z_w7 26 rfl) (z_w7 8 rfl) rfl ⟨by decide, by decide⟩ hT.1 (by decide) (by decide) (show _ = some 1 from by decide +kernel) rfl) c_MD_number rfl (by omega) rfl (z_le rfl) (z_le rfl) (k_MD_number hG hT hS hl _) (fun v165 N165 e165 => ?_)
            refine zj_goto (tgt := 183) hG d_MD_changed_168 (by decide) ?_
            exact zj_iret hG d_MD_changed_183 rfl rfl ⟨_, _, rfl, rfl, e165⟩
          · rw [if_pos c151]
            refine zj_iload hG d_MD_changed_154 rfl ?_
            refine zj_goto (tgt := 165) hG d_MD_changed_156 (by decide) ?_
            refine zj_callT (y' := m_MD_number) hG (zcP (as := [_]) hG d_MD_changed_165 c_MD_number (z_w7 25 rfl) (z_w7 27 rfl) (z_w7 26 rfl) (z_w7 8 rfl) rfl ⟨by decide, by decide⟩ hT.1 (by decide) (by decide) (show _ = some 1 from by decide +kernel) rfl) c_MD_number rfl (by omega) rfl (z_le rfl) (z_le rfl) (k_MD_number hG hT hS hl _) (fun v165 N165 e165 => ?_)
            refine zj_goto (tgt := 183) hG d_MD_changed_168 (by decide) ?_
            exact zj_iret hG d_MD_changed_183 rfl rfl ⟨_, _, rfl, rfl, e165⟩
    · have hf0 := tb_f c124
      rw [if_pos hf0]
      refine zj_iload_n hG d_MD_changed_127 rfl rfl ?_
      exact zj_iret hG d_MD_changed_128 rfl rfl ⟨_, N, rfl, rfl, rfl, hS, tFr.rfl'⟩
  · rw [tchd, if_pos c3]
    obtain ⟨ha, hb⟩ := hd c3
    have ha' := i64_ne ha
    have hb' := i64_ne hb
    refine zj_iload_n hG d_MD_changed_6 rfl rfl ?_
    refine zj_iload hG d_MD_changed_7 rfl ?_
    refine zj_icmp_ne (tgt := 14) hG d_MD_changed_9 (by decide) (fun c9 => ?_) (fun c9 => ?_)
    · rw [if_neg c9]
      refine zj_aload_n hG d_MD_changed_14 rfl rfl ?_
      refine zj_iload_n hG d_MD_changed_15 rfl rfl ?_
      refine zj_callR (y' := m_MD_isNumber) hG (zcP (as := [_]) hG d_MD_changed_16 c_MD_isNumber (z_w7 132 rfl) (z_w7 134 rfl) (z_w7 133 rfl) (z_w7 8 rfl) rfl ⟨by decide, by decide⟩ hT.1 (by decide) (by decide) (show _ = some 1 from by decide +kernel) rfl) c_MD_isNumber rfl (by omega) rfl (z_le rfl) (z_le rfl) hn ?_
      refine zj_if_eq (tgt := 32) hG d_MD_changed_19 (by decide) (fun c19 => ?_) (fun c19 => ?_)
      · rw [if_neg (tb_n c19)]
        refine zj_lconst (v := 0) hG d_MD_changed_32 rfl ?_
        refine zj_lstore hG d_MD_changed_33 (by decide) rfl rfl ?_
        refine zj_aload_n hG d_MD_changed_35 rfl rfl ?_
        refine zj_iload_n hG d_MD_changed_36 rfl rfl ?_
        refine zj_callR (y' := m_MD_isNumber) hG (zcP (as := [_]) hG d_MD_changed_37 c_MD_isNumber (z_w7 132 rfl) (z_w7 134 rfl) (z_w7 133 rfl) (z_w7 8 rfl) rfl ⟨by decide, by decide⟩ hT.1 (by decide) (by decide) (show _ = some 1 from by decide +kernel) rfl) c_MD_isNumber rfl (by omega) rfl (z_le rfl) (z_le rfl) hn ?_
        refine zj_if_eq (tgt := 87) hG d_MD_changed_40 (by decide) (fun c40 => ?_) (fun c40 => ?_)
        · refine zj_iload hG d_MD_changed_87 rfl ?_
          refine zj_if_eq (tgt := 107) hG d_MD_changed_89 (by decide) (fun c89 => ?_) (fun c89 => ?_)
          · rw [if_neg (by rw [tb_f c89]; decide)]
            refine zj_aload_n hG d_MD_changed_107 rfl rfl ?_
            refine zj_bipush (v := 9) hG d_MD_changed_108 rfl ?_
            refine zj_iload_n hG d_MD_changed_110 rfl rfl ?_
            refine zj_iload_n hG d_MD_changed_111 rfl rfl ?_
            refine zj_iload hG d_MD_changed_112 rfl ?_
            refine zj_iload hG d_MD_changed_114 rfl ?_
            refine zj_iload hG d_MD_changed_116 rfl ?_
            refine zj_callT (y' := m_MD_known) hG (zcP (as := [_, _, _, _, _, _]) hG d_MD_changed_118 c_MD_known (z_w7 29 rfl) (z_w7 31 rfl) (z_w7 30 rfl) (z_w7 8 rfl) rfl ⟨by decide, by decide⟩ hT.1 (by decide) (by decide) (show _ = some 6 from by decide +kernel) rfl) c_MD_known rfl (by omega) rfl (z_le rfl) (z_le rfl) (k_MD_known hG hT hS hl _ _ _ _ _ _) (fun v118 N118 e118 => ?_)
            exact zj_iret hG d_MD_changed_121 rfl rfl ⟨_, _, rfl, rfl, e118⟩
          · rw [if_pos (tb_t c89)]
            refine zj_aload_n hG d_MD_changed_92 rfl rfl ?_
            refine zj_bipush (v := 8) hG d_MD_changed_93 rfl ?_
            refine zj_iload_n hG d_MD_changed_95 rfl rfl ?_
            refine zj_iload_n hG d_MD_changed_96 rfl rfl ?_
            refine zj_iload hG d_MD_changed_97 rfl ?_
            refine zj_iconst (v := 0) hG d_MD_changed_99 rfl ?_
            refine zj_iconst (v := 0) hG d_MD_changed_100 rfl ?_
            refine zj_callT (y' := m_MD_known) hG (zcP (as := [_, _, _, _, _, _]) hG d_MD_changed_101 c_MD_known (z_w7 29 rfl) (z_w7 31 rfl) (z_w7 30 rfl) (z_w7 8 rfl) rfl ⟨by decide, by decide⟩ hT.1 (by decide) (by decide) (show _ = some 6 from by decide +kernel) rfl) c_MD_known rfl (by omega) rfl (z_le rfl) (z_le rfl) (k_MD_known hG hT hS hl _ _ _ _ _ _) (fun v101 N101 e101 => ?_)
            refine zj_goto (tgt := 121) hG d_MD_changed_104 (by decide) ?_
            exact zj_iret hG d_MD_changed_121 rfl rfl ⟨_, _, rfl, rfl, e101⟩
        · exact absurd c19 c40
      · rw [if_pos (tb_d c19)]
        refine zj_aload_n hG d_MD_changed_22 rfl rfl ?_
        refine zj_iload_n hG d_MD_changed_23 rfl rfl ?_
        refine zj_iconst (v := 0) hG d_MD_changed_24 rfl ?_
        refine zj_callR (y' := m_MD_argument) hG (zcP (as := [_, _]) hG d_MD_changed_25 c_MD_argument (z_w7 136 rfl) (z_w7 138 rfl) (z_w7 137 rfl) (z_w7 8 rfl) rfl ⟨by decide, by decide⟩ hT.1 (by decide) (by decide) (show _ = some 2 from by decide +kernel) rfl) c_MD_argument rfl (by omega) rfl (z_le rfl) (z_le rfl) ha0 ?_
        refine zj_i2l hG d_MD_changed_28 ?_
        refine zj_goto (tgt := 33) hG d_MD_changed_29 (by decide) ?_
        refine zj_lstore hG d_MD_changed_33 (by decide) rfl rfl ?_
        refine zj_aload_n hG d_MD_changed_35 rfl rfl ?_
        refine zj_iload_n hG d_MD_changed_36 rfl rfl ?_
        refine zj_callR (y' := m_MD_isNumber) hG (zcP (as := [_]) hG d_MD_changed_37 c_MD_isNumber (z_w7 132 rfl) (z_w7 134 rfl) (z_w7 133 rfl) (z_w7 8 rfl) rfl ⟨by decide, by decide⟩ hT.1 (by decide) (by decide) (show _ = some 1 from by decide +kernel) rfl) c_MD_isNumber rfl (by omega) rfl (z_le rfl) (z_le rfl) hn ?_
        refine zj_if_eq (tgt := 87) hG d_MD_changed_40 (by decide) (fun c40 => ?_) (fun c40 => ?_)
        · exact absurd c40 c19
        · refine zj_aload_n hG d_MD_changed_43 rfl rfl ?_
          refine zj_iload hG d_MD_changed_44 rfl ?_
          refine zj_if_eq (tgt := 64) hG d_MD_changed_46 (by decide) (fun c46 => ?_) (fun c46 => ?_)
          · refine zj_iload hG d_MD_changed_64 rfl ?_
            refine zj_i2l hG d_MD_changed_66 ?_
            refine zj_lload hG d_MD_changed_67 rfl ?_
            refine zj_lmul hG d_MD_changed_69 ?_
            refine zj_iload_n hG d_MD_changed_70 rfl rfl ?_
            refine zj_i2l hG d_MD_changed_71 ?_
            refine zj_callR (y' := m_MD_floor) hG (zcS (as := [_, _]) hG d_MD_changed_72 c_MD_floor (z_w7 126 rfl) (z_w7 127 rfl) (z_w1 11 rfl) ⟨by decide, by decide⟩ (show _ = some 2 from by decide +kernel) rfl) c_MD_floor rfl (by omega) rfl (z_le rfl) (z_le rfl) (k_MD_floor hG _ _ ha' _) ?_
            refine zj_iload hG d_MD_changed_75 rfl ?_
            refine zj_iload hG d_MD_changed_77 rfl ?_
            refine zj_callR (y' := m_MD_within) hG (zcS (as := [_, _, _]) hG d_MD_changed_79 c_MD_within (z_w7 148 rfl) (z_w7 149 rfl) (z_w1 11 rfl) ⟨by decide, by decide⟩ (show _ = some 3 from by decide +kernel) rfl) c_MD_within rfl (by omega) rfl (z_le rfl) (z_le rfl) (k_MD_within hG _ _ _ _) ?_
            refine zj_l2i hG d_MD_changed_82 ?_
            refine zj_callT (y' := m_MD_number) hG (zcP (as := [_]) hG d_MD_changed_83 c_MD_number (z_w7 25 rfl) (z_w7 27 rfl) (z_w7 26 rfl) (z_w7 8 rfl) rfl ⟨by decide, by decide⟩ hT.1 (by decide) (by decide) (show _ = some 1 from by decide +kernel) rfl) c_MD_number rfl (by omega) rfl (z_le rfl) (z_le rfl) (k_MD_number hG hT hS hl _) (fun v83 N83 e83 => ?_)
            rw [tb_f c46]
            exact zj_iret hG d_MD_changed_86 rfl rfl ⟨_, _, rfl, rfl, e83⟩
          · refine zj_iload_n hG d_MD_changed_49 rfl rfl ?_
            refine zj_i2l hG d_MD_changed_50 ?_
            refine zj_lload hG d_MD_changed_51 rfl ?_
            refine zj_lmul hG d_MD_changed_53 ?_
            refine zj_iload hG d_MD_changed_54 rfl ?_
            refine zj_i2l hG d_MD_changed_56 ?_
            refine zj_callR (y' := m_MD_floor) hG (zcS (as := [_, _]) hG d_MD_changed_57 c_MD_floor (z_w7 126 rfl) (z_w7 127 rfl) (z_w1 11 rfl) ⟨by decide, by decide⟩ (show _ = some 2 from by decide +kernel) rfl) c_MD_floor rfl (by omega) rfl (z_le rfl) (z_le rfl) (k_MD_floor hG _ _ hb' _) ?_
            refine zj_l2i hG d_MD_changed_60 ?_
            refine zj_goto (tgt := 83) hG d_MD_changed_61 (by decide) ?_
            refine zj_callT (y' := m_MD_number) hG (zcP (as := [_]) hG d_MD_changed_83 c_MD_number (z_w7 25 rfl) (z_w7 27 rfl) (z_w7 26 rfl) (z_w7 8 rfl) rfl ⟨by decide, by decide⟩ hT.1 (by decide) (by decide) (show _ = some 1 from by decide +kernel) rfl) c_MD_number rfl (by omega) rfl (z_le rfl) (z_le rfl) (k_MD_number hG hT hS hl _) (fun v83 N83 e83 => ?_)
            rw [tb_t c46]
            exact zj_iret hG d_MD_changed_86 rfl rfl ⟨_, _, rfl, rfl, e83⟩
    · rw [if_pos c9]
      refine zj_iload_n hG d_MD_changed_12 rfl rfl ?_
      exact zj_iret hG d_MD_changed_13 rfl rfl ⟨_, N, rfl, rfl, rfl, hS, tFr.rfl'⟩
/-- what is kept of a change; the row that comes of it -/
def tchK (l : List Int32) (w : tK) (k a b : Int32) (f : Bool) (lo hi : Int32) : tK :=
  if w.1 = (if f = true then 3 else 2) ∧ l = w.2.2 then tK0 else if tpln (tpln l k a b f lo hi) k a b (!f) lo hi = l then tK0 else ((if f = true then 2 else 3), l, tpln l k a b f lo hi)
def tchR (l : List Int32) (w : tK) (k a b : Int32) (f : Bool) (lo hi : Int32) : List Int32 :=
  if w.1 = (if f = true then 3 else 2) ∧ l = w.2.2 then w.2.1 else tpln l k a b f lo hi
def tsetT (T : List tE) (k : Nat) (t : Int32) : List tE := T.modify k (fun e => (e.1, e.2.1, e.2.2.1, e.2.2.2.1, e.2.2.2.2.1, t))
theorem tsetT_eq {T : List tE} {k : Nat} (hk : k < T.length) (t : Int32) : tsetT T k t = T.set k (T[k].1, T[k].2.1, T[k].2.2.1, T[k].2.2.2.1, T[k].2.2.2.2.1, t) := by
  unfold tsetT
  apply List.ext_getElem?
  intro j
  rw [List.getElem?_modify, List.getElem?_set]
  by_cases g : k = j
  · subst g
    simp [hk]
  · simp [g]
theorem tpln_one {l : List Int32} {k a b : Int32} {f : Bool} {lo hi : Int32} (h : k = 6 ∨ k = 7 → ∃ x, l = [x]) : k = 6 ∨ k = 7 → ∃ x, tpln l k a b f lo hi = [x] := by
  intro g
  obtain ⟨x, rfl⟩ := h g
  unfold tpln
  split
  · exact ⟨_, rfl⟩
  · split
    · exact ⟨_, rfl⟩
    · split
      · exact ⟨x, (isrt_eq (List.Perm.refl _) (by simp)).symm⟩
      · exact ⟨x, rfl⟩
set_option maxRecDepth 4000 in
/-- rows alone (mode 1) -/
theorem k_MD_change1 (hG : zOK G) (hT : twOK q h) (hN : tTab N T) (hK : tWk N K) (hm : N 0 27 = 1) {i s r : Nat} (hs : s < 128) (hi : i < T.length) (hr : r + 7 < 1088) (k a b : Int32) (f : Bool) (hd : k = 6 → ¬ a = 0 ∧ ¬ b = 0) (hx : k = 6 ∨ k = 7 → ∃ x, eR T[i] = [x]) :
    zJ G 3 m_MD_change 0 [some (zA q), some (zI (nI i)), some (zI k), some (zI a), some (zI b), some (zI (tb f)), some (zI (nI s)), some (zI (nI r)), none, none] [] (twp q h N) (fun o h' => ∃ N', o = zR0 ∧ h' = twp q h N' ∧ (tTab N' (tsetR T i (tchR (eR T[i]) (K s) k a b f (N 9 (r + 6)) (N 9 (r + 7)))) ∧ tWk N' (zw K s (tchK (eR T[i]) (K s) k a b f (N 9 (r + 6)) (N 9 (r + 7)))) ∧ tFr pB N N')) := by
  have hl := hN.l
  obtain ⟨a1, a2, a3, a4, a5, a8⟩ := hN.at hi
  obtain ⟨w1, w2, w3⟩ := hK s hs
  have fA : ∀ {M : Nat → Nat → Int32}, (∀ o i, pT o i = false → pK o i = false → o ≠ 28 → o ≠ 29 → M o i = N o i) → tFr pB N M := by
    intro M hM o j e
    simp [pB] at e
    refine hM o j e.1.1.1.1 ?_ (by omega) (by omega)
    simp [pK]
    omega
  refine zj_aload_n hG d_MD_change_0 rfl rfl ?_
  refine t_getI hG hT d_MD_change_1 f_MD_118 rfl ?_
  refine zj_iconst (v := 2) hG d_MD_change_4 rfl ?_
  rw [hm]
  refine zj_icmp_ne (tgt := 50) hG d_MD_change_5 (by decide) (fun c5 => ?_) (fun c5 => ?_)
  rotate_left
  · exact absurd c5 (by decide)
  refine zj_aload_n hG d_MD_change_50 rfl rfl ?_
  refine t_getI hG hT d_MD_change_51 f_MD_118 rfl ?_
  refine zj_iconst (v := 1) hG d_MD_change_54 rfl ?_
  rw [hm]
  refine zj_icmp_eq (tgt := 59) hG d_MD_change_55 (by decide) (fun c55 => ?_) (fun c55 => ?_)
  rotate_left
  · exact absurd rfl c55
  refine zj_aload_n hG d_MD_change_59 rfl rfl ?_
  refine t_getA (o := 20) hG hT d_MD_change_60 f_MD_71 rfl rfl ?_
  refine zj_iload hG d_MD_change_63 rfl ?_
  refine t_ald (s) hG hT d_MD_change_65 (by first | decide | omega) (by first | decide | omega) rfl hs ?_
  refine zj_istore hG d_MD_change_66 (by decide) rfl rfl ?_
  refine zj_bipush (v := 14) hG d_MD_change_68 rfl ?_
  refine zj_iload hG d_MD_change_70 rfl ?_
  refine zj_imul hG d_MD_change_72 ?_
  refine zj_istore hG d_MD_change_73 (by decide) rfl rfl ?_
  rw [w1, nI_14]
  refine zj_aload_n hG d_MD_change_75 rfl rfl ?_
  refine t_getA (o := 20) hG hT d_MD_change_76 f_MD_71 rfl rfl ?_
  refine zj_iload hG d_MD_change_79 rfl ?_
  refine zj_iconst (v := 0) hG d_MD_change_81 rfl ?_
  refine t_ast (s) hG hT d_MD_change_82 (by first | decide | omega) (by first | decide | omega) rfl hs ?_
  -- the common end: nothing that was kept serves
  have rest : ∀ (hno : ¬ ((K s).1 = (if f = true then 3 else 2) ∧ eR T[i] = (K s).2.2)), zJ G 3 m_MD_change 139 [some (zA q), some (zI (nI i)), some (zI k), some (zI a), some (zI b), some (zI (tb f)), some (zI (nI s)), some (zI (nI r)), some (zI (K s).1), some (zI (nI (14 * s)))] [] (twp q h (zu N 20 s 0)) (fun o h' => ∃ N', o = zR0 ∧ h' = twp q h N' ∧ (tTab N' (tsetR T i (tchR (eR T[i]) (K s) k a b f (N 9 (r + 6)) (N 9 (r + 7)))) ∧ tWk N' (zw K s (tchK (eR T[i]) (K s) k a b f (N 9 (r + 6)) (N 9 (r + 7)))) ∧ tFr pB N N')) := by
    intro hno
    rw [tchR, if_neg hno, tchK, if_neg hno]
    have r1 : tRow (zu N 20 s 0) 18 (7 * i) (eR T[i]) := a5.fr (fun _ _ _ => zu_a (by omega))
    generalize hm1 : tpln (eR T[i]) k a b f (N 9 (r + 6)) (N 9 (r + 7)) = m1
    have hx1 : k = 6 ∨ k = 7 → ∃ x, m1 = [x] := by
      rw [← hm1]
      exact tpln_one hx
    have fin : ∀ (M : Nat → Nat → Int32) (w : tK), (∀ o j, pT o j = true → M o j = N o j) → (∀ o j, pT o j = false → pK o j = false → o ≠ 28 → o ≠ 29 → M o j = N o j) → tRow M 28 0 m1 → tWk M (zw K s w) → zJ G 3 m_MD_change 296 [some (zA q), some (zI (nI i)), some (zI k), some (zI a), some (zI b), some (zI (tb f)), some (zI (nI s)), some (zI (nI r)), some (zI (K s).1), some (zI (nI (14 * s)))] [] (twp q h M) (fun o h' => ∃ N', o = zR0 ∧ h' = twp q h N' ∧ (tTab N' (tsetR T i m1) ∧ tWk N' (zw K s w) ∧ tFr pB N N')) := by
      intro M w g1 g2 g3 g4
      refine zj_aload_n hG d_MD_change_296 rfl rfl ?_
      refine t_getA (o := 28) hG hT d_MD_change_297 f_MD_95 rfl rfl ?_
      refine zj_iconst (v := 0) hG d_MD_change_300 rfl ?_
      refine zj_aload_n hG d_MD_change_301 rfl rfl ?_
      refine t_getA (o := 18) hG hT d_MD_change_302 f_MD_65 rfl rfl ?_
      refine zj_bipush (v := 7) hG d_MD_change_305 rfl ?_
      refine zj_iload_n hG d_MD_change_307 rfl rfl ?_
      refine zj_imul hG d_MD_change_308 ?_
      rw [nI_7]
      refine zj_callV (y' := m_MD_copyRow) hG (zcS (as := [_, _, _, _]) hG d_MD_change_309 c_MD_copyRow (z_w7 103 rfl) (z_w7 104 rfl) (z_w1 11 rfl) ⟨by decide, by decide⟩ (show _ = some 4 from by decide +kernel) rfl) c_MD_copyRow rfl (by omega) rfl (z_le rfl) (z_le rfl) (k_MD_copyRow (b1 := 0) hG hT _ (by decide) (by decide) (by decide) (by show _ ≤ 182; omega) (by omega)) ?_
      refine zj_vret hG d_MD_change_312 rfl ⟨_, rfl, rfl, ?_, ?_, ?_⟩
      · rw [tsetR_eq hi]
        refine hN.r hi (fun o j e g => ?_) (tcp_row g3)
        rw [tcp_n g]
        exact g1 o j e
      · exact g4.fr (P := pT) (fun o j e => tcp_n (by simp [pT] at e; omega)) (by intro o i e; simp [pK] at e; simp [pT]; omega)
      · refine fA (fun o j e1 e2 e3 e4 => ?_)
        rw [tcp_n (by simp [pT] at e1; omega)]
        exact g2 o j e1 e2 e3 e4
    refine zj_aload_n hG d_MD_change_139 rfl rfl ?_
    refine t_getA (o := 18) hG hT d_MD_change_140 f_MD_65 rfl rfl ?_
    refine zj_bipush (v := 7) hG d_MD_change_143 rfl ?_
    refine zj_iload_n hG d_MD_change_145 rfl rfl ?_
    refine zj_imul hG d_MD_change_146 ?_
    refine zj_iload_n hG d_MD_change_147 rfl rfl ?_
    refine zj_iload_n hG d_MD_change_148 rfl rfl ?_
    refine zj_iload hG d_MD_change_149 rfl ?_
    refine zj_iload hG d_MD_change_151 rfl ?_
    refine zj_aload_n hG d_MD_change_153 rfl rfl ?_
    refine t_getA (o := 9) hG hT d_MD_change_154 f_MD_38 rfl rfl ?_
    refine zj_iload hG d_MD_change_157 rfl ?_
    refine zj_bipush (v := 6) hG d_MD_change_159 rfl ?_
    refine zj_iadd hG d_MD_change_161 ?_
    refine t_ald (r + 6) hG hT d_MD_change_162 (by first | decide | omega) (by first | decide | omega) (nI_a6 _) (by show _ < 1088; omega) ?_
    refine zj_aload_n hG d_MD_change_163 rfl rfl ?_
    refine t_getA (o := 9) hG hT d_MD_change_164 f_MD_38 rfl rfl ?_
    refine zj_iload hG d_MD_change_167 rfl ?_
    refine zj_bipush (v := 7) hG d_MD_change_169 rfl ?_
    refine zj_iadd hG d_MD_change_171 ?_
    refine t_ald (r + 7) hG hT d_MD_change_172 (by first | decide | omega) (by first | decide | omega) (nI_a7 _) (by show _ < 1088; omega) ?_
    refine zj_aload_n hG d_MD_change_173 rfl rfl ?_
    refine t_getA (o := 28) hG hT d_MD_change_174 f_MD_95 rfl rfl ?_
    rw [nI_7, zu_a (show (9 : Nat) ≠ 20 by omega), zu_a (show (9 : Nat) ≠ 20 by omega)]
    refine zj_callU (y' := m_MD_plain) hG (zcS (as := [_, _, _, _, _, _, _, _, _]) hG d_MD_change_177 c_MD_plain (z_w7 154 rfl) (z_w7 155 rfl) (z_w1 11 rfl) ⟨by decide, by decide⟩ (show _ = some 9 from by decide +kernel) rfl) c_MD_plain rfl (by omega) rfl (z_le rfl) (z_le rfl) (k_MD_plain (o1 := 18) (o2 := 28) hG hT (by decide) (Or.inl rfl) (by decide) (by show _ ≤ 182; omega) r1 k a b f _ _ hd hx) (fun N177 e177 => ?_)
    obtain ⟨p1, p2⟩ := e177
    rw [hm1] at p1
    have go2 : ∀ (c : Int32), c = tb (!f) → zJ G 3 m_MD_change 199 [some (zA q), some (zI (nI i)), some (zI k), some (zI a), some (zI b), some (zI (tb f)), some (zI (nI s)), some (zI (nI r)), some (zI (K s).1), some (zI (nI (14 * s)))] [zI c, zI b, zI a, zI k, zI 0, zA (q + 28)] (twp q h N177) (fun o h' => ∃ N', o = zR0 ∧ h' = twp q h N' ∧ (tTab N' (tsetR T i m1) ∧ tWk N' (zw K s (if tpln m1 k a b (!f) (N 9 (r + 6)) (N 9 (r + 7)) = eR T[i] then tK0 else ((if f = true then 2 else 3), eR T[i], m1))) ∧ tFr pB N N')) := by
      intro c hc
      subst hc
      refine zj_aload_n hG d_MD_change_199 rfl rfl ?_
      refine t_getA (o := 9) hG hT d_MD_change_200 f_MD_38 rfl rfl ?_
      refine zj_iload hG d_MD_change_203 rfl ?_
      refine zj_bipush (v := 6) hG d_MD_change_205 rfl ?_
      refine zj_iadd hG d_MD_change_207 ?_
      refine t_ald (r + 6) hG hT d_MD_change_208 (by first | decide | omega) (by first | decide | omega) (nI_a6 _) (by show _ < 1088; omega) ?_
      refine zj_aload_n hG d_MD_change_209 rfl rfl ?_
      refine t_getA (o := 9) hG hT d_MD_change_210 f_MD_38 rfl rfl ?_
      refine zj_iload hG d_MD_change_213 rfl ?_
      refine zj_bipush (v := 7) hG d_MD_change_215 rfl ?_
      refine zj_iadd hG d_MD_change_217 ?_
      refine t_ald (r + 7) hG hT d_MD_change_218 (by first | decide | omega) (by first | decide | omega) (nI_a7 _) (by show _ < 1088; omega) ?_
      refine zj_aload_n hG d_MD_change_219 rfl rfl ?_
      refine t_getA (o := 29) hG hT d_MD_change_220 f_MD_98 rfl rfl ?_
      rw [p2 9 (r + 6) (by omega), p2 9 (r + 7) (by omega), zu_a (show (9 : Nat) ≠ 20 by omega), zu_a (show (9 : Nat) ≠ 20 by omega)]
      refine zj_callU (y' := m_MD_plain) hG (zcS (as := [_, _, _, _, _, _, _, _, _]) hG d_MD_change_223 c_MD_plain (z_w7 154 rfl) (z_w7 155 rfl) (z_w1 11 rfl) ⟨by decide, by decide⟩ (show _ = some 9 from by decide +kernel) rfl) c_MD_plain rfl (by omega) rfl (z_le rfl) (z_le rfl) (k_MD_plain (o1 := 28) (b1 := 0) (o2 := 29) hG hT (by decide) (Or.inr rfl) (by decide) (by decide) p1 k a b (!f) _ _ hd hx1) (fun N223 e223 => ?_)
      obtain ⟨p3, p4⟩ := e223
      have q1 : ∀ o j, o ≠ 28 → o ≠ 29 → N223 o j = zu N 20 s 0 o j := fun o j e1 e2 => (p4 o j e2).trans (p2 o j e1)
      have q2 : tRow N223 28 0 m1 := p1.fr (fun _ _ _ => p4 28 _ (by omega))
      have q3 : tRow N223 18 (7 * i) (eR T[i]) := r1.fr (fun j _ _ => q1 18 j (by omega) (by omega))
      have q4 : tWk N223 (zw K s tK0) := (hK.z s).fr (P := fun o _ => o == 28 || o == 29) (fun o j e => q1 o j (by simp at e; omega) (by simp at e; omega)) (by intro o i e; simp [pK] at e; simp; omega)
      have q5 : ∀ o j, pT o j = true → N223 o j = N o j := fun o j e => (q1 o j (by simp [pT] at e; omega) (by simp [pT] at e; omega)).trans (zu_a (by simp [pT] at e; omega))
      have q6 : ∀ o j, pT o j = false → pK o j = false → o ≠ 28 → o ≠ 29 → N223 o j = N o j := fun o j _ e2 e3 e4 => (q1 o j e3 e4).trans (zu_a (by simp [pK] at e2; omega))
      refine zj_aload_n hG d_MD_change_226 rfl rfl ?_
      refine t_getA (o := 29) hG hT d_MD_change_227 f_MD_98 rfl rfl ?_
      refine zj_iconst (v := 0) hG d_MD_change_230 rfl ?_
      refine zj_aload_n hG d_MD_change_231 rfl rfl ?_
      refine t_getA (o := 18) hG hT d_MD_change_232 f_MD_65 rfl rfl ?_
      refine zj_bipush (v := 7) hG d_MD_change_235 rfl ?_
      refine zj_iload_n hG d_MD_change_237 rfl rfl ?_
      refine zj_imul hG d_MD_change_238 ?_
      rw [nI_7]
      refine zj_callR (y' := m_MD_sameRow) hG (zcS (as := [_, _, _, _]) hG d_MD_change_239 c_MD_sameRow (z_w7 151 rfl) (z_w7 152 rfl) (z_w1 11 rfl) ⟨by decide, by decide⟩ (show _ = some 4 from by decide +kernel) rfl) c_MD_sameRow rfl (by omega) rfl (z_le rfl) (z_le rfl) (k_MD_sameRow (o1 := 29) (b1 := 0) (o2 := 18) hG hT (by decide) (by decide) (by decide) (by show _ ≤ 182; omega) p3 q3) ?_
      refine zj_if_ne (tgt := 296) hG d_MD_change_242 (by decide) (fun c242 => ?_) (fun c242 => ?_)
      · rw [if_pos (tb_d c242)]
        exact fin N223 tK0 q5 q6 q2 q4
      · rw [if_neg (tb_n c242)]
        have st : ∀ (c : Int32), c = (if f = true then 2 else 3) → zJ G 3 m_MD_change 261 [some (zA q), some (zI (nI i)), some (zI k), some (zI a), some (zI b), some (zI (tb f)), some (zI (nI s)), some (zI (nI r)), some (zI (K s).1), some (zI (nI (14 * s)))] [zI c, zI (nI s), zA (q + 20)] (twp q h N223) (fun o h' => ∃ N', o = zR0 ∧ h' = twp q h N' ∧ (tTab N' (tsetR T i m1) ∧ tWk N' (zw K s ((if f = true then 2 else 3), eR T[i], m1)) ∧ tFr pB N N')) := by
          intro c hc
          rw [← hc]
          refine t_ast (s) hG hT d_MD_change_261 (by first | decide | omega) (by first | decide | omega) rfl hs ?_
          refine zj_aload_n hG d_MD_change_262 rfl rfl ?_
          refine t_getA (o := 18) hG hT d_MD_change_263 f_MD_65 rfl rfl ?_
          refine zj_bipush (v := 7) hG d_MD_change_266 rfl ?_
          refine zj_iload_n hG d_MD_change_268 rfl rfl ?_
          refine zj_imul hG d_MD_change_269 ?_
          refine zj_aload_n hG d_MD_change_270 rfl rfl ?_
          refine t_getA (o := 21) hG hT d_MD_change_271 f_MD_74 rfl rfl ?_
          refine zj_iload hG d_MD_change_274 rfl ?_
          rw [nI_7]
          refine zj_callV (y' := m_MD_copyRow) hG (zcS (as := [_, _, _, _]) hG d_MD_change_276 c_MD_copyRow (z_w7 103 rfl) (z_w7 104 rfl) (z_w1 11 rfl) ⟨by decide, by decide⟩ (show _ = some 4 from by decide +kernel) rfl) c_MD_copyRow rfl (by omega) rfl (z_le rfl) (z_le rfl) (k_MD_copyRow hG hT _ (by decide) (by decide) (by show _ ≤ 182; omega) (by show _ ≤ 1792; omega) (by omega)) ?_
          refine zj_aload_n hG d_MD_change_279 rfl rfl ?_
          refine t_getA (o := 28) hG hT d_MD_change_280 f_MD_95 rfl rfl ?_
          refine zj_iconst (v := 0) hG d_MD_change_283 rfl ?_
          refine zj_aload_n hG d_MD_change_284 rfl rfl ?_
          refine t_getA (o := 21) hG hT d_MD_change_285 f_MD_74 rfl rfl ?_
          refine zj_iload hG d_MD_change_288 rfl ?_
          refine zj_bipush (v := 7) hG d_MD_change_290 rfl ?_
          refine zj_iadd hG d_MD_change_292 ?_
          rw [nI_a7]
          refine zj_callV (y' := m_MD_copyRow) hG (zcS (as := [_, _, _, _]) hG d_MD_change_293 c_MD_copyRow (z_w7 103 rfl) (z_w7 104 rfl) (z_w1 11 rfl) ⟨by decide, by decide⟩ (show _ = some 4 from by decide +kernel) rfl) c_MD_copyRow rfl (by omega) rfl (z_le rfl) (z_le rfl) (k_MD_copyRow (b1 := 0) hG hT _ (by decide) (by decide) (by decide) (by show _ ≤ 1792; omega) (by omega)) ?_
          refine fin _ _ (fun o j e => ?_) (fun o j e1 e2 e3 e4 => ?_) ?_ ?_
          · have : o ≠ 20 ∧ o ≠ 21 := by simp [pT] at e; omega
            rw [tcp_n (by omega), tcp_n (by omega), zu_a this.1]
            exact q5 o j e
          · have : o ≠ 20 ∧ o ≠ 21 := by simp [pK] at e2; omega
            rw [tcp_n (by omega), tcp_n (by omega), zu_a this.1]
            exact q6 o j e1 e2 e3 e4
          · exact q2.fr (fun j _ _ => by rw [tcp_n (by omega), tcp_n (by omega), zu_a (by omega)])
          · have e0 : zw K s (c, eR T[i], m1) = zw (zw K s tK0) s (c, eR T[i], m1) := by
              funext j
              unfold zw
              split <;> rfl
            rw [e0]
            refine q4.up (fun o j e g1 g2 => ?_) ⟨?_, fun _ => ?_, fun _ => ?_⟩
            · rw [tcp_n (by omega), tcp_n (by omega), zu, if_neg g1]
            · rw [tcp_n (by omega), tcp_n (by omega), zu_s]
            · refine (tcp_row (N := zu N223 20 s c) (o1 := 18) (b1 := 7 * i) (o2 := 21) (b2 := 14 * s) (q3.fr (fun j _ _ => zu_a (by omega)))).fr (fun j _ _ => tcp_n (by omega))
            · exact tcp_row (q2.fr (fun j _ _ => by rw [tcp_n (by omega), zu_a (by omega)]))
        refine zj_aload_n hG d_MD_change_245 rfl rfl ?_
        refine t_getA (o := 20) hG hT d_MD_change_246 f_MD_71 rfl rfl ?_
        refine zj_iload hG d_MD_change_249 rfl ?_
        refine zj_iload hG d_MD_change_251 rfl ?_
        refine zj_if_eq (tgt := 260) hG d_MD_change_253 (by decide) (fun c253 => ?_) (fun c253 => ?_)
        · refine zj_iconst (v := 3) hG d_MD_change_260 rfl ?_
          exact st 3 (by rw [tb_f c253]; rfl)
        · refine zj_iconst (v := 2) hG d_MD_change_256 rfl ?_
          refine zj_goto (tgt := 261) hG d_MD_change_257 (by decide) ?_
          exact st 2 (by rw [tb_t c253]; rfl)
    refine zj_aload_n hG d_MD_change_180 rfl rfl ?_
    refine t_getA (o := 28) hG hT d_MD_change_181 f_MD_95 rfl rfl ?_
    refine zj_iconst (v := 0) hG d_MD_change_184 rfl ?_
    refine zj_iload_n hG d_MD_change_185 rfl rfl ?_
    refine zj_iload_n hG d_MD_change_186 rfl rfl ?_
    refine zj_iload hG d_MD_change_187 rfl ?_
    refine zj_iload hG d_MD_change_189 rfl ?_
    refine zj_if_ne (tgt := 198) hG d_MD_change_191 (by decide) (fun c191 => ?_) (fun c191 => ?_)
    · refine zj_iconst (v := 0) hG d_MD_change_198 rfl ?_
      exact go2 0 (by rw [tb_t c191]; rfl)
    · refine zj_iconst (v := 1) hG d_MD_change_194 rfl ?_
      refine zj_goto (tgt := 199) hG d_MD_change_195 (by decide) ?_
      exact go2 1 (by rw [tb_f c191]; rfl)
  have fno : ∀ g : ¬ (K s).1 = (if f = true then 3 else 2), ¬ ((K s).1 = (if f = true then 3 else 2) ∧ eR T[i] = (K s).2.2) := fun g e => g e.1
  have cmp : ∀ (c : Int32), c = (if f = true then 3 else 2) → zJ G 3 m_MD_change 95 [some (zA q), some (zI (nI i)), some (zI k), some (zI a), some (zI b), some (zI (tb f)), some (zI (nI s)), some (zI (nI r)), some (zI (K s).1), some (zI (nI (14 * s)))] [zI c, zI (K s).1] (twp q h (zu N 20 s 0)) (fun o h' => ∃ N', o = zR0 ∧ h' = twp q h N' ∧ (tTab N' (tsetR T i (tchR (eR T[i]) (K s) k a b f (N 9 (r + 6)) (N 9 (r + 7)))) ∧ tWk N' (zw K s (tchK (eR T[i]) (K s) k a b f (N 9 (r + 6)) (N 9 (r + 7)))) ∧ tFr pB N N')) := by
    intro c hc
    refine zj_icmp_ne (tgt := 139) hG d_MD_change_95 (by decide) (fun c95 => ?_) (fun c95 => ?_)
    · rw [hc] at c95
      exact rest (fno c95)
    rw [hc] at c95
    have hk23 : (K s).1 = 2 ∨ (K s).1 = 3 := by
      rw [c95]
      cases f
      · left; rfl
      · right; rfl
    have w3' := w3 hk23
    have w2' := w2 (by rcases hk23 with e | e <;> rw [e] <;> decide)
    have r1 : tRow (zu N 20 s 0) 18 (7 * i) (eR T[i]) := a5.fr (fun _ _ _ => zu_a (by omega))
    have r2 : tRow (zu N 20 s 0) 21 (14 * s + 7) (K s).2.2 := w3'.fr (fun _ _ _ => zu_a (by omega))
    have r3 : tRow (zu N 20 s 0) 21 (14 * s) (K s).2.1 := w2'.fr (fun _ _ _ => zu_a (by omega))
    refine zj_aload_n hG d_MD_change_98 rfl rfl ?_
    refine t_getA (o := 18) hG hT d_MD_change_99 f_MD_65 rfl rfl ?_
    refine zj_bipush (v := 7) hG d_MD_change_102 rfl ?_
    refine zj_iload_n hG d_MD_change_104 rfl rfl ?_
    refine zj_imul hG d_MD_change_105 ?_
    refine zj_aload_n hG d_MD_change_106 rfl rfl ?_
    refine t_getA (o := 21) hG hT d_MD_change_107 f_MD_74 rfl rfl ?_
    refine zj_iload hG d_MD_change_110 rfl ?_
    refine zj_bipush (v := 7) hG d_MD_change_112 rfl ?_
    refine zj_iadd hG d_MD_change_114 ?_
    rw [nI_7, nI_a7]
    refine zj_callR (y' := m_MD_sameRow) hG (zcS (as := [_, _, _, _]) hG d_MD_change_115 c_MD_sameRow (z_w7 151 rfl) (z_w7 152 rfl) (z_w1 11 rfl) ⟨by decide, by decide⟩ (show _ = some 4 from by decide +kernel) rfl) c_MD_sameRow rfl (by omega) rfl (z_le rfl) (z_le rfl) (k_MD_sameRow hG hT (by decide) (by decide) (by show _ ≤ 182; omega) (by show _ ≤ 1792; omega) r1 r2) ?_
    refine zj_if_eq (tgt := 139) hG d_MD_change_118 (by decide) (fun c118 => ?_) (fun c118 => ?_)
    · exact rest (fun e => tb_n c118 e.2)
    have hsame := tb_d c118
    refine zj_aload_n hG d_MD_change_121 rfl rfl ?_
    refine t_getA (o := 21) hG hT d_MD_change_122 f_MD_74 rfl rfl ?_
    refine zj_iload hG d_MD_change_125 rfl ?_
    refine zj_aload_n hG d_MD_change_127 rfl rfl ?_
    refine t_getA (o := 18) hG hT d_MD_change_128 f_MD_65 rfl rfl ?_
    refine zj_bipush (v := 7) hG d_MD_change_131 rfl ?_
    refine zj_iload_n hG d_MD_change_133 rfl rfl ?_
    refine zj_imul hG d_MD_change_134 ?_
    rw [nI_7]
    refine zj_callV (y' := m_MD_copyRow) hG (zcS (as := [_, _, _, _]) hG d_MD_change_135 c_MD_copyRow (z_w7 103 rfl) (z_w7 104 rfl) (z_w1 11 rfl) ⟨by decide, by decide⟩ (show _ = some 4 from by decide +kernel) rfl) c_MD_copyRow rfl (by omega) rfl (z_le rfl) (z_le rfl) (k_MD_copyRow hG hT _ (by decide) (by decide) (by show _ ≤ 1792; omega) (by show _ ≤ 182; omega) (by omega)) ?_
    rw [tchR, if_pos ⟨c95, hsame⟩, tchK, if_pos ⟨c95, hsame⟩]
    refine zj_vret hG d_MD_change_138 rfl ⟨_, rfl, rfl, ?_, ?_, ?_⟩
    · rw [tsetR_eq hi]
      refine hN.r hi (fun o j e g => ?_) (tcp_row r3)
      rw [tcp_n g, zu_a (by simp [pT] at e; omega)]
    · refine (hK.z s).fr (P := pT) (fun o j e => tcp_n (by simp [pT] at e; omega)) (by intro o i e; simp [pK] at e; simp [pT]; omega)
    · refine fA (fun o j e1 e2 _ _ => ?_)
      rw [tcp_n (by simp [pT] at e1; omega), zu_a (by simp [pK] at e2; omega)]
  refine zj_iload hG d_MD_change_83 rfl ?_
  refine zj_iload hG d_MD_change_85 rfl ?_
  refine zj_if_eq (tgt := 94) hG d_MD_change_87 (by decide) (fun c87 => ?_) (fun c87 => ?_)
  · refine zj_iconst (v := 2) hG d_MD_change_94 rfl ?_
    exact cmp 2 (by rw [tb_f c87]; rfl)
  · refine zj_iconst (v := 3) hG d_MD_change_90 rfl ?_
    refine zj_goto (tgt := 95) hG d_MD_change_91 (by decide) ?_
    exact cmp 3 (by rw [tb_t c87]; rfl)
end MD7
