/-! PART 97d: the component: bridges to a card (printed by gen97d.py) -/
section BR
variable {G : zG} {h : zH} {c a q : Nat}
theorem k_Alg_key (hG : zOK G) (s i : Int32) : zJ G 0 m_Alg_key 0 [some (zI s), some (zI i)] [] h (fun o h' => o = zR (zI (8 * s + i)) ∧ h' = h) := by
  refine zj_bipush (v := 8) hG d_Alg_key_0 rfl ?_
  refine zj_iload_n hG d_Alg_key_2 rfl rfl ?_
  refine zj_imul hG d_Alg_key_3 ?_
  refine zj_iload_n hG d_Alg_key_4 rfl rfl ?_
  refine zj_iadd hG d_Alg_key_5 ?_
  exact zj_iret hG d_Alg_key_6 rfl rfl ⟨rfl, rfl⟩
theorem br_Card_come (hG : zOK G) {d : Nat} (hc : zt h c = 9) (ha : zt h a = 6) {x3 : Int32} {Q : zO → zH → Prop} (hQ : ∀ o h', Q o h' → o = zR0 ∨ ∃ x y, o = zX x y) (k : zJ G d m_Card_come1 0 [some (zA c), some (zA a), some (zA q), some (zI x3), none] [] h Q) : zJ G (d + 1) m_Card_come2 0 [some (zA c), some (zA a), some (zA q), some (zI x3)] [] h Q := by
  refine zj_aload_n hG d_Card_come2_0 rfl rfl ?_
  refine zj_aload_n hG d_Card_come2_1 rfl rfl ?_
  refine zj_cast (k := 6) hG d_Card_come2_2 (z_w1 91 rfl) (by decide) (by decide) (fun _ => ha) ?_
  refine zj_aload_n hG d_Card_come2_5 rfl rfl ?_
  refine zj_iload_n hG d_Card_come2_6 rfl rfl ?_
  refine zj_call (y' := m_Card_come1) hG (zcV (as := [_, _, _]) hG d_Card_come2_7 c_Card_come1 (z_w5 82 rfl) (z_w5 83 rfl) (z_w5 84 rfl) ⟨by decide, by decide⟩ hc (by decide) (by decide) (show _ = some 3 from by decide +kernel) rfl) c_Card_come1 rfl (by omega) rfl (z_le rfl) (z_le rfl) k ?_ ?_
  · intro v h1 e
    rcases hQ _ _ e with g | ⟨x, y, g⟩
    · cases g
      exact zj_vret hG d_Card_come2_10 rfl e
    · cases g
  · exact fun q h1 e => e
theorem br_Card_go (hG : zOK G) {d : Nat} (hc : zt h c = 9) (ha : zt h a = 6) {x3 : Int32} {Q : zO → zH → Prop} (hQ : ∀ o h', Q o h' → o = zR0 ∨ ∃ x y, o = zX x y) (k : zJ G d m_Card_go1 0 [some (zA c), some (zA a), some (zA q), some (zI x3)] [] h Q) : zJ G (d + 1) m_Card_go2 0 [some (zA c), some (zA a), some (zA q), some (zI x3)] [] h Q := by
  refine zj_aload_n hG d_Card_go2_0 rfl rfl ?_
  refine zj_aload_n hG d_Card_go2_1 rfl rfl ?_
  refine zj_cast (k := 6) hG d_Card_go2_2 (z_w1 91 rfl) (by decide) (by decide) (fun _ => ha) ?_
  refine zj_aload_n hG d_Card_go2_5 rfl rfl ?_
  refine zj_iload_n hG d_Card_go2_6 rfl rfl ?_
  refine zj_call (y' := m_Card_go1) hG (zcV (as := [_, _, _]) hG d_Card_go2_7 c_Card_go1 (z_w5 133 rfl) (z_w5 134 rfl) (z_w5 135 rfl) ⟨by decide, by decide⟩ hc (by decide) (by decide) (show _ = some 3 from by decide +kernel) rfl) c_Card_go1 rfl (by omega) rfl (z_le rfl) (z_le rfl) k ?_ ?_
  · intro v h1 e
    rcases hQ _ _ e with g | ⟨x, y, g⟩
    · cases g
      exact zj_vret hG d_Card_go2_10 rfl e
    · cases g
  · exact fun q h1 e => e
theorem br_Card_wrap (hG : zOK G) {d : Nat} (hc : zt h c = 9) (ha : zt h a = 6) {x3 : Int32} {Q : zO → zH → Prop} (hQ : ∀ o h', Q o h' → o = zR0 ∨ ∃ x y, o = zX x y) (k : zJ G d m_Card_wrap1 0 [some (zA c), some (zA a), some (zA q), some (zI x3), none, none] [] h Q) : zJ G (d + 1) m_Card_wrap2 0 [some (zA c), some (zA a), some (zA q), some (zI x3)] [] h Q := by
  refine zj_aload_n hG d_Card_wrap2_0 rfl rfl ?_
  refine zj_aload_n hG d_Card_wrap2_1 rfl rfl ?_
  refine zj_cast (k := 6) hG d_Card_wrap2_2 (z_w1 91 rfl) (by decide) (by decide) (fun _ => ha) ?_
  refine zj_aload_n hG d_Card_wrap2_5 rfl rfl ?_
  refine zj_iload_n hG d_Card_wrap2_6 rfl rfl ?_
  refine zj_call (y' := m_Card_wrap1) hG (zcV (as := [_, _, _]) hG d_Card_wrap2_7 c_Card_wrap1 (z_w5 191 rfl) (z_w5 192 rfl) (z_w5 193 rfl) ⟨by decide, by decide⟩ hc (by decide) (by decide) (show _ = some 3 from by decide +kernel) rfl) c_Card_wrap1 rfl (by omega) rfl (z_le rfl) (z_le rfl) k ?_ ?_
  · intro v h1 e
    rcases hQ _ _ e with g | ⟨x, y, g⟩
    · cases g
      exact zj_vret hG d_Card_wrap2_10 rfl e
    · cases g
  · exact fun q h1 e => e
theorem br_Card_unwrap (hG : zOK G) {d : Nat} (hc : zt h c = 9) (ha : zt h a = 6) {x3 : Int32} {Q : zO → zH → Prop} (hQ : ∀ o h', Q o h' → o = zR0 ∨ ∃ x y, o = zX x y) (k : zJ G d m_Card_unwrap1 0 [some (zA c), some (zA a), some (zA q), some (zI x3)] [] h Q) : zJ G (d + 1) m_Card_unwrap2 0 [some (zA c), some (zA a), some (zA q), some (zI x3)] [] h Q := by
  refine zj_aload_n hG d_Card_unwrap2_0 rfl rfl ?_
  refine zj_aload_n hG d_Card_unwrap2_1 rfl rfl ?_
  refine zj_cast (k := 6) hG d_Card_unwrap2_2 (z_w1 91 rfl) (by decide) (by decide) (fun _ => ha) ?_
  refine zj_aload_n hG d_Card_unwrap2_5 rfl rfl ?_
  refine zj_iload_n hG d_Card_unwrap2_6 rfl rfl ?_
  refine zj_call (y' := m_Card_unwrap1) hG (zcV (as := [_, _, _]) hG d_Card_unwrap2_7 c_Card_unwrap1 (z_w5 169 rfl) (z_w5 170 rfl) (z_w5 171 rfl) ⟨by decide, by decide⟩ hc (by decide) (by decide) (show _ = some 3 from by decide +kernel) rfl) c_Card_unwrap1 rfl (by omega) rfl (z_le rfl) (z_le rfl) k ?_ ?_
  · intro v h1 e
    rcases hQ _ _ e with g | ⟨x, y, g⟩
    · cases g
      exact zj_vret hG d_Card_unwrap2_10 rfl e
    · cases g
  · exact fun q h1 e => e
theorem br_Card_split (hG : zOK G) {d a2 : Nat} (hc : zt h c = 9) (ha : zt h a = 6) (ha2 : zt h a2 = 6) {Q : zO → zH → Prop} (hQ : ∀ o h', Q o h' → o = zR0 ∨ ∃ x y, o = zX x y) (k : zJ G d m_Card_split1 0 [some (zA c), some (zA a), some (zA a2), some (zA q), none] [] h Q) : zJ G (d + 1) m_Card_split2 0 [some (zA c), some (zA a), some (zA a2), some (zA q)] [] h Q := by
  refine zj_aload_n hG d_Card_split2_0 rfl rfl ?_
  refine zj_aload_n hG d_Card_split2_1 rfl rfl ?_
  refine zj_cast (k := 6) hG d_Card_split2_2 (z_w1 91 rfl) (by decide) (by decide) (fun _ => ha) ?_
  refine zj_aload_n hG d_Card_split2_5 rfl rfl ?_
  refine zj_cast (k := 6) hG d_Card_split2_6 (z_w1 91 rfl) (by decide) (by decide) (fun _ => ha2) ?_
  refine zj_aload_n hG d_Card_split2_9 rfl rfl ?_
  refine zj_call (y' := m_Card_split1) hG (zcV (as := [_, _, _]) hG d_Card_split2_10 c_Card_split1 (z_w6 4 rfl) (z_w6 5 rfl) (z_w6 6 rfl) ⟨by decide, by decide⟩ hc (by decide) (by decide) (show _ = some 3 from by decide +kernel) rfl) c_Card_split1 rfl (by omega) rfl (z_le rfl) (z_le rfl) k ?_ ?_
  · intro v h1 e
    rcases hQ _ _ e with g | ⟨x, y, g⟩
    · cases g
      exact zj_vret hG d_Card_split2_13 rfl e
    · cases g
  · exact fun q h1 e => e
theorem br_Card_join (hG : zOK G) {d a2 : Nat} (hc : zt h c = 9) (ha : zt h a = 6) (ha2 : zt h a2 = 6) {Q : zO → zH → Prop} (hQ : ∀ o h', Q o h' → o = zR0 ∨ ∃ x y, o = zX x y) (k : zJ G d m_Card_join1 0 [some (zA c), some (zA a), some (zA a2), some (zA q), none, none] [] h Q) : zJ G (d + 1) m_Card_join2 0 [some (zA c), some (zA a), some (zA a2), some (zA q)] [] h Q := by
  refine zj_aload_n hG d_Card_join2_0 rfl rfl ?_
  refine zj_aload_n hG d_Card_join2_1 rfl rfl ?_
  refine zj_cast (k := 6) hG d_Card_join2_2 (z_w1 91 rfl) (by decide) (by decide) (fun _ => ha) ?_
  refine zj_aload_n hG d_Card_join2_5 rfl rfl ?_
  refine zj_cast (k := 6) hG d_Card_join2_6 (z_w1 91 rfl) (by decide) (by decide) (fun _ => ha2) ?_
  refine zj_aload_n hG d_Card_join2_9 rfl rfl ?_
  refine zj_call (y' := m_Card_join1) hG (zcV (as := [_, _, _]) hG d_Card_join2_10 c_Card_join1 (z_w5 219 rfl) (z_w5 220 rfl) (z_w5 221 rfl) ⟨by decide, by decide⟩ hc (by decide) (by decide) (show _ = some 3 from by decide +kernel) rfl) c_Card_join1 rfl (by omega) rfl (z_le rfl) (z_le rfl) k ?_ ?_
  · intro v h1 e
    rcases hQ _ _ e with g | ⟨x, y, g⟩
    · cases g
      exact zj_vret hG d_Card_join2_13 rfl e
    · cases g
  · exact fun q h1 e => e
theorem br_Card_turned (hG : zOK G) {d : Nat} (hc : zt h c = 9) (ha : zt h a = 6) {x3 x4 : Int32} {Q : zO → zH → Prop} (hQ : ∀ o h', Q o h' → o = zR0 ∨ ∃ x y, o = zX x y) (k : zJ G d m_Card_turned1 0 [some (zA c), some (zA a), some (zA q), some (zI x3), some (zI x4), none] [] h Q) : zJ G (d + 1) m_Card_turned2 0 [some (zA c), some (zA a), some (zA q), some (zI x3), some (zI x4)] [] h Q := by
  refine zj_aload_n hG d_Card_turned2_0 rfl rfl ?_
  refine zj_aload_n hG d_Card_turned2_1 rfl rfl ?_
  refine zj_cast (k := 6) hG d_Card_turned2_2 (z_w1 91 rfl) (by decide) (by decide) (fun _ => ha) ?_
  refine zj_aload_n hG d_Card_turned2_5 rfl rfl ?_
  refine zj_iload_n hG d_Card_turned2_6 rfl rfl ?_
  refine zj_iload hG d_Card_turned2_7 rfl ?_
  refine zj_call (y' := m_Card_turned1) hG (zcV (as := [_, _, _, _]) hG d_Card_turned2_9 c_Card_turned1 (z_w6 32 rfl) (z_w6 33 rfl) (z_w6 34 rfl) ⟨by decide, by decide⟩ hc (by decide) (by decide) (show _ = some 4 from by decide +kernel) rfl) c_Card_turned1 rfl (by omega) rfl (z_le rfl) (z_le rfl) k ?_ ?_
  · intro v h1 e
    rcases hQ _ _ e with g | ⟨x, y, g⟩
    · cases g
      exact zj_vret hG d_Card_turned2_12 rfl e
    · cases g
  · exact fun q h1 e => e
/-- wrapped: the interface's own method -/
theorem br_Card_wrapped (hG : zOK G) {d : Nat} (hc : zt h c = 9) (ha : zt h a = 6) {x3 : Int32} (bk : Bool) {Q : zO → zH → Prop} (hQ : ∀ o h', Q o h' → o = zR0 ∨ ∃ x y, o = zX x y)
    (k1 : bk = true → zJ G d m_Card_unwrap1 0 [some (zA c), some (zA a), some (zA q), some (zI x3)] [] h Q) (k2 : bk = false → zJ G d m_Card_wrap1 0 [some (zA c), some (zA a), some (zA q), some (zI x3), none, none] [] h Q) : zJ G (d + 2) m_Alg_wrapped 0 [some (zA c), some (zA a), some (zA q), some (zI x3), some (zI (tb bk))] [] h Q := by
  refine zj_iload hG d_Alg_wrapped_0 rfl ?_
  cases bk with
  | true =>
    refine zj_if_eq (tgt := 17) hG d_Alg_wrapped_2 (by decide) (fun c => absurd c (by decide)) (fun _ => ?_)
    refine zj_aload_n hG d_Alg_wrapped_5 rfl rfl ?_
    refine zj_aload_n hG d_Alg_wrapped_6 rfl rfl ?_
    refine zj_aload_n hG d_Alg_wrapped_7 rfl rfl ?_
    refine zj_iload_n hG d_Alg_wrapped_8 rfl rfl ?_
    refine zj_call (y' := m_Card_unwrap2) hG (zcF (as := [_, _, _]) (k := 9) hG d_Alg_wrapped_9 c_Card_unwrap2 (z_w5 161 rfl) (z_w5 163 rfl) (z_w5 162 rfl) (z_w5 167 rfl) (z_w5 165 rfl) (z_w5 76 rfl) (z_w5 166 rfl) (z_sel hG (z_w5 164 rfl)) ⟨by decide, by decide⟩ hc (by decide) (by decide) (show _ = some 3 from by decide +kernel) rfl) c_Card_unwrap2 rfl (by omega) rfl (z_le rfl) (z_le rfl) (br_Card_unwrap hG hc ha hQ (k1 rfl)) ?_ ?_
    · intro v h1 e
      rcases hQ _ _ e with g | ⟨x, y, g⟩
      · cases g
        refine zj_goto (tgt := 26) hG d_Alg_wrapped_14 (by decide) ?_
        exact zj_vret hG d_Alg_wrapped_26 rfl e
      · cases g
    · exact fun q h1 e => e
  | false =>
    refine zj_if_eq (tgt := 17) hG d_Alg_wrapped_2 (by decide) (fun _ => ?_) (fun c => absurd rfl c)
    refine zj_aload_n hG d_Alg_wrapped_17 rfl rfl ?_
    refine zj_aload_n hG d_Alg_wrapped_18 rfl rfl ?_
    refine zj_aload_n hG d_Alg_wrapped_19 rfl rfl ?_
    refine zj_iload_n hG d_Alg_wrapped_20 rfl rfl ?_
    refine zj_call (y' := m_Card_wrap2) hG (zcF (as := [_, _, _]) (k := 9) hG d_Alg_wrapped_21 c_Card_wrap2 (z_w5 183 rfl) (z_w5 185 rfl) (z_w5 184 rfl) (z_w5 189 rfl) (z_w5 187 rfl) (z_w5 76 rfl) (z_w5 188 rfl) (z_sel hG (z_w5 186 rfl)) ⟨by decide, by decide⟩ hc (by decide) (by decide) (show _ = some 3 from by decide +kernel) rfl) c_Card_wrap2 rfl (by omega) rfl (z_le rfl) (z_le rfl) (br_Card_wrap hG hc ha hQ (k2 rfl)) ?_ ?_
    · intro v h1 e
      rcases hQ _ _ e with g | ⟨x, y, g⟩
      · cases g
        exact zj_vret hG d_Alg_wrapped_26 rfl e
      · cases g
    · exact fun q h1 e => e
end BR
