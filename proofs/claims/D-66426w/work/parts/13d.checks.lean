/-! PART 13d: the four helpers that throw -/
set_option maxRecDepth 20000 in
theorem tw_need : zTW "LensPaths" 110 112 114 17 "not as said" := by
  refine ⟨by decide, by decide, by decide +kernel, by decide +kernel, by decide +kernel, by decide +kernel, by decide +kernel, by decide +kernel, by decide +kernel⟩
set_option maxRecDepth 20000 in
theorem tw_state : zTW "LensPaths" 117 119 121 16 "not now" := by
  refine ⟨by decide, by decide, by decide +kernel, by decide +kernel, by decide +kernel, by decide +kernel, by decide +kernel, by decide +kernel, by decide +kernel⟩
set_option maxRecDepth 20000 in
theorem tw_room : zTW "LensPaths" 122 124 126 19 "too many" := by
  refine ⟨by decide, by decide, by decide +kernel, by decide +kernel, by decide +kernel, by decide +kernel, by decide +kernel, by decide +kernel, by decide +kernel⟩
set_option maxRecDepth 20000 in
theorem tw_there : zTW "LensPaths" 127 129 131 18 "not there" := by
  refine ⟨by decide, by decide, by decide +kernel, by decide +kernel, by decide +kernel, by decide +kernel, by decide +kernel, by decide +kernel, by decide +kernel⟩
set_option maxRecDepth 20000 in
theorem tw_join : zTW "LensPaths$Card" 140 142 144 20 "cannot be taken" := by
  refine ⟨by decide, by decide, by decide +kernel, by decide +kernel, by decide +kernel, by decide +kernel, by decide +kernel, by decide +kernel, by decide +kernel⟩
section ZHELP
variable {G : zG}
/-- a check: it returns where the answer is right, else it throws a new object of kind kx -/
def zChk (b : Int32) (kx : Nat) (h : zH) : zO → zH → Prop := fun o h' => (b ≠ 0 ∧ o = zR0 ∧ h' = h) ∨ (b = 0 ∧ o = zX kx (zn h) ∧ h' = znew h kx 6 0)
theorem k_LP_need (hG : zOK G) (b : Int32) {h : zH} (hn : zn h + 1 ≤ g0 G + 603072) (hs : zs h + 6 ≤ 7211114) : zJ G 8 m_LP_need 0 [some (zI b)] [] h (zChk b 17 h) := by
  refine zj_iload_n hG d_LP_need_0 rfl rfl ?_
  refine zj_if_ne (tgt := 14) hG d_LP_need_1 (by decide) (fun c => ?_) (fun c => ?_)
  · exact zj_vret hG d_LP_need_14 rfl (Or.inl ⟨c, rfl, rfl⟩)
  · exact zj_throw hG d_LP_need_4 d_LP_need_7 d_LP_need_8 d_LP_need_10 d_LP_need_13 tw_need rfl (Nat.le_refl _) hn hs (Or.inr ⟨c, rfl, rfl⟩)
theorem k_LP_state (hG : zOK G) (b : Int32) {h : zH} (hn : zn h + 1 ≤ g0 G + 603072) (hs : zs h + 6 ≤ 7211114) : zJ G 8 m_LP_state 0 [some (zI b)] [] h (zChk b 16 h) := by
  refine zj_iload_n hG d_LP_state_0 rfl rfl ?_
  refine zj_if_ne (tgt := 14) hG d_LP_state_1 (by decide) (fun c => ?_) (fun c => ?_)
  · exact zj_vret hG d_LP_state_14 rfl (Or.inl ⟨c, rfl, rfl⟩)
  · exact zj_throw hG d_LP_state_4 d_LP_state_7 d_LP_state_8 d_LP_state_10 d_LP_state_13 tw_state rfl (Nat.le_refl _) hn hs (Or.inr ⟨c, rfl, rfl⟩)
theorem k_LP_room (hG : zOK G) (b : Int32) {h : zH} (hn : zn h + 1 ≤ g0 G + 603072) (hs : zs h + 6 ≤ 7211114) : zJ G 8 m_LP_room 0 [some (zI b)] [] h (zChk b 19 h) := by
  refine zj_iload_n hG d_LP_room_0 rfl rfl ?_
  refine zj_if_ne (tgt := 14) hG d_LP_room_1 (by decide) (fun c => ?_) (fun c => ?_)
  · exact zj_vret hG d_LP_room_14 rfl (Or.inl ⟨c, rfl, rfl⟩)
  · exact zj_throw hG d_LP_room_4 d_LP_room_7 d_LP_room_8 d_LP_room_10 d_LP_room_13 tw_room rfl (Nat.le_refl _) hn hs (Or.inr ⟨c, rfl, rfl⟩)
theorem k_LP_there (hG : zOK G) (b : Int32) {h : zH} (hn : zn h + 1 ≤ g0 G + 603072) (hs : zs h + 6 ≤ 7211114) : zJ G 8 m_LP_there 0 [some (zI b)] [] h (zChk b 18 h) := by
  refine zj_iload_n hG d_LP_there_0 rfl rfl ?_
  refine zj_if_ne (tgt := 14) hG d_LP_there_1 (by decide) (fun c => ?_) (fun c => ?_)
  · exact zj_vret hG d_LP_there_14 rfl (Or.inl ⟨c, rfl, rfl⟩)
  · exact zj_throw hG d_LP_there_4 d_LP_there_7 d_LP_there_8 d_LP_there_10 d_LP_there_13 tw_there rfl (Nat.le_refl _) hn hs (Or.inr ⟨c, rfl, rfl⟩)
end ZHELP
