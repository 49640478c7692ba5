/-! PART 04: rows of the simple instructions (printed by wip/gen/rows1.py) -/
section ZR
variable {G : zG} {d : Nat} {y : zM} {pc : Nat} {ls : List (Option zV)} {st : List zV} {h : zH} {Q : zO → zH → Prop}
theorem zj_iadd (hG : zOK G) {a b : Int32} (hd : decode y.2.1 pc = .ok (.iadd, 1)) (k : zJ G d y (pc + 1) ls (zI (a + b) :: st) h Q) : zJ G d y pc ls (zI b :: zI a :: st) h Q :=
  fun R s m args below meth c H locs cells slots sB lsR hF hR hl hH hL => lv_iadd hG.ex hF.1 hd (k R s m args below meth c H locs cells slots sB lsR hF hR hl hH hL)
theorem zj_isub (hG : zOK G) {a b : Int32} (hd : decode y.2.1 pc = .ok (.isub, 1)) (k : zJ G d y (pc + 1) ls (zI (a - b) :: st) h Q) : zJ G d y pc ls (zI b :: zI a :: st) h Q :=
  fun R s m args below meth c H locs cells slots sB lsR hF hR hl hH hL => lv_isub hG.ex hF.1 hd (k R s m args below meth c H locs cells slots sB lsR hF hR hl hH hL)
theorem zj_imul (hG : zOK G) {a b : Int32} (hd : decode y.2.1 pc = .ok (.imul, 1)) (k : zJ G d y (pc + 1) ls (zI (a * b) :: st) h Q) : zJ G d y pc ls (zI b :: zI a :: st) h Q :=
  fun R s m args below meth c H locs cells slots sB lsR hF hR hl hH hL => lv_imul hG.ex hF.1 hd (k R s m args below meth c H locs cells slots sB lsR hF hR hl hH hL)
theorem zj_iand (hG : zOK G) {a b : Int32} (hd : decode y.2.1 pc = .ok (.iand, 1)) (k : zJ G d y (pc + 1) ls (zI (a &&& b) :: st) h Q) : zJ G d y pc ls (zI b :: zI a :: st) h Q :=
  fun R s m args below meth c H locs cells slots sB lsR hF hR hl hH hL => lv_iand hG.ex hF.1 hd (k R s m args below meth c H locs cells slots sB lsR hF hR hl hH hL)
theorem zj_ior (hG : zOK G) {a b : Int32} (hd : decode y.2.1 pc = .ok (.ior, 1)) (k : zJ G d y (pc + 1) ls (zI (a ||| b) :: st) h Q) : zJ G d y pc ls (zI b :: zI a :: st) h Q :=
  fun R s m args below meth c H locs cells slots sB lsR hF hR hl hH hL => lv_ior hG.ex hF.1 hd (k R s m args below meth c H locs cells slots sB lsR hF hR hl hH hL)
theorem zj_ixor (hG : zOK G) {a b : Int32} (hd : decode y.2.1 pc = .ok (.ixor, 1)) (k : zJ G d y (pc + 1) ls (zI (a ^^^ b) :: st) h Q) : zJ G d y pc ls (zI b :: zI a :: st) h Q :=
  fun R s m args below meth c H locs cells slots sB lsR hF hR hl hH hL => lv_ixor hG.ex hF.1 hd (k R s m args below meth c H locs cells slots sB lsR hF hR hl hH hL)
theorem zj_ishl (hG : zOK G) {a b : Int32} (hd : decode y.2.1 pc = .ok (.ishl, 1)) (k : zJ G d y (pc + 1) ls (zI (a <<< (b &&& 31)) :: st) h Q) : zJ G d y pc ls (zI b :: zI a :: st) h Q :=
  fun R s m args below meth c H locs cells slots sB lsR hF hR hl hH hL => lv_ishl hG.ex hF.1 hd (k R s m args below meth c H locs cells slots sB lsR hF hR hl hH hL)
theorem zj_ishr (hG : zOK G) {a b : Int32} (hd : decode y.2.1 pc = .ok (.ishr, 1)) (k : zJ G d y (pc + 1) ls (zI (a >>> (b &&& 31)) :: st) h Q) : zJ G d y pc ls (zI b :: zI a :: st) h Q :=
  fun R s m args below meth c H locs cells slots sB lsR hF hR hl hH hL => lv_ishr hG.ex hF.1 hd (k R s m args below meth c H locs cells slots sB lsR hF hR hl hH hL)
theorem zj_iushr (hG : zOK G) {a b : Int32} (hd : decode y.2.1 pc = .ok (.iushr, 1)) (k : zJ G d y (pc + 1) ls (zI ((a.toUInt32 >>> (b.toUInt32 &&& Int32.toUInt32 31)).toInt32) :: st) h Q) : zJ G d y pc ls (zI b :: zI a :: st) h Q :=
  fun R s m args below meth c H locs cells slots sB lsR hF hR hl hH hL => lv_iushr hG.ex hF.1 hd rfl (k R s m args below meth c H locs cells slots sB lsR hF hR hl hH hL)
theorem zj_ladd (hG : zOK G) {a b : Int64} (hd : decode y.2.1 pc = .ok (.ladd, 1)) (k : zJ G d y (pc + 1) ls (zL (a + b) :: st) h Q) : zJ G d y pc ls (zL b :: zL a :: st) h Q :=
  fun R s m args below meth c H locs cells slots sB lsR hF hR hl hH hL => lv_ladd hG.ex hF.1 hd (k R s m args below meth c H locs cells slots sB lsR hF hR hl hH hL)
theorem zj_lsub (hG : zOK G) {a b : Int64} (hd : decode y.2.1 pc = .ok (.lsub, 1)) (k : zJ G d y (pc + 1) ls (zL (a - b) :: st) h Q) : zJ G d y pc ls (zL b :: zL a :: st) h Q :=
  fun R s m args below meth c H locs cells slots sB lsR hF hR hl hH hL => lv_lsub hG.ex hF.1 hd (k R s m args below meth c H locs cells slots sB lsR hF hR hl hH hL)
theorem zj_lmul (hG : zOK G) {a b : Int64} (hd : decode y.2.1 pc = .ok (.lmul, 1)) (k : zJ G d y (pc + 1) ls (zL (a * b) :: st) h Q) : zJ G d y pc ls (zL b :: zL a :: st) h Q :=
  fun R s m args below meth c H locs cells slots sB lsR hF hR hl hH hL => lv_lmul hG.ex hF.1 hd (k R s m args below meth c H locs cells slots sB lsR hF hR hl hH hL)
theorem zj_lxor (hG : zOK G) {a b : Int64} (hd : decode y.2.1 pc = .ok (.lxor, 1)) (k : zJ G d y (pc + 1) ls (zL (a ^^^ b) :: st) h Q) : zJ G d y pc ls (zL b :: zL a :: st) h Q :=
  fun R s m args below meth c H locs cells slots sB lsR hF hR hl hH hL => lv_lxor hG.ex hF.1 hd (k R s m args below meth c H locs cells slots sB lsR hF hR hl hH hL)
theorem zj_lcmp (hG : zOK G) {a b : Int64} (hd : decode y.2.1 pc = .ok (.lcmp, 1)) (k : zJ G d y (pc + 1) ls (zI (lg_cmp a b) :: st) h Q) : zJ G d y pc ls (zL b :: zL a :: st) h Q :=
  fun R s m args below meth c H locs cells slots sB lsR hF hR hl hH hL => W.lcmp hG.ex hF.1 hd (k R s m args below meth c H locs cells slots sB lsR hF hR hl hH hL)
theorem zj_i2l (hG : zOK G) {a : Int32} (hd : decode y.2.1 pc = .ok (.i2l, 1)) (k : zJ G d y (pc + 1) ls (zL a.toInt64 :: st) h Q) : zJ G d y pc ls (zI a :: st) h Q :=
  fun R s m args below meth c H locs cells slots sB lsR hF hR hl hH hL => lv_i2l hG.ex hF.1 hd rfl (k R s m args below meth c H locs cells slots sB lsR hF hR hl hH hL)
theorem zj_l2i (hG : zOK G) {a : Int64} (hd : decode y.2.1 pc = .ok (.l2i, 1)) (k : zJ G d y (pc + 1) ls (zI a.toInt32 :: st) h Q) : zJ G d y pc ls (zL a :: st) h Q :=
  fun R s m args below meth c H locs cells slots sB lsR hF hR hl hH hL => lv_l2i hG.ex hF.1 hd rfl (k R s m args below meth c H locs cells slots sB lsR hF hR hl hH hL)
theorem zj_iconst (hG : zOK G) {n : Int} {v : Int32} (hd : decode y.2.1 pc = .ok (.iconst n, 1)) (hv : Int32.ofInt n = v) (k : zJ G d y (pc + 1) ls (zI v :: st) h Q) : zJ G d y pc ls (st) h Q :=
  fun R s m args below meth c H locs cells slots sB lsR hF hR hl hH hL => lv_iconst hG.ex hF.1 hd hv (k R s m args below meth c H locs cells slots sB lsR hF hR hl hH hL)
theorem zj_bipush (hG : zOK G) {n : Int} {v : Int32} (hd : decode y.2.1 pc = .ok (.bipush n, 2)) (hv : (Int8.ofInt n).toInt32 = v) (k : zJ G d y (pc + 2) ls (zI v :: st) h Q) : zJ G d y pc ls (st) h Q :=
  fun R s m args below meth c H locs cells slots sB lsR hF hR hl hH hL => lv_bipush hG.ex hF.1 hd hv (k R s m args below meth c H locs cells slots sB lsR hF hR hl hH hL)
theorem zj_sipush (hG : zOK G) {n : Int} {v : Int32} (hd : decode y.2.1 pc = .ok (.sipush n, 3)) (hv : (Int16.ofInt n).toInt32 = v) (k : zJ G d y (pc + 3) ls (zI v :: st) h Q) : zJ G d y pc ls (st) h Q :=
  fun R s m args below meth c H locs cells slots sB lsR hF hR hl hH hL => lv_sipush hG.ex hF.1 hd hv (k R s m args below meth c H locs cells slots sB lsR hF hR hl hH hL)
theorem zj_lconst (hG : zOK G) {n : Fin 2} {v : Int64} (hd : decode y.2.1 pc = .ok (.lconst n, 1)) (hv : Int64.ofNat (n : Nat) = v) (k : zJ G d y (pc + 1) ls (zL v :: st) h Q) : zJ G d y pc ls (st) h Q :=
  fun R s m args below meth c H locs cells slots sB lsR hF hR hl hH hL => lv_lconst hG.ex hF.1 hd hv (k R s m args below meth c H locs cells slots sB lsR hF hR hl hH hL)
theorem zj_null (hG : zOK G) (hd : decode y.2.1 pc = .ok (.aconst_null, 1)) (k : zJ G d y (pc + 1) ls (zA 0 :: st) h Q) : zJ G d y pc ls (st) h Q :=
  fun R s m args below meth c H locs cells slots sB lsR hF hR hl hH hL => lv_null hG.ex hF.1 hd (k R s m args below meth c H locs cells slots sB lsR hF hR hl hH hL)
theorem zj_iload_n (hG : zOK G) {n : Fin 4} {i : Nat} {x : Int32} (hd : decode y.2.1 pc = .ok (.iload_n n, 1)) (hi : (n : Nat) = i) (hv : ls[i]? = some (some (zI x))) (k : zJ G d y (pc + 1) ls (zI x :: st) h Q) : zJ G d y pc ls (st) h Q :=
  fun R s m args below meth c H locs cells slots sB lsR hF hR hl hH hL => lv_iload_n hG.ex hF.1 hd hi (zlv hL hv) (k R s m args below meth c H locs cells slots sB lsR hF hR hl hH hL)
theorem zj_iload (hG : zOK G) {i : Nat} {x : Int32} (hd : decode y.2.1 pc = .ok (.iload i, 2)) (hv : ls[i]? = some (some (zI x))) (k : zJ G d y (pc + 2) ls (zI x :: st) h Q) : zJ G d y pc ls (st) h Q :=
  fun R s m args below meth c H locs cells slots sB lsR hF hR hl hH hL => lv_iload hG.ex hF.1 hd (zlv hL hv) (k R s m args below meth c H locs cells slots sB lsR hF hR hl hH hL)
theorem zj_lload_n (hG : zOK G) {n : Fin 4} {i : Nat} {x : Int64} (hd : decode y.2.1 pc = .ok (.lload_n n, 1)) (hi : (n : Nat) = i) (hv : ls[i]? = some (some (zL x))) (k : zJ G d y (pc + 1) ls (zL x :: st) h Q) : zJ G d y pc ls (st) h Q :=
  fun R s m args below meth c H locs cells slots sB lsR hF hR hl hH hL => lv_lload_n hG.ex hF.1 hd hi (zlv hL hv) (k R s m args below meth c H locs cells slots sB lsR hF hR hl hH hL)
theorem zj_lload (hG : zOK G) {i : Nat} {x : Int64} (hd : decode y.2.1 pc = .ok (.lload i, 2)) (hv : ls[i]? = some (some (zL x))) (k : zJ G d y (pc + 2) ls (zL x :: st) h Q) : zJ G d y pc ls (st) h Q :=
  fun R s m args below meth c H locs cells slots sB lsR hF hR hl hH hL => lv_lload hG.ex hF.1 hd (zlv hL hv) (k R s m args below meth c H locs cells slots sB lsR hF hR hl hH hL)
theorem zj_aload_n (hG : zOK G) {n : Fin 4} {i a : Nat} (hd : decode y.2.1 pc = .ok (.aload_n n, 1)) (hi : (n : Nat) = i) (hv : ls[i]? = some (some (zA a))) (k : zJ G d y (pc + 1) ls (zA a :: st) h Q) : zJ G d y pc ls st h Q := by
  intro R s m args below meth c H locs cells slots sB lsR hF hR hl hH hL
  have k' := k R s m args below meth c H locs cells slots sB lsR hF hR hl hH hL
  have h1 := zlv hL hv
  by_cases h0 : a = 0
  · subst h0
    exact lv_aload_nN hG.ex hF.1 hd hi h1 k'
  · have e : zv (gb G) (zA a) = .ref a := zr_ref h0
    rw [e] at h1
    rw [List.map_cons, e] at k'
    exact lv_aload_n hG.ex hF.1 hd hi h1 k'
theorem zj_aload (hG : zOK G) {i a : Nat} (hd : decode y.2.1 pc = .ok (.aload i, 2)) (hv : ls[i]? = some (some (zA a))) (k : zJ G d y (pc + 2) ls (zA a :: st) h Q) : zJ G d y pc ls st h Q := by
  intro R s m args below meth c H locs cells slots sB lsR hF hR hl hH hL
  have k' := k R s m args below meth c H locs cells slots sB lsR hF hR hl hH hL
  have h1 := zlv hL hv
  by_cases h0 : a = 0
  · subst h0
    exact lv_aloadN hG.ex hF.1 hd h1 k'
  · have e : zv (gb G) (zA a) = .ref a := zr_ref h0
    rw [e] at h1
    rw [List.map_cons, e] at k'
    exact lv_aload hG.ex hF.1 hd h1 k'

theorem zj_istore_n (hG : zOK G) {n : Fin 4} {i : Nat} {x : Int32} {ls' : List (Option zV)} (hd : decode y.2.1 pc = .ok (.istore_n n, 1)) (hi : (n : Nat) = i) (hn : i < y.2.2.1) (hp : zpre ls i = true) (hs : ls.set i (some (zI x)) = ls') (k : zJ G d y (pc + 1) ls' st h Q) : zJ G d y pc ls (zI x :: st) h Q :=
  fun R s m args below meth c H locs cells slots sB lsR hF hR hl hH hL => lv_istore_n hG.ex hF.1 hd hi hL hn rfl (fun lsR' hL' => k R s m args below meth c H locs cells slots sB lsR' hF hR hl hH (hs ▸ zst1 rfl hp hL'))
theorem zj_istore (hG : zOK G) {i : Nat} {x : Int32} {ls' : List (Option zV)} (hd : decode y.2.1 pc = .ok (.istore i, 2)) (hn : i < y.2.2.1) (hp : zpre ls i = true) (hs : ls.set i (some (zI x)) = ls') (k : zJ G d y (pc + 2) ls' st h Q) : zJ G d y pc ls (zI x :: st) h Q :=
  fun R s m args below meth c H locs cells slots sB lsR hF hR hl hH hL => lv_istore hG.ex hF.1 hd hL hn rfl (fun lsR' hL' => k R s m args below meth c H locs cells slots sB lsR' hF hR hl hH (hs ▸ zst1 rfl hp hL'))
theorem zj_lstore_n (hG : zOK G) {n : Fin 4} {i : Nat} {x : Int64} {ls' : List (Option zV)} (hd : decode y.2.1 pc = .ok (.lstore_n n, 1)) (hi : (n : Nat) = i) (hn : i + 1 < y.2.2.1) (hp : zpre ls i = true) (hs : (ls.set i (some (zL x))).set (i + 1) none = ls') (k : zJ G d y (pc + 1) ls' st h Q) : zJ G d y pc ls (zL x :: st) h Q :=
  fun R s m args below meth c H locs cells slots sB lsR hF hR hl hH hL => lv_lstore_n hG.ex hF.1 hd hi hL hn rfl (fun lsR' hL' => k R s m args below meth c H locs cells slots sB lsR' hF hR hl hH (hs ▸ zst2 hp hL'))
theorem zj_lstore (hG : zOK G) {i : Nat} {x : Int64} {ls' : List (Option zV)} (hd : decode y.2.1 pc = .ok (.lstore i, 2)) (hn : i + 1 < y.2.2.1) (hp : zpre ls i = true) (hs : (ls.set i (some (zL x))).set (i + 1) none = ls') (k : zJ G d y (pc + 2) ls' st h Q) : zJ G d y pc ls (zL x :: st) h Q :=
  fun R s m args below meth c H locs cells slots sB lsR hF hR hl hH hL => lv_lstore hG.ex hF.1 hd hL hn rfl (fun lsR' hL' => k R s m args below meth c H locs cells slots sB lsR' hF hR hl hH (hs ▸ zst2 hp hL'))
theorem zj_astore_n (hG : zOK G) {n : Fin 4} {i a : Nat} {ls' : List (Option zV)} (hd : decode y.2.1 pc = .ok (.astore_n n, 1)) (hi : (n : Nat) = i) (hn : i < y.2.2.1) (hp : zpre ls i = true) (hs : ls.set i (some (zA a)) = ls') (k : zJ G d y (pc + 1) ls' st h Q) : zJ G d y pc ls (zA a :: st) h Q := by
  intro R s m args below meth c H locs cells slots sB lsR hF hR hl hH hL
  by_cases h0 : a = 0
  · subst h0
    exact lv_astore_nN hG.ex hF.1 hd hi hL hn rfl (fun lsR' hL' => k R s m args below meth c H locs cells slots sB lsR' hF hR hl hH (hs ▸ zst1 (v := zA 0) rfl hp hL'))
  · rw [List.map_cons, show zv (gb G) (zA a) = .ref a from zr_ref h0]
    exact lv_astore_n hG.ex hF.1 hd hi hL hn rfl (fun lsR' hL' => k R s m args below meth c H locs cells slots sB lsR' hF hR hl hH (hs ▸ zst1 (v := zA a) (zr_ref h0).symm hp hL'))
theorem zj_astore (hG : zOK G) {i a : Nat} {ls' : List (Option zV)} (hd : decode y.2.1 pc = .ok (.astore i, 2)) (hn : i < y.2.2.1) (hp : zpre ls i = true) (hs : ls.set i (some (zA a)) = ls') (k : zJ G d y (pc + 2) ls' st h Q) : zJ G d y pc ls (zA a :: st) h Q := by
  intro R s m args below meth c H locs cells slots sB lsR hF hR hl hH hL
  by_cases h0 : a = 0
  · subst h0
    exact lv_astoreN hG.ex hF.1 hd hL hn rfl (fun lsR' hL' => k R s m args below meth c H locs cells slots sB lsR' hF hR hl hH (hs ▸ zst1 (v := zA 0) rfl hp hL'))
  · rw [List.map_cons, show zv (gb G) (zA a) = .ref a from zr_ref h0]
    exact lv_astore hG.ex hF.1 hd hL hn rfl (fun lsR' hL' => k R s m args below meth c H locs cells slots sB lsR' hF hR hl hH (hs ▸ zst1 (v := zA a) (zr_ref h0).symm hp hL'))
theorem zj_iinc (hG : zOK G) {i : Nat} {n : Int} {x v : Int32} {ls' : List (Option zV)} (hd : decode y.2.1 pc = .ok (.iinc i n, 3)) (hx : ls[i]? = some (some (zI x))) (hv : x + Int32.ofInt n = v) (hn : i < y.2.2.1) (hp : zpre ls i = true) (hs : ls.set i (some (zI v)) = ls') (k : zJ G d y (pc + 3) ls' st h Q) : zJ G d y pc ls st h Q := by
  intro R s m args below meth c H locs cells slots sB lsR hF hR hl hH hL
  obtain ⟨kk, hk⟩ := List.getElem?_of_mem (zal_mem (i := 0) hx)
  rw [Nat.zero_add] at hk
  exact lv_iinc hG.ex hF.1 hd hL hk hv hn rfl (fun lsR' hL' => k R s m args below meth c H locs cells slots sB lsR' hF hR hl hH (hs ▸ zst1 rfl hp hL'))
theorem zj_dup (hG : zOK G) {v : zV} (hd : decode y.2.1 pc = .ok (.dup, 1)) (hv : (zv (gb G) v).category = 1) (k : zJ G d y (pc + 1) ls (v :: v :: st) h Q) : zJ G d y pc ls (v :: st) h Q :=
  fun R s m args below meth c H locs cells slots sB lsR hF hR hl hH hL => lv_dup hG.ex hF.1 hd hv (k R s m args below meth c H locs cells slots sB lsR hF hR hl hH hL)
theorem zj_pop (hG : zOK G) {v : zV} (hd : decode y.2.1 pc = .ok (.pop, 1)) (hv : (zv (gb G) v).category = 1) (k : zJ G d y (pc + 1) ls (st) h Q) : zJ G d y pc ls (v :: st) h Q :=
  fun R s m args below meth c H locs cells slots sB lsR hF hR hl hH hL => lv_pop hG.ex hF.1 hd hv (k R s m args below meth c H locs cells slots sB lsR hF hR hl hH hL)
theorem zj_dup_x1 (hG : zOK G) {v w : zV} (hd : decode y.2.1 pc = .ok (.dup_x1, 1)) (hv : (zv (gb G) v).category = 1) (hw : (zv (gb G) w).category = 1) (k : zJ G d y (pc + 1) ls (v :: w :: v :: st) h Q) : zJ G d y pc ls (v :: w :: st) h Q :=
  fun R s m args below meth c H locs cells slots sB lsR hF hR hl hH hL => lv_dup_x1 hG.ex hF.1 hd hv hw (k R s m args below meth c H locs cells slots sB lsR hF hR hl hH hL)
theorem zj_dup2 (hG : zOK G) {v w : zV} (hd : decode y.2.1 pc = .ok (.dup2, 1)) (hv : (zv (gb G) v).category = 1) (hw : (zv (gb G) w).category = 1) (k : zJ G d y (pc + 1) ls (v :: w :: v :: w :: st) h Q) : zJ G d y pc ls (v :: w :: st) h Q :=
  fun R s m args below meth c H locs cells slots sB lsR hF hR hl hH hL => lv_dup2_11 hG.ex hF.1 hd hv hw (k R s m args below meth c H locs cells slots sB lsR hF hR hl hH hL)
theorem zc_A (a : Nat) : (zv (gb G) (zA a)).category = 1 := zcat1 _ (fun x => by simp)
theorem zc_I (a : Int32) : (zv (gb G) (zI a)).category = 1 := rfl
theorem zj_icmp_eq (hG : zOK G) {a b : Int32} {off : Int} {tgt : Nat} (hd : decode y.2.1 pc = .ok (.if_icmp .eq off, 3)) (ht : (pc : Int) + off = (tgt : Int)) (kt : a = b → zJ G d y tgt ls st h Q) (kf : ¬ a = b → zJ G d y (pc + 3) ls st h Q) : zJ G d y pc ls (zI b :: zI a :: st) h Q :=
  fun R s m args below meth c H locs cells slots sB lsR hF hR hl hH hL => lv_icmp_eq hG.ex hF.1 hd ht (fun q => kt q R s m args below meth c H locs cells slots sB lsR hF hR hl hH hL) (fun q => kf q R s m args below meth c H locs cells slots sB lsR hF hR hl hH hL)
theorem zj_icmp_ne (hG : zOK G) {a b : Int32} {off : Int} {tgt : Nat} (hd : decode y.2.1 pc = .ok (.if_icmp .ne off, 3)) (ht : (pc : Int) + off = (tgt : Int)) (kt : ¬ a = b → zJ G d y tgt ls st h Q) (kf : a = b → zJ G d y (pc + 3) ls st h Q) : zJ G d y pc ls (zI b :: zI a :: st) h Q :=
  fun R s m args below meth c H locs cells slots sB lsR hF hR hl hH hL => lv_icmp_ne hG.ex hF.1 hd ht (fun q => kt q R s m args below meth c H locs cells slots sB lsR hF hR hl hH hL) (fun q => kf q R s m args below meth c H locs cells slots sB lsR hF hR hl hH hL)
theorem zj_icmp_lt (hG : zOK G) {a b : Int32} {off : Int} {tgt : Nat} (hd : decode y.2.1 pc = .ok (.if_icmp .lt off, 3)) (ht : (pc : Int) + off = (tgt : Int)) (kt : a < b → zJ G d y tgt ls st h Q) (kf : ¬ a < b → zJ G d y (pc + 3) ls st h Q) : zJ G d y pc ls (zI b :: zI a :: st) h Q :=
  fun R s m args below meth c H locs cells slots sB lsR hF hR hl hH hL => lv_icmp_lt hG.ex hF.1 hd ht (fun q => kt q R s m args below meth c H locs cells slots sB lsR hF hR hl hH hL) (fun q => kf q R s m args below meth c H locs cells slots sB lsR hF hR hl hH hL)
theorem zj_icmp_ge (hG : zOK G) {a b : Int32} {off : Int} {tgt : Nat} (hd : decode y.2.1 pc = .ok (.if_icmp .ge off, 3)) (ht : (pc : Int) + off = (tgt : Int)) (kt : b ≤ a → zJ G d y tgt ls st h Q) (kf : ¬ b ≤ a → zJ G d y (pc + 3) ls st h Q) : zJ G d y pc ls (zI b :: zI a :: st) h Q :=
  fun R s m args below meth c H locs cells slots sB lsR hF hR hl hH hL => lv_icmp_ge hG.ex hF.1 hd ht (fun q => kt q R s m args below meth c H locs cells slots sB lsR hF hR hl hH hL) (fun q => kf q R s m args below meth c H locs cells slots sB lsR hF hR hl hH hL)
theorem zj_icmp_gt (hG : zOK G) {a b : Int32} {off : Int} {tgt : Nat} (hd : decode y.2.1 pc = .ok (.if_icmp .gt off, 3)) (ht : (pc : Int) + off = (tgt : Int)) (kt : b < a → zJ G d y tgt ls st h Q) (kf : ¬ b < a → zJ G d y (pc + 3) ls st h Q) : zJ G d y pc ls (zI b :: zI a :: st) h Q :=
  fun R s m args below meth c H locs cells slots sB lsR hF hR hl hH hL => lv_icmp_gt hG.ex hF.1 hd ht (fun q => kt q R s m args below meth c H locs cells slots sB lsR hF hR hl hH hL) (fun q => kf q R s m args below meth c H locs cells slots sB lsR hF hR hl hH hL)
theorem zj_icmp_le (hG : zOK G) {a b : Int32} {off : Int} {tgt : Nat} (hd : decode y.2.1 pc = .ok (.if_icmp .le off, 3)) (ht : (pc : Int) + off = (tgt : Int)) (kt : a ≤ b → zJ G d y tgt ls st h Q) (kf : ¬ a ≤ b → zJ G d y (pc + 3) ls st h Q) : zJ G d y pc ls (zI b :: zI a :: st) h Q :=
  fun R s m args below meth c H locs cells slots sB lsR hF hR hl hH hL => lv_icmp_le hG.ex hF.1 hd ht (fun q => kt q R s m args below meth c H locs cells slots sB lsR hF hR hl hH hL) (fun q => kf q R s m args below meth c H locs cells slots sB lsR hF hR hl hH hL)
theorem zj_if_eq (hG : zOK G) {a : Int32} {off : Int} {tgt : Nat} (hd : decode y.2.1 pc = .ok (.ifCond .eq off, 3)) (ht : (pc : Int) + off = (tgt : Int)) (kt : a = 0 → zJ G d y tgt ls st h Q) (kf : ¬ a = 0 → zJ G d y (pc + 3) ls st h Q) : zJ G d y pc ls (zI a :: st) h Q :=
  fun R s m args below meth c H locs cells slots sB lsR hF hR hl hH hL => lv_if_eq hG.ex hF.1 hd ht (fun q => kt q R s m args below meth c H locs cells slots sB lsR hF hR hl hH hL) (fun q => kf q R s m args below meth c H locs cells slots sB lsR hF hR hl hH hL)
theorem zj_if_ne (hG : zOK G) {a : Int32} {off : Int} {tgt : Nat} (hd : decode y.2.1 pc = .ok (.ifCond .ne off, 3)) (ht : (pc : Int) + off = (tgt : Int)) (kt : ¬ a = 0 → zJ G d y tgt ls st h Q) (kf : a = 0 → zJ G d y (pc + 3) ls st h Q) : zJ G d y pc ls (zI a :: st) h Q :=
  fun R s m args below meth c H locs cells slots sB lsR hF hR hl hH hL => lv_if_ne hG.ex hF.1 hd ht (fun q => kt q R s m args below meth c H locs cells slots sB lsR hF hR hl hH hL) (fun q => kf q R s m args below meth c H locs cells slots sB lsR hF hR hl hH hL)
theorem zj_if_lt (hG : zOK G) {a : Int32} {off : Int} {tgt : Nat} (hd : decode y.2.1 pc = .ok (.ifCond .lt off, 3)) (ht : (pc : Int) + off = (tgt : Int)) (kt : a < 0 → zJ G d y tgt ls st h Q) (kf : ¬ a < 0 → zJ G d y (pc + 3) ls st h Q) : zJ G d y pc ls (zI a :: st) h Q :=
  fun R s m args below meth c H locs cells slots sB lsR hF hR hl hH hL => lv_if_lt hG.ex hF.1 hd ht (fun q => kt q R s m args below meth c H locs cells slots sB lsR hF hR hl hH hL) (fun q => kf q R s m args below meth c H locs cells slots sB lsR hF hR hl hH hL)
theorem zj_if_ge (hG : zOK G) {a : Int32} {off : Int} {tgt : Nat} (hd : decode y.2.1 pc = .ok (.ifCond .ge off, 3)) (ht : (pc : Int) + off = (tgt : Int)) (kt : 0 ≤ a → zJ G d y tgt ls st h Q) (kf : ¬ 0 ≤ a → zJ G d y (pc + 3) ls st h Q) : zJ G d y pc ls (zI a :: st) h Q :=
  fun R s m args below meth c H locs cells slots sB lsR hF hR hl hH hL => lv_if_ge hG.ex hF.1 hd ht (fun q => kt q R s m args below meth c H locs cells slots sB lsR hF hR hl hH hL) (fun q => kf q R s m args below meth c H locs cells slots sB lsR hF hR hl hH hL)
theorem zj_if_gt (hG : zOK G) {a : Int32} {off : Int} {tgt : Nat} (hd : decode y.2.1 pc = .ok (.ifCond .gt off, 3)) (ht : (pc : Int) + off = (tgt : Int)) (kt : 0 < a → zJ G d y tgt ls st h Q) (kf : ¬ 0 < a → zJ G d y (pc + 3) ls st h Q) : zJ G d y pc ls (zI a :: st) h Q :=
  fun R s m args below meth c H locs cells slots sB lsR hF hR hl hH hL => lv_if_gt hG.ex hF.1 hd ht (fun q => kt q R s m args below meth c H locs cells slots sB lsR hF hR hl hH hL) (fun q => kf q R s m args below meth c H locs cells slots sB lsR hF hR hl hH hL)
theorem zj_if_le (hG : zOK G) {a : Int32} {off : Int} {tgt : Nat} (hd : decode y.2.1 pc = .ok (.ifCond .le off, 3)) (ht : (pc : Int) + off = (tgt : Int)) (kt : a ≤ 0 → zJ G d y tgt ls st h Q) (kf : ¬ a ≤ 0 → zJ G d y (pc + 3) ls st h Q) : zJ G d y pc ls (zI a :: st) h Q :=
  fun R s m args below meth c H locs cells slots sB lsR hF hR hl hH hL => lv_if_le hG.ex hF.1 hd ht (fun q => kt q R s m args below meth c H locs cells slots sB lsR hF hR hl hH hL) (fun q => kf q R s m args below meth c H locs cells slots sB lsR hF hR hl hH hL)
theorem zj_goto (hG : zOK G) {off : Int} {tgt : Nat} (hd : decode y.2.1 pc = .ok (.goto off, 3)) (ht : (pc : Int) + off = (tgt : Int)) (k : zJ G d y tgt ls st h Q) : zJ G d y pc ls st h Q :=
  fun R s m args below meth c H locs cells slots sB lsR hF hR hl hH hL => lv_goto hG.ex hF.1 hd ht (k R s m args below meth c H locs cells slots sB lsR hF hR hl hH hL)
theorem zj_ifnull (hG : zOK G) {a : Nat} {off : Int} {tgt : Nat} (hd : decode y.2.1 pc = .ok (.ifnull off, 3)) (ht : (pc : Int) + off = (tgt : Int)) (kt : a = 0 → zJ G d y tgt ls st h Q) (kf : a ≠ 0 → zJ G d y (pc + 3) ls st h Q) : zJ G d y pc ls (zA a :: st) h Q := by
  intro R s m args below meth c H locs cells slots sB lsR hF hR hl hH hL
  by_cases h0 : a = 0
  · subst h0
    exact lv_ifnullN hG.ex hF.1 hd ht (kt rfl R s m args below meth c H locs cells slots sB lsR hF hR hl hH hL)
  · rw [List.map_cons, show zv (gb G) (zA a) = .ref a from zr_ref h0]
    exact lv_ifnull hG.ex hF.1 hd (kf h0 R s m args below meth c H locs cells slots sB lsR hF hR hl hH hL)
theorem zj_ifnonnull (hG : zOK G) {a : Nat} {off : Int} {tgt : Nat} (hd : decode y.2.1 pc = .ok (.ifnonnull off, 3)) (ht : (pc : Int) + off = (tgt : Int)) (kt : a ≠ 0 → zJ G d y tgt ls st h Q) (kf : a = 0 → zJ G d y (pc + 3) ls st h Q) : zJ G d y pc ls (zA a :: st) h Q := by
  intro R s m args below meth c H locs cells slots sB lsR hF hR hl hH hL
  by_cases h0 : a = 0
  · subst h0
    exact lv_ifnonnullN hG.ex hF.1 hd (kf rfl R s m args below meth c H locs cells slots sB lsR hF hR hl hH hL)
  · rw [List.map_cons, show zv (gb G) (zA a) = .ref a from zr_ref h0]
    exact lv_ifnonnull hG.ex hF.1 hd ht (kt h0 R s m args below meth c H locs cells slots sB lsR hF hR hl hH hL)
theorem zj_tableOut (hG : zOK G) {dflt lo hi : Int} {offs : Array Int} {len : Nat} {x : Int32} {tgt : Nat} (hd : decode y.2.1 pc = .ok (.tableswitch dflt lo hi offs, len)) (h9 : x.toInt < lo ∨ hi < x.toInt) (ht : (pc : Int) + dflt = (tgt : Int)) (k : zJ G d y tgt ls st h Q) : zJ G d y pc ls (zI x :: st) h Q :=
  fun R s m args below meth c H locs cells slots sB lsR hF hR hl hH hL => lv_tableOut hG.ex hF.1 hd h9 ht (k R s m args below meth c H locs cells slots sB lsR hF hR hl hH hL)
theorem zj_tableIn (hG : zOK G) {dflt lo hi : Int} {offs : Array Int} {len : Nat} {x : Int32} {off : Int} {tgt : Nat} (hd : decode y.2.1 pc = .ok (.tableswitch dflt lo hi offs, len)) (h1 : ¬ x.toInt < lo) (h2 : ¬ hi < x.toInt) (ho : offs[(x.toInt - lo).toNat]? = some off) (ht : (pc : Int) + off = (tgt : Int)) (k : zJ G d y tgt ls st h Q) : zJ G d y pc ls (zI x :: st) h Q :=
  fun R s m args below meth c H locs cells slots sB lsR hF hR hl hH hL => lv_tableIn hG.ex hF.1 hd h1 h2 ho ht (k R s m args below meth c H locs cells slots sB lsR hF hR hl hH hL)
theorem zj_idiv (hG : zOK G) {a b : Int32} (hd : decode y.2.1 pc = .ok (.idiv, 1)) (hne : ¬ b = 0) (k : zJ G d y (pc + 1) ls (zI (a / b) :: st) h Q) : zJ G d y pc ls (zI b :: zI a :: st) h Q :=
  fun R s m args below meth c H locs cells slots sB lsR hF hR hl hH hL => lv_idiv hG.ex hF.1 hd hne (k R s m args below meth c H locs cells slots sB lsR hF hR hl hH hL)
theorem zj_ldiv (hG : zOK G) {a b : Int64} (hd : decode y.2.1 pc = .ok (.ldiv, 1)) (hne : ¬ b = 0) (k : zJ G d y (pc + 1) ls (zL (a / b) :: st) h Q) : zJ G d y pc ls (zL b :: zL a :: st) h Q :=
  fun R s m args below meth c H locs cells slots sB lsR hF hR hl hH hL => lv_ldiv hG.ex hF.1 hd hne (k R s m args below meth c H locs cells slots sB lsR hF hR hl hH hL)
theorem zj_irem (hG : zOK G) {a b : Int32} (hd : decode y.2.1 pc = .ok (.irem, 1)) (hne : ¬ b = 0) (k : zJ G d y (pc + 1) ls (zI (a - a / b * b) :: st) h Q) : zJ G d y pc ls (zI b :: zI a :: st) h Q :=
  fun R s m args below meth c H locs cells slots sB lsR hF hR hl hH hL => lv_irem hG.ex hF.1 hd hne (k R s m args below meth c H locs cells slots sB lsR hF hR hl hH hL)
/-- a name for the top -/
theorem zj_topI {x : Int32} (k : ∀ v : Int32, v = x → zJ G d y pc ls (zI v :: st) h Q) : zJ G d y pc ls (zI x :: st) h Q := k x rfl
theorem zj_topL {x : Int64} (k : ∀ v : Int64, v = x → zJ G d y pc ls (zL v :: st) h Q) : zJ G d y pc ls (zL x :: st) h Q := k x rfl
theorem zj_topA {x : Nat} (k : ∀ v : Nat, v = x → zJ G d y pc ls (zA v :: st) h Q) : zJ G d y pc ls (zA x :: st) h Q := k x rfl
end ZR
