/-! PART 83: the component: what a primitive does to a schema (3) -/
section PR4
variable {G : zG} {h : zH} {r a : Nat} {F : List tFd} {P : tPm}
theorem i_nlt {a b : Int32} (h : ¬ a < b) : b ≤ a := Int32.not_lt.mp h
/-- a field's bounds written -/
theorem sc_bnd {rs : List Nat} (x : cRr h 2 r rs) (hV : sV (rs.map (fld h))) {b : Nat} (hb : b ∈ rs) (lo hi : Int32) : cSc (zsi (zsi h b 2 lo) b 3 hi) r ((rs.map (fld h)).map (fun f => if f.1 = zi h b 0 then (f.1, f.2.1, lo, hi) else f)) ∧ cRr (zsi (zsi h b 2 lo) b 3 hi) 2 r rs ∧ cFr r h (zsi (zsi h b 2 lo) b 3 hi) := by
  have zo : ∀ c, c ≠ b → zi (zsi (zsi h b 2 lo) b 3 hi) c = zi h c := fun c e => by funext j; simp [zi, zu, e]
  have z0 : zi (zsi (zsi h b 2 lo) b 3 hi) b 0 = zi h b 0 := by simp [zi, zu]
  obtain ⟨y1, y2⟩ := cSc.set (h' := zsi (zsi h b 2 lo) b 3 hi) x hb rfl rfl rfl zo z0
  refine ⟨?_, y2, fun c hc hd => ?_⟩
  · have e : (rs.map (fld h)).map (fun f => if f.1 = zi h b 0 then fld (zsi (zsi h b 2 lo) b 3 hi) b else f) = (rs.map (fld h)).map (fun f => if f.1 = zi h b 0 then (f.1, f.2.1, lo, hi) else f) := by
      apply List.map_congr_left
      intro f hf
      by_cases e : f.1 = zi h b 0
      · rw [if_pos e, if_pos e]
        have ef : f = fld h b := fd_eq hV.2.1 hf (List.mem_map.mpr ⟨b, hb, rfl⟩) e
        rw [ef]
        unfold fld
        simp [zi, zu]
      · rw [if_neg e, if_neg e]
    rw [← e]; exact y1
  · have : c ≠ b := fun e => hd (by rw [e]; exact (x.f.2.2.2.2.2.1 b hb).1.2.1)
    exact ⟨rfl, rfl, zo c this, rfl, rfl⟩
set_option maxRecDepth 4000 in
theorem k_iD_7 (hG : zOK G) (x : cTr h r a F P) (hk : P.1 = 7) {v2 : zV} : zJ G 6 m_Prim_isDone2 419 [some (zA a), some (zA r), some v2, some (zI (tb (decide (pmS P = 0)))), none] [] h (fun o h' => ∃ v, o = zR v ∧ cTry r F P h (sDoF F (pmP P, pmS P, pmL P, pmH P) P.1 (pmP P) (pmA P) (pmB P)) v h') := by
  obtain ⟨xs, hV, ⟨p0, p1, p2, p3, p4, p5, p6, p7⟩, ⟨q0, qok⟩, hm⟩ := x
  have key : sDoF F (pmP P, pmS P, pmL P, pmH P) P.1 (pmP P) (pmA P) (pmB P) ↔ pmS P = 0 ∧ pmA P ≠ pmB P ∧ (pmL P ≤ pmA P ∧ pmA P ≤ pmH P) ∧ (pmL P ≤ pmB P ∧ pmB P ≤ pmH P) := by
    unfold sDoF; rw [hk]; simp
  have no : ¬ sDoF F (pmP P, pmS P, pmL P, pmH P) P.1 (pmP P) (pmA P) (pmB P) → zJ G 6 m_Prim_isDone2 482 [some (zA a), some (zA r), some v2, some (zI (tb (decide (pmS P = 0)))), none] [] h (fun o h' => ∃ v, o = zR v ∧ cTry r F P h (sDoF F (pmP P, pmS P, pmL P, pmH P) P.1 (pmP P) (pmA P) (pmB P)) v h') := by
    intro g
    refine zj_iconst (v := 0) hG d_Prim_isDone2_482 rfl ?_
    exact zj_iret hG d_Prim_isDone2_483 rfl rfl ⟨_, rfl, cTry.no xs g⟩
  refine zj_iload_n hG d_Prim_isDone2_419 rfl rfl ?_
  by_cases s0 : pmS P = 0
  rotate_left
  · refine zj_if_eq (tgt := 482) hG d_Prim_isDone2_420 (by decide) (fun _ => ?_) (fun c => absurd (by rw [decide_eq_false s0]; rfl) c)
    exact no (fun g => s0 (key.mp g).1)
  refine zj_if_eq (tgt := 482) hG d_Prim_isDone2_420 (by decide) (fun c => absurd c (by rw [decide_eq_true s0]; decide)) (fun _ => ?_)
  refine zj_aload_n hG d_Prim_isDone2_423 rfl rfl ?_
  refine zj_getI hG d_Prim_isDone2_424 f_Prim_18 (by assumption) rfl ?_
  refine zj_aload_n hG d_Prim_isDone2_427 rfl rfl ?_
  refine zj_getI hG d_Prim_isDone2_428 f_Prim_35 (by assumption) rfl ?_
  rw [p3, p4]
  refine zj_icmp_eq (tgt := 482) hG d_Prim_isDone2_431 (by decide) (fun c1 => ?_) (fun c1 => ?_)
  · exact no (fun g => (key.mp g).2.1 c1)
  refine zj_aload_n hG d_Prim_isDone2_434 rfl rfl ?_
  refine zj_getI hG d_Prim_isDone2_435 f_Prim_18 (by assumption) rfl ?_
  refine zj_aload_n hG d_Prim_isDone2_438 rfl rfl ?_
  refine zj_getI hG d_Prim_isDone2_439 f_Prim_41 (by assumption) rfl ?_
  rw [p3, p6]
  refine zj_icmp_lt (tgt := 482) hG d_Prim_isDone2_442 (by decide) (fun c2 => ?_) (fun c2 => ?_)
  · exact no (fun g => absurd (key.mp g).2.2.1.1 (Int32.not_le.mpr c2))
  refine zj_aload_n hG d_Prim_isDone2_445 rfl rfl ?_
  refine zj_getI hG d_Prim_isDone2_446 f_Prim_18 (by assumption) rfl ?_
  refine zj_aload_n hG d_Prim_isDone2_449 rfl rfl ?_
  refine zj_getI hG d_Prim_isDone2_450 f_Prim_44 (by assumption) rfl ?_
  rw [p3, p7]
  refine zj_icmp_gt (tgt := 482) hG d_Prim_isDone2_453 (by decide) (fun c3 => ?_) (fun c3 => ?_)
  · exact no (fun g => absurd (key.mp g).2.2.1.2 (Int32.not_le.mpr c3))
  refine zj_aload_n hG d_Prim_isDone2_456 rfl rfl ?_
  refine zj_getI hG d_Prim_isDone2_457 f_Prim_35 (by assumption) rfl ?_
  refine zj_aload_n hG d_Prim_isDone2_460 rfl rfl ?_
  refine zj_getI hG d_Prim_isDone2_461 f_Prim_41 (by assumption) rfl ?_
  rw [p4, p6]
  refine zj_icmp_lt (tgt := 482) hG d_Prim_isDone2_464 (by decide) (fun c4 => ?_) (fun c4 => ?_)
  · exact no (fun g => absurd (key.mp g).2.2.2.1 (Int32.not_le.mpr c4))
  refine zj_aload_n hG d_Prim_isDone2_467 rfl rfl ?_
  refine zj_getI hG d_Prim_isDone2_468 f_Prim_35 (by assumption) rfl ?_
  refine zj_aload_n hG d_Prim_isDone2_471 rfl rfl ?_
  refine zj_getI hG d_Prim_isDone2_472 f_Prim_44 (by assumption) rfl ?_
  rw [p4, p7]
  refine zj_icmp_gt (tgt := 482) hG d_Prim_isDone2_475 (by decide) (fun c5 => ?_) (fun c5 => ?_)
  · exact no (fun g => absurd (key.mp g).2.2.2.2 (Int32.not_le.mpr c5))
  refine zj_iconst (v := 1) hG d_Prim_isDone2_478 rfl ?_
  refine zj_goto (tgt := 483) hG d_Prim_isDone2_479 (by decide) ?_
  have e7 : ∀ n : Int32, n ≠ 7 → ¬ P.1 = n := fun n h e => h (by rw [← e, hk])
  refine zj_iret hG d_Prim_isDone2_483 rfl rfl ⟨_, rfl, true, rfl, ⟨fun _ => key.mpr ⟨s0, c1, ⟨i_nlt c2, i_nlt c3⟩, i_nlt c4, i_nlt c5⟩, fun _ => rfl⟩, cGr.rfl'.mono (by omega) (by omega), fun e => (by cases e), fun _ => ⟨F, xs, ?_⟩⟩
  unfold sf
  rw [if_neg (by rintro (e | e); exact e7 0 (by decide) e; exact e7 4 (by decide) e), if_neg (e7 1 (by decide)), if_neg (e7 2 (by decide)), if_neg (e7 3 (by decide)), if_neg (e7 5 (by decide)), if_neg (e7 6 (by decide))]
set_option maxRecDepth 4000 in
theorem k_iD_8 (hG : zOK G) (x : cTr h r a F P) (hk : P.1 = 8) {v2 v3 : zV} : zJ G 6 m_Prim_isDone2 484 [some (zA a), some (zA r), some v2, some v3, none] [] h (fun o h' => ∃ v, o = zR v ∧ cTry r F P h (sDoF F (pmP P, pmS P, pmL P, pmH P) P.1 (pmP P) (pmA P) (pmB P)) v h') := by
  obtain ⟨xs, hV, ⟨p0, p1, p2, p3, p4, p5, p6, p7⟩, ⟨q0, qok⟩, hm⟩ := x
  have key : sDoF F (pmP P, pmS P, pmL P, pmH P) P.1 (pmP P) (pmA P) (pmB P) ↔ pmS P = 1 := by
    unfold sDoF; rw [hk]; simp
  refine zj_aload_n hG d_Prim_isDone2_484 rfl rfl ?_
  refine zj_getI hG d_Prim_isDone2_485 f_Prim_9 (by assumption) rfl ?_
  refine zj_bipush (v := 8) hG d_Prim_isDone2_488 rfl ?_
  refine zj_icmp_ne (tgt := 505) hG d_Prim_isDone2_490 (by decide) (fun c => absurd (p1.trans hk) c) (fun _ => ?_)
  refine zj_aload_n hG d_Prim_isDone2_493 rfl rfl ?_
  refine zj_getI hG d_Prim_isDone2_494 f_Prim_88 (by assumption) rfl ?_
  refine zj_iconst (v := 1) hG d_Prim_isDone2_497 rfl ?_
  rw [p5]
  refine zj_icmp_ne (tgt := 505) hG d_Prim_isDone2_498 (by decide) (fun c1 => ?_) (fun c1 => ?_)
  · refine zj_iconst (v := 0) hG d_Prim_isDone2_505 rfl ?_
    exact zj_iret hG d_Prim_isDone2_506 rfl rfl ⟨_, rfl, cTry.no xs (fun g => c1 (key.mp g))⟩
  · refine zj_iconst (v := 1) hG d_Prim_isDone2_501 rfl ?_
    refine zj_goto (tgt := 506) hG d_Prim_isDone2_502 (by decide) ?_
    have e7 : ∀ n : Int32, n ≠ 8 → ¬ P.1 = n := fun n h e => h (by rw [← e, hk])
    refine zj_iret hG d_Prim_isDone2_506 rfl rfl ⟨_, rfl, true, rfl, ⟨fun _ => key.mpr c1, fun _ => rfl⟩, cGr.rfl'.mono (by omega) (by omega), fun e => (by cases e), fun _ => ⟨F, xs, ?_⟩⟩
    unfold sf
    rw [if_neg (by rintro (e | e); exact e7 0 (by decide) e; exact e7 4 (by decide) e), if_neg (e7 1 (by decide)), if_neg (e7 2 (by decide)), if_neg (e7 3 (by decide)), if_neg (e7 5 (by decide)), if_neg (e7 6 (by decide))]
set_option maxRecDepth 4000 in
theorem k_iD_6 (hG : zOK G) (x : cTr h r a F P) (har : za h a 1000 ≠ r) (hk : P.1 = 6) {b : Nat} {rs : List Nat} (xr : cRr h 2 r rs) (hF : F = rs.map (fld h)) (hb : b ∈ rs) (hbf : fld h b = (pmP P, pmS P, pmL P, pmH P)) : zJ G 6 m_Prim_isDone2 318 [some (zA a), some (zA r), some (zA b), some (zI (tb (decide (pmS P = 0)))), none] [] h (fun o h' => ∃ v, o = zR v ∧ cTry r F P h (sDoF F (pmP P, pmS P, pmL P, pmH P) P.1 (pmP P) (pmA P) (pmB P)) v h') := by
  obtain ⟨xs, hV, ⟨p0, p1, p2, p3, p4, p5, p6, p7⟩, ⟨q0, qok⟩, hm⟩ := x
  have b5 := (xr.f.2.2.2.2.2.1 b hb).1.1
  have ab : a ≠ b := fun e => by rw [e, b5] at p0; cases p0
  have key : sDoF F (pmP P, pmS P, pmL P, pmH P) P.1 (pmP P) (pmA P) (pmB P) ↔ pmS P = 0 ∧ (1 ≤ pmA P ∧ pmA P ≤ 1000) ∧ (1 ≤ pmB P ∧ pmB P ≤ 1000) ∧ tii (tfl ((pmA P).toInt64 * (pmL P).toInt64) (pmB P).toInt64) = true ∧ tii (tfl ((pmA P).toInt64 * (pmH P).toInt64) (pmB P).toInt64) = true := by
    unfold sDoF; rw [hk]; simp
  have no : ¬ sDoF F (pmP P, pmS P, pmL P, pmH P) P.1 (pmP P) (pmA P) (pmB P) → zJ G 6 m_Prim_isDone2 384 [some (zA a), some (zA r), some (zA b), some (zI (tb (decide (pmS P = 0)))), none] [] h (fun o h' => ∃ v, o = zR v ∧ cTry r F P h (sDoF F (pmP P, pmS P, pmL P, pmH P) P.1 (pmP P) (pmA P) (pmB P)) v h') := by
    intro g
    refine zj_iconst (v := 0) hG d_Prim_isDone2_384 rfl ?_
    refine zj_istore hG d_Prim_isDone2_385 (by decide) rfl rfl ?_
    refine zj_iload hG d_Prim_isDone2_387 rfl ?_
    refine zj_if_eq (tgt := 416) hG d_Prim_isDone2_389 (by decide) (fun _ => ?_) (fun c => absurd rfl c)
    refine zj_iload hG d_Prim_isDone2_416 rfl ?_
    exact zj_iret hG d_Prim_isDone2_418 rfl rfl ⟨_, rfl, cTry.no xs g⟩
  refine zj_iload_n hG d_Prim_isDone2_318 rfl rfl ?_
  by_cases s0 : pmS P = 0
  rotate_left
  · refine zj_if_eq (tgt := 384) hG d_Prim_isDone2_319 (by decide) (fun _ => ?_) (fun c => absurd (by rw [decide_eq_false s0]; rfl) c)
    exact no (fun g => s0 (key.mp g).1)
  refine zj_if_eq (tgt := 384) hG d_Prim_isDone2_319 (by decide) (fun c => absurd c (by rw [decide_eq_true s0]; decide)) (fun _ => ?_)
  refine zj_aload_n hG d_Prim_isDone2_322 rfl rfl ?_
  refine zj_getI hG d_Prim_isDone2_323 f_Prim_18 (by assumption) rfl ?_
  refine zj_iconst (v := 1) hG d_Prim_isDone2_326 rfl ?_
  rw [p3]
  refine zj_icmp_lt (tgt := 384) hG d_Prim_isDone2_327 (by decide) (fun c1 => ?_) (fun c1 => ?_)
  · exact no (fun g => absurd (key.mp g).2.1.1 (Int32.not_le.mpr c1))
  refine zj_aload_n hG d_Prim_isDone2_330 rfl rfl ?_
  refine zj_getI hG d_Prim_isDone2_331 f_Prim_18 (by assumption) rfl ?_
  refine zj_sipush (v := 1000) hG d_Prim_isDone2_334 rfl ?_
  rw [p3]
  refine zj_icmp_gt (tgt := 384) hG d_Prim_isDone2_337 (by decide) (fun c2 => ?_) (fun c2 => ?_)
  · exact no (fun g => absurd (key.mp g).2.1.2 (Int32.not_le.mpr c2))
  refine zj_aload_n hG d_Prim_isDone2_340 rfl rfl ?_
  refine zj_getI hG d_Prim_isDone2_341 f_Prim_35 (by assumption) rfl ?_
  refine zj_iconst (v := 1) hG d_Prim_isDone2_344 rfl ?_
  rw [p4]
  refine zj_icmp_lt (tgt := 384) hG d_Prim_isDone2_345 (by decide) (fun c3 => ?_) (fun c3 => ?_)
  · exact no (fun g => absurd (key.mp g).2.2.1.1 (Int32.not_le.mpr c3))
  refine zj_aload_n hG d_Prim_isDone2_348 rfl rfl ?_
  refine zj_getI hG d_Prim_isDone2_349 f_Prim_35 (by assumption) rfl ?_
  refine zj_sipush (v := 1000) hG d_Prim_isDone2_352 rfl ?_
  rw [p4]
  refine zj_icmp_gt (tgt := 384) hG d_Prim_isDone2_355 (by decide) (fun c4 => ?_) (fun c4 => ?_)
  · exact no (fun g => absurd (key.mp g).2.2.1.2 (Int32.not_le.mpr c4))
  have hb1 : 1 ≤ zi h a 3 := by rw [p4]; exact i_nlt c3
  refine zj_aload_n hG d_Prim_isDone2_358 rfl rfl ?_
  refine zj_aload_n hG d_Prim_isDone2_359 rfl rfl ?_
  refine zj_getI hG d_Prim_isDone2_360 f_Prim_41 (by assumption) rfl ?_
  refine zj_callA (y' := m_Prim_isInt) hG (zcP (as := [_]) hG d_Prim_isDone2_363 c_Prim_isInt (z_w3 226 rfl) (z_w3 228 rfl) (z_w3 227 rfl) (z_w3 158 rfl) rfl ⟨by decide, by decide⟩ p0 (by decide) (by decide) (show _ = some 1 from by decide +kernel) rfl) c_Prim_isInt rfl (by omega) rfl (z_le rfl) (z_le rfl) (k_Prim_isInt hG p0 hb1 _) (fun v363 h363 e363 => ?_)
  obtain ⟨w1, rfl, rfl, ew1⟩ := e363
  rw [p3, p4, p6] at ew1
  rcases w1 with _ | _
  · refine zj_if_eq (tgt := 384) hG d_Prim_isDone2_366 (by decide) (fun _ => ?_) (fun c => absurd rfl c)
    exact no (fun g => by have := (key.mp g).2.2.2.1; rw [← ew1] at this; cases this)
  refine zj_if_eq (tgt := 384) hG d_Prim_isDone2_366 (by decide) (fun c => absurd c (by decide)) (fun _ => ?_)
  refine zj_aload_n hG d_Prim_isDone2_369 rfl rfl ?_
  refine zj_aload_n hG d_Prim_isDone2_370 rfl rfl ?_
  refine zj_getI hG d_Prim_isDone2_371 f_Prim_44 (by assumption) rfl ?_
  refine zj_callA (y' := m_Prim_isInt) hG (zcP (as := [_]) hG d_Prim_isDone2_374 c_Prim_isInt (z_w3 226 rfl) (z_w3 228 rfl) (z_w3 227 rfl) (z_w3 158 rfl) rfl ⟨by decide, by decide⟩ p0 (by decide) (by decide) (show _ = some 1 from by decide +kernel) rfl) c_Prim_isInt rfl (by omega) rfl (z_le rfl) (z_le rfl) (k_Prim_isInt hG p0 hb1 _) (fun v374 h374 e374 => ?_)
  obtain ⟨w2, rfl, rfl, ew2⟩ := e374
  rw [p3, p4, p7] at ew2
  rcases w2 with _ | _
  · refine zj_if_eq (tgt := 384) hG d_Prim_isDone2_377 (by decide) (fun _ => ?_) (fun c => absurd rfl c)
    exact no (fun g => by have := (key.mp g).2.2.2.2; rw [← ew2] at this; cases this)
  refine zj_if_eq (tgt := 384) hG d_Prim_isDone2_377 (by decide) (fun c => absurd c (by decide)) (fun _ => ?_)
  have yes := key.mpr ⟨s0, ⟨i_nlt c1, i_nlt c2⟩, ⟨i_nlt c3, i_nlt c4⟩, ew1.symm, ew2.symm⟩
  refine zj_iconst (v := 1) hG d_Prim_isDone2_380 rfl ?_
  refine zj_goto (tgt := 385) hG d_Prim_isDone2_381 (by decide) ?_
  refine zj_istore hG d_Prim_isDone2_385 (by decide) rfl rfl ?_
  refine zj_iload hG d_Prim_isDone2_387 rfl ?_
  refine zj_if_eq (tgt := 416) hG d_Prim_isDone2_389 (by decide) (fun c => absurd c (by decide)) (fun _ => ?_)
  refine zj_aload_n hG d_Prim_isDone2_392 rfl rfl ?_
  refine zj_aload_n hG d_Prim_isDone2_393 rfl rfl ?_
  refine zj_aload_n hG d_Prim_isDone2_394 rfl rfl ?_
  refine zj_getI hG d_Prim_isDone2_395 f_Prim_41 (by assumption) rfl ?_
  refine zj_callR (y' := m_Prim_scaled) hG (zcV (as := [_]) hG d_Prim_isDone2_398 c_Prim_scaled (z_w3 236 rfl) (z_w3 237 rfl) (z_w3 238 rfl) ⟨by decide, by decide⟩ p0 (by decide) (by decide) (show _ = some 1 from by decide +kernel) rfl) c_Prim_scaled rfl (by omega) rfl (z_le rfl) (z_le rfl) (k_Prim_scaled hG p0 hb1 _ 0 0) ?_
  rw [p3, p4, p6]
  refine zj_putI hG d_Prim_isDone2_401 f_Prim_89 (by assumption) rfl rfl ?_
  refine zj_aload_n hG d_Prim_isDone2_404 rfl rfl ?_
  refine zj_aload_n hG d_Prim_isDone2_405 rfl rfl ?_
  refine zj_aload_n hG d_Prim_isDone2_406 rfl rfl ?_
  have zo : zi (zsi h374 b 2 (tsc true (pmL P) (pmA P) (pmB P) 0 0)) a = zi h374 a := by funext j; exact zu_a ab
  have hb2 : 1 ≤ zi (zsi h374 b 2 (tsc true (pmL P) (pmA P) (pmB P) 0 0)) a 3 := by rw [zo]; exact hb1
  refine zj_getI hG d_Prim_isDone2_407 f_Prim_44 p0 rfl ?_
  refine zj_callR (y' := m_Prim_scaled) hG (zcV (as := [_]) hG d_Prim_isDone2_410 c_Prim_scaled (z_w3 236 rfl) (z_w3 237 rfl) (z_w3 238 rfl) ⟨by decide, by decide⟩ p0 (by decide) (by decide) (show _ = some 1 from by decide +kernel) rfl) c_Prim_scaled rfl (by omega) rfl (z_le rfl) (z_le rfl) (k_Prim_scaled (h := zsi h374 b 2 (tsc true (pmL P) (pmA P) (pmB P) 0 0)) hG p0 hb2 _ 0 0) ?_
  rw [zo, p3, p4, p7]
  refine zj_putI hG d_Prim_isDone2_413 f_Prim_90 (by assumption) rfl rfl ?_
  refine zj_iload hG d_Prim_isDone2_416 rfl ?_
  subst hF
  obtain ⟨y1, y2, y3⟩ := sc_bnd xr hV hb (tsc true (pmL P) (pmA P) (pmB P) 0 0) (tsc true (pmH P) (pmA P) (pmB P) 0 0)
  refine zj_iret hG d_Prim_isDone2_418 rfl rfl ⟨_, rfl, true, rfl, ⟨fun _ => yes, fun _ => rfl⟩, ⟨y3, Nat.le_refl _, by show zn h374 ≤ zn h374 + 3; omega, Nat.le_refl _, by show zs h374 ≤ zs h374 + 12; omega⟩, fun e => (by cases e), fun _ => ⟨_, y1, List.Perm.of_eq ?_⟩⟩
  unfold sf
  have e7 : ∀ n : Int32, n ≠ 6 → ¬ P.1 = n := fun n h e => h (by rw [← e, hk])
  rw [if_neg (by rintro (e | e); exact e7 0 (by decide) e; exact e7 4 (by decide) e), if_neg (e7 1 (by decide)), if_neg (e7 2 (by decide)), if_neg (e7 3 (by decide)), if_neg (e7 5 (by decide)), if_pos hk]
  have ebp : zi h374 b 0 = pmP P := congrArg (fun f : tFd => f.1) hbf
  rw [ebp]
  apply List.map_congr_left
  intro f hf
  by_cases e : f.1 = pmP P
  · rw [if_pos e, if_pos e]
    have ef : f = (pmP P, pmS P, pmL P, pmH P) := fd_eq hV.2.1 hf hm e
    rw [ef]
  · rw [if_neg e, if_neg e]
end PR4
