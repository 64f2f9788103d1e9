set_option maxRecDepth 100000
/-! the reference: redeem -/
theorem bsm_snoc (f : Nat → Int32) (c : Nat) : ∀ m, m ≤ c → bsm f (c + 1) (m + 1) = bsm f c m * 256 + b8 (f c)
  | 0, _ => by
    show 0 + b8 (f (c + 1 - 1 - 0)) * 256 ^ 0 = 0 * 256 + b8 (f c)
    rw [show c + 1 - 1 - 0 = c by omega]
    omega
  | m + 1, h => by
    have ih := bsm_snoc f c m (by omega)
    show bsm f (c + 1) (m + 1) + b8 (f (c + 1 - 1 - (m + 1))) * 256 ^ (m + 1) = (bsm f c m + b8 (f (c - 1 - m)) * 256 ^ m) * 256 + b8 (f c)
    rw [ih, show c + 1 - 1 - (m + 1) = c - 1 - m by omega, Nat.pow_succ]
    generalize 256 ^ m = K
    generalize b8 (f (c - 1 - m)) = x
    grind
theorem num_snoc (T : List Int32) (fr n : Nat) : num T fr (n + 1) = num T fr n * 256 + b8 (T.getD (fr + n) 0) := bsm_snoc _ (fr + n) n (by omega)
theorem num_lt' (T : List Int32) (fr n : Nat) : num T fr n < 256 ^ n := bsm_lt _ _ _
theorem lN_or8 {a b : Nat} (ha : a < 2 ^ 32) (hb : b < 2 ^ 8) : lN (a * 2 ^ 8) ||| lN b = lN (a * 2 ^ 8 + b) := by
  apply u64_inj
  rw [u64_or, u64_lN (by omega), u64_lN (by omega), u64_lN (by omega), Nat.mul_comm, ← Nat.two_pow_add_eq_or_of_lt hb]
/-- the disk while a slot is written -/
def putL (d : List Int32) (s : Nat) (T : List Int32) (i : Nat) : List Int32 := (List.range d.length).map fun j => if j = s + 3 then 1 else if s + 4 ≤ j ∧ j < s + 4 + i then T.getD (2 + (j - (s + 4))) 0 else d.getD j 0
theorem putL_len (d : List Int32) (s : Nat) (T : List Int32) (i : Nat) : (putL d s T i).length = d.length := by unfold putL; rw [List.length_map, List.length_range]
theorem putL_0 {f : Nat → Int32} {d : List Int32} (h : PL f d) (s : Nat) (T : List Int32) : PL (upd f (s + 3) 1) (putL d s T 0) := by
  intro j hj
  rw [putL_len] at hj
  unfold putL
  rw [getD_map_range hj]
  show (if j = s + 3 then 1 else f j) = _
  by_cases e : j = s + 3
  · rw [if_pos e, if_pos e]
  · rw [if_neg e, if_neg e, if_neg (by omega)]
    exact h j hj
theorem putL_s {f : Nat → Int32} {d T : List Int32} {s i : Nat} (h : PL f (putL d s T i)) : PL (upd f (s + 4 + i) (T.getD (2 + i) 0)) (putL d s T (i + 1)) := by
  intro j hj
  have h2 := h j (by rw [putL_len] at hj ⊢; exact hj)
  rw [putL_len] at hj
  unfold putL at h2 ⊢
  rw [getD_map_range hj] at h2 ⊢
  show (if j = s + 4 + i then T.getD (2 + i) 0 else f j) = _
  by_cases e : j = s + 4 + i
  · rw [if_pos e, if_neg (by omega), if_pos (by omega), e, show s + 4 + i - (s + 4) = i by omega]
  · rw [if_neg e, h2]
    by_cases e2 : j = s + 3
    · rw [if_pos e2, if_pos e2]
    · rw [if_neg e2, if_neg e2]
      by_cases e3 : s + 4 ≤ j ∧ j < s + 4 + i
      · rw [if_pos e3, if_pos (by omega)]
      · rw [if_neg e3, if_neg (by omega)]
theorem putL_32 (d : List Int32) (k : Nat) (T : List Int32) : putL d (slotN k) T 32 = putS d k T := rfl
section MRd
variable {A : Nat → Nat} {X : AH} {R R' : Nat → Nat} {I I' : Nat → Nat → Int32} {S S' : Nat → List Int32} {F F' : Nat → Int32} {h : AH} {N : Nat → Nat} {L : Nat → List Int32}
set_option maxHeartbeats 4000000 in
theorem spendW_ok (g : GX) (wf : Wf N L) (w : MW A X R I S F h) (ms : MS N L R I (up S 81 []) F) {T : List Int32} (hT : S 81 = T) (hTl : 98 ≤ T.length) (hTB : IsB T) {k : Nat} (hk : k < 112) (v0 v2 : Int32) (v3 : Int64) (v5 : Int32) (v7 : Int32) :
    XX g MX10_redeem ({ frames := 10, cells := 0, slots := 0, locals := 231 } : Room) (RI (MQ3 A X (if N 3 = 1 then (-9, up N 5 1, L) else (0, up (up (up N 3 (N 3 - 1)) 2 (N 2 + 1)) 4 (N 4 + 1), up L 2 (putS (L 2) k T))))) 0 0 281 [(7, .int v7), (6, .int (nI k)), (5, .int v5), (3, .long v3), (2, .int v2), (1, .int v0), (0, .ref (A 96))] [] h := by
  generalize hPost : RI (MQ3 A X (if N 3 = 1 then (-9, up N 5 1, L) else (0, up (up (up N 3 (N 3 - 1)) 2 (N 2 + 1)) 4 (N 4 + 1), up L 2 (putS (L 2) k T)))) = Post
  have f77 : F 77 = nI (N 2) := ms.2.2.2.2.2.2.2.2.2.2.2.2.1
  have f78 : F 78 = nI (N 3) - 1 := ms.2.2.2.2.2.2.2.2.2.2.2.2.2.1
  have f79 : F 79 = nI (N 4) := ms.2.2.2.2.2.2.2.2.2.2.2.2.2.2.1
  have h3 : N 3 ≤ 1001 := wf.2.2.2.1
  have h76 : S 76 = L 2 := by have := ms.2.2.2.2.2.1; rwa [up_ne (by decide)] at this
  have hdl : (L 2).length = 4096 := wf.2.2.2.2.2.2.2.2.2.1
  have hs : slotN k + 36 ≤ 4096 := by unfold slotN; omega
  have rest : N 3 ≠ 1 → ∀ F' h', MW A X R I S F' h' → MS (up N 3 (N 3 - 1)) L R I (up S 81 []) F' → F' 77 = nI (N 2) → F' 79 = nI (N 4) →
      XX g MX10_redeem ({ frames := 10, cells := 0, slots := 0, locals := 231 } : Room) Post 0 0 313 [(7, .int v7), (6, .int (nI k)), (5, .int v5), (3, .long v3), (2, .int v2), (1, .int v0), (0, .ref (A 96))] [] h' := by
    intro hn F' h' w1 ms1 g77 g79
    rw [if_neg hn] at hPost
    refine X_aload_n (pc := 313) 6 dX10_redeem_313 rfl rfl ?_
    refine X_dup (pc := 314) dX10_redeem_314 rfl ?_
    refine X_getfield (pc := 315) dX10_redeem_315 fg_X10_718_11 (MW.ob w1) mf_77 ?_
    refine X_iconst (pc := 318) (x := 1) dX10_redeem_318 (by decide) ?_
    refine X_iadd (pc := 319) dX10_redeem_319 ?_
    rw [g77, show nI (N 2) + 1 = nI (N 2 + 1) from nI_add _ 1]
    refine X_putfield (pc := 320) dX10_redeem_320 fp_X10_718_11 (fun e => by cases e) (MW.ob w1) rfl rfl (Nat.le_of_ble_eq_true rfl) ?_
    have w2 := w1.setF77 (v := nI (N 2 + 1))
    have ms2 := ms1.wri (by rw [up_ne (by decide), up_ne (by decide)]; exact ⟨wf.1, wf.2.1⟩) (N 2 + 1)
    have k79 : (up F' 77 (nI (N 2 + 1))) 79 = nI (N 4) := by rw [up_ne (by decide)]; exact g79
    generalize hset h' (A 96) (Ob 11 ((mFl A F').set 77 (.int (nI (N 2 + 1))))) = h2 at *
    generalize up F' 77 (nI (N 2 + 1)) = F2 at *
    refine X_aload_n (pc := 323) 6 dX10_redeem_323 rfl rfl ?_
    refine X_dup (pc := 324) dX10_redeem_324 rfl ?_
    refine X_getfield (pc := 325) dX10_redeem_325 fg_X10_721_11 (MW.ob w2) mf_79 ?_
    refine X_iconst (pc := 328) (x := 1) dX10_redeem_328 (by decide) ?_
    refine X_iadd (pc := 329) dX10_redeem_329 ?_
    rw [k79, show nI (N 4) + 1 = nI (N 4 + 1) from nI_add _ 1]
    refine X_putfield (pc := 330) dX10_redeem_330 fp_X10_721_11 (fun e => by cases e) (MW.ob w2) rfl rfl (Nat.le_of_ble_eq_true rfl) ?_
    have w3 := w2.setF79 (v := nI (N 4 + 1))
    have ms3 := ms2.red (by rw [up_ne (by decide), up_ne (by decide), up_ne (by decide), up_ne (by decide)]; exact ⟨wf.1, wf.2.1⟩) (N 4 + 1)
    generalize hset h2 (A 96) (Ob 11 ((mFl A F2).set 79 (.int (nI (N 4 + 1))))) = h3 at *
    generalize up F2 79 (nI (N 4 + 1)) = F3 at *
    generalize hN3 : up (up (up N 3 (N 3 - 1)) 2 (N 2 + 1)) 4 (N 4 + 1) = N3 at *
    have wf3 : N3 0 ≤ 6 ∧ N3 1 ≤ 60 := by rw [← hN3, up_ne (by decide), up_ne (by decide), up_ne (by decide), up_ne (by decide), up_ne (by decide), up_ne (by decide)]; exact ⟨wf.1, wf.2.1⟩
    obtain ⟨f76, c76, p76, -⟩ := w3.s 76 rfl
    rw [h76] at p76
    have b3 : vp_in (nI (slotN k + 3)) 4096 := vp_in_nI (by omega) (by decide)
    have c3 : (nI (slotN k + 3)).toNatClampNeg = slotN k + 3 := nI_clamp (by omega)
    have hlp : ∀ m i, i + m = 32 → ∀ h', MW A X R I (up S 76 (putL (L 2) (slotN k) T i)) F3 h' → XX g MX10_redeem ({ frames := 10, cells := 0, slots := 0, locals := 231 } : Room) Post 0 0 349 [(7, .int (nI i)), (6, .int (nI k)), (5, .int v5), (3, .long v3), (2, .int v2), (1, .int v0), (0, .ref (A 96))] [] h' := by
      intro m
      induction m with
      | zero =>
        intro i hi h' w'
        have ei : i = 32 := by omega
        subst ei
        refine X_iload (pc := 349) 0 dX10_redeem_349 rfl ?_
        refine X_bipush (pc := 351) (x := 32) dX10_redeem_351 (by decide) ?_
        refine X_cge (a := 32) (b := 32) (pc := 353) 386 dX10_redeem_353 (by decide) (by omega) (by omega) (fun _ => ?_) (fun z => absurd z (by omega))
        refine X_iconst (pc := 386) (x := 0) dX10_redeem_386 (by decide) ?_
        refine X_ireturn (pc := 387) dX10_redeem_387 rfl (Nat.le_of_ble_eq_true rfl) (Nat.le_of_ble_eq_true rfl) ?_
        subst hPost
        rw [putL_32] at w'
        refine ⟨_, rfl, rfl, MRep.of w' ?_⟩
        have m2 := ms3.dsk wf3 (putS (L 2) k T)
        rw [up_comm _ _ _ (show 81 ≠ 76 by decide)] at m2
        exact m2
      | succ m ih =>
        intro i hi h' w'
        obtain ⟨f76, c76, p76, -⟩ := w'.s 76 rfl
        obtain ⟨f81, c81, p81, -⟩ := w'.s 81 rfl
        rw [up_same] at p76
        rw [up_ne (by decide), hT] at p81
        have b7 : vp_in (nI (slotN k + 4 + i)) 4096 := vp_in_nI (by omega) (by omega)
        have c7 : (nI (slotN k + 4 + i)).toNatClampNeg = slotN k + 4 + i := nI_clamp (by omega)
        have b8' : vp_in (nI (2 + i)) 1208 := vp_in_nI (by omega) (by omega)
        have c8' : (nI (2 + i)).toNatClampNeg = 2 + i := nI_clamp (by omega)
        refine X_iload (pc := 349) 0 dX10_redeem_349 rfl ?_
        refine X_bipush (pc := 351) (x := 32) dX10_redeem_351 (by decide) ?_
        refine X_cge (b := 32) (pc := 353) 386 dX10_redeem_353 (by decide) (by omega) (by omega) (fun z => absurd z (by omega)) (fun _ => ?_)
        refine X_aload_n (pc := 356) 6 dX10_redeem_356 rfl rfl ?_
        refine X_getfield (pc := 357) dX10_redeem_357 fg_X10_528_11 (MW.ob w') mf_76 ?_
        refine X_iload (pc := 360) 1 dX10_redeem_360 rfl ?_
        refine X_isi (pc := 362) _ dX10_redeem_362 cs_X10_701 rfl (slot_ok g hk) nX10_slot (Nat.le_of_ble_eq_true rfl) (Nat.le_of_ble_eq_true rfl) (Nat.le_of_ble_eq_true rfl) (Nat.le_of_ble_eq_true rfl) (fun r1 h1 q1 => ?_)
        obtain ⟨rfl, rfl⟩ := q1
        refine X_iconst (pc := 365) (x := 4) dX10_redeem_365 (by decide) ?_
        refine X_iadd (pc := 366) dX10_redeem_366 ?_
        refine X_iload (pc := 367) 0 dX10_redeem_367 rfl ?_
        refine X_iadd (pc := 369) dX10_redeem_369 ?_
        rw [show nI (slotN k) + 4 = nI (slotN k + 4) from nI_add _ 4, nI_add]
        refine X_aload_n (pc := 370) 6 dX10_redeem_370 rfl rfl ?_
        refine X_getfield (pc := 371) dX10_redeem_371 fg_X10_534_11 (MW.ob w') mf_81 ?_
        refine X_iconst (pc := 374) (x := 2) dX10_redeem_374 (by decide) ?_
        refine X_iload (pc := 375) 0 dX10_redeem_375 rfl ?_
        refine X_iadd (pc := 377) dX10_redeem_377 ?_
        rw [show (2 : Int32) + nI i = nI (2 + i) from nI_add 2 i]
        refine X_baload (pc := 378) dX10_redeem_378 c81 b8' ?_
        refine X_bastore (pc := 379) dX10_redeem_379 c76 b7 ?_
        rw [c7, c8', p81 _ (by omega), hTB.nar]
        have w2 := w'.setS 76 rfl (putL_s p76) (by rw [putL_len, hdl]; decide)
        rw [up_up'] at w2
        refine X_iinc (pc := 380) (L' := [(7, .int (_ + 1)), (6, .int _), (5, .int _), (3, .long _), (2, .int _), (1, .int _), (0, .ref _)]) 0 dX10_redeem_380 rfl rfl (Nat.le_of_ble_eq_true rfl) rfl ?_
        refine X_goto (pc := 383) 349 dX10_redeem_383 (by decide) ?_
        rw [show nI i + 1 = nI (i + 1) from nI_add i 1]
        exact ih (i + 1) (by omega) _ w2
    refine X_aload_n (pc := 333) 6 dX10_redeem_333 rfl rfl ?_
    refine X_getfield (pc := 334) dX10_redeem_334 fg_X10_528_11 (MW.ob w3) mf_76 ?_
    refine X_iload (pc := 337) 1 dX10_redeem_337 rfl ?_
    refine X_isi (pc := 339) _ dX10_redeem_339 cs_X10_701 rfl (slot_ok g hk) nX10_slot (Nat.le_of_ble_eq_true rfl) (Nat.le_of_ble_eq_true rfl) (Nat.le_of_ble_eq_true rfl) (Nat.le_of_ble_eq_true rfl) (fun r1 h4 q1 => ?_)
    obtain ⟨rfl, rfl⟩ := q1
    refine X_iconst (pc := 342) (x := 3) dX10_redeem_342 (by decide) ?_
    refine X_iadd (pc := 343) dX10_redeem_343 ?_
    rw [show nI (slotN k) + 3 = nI (slotN k + 3) from nI_add _ 3]
    refine X_iconst (pc := 344) (x := 1) dX10_redeem_344 (by decide) ?_
    refine X_bastore (pc := 345) dX10_redeem_345 c76 b3 ?_
    rw [c3, show ((1 : Int32).toInt8.toInt32) = 1 from rfl]
    have w4 := w3.setS 76 rfl (putL_0 p76 (slotN k) T) (by rw [putL_len, hdl]; decide)
    refine X_iconst (pc := 346) (x := 0) dX10_redeem_346 (by decide) ?_
    refine X_istore (pc := 347) (L' := [(7, .int _), (6, .int _), (5, .int _), (3, .long _), (2, .int _), (1, .int _), (0, .ref _)]) dX10_redeem_347 (Nat.le_of_ble_eq_true rfl) rfl ?_
    exact hlp 32 0 (by omega) _ w4
  refine X_aload_n (pc := 281) 6 dX10_redeem_281 rfl rfl ?_
  refine X_getfield (pc := 282) dX10_redeem_282 fg_X10_531_11 (MW.ob w) mf_78 ?_
  by_cases c1 : N 3 = 1
  · have e78 : F 78 = 0 := by rw [f78, c1]; rfl
    rw [e78]
    refine X_if_ne (pc := 285) 296 dX10_redeem_285 (by decide) (fun z => absurd rfl z) (fun _ => ?_)
    refine X_aload_n (pc := 288) 6 dX10_redeem_288 rfl rfl ?_
    refine X_iconst (pc := 289) (x := 1) dX10_redeem_289 (by decide) ?_
    refine X_putfield (pc := 290) dX10_redeem_290 fp_X10_704_11 (fun e => by cases e) (MW.ob w) rfl rfl (Nat.le_of_ble_eq_true rfl) ?_
    have w1 := w.setF80 (v := 1)
    refine X_bipush (pc := 293) (x := (-9)) dX10_redeem_293 (by decide) ?_
    refine X_ireturn (pc := 295) dX10_redeem_295 rfl (Nat.le_of_ble_eq_true rfl) (Nat.le_of_ble_eq_true rfl) ?_
    subst hPost
    rw [if_pos c1]
    exact ⟨_, rfl, rfl, MRep.of w1 (ms.dwn ⟨wf.1, wf.2.1⟩ 1)⟩
  by_cases c0 : N 3 = 0
  · have e78 : F 78 = -1 := by rw [f78, c0]; rfl
    rw [e78]
    refine X_if_ne (pc := 285) 296 dX10_redeem_285 (by decide) (fun _ => ?_) (fun z => absurd z (by decide))
    refine X_aload_n (pc := 296) 6 dX10_redeem_296 rfl rfl ?_
    refine X_getfield (pc := 297) dX10_redeem_297 fg_X10_531_11 (MW.ob w) mf_78 ?_
    rw [e78]
    refine X_if_le (pc := 300) 313 dX10_redeem_300 (by decide) (fun _ => ?_) (fun z => absurd (show (-1 : Int32) ≤ 0 by decide) z)
    have m2 := ms.fus ⟨wf.1, wf.2.1⟩ 0
    have e : up F 78 (nI 0 - 1) = F := funext fun j => by
      by_cases ej : j = 78
      · subst ej; rw [up_same, e78]; rfl
      · rw [up_ne ej]
    rw [e] at m2
    exact rest c1 F h w (by rw [c0]; exact m2) f77 f79
  · obtain ⟨q, hq⟩ : ∃ q, N 3 = q + 2 := ⟨N 3 - 2, by omega⟩
    have e78 : F 78 = nI (q + 1) := by rw [f78, hq]; exact nI_pred (q + 1)
    rw [e78]
    have hp : ¬ nI (q + 1) = 0 := fun z => by have := nI_inj' (a := q + 1) (b := 0) (by omega) (by omega) z; omega
    have hp2 : ¬ nI (q + 1) ≤ 0 := nI_ge (a := 0) (by omega) (by omega)
    refine X_if_ne (pc := 285) 296 dX10_redeem_285 (by decide) (fun _ => ?_) (fun z => absurd z hp)
    refine X_aload_n (pc := 296) 6 dX10_redeem_296 rfl rfl ?_
    refine X_getfield (pc := 297) dX10_redeem_297 fg_X10_531_11 (MW.ob w) mf_78 ?_
    rw [e78]
    refine X_if_le (pc := 300) 313 dX10_redeem_300 (by decide) (fun z => absurd z hp2) (fun _ => ?_)
    refine X_aload_n (pc := 303) 6 dX10_redeem_303 rfl rfl ?_
    refine X_dup (pc := 304) dX10_redeem_304 rfl ?_
    refine X_getfield (pc := 305) dX10_redeem_305 fg_X10_531_11 (MW.ob w) mf_78 ?_
    refine X_iconst (pc := 308) (x := 1) dX10_redeem_308 (by decide) ?_
    refine X_isub (pc := 309) dX10_redeem_309 ?_
    rw [e78]
    refine X_putfield (pc := 310) dX10_redeem_310 fp_X10_531_11 (fun e => by cases e) (MW.ob w) rfl rfl (Nat.le_of_ble_eq_true rfl) ?_
    have w1 := w.setF78 (v := nI (q + 1) - 1)
    have m2 := ms.fus ⟨wf.1, wf.2.1⟩ (q + 1)
    exact rest c1 _ _ w1 (by rw [hq]; exact m2) (by rw [up_ne (by decide)]; exact f77) (by rw [up_ne (by decide)]; exact f79)
set_option maxHeartbeats 4000000 in
theorem spend_ok (g : GX) (wf : Wf N L) (w : MW A X R I S F h) (ms : MS N L R I (up S 81 []) F) {T : List Int32} (hT : S 81 = T) (hTl : 98 ≤ T.length) (hTB : IsB T) (v0 v2 v3 : Int32) :
    XX g MX10_redeem ({ frames := 10, cells := 0, slots := 0, locals := 231 } : Room) (RI (MQ3 A X (sSpend N L T))) 0 0 166 [(3, .int v3), (2, .int v2), (1, .int v0), (0, .ref (A 96))] [] h := by
  have hsd : sSpend N L T = match low (wayP (L 2) T) 112 with
    | none => (-6, N, L)
    | some i => if freeS (L 2) ((num T 2 4 % 112 + i) % 112) then (if N 3 = 1 then (-9, up N 5 1, L) else (0, up (up (up N 3 (N 3 - 1)) 2 (N 2 + 1)) 4 (N 4 + 1), up L 2 (putS (L 2) ((num T 2 4 % 112 + i) % 112) T))) else (-5, N, L) := rfl
  have hwd : ∀ i, wayP (L 2) T i = (freeS (L 2) ((num T 2 4 % 112 + i) % 112) || hasS (L 2) ((num T 2 4 % 112 + i) % 112) T) := fun _ => rfl
  have h76 : S 76 = L 2 := by have := ms.2.2.2.2.2.1; rwa [up_ne (by decide)] at this
  have hdl : (L 2).length = 4096 := wf.2.2.2.2.2.2.2.2.2.1
  have d4 : ∀ x : Int32, x &&& 255 = nI (b8 x) := fun x => pk_and x (m := 255) 8 rfl
  have b8l : ∀ x : Int32, b8 x < 256 := fun x => Nat.mod_lt _ (by decide)
  obtain ⟨f81, c81, p81, -⟩ := w.s 81 rfl
  rw [hT] at p81
  generalize hPost : RI (MQ3 A X (sSpend N L T)) = Post
  rw [hsd] at hPost
  have hst : num T 2 4 % 112 < 112 := Nat.mod_lt _ (by decide)
  have way : ∀ v3', ∀ m i, i + m = 112 → (∀ j, j < i → wayP (L 2) T j = false) → XX g MX10_redeem ({ frames := 10, cells := 0, slots := 0, locals := 231 } : Room) Post 0 0 217 [(7, .int (nI i)), (6, .int (-1)), (5, .int (nI (num T 2 4 % 112))), (3, .long v3'), (2, .int v2), (1, .int v0), (0, .ref (A 96))] [] h := by
    intro v3' m
    generalize hstt : num T 2 4 % 112 = stt at *
    induction m with
    | zero =>
      intro i hi hno
      have ei : i = 112 := by omega
      subst ei
      rw [low_not hno] at hPost
      refine X_iload (pc := 217) 0 dX10_redeem_217 rfl ?_
      refine X_bipush (pc := 219) (x := 112) dX10_redeem_219 (by decide) ?_
      refine X_cge (a := 112) (b := 112) (pc := 221) 273 dX10_redeem_221 (by decide) (by omega) (by omega) (fun _ => ?_) (fun z => absurd z (by omega))
      refine X_iload (pc := 273) 1 dX10_redeem_273 rfl ?_
      refine X_if_ge (pc := 275) 281 dX10_redeem_275 (by decide) (fun z => absurd z (by decide)) (fun _ => ?_)
      refine X_bipush (pc := 278) (x := (-6)) dX10_redeem_278 (by decide) ?_
      refine X_ireturn (pc := 280) dX10_redeem_280 rfl (Nat.le_of_ble_eq_true rfl) (Nat.le_of_ble_eq_true rfl) ?_
      subst hPost
      exact ⟨_, rfl, rfl, MRep.of w ms⟩
    | succ m ih =>
      intro i hi hno
      have hkk : (stt + i) % 112 < 112 := Nat.mod_lt _ (by decide)
      refine X_iload (pc := 217) 0 dX10_redeem_217 rfl ?_
      refine X_bipush (pc := 219) (x := 112) dX10_redeem_219 (by decide) ?_
      refine X_cge (b := 112) (pc := 221) 273 dX10_redeem_221 (by decide) (by omega) (by omega) (fun z => absurd z (by omega)) (fun _ => ?_)
      refine X_iload (pc := 224) 1 dX10_redeem_224 rfl ?_
      refine X_if_ge (pc := 226) 273 dX10_redeem_226 (by decide) (fun z => absurd z (by decide)) (fun _ => ?_)
      refine X_iload (pc := 229) 2 dX10_redeem_229 rfl ?_
      refine X_iload (pc := 231) 0 dX10_redeem_231 rfl ?_
      refine X_iadd (pc := 233) dX10_redeem_233 ?_
      refine X_bipush (pc := 234) (x := 112) dX10_redeem_234 (by decide) ?_
      refine X_irem (pc := 236) dX10_redeem_236 (show ¬ (112 : Int32) = 0 by decide) ?_
      rw [nI_add, show nI (stt + i) - nI (stt + i) / 112 * 112 = nI ((stt + i) % 112) from pk_rem (d := 112) (by omega) (by decide) (by decide)]
      refine X_istore (pc := 237) (L' := [(8, .int _), (7, .int _), (6, .int _), (5, .int _), (3, .long _), (2, .int _), (1, .int _), (0, .ref _)]) dX10_redeem_237 (Nat.le_of_ble_eq_true rfl) rfl ?_
      refine X_aload_n (pc := 239) 7 dX10_redeem_239 rfl rfl ?_
      refine X_iload (pc := 240) 0 dX10_redeem_240 rfl ?_
      refine X_ivi (pc := 242) _ dX10_redeem_242 cv_X10_712_11 (MW.ob w) rfl (isFree_ok g w h76 hdl hkk) nX10_isFree (Nat.le_of_ble_eq_true rfl) (Nat.le_of_ble_eq_true rfl) (Nat.le_of_ble_eq_true rfl) (Nat.le_of_ble_eq_true rfl) (fun r1 h1 q1 => ?_)
      obtain ⟨rfl, rfl⟩ := q1
      have hw := hwd i
      generalize hkd : (stt + i) % 112 = k at *
      cases hf : freeS (L 2) k with
      | true =>
        have hlow : low (wayP (L 2) T) 112 = some i := low_is (by omega) (by rw [hw, hf]; rfl) hno
        rw [hlow] at hPost
        have hPost : RI (MQ3 A X (if N 3 = 1 then (-9, up N 5 1, L) else (0, up (up (up N 3 (N 3 - 1)) 2 (N 2 + 1)) 4 (N 4 + 1), up L 2 (putS (L 2) k T)))) = Post := by
          rw [← hPost]
          show _ = RI (MQ3 A X (if freeS (L 2) ((stt + i) % 112) then (if N 3 = 1 then (-9, up N 5 1, L) else (0, up (up (up N 3 (N 3 - 1)) 2 (N 2 + 1)) 4 (N 4 + 1), up L 2 (putS (L 2) ((stt + i) % 112) T))) else (-5, N, L)))
          rw [hkd, if_pos hf]
        rw [if_pos rfl]
        refine X_if_eq (pc := 245) 255 dX10_redeem_245 (by decide) (fun z => absurd z (by decide)) (fun _ => ?_)
        refine X_iload (pc := 248) 0 dX10_redeem_248 rfl ?_
        refine X_istore (pc := 250) (L' := [(6, .int _), (8, .int _), (7, .int _), (5, .int _), (3, .long _), (2, .int _), (1, .int _), (0, .ref _)]) dX10_redeem_250 (Nat.le_of_ble_eq_true rfl) rfl ?_
        refine X_goto (pc := 252) 267 dX10_redeem_252 (by decide) ?_
        refine X_iinc (pc := 267) (L' := [(7, .int (_ + 1)), (6, .int _), (8, .int _), (5, .int _), (3, .long _), (2, .int _), (1, .int _), (0, .ref _)]) 2 dX10_redeem_267 rfl rfl (Nat.le_of_ble_eq_true rfl) rfl ?_
        refine X_goto (pc := 270) 217 dX10_redeem_270 (by decide) ?_
        refine X_iload (pc := 217) 0 dX10_redeem_217 rfl ?_
        refine X_bipush (pc := 219) (x := 112) dX10_redeem_219 (by decide) ?_
        have fin := spendW_ok g wf w ms hT hTl hTB hkk v0 v2 v3' (nI stt) (nI i + 1)
        rw [hPost] at fin
        by_cases c112 : i + 1 = 112
        · rw [show nI i + 1 = nI 112 by rw [show nI i + 1 = nI (i + 1) from nI_add i 1, c112]] at fin ⊢
          refine X_cge (a := 112) (b := 112) (pc := 221) 273 dX10_redeem_221 (by decide) (by omega) (by omega) (fun _ => ?_) (fun z => absurd z (by omega))
          refine X_iload (pc := 273) 1 dX10_redeem_273 rfl ?_
          refine X_if_ge (pc := 275) 281 dX10_redeem_275 (by decide) (fun _ => ?_) (fun z => absurd (nI_pos' (by omega)) z)
          refine XX.pick (L' := [(7, .int _), (6, .int _), (5, .int _), (3, .long _), (2, .int _), (1, .int _), (0, .ref _)]) [0, 1, 3, 4, 5, 6, 7] rfl ?_
          exact fin
        · rw [show nI i + 1 = nI (i + 1) from nI_add i 1] at fin ⊢
          refine X_cge (b := 112) (pc := 221) 273 dX10_redeem_221 (by decide) (by omega) (by omega) (fun z => absurd z (by omega)) (fun _ => ?_)
          refine X_iload (pc := 224) 1 dX10_redeem_224 rfl ?_
          refine X_if_ge (pc := 226) 273 dX10_redeem_226 (by decide) (fun _ => ?_) (fun z => absurd (nI_pos' (by omega)) z)
          refine X_iload (pc := 273) 1 dX10_redeem_273 rfl ?_
          refine X_if_ge (pc := 275) 281 dX10_redeem_275 (by decide) (fun _ => ?_) (fun z => absurd (nI_pos' (by omega)) z)
          refine XX.pick (L' := [(7, .int _), (6, .int _), (5, .int _), (3, .long _), (2, .int _), (1, .int _), (0, .ref _)]) [0, 1, 3, 4, 5, 6, 7] rfl ?_
          exact fin
      | false =>
        rw [if_neg (by decide)]
        refine X_if_eq (pc := 245) 255 dX10_redeem_245 (by decide) (fun _ => ?_) (fun z => absurd rfl z)
        refine X_aload_n (pc := 255) 7 dX10_redeem_255 rfl rfl ?_
        refine X_iload (pc := 256) 0 dX10_redeem_256 rfl ?_
        refine X_ivi (pc := 258) _ dX10_redeem_258 cv_X10_715_11 (MW.ob w) rfl (isIn_ok g w h76 hdl hT (by omega) hkk) nX10_isIn (Nat.le_of_ble_eq_true rfl) (Nat.le_of_ble_eq_true rfl) (Nat.le_of_ble_eq_true rfl) (Nat.le_of_ble_eq_true rfl) (fun r2 h2 q2 => ?_)
        obtain ⟨rfl, rfl⟩ := q2
        cases hh : hasS (L 2) k T with
        | true =>
          have hlow : low (wayP (L 2) T) 112 = some i := low_is (by omega) (by rw [hw, hf, hh]; rfl) hno
          rw [hlow] at hPost
          rw [if_pos rfl]
          refine X_if_eq (pc := 261) 267 dX10_redeem_261 (by decide) (fun z => absurd z (by decide)) (fun _ => ?_)
          refine X_bipush (pc := 264) (x := (-5)) dX10_redeem_264 (by decide) ?_
          refine X_ireturn (pc := 266) dX10_redeem_266 rfl (Nat.le_of_ble_eq_true rfl) (Nat.le_of_ble_eq_true rfl) ?_
          subst hPost
          show RI (MQ3 A X (if freeS (L 2) ((stt + i) % 112) then _ else (-5, N, L))) _ _
          rw [hkd, if_neg (by rw [hf]; decide)]
          exact ⟨_, rfl, rfl, MRep.of w ms⟩
        | false =>
          rw [if_neg (by decide)]
          refine X_if_eq (pc := 261) 267 dX10_redeem_261 (by decide) (fun _ => ?_) (fun z => absurd rfl z)
          refine X_iinc (pc := 267) (L' := [(7, .int (_ + 1)), (8, .int _), (6, .int _), (5, .int _), (3, .long _), (2, .int _), (1, .int _), (0, .ref _)]) 1 dX10_redeem_267 rfl rfl (Nat.le_of_ble_eq_true rfl) rfl ?_
          refine X_goto (pc := 270) 217 dX10_redeem_270 (by decide) ?_
          rw [show nI i + 1 = nI (i + 1) from nI_add i 1]
          refine XX.pick (L' := [(7, .int _), (6, .int _), (5, .int _), (3, .long _), (2, .int _), (1, .int _), (0, .ref _)]) [0, 2, 3, 4, 5, 6, 7] rfl ?_
          refine ih (i + 1) (by omega) (fun j hj => ?_)
          by_cases ej : j = i
          · rw [ej, hw, hf, hh]; rfl
          · exact hno j (by omega)
  have acc : ∀ m i, i + m = 4 → XX g MX10_redeem ({ frames := 10, cells := 0, slots := 0, locals := 231 } : Room) Post 0 0 171 [(5, .int (nI i)), (3, .long (lN (num T 2 i))), (2, .int v2), (1, .int v0), (0, .ref (A 96))] [] h := by
    intro m
    induction m with
    | zero =>
      intro i hi
      have ei : i = 4 := by omega
      subst ei
      have hlt := num_lt' T 2 4
      refine X_iload (pc := 171) 0 dX10_redeem_171 rfl ?_
      refine X_iconst (pc := 173) (x := 4) dX10_redeem_173 (by decide) ?_
      refine X_cge (a := 4) (b := 4) (pc := 174) 203 dX10_redeem_174 (by decide) (by omega) (by omega) (fun _ => ?_) (fun z => absurd z (by omega))
      refine X_lload_n (pc := 203) 1 dX10_redeem_203 rfl rfl ?_
      refine X_ldc2 (pc := 204) dX10_redeem_204 q2099 ?_
      refine X_lrem (pc := 207) dX10_redeem_207 (show ¬ (112 : Int64) = 0 by decide) ?_
      rw [show lN (num T 2 4) - lN (num T 2 4) / 112 * 112 = lN (num T 2 4 % 112) from pk_lRem (b := 112) (by omega) (by decide) (by decide)]
      refine X_l2i (pc := 208) dX10_redeem_208 ?_
      rw [lN_i]
      refine X_istore (pc := 209) (L' := [(5, .int _), (3, .long _), (2, .int _), (1, .int _), (0, .ref _)]) dX10_redeem_209 (Nat.le_of_ble_eq_true rfl) rfl ?_
      refine X_iconst (pc := 211) (x := (-1)) dX10_redeem_211 (by decide) ?_
      refine X_istore (pc := 212) (L' := [(6, .int _), (5, .int _), (3, .long _), (2, .int _), (1, .int _), (0, .ref _)]) dX10_redeem_212 (Nat.le_of_ble_eq_true rfl) rfl ?_
      refine X_iconst (pc := 214) (x := 0) dX10_redeem_214 (by decide) ?_
      refine X_istore (pc := 215) (L' := [(7, .int _), (6, .int _), (5, .int _), (3, .long _), (2, .int _), (1, .int _), (0, .ref _)]) dX10_redeem_215 (Nat.le_of_ble_eq_true rfl) rfl ?_
      exact way _ 112 0 (by omega) (fun j hj => by omega)
    | succ m ih =>
      intro i hi
      have hlt := num_lt' T 2 i
      have hlt2 : num T 2 i < 2 ^ 24 := Nat.lt_of_lt_of_le hlt (Nat.le_trans (Nat.pow_le_pow_right (by decide) (show i ≤ 3 by omega)) (by decide))
      have b8' : vp_in (nI (2 + i)) 1208 := vp_in_nI (by omega) (by omega)
      have c8' : (nI (2 + i)).toNatClampNeg = 2 + i := nI_clamp (by omega)
      refine X_iload (pc := 171) 0 dX10_redeem_171 rfl ?_
      refine X_iconst (pc := 173) (x := 4) dX10_redeem_173 (by decide) ?_
      refine X_cge (b := 4) (pc := 174) 203 dX10_redeem_174 (by decide) (by omega) (by omega) (fun z => absurd z (by omega)) (fun _ => ?_)
      refine X_lload_n (pc := 177) 1 dX10_redeem_177 rfl rfl ?_
      refine X_bipush (pc := 178) (x := 8) dX10_redeem_178 (by decide) ?_
      refine X_lshl (pc := 180) dX10_redeem_180 ?_
      rw [lN_shl (k := 8) _ (by decide) (by omega)]
      refine X_aload_n (pc := 181) 4 dX10_redeem_181 rfl rfl ?_
      refine X_getfield (pc := 182) dX10_redeem_182 fg_X10_534_11 (MW.ob w) mf_81 ?_
      refine X_iconst (pc := 185) (x := 2) dX10_redeem_185 (by decide) ?_
      refine X_iload (pc := 186) 0 dX10_redeem_186 rfl ?_
      refine X_iadd (pc := 188) dX10_redeem_188 ?_
      rw [show (2 : Int32) + nI i = nI (2 + i) from nI_add 2 i]
      refine X_baload (pc := 189) dX10_redeem_189 c81 b8' ?_
      refine X_sipush (pc := 190) (x := 255) dX10_redeem_190 (by decide) ?_
      refine X_iand (pc := 193) dX10_redeem_193 ?_
      rw [c8', p81 _ (by omega), d4]
      refine X_i2l (pc := 194) dX10_redeem_194 ?_
      have hb := b8l (T.getD (2 + i) 0)
      rw [nI_l (by omega)]
      refine X_lor (pc := 195) dX10_redeem_195 ?_
      rw [lN_or8 (by omega) hb, show num T 2 i * 2 ^ 8 + b8 (T.getD (2 + i) 0) = num T 2 (i + 1) from (num_snoc T 2 i).symm]
      refine X_lstore_n (pc := 196) (L' := [(3, .long _), (5, .int _), (2, .int _), (1, .int _), (0, .ref _)]) dX10_redeem_196 rfl (Nat.le_of_ble_eq_true rfl) rfl ?_
      refine X_iinc (pc := 197) (L' := [(5, .int (_ + 1)), (3, .long _), (2, .int _), (1, .int _), (0, .ref _)]) 1 dX10_redeem_197 rfl rfl (Nat.le_of_ble_eq_true rfl) rfl ?_
      refine X_goto (pc := 200) 171 dX10_redeem_200 (by decide) ?_
      rw [show nI i + 1 = nI (i + 1) from nI_add i 1]
      refine XX.pick (L' := [(5, .int _), (3, .long _), (2, .int _), (1, .int _), (0, .ref _)]) [0, 1, 2, 3, 4] rfl ?_
      exact ih (i + 1) (by omega)
  refine X_lconst (pc := 166) (x := 0) dX10_redeem_166 (by decide) ?_
  refine X_lstore_n (pc := 167) (L' := [(3, .long _), (2, .int _), (1, .int _), (0, .ref _)]) dX10_redeem_167 rfl (Nat.le_of_ble_eq_true rfl) rfl ?_
  refine X_iconst (pc := 168) (x := 0) dX10_redeem_168 (by decide) ?_
  refine X_istore (pc := 169) (L' := [(5, .int _), (3, .long _), (2, .int _), (1, .int _), (0, .ref _)]) dX10_redeem_169 (Nat.le_of_ble_eq_true rfl) rfl ?_
  refine XX.pick (L' := [(5, .int _), (3, .long _), (2, .int _), (1, .int _), (0, .ref _)]) [0, 1, 2, 3, 4] rfl ?_
  exact acc 4 0 (by omega)
end MRd
