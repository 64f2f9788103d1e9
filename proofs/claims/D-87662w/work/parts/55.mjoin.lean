set_option maxRecDepth 100000
/-! the reference: the sum of two points -/
theorem f_mul (a b : Nat) : fp (a * b % pP) = fp a * fp b := by rw [fp_mod, fp_mul]
theorem f_add (a b : Nat) : fp ((a + b) % pP) = fp a + fp b := by rw [fp_mod, fp_add]
theorem f_sub {a b : Nat} (h : b < pP) : fp (sbN pP a b) = fp a - fp b := by
  unfold sbN
  rw [fp_mod, fp_sub (Nat.le_of_lt h)]
theorem three_x {F : Type} [Lean.Grind.CommRing F] (m : F) : m + (m + m) = 3 * m := by grind
theorem ad_opp {x1 y1 x2 y2 : Fp} (hx : x1 = x2) (h : y1 + y2 = 0) : adP (some (x1, y1)) (some (x2, y2)) = none := by
  show eAdd ivP (some (x1, y1)) (some (x2, y2)) = _
  unfold eAdd
  simp only
  rw [if_pos hx, if_pos h]
theorem ad_same {x1 y1 x2 y2 : Fp} (hx : x1 = x2) (h : y1 + y2 ≠ 0) : adP (some (x1, y1)) (some (x2, y2)) = some (eFin (ivP (y1 + y2) * (3 * (x1 * x1 - 1))) x1 y1 x2) := by
  show eAdd ivP (some (x1, y1)) (some (x2, y2)) = _
  unfold eAdd
  simp only
  rw [if_pos hx, if_neg h]
theorem ad_far {x1 y1 x2 y2 : Fp} (hx : x1 ≠ x2) : adP (some (x1, y1)) (some (x2, y2)) = some (eFin (ivP (x2 - x1) * (y2 - y1)) x1 y1 x2) := by
  show eAdd ivP (some (x1, y1)) (some (x2, y2)) = _
  unfold eAdd
  simp only
  rw [if_neg hx]
section MJ
variable {A : Nat → Nat} {X : AH} {R : Nat → Nat} {I : Nat → Nat → Int32} {S : Nat → List Int32} {F : Nat → Int32} {h : AH}
/-- forget how a register got its value -/
theorem MW.abs {k v : Nat} (w : MW A X (up R k v) I S F h) : ∃ R', R' k = v ∧ (∀ j, j ≠ k → R' j = R j) ∧ MW A X R' I S F h := ⟨_, up_same _ _ _, fun _ e => up_ne e, w⟩
theorem OpP.nv {v : Nat} (w : MW A X R I S F h) (k : Nat) (hk : kdM k = (1, 0, 12)) (e : R k = v) : OpP A h (A k) v := e ▸ OpP.n w k hk
theorem OpP.sxv {v : Nat} (w : MW A X R I S F h) {s : Nat} (hs : s < 31) (e : R (200 + s) = v) (hb : v < pP) : OpP A h (A (200 + s)) v := by subst e; exact OpP.sx w hs hb
theorem OpP.syv {v : Nat} (w : MW A X R I S F h) {s : Nat} (hs : s < 31) (e : R (300 + s) = v) : OpP A h (A (300 + s)) v := e ▸ OpP.sy w hs
theorem cmpN_eq0 {a b : Nat} : cmpN a b = 0 ↔ a = b := by
  unfold cmpN
  by_cases c1 : a < b
  · rw [if_pos c1]; exact ⟨fun e => absurd e (by decide), fun e => by omega⟩
  · rw [if_neg c1]
    by_cases c2 : a = b
    · rw [if_pos c2]; exact ⟨fun _ => c2, fun _ => rfl⟩
    · rw [if_neg c2]; exact ⟨fun e => absurd e (by decide), fun e => absurd e c2⟩
def jScr (t j : Nat) : Bool := j == 13 || j == 14 || j == 15 || j == 200 + t || j == 300 + t
theorem jScr_ne {t j k : Nat} (h : jScr t j = false) (hk : jScr t k = true) : j ≠ k := fun e => by rw [e, hk] at h; cases h
def JPost (A : Nat → Nat) (X : AH) (R : Nat → Nat) (I : Nat → Nat → Int32) (S : Nat → List Int32) (F : Nat → Int32) (t : Nat) (P : PP) (h' : AH) : Prop :=
  ∃ R' F', MW A X R' I S F' h' ∧ (∀ j, jScr t j = false → R' j = R j) ∧ (∀ j, j ≠ 400 + t → F' j = F j) ∧ (F' (400 + t) = 0 ∨ F' (400 + t) = 1) ∧ spt R' F' t = P ∧ R' (200 + t) < pP
set_option maxHeartbeats 4000000 in
theorem join_ok (g : GX) (w : MW A X R I S F h) {sa sb t : Nat} (ha : sa < 31) (hb : sb < 31) (ht : t < 31) (ba : R (200 + sa) < pP) (bb : R (200 + sb) < pP) (bt : R (200 + t) < pP) (za : F (400 + sa) = 0 ∨ F (400 + sa) = 1) (zb : F (400 + sb) = 0 ∨ F (400 + sb) = 1) :
    MT g MX10_join ({ frames := 4, cells := 0, slots := 0, locals := 112 } : Room) [.ref (A 96), .ref (A (400 + sa)), .ref (A (400 + sb)), .ref (A (400 + t))] h (RV (JPost A X R I S F t (adP (spt R F sa) (spt R F sb)))) := by
  refine MT.of (by decide) (Nat.le_of_ble_eq_true rfl) ?_
  generalize hPost : RV (JPost A X R I S F t (adP (spt R F sa) (spt R F sb))) = Post
  have isfr : ∀ s j, jScr t j = false → rIs t s R j = R j := fun s j hj => by
    unfold rIs
    rw [up_ne (jScr_ne hj (by simp [jScr])), up_ne (jScr_ne hj (by simp [jScr]))]
  have ispt : ∀ s, spt (rIs t s R) (up F (400 + t) (F (400 + s))) t = spt R F s := fun s => by
    unfold spt rIs
    rw [up_same, up_same, up_ne (show 200 + t ≠ 300 + t by omega), up_same]
  have isx : ∀ s, rIs t s R (200 + t) = R (200 + s) := fun s => by
    unfold rIs
    rw [up_ne (show 200 + t ≠ 300 + t by omega), up_same]
  -- the end
  have tail : F (400 + sa) = 0 → F (400 + sb) = 0 → ∀ (R' : Nat → Nat) (h' : AH) (x y : Int32), MW A X R' I S F h' → (∀ j, j ≠ 13 → j ≠ 14 → j ≠ 15 → R' j = R j) →
      adP (spt R F sa) (spt R F sb) = some (eFin (fp (R' 13) * fp (R' 14)) (fp (R (200 + sa))) (fp (R (300 + sa))) (fp (R (200 + sb)))) →
      XX g MX10_join ({ frames := 4, cells := 0, slots := 0, locals := 112 } : Room) Post 0 0 260 [(5, .int x), (4, .int y), (0, .ref (A 96)), (1, .ref (A (400 + sa))), (2, .ref (A (400 + sb))), (3, .ref (A (400 + t)))] [] h' := by
    intro hFa hFb R1 h1 x y w1 fr1 hP
    refine X_aload_n (pc := 260) 2 dX10_join_260 rfl rfl ?_
    refine X_aload_n (pc := 261) 2 dX10_join_261 rfl rfl ?_
    refine X_getfield (pc := 262) dX10_join_262 fg_X10_61_11 (MW.ob w1) mf_9 ?_
    refine X_aload_n (pc := 265) 2 dX10_join_265 rfl rfl ?_
    refine X_getfield (pc := 266) dX10_join_266 fg_X10_158_11 (MW.ob w1) mf_13 ?_
    refine X_aload_n (pc := 269) 2 dX10_join_269 rfl rfl ?_
    refine X_getfield (pc := 270) dX10_join_270 fg_X10_152_11 (MW.ob w1) mf_14 ?_
    refine X_aload_n (pc := 273) 2 dX10_join_273 rfl rfl ?_
    refine X_getfield (pc := 274) dX10_join_274 fg_X10_158_11 (MW.ob w1) mf_13 ?_
    refine X_ivv (pc := 277) _ dX10_join_277 cv_X10_102_11 (MW.ob w1) rfl (mtPr g w1 13 13 14 rfl rfl rfl) nX10_times (Nat.le_of_ble_eq_true rfl) (Nat.le_of_ble_eq_true rfl) (Nat.le_of_ble_eq_true rfl) (Nat.le_of_ble_eq_true rfl) (fun h2 q2 => ?_)
    obtain ⟨R2, e2, o2, w2⟩ := MW.abs q2
    have fr2 : ∀ j, j ≠ 13 → j ≠ 14 → j ≠ 15 → R2 j = R j := fun j a b c => (o2 j a).trans (fr1 j a b c)
    refine X_aload_n (pc := 280) 2 dX10_join_280 rfl rfl ?_
    refine X_aload_n (pc := 281) 2 dX10_join_281 rfl rfl ?_
    refine X_getfield (pc := 282) dX10_join_282 fg_X10_61_11 (MW.ob w2) mf_9 ?_
    refine X_aload_n (pc := 285) 2 dX10_join_285 rfl rfl ?_
    refine X_getfield (pc := 286) dX10_join_286 fg_X10_158_11 (MW.ob w2) mf_13 ?_
    refine X_aload_n (pc := 289) 2 dX10_join_289 rfl rfl ?_
    refine X_getfield (pc := 290) dX10_join_290 fg_X10_158_11 (MW.ob w2) mf_13 ?_
    refine X_aload_n (pc := 293) 2 dX10_join_293 rfl rfl ?_
    refine X_getfield (pc := 294) dX10_join_294 fg_X10_152_11 (MW.ob w2) mf_14 ?_
    refine X_ivv (pc := 297) _ dX10_join_297 cv_X10_102_11 (MW.ob w2) rfl (mtPr g w2 14 13 13 rfl rfl rfl) nX10_times (Nat.le_of_ble_eq_true rfl) (Nat.le_of_ble_eq_true rfl) (Nat.le_of_ble_eq_true rfl) (Nat.le_of_ble_eq_true rfl) (fun h3 q3 => ?_)
    obtain ⟨R3, e3, o3, w3⟩ := MW.abs q3
    have fr3 : ∀ j, j ≠ 13 → j ≠ 14 → j ≠ 15 → R3 j = R j := fun j a b c => (o3 j b).trans (fr2 j a b c)
    have l3 := o3 13 (by decide)
    refine X_aload_n (pc := 300) 2 dX10_join_300 rfl rfl ?_
    refine X_getfield (pc := 301) dX10_join_301 fg_X10_61_11 (MW.ob w3) mf_9 ?_
    refine X_aload_n (pc := 304) 2 dX10_join_304 rfl rfl ?_
    refine X_getfield (pc := 305) dX10_join_305 fg_X10_152_11 (MW.ob w3) mf_14 ?_
    refine X_aload_n (pc := 308) 3 dX10_join_308 rfl rfl ?_
    refine X_getfield (pc := 309) dX10_join_309 fg_X10_146_13 (w3.sp sa ha) (by first | rfl | assumption) ?_
    refine X_aload_n (pc := 312) 2 dX10_join_312 rfl rfl ?_
    refine X_getfield (pc := 313) dX10_join_313 fg_X10_152_11 (MW.ob w3) mf_14 ?_
    refine X_isv (pc := 316) _ dX10_join_316 cs_X10_130 rfl (msP g w3 14 rfl (OpP.nv w3 14 rfl e3) (OpP.sxv w3 ha (fr3 _ (by omega) (by omega) (by omega)) ba)) nX10_sub (Nat.le_of_ble_eq_true rfl) (Nat.le_of_ble_eq_true rfl) (Nat.le_of_ble_eq_true rfl) (Nat.le_of_ble_eq_true rfl) (fun h4 q4 => ?_)
    obtain ⟨R4, e4, o4, w4⟩ := MW.abs q4
    have fr4 : ∀ j, j ≠ 13 → j ≠ 14 → j ≠ 15 → R4 j = R j := fun j a b c => (o4 j b).trans (fr3 j a b c)
    have l4 := (o4 13 (by decide)).trans l3
    refine X_aload_n (pc := 319) 2 dX10_join_319 rfl rfl ?_
    refine X_getfield (pc := 320) dX10_join_320 fg_X10_61_11 (MW.ob w4) mf_9 ?_
    refine X_aload_n (pc := 323) 2 dX10_join_323 rfl rfl ?_
    refine X_getfield (pc := 324) dX10_join_324 fg_X10_152_11 (MW.ob w4) mf_14 ?_
    refine X_aload_n (pc := 327) 4 dX10_join_327 rfl rfl ?_
    refine X_getfield (pc := 328) dX10_join_328 fg_X10_146_13 (w4.sp sb hb) (by first | rfl | assumption) ?_
    refine X_aload_n (pc := 331) 2 dX10_join_331 rfl rfl ?_
    refine X_getfield (pc := 332) dX10_join_332 fg_X10_152_11 (MW.ob w4) mf_14 ?_
    refine X_isv (pc := 335) _ dX10_join_335 cs_X10_130 rfl (msP g w4 14 rfl (OpP.nv w4 14 rfl e4) (OpP.sxv w4 hb (fr4 _ (by omega) (by omega) (by omega)) bb)) nX10_sub (Nat.le_of_ble_eq_true rfl) (Nat.le_of_ble_eq_true rfl) (Nat.le_of_ble_eq_true rfl) (Nat.le_of_ble_eq_true rfl) (fun h5 q5 => ?_)
    obtain ⟨R5, e5, o5, w5⟩ := MW.abs q5
    have fr5 : ∀ j, j ≠ 13 → j ≠ 14 → j ≠ 15 → R5 j = R j := fun j a b c => (o5 j b).trans (fr4 j a b c)
    have l5 := (o5 13 (by decide)).trans l4
    refine X_aload_n (pc := 338) 2 dX10_join_338 rfl rfl ?_
    refine X_getfield (pc := 339) dX10_join_339 fg_X10_61_11 (MW.ob w5) mf_9 ?_
    refine X_aload_n (pc := 342) 3 dX10_join_342 rfl rfl ?_
    refine X_getfield (pc := 343) dX10_join_343 fg_X10_146_13 (w5.sp sa ha) (by first | rfl | assumption) ?_
    refine X_aload_n (pc := 346) 2 dX10_join_346 rfl rfl ?_
    refine X_getfield (pc := 347) dX10_join_347 fg_X10_152_11 (MW.ob w5) mf_14 ?_
    refine X_aload_n (pc := 350) 2 dX10_join_350 rfl rfl ?_
    refine X_getfield (pc := 351) dX10_join_351 fg_X10_165_11 (MW.ob w5) mf_15 ?_
    refine X_isv (pc := 354) _ dX10_join_354 cs_X10_130 rfl (msP g w5 15 rfl (OpP.sxv w5 ha (fr5 _ (by omega) (by omega) (by omega)) ba) (OpP.nv w5 14 rfl e5)) nX10_sub (Nat.le_of_ble_eq_true rfl) (Nat.le_of_ble_eq_true rfl) (Nat.le_of_ble_eq_true rfl) (Nat.le_of_ble_eq_true rfl) (fun h6 q6 => ?_)
    obtain ⟨R6, e6, o6, w6⟩ := MW.abs q6
    have fr6 : ∀ j, j ≠ 13 → j ≠ 14 → j ≠ 15 → R6 j = R j := fun j a b c => (o6 j c).trans (fr5 j a b c)
    have l6 := (o6 13 (by decide)).trans l5
    have k6 := (o6 14 (by decide)).trans e5
    refine X_aload_n (pc := 357) 2 dX10_join_357 rfl rfl ?_
    refine X_aload_n (pc := 358) 2 dX10_join_358 rfl rfl ?_
    refine X_getfield (pc := 359) dX10_join_359 fg_X10_61_11 (MW.ob w6) mf_9 ?_
    refine X_aload_n (pc := 362) 2 dX10_join_362 rfl rfl ?_
    refine X_getfield (pc := 363) dX10_join_363 fg_X10_158_11 (MW.ob w6) mf_13 ?_
    refine X_aload_n (pc := 366) 2 dX10_join_366 rfl rfl ?_
    refine X_getfield (pc := 367) dX10_join_367 fg_X10_165_11 (MW.ob w6) mf_15 ?_
    refine X_aload_n (pc := 370) 2 dX10_join_370 rfl rfl ?_
    refine X_getfield (pc := 371) dX10_join_371 fg_X10_165_11 (MW.ob w6) mf_15 ?_
    refine X_ivv (pc := 374) _ dX10_join_374 cv_X10_102_11 (MW.ob w6) rfl (mtPr g w6 15 13 15 rfl rfl rfl) nX10_times (Nat.le_of_ble_eq_true rfl) (Nat.le_of_ble_eq_true rfl) (Nat.le_of_ble_eq_true rfl) (Nat.le_of_ble_eq_true rfl) (fun h7 q7 => ?_)
    obtain ⟨R7, e7, o7, w7⟩ := MW.abs q7
    have fr7 : ∀ j, j ≠ 13 → j ≠ 14 → j ≠ 15 → R7 j = R j := fun j a b c => (o7 j c).trans (fr6 j a b c)
    have k7 := (o7 14 (by decide)).trans k6
    rw [l6, e6] at e7
    refine X_aload_n (pc := 377) 2 dX10_join_377 rfl rfl ?_
    refine X_getfield (pc := 378) dX10_join_378 fg_X10_61_11 (MW.ob w7) mf_9 ?_
    refine X_aload_n (pc := 381) 2 dX10_join_381 rfl rfl ?_
    refine X_getfield (pc := 382) dX10_join_382 fg_X10_165_11 (MW.ob w7) mf_15 ?_
    refine X_aload_n (pc := 385) 3 dX10_join_385 rfl rfl ?_
    refine X_getfield (pc := 386) dX10_join_386 fg_X10_149_13 (w7.sp sa ha) (by first | rfl | assumption) ?_
    refine X_aload_n (pc := 389) 2 dX10_join_389 rfl rfl ?_
    refine X_getfield (pc := 390) dX10_join_390 fg_X10_165_11 (MW.ob w7) mf_15 ?_
    refine X_isv (pc := 393) _ dX10_join_393 cs_X10_130 rfl (msP g w7 15 rfl (OpP.nv w7 15 rfl e7) (OpP.syv w7 ha (fr7 _ (by omega) (by omega) (by omega)))) nX10_sub (Nat.le_of_ble_eq_true rfl) (Nat.le_of_ble_eq_true rfl) (Nat.le_of_ble_eq_true rfl) (Nat.le_of_ble_eq_true rfl) (fun h8 q8 => ?_)
    obtain ⟨R8, e8, o8, w8⟩ := MW.abs q8
    have fr8 : ∀ j, j ≠ 13 → j ≠ 14 → j ≠ 15 → R8 j = R j := fun j a b c => (o8 j c).trans (fr7 j a b c)
    have k8 := (o8 14 (by decide)).trans k7
    refine X_aload_n (pc := 396) 2 dX10_join_396 rfl rfl ?_
    refine X_getfield (pc := 397) dX10_join_397 fg_X10_152_11 (MW.ob w8) mf_14 ?_
    refine X_aload_n (pc := 400) 5 dX10_join_400 rfl rfl ?_
    refine X_getfield (pc := 401) dX10_join_401 fg_X10_146_13 (w8.sp t ht) (by first | rfl | assumption) ?_
    refine X_bipush (pc := 404) (x := 12) dX10_join_404 (by decide) ?_
    refine X_isv (pc := 406) _ dX10_join_406 cs_X10_91 rfl (mcpX g w8 ht (OpP.nv w8 14 rfl k8)) nX10_copy (Nat.le_of_ble_eq_true rfl) (Nat.le_of_ble_eq_true rfl) (Nat.le_of_ble_eq_true rfl) (Nat.le_of_ble_eq_true rfl) (fun h9 w9 => ?_)
    refine X_aload_n (pc := 409) 2 dX10_join_409 rfl rfl ?_
    refine X_getfield (pc := 410) dX10_join_410 fg_X10_165_11 (MW.ob w9) mf_15 ?_
    refine X_aload_n (pc := 413) 5 dX10_join_413 rfl rfl ?_
    refine X_getfield (pc := 414) dX10_join_414 fg_X10_149_13 (w9.sp t ht) (by first | rfl | assumption) ?_
    refine X_bipush (pc := 417) (x := 12) dX10_join_417 (by decide) ?_
    have k9 := (up_ne (f := R8) (v := sbN pP (sbN pP (R2 13 * R2 13 % pP) (R (200 + sa))) (R (200 + sb))) (show 15 ≠ 200 + t by omega)).trans e8
    refine X_isv (pc := 419) _ dX10_join_419 cs_X10_91 rfl (mcpP g w9 _ (kd_y ht) (OpP.nv w9 15 rfl k9)) nX10_copy (Nat.le_of_ble_eq_true rfl) (Nat.le_of_ble_eq_true rfl) (Nat.le_of_ble_eq_true rfl) (Nat.le_of_ble_eq_true rfl) (fun h10 w10 => ?_)
    refine X_aload_n (pc := 422) 5 dX10_join_422 rfl rfl ?_
    refine X_iconst (pc := 423) (x := 0) dX10_join_423 (by decide) ?_
    refine X_putfield (pc := 424) dX10_join_424 fp_X10_136_13 (fun e => by cases e) (w10.sp t ht) rfl rfl (Nat.le_of_ble_eq_true rfl) ?_
    subst hPost
    refine X_return (pc := 427) dX10_join_427 rfl (Nat.le_of_ble_eq_true rfl) (Nat.le_of_ble_eq_true rfl) ?_
    refine ⟨rfl, _, _, w10.setSp t ht (v := 0), fun j hj => ?_, fun j j1 => up_ne j1, Or.inl (up_same _ _ _), ?_, ?_⟩
    · rw [up_ne (jScr_ne hj (by simp [jScr])), up_ne (jScr_ne hj (by simp [jScr]))]
      exact fr8 j (jScr_ne hj rfl) (jScr_ne hj rfl) (jScr_ne hj rfl)
    · rw [hP]
      unfold spt
      have hy : R (300 + sa) < pP := w.lt (kd_y ha)
      rw [up_same, if_pos rfl, up_ne (show 200 + t ≠ 300 + t by omega), up_same, up_same, f_sub bb, f_sub ba, f_mul, f_sub hy, f_mul, f_sub (sbN_lt _ _), f_sub bb, f_sub ba, f_mul, e2, f_mul]
      rfl
    · rw [up_ne (show 200 + t ≠ 300 + t by omega), up_same]
      exact sbN_lt _ _
  refine X_aload_n (pc := 0) 1 dX10_join_0 rfl rfl ?_
  refine X_getfield (pc := 1) dX10_join_1 fg_X10_136_13 (w.sp sa ha) (by first | rfl | assumption) ?_
  rcases za with hFa | hFa
  · rw [hFa]
    refine X_if_eq (pc := 4) 13 dX10_join_4 (by decide) (fun _ => ?_) (fun c => absurd rfl c)
    refine X_aload_n (pc := 13) 2 dX10_join_13 rfl rfl ?_
    refine X_getfield (pc := 14) dX10_join_14 fg_X10_136_13 (w.sp sb hb) (by first | rfl | assumption) ?_
    have spa : spt R F sa = some (fp (R (200 + sa)), fp (R (300 + sa))) := by unfold spt; rw [if_pos hFa]
    rcases zb with hFb | hFb
    · rw [hFb]
      have spb : spt R F sb = some (fp (R (200 + sb)), fp (R (300 + sb))) := by unfold spt; rw [if_pos hFb]
      have tail := tail hFa hFb
      have y1 : R (300 + sa) < pP := w.lt (kd_y ha)
      have y2 : R (300 + sb) < pP := w.lt (kd_y hb)
      refine X_if_eq (pc := 17) 26 dX10_join_17 (by decide) (fun _ => ?_) (fun c => absurd rfl c)
      refine X_aload_n (pc := 26) 1 dX10_join_26 rfl rfl ?_
      refine X_getfield (pc := 27) dX10_join_27 fg_X10_146_13 (w.sp sa ha) (by first | rfl | assumption) ?_
      refine X_aload_n (pc := 30) 2 dX10_join_30 rfl rfl ?_
      refine X_getfield (pc := 31) dX10_join_31 fg_X10_146_13 (w.sp sb hb) (by first | rfl | assumption) ?_
      refine X_bipush (pc := 34) (x := 12) dX10_join_34 (by decide) ?_
      refine X_isi (pc := 36) _ dX10_join_36 cs_X10_26 rfl (mcW g (OpM.sx w ha) (OpM.sx w hb)) nX10_compare (Nat.le_of_ble_eq_true rfl) (Nat.le_of_ble_eq_true rfl) (Nat.le_of_ble_eq_true rfl) (Nat.le_of_ble_eq_true rfl) (fun r1 h1 q1 => ?_)
      obtain ⟨rfl, rfl⟩ := q1
      by_cases hx : R (200 + sa) = R (200 + sb)
      · rw [cmpN_eq0.mpr hx]
        refine X_if_ne (pc := 39) 46 dX10_join_39 (by decide) (fun c => absurd rfl c) (fun _ => ?_)
        refine X_iconst (pc := 42) (x := 1) dX10_join_42 (by decide) ?_
        refine X_goto (pc := 43) 47 dX10_join_43 (by decide) ?_
        refine X_istore (pc := 47) (L' := [(4, .int _), (0, .ref _), (1, .ref _), (2, .ref _), (3, .ref _)]) dX10_join_47 (Nat.le_of_ble_eq_true rfl) rfl ?_
        refine X_aload_n (pc := 49) 1 dX10_join_49 rfl rfl ?_
        refine X_getfield (pc := 50) dX10_join_50 fg_X10_61_11 (MW.ob w) mf_9 ?_
        refine X_aload_n (pc := 53) 2 dX10_join_53 rfl rfl ?_
        refine X_getfield (pc := 54) dX10_join_54 fg_X10_149_13 (w.sp sa ha) (by first | rfl | assumption) ?_
        refine X_aload_n (pc := 57) 3 dX10_join_57 rfl rfl ?_
        refine X_getfield (pc := 58) dX10_join_58 fg_X10_149_13 (w.sp sb hb) (by first | rfl | assumption) ?_
        refine X_aload_n (pc := 61) 1 dX10_join_61 rfl rfl ?_
        refine X_getfield (pc := 62) dX10_join_62 fg_X10_152_11 (MW.ob w) mf_14 ?_
        refine X_isv (pc := 65) _ dX10_join_65 cs_X10_155 rfl (maP g w 14 rfl (OpP.sy w ha) (OpP.sy w hb)) nX10_add (Nat.le_of_ble_eq_true rfl) (Nat.le_of_ble_eq_true rfl) (Nat.le_of_ble_eq_true rfl) (Nat.le_of_ble_eq_true rfl) (fun h2 q2 => ?_)
        obtain ⟨R2, e2, o2, w2⟩ := MW.abs q2
        have fr2 : ∀ j, j ≠ 13 → j ≠ 14 → j ≠ 15 → R2 j = R j := fun j a b c => o2 j b
        refine X_iload (pc := 68) 0 dX10_join_68 rfl ?_
        refine X_if_eq (pc := 70) 91 dX10_join_70 (by decide) (fun c => absurd c (by decide)) (fun _ => ?_)
        refine X_aload_n (pc := 73) 1 dX10_join_73 rfl rfl ?_
        refine X_getfield (pc := 74) dX10_join_74 fg_X10_152_11 (MW.ob w2) mf_14 ?_
        refine X_bipush (pc := 77) (x := 12) dX10_join_77 (by decide) ?_
        refine X_isi (pc := 79) _ dX10_join_79 cs_X10_122 rfl (mzW g (OpM.n w2 14 rfl)) nX10_isZero (Nat.le_of_ble_eq_true rfl) (Nat.le_of_ble_eq_true rfl) (Nat.le_of_ble_eq_true rfl) (Nat.le_of_ble_eq_true rfl) (fun r3 h3 q3 => ?_)
        obtain ⟨rfl, rfl⟩ := q3
        by_cases hs : R2 14 = 0
        · rw [if_pos hs]
          refine X_if_eq (pc := 82) 91 dX10_join_82 (by decide) (fun c => absurd c (by decide)) (fun _ => ?_)
          refine X_aload_n (pc := 85) 4 dX10_join_85 rfl rfl ?_
          refine X_iconst (pc := 86) (x := 1) dX10_join_86 (by decide) ?_
          refine X_putfield (pc := 87) dX10_join_87 fp_X10_136_13 (fun e => by cases e) (w2.sp t ht) rfl rfl (Nat.le_of_ble_eq_true rfl) ?_
          subst hPost
          refine X_return (pc := 90) dX10_join_90 rfl (Nat.le_of_ble_eq_true rfl) (Nat.le_of_ble_eq_true rfl) ?_
          refine ⟨rfl, _, _, w2.setSp t ht (v := 1), fun j hj => fr2 j (jScr_ne hj rfl) (jScr_ne hj rfl) (jScr_ne hj rfl), fun j j1 => up_ne j1, Or.inr (up_same _ _ _), ?_, ?_⟩
          · have hz : fp (R (300 + sa)) + fp (R (300 + sb)) = 0 := by rw [← f_add, ← e2, hs, fp_0]
            rw [spa, spb, ad_opp (by rw [hx]) hz]
            unfold spt
            rw [up_same, if_neg (by decide)]
          · rw [fr2 _ (by omega) (by omega) (by omega)]; exact bt
        · rw [if_neg hs]
          have hs0 : fp (R (300 + sa)) + fp (R (300 + sb)) ≠ 0 := fun e => hs ((zero_fp (w2.lt (k := 14) rfl)).mp (by rw [e2, f_add]; exact e))
          refine X_if_eq (pc := 82) 91 dX10_join_82 (by decide) (fun _ => ?_) (fun c => absurd rfl c)
          refine X_iload (pc := 91) 0 dX10_join_91 rfl ?_
          refine X_if_eq (pc := 93) 204 dX10_join_93 (by decide) (fun c => absurd c (by decide)) (fun _ => ?_)
          refine X_aload_n (pc := 96) 1 dX10_join_96 rfl rfl ?_
          refine X_aload_n (pc := 97) 1 dX10_join_97 rfl rfl ?_
          refine X_getfield (pc := 98) dX10_join_98 fg_X10_61_11 (MW.ob w2) mf_9 ?_
          refine X_aload_n (pc := 101) 1 dX10_join_101 rfl rfl ?_
          refine X_getfield (pc := 102) dX10_join_102 fg_X10_152_11 (MW.ob w2) mf_14 ?_
          refine X_aload_n (pc := 105) 1 dX10_join_105 rfl rfl ?_
          refine X_getfield (pc := 106) dX10_join_106 fg_X10_158_11 (MW.ob w2) mf_13 ?_
          refine X_ivi (pc := 109) _ dX10_join_109 cv_X10_161_11 (MW.ob w2) rfl (miP g w2 13 rfl (OpP.n w2 14 rfl) hs) nX10_inverse (Nat.le_of_ble_eq_true rfl) (Nat.le_of_ble_eq_true rfl) (Nat.le_of_ble_eq_true rfl) (Nat.le_of_ble_eq_true rfl) (fun r4 h4 q4 => ?_)
          obtain ⟨rfl, q4⟩ := q4
          obtain ⟨R4, e4, o4, w4⟩ := MW.abs q4
          have fr4 : ∀ j, j ≠ 13 → j ≠ 14 → j ≠ 15 → R4 j = R j := fun j a b c => (o4 j a).trans (fr2 j a b c)
          refine X_istore (pc := 112) (L' := [(5, .int _), (4, .int _), (0, .ref _), (1, .ref _), (2, .ref _), (3, .ref _)]) dX10_join_112 (Nat.le_of_ble_eq_true rfl) rfl ?_
          refine X_aload_n (pc := 114) 2 dX10_join_114 rfl rfl ?_
          refine X_aload_n (pc := 115) 2 dX10_join_115 rfl rfl ?_
          refine X_getfield (pc := 116) dX10_join_116 fg_X10_61_11 (MW.ob w4) mf_9 ?_
          refine X_aload_n (pc := 119) 3 dX10_join_119 rfl rfl ?_
          refine X_getfield (pc := 120) dX10_join_120 fg_X10_146_13 (w4.sp sa ha) (by first | rfl | assumption) ?_
          refine X_aload_n (pc := 123) 3 dX10_join_123 rfl rfl ?_
          refine X_getfield (pc := 124) dX10_join_124 fg_X10_146_13 (w4.sp sa ha) (by first | rfl | assumption) ?_
          refine X_aload_n (pc := 127) 2 dX10_join_127 rfl rfl ?_
          refine X_getfield (pc := 128) dX10_join_128 fg_X10_165_11 (MW.ob w4) mf_15 ?_
          refine X_ivv (pc := 131) _ dX10_join_131 cv_X10_102_11 (MW.ob w4) rfl (mtP g w4 15 rfl (OpP.sxv w4 ha (fr4 _ (by omega) (by omega) (by omega)) ba).1 (OpP.sxv w4 ha (fr4 _ (by omega) (by omega) (by omega)) ba).1) nX10_times (Nat.le_of_ble_eq_true rfl) (Nat.le_of_ble_eq_true rfl) (Nat.le_of_ble_eq_true rfl) (Nat.le_of_ble_eq_true rfl) (fun h5 q5 => ?_)
          obtain ⟨R5, e5, o5, w5⟩ := MW.abs q5
          have fr5 : ∀ j, j ≠ 13 → j ≠ 14 → j ≠ 15 → R5 j = R j := fun j a b c => (o5 j c).trans (fr4 j a b c)
          have l5 := (o5 13 (by decide)).trans e4
          refine X_iconst (pc := 134) (x := 1) dX10_join_134 (by decide) ?_
          refine X_aload_n (pc := 135) 2 dX10_join_135 rfl rfl ?_
          refine X_getfield (pc := 136) dX10_join_136 fg_X10_152_11 (MW.ob w5) mf_14 ?_
          refine X_bipush (pc := 139) (x := 12) dX10_join_139 (by decide) ?_
          refine X_isv (pc := 141) _ dX10_join_141 cs_X10_98 rfl (msmP g w5 14 rfl (v := 1) one_lt_pP) nX10_small (Nat.le_of_ble_eq_true rfl) (Nat.le_of_ble_eq_true rfl) (Nat.le_of_ble_eq_true rfl) (Nat.le_of_ble_eq_true rfl) (fun h6 q6 => ?_)
          obtain ⟨R6, e6, o6, w6⟩ := MW.abs q6
          have fr6 : ∀ j, j ≠ 13 → j ≠ 14 → j ≠ 15 → R6 j = R j := fun j a b c => (o6 j b).trans (fr5 j a b c)
          have l6 := (o6 13 (by decide)).trans l5
          have m6 := (o6 15 (by decide)).trans e5
          refine X_aload_n (pc := 144) 2 dX10_join_144 rfl rfl ?_
          refine X_getfield (pc := 145) dX10_join_145 fg_X10_61_11 (MW.ob w6) mf_9 ?_
          refine X_aload_n (pc := 148) 2 dX10_join_148 rfl rfl ?_
          refine X_getfield (pc := 149) dX10_join_149 fg_X10_165_11 (MW.ob w6) mf_15 ?_
          refine X_aload_n (pc := 152) 2 dX10_join_152 rfl rfl ?_
          refine X_getfield (pc := 153) dX10_join_153 fg_X10_152_11 (MW.ob w6) mf_14 ?_
          refine X_aload_n (pc := 156) 2 dX10_join_156 rfl rfl ?_
          refine X_getfield (pc := 157) dX10_join_157 fg_X10_165_11 (MW.ob w6) mf_15 ?_
          refine X_isv (pc := 160) _ dX10_join_160 cs_X10_130 rfl (msP g w6 15 rfl (OpP.nv w6 15 rfl m6) (OpP.nv w6 14 rfl e6)) nX10_sub (Nat.le_of_ble_eq_true rfl) (Nat.le_of_ble_eq_true rfl) (Nat.le_of_ble_eq_true rfl) (Nat.le_of_ble_eq_true rfl) (fun h7 q7 => ?_)
          obtain ⟨R7, e7, o7, w7⟩ := MW.abs q7
          have fr7 : ∀ j, j ≠ 13 → j ≠ 14 → j ≠ 15 → R7 j = R j := fun j a b c => (o7 j c).trans (fr6 j a b c)
          have l7 := (o7 13 (by decide)).trans l6
          refine X_aload_n (pc := 163) 2 dX10_join_163 rfl rfl ?_
          refine X_getfield (pc := 164) dX10_join_164 fg_X10_61_11 (MW.ob w7) mf_9 ?_
          refine X_aload_n (pc := 167) 2 dX10_join_167 rfl rfl ?_
          refine X_getfield (pc := 168) dX10_join_168 fg_X10_165_11 (MW.ob w7) mf_15 ?_
          refine X_aload_n (pc := 171) 2 dX10_join_171 rfl rfl ?_
          refine X_getfield (pc := 172) dX10_join_172 fg_X10_165_11 (MW.ob w7) mf_15 ?_
          refine X_aload_n (pc := 175) 2 dX10_join_175 rfl rfl ?_
          refine X_getfield (pc := 176) dX10_join_176 fg_X10_152_11 (MW.ob w7) mf_14 ?_
          refine X_isv (pc := 179) _ dX10_join_179 cs_X10_155 rfl (maP g w7 14 rfl (OpP.nv w7 15 rfl e7) (OpP.nv w7 15 rfl e7)) nX10_add (Nat.le_of_ble_eq_true rfl) (Nat.le_of_ble_eq_true rfl) (Nat.le_of_ble_eq_true rfl) (Nat.le_of_ble_eq_true rfl) (fun h8 q8 => ?_)
          obtain ⟨R8, e8, o8, w8⟩ := MW.abs q8
          have fr8 : ∀ j, j ≠ 13 → j ≠ 14 → j ≠ 15 → R8 j = R j := fun j a b c => (o8 j b).trans (fr7 j a b c)
          have l8 := (o8 13 (by decide)).trans l7
          have m8 := (o8 15 (by decide)).trans e7
          refine X_aload_n (pc := 182) 2 dX10_join_182 rfl rfl ?_
          refine X_getfield (pc := 183) dX10_join_183 fg_X10_61_11 (MW.ob w8) mf_9 ?_
          refine X_aload_n (pc := 186) 2 dX10_join_186 rfl rfl ?_
          refine X_getfield (pc := 187) dX10_join_187 fg_X10_165_11 (MW.ob w8) mf_15 ?_
          refine X_aload_n (pc := 190) 2 dX10_join_190 rfl rfl ?_
          refine X_getfield (pc := 191) dX10_join_191 fg_X10_152_11 (MW.ob w8) mf_14 ?_
          refine X_aload_n (pc := 194) 2 dX10_join_194 rfl rfl ?_
          refine X_getfield (pc := 195) dX10_join_195 fg_X10_152_11 (MW.ob w8) mf_14 ?_
          refine X_isv (pc := 198) _ dX10_join_198 cs_X10_155 rfl (maP g w8 14 rfl (OpP.nv w8 15 rfl m8) (OpP.nv w8 14 rfl e8)) nX10_add (Nat.le_of_ble_eq_true rfl) (Nat.le_of_ble_eq_true rfl) (Nat.le_of_ble_eq_true rfl) (Nat.le_of_ble_eq_true rfl) (fun h9 q9 => ?_)
          obtain ⟨R9, e9, o9, w9⟩ := MW.abs q9
          have fr9 : ∀ j, j ≠ 13 → j ≠ 14 → j ≠ 15 → R9 j = R j := fun j a b c => (o9 j b).trans (fr8 j a b c)
          have l9 := (o9 13 (by decide)).trans l8
          refine X_goto (pc := 201) 260 dX10_join_201 (by decide) ?_
          refine tail _ _ _ _ w9 fr9 ?_
          have k1 : fp (R9 13) = ivP (fp (R (300 + sa)) + fp (R (300 + sb))) := by
            rw [l9, fp_invM hs (w2.lt (k := 14) rfl), e2, f_add]
          have k2 : fp (R9 14) = 3 * (fp (R (200 + sa)) * fp (R (200 + sa)) - 1) := by
            rw [e9, f_add, f_add, show u32 (1 : Int32) = 1 from rfl, f_sub one_lt_pP, f_mul, fp_1]
            exact three_x _
          rw [spa, spb, k1, k2]
          exact ad_same (by rw [hx]) hs0
      · have hc : ¬ cmpN (R (200 + sa)) (R (200 + sb)) = 0 := fun e => hx (cmpN_eq0.mp e)
        have hx' : fp (R (200 + sa)) ≠ fp (R (200 + sb)) := fun e => hx (fp_inj ba bb e)
        refine X_if_ne (pc := 39) 46 dX10_join_39 (by decide) (fun _ => ?_) (fun c => absurd c hc)
        refine X_iconst (pc := 46) (x := 0) dX10_join_46 (by decide) ?_
        refine X_istore (pc := 47) (L' := [(4, .int _), (0, .ref _), (1, .ref _), (2, .ref _), (3, .ref _)]) dX10_join_47 (Nat.le_of_ble_eq_true rfl) rfl ?_
        refine X_aload_n (pc := 49) 1 dX10_join_49 rfl rfl ?_
        refine X_getfield (pc := 50) dX10_join_50 fg_X10_61_11 (MW.ob w) mf_9 ?_
        refine X_aload_n (pc := 53) 2 dX10_join_53 rfl rfl ?_
        refine X_getfield (pc := 54) dX10_join_54 fg_X10_149_13 (w.sp sa ha) (by first | rfl | assumption) ?_
        refine X_aload_n (pc := 57) 3 dX10_join_57 rfl rfl ?_
        refine X_getfield (pc := 58) dX10_join_58 fg_X10_149_13 (w.sp sb hb) (by first | rfl | assumption) ?_
        refine X_aload_n (pc := 61) 1 dX10_join_61 rfl rfl ?_
        refine X_getfield (pc := 62) dX10_join_62 fg_X10_152_11 (MW.ob w) mf_14 ?_
        refine X_isv (pc := 65) _ dX10_join_65 cs_X10_155 rfl (maP g w 14 rfl (OpP.sy w ha) (OpP.sy w hb)) nX10_add (Nat.le_of_ble_eq_true rfl) (Nat.le_of_ble_eq_true rfl) (Nat.le_of_ble_eq_true rfl) (Nat.le_of_ble_eq_true rfl) (fun h2 q2 => ?_)
        obtain ⟨R2, e2, o2, w2⟩ := MW.abs q2
        have fr2 : ∀ j, j ≠ 13 → j ≠ 14 → j ≠ 15 → R2 j = R j := fun j a b c => o2 j b
        refine X_iload (pc := 68) 0 dX10_join_68 rfl ?_
        refine X_if_eq (pc := 70) 91 dX10_join_70 (by decide) (fun _ => ?_) (fun c => absurd rfl c)
        refine X_iload (pc := 91) 0 dX10_join_91 rfl ?_
        refine X_if_eq (pc := 93) 204 dX10_join_93 (by decide) (fun _ => ?_) (fun c => absurd rfl c)
        refine X_aload_n (pc := 204) 1 dX10_join_204 rfl rfl ?_
        refine X_getfield (pc := 205) dX10_join_205 fg_X10_61_11 (MW.ob w2) mf_9 ?_
        refine X_aload_n (pc := 208) 3 dX10_join_208 rfl rfl ?_
        refine X_getfield (pc := 209) dX10_join_209 fg_X10_146_13 (w2.sp sb hb) (by first | rfl | assumption) ?_
        refine X_aload_n (pc := 212) 2 dX10_join_212 rfl rfl ?_
        refine X_getfield (pc := 213) dX10_join_213 fg_X10_146_13 (w2.sp sa ha) (by first | rfl | assumption) ?_
        refine X_aload_n (pc := 216) 1 dX10_join_216 rfl rfl ?_
        refine X_getfield (pc := 217) dX10_join_217 fg_X10_152_11 (MW.ob w2) mf_14 ?_
        refine X_isv (pc := 220) _ dX10_join_220 cs_X10_130 rfl (msP g w2 14 rfl (OpP.sxv w2 hb (fr2 _ (by omega) (by omega) (by omega)) bb) (OpP.sxv w2 ha (fr2 _ (by omega) (by omega) (by omega)) ba)) nX10_sub (Nat.le_of_ble_eq_true rfl) (Nat.le_of_ble_eq_true rfl) (Nat.le_of_ble_eq_true rfl) (Nat.le_of_ble_eq_true rfl) (fun h3 q3 => ?_)
        obtain ⟨R3, e3, o3, w3⟩ := MW.abs q3
        have fr3 : ∀ j, j ≠ 13 → j ≠ 14 → j ≠ 15 → R3 j = R j := fun j a b c => (o3 j b).trans (fr2 j a b c)
        have hd0 : R3 14 ≠ 0 := fun e => by
          have e' : fp (R3 14) = 0 := by rw [e, fp_0]
          rw [e3, f_sub ba] at e'
          exact hx' (rg12 e').symm
        refine X_aload_n (pc := 223) 1 dX10_join_223 rfl rfl ?_
        refine X_aload_n (pc := 224) 1 dX10_join_224 rfl rfl ?_
        refine X_getfield (pc := 225) dX10_join_225 fg_X10_61_11 (MW.ob w3) mf_9 ?_
        refine X_aload_n (pc := 228) 1 dX10_join_228 rfl rfl ?_
        refine X_getfield (pc := 229) dX10_join_229 fg_X10_152_11 (MW.ob w3) mf_14 ?_
        refine X_aload_n (pc := 232) 1 dX10_join_232 rfl rfl ?_
        refine X_getfield (pc := 233) dX10_join_233 fg_X10_158_11 (MW.ob w3) mf_13 ?_
        refine X_ivi (pc := 236) _ dX10_join_236 cv_X10_161_11 (MW.ob w3) rfl (miP g w3 13 rfl (OpP.n w3 14 rfl) hd0) nX10_inverse (Nat.le_of_ble_eq_true rfl) (Nat.le_of_ble_eq_true rfl) (Nat.le_of_ble_eq_true rfl) (Nat.le_of_ble_eq_true rfl) (fun r4 h4 q4 => ?_)
        obtain ⟨rfl, q4⟩ := q4
        obtain ⟨R4, e4, o4, w4⟩ := MW.abs q4
        have fr4 : ∀ j, j ≠ 13 → j ≠ 14 → j ≠ 15 → R4 j = R j := fun j a b c => (o4 j a).trans (fr3 j a b c)
        refine X_istore (pc := 239) (L' := [(5, .int _), (4, .int _), (0, .ref _), (1, .ref _), (2, .ref _), (3, .ref _)]) dX10_join_239 (Nat.le_of_ble_eq_true rfl) rfl ?_
        refine X_aload_n (pc := 241) 2 dX10_join_241 rfl rfl ?_
        refine X_getfield (pc := 242) dX10_join_242 fg_X10_61_11 (MW.ob w4) mf_9 ?_
        refine X_aload_n (pc := 245) 4 dX10_join_245 rfl rfl ?_
        refine X_getfield (pc := 246) dX10_join_246 fg_X10_149_13 (w4.sp sb hb) (by first | rfl | assumption) ?_
        refine X_aload_n (pc := 249) 3 dX10_join_249 rfl rfl ?_
        refine X_getfield (pc := 250) dX10_join_250 fg_X10_149_13 (w4.sp sa ha) (by first | rfl | assumption) ?_
        refine X_aload_n (pc := 253) 2 dX10_join_253 rfl rfl ?_
        refine X_getfield (pc := 254) dX10_join_254 fg_X10_152_11 (MW.ob w4) mf_14 ?_
        refine X_isv (pc := 257) _ dX10_join_257 cs_X10_130 rfl (msP g w4 14 rfl (OpP.syv w4 hb (fr4 _ (by omega) (by omega) (by omega))) (OpP.syv w4 ha (fr4 _ (by omega) (by omega) (by omega)))) nX10_sub (Nat.le_of_ble_eq_true rfl) (Nat.le_of_ble_eq_true rfl) (Nat.le_of_ble_eq_true rfl) (Nat.le_of_ble_eq_true rfl) (fun h5 q5 => ?_)
        obtain ⟨R5, e5, o5, w5⟩ := MW.abs q5
        have fr5 : ∀ j, j ≠ 13 → j ≠ 14 → j ≠ 15 → R5 j = R j := fun j a b c => (o5 j b).trans (fr4 j a b c)
        have l5 := (o5 13 (by decide)).trans e4
        refine tail _ _ _ _ w5 fr5 ?_
        have k1 : fp (R5 13) = ivP (fp (R (200 + sb)) - fp (R (200 + sa))) := by
          rw [l5, fp_invM hd0 (w3.lt (k := 14) rfl), e3, f_sub ba]
        have k2 : fp (R5 14) = fp (R (300 + sb)) - fp (R (300 + sa)) := by rw [e5, f_sub y1]
        rw [spa, spb, k1, k2]
        exact ad_far hx'
    · rw [hFb]
      refine X_if_eq (pc := 17) 26 dX10_join_17 (by decide) (fun c => absurd c (by decide)) (fun _ => ?_)
      refine X_aload_n (pc := 20) 3 dX10_join_20 rfl rfl ?_
      refine X_aload_n (pc := 21) 1 dX10_join_21 rfl rfl ?_
      refine X_ivv (pc := 22) _ dX10_join_22 cv_X10_142_13 (w.sp t ht) rfl (sis_ok g w ht ha ba (Or.inl hFa)) nX12_is (Nat.le_of_ble_eq_true rfl) (Nat.le_of_ble_eq_true rfl) (Nat.le_of_ble_eq_true rfl) (Nat.le_of_ble_eq_true rfl) (fun h1 w1 => ?_)
      subst hPost
      refine X_return (pc := 25) dX10_join_25 rfl (Nat.le_of_ble_eq_true rfl) (Nat.le_of_ble_eq_true rfl) ?_
      refine ⟨rfl, _, _, w1, isfr sa, fun j j1 => up_ne j1, ?_, ?_, ?_⟩
      · rw [up_same]; exact Or.inl hFa
      · have hn : spt R F sb = none := by unfold spt; rw [if_neg (by rw [hFb]; decide)]
        rw [ispt, hn, ad_none]
      · rw [isx]; exact ba
  · rw [hFa]
    refine X_if_eq (pc := 4) 13 dX10_join_4 (by decide) (fun c => absurd c (by decide)) (fun _ => ?_)
    refine X_aload_n (pc := 7) 3 dX10_join_7 rfl rfl ?_
    refine X_aload_n (pc := 8) 2 dX10_join_8 rfl rfl ?_
    refine X_ivv (pc := 9) _ dX10_join_9 cv_X10_142_13 (w.sp t ht) rfl (sis_ok g w ht hb bb zb) nX12_is (Nat.le_of_ble_eq_true rfl) (Nat.le_of_ble_eq_true rfl) (Nat.le_of_ble_eq_true rfl) (Nat.le_of_ble_eq_true rfl) (fun h1 w1 => ?_)
    subst hPost
    refine X_return (pc := 12) dX10_join_12 rfl (Nat.le_of_ble_eq_true rfl) (Nat.le_of_ble_eq_true rfl) ?_
    refine ⟨rfl, _, _, w1, isfr sb, fun j j1 => up_ne j1, ?_, ?_, ?_⟩
    · rw [up_same]; exact zb
    · have hn : spt R F sa = none := by unfold spt; rw [if_neg (by rw [hFa]; decide)]
      rw [ispt, hn, none_ad]
    · rw [isx]; exact bb
end MJ
