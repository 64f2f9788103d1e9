set_option maxRecDepth 100000
/-! the reference: from a number to a point -/
noncomputable def sgn (u y : Fp) : Fp := if u.val % 2 = y.val % 2 then y else -y
noncomputable def mapS (u : Fp) : PP := some ((mapP u).1, sgn u (mapP u).2)
theorem neg_sq' {F : Type} [Lean.Grind.CommRing F] (y : F) : -y * -y = y * y := by grind
theorem neg_zero' {F : Type} [Lean.Grind.CommRing F] : -(0 : F) = 0 := by grind
theorem fp_val_lt {n : Nat} (h : n < pP) : (fp n).val = n := by rw [fp_val, Nat.mod_eq_of_lt h]
theorem sgn_sq (u y : Fp) : sgn u y * sgn u y = y * y := by
  unfold sgn
  split
  · rfl
  · exact neg_sq' y
theorem mapS_on (u : Fp) : OnP (mapS u) := by
  show sgn u (mapP u).2 * sgn u (mapP u).2 = gx (mapP u).1
  rw [sgn_sq]
  exact map_on u
theorem V_odd {n : Nat} {f : Nat → Int32} (hn : 0 < n) : f 0 &&& 1 = nI (V n f % 2) := by
  have h := V_bit (f := f) hn (show 0 < 32 by decide)
  rw [Nat.pow_zero, Nat.div_one, Nat.div_one] at h
  rw [and1_u32, h]
theorem nI_par {a b : Nat} : nI (a % 2) = nI (b % 2) ↔ a % 2 = b % 2 := by
  refine ⟨fun e => ?_, fun e => by rw [e]⟩
  have ha : a % 2 = 0 ∨ a % 2 = 1 := by omega
  have hb : b % 2 = 0 ∨ b % 2 = 1 := by omega
  rcases ha with ha | ha <;> rcases hb with hb | hb <;> rw [ha, hb] at e ⊢
  · exact absurd e (by decide)
  · exact absurd e (by decide)
theorem map_c {F : Type} [Lean.Grind.CommRing F] (u z : F) : u * u * z = z * (u * u) := by grind
theorem map_36 {F : Type} [Lean.Grind.CommRing F] (a b : F) (ha : a = -12) (hb : b = -3) : a * b = 36 := by subst ha hb; grind
theorem fp36_ne : (36 : Fp) ≠ 0 := by decide +kernel
section MMp
variable {A : Nat → Nat} {X : AH} {R : Nat → Nat} {I : Nat → Nat → Int32} {S : Nat → List Int32} {F : Nat → Int32} {h : AH}
def pScr (t j : Nat) : Bool := j == 14 || j == 15 || j == 24 || j == 40 || j == 41 || j == 42 || j == 43 || j == 200 + t || j == 300 + t
theorem pScr_ne {t j k : Nat} (h : pScr t j = false) (hk : pScr t k = true) : j ≠ k := fun e => by rw [e, hk] at h; cases h
theorem pScr_x {t : Nat} : pScr t (200 + t) = true := by simp [pScr]
theorem pScr_y {t : Nat} : pScr t (300 + t) = true := by simp [pScr]
set_option maxHeartbeats 4000000 in
theorem map_ok (g : GX) (w : MW A X R I S F h) {k t : Nat} (hk : kdM k = (1, 0, 12)) (ht : t < 31) (h16 : R 16 = eP) (h44 : fp (R 44) = -3) (h45 : fp (R 45) = zP) (h45' : fp (R 45) = -12) :
    MT g MX10_map ({ frames := 6, cells := 0, slots := 0, locals := 160 } : Room) [.ref (A 96), .ref (A k), .ref (A (400 + t))] h (RV fun h' => ∃ R', MW A X R' I S (up F (400 + t) 0) h' ∧ (∀ j, pScr t j = false → R' j = R j) ∧ spt R' (up F (400 + t) 0) t = mapS (fp (R k)) ∧ R' (200 + t) < pP) := by
  refine MT.of (by decide) (Nat.le_of_ble_eq_true rfl) ?_
  generalize hPost : (RV fun h' => ∃ R', MW A X R' I S (up F (400 + t) 0) h' ∧ (∀ j, pScr t j = false → R' j = R j) ∧ spt R' (up F (400 + t) 0) t = mapS (fp (R k)) ∧ R' (200 + t) < pP) = Post
  generalize hu : fp (R k) = u
  have hul := w.lt hk
  -- the end
  have fin : ∀ (R1 : Nat → Nat) (h1 : AH) (x : Int32), MW A X R1 I S F h1 → (∀ j, pScr t j = false → R1 j = R j) → R1 40 = R k → R1 (200 + t) < pP → mapP u = (fp (R1 (200 + t)), fp (R1 (300 + t))) →
      XX g MX10_map ({ frames := 6, cells := 0, slots := 0, locals := 160 } : Room) Post 0 0 338 [(3, .int x), (0, .ref (A 96)), (1, .ref (A k)), (2, .ref (A (400 + t)))] [] h1 := by
    intro R1 h1 x w1 fr hR40 hlt hmap
    obtain ⟨f40, c40, v40, -⟩ := w1.n 40 rfl
    obtain ⟨fy, cy, vy, ly⟩ := w1.n (300 + t) (kd_y ht)
    have hsg : mapS u = some (fp (R1 (200 + t)), sgn u (fp (R1 (300 + t)))) := by unfold mapS; rw [hmap]
    have huv : u.val = R k := by rw [← hu]; exact fp_val_lt hul
    have hyv : (fp (R1 (300 + t))).val = R1 (300 + t) := fp_val_lt ly
    refine X_aload_n (pc := 338) 1 dX10_map_338 rfl rfl ?_
    refine X_getfield (pc := 339) dX10_map_339 fg_X10_366_11 (MW.ob w1) mf_40 ?_
    refine X_iconst (pc := 342) (x := 0) dX10_map_342 (by decide) ?_
    refine X_iaload (pc := 343) dX10_map_343 c40 (vp_in_nI (n := 0) (by decide) (by decide)) ?_
    refine X_iconst (pc := 344) (x := 1) dX10_map_344 (by decide) ?_
    refine X_iand (pc := 345) dX10_map_345 ?_
    refine X_aload_n (pc := 346) 3 dX10_map_346 rfl rfl ?_
    refine X_getfield (pc := 347) dX10_map_347 fg_X10_149_13 (w1.sp t ht) (by first | rfl | assumption) ?_
    refine X_iconst (pc := 350) (x := 0) dX10_map_350 (by decide) ?_
    refine X_iaload (pc := 351) dX10_map_351 cy (vp_in_nI (n := 0) (by decide) (by decide)) ?_
    refine X_iconst (pc := 352) (x := 1) dX10_map_352 (by decide) ?_
    refine X_iand (pc := 353) dX10_map_353 ?_
    rw [show f40 ((0 : Int32).toNatClampNeg) &&& 1 = nI (R k % 2) by rw [show (0 : Int32).toNatClampNeg = 0 from rfl, V_odd (n := 12) (by decide), v40, hR40], show fy ((0 : Int32).toNatClampNeg) &&& 1 = nI (R1 (300 + t) % 2) by rw [show (0 : Int32).toNatClampNeg = 0 from rfl, V_odd (n := 12) (by decide), vy]]
    have fin2 : ∀ (R2 : Nat → Nat) (h2 : AH), MW A X R2 I S F h2 → (∀ j, j ≠ 300 + t → R2 j = R1 j) → fp (R2 (300 + t)) = sgn u (fp (R1 (300 + t))) →
        XX g MX10_map ({ frames := 6, cells := 0, slots := 0, locals := 160 } : Room) Post 0 0 376 [(3, .int x), (0, .ref (A 96)), (1, .ref (A k)), (2, .ref (A (400 + t)))] [] h2 := by
      intro R2 h2 w2 o2 y2
      refine X_aload_n (pc := 376) 3 dX10_map_376 rfl rfl ?_
      refine X_iconst (pc := 377) (x := 0) dX10_map_377 (by decide) ?_
      refine X_putfield (pc := 378) dX10_map_378 fp_X10_136_13 (fun e => by cases e) (w2.sp t ht) rfl rfl (Nat.le_of_ble_eq_true rfl) ?_
      subst hPost
      refine X_return (pc := 381) dX10_map_381 rfl (Nat.le_of_ble_eq_true rfl) (Nat.le_of_ble_eq_true rfl) ?_
      refine ⟨rfl, R2, w2.setSp t ht (v := 0), fun j hj => (o2 j (pScr_ne hj pScr_y)).trans (fr j hj), ?_, ?_⟩
      · rw [hu, hsg]
        unfold spt
        rw [up_same, if_pos rfl, y2, o2 _ (by omega)]
      · rw [o2 _ (by omega)]; exact hlt
    by_cases hp : R k % 2 = R1 (300 + t) % 2
    · refine X_icmp_eq (pc := 354) 376 dX10_map_354 (by decide) (fun _ => ?_) (fun c => absurd (nI_par.mpr hp) c)
      refine fin2 R1 h1 w1 (fun _ _ => rfl) ?_
      unfold sgn
      rw [huv, hyv, if_pos hp]
    · refine X_icmp_eq (pc := 354) 376 dX10_map_354 (by decide) (fun c => absurd (nI_par.mp c) hp) (fun _ => ?_)
      have hsn : sgn u (fp (R1 (300 + t))) = - fp (R1 (300 + t)) := by unfold sgn; rw [huv, hyv, if_neg hp]
      refine X_aload_n (pc := 357) 3 dX10_map_357 rfl rfl ?_
      refine X_getfield (pc := 358) dX10_map_358 fg_X10_149_13 (w1.sp t ht) (by first | rfl | assumption) ?_
      refine X_bipush (pc := 361) (x := 12) dX10_map_361 (by decide) ?_
      refine X_isi (pc := 363) _ dX10_map_363 cs_X10_122 rfl (mzW g (OpM.n w1 _ (kd_y ht))) nX10_isZero (Nat.le_of_ble_eq_true rfl) (Nat.le_of_ble_eq_true rfl) (Nat.le_of_ble_eq_true rfl) (Nat.le_of_ble_eq_true rfl) (fun r2 h2 q2 => ?_)
      obtain ⟨rfl, rfl⟩ := q2
      by_cases hy0 : R1 (300 + t) = 0
      · rw [if_pos hy0]
        refine X_if_ne (pc := 366) 376 dX10_map_366 (by decide) (fun _ => ?_) (fun c => absurd c (by decide))
        refine fin2 R1 h2 w1 (fun _ _ => rfl) ?_
        rw [hsn, hy0, fp_0]
        exact neg_zero'.symm
      · rw [if_neg hy0]
        refine X_if_ne (pc := 366) 376 dX10_map_366 (by decide) (fun c => absurd rfl c) (fun _ => ?_)
        refine X_aload_n (pc := 369) 3 dX10_map_369 rfl rfl ?_
        refine X_getfield (pc := 370) dX10_map_370 fg_X10_149_13 (w1.sp t ht) (by first | rfl | assumption) ?_
        refine X_isv (pc := 373) _ dX10_map_373 cs_X10_229 rfl (turn_ok g w1 ht hy0) nX10_turn (Nat.le_of_ble_eq_true rfl) (Nat.le_of_ble_eq_true rfl) (Nat.le_of_ble_eq_true rfl) (Nat.le_of_ble_eq_true rfl) (fun h3 w3 => ?_)
        refine fin2 _ h3 w3 (fun j hj => up_ne hj) ?_
        rw [up_same, hsn, fp_neg (Nat.le_of_lt ly)]
  -- behind the first x
  have tail : ∀ (R1 : Nat → Nat) (h1 : AH) (x : Int32), MW A X R1 I S F h1 → (∀ j, pScr t j = false → R1 j = R j) → R1 40 = R k → fp (R1 41) = zP * (u * u) → fp (R1 42) * BP = x1P (zP * (u * u)) →
      XX g MX10_map ({ frames := 6, cells := 0, slots := 0, locals := 160 } : Room) Post 0 0 247 [(3, .int x), (0, .ref (A 96)), (1, .ref (A k)), (2, .ref (A (400 + t)))] [] h1 := by
    intro R1 h1 x w1 fr e40 e41 e42
    generalize hc : zP * (u * u) = c at e41 e42
    refine X_aload_n (pc := 247) 1 dX10_map_247 rfl rfl ?_
    refine X_aload_n (pc := 248) 1 dX10_map_248 rfl rfl ?_
    refine X_getfield (pc := 249) dX10_map_249 fg_X10_61_11 (MW.ob w1) mf_9 ?_
    refine X_aload_n (pc := 252) 1 dX10_map_252 rfl rfl ?_
    refine X_getfield (pc := 253) dX10_map_253 fg_X10_374_11 (MW.ob w1) mf_42 ?_
    refine X_getstatic (pc := 256) (j := 5) dX10_map_256 q1947 (fun _ => rfl) rfl (fun st_256 hs_256 => ?_)
    refine X_aload_n (pc := 259) 3 dX10_map_259 rfl rfl ?_
    refine X_getfield (pc := 260) dX10_map_260 fg_X10_146_13 (w1.sp t ht) (by first | rfl | assumption) ?_
    refine X_ivv (pc := 263) _ dX10_map_263 cv_X10_102_11 (MW.ob w1) rfl (mtX g w1 ht (OpM.n w1 42 rfl) (OpP.B w1 hs_256).1) nX10_times (Nat.le_of_ble_eq_true rfl) (Nat.le_of_ble_eq_true rfl) (Nat.le_of_ble_eq_true rfl) (Nat.le_of_ble_eq_true rfl) (fun h2 q2 => ?_)
    obtain ⟨R2, e2, o2, w2⟩ := MW.abs q2
    have x2 : fp (R2 (200 + t)) = x1P c := by rw [e2, f_mul]; exact e42
    refine X_aload_n (pc := 266) 1 dX10_map_266 rfl rfl ?_
    refine X_aload_n (pc := 267) 3 dX10_map_267 rfl rfl ?_
    refine X_getfield (pc := 268) dX10_map_268 fg_X10_146_13 (w2.sp t ht) (by first | rfl | assumption) ?_
    refine X_aload_n (pc := 271) 1 dX10_map_271 rfl rfl ?_
    refine X_getfield (pc := 272) dX10_map_272 fg_X10_380_11 (MW.ob w2) mf_43 ?_
    refine X_ivv (pc := 275) _ dX10_map_275 cv_X10_221_11 (MW.ob w2) rfl (curve_ok g w2 (k := 43) rfl (by decide) ht) nX10_curve (Nat.le_of_ble_eq_true rfl) (Nat.le_of_ble_eq_true rfl) (Nat.le_of_ble_eq_true rfl) (Nat.le_of_ble_eq_true rfl) (fun h3 q3 => ?_)
    obtain ⟨R3, w3, o3, g3⟩ := q3
    rw [x2] at g3
    have h3x : R3 (200 + t) = R2 (200 + t) := o3 _ (by omega) (by omega) (by omega)
    have h316 : R3 16 = eP := by rw [o3 16 (by decide) (by decide) (by decide), o2 16 (by omega), fr 16 (by simp [pScr]; omega)]; exact h16
    refine X_aload_n (pc := 278) 1 dX10_map_278 rfl rfl ?_
    refine X_aload_n (pc := 279) 1 dX10_map_279 rfl rfl ?_
    refine X_getfield (pc := 280) dX10_map_280 fg_X10_380_11 (MW.ob w3) mf_43 ?_
    refine X_aload_n (pc := 283) 3 dX10_map_283 rfl rfl ?_
    refine X_getfield (pc := 284) dX10_map_284 fg_X10_149_13 (w3.sp t ht) (by first | rfl | assumption) ?_
    refine X_ivi (pc := 287) _ dX10_map_287 cv_X10_225_11 (MW.ob w3) rfl (root_ok g w3 (k := 43) rfl ht h316) nX10_root (Nat.le_of_ble_eq_true rfl) (Nat.le_of_ble_eq_true rfl) (Nat.le_of_ble_eq_true rfl) (Nat.le_of_ble_eq_true rfl) (fun r4 h4 q4 => ?_)
    obtain ⟨R4, w4, o4, y4, hr⟩ := q4
    rw [g3] at y4 hr
    have h4x : R4 (200 + t) = R2 (200 + t) := (o4 _ (by omega) (by omega) (by omega)).trans h3x
    have h2l : R2 (200 + t) < pP := by rw [e2]; exact md_lt _
    have h4u : R4 40 = R k := by rw [o4 40 (by decide) (by decide) (by omega), o3 40 (by decide) (by decide) (by decide), o2 40 (by omega)]; exact e40
    have fr4 : ∀ j, pScr t j = false → R4 j = R j := fun j hj => by
      rw [o4 j (pScr_ne hj rfl) (pScr_ne hj rfl) (pScr_ne hj pScr_y), o3 j (pScr_ne hj rfl) (pScr_ne hj rfl) (pScr_ne hj rfl), o2 j (pScr_ne hj pScr_x)]
      exact fr j hj
    by_cases hq : rt (gx (x1P c)) * rt (gx (x1P c)) = gx (x1P c)
    · rw [if_pos hq] at hr
      subst hr
      refine X_if_ne (pc := 290) 338 dX10_map_290 (by decide) (fun _ => ?_) (fun c => absurd c (by decide))
      refine fin R4 h4 x w4 fr4 h4u (by rw [h4x]; exact h2l) ?_
      rw [h4x, x2, y4]
      unfold mapP
      rw [hc, if_pos hq]
    · rw [if_neg hq] at hr
      subst hr
      refine X_if_ne (pc := 290) 338 dX10_map_290 (by decide) (fun c => absurd rfl c) (fun _ => ?_)
      have e441 : fp (R4 41) = c := by rw [o4 41 (by decide) (by decide) (by omega), o3 41 (by decide) (by decide) (by decide), o2 41 (by omega)]; exact e41
      refine X_aload_n (pc := 293) 1 dX10_map_293 rfl rfl ?_
      refine X_aload_n (pc := 294) 1 dX10_map_294 rfl rfl ?_
      refine X_getfield (pc := 295) dX10_map_295 fg_X10_61_11 (MW.ob w4) mf_9 ?_
      refine X_aload_n (pc := 298) 1 dX10_map_298 rfl rfl ?_
      refine X_getfield (pc := 299) dX10_map_299 fg_X10_368_11 (MW.ob w4) mf_41 ?_
      refine X_aload_n (pc := 302) 3 dX10_map_302 rfl rfl ?_
      refine X_getfield (pc := 303) dX10_map_303 fg_X10_146_13 (w4.sp t ht) (by first | rfl | assumption) ?_
      refine X_aload_n (pc := 306) 3 dX10_map_306 rfl rfl ?_
      refine X_getfield (pc := 307) dX10_map_307 fg_X10_146_13 (w4.sp t ht) (by first | rfl | assumption) ?_
      refine X_ivv (pc := 310) _ dX10_map_310 cv_X10_102_11 (MW.ob w4) rfl (mtX g w4 ht (OpM.n w4 41 rfl) (OpM.sx w4 ht)) nX10_times (Nat.le_of_ble_eq_true rfl) (Nat.le_of_ble_eq_true rfl) (Nat.le_of_ble_eq_true rfl) (Nat.le_of_ble_eq_true rfl) (fun h5 q5 => ?_)
      obtain ⟨R5, e5, o5, w5⟩ := MW.abs q5
      have x5 : fp (R5 (200 + t)) = c * x1P c := by rw [e5, f_mul, e441, h4x, x2]
      refine X_aload_n (pc := 313) 1 dX10_map_313 rfl rfl ?_
      refine X_aload_n (pc := 314) 3 dX10_map_314 rfl rfl ?_
      refine X_getfield (pc := 315) dX10_map_315 fg_X10_146_13 (w5.sp t ht) (by first | rfl | assumption) ?_
      refine X_aload_n (pc := 318) 1 dX10_map_318 rfl rfl ?_
      refine X_getfield (pc := 319) dX10_map_319 fg_X10_380_11 (MW.ob w5) mf_43 ?_
      refine X_ivv (pc := 322) _ dX10_map_322 cv_X10_221_11 (MW.ob w5) rfl (curve_ok g w5 (k := 43) rfl (by decide) ht) nX10_curve (Nat.le_of_ble_eq_true rfl) (Nat.le_of_ble_eq_true rfl) (Nat.le_of_ble_eq_true rfl) (Nat.le_of_ble_eq_true rfl) (fun h6 q6 => ?_)
      obtain ⟨R6, w6, o6, g6⟩ := q6
      rw [x5] at g6
      have h6x : R6 (200 + t) = R5 (200 + t) := o6 _ (by omega) (by omega) (by omega)
      have h616 : R6 16 = eP := by rw [o6 16 (by decide) (by decide) (by decide), o5 16 (by omega), fr4 16 (by simp [pScr]; omega)]; exact h16
      refine X_aload_n (pc := 325) 1 dX10_map_325 rfl rfl ?_
      refine X_aload_n (pc := 326) 1 dX10_map_326 rfl rfl ?_
      refine X_getfield (pc := 327) dX10_map_327 fg_X10_380_11 (MW.ob w6) mf_43 ?_
      refine X_aload_n (pc := 330) 3 dX10_map_330 rfl rfl ?_
      refine X_getfield (pc := 331) dX10_map_331 fg_X10_149_13 (w6.sp t ht) (by first | rfl | assumption) ?_
      refine X_ivi (pc := 334) _ dX10_map_334 cv_X10_225_11 (MW.ob w6) rfl (root_ok g w6 (k := 43) rfl ht h616) nX10_root (Nat.le_of_ble_eq_true rfl) (Nat.le_of_ble_eq_true rfl) (Nat.le_of_ble_eq_true rfl) (Nat.le_of_ble_eq_true rfl) (fun r7 h7 q7 => ?_)
      obtain ⟨R7, w7, o7, y7, -⟩ := q7
      rw [g6] at y7
      have h7x : R7 (200 + t) = R5 (200 + t) := (o7 _ (by omega) (by omega) (by omega)).trans h6x
      refine X_istore_n (pc := 337) (L' := [(3, .int _), (0, .ref _), (1, .ref _), (2, .ref _)]) dX10_map_337 rfl (Nat.le_of_ble_eq_true rfl) rfl ?_
      refine fin R7 h7 _ w7 (fun j hj => ?_) ?_ ?_ ?_
      · rw [o7 j (pScr_ne hj rfl) (pScr_ne hj rfl) (pScr_ne hj pScr_y), o6 j (pScr_ne hj rfl) (pScr_ne hj rfl) (pScr_ne hj rfl), o5 j (pScr_ne hj pScr_x)]
        exact fr4 j hj
      · rw [o7 40 (by decide) (by decide) (by omega), o6 40 (by decide) (by decide) (by decide), o5 40 (by omega)]; exact h4u
      · rw [h7x, e5]; exact md_lt _
      · rw [h7x, x5, y7]
        unfold mapP
        rw [hc, if_neg hq]
  -- the way in
  refine X_aload_n (pc := 0) 1 dX10_map_0 rfl rfl ?_
  refine X_aload_n (pc := 1) 0 dX10_map_1 rfl rfl ?_
  refine X_getfield (pc := 2) dX10_map_2 fg_X10_366_11 (MW.ob w) mf_40 ?_
  refine X_bipush (pc := 5) (x := 12) dX10_map_5 (by decide) ?_
  refine X_isv (pc := 7) _ dX10_map_7 cs_X10_91 rfl (mcpP g w 40 rfl (OpP.n w k hk)) nX10_copy (Nat.le_of_ble_eq_true rfl) (Nat.le_of_ble_eq_true rfl) (Nat.le_of_ble_eq_true rfl) (Nat.le_of_ble_eq_true rfl) (fun h1 q1 => ?_)
  obtain ⟨R1, e1, o1, w1⟩ := MW.abs q1
  refine X_aload_n (pc := 10) 0 dX10_map_10 rfl rfl ?_
  refine X_aload_n (pc := 11) 0 dX10_map_11 rfl rfl ?_
  refine X_getfield (pc := 12) dX10_map_12 fg_X10_61_11 (MW.ob w1) mf_9 ?_
  refine X_aload_n (pc := 15) 0 dX10_map_15 rfl rfl ?_
  refine X_getfield (pc := 16) dX10_map_16 fg_X10_366_11 (MW.ob w1) mf_40 ?_
  refine X_aload_n (pc := 19) 0 dX10_map_19 rfl rfl ?_
  refine X_getfield (pc := 20) dX10_map_20 fg_X10_366_11 (MW.ob w1) mf_40 ?_
  refine X_aload_n (pc := 23) 0 dX10_map_23 rfl rfl ?_
  refine X_getfield (pc := 24) dX10_map_24 fg_X10_368_11 (MW.ob w1) mf_41 ?_
  refine X_ivv (pc := 27) _ dX10_map_27 cv_X10_102_11 (MW.ob w1) rfl (mtPr g w1 41 40 40 rfl rfl rfl) nX10_times (Nat.le_of_ble_eq_true rfl) (Nat.le_of_ble_eq_true rfl) (Nat.le_of_ble_eq_true rfl) (Nat.le_of_ble_eq_true rfl) (fun h2 q2 => ?_)
  obtain ⟨R2, e2, o2, w2⟩ := MW.abs q2
  rw [e1] at e2
  refine X_aload_n (pc := 30) 0 dX10_map_30 rfl rfl ?_
  refine X_aload_n (pc := 31) 0 dX10_map_31 rfl rfl ?_
  refine X_getfield (pc := 32) dX10_map_32 fg_X10_61_11 (MW.ob w2) mf_9 ?_
  refine X_aload_n (pc := 35) 0 dX10_map_35 rfl rfl ?_
  refine X_getfield (pc := 36) dX10_map_36 fg_X10_368_11 (MW.ob w2) mf_41 ?_
  refine X_aload_n (pc := 39) 0 dX10_map_39 rfl rfl ?_
  refine X_getfield (pc := 40) dX10_map_40 fg_X10_371_11 (MW.ob w2) mf_45 ?_
  refine X_aload_n (pc := 43) 0 dX10_map_43 rfl rfl ?_
  refine X_getfield (pc := 44) dX10_map_44 fg_X10_368_11 (MW.ob w2) mf_41 ?_
  refine X_ivv (pc := 47) _ dX10_map_47 cv_X10_102_11 (MW.ob w2) rfl (mtPr g w2 41 41 45 rfl rfl rfl) nX10_times (Nat.le_of_ble_eq_true rfl) (Nat.le_of_ble_eq_true rfl) (Nat.le_of_ble_eq_true rfl) (Nat.le_of_ble_eq_true rfl) (fun h3 q3 => ?_)
  obtain ⟨R3, e3, o3, w3⟩ := MW.abs q3
  have e3' : fp (R3 41) = zP * (u * u) := by
    rw [e3, f_mul, e2, f_mul, hu, o2 45 (by decide), o1 45 (by decide), h45]
    exact map_c _ _
  refine X_aload_n (pc := 50) 0 dX10_map_50 rfl rfl ?_
  refine X_aload_n (pc := 51) 0 dX10_map_51 rfl rfl ?_
  refine X_getfield (pc := 52) dX10_map_52 fg_X10_61_11 (MW.ob w3) mf_9 ?_
  refine X_aload_n (pc := 55) 0 dX10_map_55 rfl rfl ?_
  refine X_getfield (pc := 56) dX10_map_56 fg_X10_368_11 (MW.ob w3) mf_41 ?_
  refine X_aload_n (pc := 59) 0 dX10_map_59 rfl rfl ?_
  refine X_getfield (pc := 60) dX10_map_60 fg_X10_368_11 (MW.ob w3) mf_41 ?_
  refine X_aload_n (pc := 63) 0 dX10_map_63 rfl rfl ?_
  refine X_getfield (pc := 64) dX10_map_64 fg_X10_374_11 (MW.ob w3) mf_42 ?_
  refine X_ivv (pc := 67) _ dX10_map_67 cv_X10_102_11 (MW.ob w3) rfl (mtPr g w3 42 41 41 rfl rfl rfl) nX10_times (Nat.le_of_ble_eq_true rfl) (Nat.le_of_ble_eq_true rfl) (Nat.le_of_ble_eq_true rfl) (Nat.le_of_ble_eq_true rfl) (fun h4 q4 => ?_)
  obtain ⟨R4, e4, o4, w4⟩ := MW.abs q4
  refine X_aload_n (pc := 70) 0 dX10_map_70 rfl rfl ?_
  refine X_getfield (pc := 71) dX10_map_71 fg_X10_61_11 (MW.ob w4) mf_9 ?_
  refine X_aload_n (pc := 74) 0 dX10_map_74 rfl rfl ?_
  refine X_getfield (pc := 75) dX10_map_75 fg_X10_374_11 (MW.ob w4) mf_42 ?_
  refine X_aload_n (pc := 78) 0 dX10_map_78 rfl rfl ?_
  refine X_getfield (pc := 79) dX10_map_79 fg_X10_368_11 (MW.ob w4) mf_41 ?_
  refine X_aload_n (pc := 82) 0 dX10_map_82 rfl rfl ?_
  refine X_getfield (pc := 83) dX10_map_83 fg_X10_374_11 (MW.ob w4) mf_42 ?_
  refine X_isv (pc := 86) _ dX10_map_86 cs_X10_155 rfl (maPr g w4 42 42 41 rfl rfl rfl) nX10_add (Nat.le_of_ble_eq_true rfl) (Nat.le_of_ble_eq_true rfl) (Nat.le_of_ble_eq_true rfl) (Nat.le_of_ble_eq_true rfl) (fun h5 q5 => ?_)
  obtain ⟨R5, e5, o5, w5⟩ := MW.abs q5
  have e541 : fp (R5 41) = zP * (u * u) := by rw [o5 41 (by decide), o4 41 (by decide)]; exact e3'
  have e542 : fp (R5 42) = zP * (u * u) * (zP * (u * u)) + zP * (u * u) := by rw [e5, f_add, e4, f_mul, o4 41 (by decide), e3']
  have fr5 : ∀ j, j ≠ 40 → j ≠ 41 → j ≠ 42 → R5 j = R j := fun j j0 j1 j2 => by rw [o5 j j2, o4 j j2, o3 j j1, o2 j j1, o1 j j0]
  have e540 : R5 40 = R k := by rw [o5 40 (by decide), o4 40 (by decide), o3 40 (by decide), o2 40 (by decide)]; exact e1
  refine X_aload_n (pc := 89) 0 dX10_map_89 rfl rfl ?_
  refine X_getfield (pc := 90) dX10_map_90 fg_X10_374_11 (MW.ob w5) mf_42 ?_
  refine X_bipush (pc := 93) (x := 12) dX10_map_93 (by decide) ?_
  refine X_isi (pc := 95) _ dX10_map_95 cs_X10_122 rfl (mzW g (OpM.n w5 42 rfl)) nX10_isZero (Nat.le_of_ble_eq_true rfl) (Nat.le_of_ble_eq_true rfl) (Nat.le_of_ble_eq_true rfl) (Nat.le_of_ble_eq_true rfl) (fun r6 h6 q6 => ?_)
  obtain ⟨rfl, rfl⟩ := q6
  by_cases hz : R5 42 = 0
  · rw [if_pos hz]
    have hz' : zP * (u * u) * (zP * (u * u)) + zP * (u * u) = 0 := by rw [← e542, hz, fp_0]
    refine X_if_eq (pc := 98) 141 dX10_map_98 (by decide) (fun c => absurd c (by decide)) (fun _ => ?_)
    refine X_aload_n (pc := 101) 0 dX10_map_101 rfl rfl ?_
    refine X_aload_n (pc := 102) 0 dX10_map_102 rfl rfl ?_
    refine X_getfield (pc := 103) dX10_map_103 fg_X10_61_11 (MW.ob w5) mf_9 ?_
    refine X_aload_n (pc := 106) 0 dX10_map_106 rfl rfl ?_
    refine X_getfield (pc := 107) dX10_map_107 fg_X10_371_11 (MW.ob w5) mf_45 ?_
    refine X_aload_n (pc := 110) 0 dX10_map_110 rfl rfl ?_
    refine X_getfield (pc := 111) dX10_map_111 fg_X10_377_11 (MW.ob w5) mf_44 ?_
    refine X_aload_n (pc := 114) 0 dX10_map_114 rfl rfl ?_
    refine X_getfield (pc := 115) dX10_map_115 fg_X10_380_11 (MW.ob w5) mf_43 ?_
    refine X_ivv (pc := 118) _ dX10_map_118 cv_X10_102_11 (MW.ob w5) rfl (mtPr g w5 43 45 44 rfl rfl rfl) nX10_times (Nat.le_of_ble_eq_true rfl) (Nat.le_of_ble_eq_true rfl) (Nat.le_of_ble_eq_true rfl) (Nat.le_of_ble_eq_true rfl) (fun h7 q7 => ?_)
    obtain ⟨R7, e7, o7, w7⟩ := MW.abs q7
    have e7' : fp (R7 43) = 36 := by
      rw [e7, f_mul, fr5 45 (by decide) (by decide) (by decide), fr5 44 (by decide) (by decide) (by decide)]
      exact map_36 _ _ h45' h44
    have h70 : R7 43 ≠ 0 := fun e => by
      rw [e, fp_0] at e7'
      exact fp36_ne e7'.symm
    refine X_aload_n (pc := 121) 0 dX10_map_121 rfl rfl ?_
    refine X_aload_n (pc := 122) 0 dX10_map_122 rfl rfl ?_
    refine X_getfield (pc := 123) dX10_map_123 fg_X10_61_11 (MW.ob w7) mf_9 ?_
    refine X_aload_n (pc := 126) 0 dX10_map_126 rfl rfl ?_
    refine X_getfield (pc := 127) dX10_map_127 fg_X10_380_11 (MW.ob w7) mf_43 ?_
    refine X_aload_n (pc := 130) 0 dX10_map_130 rfl rfl ?_
    refine X_getfield (pc := 131) dX10_map_131 fg_X10_374_11 (MW.ob w7) mf_42 ?_
    refine X_ivi (pc := 134) _ dX10_map_134 cv_X10_161_11 (MW.ob w7) rfl (miP g w7 42 rfl (OpP.n w7 43 rfl) h70) nX10_inverse (Nat.le_of_ble_eq_true rfl) (Nat.le_of_ble_eq_true rfl) (Nat.le_of_ble_eq_true rfl) (Nat.le_of_ble_eq_true rfl) (fun r8 h8 q8 => ?_)
    obtain ⟨rfl, q8⟩ := q8
    obtain ⟨R8, e8, o8, w8⟩ := MW.abs q8
    refine X_istore_n (pc := 137) (L' := [(3, .int _), (0, .ref _), (1, .ref _), (2, .ref _)]) dX10_map_137 rfl (Nat.le_of_ble_eq_true rfl) rfl ?_
    refine X_goto (pc := 138) 247 dX10_map_138 (by decide) ?_
    refine tail R8 h8 _ w8 (fun j hj => ?_) ?_ ?_ ?_
    · rw [o8 j (pScr_ne hj rfl), o7 j (pScr_ne hj rfl), fr5 j (pScr_ne hj rfl) (pScr_ne hj rfl) (pScr_ne hj rfl)]
    · rw [o8 40 (by decide), o7 40 (by decide)]; exact e540
    · rw [o8 41 (by decide), o7 41 (by decide)]; exact e541
    · unfold x1P
      rw [if_pos hz', e8, fp_invM h70 (w7.lt (k := 43) rfl), e7']
  · rw [if_neg hz]
    have hz' : zP * (u * u) * (zP * (u * u)) + zP * (u * u) ≠ 0 := fun e => hz ((zero_fp (w5.lt (k := 42) rfl)).mp (by rw [e542]; exact e))
    refine X_if_eq (pc := 98) 141 dX10_map_98 (by decide) (fun _ => ?_) (fun c => absurd rfl c)
    refine X_aload_n (pc := 141) 0 dX10_map_141 rfl rfl ?_
    refine X_getfield (pc := 142) dX10_map_142 fg_X10_374_11 (MW.ob w5) mf_42 ?_
    refine X_aload_n (pc := 145) 0 dX10_map_145 rfl rfl ?_
    refine X_getfield (pc := 146) dX10_map_146 fg_X10_380_11 (MW.ob w5) mf_43 ?_
    refine X_bipush (pc := 149) (x := 12) dX10_map_149 (by decide) ?_
    refine X_isv (pc := 151) _ dX10_map_151 cs_X10_91 rfl (mcpPr g w5 43 42 rfl rfl) nX10_copy (Nat.le_of_ble_eq_true rfl) (Nat.le_of_ble_eq_true rfl) (Nat.le_of_ble_eq_true rfl) (Nat.le_of_ble_eq_true rfl) (fun h7 q7 => ?_)
    obtain ⟨R7, e7, o7, w7⟩ := MW.abs q7
    have h70 : R7 43 ≠ 0 := by rw [e7]; exact hz
    refine X_aload_n (pc := 154) 0 dX10_map_154 rfl rfl ?_
    refine X_aload_n (pc := 155) 0 dX10_map_155 rfl rfl ?_
    refine X_getfield (pc := 156) dX10_map_156 fg_X10_61_11 (MW.ob w7) mf_9 ?_
    refine X_aload_n (pc := 159) 0 dX10_map_159 rfl rfl ?_
    refine X_getfield (pc := 160) dX10_map_160 fg_X10_380_11 (MW.ob w7) mf_43 ?_
    refine X_aload_n (pc := 163) 0 dX10_map_163 rfl rfl ?_
    refine X_getfield (pc := 164) dX10_map_164 fg_X10_374_11 (MW.ob w7) mf_42 ?_
    refine X_ivi (pc := 167) _ dX10_map_167 cv_X10_161_11 (MW.ob w7) rfl (miP g w7 42 rfl (OpP.n w7 43 rfl) h70) nX10_inverse (Nat.le_of_ble_eq_true rfl) (Nat.le_of_ble_eq_true rfl) (Nat.le_of_ble_eq_true rfl) (Nat.le_of_ble_eq_true rfl) (fun r8 h8 q8 => ?_)
    obtain ⟨rfl, q8⟩ := q8
    obtain ⟨R8, e8, o8, w8⟩ := MW.abs q8
    have e8' : fp (R8 42) = ivP (zP * (u * u) * (zP * (u * u)) + zP * (u * u)) := by rw [e8, fp_invM h70 (w7.lt (k := 43) rfl), e7, e542]
    refine X_istore_n (pc := 170) (L' := [(3, .int _), (0, .ref _), (1, .ref _), (2, .ref _)]) dX10_map_170 rfl (Nat.le_of_ble_eq_true rfl) rfl ?_
    refine X_iconst (pc := 171) (x := 1) dX10_map_171 (by decide) ?_
    refine X_aload_n (pc := 172) 1 dX10_map_172 rfl rfl ?_
    refine X_getfield (pc := 173) dX10_map_173 fg_X10_380_11 (MW.ob w8) mf_43 ?_
    refine X_bipush (pc := 176) (x := 12) dX10_map_176 (by decide) ?_
    refine X_isv (pc := 178) _ dX10_map_178 cs_X10_98 rfl (msmP g w8 43 rfl (v := 1) one_lt_pP) nX10_small (Nat.le_of_ble_eq_true rfl) (Nat.le_of_ble_eq_true rfl) (Nat.le_of_ble_eq_true rfl) (Nat.le_of_ble_eq_true rfl) (fun h9 q9 => ?_)
    obtain ⟨R9, e9, o9, w9⟩ := MW.abs q9
    refine X_aload_n (pc := 181) 1 dX10_map_181 rfl rfl ?_
    refine X_getfield (pc := 182) dX10_map_182 fg_X10_61_11 (MW.ob w9) mf_9 ?_
    refine X_aload_n (pc := 185) 1 dX10_map_185 rfl rfl ?_
    refine X_getfield (pc := 186) dX10_map_186 fg_X10_374_11 (MW.ob w9) mf_42 ?_
    refine X_aload_n (pc := 189) 1 dX10_map_189 rfl rfl ?_
    refine X_getfield (pc := 190) dX10_map_190 fg_X10_380_11 (MW.ob w9) mf_43 ?_
    refine X_aload_n (pc := 193) 1 dX10_map_193 rfl rfl ?_
    refine X_getfield (pc := 194) dX10_map_194 fg_X10_374_11 (MW.ob w9) mf_42 ?_
    refine X_isv (pc := 197) _ dX10_map_197 cs_X10_155 rfl (maPr g w9 42 42 43 rfl rfl rfl) nX10_add (Nat.le_of_ble_eq_true rfl) (Nat.le_of_ble_eq_true rfl) (Nat.le_of_ble_eq_true rfl) (Nat.le_of_ble_eq_true rfl) (fun h10 q10 => ?_)
    obtain ⟨R10, e10, o10, w10⟩ := MW.abs q10
    rw [e9, o9 42 (by decide), show u32 (1 : Int32) = 1 from rfl] at e10
    refine X_iconst (pc := 200) (x := 3) dX10_map_200 (by decide) ?_
    refine X_aload_n (pc := 201) 1 dX10_map_201 rfl rfl ?_
    refine X_getfield (pc := 202) dX10_map_202 fg_X10_380_11 (MW.ob w10) mf_43 ?_
    refine X_bipush (pc := 205) (x := 12) dX10_map_205 (by decide) ?_
    refine X_isv (pc := 207) _ dX10_map_207 cs_X10_98 rfl (msmP g w10 43 rfl (v := 3) l3_p) nX10_small (Nat.le_of_ble_eq_true rfl) (Nat.le_of_ble_eq_true rfl) (Nat.le_of_ble_eq_true rfl) (Nat.le_of_ble_eq_true rfl) (fun h11 q11 => ?_)
    obtain ⟨R11, e11, o11, w11⟩ := MW.abs q11
    rw [show u32 (3 : Int32) = 3 from rfl] at e11
    have h110 : R11 43 ≠ 0 := by rw [e11]; decide
    refine X_aload_n (pc := 210) 1 dX10_map_210 rfl rfl ?_
    refine X_aload_n (pc := 211) 1 dX10_map_211 rfl rfl ?_
    refine X_getfield (pc := 212) dX10_map_212 fg_X10_61_11 (MW.ob w11) mf_9 ?_
    refine X_aload_n (pc := 215) 1 dX10_map_215 rfl rfl ?_
    refine X_getfield (pc := 216) dX10_map_216 fg_X10_380_11 (MW.ob w11) mf_43 ?_
    refine X_aload_n (pc := 219) 1 dX10_map_219 rfl rfl ?_
    refine X_getfield (pc := 220) dX10_map_220 fg_X10_207_11 (MW.ob w11) mf_24 ?_
    refine X_ivi (pc := 223) _ dX10_map_223 cv_X10_161_11 (MW.ob w11) rfl (miP g w11 24 rfl (OpP.n w11 43 rfl) h110) nX10_inverse (Nat.le_of_ble_eq_true rfl) (Nat.le_of_ble_eq_true rfl) (Nat.le_of_ble_eq_true rfl) (Nat.le_of_ble_eq_true rfl) (fun r12 h12 q12 => ?_)
    obtain ⟨rfl, q12⟩ := q12
    obtain ⟨R12, e12, o12, w12⟩ := MW.abs q12
    have e12' : fp (R12 24) = ivP 3 := by rw [e12, fp_invM h110 (w11.lt (k := 43) rfl), e11, fp_3']
    refine X_istore_n (pc := 226) (L' := [(3, .int _), (0, .ref _), (1, .ref _), (2, .ref _)]) dX10_map_226 rfl (Nat.le_of_ble_eq_true rfl) rfl ?_
    refine X_aload_n (pc := 227) 1 dX10_map_227 rfl rfl ?_
    refine X_aload_n (pc := 228) 1 dX10_map_228 rfl rfl ?_
    refine X_getfield (pc := 229) dX10_map_229 fg_X10_61_11 (MW.ob w12) mf_9 ?_
    refine X_aload_n (pc := 232) 1 dX10_map_232 rfl rfl ?_
    refine X_getfield (pc := 233) dX10_map_233 fg_X10_374_11 (MW.ob w12) mf_42 ?_
    refine X_aload_n (pc := 236) 1 dX10_map_236 rfl rfl ?_
    refine X_getfield (pc := 237) dX10_map_237 fg_X10_207_11 (MW.ob w12) mf_24 ?_
    refine X_aload_n (pc := 240) 1 dX10_map_240 rfl rfl ?_
    refine X_getfield (pc := 241) dX10_map_241 fg_X10_374_11 (MW.ob w12) mf_42 ?_
    refine X_ivv (pc := 244) _ dX10_map_244 cv_X10_102_11 (MW.ob w12) rfl (mtPr g w12 42 42 24 rfl rfl rfl) nX10_times (Nat.le_of_ble_eq_true rfl) (Nat.le_of_ble_eq_true rfl) (Nat.le_of_ble_eq_true rfl) (Nat.le_of_ble_eq_true rfl) (fun h13 q13 => ?_)
    obtain ⟨R13, e13, o13, w13⟩ := MW.abs q13
    refine tail R13 h13 _ w13 (fun j hj => ?_) ?_ ?_ ?_
    · rw [o13 j (pScr_ne hj rfl), o12 j (pScr_ne hj rfl), o11 j (pScr_ne hj rfl), o10 j (pScr_ne hj rfl), o9 j (pScr_ne hj rfl), o8 j (pScr_ne hj rfl), o7 j (pScr_ne hj rfl), fr5 j (pScr_ne hj rfl) (pScr_ne hj rfl) (pScr_ne hj rfl)]
    · rw [o13 40 (by decide), o12 40 (by decide), o11 40 (by decide), o10 40 (by decide), o9 40 (by decide), o8 40 (by decide), o7 40 (by decide)]; exact e540
    · rw [o13 41 (by decide), o12 41 (by decide), o11 41 (by decide), o10 41 (by decide), o9 41 (by decide), o8 41 (by decide), o7 41 (by decide)]; exact e541
    · unfold x1P
      rw [if_neg hz', e13, f_mul, e12', o12 42 (by decide), o11 42 (by decide), e10, f_add, e8', fp_1]
end MMp
