set_option maxRecDepth 100000
/-! the short digest: its rounds -/
def rndT1 (s : Nat → Int32) (k w : Int32) : Int32 := s 7 + ((rolI (s 4) 6 ^^^ rolI (s 4) 11) ^^^ rolI (s 4) 25) + ((s 4 &&& s 5) ^^^ ((s 4 ^^^ (-1)) &&& s 6)) + k + w
def rndT2 (s : Nat → Int32) : Int32 := ((rolI (s 0) 2 ^^^ rolI (s 0) 13) ^^^ rolI (s 0) 22) + (((s 0 &&& s 1) ^^^ (s 0 &&& s 2)) ^^^ (s 1 &&& s 2))
def rnd (s : Nat → Int32) (k w : Int32) : Nat → Int32
  | 0 => rndT1 s k w + rndT2 s
  | 1 => s 0
  | 2 => s 1
  | 3 => s 2
  | 4 => s 3 + rndT1 s k w
  | 5 => s 4
  | 6 => s 5
  | 7 => s 6
  | j => s j
def rnds (K W : Nat → Int32) (s : Nat → Int32) : Nat → Nat → Int32
  | 0 => s
  | i + 1 => rnd (rnds K W s i) (K i) (W i)
/-- the chain behind a block -/
def cmpF (s f : Nat → Int32) (j : Nat) : Int32 := if j < 8 then f j + s j else f j
section MRd
variable {A : Nat → Nat} {X : AH} {R : Nat → Nat} {I : Nat → Nat → Int32} {S : Nat → List Int32} {F : Nat → Int32} {h : AH}
set_option maxHeartbeats 4000000 in
theorem block_ok (g : GX) (w : MW A X R I S F h) {at' : Nat} {fc : Nat → Int32} (hat : at' + 64 ≤ (S 25).length) (c28 : h (A 28) = some (Ai false 0 8 fc)) :
    MT g MX10_block ({ frames := 1, cells := 0, slots := 0, locals := 21 } : Room) [.ref (A 96), .int (nI at')] h (RV fun h' => ∃ f, IsSched (fun j => (S 25).getD j 0) at' 64 f ∧ h' = hset (hset h (A 29) (Ai false 0 64 f)) (A 28) (Ai false 0 8 (cmpF (rnds (fun j => t256.getD j 0) f fc 64) fc))) := by
  refine MT.of (by decide) (Nat.le_of_ble_eq_true rfl) ?_
  refine sched_ok g w hat (fun f hf => ?_)
  have w1 := w.setJ 29 rfl f
  have n28 : A 28 ≠ A 29 := w.ne (by decide) (by decide) (by decide)
  have c28' : hset h (A 29) (Ai false 0 64 f) (A 28) = some (Ai false 0 8 fc) := by rw [hset_ne n28]; exact c28
  have c29 := hset_self h (A 29) (Ai false 0 64 f)
  generalize hh1 : hset h (A 29) (Ai false 0 64 f) = h1 at *
  refine X_aload_n (pc := 160) 1 dX10_block_160 rfl rfl ?_
  refine X_getfield (pc := 161) dX10_block_161 fg_X10_274_11 (MW.ob w1) mf_28 ?_
  refine X_iconst (pc := 164) (x := 0) dX10_block_164 (by decide) ?_
  refine X_iaload (pc := 165) dX10_block_165 c28' (vp_in_nI (n := 0) (by decide) (by decide)) ?_
  refine X_istore_n (pc := 166) (L' := [(2, .int _), (0, .ref _), (1, .int _)]) dX10_block_166 rfl (Nat.le_of_ble_eq_true rfl) rfl ?_
  refine X_aload_n (pc := 167) 1 dX10_block_167 rfl rfl ?_
  refine X_getfield (pc := 168) dX10_block_168 fg_X10_274_11 (MW.ob w1) mf_28 ?_
  refine X_iconst (pc := 171) (x := 1) dX10_block_171 (by decide) ?_
  refine X_iaload (pc := 172) dX10_block_172 c28' (vp_in_nI (n := 1) (by decide) (by decide)) ?_
  refine X_istore_n (pc := 173) (L' := [(3, .int _), (2, .int _), (0, .ref _), (1, .int _)]) dX10_block_173 rfl (Nat.le_of_ble_eq_true rfl) rfl ?_
  refine X_aload_n (pc := 174) 2 dX10_block_174 rfl rfl ?_
  refine X_getfield (pc := 175) dX10_block_175 fg_X10_274_11 (MW.ob w1) mf_28 ?_
  refine X_iconst (pc := 178) (x := 2) dX10_block_178 (by decide) ?_
  refine X_iaload (pc := 179) dX10_block_179 c28' (vp_in_nI (n := 2) (by decide) (by decide)) ?_
  refine X_istore (pc := 180) (L' := [(4, .int _), (3, .int _), (2, .int _), (0, .ref _), (1, .int _)]) dX10_block_180 (Nat.le_of_ble_eq_true rfl) rfl ?_
  refine X_aload_n (pc := 182) 3 dX10_block_182 rfl rfl ?_
  refine X_getfield (pc := 183) dX10_block_183 fg_X10_274_11 (MW.ob w1) mf_28 ?_
  refine X_iconst (pc := 186) (x := 3) dX10_block_186 (by decide) ?_
  refine X_iaload (pc := 187) dX10_block_187 c28' (vp_in_nI (n := 3) (by decide) (by decide)) ?_
  refine X_istore (pc := 188) (L' := [(5, .int _), (4, .int _), (3, .int _), (2, .int _), (0, .ref _), (1, .int _)]) dX10_block_188 (Nat.le_of_ble_eq_true rfl) rfl ?_
  refine X_aload_n (pc := 190) 4 dX10_block_190 rfl rfl ?_
  refine X_getfield (pc := 191) dX10_block_191 fg_X10_274_11 (MW.ob w1) mf_28 ?_
  refine X_iconst (pc := 194) (x := 4) dX10_block_194 (by decide) ?_
  refine X_iaload (pc := 195) dX10_block_195 c28' (vp_in_nI (n := 4) (by decide) (by decide)) ?_
  refine X_istore (pc := 196) (L' := [(6, .int _), (5, .int _), (4, .int _), (3, .int _), (2, .int _), (0, .ref _), (1, .int _)]) dX10_block_196 (Nat.le_of_ble_eq_true rfl) rfl ?_
  refine X_aload_n (pc := 198) 5 dX10_block_198 rfl rfl ?_
  refine X_getfield (pc := 199) dX10_block_199 fg_X10_274_11 (MW.ob w1) mf_28 ?_
  refine X_iconst (pc := 202) (x := 5) dX10_block_202 (by decide) ?_
  refine X_iaload (pc := 203) dX10_block_203 c28' (vp_in_nI (n := 5) (by decide) (by decide)) ?_
  refine X_istore (pc := 204) (L' := [(7, .int _), (6, .int _), (5, .int _), (4, .int _), (3, .int _), (2, .int _), (0, .ref _), (1, .int _)]) dX10_block_204 (Nat.le_of_ble_eq_true rfl) rfl ?_
  refine X_aload_n (pc := 206) 6 dX10_block_206 rfl rfl ?_
  refine X_getfield (pc := 207) dX10_block_207 fg_X10_274_11 (MW.ob w1) mf_28 ?_
  refine X_bipush (pc := 210) (x := 6) dX10_block_210 (by decide) ?_
  refine X_iaload (pc := 212) dX10_block_212 c28' (vp_in_nI (n := 6) (by decide) (by decide)) ?_
  refine X_istore (pc := 213) (L' := [(8, .int _), (7, .int _), (6, .int _), (5, .int _), (4, .int _), (3, .int _), (2, .int _), (0, .ref _), (1, .int _)]) dX10_block_213 (Nat.le_of_ble_eq_true rfl) rfl ?_
  refine X_aload_n (pc := 215) 7 dX10_block_215 rfl rfl ?_
  refine X_getfield (pc := 216) dX10_block_216 fg_X10_274_11 (MW.ob w1) mf_28 ?_
  refine X_bipush (pc := 219) (x := 7) dX10_block_219 (by decide) ?_
  refine X_iaload (pc := 221) dX10_block_221 c28' (vp_in_nI (n := 7) (by decide) (by decide)) ?_
  refine X_istore (pc := 222) (L' := [(9, .int _), (8, .int _), (7, .int _), (6, .int _), (5, .int _), (4, .int _), (3, .int _), (2, .int _), (0, .ref _), (1, .int _)]) dX10_block_222 (Nat.le_of_ble_eq_true rfl) rfl ?_
  refine X_iconst (pc := 224) (x := 0) dX10_block_224 (by decide) ?_
  refine X_istore (pc := 225) (L' := [(10, .int _), (9, .int _), (8, .int _), (7, .int _), (6, .int _), (5, .int _), (4, .int _), (3, .int _), (2, .int _), (0, .ref _), (1, .int _)]) dX10_block_225 (Nat.le_of_ble_eq_true rfl) rfl ?_
  have loop : ∀ m i, i + m = 64 → XX g MX10_block ({ frames := 1, cells := 0, slots := 0, locals := 21 } : Room) (RV fun h' => ∃ f, IsSched (fun j => (S 25).getD j 0) at' 64 f ∧ h' = hset (hset h (A 29) (Ai false 0 64 f)) (A 28) (Ai false 0 8 (cmpF (rnds (fun j => t256.getD j 0) f fc 64) fc))) 0 0 227 [(10, .int (nI i)), (9, .int (rnds (fun j => t256.getD j 0) f fc i 7)), (8, .int (rnds (fun j => t256.getD j 0) f fc i 6)), (7, .int (rnds (fun j => t256.getD j 0) f fc i 5)), (6, .int (rnds (fun j => t256.getD j 0) f fc i 4)), (5, .int (rnds (fun j => t256.getD j 0) f fc i 3)), (4, .int (rnds (fun j => t256.getD j 0) f fc i 2)), (3, .int (rnds (fun j => t256.getD j 0) f fc i 1)), (2, .int (rnds (fun j => t256.getD j 0) f fc i 0)), (0, .ref (A 96)), (1, .int (nI at'))] [] h1 := by
    intro m
    induction m with
    | zero =>
      intro i hi
      have e : i = 64 := by omega
      subst e
      generalize hs : rnds (fun j => t256.getD j 0) f fc 64 = s at *
      have o : ∀ (u : Nat → Int32) (i j : Nat) (x : Int32), j ≠ i → upd u i x j = u j := fun u i j x e => if_neg e
      refine X_iload (pc := 227) 0 dX10_block_227 rfl ?_
      refine X_bipush (pc := 229) (x := 64) dX10_block_229 (by decide) ?_
      refine X_cge (a := 64) (b := 64) (pc := 231) 366 dX10_block_231 (by decide) (by omega) (by omega) (fun _ => ?_) (fun c => absurd c (by omega))
      obtain ⟨v0, hv0⟩ : ∃ v, v = fc := ⟨_, rfl⟩
      rw [← hv0] at c28'
      have k0 : ∀ j, 0 ≤ j → v0 j = fc j := fun j _ => by rw [hv0]
      have m0 : ∀ j, j < 0 → v0 j = fc j + s j := fun j hj => absurd hj (by omega)
      have g0 := w1
      have d0 := c28'
      have e0 : h1 = h1 := rfl
      refine X_aload_n (pc := 366) 9 dX10_block_366 rfl rfl ?_
      refine X_getfield (pc := 367) dX10_block_367 fg_X10_274_11 (MW.ob g0) mf_28 ?_
      refine X_iconst (pc := 370) (x := 0) dX10_block_370 (by decide) ?_
      refine X_dup2_11 (pc := 371) dX10_block_371 rfl rfl ?_
      refine X_iaload (pc := 372) dX10_block_372 d0 (vp_in_nI (n := 0) (by decide) (by decide)) ?_
      refine X_iload_n (pc := 373) 8 dX10_block_373 rfl rfl ?_
      refine X_iadd (pc := 374) dX10_block_374 ?_
      refine X_iastore (pc := 375) dX10_block_375 d0 (vp_in_nI (n := 0) (by decide) (by decide)) ?_
      obtain ⟨v1, hv1⟩ : ∃ v, v = upd v0 0 (v0 0 + s 0) := ⟨_, rfl⟩
      have k1 : ∀ j, 1 ≤ j → v1 j = fc j := fun j hj => by rw [hv1, o _ _ _ _ (by omega)]; exact k0 j (by omega)
      have m1 : ∀ j, j < 1 → v1 j = fc j + s j := fun j hj => by
        rw [hv1]
        by_cases e : j = 0
        · rw [e, upd_at, k0 0 (Nat.le_refl _)]
        · rw [o _ _ _ _ e]; exact m0 j (by omega)
      have g1 := w1.setJ 28 rfl v1
      have d1 := hset_self h1 (A 28) (Ai false 0 8 v1)
      refine XX.eqh (show _ = hset h1 (A 28) (Ai false 0 8 v1) by rw [hv1] <;> rfl) ?_
      refine X_aload_n (pc := 376) 9 dX10_block_376 rfl rfl ?_
      refine X_getfield (pc := 377) dX10_block_377 fg_X10_274_11 (MW.ob g1) mf_28 ?_
      refine X_iconst (pc := 380) (x := 1) dX10_block_380 (by decide) ?_
      refine X_dup2_11 (pc := 381) dX10_block_381 rfl rfl ?_
      refine X_iaload (pc := 382) dX10_block_382 d1 (vp_in_nI (n := 1) (by decide) (by decide)) ?_
      refine X_iload_n (pc := 383) 7 dX10_block_383 rfl rfl ?_
      refine X_iadd (pc := 384) dX10_block_384 ?_
      refine X_iastore (pc := 385) dX10_block_385 d1 (vp_in_nI (n := 1) (by decide) (by decide)) ?_
      obtain ⟨v2, hv2⟩ : ∃ v, v = upd v1 1 (v1 1 + s 1) := ⟨_, rfl⟩
      have k2 : ∀ j, 2 ≤ j → v2 j = fc j := fun j hj => by rw [hv2, o _ _ _ _ (by omega)]; exact k1 j (by omega)
      have m2 : ∀ j, j < 2 → v2 j = fc j + s j := fun j hj => by
        rw [hv2]
        by_cases e : j = 1
        · rw [e, upd_at, k1 1 (Nat.le_refl _)]
        · rw [o _ _ _ _ e]; exact m1 j (by omega)
      have g2 := w1.setJ 28 rfl v2
      have d2 := hset_self h1 (A 28) (Ai false 0 8 v2)
      refine XX.eqh (show _ = hset h1 (A 28) (Ai false 0 8 v2) by rw [hset_hset, hv2] <;> rfl) ?_
      refine X_aload_n (pc := 386) 9 dX10_block_386 rfl rfl ?_
      refine X_getfield (pc := 387) dX10_block_387 fg_X10_274_11 (MW.ob g2) mf_28 ?_
      refine X_iconst (pc := 390) (x := 2) dX10_block_390 (by decide) ?_
      refine X_dup2_11 (pc := 391) dX10_block_391 rfl rfl ?_
      refine X_iaload (pc := 392) dX10_block_392 d2 (vp_in_nI (n := 2) (by decide) (by decide)) ?_
      refine X_iload (pc := 393) 6 dX10_block_393 rfl ?_
      refine X_iadd (pc := 395) dX10_block_395 ?_
      refine X_iastore (pc := 396) dX10_block_396 d2 (vp_in_nI (n := 2) (by decide) (by decide)) ?_
      obtain ⟨v3, hv3⟩ : ∃ v, v = upd v2 2 (v2 2 + s 2) := ⟨_, rfl⟩
      have k3 : ∀ j, 3 ≤ j → v3 j = fc j := fun j hj => by rw [hv3, o _ _ _ _ (by omega)]; exact k2 j (by omega)
      have m3 : ∀ j, j < 3 → v3 j = fc j + s j := fun j hj => by
        rw [hv3]
        by_cases e : j = 2
        · rw [e, upd_at, k2 2 (Nat.le_refl _)]
        · rw [o _ _ _ _ e]; exact m2 j (by omega)
      have g3 := w1.setJ 28 rfl v3
      have d3 := hset_self h1 (A 28) (Ai false 0 8 v3)
      refine XX.eqh (show _ = hset h1 (A 28) (Ai false 0 8 v3) by rw [hset_hset, hv3] <;> rfl) ?_
      refine X_aload_n (pc := 397) 9 dX10_block_397 rfl rfl ?_
      refine X_getfield (pc := 398) dX10_block_398 fg_X10_274_11 (MW.ob g3) mf_28 ?_
      refine X_iconst (pc := 401) (x := 3) dX10_block_401 (by decide) ?_
      refine X_dup2_11 (pc := 402) dX10_block_402 rfl rfl ?_
      refine X_iaload (pc := 403) dX10_block_403 d3 (vp_in_nI (n := 3) (by decide) (by decide)) ?_
      refine X_iload (pc := 404) 5 dX10_block_404 rfl ?_
      refine X_iadd (pc := 406) dX10_block_406 ?_
      refine X_iastore (pc := 407) dX10_block_407 d3 (vp_in_nI (n := 3) (by decide) (by decide)) ?_
      obtain ⟨v4, hv4⟩ : ∃ v, v = upd v3 3 (v3 3 + s 3) := ⟨_, rfl⟩
      have k4 : ∀ j, 4 ≤ j → v4 j = fc j := fun j hj => by rw [hv4, o _ _ _ _ (by omega)]; exact k3 j (by omega)
      have m4 : ∀ j, j < 4 → v4 j = fc j + s j := fun j hj => by
        rw [hv4]
        by_cases e : j = 3
        · rw [e, upd_at, k3 3 (Nat.le_refl _)]
        · rw [o _ _ _ _ e]; exact m3 j (by omega)
      have g4 := w1.setJ 28 rfl v4
      have d4 := hset_self h1 (A 28) (Ai false 0 8 v4)
      refine XX.eqh (show _ = hset h1 (A 28) (Ai false 0 8 v4) by rw [hset_hset, hv4] <;> rfl) ?_
      refine X_aload_n (pc := 408) 9 dX10_block_408 rfl rfl ?_
      refine X_getfield (pc := 409) dX10_block_409 fg_X10_274_11 (MW.ob g4) mf_28 ?_
      refine X_iconst (pc := 412) (x := 4) dX10_block_412 (by decide) ?_
      refine X_dup2_11 (pc := 413) dX10_block_413 rfl rfl ?_
      refine X_iaload (pc := 414) dX10_block_414 d4 (vp_in_nI (n := 4) (by decide) (by decide)) ?_
      refine X_iload (pc := 415) 4 dX10_block_415 rfl ?_
      refine X_iadd (pc := 417) dX10_block_417 ?_
      refine X_iastore (pc := 418) dX10_block_418 d4 (vp_in_nI (n := 4) (by decide) (by decide)) ?_
      obtain ⟨v5, hv5⟩ : ∃ v, v = upd v4 4 (v4 4 + s 4) := ⟨_, rfl⟩
      have k5 : ∀ j, 5 ≤ j → v5 j = fc j := fun j hj => by rw [hv5, o _ _ _ _ (by omega)]; exact k4 j (by omega)
      have m5 : ∀ j, j < 5 → v5 j = fc j + s j := fun j hj => by
        rw [hv5]
        by_cases e : j = 4
        · rw [e, upd_at, k4 4 (Nat.le_refl _)]
        · rw [o _ _ _ _ e]; exact m4 j (by omega)
      have g5 := w1.setJ 28 rfl v5
      have d5 := hset_self h1 (A 28) (Ai false 0 8 v5)
      refine XX.eqh (show _ = hset h1 (A 28) (Ai false 0 8 v5) by rw [hset_hset, hv5] <;> rfl) ?_
      refine X_aload_n (pc := 419) 9 dX10_block_419 rfl rfl ?_
      refine X_getfield (pc := 420) dX10_block_420 fg_X10_274_11 (MW.ob g5) mf_28 ?_
      refine X_iconst (pc := 423) (x := 5) dX10_block_423 (by decide) ?_
      refine X_dup2_11 (pc := 424) dX10_block_424 rfl rfl ?_
      refine X_iaload (pc := 425) dX10_block_425 d5 (vp_in_nI (n := 5) (by decide) (by decide)) ?_
      refine X_iload (pc := 426) 3 dX10_block_426 rfl ?_
      refine X_iadd (pc := 428) dX10_block_428 ?_
      refine X_iastore (pc := 429) dX10_block_429 d5 (vp_in_nI (n := 5) (by decide) (by decide)) ?_
      obtain ⟨v6, hv6⟩ : ∃ v, v = upd v5 5 (v5 5 + s 5) := ⟨_, rfl⟩
      have k6 : ∀ j, 6 ≤ j → v6 j = fc j := fun j hj => by rw [hv6, o _ _ _ _ (by omega)]; exact k5 j (by omega)
      have m6 : ∀ j, j < 6 → v6 j = fc j + s j := fun j hj => by
        rw [hv6]
        by_cases e : j = 5
        · rw [e, upd_at, k5 5 (Nat.le_refl _)]
        · rw [o _ _ _ _ e]; exact m5 j (by omega)
      have g6 := w1.setJ 28 rfl v6
      have d6 := hset_self h1 (A 28) (Ai false 0 8 v6)
      refine XX.eqh (show _ = hset h1 (A 28) (Ai false 0 8 v6) by rw [hset_hset, hv6] <;> rfl) ?_
      refine X_aload_n (pc := 430) 9 dX10_block_430 rfl rfl ?_
      refine X_getfield (pc := 431) dX10_block_431 fg_X10_274_11 (MW.ob g6) mf_28 ?_
      refine X_bipush (pc := 434) (x := 6) dX10_block_434 (by decide) ?_
      refine X_dup2_11 (pc := 436) dX10_block_436 rfl rfl ?_
      refine X_iaload (pc := 437) dX10_block_437 d6 (vp_in_nI (n := 6) (by decide) (by decide)) ?_
      refine X_iload (pc := 438) 2 dX10_block_438 rfl ?_
      refine X_iadd (pc := 440) dX10_block_440 ?_
      refine X_iastore (pc := 441) dX10_block_441 d6 (vp_in_nI (n := 6) (by decide) (by decide)) ?_
      obtain ⟨v7, hv7⟩ : ∃ v, v = upd v6 6 (v6 6 + s 6) := ⟨_, rfl⟩
      have k7 : ∀ j, 7 ≤ j → v7 j = fc j := fun j hj => by rw [hv7, o _ _ _ _ (by omega)]; exact k6 j (by omega)
      have m7 : ∀ j, j < 7 → v7 j = fc j + s j := fun j hj => by
        rw [hv7]
        by_cases e : j = 6
        · rw [e, upd_at, k6 6 (Nat.le_refl _)]
        · rw [o _ _ _ _ e]; exact m6 j (by omega)
      have g7 := w1.setJ 28 rfl v7
      have d7 := hset_self h1 (A 28) (Ai false 0 8 v7)
      refine XX.eqh (show _ = hset h1 (A 28) (Ai false 0 8 v7) by rw [hset_hset, hv7] <;> rfl) ?_
      refine X_aload_n (pc := 442) 9 dX10_block_442 rfl rfl ?_
      refine X_getfield (pc := 443) dX10_block_443 fg_X10_274_11 (MW.ob g7) mf_28 ?_
      refine X_bipush (pc := 446) (x := 7) dX10_block_446 (by decide) ?_
      refine X_dup2_11 (pc := 448) dX10_block_448 rfl rfl ?_
      refine X_iaload (pc := 449) dX10_block_449 d7 (vp_in_nI (n := 7) (by decide) (by decide)) ?_
      refine X_iload (pc := 450) 1 dX10_block_450 rfl ?_
      refine X_iadd (pc := 452) dX10_block_452 ?_
      refine X_iastore (pc := 453) dX10_block_453 d7 (vp_in_nI (n := 7) (by decide) (by decide)) ?_
      obtain ⟨v8, hv8⟩ : ∃ v, v = upd v7 7 (v7 7 + s 7) := ⟨_, rfl⟩
      have k8 : ∀ j, 8 ≤ j → v8 j = fc j := fun j hj => by rw [hv8, o _ _ _ _ (by omega)]; exact k7 j (by omega)
      have m8 : ∀ j, j < 8 → v8 j = fc j + s j := fun j hj => by
        rw [hv8]
        by_cases e : j = 7
        · rw [e, upd_at, k7 7 (Nat.le_refl _)]
        · rw [o _ _ _ _ e]; exact m7 j (by omega)
      have g8 := w1.setJ 28 rfl v8
      have d8 := hset_self h1 (A 28) (Ai false 0 8 v8)
      refine XX.eqh (show _ = hset h1 (A 28) (Ai false 0 8 v8) by rw [hset_hset, hv8] <;> rfl) ?_
      refine X_return (pc := 454) dX10_block_454 rfl (Nat.le_of_ble_eq_true rfl) (Nat.le_of_ble_eq_true rfl) ?_
      refine ⟨rfl, f, hf, ?_⟩
      have ev : v8 = cmpF s fc := by
        funext j
        unfold cmpF
        by_cases e : j < 8
        · rw [if_pos e]; exact m8 j e
        · rw [if_neg e]; exact k8 j (by omega)
      rw [hh1, hs, ev]
    | succ m ih =>
      intro i hi
      have ci : (nI i).toNatClampNeg = i := nI_clamp (by omega)
      have b1 : vp_in (nI i) 64 := vp_in_nI (by omega) (by omega)
      have ih := ih (i + 1) (by omega)
      generalize hs : rnds (fun j => t256.getD j 0) f fc i = s at *
      have hs1 : rnds (fun j => t256.getD j 0) f fc (i + 1) = rnd s (t256.getD i 0) (f i) := by rw [← hs]; rfl
      rw [hs1] at ih
      refine X_iload (pc := 227) 0 dX10_block_227 rfl ?_
      refine X_bipush (pc := 229) (x := 64) dX10_block_229 (by decide) ?_
      refine X_cge (b := 64) (pc := 231) 366 dX10_block_231 (by decide) (by omega) (by omega) (fun c => absurd c (by omega)) (fun _ => ?_)
      refine X_iload (pc := 234) 1 dX10_block_234 rfl ?_
      refine X_iload (pc := 236) 4 dX10_block_236 rfl ?_
      refine X_bipush (pc := 238) (x := 6) dX10_block_238 (by decide) ?_
      refine X_isi (pc := 240) _ dX10_block_240 cs_X10_289 rfl (roll_ok g _ _) nX10_roll (Nat.le_of_ble_eq_true rfl) (Nat.le_of_ble_eq_true rfl) (Nat.le_of_ble_eq_true rfl) (Nat.le_of_ble_eq_true rfl) (fun r1 h2 q1 => ?_)
      obtain ⟨rfl, rfl⟩ := q1
      refine X_iload (pc := 243) 4 dX10_block_243 rfl ?_
      refine X_bipush (pc := 245) (x := 11) dX10_block_245 (by decide) ?_
      refine X_isi (pc := 247) _ dX10_block_247 cs_X10_289 rfl (roll_ok g _ _) nX10_roll (Nat.le_of_ble_eq_true rfl) (Nat.le_of_ble_eq_true rfl) (Nat.le_of_ble_eq_true rfl) (Nat.le_of_ble_eq_true rfl) (fun r1 h2 q1 => ?_)
      obtain ⟨rfl, rfl⟩ := q1
      refine X_ixor (pc := 250) dX10_block_250 ?_
      refine X_iload (pc := 251) 4 dX10_block_251 rfl ?_
      refine X_bipush (pc := 253) (x := 25) dX10_block_253 (by decide) ?_
      refine X_isi (pc := 255) _ dX10_block_255 cs_X10_289 rfl (roll_ok g _ _) nX10_roll (Nat.le_of_ble_eq_true rfl) (Nat.le_of_ble_eq_true rfl) (Nat.le_of_ble_eq_true rfl) (Nat.le_of_ble_eq_true rfl) (fun r1 h2 q1 => ?_)
      obtain ⟨rfl, rfl⟩ := q1
      refine X_ixor (pc := 258) dX10_block_258 ?_
      refine X_iadd (pc := 259) dX10_block_259 ?_
      refine X_iload (pc := 260) 4 dX10_block_260 rfl ?_
      refine X_iload (pc := 262) 3 dX10_block_262 rfl ?_
      refine X_iand (pc := 264) dX10_block_264 ?_
      refine X_iload (pc := 265) 4 dX10_block_265 rfl ?_
      refine X_iconst (pc := 267) (x := (-1)) dX10_block_267 (by decide) ?_
      refine X_ixor (pc := 268) dX10_block_268 ?_
      refine X_iload (pc := 269) 2 dX10_block_269 rfl ?_
      refine X_iand (pc := 271) dX10_block_271 ?_
      refine X_ixor (pc := 272) dX10_block_272 ?_
      refine X_iadd (pc := 273) dX10_block_273 ?_
      refine X_getstatic (pc := 274) (j := 8) dX10_block_274 q1863 (fun _ => rfl) rfl (fun st_274 hs_274 => ?_)
      refine X_iload (pc := 277) 0 dX10_block_277 rfl ?_
      refine X_iaload (pc := 279) dX10_block_279 hs_274 b1 ?_
      refine X_iadd (pc := 280) dX10_block_280 ?_
      refine X_aload_n (pc := 281) 9 dX10_block_281 rfl rfl ?_
      refine X_getfield (pc := 282) dX10_block_282 fg_X10_286_11 (MW.ob w1) mf_29 ?_
      refine X_iload (pc := 285) 0 dX10_block_285 rfl ?_
      refine X_iaload (pc := 287) dX10_block_287 c29 b1 ?_
      refine X_iadd (pc := 288) dX10_block_288 ?_
      refine X_istore (pc := 289) (L' := [(11, .int _), (10, .int _), (9, .int _), (8, .int _), (7, .int _), (6, .int _), (5, .int _), (4, .int _), (3, .int _), (2, .int _), (0, .ref _), (1, .int _)]) dX10_block_289 (Nat.le_of_ble_eq_true rfl) rfl ?_
      refine X_iload_n (pc := 291) 9 dX10_block_291 rfl rfl ?_
      refine X_iconst (pc := 292) (x := 2) dX10_block_292 (by decide) ?_
      refine X_isi (pc := 293) _ dX10_block_293 cs_X10_289 rfl (roll_ok g _ _) nX10_roll (Nat.le_of_ble_eq_true rfl) (Nat.le_of_ble_eq_true rfl) (Nat.le_of_ble_eq_true rfl) (Nat.le_of_ble_eq_true rfl) (fun r1 h2 q1 => ?_)
      obtain ⟨rfl, rfl⟩ := q1
      refine X_iload_n (pc := 296) 9 dX10_block_296 rfl rfl ?_
      refine X_bipush (pc := 297) (x := 13) dX10_block_297 (by decide) ?_
      refine X_isi (pc := 299) _ dX10_block_299 cs_X10_289 rfl (roll_ok g _ _) nX10_roll (Nat.le_of_ble_eq_true rfl) (Nat.le_of_ble_eq_true rfl) (Nat.le_of_ble_eq_true rfl) (Nat.le_of_ble_eq_true rfl) (fun r1 h2 q1 => ?_)
      obtain ⟨rfl, rfl⟩ := q1
      refine X_ixor (pc := 302) dX10_block_302 ?_
      refine X_iload_n (pc := 303) 9 dX10_block_303 rfl rfl ?_
      refine X_bipush (pc := 304) (x := 22) dX10_block_304 (by decide) ?_
      refine X_isi (pc := 306) _ dX10_block_306 cs_X10_289 rfl (roll_ok g _ _) nX10_roll (Nat.le_of_ble_eq_true rfl) (Nat.le_of_ble_eq_true rfl) (Nat.le_of_ble_eq_true rfl) (Nat.le_of_ble_eq_true rfl) (fun r1 h2 q1 => ?_)
      obtain ⟨rfl, rfl⟩ := q1
      refine X_ixor (pc := 309) dX10_block_309 ?_
      refine X_iload_n (pc := 310) 9 dX10_block_310 rfl rfl ?_
      refine X_iload_n (pc := 311) 8 dX10_block_311 rfl rfl ?_
      refine X_iand (pc := 312) dX10_block_312 ?_
      refine X_iload_n (pc := 313) 9 dX10_block_313 rfl rfl ?_
      refine X_iload (pc := 314) 7 dX10_block_314 rfl ?_
      refine X_iand (pc := 316) dX10_block_316 ?_
      refine X_ixor (pc := 317) dX10_block_317 ?_
      refine X_iload_n (pc := 318) 8 dX10_block_318 rfl rfl ?_
      refine X_iload (pc := 319) 7 dX10_block_319 rfl ?_
      refine X_iand (pc := 321) dX10_block_321 ?_
      refine X_ixor (pc := 322) dX10_block_322 ?_
      refine X_iadd (pc := 323) dX10_block_323 ?_
      refine X_istore (pc := 324) (L' := [(12, .int _), (11, .int _), (10, .int _), (9, .int _), (8, .int _), (7, .int _), (6, .int _), (5, .int _), (4, .int _), (3, .int _), (2, .int _), (0, .ref _), (1, .int _)]) dX10_block_324 (Nat.le_of_ble_eq_true rfl) rfl ?_
      refine X_iload (pc := 326) 4 dX10_block_326 rfl ?_
      refine X_istore (pc := 328) (L' := [(9, .int _), (12, .int _), (11, .int _), (10, .int _), (8, .int _), (7, .int _), (6, .int _), (5, .int _), (4, .int _), (3, .int _), (2, .int _), (0, .ref _), (1, .int _)]) dX10_block_328 (Nat.le_of_ble_eq_true rfl) rfl ?_
      refine X_iload (pc := 330) 5 dX10_block_330 rfl ?_
      refine X_istore (pc := 332) (L' := [(8, .int _), (9, .int _), (12, .int _), (11, .int _), (10, .int _), (7, .int _), (6, .int _), (5, .int _), (4, .int _), (3, .int _), (2, .int _), (0, .ref _), (1, .int _)]) dX10_block_332 (Nat.le_of_ble_eq_true rfl) rfl ?_
      refine X_iload (pc := 334) 6 dX10_block_334 rfl ?_
      refine X_istore (pc := 336) (L' := [(7, .int _), (8, .int _), (9, .int _), (12, .int _), (11, .int _), (10, .int _), (6, .int _), (5, .int _), (4, .int _), (3, .int _), (2, .int _), (0, .ref _), (1, .int _)]) dX10_block_336 (Nat.le_of_ble_eq_true rfl) rfl ?_
      refine X_iload (pc := 338) 7 dX10_block_338 rfl ?_
      refine X_iload (pc := 340) 4 dX10_block_340 rfl ?_
      refine X_iadd (pc := 342) dX10_block_342 ?_
      refine X_istore (pc := 343) (L' := [(6, .int _), (7, .int _), (8, .int _), (9, .int _), (12, .int _), (11, .int _), (10, .int _), (5, .int _), (4, .int _), (3, .int _), (2, .int _), (0, .ref _), (1, .int _)]) dX10_block_343 (Nat.le_of_ble_eq_true rfl) rfl ?_
      refine X_iload (pc := 345) 8 dX10_block_345 rfl ?_
      refine X_istore (pc := 347) (L' := [(5, .int _), (6, .int _), (7, .int _), (8, .int _), (9, .int _), (12, .int _), (11, .int _), (10, .int _), (4, .int _), (3, .int _), (2, .int _), (0, .ref _), (1, .int _)]) dX10_block_347 (Nat.le_of_ble_eq_true rfl) rfl ?_
      refine X_iload_n (pc := 349) 9 dX10_block_349 rfl rfl ?_
      refine X_istore (pc := 350) (L' := [(4, .int _), (5, .int _), (6, .int _), (7, .int _), (8, .int _), (9, .int _), (12, .int _), (11, .int _), (10, .int _), (3, .int _), (2, .int _), (0, .ref _), (1, .int _)]) dX10_block_350 (Nat.le_of_ble_eq_true rfl) rfl ?_
      refine X_iload_n (pc := 352) 10 dX10_block_352 rfl rfl ?_
      refine X_istore_n (pc := 353) (L' := [(3, .int _), (4, .int _), (5, .int _), (6, .int _), (7, .int _), (8, .int _), (9, .int _), (12, .int _), (11, .int _), (10, .int _), (2, .int _), (0, .ref _), (1, .int _)]) dX10_block_353 rfl (Nat.le_of_ble_eq_true rfl) rfl ?_
      refine X_iload (pc := 354) 8 dX10_block_354 rfl ?_
      refine X_iload (pc := 356) 7 dX10_block_356 rfl ?_
      refine X_iadd (pc := 358) dX10_block_358 ?_
      refine X_istore_n (pc := 359) (L' := [(2, .int _), (3, .int _), (4, .int _), (5, .int _), (6, .int _), (7, .int _), (8, .int _), (9, .int _), (12, .int _), (11, .int _), (10, .int _), (0, .ref _), (1, .int _)]) dX10_block_359 rfl (Nat.le_of_ble_eq_true rfl) rfl ?_
      refine X_iinc (pc := 360) (L' := [(10, .int (_ + 1)), (2, .int _), (3, .int _), (4, .int _), (5, .int _), (6, .int _), (7, .int _), (8, .int _), (9, .int _), (12, .int _), (11, .int _), (0, .ref _), (1, .int _)]) 10 dX10_block_360 rfl rfl (Nat.le_of_ble_eq_true rfl) rfl ?_
      refine X_goto (pc := 363) 227 dX10_block_363 (by decide) ?_
      rw [ci, show nI i + 1 = nI (i + 1) from nI_add i 1]
      refine XX.pick (L' := [(10, .int _), (9, .int _), (8, .int _), (7, .int _), (6, .int _), (5, .int _), (4, .int _), (3, .int _), (2, .int _), (0, .ref _), (1, .int _)]) [0, 8, 7, 6, 5, 4, 3, 2, 1, 11, 12] rfl ?_
      exact ih
  exact loop 64 0 (by omega)
end MRd
