set_option maxRecDepth 100000
/-! the long digest: its rounds -/
def rnL1 (s : Nat → Int64) (k w : Int64) : Int64 := s 7 + ((rolL (s 4) 14 ^^^ rolL (s 4) 18) ^^^ rolL (s 4) 41) + ((s 4 &&& s 5) ^^^ ((s 4 ^^^ (-1)) &&& s 6)) + k + w
def rnL2 (s : Nat → Int64) : Int64 := ((rolL (s 0) 28 ^^^ rolL (s 0) 34) ^^^ rolL (s 0) 39) + (((s 0 &&& s 1) ^^^ (s 0 &&& s 2)) ^^^ (s 1 &&& s 2))
def rnL (s : Nat → Int64) (k w : Int64) : Nat → Int64
  | 0 => rnL1 s k w + rnL2 s
  | 1 => s 0
  | 2 => s 1
  | 3 => s 2
  | 4 => s 3 + rnL1 s k w
  | 5 => s 4
  | 6 => s 5
  | 7 => s 6
  | j => s j
def rnLs (K W : Nat → Int64) (s : Nat → Int64) : Nat → Nat → Int64
  | 0 => s
  | i + 1 => rnL (rnLs K W s i) (K i) (W i)
/-- the chain behind a block -/
def cmpL (s f : Nat → Int64) (j : Nat) : Int64 := if j < 8 then f j + s j else f j
section MRw
variable {A : Nat → Nat} {X : AH} {R : Nat → Nat} {I : Nat → Nat → Int32} {S : Nat → List Int32} {F : Nat → Int32} {h : AH}
set_option maxHeartbeats 4000000 in
theorem wblock_ok (g : GX) (w : MW A X R I S F h) {at' : Nat} {fc : Nat → Int64} (hat : at' + 128 ≤ (S 25).length) (c30 : h (A 30) = some (Al false 8 fc)) :
    MT g MX10_wideBlock ({ frames := 1, cells := 0, slots := 0, locals := 22 } : Room) [.ref (A 96), .int (nI at')] h (RV fun h' => ∃ f, IsWide (fun j => (S 25).getD j 0) at' 80 f ∧ h' = hset (hset h (A 31) (Al false 80 f)) (A 30) (Al false 8 (cmpL (rnLs (fun j => t512.getD j 0) f fc 80) fc))) := by
  refine MT.of (by decide) (Nat.le_of_ble_eq_true rfl) ?_
  refine wide_ok g w hat (fun f hf => ?_)
  have w1 := w.setL 31 rfl f
  have n30 : A 30 ≠ A 31 := w.ne (by decide) (by decide) (by decide)
  have c30' : hset h (A 31) (Al false 80 f) (A 30) = some (Al false 8 fc) := by rw [hset_ne n30]; exact c30
  have c31 := hset_self h (A 31) (Al false 80 f)
  generalize hh1 : hset h (A 31) (Al false 80 f) = h1 at *
  refine X_aload_n (pc := 163) 1 dX10_wideBlock_163 rfl rfl ?_
  refine X_getfield (pc := 164) dX10_wideBlock_164 fg_X10_296_11 (MW.ob w1) mf_30 ?_
  refine X_iconst (pc := 167) (x := 0) dX10_wideBlock_167 (by decide) ?_
  refine X_laload (pc := 168) dX10_wideBlock_168 c30' (vp_in_nI (n := 0) (by decide) (by decide)) ?_
  refine X_lstore_n (pc := 169) (L' := [(2, .long _), (0, .ref _), (1, .int _)]) dX10_wideBlock_169 rfl (Nat.le_of_ble_eq_true rfl) rfl ?_
  refine X_aload_n (pc := 170) 1 dX10_wideBlock_170 rfl rfl ?_
  refine X_getfield (pc := 171) dX10_wideBlock_171 fg_X10_296_11 (MW.ob w1) mf_30 ?_
  refine X_iconst (pc := 174) (x := 1) dX10_wideBlock_174 (by decide) ?_
  refine X_laload (pc := 175) dX10_wideBlock_175 c30' (vp_in_nI (n := 1) (by decide) (by decide)) ?_
  refine X_lstore (pc := 176) (L' := [(4, .long _), (2, .long _), (0, .ref _), (1, .int _)]) dX10_wideBlock_176 (Nat.le_of_ble_eq_true rfl) rfl ?_
  refine X_aload_n (pc := 178) 2 dX10_wideBlock_178 rfl rfl ?_
  refine X_getfield (pc := 179) dX10_wideBlock_179 fg_X10_296_11 (MW.ob w1) mf_30 ?_
  refine X_iconst (pc := 182) (x := 2) dX10_wideBlock_182 (by decide) ?_
  refine X_laload (pc := 183) dX10_wideBlock_183 c30' (vp_in_nI (n := 2) (by decide) (by decide)) ?_
  refine X_lstore (pc := 184) (L' := [(6, .long _), (4, .long _), (2, .long _), (0, .ref _), (1, .int _)]) dX10_wideBlock_184 (Nat.le_of_ble_eq_true rfl) rfl ?_
  refine X_aload_n (pc := 186) 3 dX10_wideBlock_186 rfl rfl ?_
  refine X_getfield (pc := 187) dX10_wideBlock_187 fg_X10_296_11 (MW.ob w1) mf_30 ?_
  refine X_iconst (pc := 190) (x := 3) dX10_wideBlock_190 (by decide) ?_
  refine X_laload (pc := 191) dX10_wideBlock_191 c30' (vp_in_nI (n := 3) (by decide) (by decide)) ?_
  refine X_lstore (pc := 192) (L' := [(8, .long _), (6, .long _), (4, .long _), (2, .long _), (0, .ref _), (1, .int _)]) dX10_wideBlock_192 (Nat.le_of_ble_eq_true rfl) rfl ?_
  refine X_aload_n (pc := 194) 4 dX10_wideBlock_194 rfl rfl ?_
  refine X_getfield (pc := 195) dX10_wideBlock_195 fg_X10_296_11 (MW.ob w1) mf_30 ?_
  refine X_iconst (pc := 198) (x := 4) dX10_wideBlock_198 (by decide) ?_
  refine X_laload (pc := 199) dX10_wideBlock_199 c30' (vp_in_nI (n := 4) (by decide) (by decide)) ?_
  refine X_lstore (pc := 200) (L' := [(10, .long _), (8, .long _), (6, .long _), (4, .long _), (2, .long _), (0, .ref _), (1, .int _)]) dX10_wideBlock_200 (Nat.le_of_ble_eq_true rfl) rfl ?_
  refine X_aload_n (pc := 202) 5 dX10_wideBlock_202 rfl rfl ?_
  refine X_getfield (pc := 203) dX10_wideBlock_203 fg_X10_296_11 (MW.ob w1) mf_30 ?_
  refine X_iconst (pc := 206) (x := 5) dX10_wideBlock_206 (by decide) ?_
  refine X_laload (pc := 207) dX10_wideBlock_207 c30' (vp_in_nI (n := 5) (by decide) (by decide)) ?_
  refine X_lstore (pc := 208) (L' := [(12, .long _), (10, .long _), (8, .long _), (6, .long _), (4, .long _), (2, .long _), (0, .ref _), (1, .int _)]) dX10_wideBlock_208 (Nat.le_of_ble_eq_true rfl) rfl ?_
  refine X_aload_n (pc := 210) 6 dX10_wideBlock_210 rfl rfl ?_
  refine X_getfield (pc := 211) dX10_wideBlock_211 fg_X10_296_11 (MW.ob w1) mf_30 ?_
  refine X_bipush (pc := 214) (x := 6) dX10_wideBlock_214 (by decide) ?_
  refine X_laload (pc := 216) dX10_wideBlock_216 c30' (vp_in_nI (n := 6) (by decide) (by decide)) ?_
  refine X_lstore (pc := 217) (L' := [(14, .long _), (12, .long _), (10, .long _), (8, .long _), (6, .long _), (4, .long _), (2, .long _), (0, .ref _), (1, .int _)]) dX10_wideBlock_217 (Nat.le_of_ble_eq_true rfl) rfl ?_
  refine X_aload_n (pc := 219) 7 dX10_wideBlock_219 rfl rfl ?_
  refine X_getfield (pc := 220) dX10_wideBlock_220 fg_X10_296_11 (MW.ob w1) mf_30 ?_
  refine X_bipush (pc := 223) (x := 7) dX10_wideBlock_223 (by decide) ?_
  refine X_laload (pc := 225) dX10_wideBlock_225 c30' (vp_in_nI (n := 7) (by decide) (by decide)) ?_
  refine X_lstore (pc := 226) (L' := [(16, .long _), (14, .long _), (12, .long _), (10, .long _), (8, .long _), (6, .long _), (4, .long _), (2, .long _), (0, .ref _), (1, .int _)]) dX10_wideBlock_226 (Nat.le_of_ble_eq_true rfl) rfl ?_
  refine X_iconst (pc := 228) (x := 0) dX10_wideBlock_228 (by decide) ?_
  refine X_istore (pc := 229) (L' := [(18, .int _), (16, .long _), (14, .long _), (12, .long _), (10, .long _), (8, .long _), (6, .long _), (4, .long _), (2, .long _), (0, .ref _), (1, .int _)]) dX10_wideBlock_229 (Nat.le_of_ble_eq_true rfl) rfl ?_
  have loop : ∀ m i, i + m = 80 → XX g MX10_wideBlock ({ frames := 1, cells := 0, slots := 0, locals := 22 } : Room) (RV fun h' => ∃ f, IsWide (fun j => (S 25).getD j 0) at' 80 f ∧ h' = hset (hset h (A 31) (Al false 80 f)) (A 30) (Al false 8 (cmpL (rnLs (fun j => t512.getD j 0) f fc 80) fc))) 0 0 231 [(18, .int (nI i)), (16, .long (rnLs (fun j => t512.getD j 0) f fc i 7)), (14, .long (rnLs (fun j => t512.getD j 0) f fc i 6)), (12, .long (rnLs (fun j => t512.getD j 0) f fc i 5)), (10, .long (rnLs (fun j => t512.getD j 0) f fc i 4)), (8, .long (rnLs (fun j => t512.getD j 0) f fc i 3)), (6, .long (rnLs (fun j => t512.getD j 0) f fc i 2)), (4, .long (rnLs (fun j => t512.getD j 0) f fc i 1)), (2, .long (rnLs (fun j => t512.getD j 0) f fc i 0)), (0, .ref (A 96)), (1, .int (nI at'))] [] h1 := by
    intro m
    induction m with
    | zero =>
      intro i hi
      have e : i = 80 := by omega
      subst e
      generalize hs : rnLs (fun j => t512.getD j 0) f fc 80 = s at *
      have o : ∀ (u : Nat → Int64) (i j : Nat) (x : Int64), j ≠ i → vp_updL u i x j = u j := fun u i j x e => if_neg e
      refine X_iload (pc := 231) 0 dX10_wideBlock_231 rfl ?_
      refine X_bipush (pc := 233) (x := 80) dX10_wideBlock_233 (by decide) ?_
      refine X_cge (a := 80) (b := 80) (pc := 235) 377 dX10_wideBlock_235 (by decide) (by omega) (by omega) (fun _ => ?_) (fun c => absurd c (by omega))
      obtain ⟨v0, hv0⟩ : ∃ v, v = fc := ⟨_, rfl⟩
      rw [← hv0] at c30'
      have k0 : ∀ j, 0 ≤ j → v0 j = fc j := fun j _ => by rw [hv0]
      have m0 : ∀ j, j < 0 → v0 j = fc j + s j := fun j hj => absurd hj (by omega)
      have g0 := w1
      have d0 := c30'
      refine X_aload_n (pc := 377) 9 dX10_wideBlock_377 rfl rfl ?_
      refine X_getfield (pc := 378) dX10_wideBlock_378 fg_X10_296_11 (MW.ob g0) mf_30 ?_
      refine X_iconst (pc := 381) (x := 0) dX10_wideBlock_381 (by decide) ?_
      refine X_dup2_11 (pc := 382) dX10_wideBlock_382 rfl rfl ?_
      refine X_laload (pc := 383) dX10_wideBlock_383 d0 (vp_in_nI (n := 0) (by decide) (by decide)) ?_
      refine X_lload_n (pc := 384) 8 dX10_wideBlock_384 rfl rfl ?_
      refine X_ladd (pc := 385) dX10_wideBlock_385 ?_
      refine X_lastore (pc := 386) dX10_wideBlock_386 d0 (vp_in_nI (n := 0) (by decide) (by decide)) ?_
      obtain ⟨v1, hv1⟩ : ∃ v, v = vp_updL v0 0 (v0 0 + s 0) := ⟨_, rfl⟩
      have k1 : ∀ j, 1 ≤ j → v1 j = fc j := fun j hj => by rw [hv1, o _ _ _ _ (by omega)]; exact k0 j (by omega)
      have m1 : ∀ j, j < 1 → v1 j = fc j + s j := fun j hj => by
        rw [hv1]
        by_cases e : j = 0
        · rw [e, updL_at, k0 0 (Nat.le_refl _)]
        · rw [o _ _ _ _ e]; exact m0 j (by omega)
      have g1 := w1.setL 30 rfl v1
      have d1 := hset_self h1 (A 30) (Al false 8 v1)
      refine XX.eqh (show _ = hset h1 (A 30) (Al false 8 v1) by rw [hv1] <;> rfl) ?_
      refine X_aload_n (pc := 387) 9 dX10_wideBlock_387 rfl rfl ?_
      refine X_getfield (pc := 388) dX10_wideBlock_388 fg_X10_296_11 (MW.ob g1) mf_30 ?_
      refine X_iconst (pc := 391) (x := 1) dX10_wideBlock_391 (by decide) ?_
      refine X_dup2_11 (pc := 392) dX10_wideBlock_392 rfl rfl ?_
      refine X_laload (pc := 393) dX10_wideBlock_393 d1 (vp_in_nI (n := 1) (by decide) (by decide)) ?_
      refine X_lload (pc := 394) 7 dX10_wideBlock_394 rfl ?_
      refine X_ladd (pc := 396) dX10_wideBlock_396 ?_
      refine X_lastore (pc := 397) dX10_wideBlock_397 d1 (vp_in_nI (n := 1) (by decide) (by decide)) ?_
      obtain ⟨v2, hv2⟩ : ∃ v, v = vp_updL v1 1 (v1 1 + s 1) := ⟨_, rfl⟩
      have k2 : ∀ j, 2 ≤ j → v2 j = fc j := fun j hj => by rw [hv2, o _ _ _ _ (by omega)]; exact k1 j (by omega)
      have m2 : ∀ j, j < 2 → v2 j = fc j + s j := fun j hj => by
        rw [hv2]
        by_cases e : j = 1
        · rw [e, updL_at, k1 1 (Nat.le_refl _)]
        · rw [o _ _ _ _ e]; exact m1 j (by omega)
      have g2 := w1.setL 30 rfl v2
      have d2 := hset_self h1 (A 30) (Al false 8 v2)
      refine XX.eqh (show _ = hset h1 (A 30) (Al false 8 v2) by rw [hset_hset, hv2] <;> rfl) ?_
      refine X_aload_n (pc := 398) 9 dX10_wideBlock_398 rfl rfl ?_
      refine X_getfield (pc := 399) dX10_wideBlock_399 fg_X10_296_11 (MW.ob g2) mf_30 ?_
      refine X_iconst (pc := 402) (x := 2) dX10_wideBlock_402 (by decide) ?_
      refine X_dup2_11 (pc := 403) dX10_wideBlock_403 rfl rfl ?_
      refine X_laload (pc := 404) dX10_wideBlock_404 d2 (vp_in_nI (n := 2) (by decide) (by decide)) ?_
      refine X_lload (pc := 405) 6 dX10_wideBlock_405 rfl ?_
      refine X_ladd (pc := 407) dX10_wideBlock_407 ?_
      refine X_lastore (pc := 408) dX10_wideBlock_408 d2 (vp_in_nI (n := 2) (by decide) (by decide)) ?_
      obtain ⟨v3, hv3⟩ : ∃ v, v = vp_updL v2 2 (v2 2 + s 2) := ⟨_, rfl⟩
      have k3 : ∀ j, 3 ≤ j → v3 j = fc j := fun j hj => by rw [hv3, o _ _ _ _ (by omega)]; exact k2 j (by omega)
      have m3 : ∀ j, j < 3 → v3 j = fc j + s j := fun j hj => by
        rw [hv3]
        by_cases e : j = 2
        · rw [e, updL_at, k2 2 (Nat.le_refl _)]
        · rw [o _ _ _ _ e]; exact m2 j (by omega)
      have g3 := w1.setL 30 rfl v3
      have d3 := hset_self h1 (A 30) (Al false 8 v3)
      refine XX.eqh (show _ = hset h1 (A 30) (Al false 8 v3) by rw [hset_hset, hv3] <;> rfl) ?_
      refine X_aload_n (pc := 409) 9 dX10_wideBlock_409 rfl rfl ?_
      refine X_getfield (pc := 410) dX10_wideBlock_410 fg_X10_296_11 (MW.ob g3) mf_30 ?_
      refine X_iconst (pc := 413) (x := 3) dX10_wideBlock_413 (by decide) ?_
      refine X_dup2_11 (pc := 414) dX10_wideBlock_414 rfl rfl ?_
      refine X_laload (pc := 415) dX10_wideBlock_415 d3 (vp_in_nI (n := 3) (by decide) (by decide)) ?_
      refine X_lload (pc := 416) 5 dX10_wideBlock_416 rfl ?_
      refine X_ladd (pc := 418) dX10_wideBlock_418 ?_
      refine X_lastore (pc := 419) dX10_wideBlock_419 d3 (vp_in_nI (n := 3) (by decide) (by decide)) ?_
      obtain ⟨v4, hv4⟩ : ∃ v, v = vp_updL v3 3 (v3 3 + s 3) := ⟨_, rfl⟩
      have k4 : ∀ j, 4 ≤ j → v4 j = fc j := fun j hj => by rw [hv4, o _ _ _ _ (by omega)]; exact k3 j (by omega)
      have m4 : ∀ j, j < 4 → v4 j = fc j + s j := fun j hj => by
        rw [hv4]
        by_cases e : j = 3
        · rw [e, updL_at, k3 3 (Nat.le_refl _)]
        · rw [o _ _ _ _ e]; exact m3 j (by omega)
      have g4 := w1.setL 30 rfl v4
      have d4 := hset_self h1 (A 30) (Al false 8 v4)
      refine XX.eqh (show _ = hset h1 (A 30) (Al false 8 v4) by rw [hset_hset, hv4] <;> rfl) ?_
      refine X_aload_n (pc := 420) 9 dX10_wideBlock_420 rfl rfl ?_
      refine X_getfield (pc := 421) dX10_wideBlock_421 fg_X10_296_11 (MW.ob g4) mf_30 ?_
      refine X_iconst (pc := 424) (x := 4) dX10_wideBlock_424 (by decide) ?_
      refine X_dup2_11 (pc := 425) dX10_wideBlock_425 rfl rfl ?_
      refine X_laload (pc := 426) dX10_wideBlock_426 d4 (vp_in_nI (n := 4) (by decide) (by decide)) ?_
      refine X_lload (pc := 427) 4 dX10_wideBlock_427 rfl ?_
      refine X_ladd (pc := 429) dX10_wideBlock_429 ?_
      refine X_lastore (pc := 430) dX10_wideBlock_430 d4 (vp_in_nI (n := 4) (by decide) (by decide)) ?_
      obtain ⟨v5, hv5⟩ : ∃ v, v = vp_updL v4 4 (v4 4 + s 4) := ⟨_, rfl⟩
      have k5 : ∀ j, 5 ≤ j → v5 j = fc j := fun j hj => by rw [hv5, o _ _ _ _ (by omega)]; exact k4 j (by omega)
      have m5 : ∀ j, j < 5 → v5 j = fc j + s j := fun j hj => by
        rw [hv5]
        by_cases e : j = 4
        · rw [e, updL_at, k4 4 (Nat.le_refl _)]
        · rw [o _ _ _ _ e]; exact m4 j (by omega)
      have g5 := w1.setL 30 rfl v5
      have d5 := hset_self h1 (A 30) (Al false 8 v5)
      refine XX.eqh (show _ = hset h1 (A 30) (Al false 8 v5) by rw [hset_hset, hv5] <;> rfl) ?_
      refine X_aload_n (pc := 431) 9 dX10_wideBlock_431 rfl rfl ?_
      refine X_getfield (pc := 432) dX10_wideBlock_432 fg_X10_296_11 (MW.ob g5) mf_30 ?_
      refine X_iconst (pc := 435) (x := 5) dX10_wideBlock_435 (by decide) ?_
      refine X_dup2_11 (pc := 436) dX10_wideBlock_436 rfl rfl ?_
      refine X_laload (pc := 437) dX10_wideBlock_437 d5 (vp_in_nI (n := 5) (by decide) (by decide)) ?_
      refine X_lload (pc := 438) 3 dX10_wideBlock_438 rfl ?_
      refine X_ladd (pc := 440) dX10_wideBlock_440 ?_
      refine X_lastore (pc := 441) dX10_wideBlock_441 d5 (vp_in_nI (n := 5) (by decide) (by decide)) ?_
      obtain ⟨v6, hv6⟩ : ∃ v, v = vp_updL v5 5 (v5 5 + s 5) := ⟨_, rfl⟩
      have k6 : ∀ j, 6 ≤ j → v6 j = fc j := fun j hj => by rw [hv6, o _ _ _ _ (by omega)]; exact k5 j (by omega)
      have m6 : ∀ j, j < 6 → v6 j = fc j + s j := fun j hj => by
        rw [hv6]
        by_cases e : j = 5
        · rw [e, updL_at, k5 5 (Nat.le_refl _)]
        · rw [o _ _ _ _ e]; exact m5 j (by omega)
      have g6 := w1.setL 30 rfl v6
      have d6 := hset_self h1 (A 30) (Al false 8 v6)
      refine XX.eqh (show _ = hset h1 (A 30) (Al false 8 v6) by rw [hset_hset, hv6] <;> rfl) ?_
      refine X_aload_n (pc := 442) 9 dX10_wideBlock_442 rfl rfl ?_
      refine X_getfield (pc := 443) dX10_wideBlock_443 fg_X10_296_11 (MW.ob g6) mf_30 ?_
      refine X_bipush (pc := 446) (x := 6) dX10_wideBlock_446 (by decide) ?_
      refine X_dup2_11 (pc := 448) dX10_wideBlock_448 rfl rfl ?_
      refine X_laload (pc := 449) dX10_wideBlock_449 d6 (vp_in_nI (n := 6) (by decide) (by decide)) ?_
      refine X_lload (pc := 450) 2 dX10_wideBlock_450 rfl ?_
      refine X_ladd (pc := 452) dX10_wideBlock_452 ?_
      refine X_lastore (pc := 453) dX10_wideBlock_453 d6 (vp_in_nI (n := 6) (by decide) (by decide)) ?_
      obtain ⟨v7, hv7⟩ : ∃ v, v = vp_updL v6 6 (v6 6 + s 6) := ⟨_, rfl⟩
      have k7 : ∀ j, 7 ≤ j → v7 j = fc j := fun j hj => by rw [hv7, o _ _ _ _ (by omega)]; exact k6 j (by omega)
      have m7 : ∀ j, j < 7 → v7 j = fc j + s j := fun j hj => by
        rw [hv7]
        by_cases e : j = 6
        · rw [e, updL_at, k6 6 (Nat.le_refl _)]
        · rw [o _ _ _ _ e]; exact m6 j (by omega)
      have g7 := w1.setL 30 rfl v7
      have d7 := hset_self h1 (A 30) (Al false 8 v7)
      refine XX.eqh (show _ = hset h1 (A 30) (Al false 8 v7) by rw [hset_hset, hv7] <;> rfl) ?_
      refine X_aload_n (pc := 454) 9 dX10_wideBlock_454 rfl rfl ?_
      refine X_getfield (pc := 455) dX10_wideBlock_455 fg_X10_296_11 (MW.ob g7) mf_30 ?_
      refine X_bipush (pc := 458) (x := 7) dX10_wideBlock_458 (by decide) ?_
      refine X_dup2_11 (pc := 460) dX10_wideBlock_460 rfl rfl ?_
      refine X_laload (pc := 461) dX10_wideBlock_461 d7 (vp_in_nI (n := 7) (by decide) (by decide)) ?_
      refine X_lload (pc := 462) 1 dX10_wideBlock_462 rfl ?_
      refine X_ladd (pc := 464) dX10_wideBlock_464 ?_
      refine X_lastore (pc := 465) dX10_wideBlock_465 d7 (vp_in_nI (n := 7) (by decide) (by decide)) ?_
      obtain ⟨v8, hv8⟩ : ∃ v, v = vp_updL v7 7 (v7 7 + s 7) := ⟨_, rfl⟩
      have k8 : ∀ j, 8 ≤ j → v8 j = fc j := fun j hj => by rw [hv8, o _ _ _ _ (by omega)]; exact k7 j (by omega)
      have m8 : ∀ j, j < 8 → v8 j = fc j + s j := fun j hj => by
        rw [hv8]
        by_cases e : j = 7
        · rw [e, updL_at, k7 7 (Nat.le_refl _)]
        · rw [o _ _ _ _ e]; exact m7 j (by omega)
      have g8 := w1.setL 30 rfl v8
      have d8 := hset_self h1 (A 30) (Al false 8 v8)
      refine XX.eqh (show _ = hset h1 (A 30) (Al false 8 v8) by rw [hset_hset, hv8] <;> rfl) ?_
      refine X_return (pc := 466) dX10_wideBlock_466 rfl (Nat.le_of_ble_eq_true rfl) (Nat.le_of_ble_eq_true rfl) ?_
      refine ⟨rfl, f, hf, ?_⟩
      have ev : v8 = cmpL s fc := by
        funext j
        unfold cmpL
        by_cases e : j < 8
        · rw [if_pos e]; exact m8 j e
        · rw [if_neg e]; exact k8 j (by omega)
      rw [hh1, hs, ev]
    | succ m ih =>
      intro i hi
      have ci : (nI i).toNatClampNeg = i := nI_clamp (by omega)
      have b1 : vp_in (nI i) 80 := vp_in_nI (by omega) (by omega)
      have ih := ih (i + 1) (by omega)
      generalize hs : rnLs (fun j => t512.getD j 0) f fc i = s at *
      have hs1 : rnLs (fun j => t512.getD j 0) f fc (i + 1) = rnL s (t512.getD i 0) (f i) := by rw [← hs]; rfl
      rw [hs1] at ih
      refine X_iload (pc := 231) 0 dX10_wideBlock_231 rfl ?_
      refine X_bipush (pc := 233) (x := 80) dX10_wideBlock_233 (by decide) ?_
      refine X_cge (b := 80) (pc := 235) 377 dX10_wideBlock_235 (by decide) (by omega) (by omega) (fun c => absurd c (by omega)) (fun _ => ?_)
      refine X_lload (pc := 238) 1 dX10_wideBlock_238 rfl ?_
      refine X_lload (pc := 240) 4 dX10_wideBlock_240 rfl ?_
      refine X_bipush (pc := 242) (x := 14) dX10_wideBlock_242 (by decide) ?_
      refine X_isl (pc := 244) _ dX10_wideBlock_244 cs_X10_308 rfl (rollL_ok g _ _) nX10_roll_2 (Nat.le_of_ble_eq_true rfl) (Nat.le_of_ble_eq_true rfl) (Nat.le_of_ble_eq_true rfl) (Nat.le_of_ble_eq_true rfl) (fun r1 h2 q1 => ?_)
      obtain ⟨rfl, rfl⟩ := q1
      refine X_lload (pc := 247) 4 dX10_wideBlock_247 rfl ?_
      refine X_bipush (pc := 249) (x := 18) dX10_wideBlock_249 (by decide) ?_
      refine X_isl (pc := 251) _ dX10_wideBlock_251 cs_X10_308 rfl (rollL_ok g _ _) nX10_roll_2 (Nat.le_of_ble_eq_true rfl) (Nat.le_of_ble_eq_true rfl) (Nat.le_of_ble_eq_true rfl) (Nat.le_of_ble_eq_true rfl) (fun r1 h2 q1 => ?_)
      obtain ⟨rfl, rfl⟩ := q1
      refine X_lxor (pc := 254) dX10_wideBlock_254 ?_
      refine X_lload (pc := 255) 4 dX10_wideBlock_255 rfl ?_
      refine X_bipush (pc := 257) (x := 41) dX10_wideBlock_257 (by decide) ?_
      refine X_isl (pc := 259) _ dX10_wideBlock_259 cs_X10_308 rfl (rollL_ok g _ _) nX10_roll_2 (Nat.le_of_ble_eq_true rfl) (Nat.le_of_ble_eq_true rfl) (Nat.le_of_ble_eq_true rfl) (Nat.le_of_ble_eq_true rfl) (fun r1 h2 q1 => ?_)
      obtain ⟨rfl, rfl⟩ := q1
      refine X_lxor (pc := 262) dX10_wideBlock_262 ?_
      refine X_ladd (pc := 263) dX10_wideBlock_263 ?_
      refine X_lload (pc := 264) 4 dX10_wideBlock_264 rfl ?_
      refine X_lload (pc := 266) 3 dX10_wideBlock_266 rfl ?_
      refine X_land (pc := 268) dX10_wideBlock_268 ?_
      refine X_lload (pc := 269) 4 dX10_wideBlock_269 rfl ?_
      refine X_ldc2 (pc := 271) dX10_wideBlock_271 q1936 ?_
      refine X_lxor (pc := 274) dX10_wideBlock_274 ?_
      refine X_lload (pc := 275) 2 dX10_wideBlock_275 rfl ?_
      refine X_land (pc := 277) dX10_wideBlock_277 ?_
      refine X_lxor (pc := 278) dX10_wideBlock_278 ?_
      refine X_ladd (pc := 279) dX10_wideBlock_279 ?_
      refine X_getstatic (pc := 280) (j := 10) dX10_wideBlock_280 q1937 (fun _ => rfl) rfl (fun st_280 hs_280 => ?_)
      refine X_iload (pc := 283) 0 dX10_wideBlock_283 rfl ?_
      refine X_laload (pc := 285) dX10_wideBlock_285 hs_280 b1 ?_
      refine X_ladd (pc := 286) dX10_wideBlock_286 ?_
      refine X_aload_n (pc := 287) 9 dX10_wideBlock_287 rfl rfl ?_
      refine X_getfield (pc := 288) dX10_wideBlock_288 fg_X10_305_11 (MW.ob w1) mf_31 ?_
      refine X_iload (pc := 291) 0 dX10_wideBlock_291 rfl ?_
      refine X_laload (pc := 293) dX10_wideBlock_293 c31 b1 ?_
      refine X_ladd (pc := 294) dX10_wideBlock_294 ?_
      refine X_lstore (pc := 295) (L' := [(19, .long _), (18, .int _), (16, .long _), (14, .long _), (12, .long _), (10, .long _), (8, .long _), (6, .long _), (4, .long _), (2, .long _), (0, .ref _), (1, .int _)]) dX10_wideBlock_295 (Nat.le_of_ble_eq_true rfl) rfl ?_
      refine X_lload_n (pc := 297) 9 dX10_wideBlock_297 rfl rfl ?_
      refine X_bipush (pc := 298) (x := 28) dX10_wideBlock_298 (by decide) ?_
      refine X_isl (pc := 300) _ dX10_wideBlock_300 cs_X10_308 rfl (rollL_ok g _ _) nX10_roll_2 (Nat.le_of_ble_eq_true rfl) (Nat.le_of_ble_eq_true rfl) (Nat.le_of_ble_eq_true rfl) (Nat.le_of_ble_eq_true rfl) (fun r1 h2 q1 => ?_)
      obtain ⟨rfl, rfl⟩ := q1
      refine X_lload_n (pc := 303) 9 dX10_wideBlock_303 rfl rfl ?_
      refine X_bipush (pc := 304) (x := 34) dX10_wideBlock_304 (by decide) ?_
      refine X_isl (pc := 306) _ dX10_wideBlock_306 cs_X10_308 rfl (rollL_ok g _ _) nX10_roll_2 (Nat.le_of_ble_eq_true rfl) (Nat.le_of_ble_eq_true rfl) (Nat.le_of_ble_eq_true rfl) (Nat.le_of_ble_eq_true rfl) (fun r1 h2 q1 => ?_)
      obtain ⟨rfl, rfl⟩ := q1
      refine X_lxor (pc := 309) dX10_wideBlock_309 ?_
      refine X_lload_n (pc := 310) 9 dX10_wideBlock_310 rfl rfl ?_
      refine X_bipush (pc := 311) (x := 39) dX10_wideBlock_311 (by decide) ?_
      refine X_isl (pc := 313) _ dX10_wideBlock_313 cs_X10_308 rfl (rollL_ok g _ _) nX10_roll_2 (Nat.le_of_ble_eq_true rfl) (Nat.le_of_ble_eq_true rfl) (Nat.le_of_ble_eq_true rfl) (Nat.le_of_ble_eq_true rfl) (fun r1 h2 q1 => ?_)
      obtain ⟨rfl, rfl⟩ := q1
      refine X_lxor (pc := 316) dX10_wideBlock_316 ?_
      refine X_lload_n (pc := 317) 9 dX10_wideBlock_317 rfl rfl ?_
      refine X_lload (pc := 318) 8 dX10_wideBlock_318 rfl ?_
      refine X_land (pc := 320) dX10_wideBlock_320 ?_
      refine X_lload_n (pc := 321) 9 dX10_wideBlock_321 rfl rfl ?_
      refine X_lload (pc := 322) 7 dX10_wideBlock_322 rfl ?_
      refine X_land (pc := 324) dX10_wideBlock_324 ?_
      refine X_lxor (pc := 325) dX10_wideBlock_325 ?_
      refine X_lload (pc := 326) 8 dX10_wideBlock_326 rfl ?_
      refine X_lload (pc := 328) 7 dX10_wideBlock_328 rfl ?_
      refine X_land (pc := 330) dX10_wideBlock_330 ?_
      refine X_lxor (pc := 331) dX10_wideBlock_331 ?_
      refine X_ladd (pc := 332) dX10_wideBlock_332 ?_
      refine X_lstore (pc := 333) (L' := [(21, .long _), (19, .long _), (18, .int _), (16, .long _), (14, .long _), (12, .long _), (10, .long _), (8, .long _), (6, .long _), (4, .long _), (2, .long _), (0, .ref _), (1, .int _)]) dX10_wideBlock_333 (Nat.le_of_ble_eq_true rfl) rfl ?_
      refine X_lload (pc := 335) 4 dX10_wideBlock_335 rfl ?_
      refine X_lstore (pc := 337) (L' := [(16, .long _), (21, .long _), (19, .long _), (18, .int _), (14, .long _), (12, .long _), (10, .long _), (8, .long _), (6, .long _), (4, .long _), (2, .long _), (0, .ref _), (1, .int _)]) dX10_wideBlock_337 (Nat.le_of_ble_eq_true rfl) rfl ?_
      refine X_lload (pc := 339) 5 dX10_wideBlock_339 rfl ?_
      refine X_lstore (pc := 341) (L' := [(14, .long _), (16, .long _), (21, .long _), (19, .long _), (18, .int _), (12, .long _), (10, .long _), (8, .long _), (6, .long _), (4, .long _), (2, .long _), (0, .ref _), (1, .int _)]) dX10_wideBlock_341 (Nat.le_of_ble_eq_true rfl) rfl ?_
      refine X_lload (pc := 343) 6 dX10_wideBlock_343 rfl ?_
      refine X_lstore (pc := 345) (L' := [(12, .long _), (14, .long _), (16, .long _), (21, .long _), (19, .long _), (18, .int _), (10, .long _), (8, .long _), (6, .long _), (4, .long _), (2, .long _), (0, .ref _), (1, .int _)]) dX10_wideBlock_345 (Nat.le_of_ble_eq_true rfl) rfl ?_
      refine X_lload (pc := 347) 7 dX10_wideBlock_347 rfl ?_
      refine X_lload (pc := 349) 4 dX10_wideBlock_349 rfl ?_
      refine X_ladd (pc := 351) dX10_wideBlock_351 ?_
      refine X_lstore (pc := 352) (L' := [(10, .long _), (12, .long _), (14, .long _), (16, .long _), (21, .long _), (19, .long _), (18, .int _), (8, .long _), (6, .long _), (4, .long _), (2, .long _), (0, .ref _), (1, .int _)]) dX10_wideBlock_352 (Nat.le_of_ble_eq_true rfl) rfl ?_
      refine X_lload (pc := 354) 8 dX10_wideBlock_354 rfl ?_
      refine X_lstore (pc := 356) (L' := [(8, .long _), (10, .long _), (12, .long _), (14, .long _), (16, .long _), (21, .long _), (19, .long _), (18, .int _), (6, .long _), (4, .long _), (2, .long _), (0, .ref _), (1, .int _)]) dX10_wideBlock_356 (Nat.le_of_ble_eq_true rfl) rfl ?_
      refine X_lload (pc := 358) 9 dX10_wideBlock_358 rfl ?_
      refine X_lstore (pc := 360) (L' := [(6, .long _), (8, .long _), (10, .long _), (12, .long _), (14, .long _), (16, .long _), (21, .long _), (19, .long _), (18, .int _), (4, .long _), (2, .long _), (0, .ref _), (1, .int _)]) dX10_wideBlock_360 (Nat.le_of_ble_eq_true rfl) rfl ?_
      refine X_lload_n (pc := 362) 10 dX10_wideBlock_362 rfl rfl ?_
      refine X_lstore (pc := 363) (L' := [(4, .long _), (6, .long _), (8, .long _), (10, .long _), (12, .long _), (14, .long _), (16, .long _), (21, .long _), (19, .long _), (18, .int _), (2, .long _), (0, .ref _), (1, .int _)]) dX10_wideBlock_363 (Nat.le_of_ble_eq_true rfl) rfl ?_
      refine X_lload (pc := 365) 8 dX10_wideBlock_365 rfl ?_
      refine X_lload (pc := 367) 7 dX10_wideBlock_367 rfl ?_
      refine X_ladd (pc := 369) dX10_wideBlock_369 ?_
      refine X_lstore_n (pc := 370) (L' := [(2, .long _), (4, .long _), (6, .long _), (8, .long _), (10, .long _), (12, .long _), (14, .long _), (16, .long _), (21, .long _), (19, .long _), (18, .int _), (0, .ref _), (1, .int _)]) dX10_wideBlock_370 rfl (Nat.le_of_ble_eq_true rfl) rfl ?_
      refine X_iinc (pc := 371) (L' := [(18, .int (_ + 1)), (2, .long _), (4, .long _), (6, .long _), (8, .long _), (10, .long _), (12, .long _), (14, .long _), (16, .long _), (21, .long _), (19, .long _), (0, .ref _), (1, .int _)]) 10 dX10_wideBlock_371 rfl rfl (Nat.le_of_ble_eq_true rfl) rfl ?_
      refine X_goto (pc := 374) 231 dX10_wideBlock_374 (by decide) ?_
      rw [ci, show nI i + 1 = nI (i + 1) from nI_add i 1]
      refine XX.pick (L' := [(18, .int _), (16, .long _), (14, .long _), (12, .long _), (10, .long _), (8, .long _), (6, .long _), (4, .long _), (2, .long _), (0, .ref _), (1, .int _)]) [0, 8, 7, 6, 5, 4, 3, 2, 1, 11, 12] rfl ?_
      exact ih
  exact loop 80 0 (by omega)
end MRw
