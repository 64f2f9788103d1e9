set_option maxRecDepth 100000
/-! VeilMint's keys of the second type: making one -/
section XSi
variable {kd kd' : Nat → KD} {A A' : Nat → Nat} {X : AH} {R : Nat → Nat} {S : Nat → List Int32} {O O' : Nat → AC} {F : Nat → Int32} {h : AH} {B : Nat} {g : GX} {b ci : Nat} {fs : List Value} {Q : Outcome → AH → Prop}
theorem MoK.eq {K p mv : Nat} {ng : Int32} (m : MoK kd A O K p mv ng) (hK : 80 ≤ K) (e : ∀ j, K ≤ j → j < K + 10 → kd' j = kd j ∧ A' j = A j ∧ O' j = O j) : MoK kd' A' O' K p mv ng := by
  have q : ∀ i, i < 10 → kd' (K + i) = kd (K + i) ∧ A' (K + i) = A (K + i) ∧ OS A' O' (K + i) = OS A O (K + i) := fun i hi => by
    have := e (K + i) (by omega) (by omega)
    refine ⟨this.1, this.2.1, ?_⟩
    unfold OS
    rw [if_neg (by omega), if_neg (by omega)]
    exact this.2.2
  obtain ⟨a0, b0, a1, b1, a2, b2, a3, b3, a4, b4, a5, a6, a7, a8, a9, r1, r2, r3, r4, r5, r6⟩ := m
  refine ⟨by rw [show kd' K = kd K from (q 0 (by decide)).1]; exact a0, ?_, by rw [(q 1 (by decide)).1]; exact a1, by rw [(q 1 (by decide)).2.2]; exact b1, by rw [(q 2 (by decide)).1]; exact a2, by rw [(q 2 (by decide)).2.2]; exact b2, by rw [(q 3 (by decide)).1]; exact a3, by rw [(q 3 (by decide)).2.2]; exact b3, by rw [(q 4 (by decide)).1]; exact a4, by rw [(q 4 (by decide)).2.2]; exact b4, by rw [(q 5 (by decide)).1]; exact a5, by rw [(q 6 (by decide)).1]; exact a6, by rw [(q 7 (by decide)).1]; exact a7, by rw [(q 8 (by decide)).1]; exact a8, by rw [(q 9 (by decide)).1]; exact a9, r1, r2, r3, r4, r5, r6⟩
  rw [show OS A' O' K = OS A O K from (q 0 (by decide)).2.2, b0]
  unfold MdC
  dsimp only
  rw [(q 1 (by decide)).2.1, (q 2 (by decide)).2.1, (q 3 (by decide)).2.1, (q 4 (by decide)).2.1, (q 5 (by decide)).2.1, (q 6 (by decide)).2.1, (q 7 (by decide)).2.1, (q 8 (by decide)).2.1, (q 9 (by decide)).2.1]
theorem BY.side (y : BY b ci fs kd A X R S O F h) {a : Nat} (ha : h a = none) (c : AC) : BY b ci fs kd A (hset X a c) R S O F (hset h a c) ∧ X a = none ∧ (∀ k, (kd k).1 ≠ 0 → A k ≠ a) ∧ a ≠ b := by
  have ab : a ≠ b := fun z => by rw [z, y.c] at ha; cases ha
  have w := y.1.fresh ha c
  rw [hset_comm _ _ _ ab.symm] at w
  have hX := y.1.1.noX ha
  rw [hset_ne ab] at hX
  exact ⟨⟨w, by rw [hset_ne ab.symm]; exact y.2.1, y.2.2⟩, hX, y.1.1.apart ha, ab⟩
theorem BY.sideS {a : Nat} {c : AC} (y : BY b ci fs kd A (hset X a c) R S O F h) (ap : ∀ k, (kd k).1 ≠ 0 → A k ≠ a) (ab : a ≠ b) (c' : AC) : BY b ci fs kd A (hset X a c') R S O F (hset h a c') := by
  have w := y.1.1.setX ap c'
  rw [hset_comm _ _ _ ab.symm, hset_hset] at w
  have hX := y.2.1
  rw [hset_ne ab.symm] at hX
  exact ⟨⟨w, y.1.2⟩, by rw [hset_ne ab.symm]; exact hX, y.2.2⟩
theorem BY.sidec {a : Nat} {c : AC} (y : BY b ci fs kd A (hset X a c) R S O F h) (ap : ∀ k, (kd k).1 ≠ 0 → A k ≠ a) (ab : a ≠ b) : h a = some c := by
  rw [y.1.1.2.2 a ap, hset_ne ab, hset_self]
theorem BY.growV (y : BY b ci fs kd A X R S O F h) {q k n : Nat} {f : Nat → Int32} (hq : h q = none) (hk : (kd k).1 = 0) (fk : FreeK F k) :
    ∃ kd' A' R', kd' k = (2, 0, n) ∧ A' k = q ∧ (∀ j, j ≠ k → kd' j = kd j ∧ A' j = A j) ∧ (∀ D kd0 A0 O0, Gw D kd0 A0 O0 kd A O → D k = true → Gw D kd0 A0 O0 kd' A' O) ∧ (R' k = V n f ∧ ∀ j, j ≠ k → R' j = R j) ∧ BY b ci fs kd' A' X R' S O F (hset h q (Ai false 0 n f)) := by
  have e3 : ∀ j, j ≠ k → up kd k ((2, 0, n) : KD) j = kd j ∧ up A k q j = A j := fun j hj => ⟨up_ne hj, up_ne hj⟩
  exact ⟨up kd k (2, 0, n), up A k q, _, up_same _ _ _, up_same _ _ _, e3, fun D kd0 A0 O0 e hD => e.add hD (by show (2 : Nat) ≠ 7; decide), ⟨up_same _ _ _, fun j hj => up_ne hj⟩, y.1.addN2 (f := f) (n := n) hq hk fk, y.2.1, y.ap (c := Ob ci fs) hq e3 (up_same _ _ _)⟩
theorem log_top {b r k : Nat} (hb : 0 < b) (hr : r < 256 ^ k) : Nat.log2 (b * 256 ^ k + r) = 8 * k + Nat.log2 b := by
  have e : (256 : Nat) ^ k = 2 ^ (8 * k) := by rw [show (256 : Nat) = 2 ^ 8 from rfl, ← Nat.pow_mul]
  have hp : 0 < 256 ^ k := Nat.pow_pos (by decide)
  have h1 : 2 ^ Nat.log2 b ≤ b := Nat.log2_self_le (by omega)
  have h2 : b < 2 ^ (Nat.log2 b + 1) := Nat.lt_log2_self
  have n0 : b * 256 ^ k + r ≠ 0 := by have := Nat.mul_pos hb hp; omega
  have l1 : 2 ^ (8 * k + Nat.log2 b) ≤ b * 256 ^ k + r := by
    rw [Nat.add_comm, Nat.pow_add, ← e]
    exact Nat.le_trans (Nat.mul_le_mul_right _ h1) (Nat.le_add_right _ _)
  have l2 : b * 256 ^ k + r < 2 ^ (8 * k + Nat.log2 b + 1) := by
    rw [show 8 * k + Nat.log2 b + 1 = (Nat.log2 b + 1) + 8 * k by omega, Nat.pow_add, ← e]
    have := Nat.mul_le_mul_right (256 ^ k) h2
    rw [Nat.succ_mul] at this
    omega
  have a1 := (Nat.le_log2 n0).mpr l1
  have a2 := (Nat.log2_lt n0).mpr l2
  omega
theorem num_split (T : List Int32) (k : Nat) : num T 0 (k + 1) = b8 (T.getD 0 0) * 256 ^ k + num T 1 k := by
  have e : num T 0 (k + 1) = bsm (fun q => T.getD q 0) (0 + (k + 1)) k + b8 (T.getD (0 + (k + 1) - 1 - k) 0) * 256 ^ k := rfl
  rw [e, show 0 + (k + 1) - 1 - k = 0 by omega, show 0 + (k + 1) = 1 + k by omega, Nat.add_comm]
  rfl
abbrev sgz : List Value := [.null, .int 0, .int 0, .null, .null, .int 0, .int 0, .int 0, .null, .null, .null, .null, .null, .null, .null, .null, .null]
set_option maxHeartbeats 32000000 in
theorem sgInit2 {q1 sz s e d mv : Nat} {T : List Int32} (y0 : BY b 10 [.ref q1, .int 2, .int 1, .ref (A 6), .ref (A 50), .int (nI sz), .int (nI s), .int 0, .null, .null, .null, .null, .null, .null, .null, .null, .null] kd A X R S O F h) (hB : 100 ≤ B) (k1 : kd (B + 1) = (6, 2, 32)) (b1 : A (B + 1) = q1) (fk : ∀ j, B ≤ j → j < B + 100 → j ≠ B + 1 → FreeK F j ∧ (kd j).1 = 0) (gw : Gw (KB B) kd A O kd A O) (hT : S 56 = T) (hBT : IsB T) (hTl : T.length ≤ 1200) (hsz : sz = (T.length - 4) / 2) (h66 : 66 ≤ sz) (h256 : sz ≤ 256) (hev : T.length = 2 * sz + 4) (ht0 : T.getD 0 0 ≠ 0) (hodd : b8 (T.getD (sz - 1) 0) % 2 = 1) (he : e < 2 ^ 20) (hs : s = 0 ∨ (s = 48 ∧ 100 ≤ sz)) (hd : num T (sz + 3) sz = d) (hmv : num T 0 sz = mv)
    (good : ∀ kd' A' O' R' S' h' p ng, Gw (KB B) kd A O kd' A' O' → A' B = b → SgK kd' A' O' B sz s p mv ng 1 → R' (B + 2) = d → R' (B + 9) = e → S' (B + 6) = sub T 0 (sz + 3) → (∀ j, ¬ (B ≤ j ∧ j < B + 100) → R' j = R j) → (∀ j, ¬ (B ≤ j ∧ j < B + 100) → S' j = S j) → XW kd' A' X R' S' O' F h' → (d ≠ 0 ∧ d < mv) → Q (.returned none) h')
    (bad : ∀ kd' A' O' R' S' h', Gw (KB B) kd A O kd' A' O' → (∀ j, ¬ (B ≤ j ∧ j < B + 100) → R' j = R j) → (∀ j, ¬ (B ≤ j ∧ j < B + 100) → S' j = S j) → XW kd' A' X R' S' O' (up F 24 (-2)) h' → ¬ (d ≠ 0 ∧ d < mv) → Q (.threw (A 50)) h') :
    XX g MX15_init ({ frames := 5, cells := 20, slots := 1800, locals := 111 } : Room) Q 1 32 190 [(6, .int 1), (5, .int (nI e)), (0, .ref b), (1, .ref (A 6)), (2, .ref (A 50)), (3, .ref (A 56)), (4, .int (nI T.length))] [] h := by
  obtain ⟨p, hp⟩ : ∃ p, p + 1 = (sz + 3) / 4 := ⟨(sz + 3) / 4 - 1, by omega⟩
  have hp64 : p < 64 := by omega
  have hmt : 256 ^ (sz - 1) ≤ mv := by rw [← hmv]; exact num_top (by omega) hBT ht0
  have hml : mv < 256 ^ sz := by rw [← hmv]; exact num_lt _ _ _
  have hmb : 1 < mv := Nat.lt_of_lt_of_le (Nat.one_lt_pow (by omega) (by decide)) hmt
  have hmo : mv % 2 = 1 := by
    obtain ⟨q, hq⟩ : ∃ q, sz = q + 1 := ⟨sz - 1, by omega⟩
    rw [hq, Nat.add_sub_cancel] at hodd
    rw [← hmv, hq, num_snoc, Nat.zero_add]
    omega
  have hm32 : mv < 2 ^ (32 * (p + 1)) := Nat.lt_of_lt_of_le hml (by rw [show (256 : Nat) = 2 ^ 8 from rfl, ← Nat.pow_mul]; exact Nat.pow_le_pow_right (by decide) (by omega))
  have z0 : ∀ i, i < 100 → i ≠ 1 → FreeK F (B + i) ∧ (kd (B + i)).1 = 0 := fun i hi h1 => fk _ (by omega) (by omega) (by omega)
  refine X_aload_n (pc := 190) 2 dX15_init_190 rfl rfl ?_
  refine X_getfield (pc := 191) dX15_init_191 fg_X15_19_10 (BY.c y0) (by first | rfl | assumption) ?_
  refine X_iconst (pc := 194) (x := 3) dX15_init_194 (by decide) ?_
  refine X_iadd (pc := 195) dX15_init_195 ?_
  rw [show nI sz + 3 = nI (sz + 3) from nI_add sz 3]
  refine X_iconst (pc := 196) (x := 4) dX15_init_196 (by decide) ?_
  refine X_idiv (pc := 197) dX15_init_197 (by decide) ?_
  rw [show nI (sz + 3) / 4 = nI ((sz + 3) / 4) from pk_div (d := 4) (by omega) (by decide) (by decide), ← hp]
  refine X_istore (pc := 198) (L' := [(7, .int _), (6, .int _), (5, .int _), (0, .ref _), (1, .ref _), (2, .ref _), (3, .ref _), (4, .int _)]) dX15_init_198 (Nat.le_of_ble_eq_true rfl) rfl ?_
  refine X_iload (pc := 200) 0 dX15_init_200 rfl ?_
  refine X_new_int (p + 1) (pc := 202) dX15_init_202 rfl (by omega) (by dsimp only; omega) (by dsimp only; omega) (fun am ham => ?_)
  refine XX.wide (k' := 2) (n' := 96) (by omega) (by omega) ?_
  obtain ⟨ya, hXa, apa, hab⟩ := y0.side ham (Ai false 0 (p + 1) fun _ => 0)
  generalize hset h am _ = ha at ya ⊢
  obtain ⟨ft, ct, pt, lt⟩ := y0.1.s 56 (y0.1.k 56 (by decide))
  -- behind the loop
  have tail : ∀ (f : Nat → Int32) (h1 : AH), V (p + 1) f = mv → BY b 10 [.ref q1, .int 2, .int 1, .ref (A 6), .ref (A 50), .int (nI sz), .int (nI s), .int 0, .null, .null, .null, .null, .null, .null, .null, .null, .null] kd A (hset X am (Ai false 0 (p + 1) f)) R S O F h1 →
      XX g MX15_init ({ frames := 5, cells := 20, slots := 1800, locals := 111 } : Room) Q 2 96 264 [(9, .int (nI sz)), (8, .ref am), (7, .int (nI (p + 1))), (6, .int 1), (5, .int (nI e)), (0, .ref b), (1, .ref (A 6)), (2, .ref (A 50)), (3, .ref (A 56)), (4, .int (nI T.length))] [] h1 := by
    intro f h1 hVf y1
    have hcm := y1.sidec apa hab
    refine X_aload_n (pc := 264) 5 dX15_init_264 rfl rfl ?_
    refine X_new tyX6 (ci := 4) (fs := [.int 0, .null, .null, .null, .null, .null, .null, .null, .null, .null, .int 0]) (pc := 265) dX15_init_265 rfl in_X6 tyX6_ok q749 q196 q103 dfX6 (Nat.le_of_ble_eq_true rfl) (Nat.le_of_ble_eq_true rfl) (fun q0 hq0 => ?_)
    have hcm2 : hset h1 q0 (Ob 4 [.int 0, .null, .null, .null, .null, .null, .null, .null, .null, .null, .int 0]) am = some (Ai false 0 (p + 1) f) := by rw [hset_ne (fun z => by rw [← z, hcm] at hq0; cases hq0)]; exact hcm
    refine X_dup (pc := 268) dX15_init_268 rfl ?_
    refine X_aload (pc := 269) 1 dX15_init_269 rfl ?_
    refine X_ipv (pc := 271) _ dX15_init_271 ci_X15_35 rfl (modulusInit_ok (g := g) (mv := mv) (hset_self _ _ _) hcm2 hVf hmo hmb hp64) nX6_init (Nat.le_of_ble_eq_true rfl) (Nat.le_of_ble_eq_true rfl) (Nat.le_of_ble_eq_true rfl) (Nat.le_of_ble_eq_true rfl) (fun h2 q2 => ?_)
    obtain ⟨c, ng, m1, m2, m3, m4, m5, m6, m7, m8, m9, m10, m11⟩ := q2
    obtain ⟨kdM, AM, OM, mo, aM, nM, gM, yM⟩ := y1.growM hXa apa hab (K := B + 10) (by omega) (fun j h1 h2 => fk j (by omega) (by omega) (by omega)) hq0 m1 m2 m3 m4 m5 m6 m7 m8 m9 m10 m11 hmo hmb hm32 hp64
    have GM := gM (KB B) kd A O gw (fun j h1 h2 => KB_t (by omega))
    refine X_putfield (pc := 274) dX15_init_274 fp_X15_38_10 (fun _ => rfl) (BY.c yM) rfl rfl (Nat.le_of_ble_eq_true rfl) ?_
    have yM := yM.put' 8 (.ref q0)
    generalize hset h2 b _ = hM at yM ⊢
    refine X_aload_n (pc := 277) 5 dX15_init_277 rfl rfl ?_
    refine X_iconst (pc := 278) (x := 1) dX15_init_278 (by decide) ?_
    refine X_new_int (1) (pc := 279) dX15_init_279 rfl (by decide) (Nat.le_of_ble_eq_true rfl) (Nat.le_of_ble_eq_true rfl) (fun q9 hq9 => ?_)
    have hq9' : hset hM q9 (Ai false 0 1 fun _ => 0) q9 = some (Ai false 0 1 fun _ => 0) := hset_self _ _ _
    refine X_dup (pc := 281) dX15_init_281 rfl ?_
    refine X_iconst (pc := 282) (x := 0) dX15_init_282 (by decide) ?_
    refine X_iload (pc := 283) 4 dX15_init_283 rfl ?_
    refine X_iastore (pc := 285) dX15_init_285 hq9' (vp_in_nI (n := 0) (by decide) (by decide)) ?_
    rw [show ((0 : Int32).toNatClampNeg) = 0 from rfl, hset_hset]
    obtain ⟨kd9, A9, R9, e9, a9, n9, g9, s9, y9⟩ := yM.growV (k := B + 9) (n := 1) (f := upd (fun _ => 0) 0 (nI e)) hq9 (by rw [(nM _ (by omega)).1]; exact (z0 9 (by decide) (by decide)).2) (z0 9 (by decide) (by decide)).1
    have G9 := g9 (KB B) kd A O GM (KB_t (by omega))
    refine X_putfield (pc := 286) dX15_init_286 fp_X15_42_10 (fun _ => rfl) (BY.c y9) rfl rfl (Nat.le_of_ble_eq_true rfl) ?_
    have y9 := y9.put' 9 (.ref q9)
    generalize hset (hset hM q9 _) b _ = h9 at y9 ⊢
    have v9 : R9 (B + 9) = e := by
      rw [s9.1]
      show 0 + u32 (nI e) * 2 ^ (32 * 0) = e
      rw [show u32 (nI e) = e from pk_tn (by omega)]
      omega
    refine X_aload_n (pc := 289) 5 dX15_init_289 rfl rfl ?_
    refine X_iload (pc := 290) 2 dX15_init_290 rfl ?_
    refine X_new_int (p + 1) (pc := 292) dX15_init_292 rfl (by omega) (by dsimp only; omega) (by dsimp only; omega) (fun q2 hq2 => ?_)
    obtain ⟨kd2, A2, R2, e2, a2, n2, g2, s2, y2⟩ := y9.growN (k := B + 2) (p + 1) hq2 (by rw [(n9 _ (by omega)).1, (nM _ (by omega)).1]; exact (z0 2 (by decide) (by decide)).2) (z0 2 (by decide) (by decide)).1
    have G2 := g2 (KB B) kd A O G9 (KB_t (by omega))
    refine X_putfield (pc := 294) dX15_init_294 fp_X15_46_10 (fun _ => rfl) (BY.c y2) rfl rfl (Nat.le_of_ble_eq_true rfl) ?_
    have y2 := y2.put' 10 (.ref q2)
    generalize hset (hset h9 q2 _) b _ = h2' at y2 ⊢
    have mo2 : MoK kd2 A2 OM (B + 10) p mv ng := mo.eq (by omega) fun j h1 h2 => ⟨by rw [(n2 j (by omega)).1, (n9 j (by omega)).1], by rw [(n2 j (by omega)).2, (n9 j (by omega)).2], rfl⟩
    have aM2 : A2 (B + 10) = q0 := by rw [(n2 _ (by omega)).2, (n9 _ (by omega)).2]; exact aM
    have g56 : A2 56 = A 56 := (G2.1 56 (KB_f (by omega))).2.1
    have g50 : A2 50 = A 50 := (G2.1 50 (KB_f (by omega))).2.1
    have rd := xreadW g y2.1 mo2 (B + 2) e2 (kb := 56) (nb := 1200) (fr := sz + 3) (many := sz) (y2.1.k 56 (by decide)) (by decide) (by rw [hT]; omega) (by omega)
    rw [hT, hd, aM2, g56, a2] at rd
    refine XX.wide (k' := 13) (n' := 700) (by dsimp only; omega) (by dsimp only; omega) ?_
    refine X_aload_n (pc := 297) 5 dX15_init_297 rfl rfl ?_
    refine X_getfield (pc := 298) dX15_init_298 fg_X15_38_10 (BY.c y2) (by first | rfl | assumption) ?_
    refine X_aload_n (pc := 301) 8 dX15_init_301 rfl rfl ?_
    refine X_aload_n (pc := 302) 5 dX15_init_302 rfl rfl ?_
    refine X_getfield (pc := 303) dX15_init_303 fg_X15_19_10 (BY.c y2) (by first | rfl | assumption) ?_
    refine X_iconst (pc := 306) (x := 3) dX15_init_306 (by decide) ?_
    refine X_iadd (pc := 307) dX15_init_307 ?_
    rw [show nI sz + 3 = nI (sz + 3) from nI_add sz 3]
    refine X_aload_n (pc := 308) 5 dX15_init_308 rfl rfl ?_
    refine X_getfield (pc := 309) dX15_init_309 fg_X15_19_10 (BY.c y2) (by first | rfl | assumption) ?_
    refine X_aload_n (pc := 312) 5 dX15_init_312 rfl rfl ?_
    refine X_getfield (pc := 313) dX15_init_313 fg_X15_46_10 (BY.c y2) (by first | rfl | assumption) ?_
    refine X_ivi (pc := 316) _ dX15_init_316 cv_X15_49_4 (by have := MoK.ob mo2 y2.1; rw [aM2] at this; exact this) rfl (rd) nX6_read (Nat.le_of_ble_eq_true rfl) (Nat.le_of_ble_eq_true rfl) (Nat.le_of_ble_eq_true rfl) (Nat.le_of_ble_eq_true rfl) (fun r3 h3 q3 => ?_)
    obtain ⟨er3, q3⟩ := q3
    obtain ⟨R3, x3, o3, w3⟩ := XW.ab q3
    have y3 : BY b 10 _ kd2 A2 X R3 S OM F h3 := ⟨w3, y2.2⟩
    have fR3 : ∀ j, ¬ (B ≤ j ∧ j < B + 100) → R3 j = R j := fun j hj => by rw [o3 j (by omega), s2.2 j (by omega), s9.2 j (by omega)]
    -- the secret is no good
    have no : ∀ (k n : Nat), k ≤ 20 → n ≤ 1800 → ¬ (d ≠ 0 ∧ d < mv) → XX g MX15_init ({ frames := 5, cells := 20, slots := 1800, locals := 111 } : Room) Q k n 332 [(9, .int (nI sz)), (8, .ref am), (7, .int (nI (p + 1))), (6, .int 1), (5, .int (nI e)), (0, .ref b), (1, .ref (A 6)), (2, .ref (A 50)), (3, .ref (A 56)), (4, .int (nI T.length))] [] h3 := by
      intro k n hk hn nd
      obtain ⟨kd4, A4, O4, eB, aB, oB, nB, gB, w4⟩ := y3.take (k := B) (by rw [(n2 _ (by omega)).1, (n9 _ (by omega)).1, (nM _ (by omega)).1]; exact (z0 0 (by decide) (by decide)).2) (z0 0 (by decide) (by decide)).1
      have G4 := gB (KB B) kd A O G2 (KB_t (by omega))
      have g50 : A4 50 = A 50 := (G4.1 50 (KB_f (by omega))).2.1
      have ao := as_ok g w4 (-2)
      rw [g50] at ao
      refine X_aload_n (pc := 332) 7 dX15_init_332 rfl rfl ?_
      refine X_bipush (pc := 333) (x := (-2)) dX15_init_333 (by decide) ?_
      refine X_ivr (pc := 335) _ dX15_init_335 cv_X15_27_6 (by have := XW.rf w4; rw [g50] at this; exact this) rfl (ao) nX8_as (Nat.le_of_ble_eq_true rfl) (Nat.le_of_ble_eq_true rfl) (by dsimp only; omega) (by dsimp only; omega) (fun r5 h5 q5 => ?_)
      obtain ⟨rfl, w5⟩ := q5
      refine X_athrow (pc := 338) dX15_init_338 rfl (by dsimp only; omega) (by dsimp only; omega) ?_
      exact bad kd4 A4 O4 R3 S _ G4 fR3 (fun _ _ => rfl) w5 nd
    by_cases cd : d < mv
    · rw [if_pos cd] at er3
      subst er3
      refine X_if_eq (pc := 319) 332 dX15_init_319 (by decide) (fun z => absurd z (by decide)) (fun _ => ?_)
      have op3 := OpX.n2 y3.1 (B + 2) e2
      rw [x3, a2] at op3
      refine X_aload_n (pc := 322) 5 dX15_init_322 rfl rfl ?_
      refine X_getfield (pc := 323) dX15_init_323 fg_X15_46_10 (BY.c y3) (by first | rfl | assumption) ?_
      refine X_isi (pc := 326) _ dX15_init_326 cs_X15_53 rfl (xzeroW g op3 (by omega)) nX6_isZero (Nat.le_of_ble_eq_true rfl) (Nat.le_of_ble_eq_true rfl) (Nat.le_of_ble_eq_true rfl) (Nat.le_of_ble_eq_true rfl) (fun r4 h4 q4 => ?_)
      obtain ⟨er4, rfl⟩ := q4
      by_cases cz : d = 0
      · rw [if_pos cz] at er4
        subst er4
        refine X_if_eq (pc := 329) 339 dX15_init_329 (by decide) (fun z => absurd z (by decide)) (fun _ => ?_)
        exact no _ _ (by decide) (by decide) (fun z => z.1 cz)
      · rw [if_neg cz] at er4
        subst er4
        refine X_if_eq (pc := 329) 339 dX15_init_329 (by decide) (fun _ => ?_) (fun z => absurd rfl z)
        refine X_aload_n (pc := 339) 5 dX15_init_339 rfl rfl ?_
        refine X_iload (pc := 340) 2 dX15_init_340 rfl ?_
        refine X_new_int (p + 1) (pc := 342) dX15_init_342 rfl (by omega) (by dsimp only; omega) (by dsimp only; omega) (fun qx hqx => ?_)
        obtain ⟨kdx, Ax, Rx, ex, ax, nx, gx, sx, yx⟩ := y3.growN (k := B + 3) (p + 1) hqx (by rw [(n2 _ (by omega)).1, (n9 _ (by omega)).1, (nM _ (by omega)).1]; exact (z0 3 (by decide) (by decide)).2) (z0 3 (by decide) (by decide)).1
        have Gx := gx (KB B) kd A O G2 (KB_t (by omega))
        refine X_putfield (pc := 344) dX15_init_344 fp_X15_57_10 (fun _ => rfl) (BY.c yx) rfl rfl (Nat.le_of_ble_eq_true rfl) ?_
        have yx := yx.put' 11 (.ref qx)
        generalize hset (hset h4 qx _) b _ = hx at yx ⊢
        refine X_aload_n (pc := 347) 5 dX15_init_347 rfl rfl ?_
        refine X_iload (pc := 348) 2 dX15_init_348 rfl ?_
        refine X_new_int (p + 1) (pc := 350) dX15_init_350 rfl (by omega) (by dsimp only; omega) (by dsimp only; omega) (fun qu hqu => ?_)
        obtain ⟨kdu, Au, Ru, eu, au, nu, gu, su, yu⟩ := yx.growN (k := B + 4) (p + 1) hqu (by rw [(nx _ (by omega)).1, (n2 _ (by omega)).1, (n9 _ (by omega)).1, (nM _ (by omega)).1]; exact (z0 4 (by decide) (by decide)).2) (z0 4 (by decide) (by decide)).1
        have Gu := gu (KB B) kd A O Gx (KB_t (by omega))
        refine X_putfield (pc := 352) dX15_init_352 fp_X15_60_10 (fun _ => rfl) (BY.c yu) rfl rfl (Nat.le_of_ble_eq_true rfl) ?_
        have yu := yu.put' 12 (.ref qu)
        generalize hset (hset hx qu _) b _ = hu at yu ⊢
        refine X_aload_n (pc := 355) 5 dX15_init_355 rfl rfl ?_
        refine X_iload (pc := 356) 2 dX15_init_356 rfl ?_
        refine X_new_int (p + 1) (pc := 358) dX15_init_358 rfl (by omega) (by dsimp only; omega) (by dsimp only; omega) (fun qv hqv => ?_)
        obtain ⟨kdv, Av, Rv, ev, av, nv, gv, sv, yv⟩ := yu.growN (k := B + 5) (p + 1) hqv (by rw [(nu _ (by omega)).1, (nx _ (by omega)).1, (n2 _ (by omega)).1, (n9 _ (by omega)).1, (nM _ (by omega)).1]; exact (z0 5 (by decide) (by decide)).2) (z0 5 (by decide) (by decide)).1
        have Gv := gv (KB B) kd A O Gu (KB_t (by omega))
        refine X_putfield (pc := 360) dX15_init_360 fp_X15_63_10 (fun _ => rfl) (BY.c yv) rfl rfl (Nat.le_of_ble_eq_true rfl) ?_
        have yv := yv.put' 13 (.ref qv)
        generalize hset (hset hu qv _) b _ = hv at yv ⊢
        refine X_aload_n (pc := 363) 5 dX15_init_363 rfl rfl ?_
        refine X_aload_n (pc := 364) 5 dX15_init_364 rfl rfl ?_
        refine X_getfield (pc := 365) dX15_init_365 fg_X15_19_10 (BY.c yv) (by first | rfl | assumption) ?_
        refine X_iconst (pc := 368) (x := 3) dX15_init_368 (by decide) ?_
        refine X_iadd (pc := 369) dX15_init_369 ?_
        rw [show nI sz + 3 = nI (sz + 3) from nI_add sz 3]
        refine X_new_byte (sz + 3) (pc := 370) dX15_init_370 rfl (by omega) (by dsimp only; omega) (by dsimp only; omega) (fun qs hqs => ?_)
        obtain ⟨kds, As, Ss, es, as, ns, gs, ss, ys⟩ := yv.growS (k := B + 6) (sz + 3) hqs (by rw [(nv _ (by omega)).1, (nu _ (by omega)).1, (nx _ (by omega)).1, (n2 _ (by omega)).1, (n9 _ (by omega)).1, (nM _ (by omega)).1]; exact (z0 6 (by decide) (by decide)).2) (z0 6 (by decide) (by decide)).1
        have Gs := gs (KB B) kd A O Gv (KB_t (by omega))
        refine X_putfield (pc := 372) dX15_init_372 fp_X15_66_10 (fun _ => rfl) (BY.c ys) rfl rfl (Nat.le_of_ble_eq_true rfl) ?_
        have ys := ys.put' 14 (.ref qs)
        generalize hset (hset hv qs _) b _ = hs' at ys ⊢
        have gs56 : As 56 = A 56 := (Gs.1 56 (KB_f (by omega))).2.1
        have es56 : Ss 56 = T := by rw [ss.2 56 (by omega)]; exact hT
        obtain ⟨f5, c5, p5, -⟩ := ys.1.s 56 (ys.1.k 56 (by decide))
        obtain ⟨f6, c6, p6, -⟩ := ys.1.s (B + 6) es
        rw [gs56] at c5
        have c6' := c6
        rw [as] at c6'
        refine X_aload_n (pc := 375) 8 dX15_init_375 rfl rfl ?_
        refine X_iconst (pc := 376) (x := 0) dX15_init_376 (by decide) ?_
        refine X_aload_n (pc := 377) 5 dX15_init_377 rfl rfl ?_
        refine X_getfield (pc := 378) dX15_init_378 fg_X15_66_10 (BY.c ys) (by first | rfl | assumption) ?_
        refine X_iconst (pc := 381) (x := 0) dX15_init_381 (by decide) ?_
        refine X_aload_n (pc := 382) 5 dX15_init_382 rfl rfl ?_
        refine X_getfield (pc := 383) dX15_init_383 fg_X15_19_10 (BY.c ys) (by first | rfl | assumption) ?_
        refine X_iconst (pc := 386) (x := 3) dX15_init_386 (by decide) ?_
        refine X_iadd (pc := 387) dX15_init_387 ?_
        rw [show nI sz + 3 = nI (sz + 3) from nI_add sz 3]
        refine X_copyI (pc := 388) (0) (0) (sz + 3) dX15_init_388 q753 (Or.inr rfl) c5 c6' rfl rfl rfl (by omega) (by omega) ⟨by omega, by omega⟩ (Nat.le_of_ble_eq_true rfl) (Nat.le_of_ble_eq_true rfl) ?_
        have wt := ys.1.cpy (ks := 56) (ns := 1200) (sN := 0) (dN := 0) (n := sz + 3) es p5 p6 (Nat.zero_le _) (by rw [es56]; omega) (by omega)
        rw [List.take_zero, List.nil_append, es56, as] at wt
        have yt : BY b 10 _ kds As X Rv (up Ss (B + 6) (sub T 0 (sz + 3))) OM F _ := ⟨wt, ys.2⟩
        generalize hset hs' qs _ = ht at yt ⊢
        refine X_aload_n (pc := 391) 5 dX15_init_391 rfl rfl ?_
        refine X_aload_n (pc := 392) 5 dX15_init_392 rfl rfl ?_
        refine X_getfield (pc := 393) dX15_init_393 fg_X15_19_10 (BY.c yt) (by first | rfl | assumption) ?_
        refine X_new_byte (sz) (pc := 396) dX15_init_396 rfl (by omega) (by dsimp only; omega) (by dsimp only; omega) (fun qc hqc => ?_)
        obtain ⟨kdc, Ac, Sc, ec, ac, nc, gc, sc, yc⟩ := yt.growS (k := B + 7) sz hqc (by rw [(ns _ (by omega)).1, (nv _ (by omega)).1, (nu _ (by omega)).1, (nx _ (by omega)).1, (n2 _ (by omega)).1, (n9 _ (by omega)).1, (nM _ (by omega)).1]; exact (z0 7 (by decide) (by decide)).2) (z0 7 (by decide) (by decide)).1
        have Gc := gc (KB B) kd A O Gs (KB_t (by omega))
        refine X_putfield (pc := 398) dX15_init_398 fp_X15_76_10 (fun _ => rfl) (BY.c yc) rfl rfl (Nat.le_of_ble_eq_true rfl) ?_
        have yc := yc.put' 15 (.ref qc)
        generalize hset (hset ht qc _) b _ = hc at yc ⊢
        refine X_aload_n (pc := 401) 5 dX15_init_401 rfl rfl ?_
        refine X_aload_n (pc := 402) 5 dX15_init_402 rfl rfl ?_
        refine X_getfield (pc := 403) dX15_init_403 fg_X15_19_10 (BY.c yc) (by first | rfl | assumption) ?_
        refine X_new_byte (sz) (pc := 406) dX15_init_406 rfl (by omega) (by dsimp only; omega) (by dsimp only; omega) (fun qk hqk => ?_)
        obtain ⟨kdk, Ak, Sk, ek, ak, nk, gk, sk, yk⟩ := yc.growS (k := B + 8) sz hqk (by rw [(nc _ (by omega)).1, (ns _ (by omega)).1, (nv _ (by omega)).1, (nu _ (by omega)).1, (nx _ (by omega)).1, (n2 _ (by omega)).1, (n9 _ (by omega)).1, (nM _ (by omega)).1]; exact (z0 8 (by decide) (by decide)).2) (z0 8 (by decide) (by decide)).1
        have Gk := gk (KB B) kd A O Gc (KB_t (by omega))
        refine X_putfield (pc := 408) dX15_init_408 fp_X15_79_10 (fun _ => rfl) (BY.c yk) rfl rfl (Nat.le_of_ble_eq_true rfl) ?_
        have yk := yk.put' 16 (.ref qk)
        generalize hset (hset hc qk _) b _ = hk at yk ⊢
        have gk56 : Ak 56 = A 56 := (Gk.1 56 (KB_f (by omega))).2.1
        have ek56 : Sk 56 = T := by rw [sk.2 56 (by omega), sc.2 56 (by omega), up_ne (by omega)]; exact es56
        obtain ⟨f7, c7, p7, -⟩ := yk.1.s 56 (yk.1.k 56 (by decide))
        rw [gk56] at c7
        rw [ek56] at p7
        have hb0 : 0 < b8 (T.getD 0 0) := b8_0 (hBT.at' 0) ht0
        have hb1 : b8 (T.getD 0 0) < 256 := Nat.mod_lt _ (by decide)
        refine X_aload_n (pc := 411) 5 dX15_init_411 rfl rfl ?_
        refine X_bipush (pc := 412) (x := 8) dX15_init_412 (by decide) ?_
        refine X_aload_n (pc := 414) 5 dX15_init_414 rfl rfl ?_
        refine X_getfield (pc := 415) dX15_init_415 fg_X15_19_10 (BY.c yk) (by first | rfl | assumption) ?_
        refine X_imul (pc := 418) dX15_init_418 ?_
        rw [show (8 : Int32) * nI sz = nI (8 * sz) from pk_mul 8 sz]
        refine X_aload_n (pc := 419) 8 dX15_init_419 rfl rfl ?_
        refine X_iconst (pc := 420) (x := 0) dX15_init_420 (by decide) ?_
        refine X_baload (pc := 421) dX15_init_421 c7 (vp_in_nI (n := 0) (by decide) (by decide)) ?_
        refine X_sipush (pc := 422) (x := 255) dX15_init_422 (by decide) ?_
        refine X_iand (pc := 425) dX15_init_425 ?_
        rw [show ((0 : Int32).toNatClampNeg) = 0 from rfl, p7 0 (by omega), and255b]
        refine X_isi (pc := 426) _ dX15_init_426 cs_X15_82 rfl (nlz_ok g hk hb0 (by omega)) nJ4_numberOfLeadingZeros (Nat.le_of_ble_eq_true rfl) (Nat.le_of_ble_eq_true rfl) (by dsimp only; omega) (by dsimp only; omega) (fun r8 h8 q8 => ?_)
        obtain ⟨rfl, sn, hsn, rfl, hn1, hn2⟩ := q8
        have hlog : Nat.log2 (b8 (T.getD 0 0)) = 31 - sn := by
          have e1 : (2 : Nat) ^ 31 = 2 ^ (31 - sn) * 2 ^ sn := by rw [← Nat.pow_add]; congr 1; omega
          have e2 : (2 : Nat) ^ 32 = 2 ^ (32 - sn) * 2 ^ sn := by rw [← Nat.pow_add]; congr 1; omega
          rw [e1] at hn1
          rw [e2] at hn2
          have l1 := Nat.le_of_mul_le_mul_right hn1 (Nat.two_pow_pos sn)
          have l2 := Nat.lt_of_mul_lt_mul_right hn2
          have a1 := (Nat.le_log2 (show b8 (T.getD 0 0) ≠ 0 by omega)).mpr l1
          have a2 := (Nat.log2_lt (show b8 (T.getD 0 0) ≠ 0 by omega)).mpr l2
          omega
        have hbits : bitsN mv - 1 = 8 * sz - sn + 23 := by
          obtain ⟨q, hq⟩ : ∃ q, sz = q + 1 := ⟨sz - 1, by omega⟩
          have : Nat.log2 mv = 8 * q + Nat.log2 (b8 (T.getD 0 0)) := by rw [← hmv, hq, num_split]; exact log_top hb0 (num_lt _ _ _)
          unfold bitsN
          omega
        refine X_isub (pc := 429) dX15_init_429 ?_
        rw [pk_sub (show sn ≤ 8 * sz by omega)]
        refine X_bipush (pc := 430) (x := 24) dX15_init_430 (by decide) ?_
        refine X_iadd (pc := 432) dX15_init_432 ?_
        rw [show nI (8 * sz - sn) + 24 = nI (8 * sz - sn + 24) from nI_add _ 24]
        refine X_iconst (pc := 433) (x := 1) dX15_init_433 (by decide) ?_
        refine X_isub (pc := 434) dX15_init_434 ?_
        rw [show nI (8 * sz - sn + 24) - 1 = nI (8 * sz - sn + 23) from nI_pred _, ← hbits]
        refine X_putfield (pc := 435) dX15_init_435 fp_X15_88_10 (fun _ => rfl) (BY.c yk) rfl rfl (Nat.le_of_ble_eq_true rfl) ?_
        have yk := yk.put' 7 (.int (nI (bitsN mv - 1)))
        generalize hset h8 b _ = hl at yk ⊢
        obtain ⟨kdl, Al, Ol, eB, aB, oB, nB, gB, w⟩ := yk.take (k := B) (by rw [(nk _ (by omega)).1, (nc _ (by omega)).1, (ns _ (by omega)).1, (nv _ (by omega)).1, (nu _ (by omega)).1, (nx _ (by omega)).1, (n2 _ (by omega)).1, (n9 _ (by omega)).1, (nM _ (by omega)).1]; exact (z0 0 (by decide) (by decide)).2) (z0 0 (by decide) (by decide)).1
        have G := gB (KB B) kd A O Gk (KB_t (by omega))
        have kk9 : kdl (B + 9) = (2, 0, 1) := by rw [(nB _ (by omega)).1, (nk _ (by omega)).1, (nc _ (by omega)).1, (ns _ (by omega)).1, (nv _ (by omega)).1, (nu _ (by omega)).1, (nx _ (by omega)).1, (n2 _ (by omega)).1]; exact e9
        have aa9 : Al (B + 9) = q9 := by rw [(nB _ (by omega)).2.1, (nk _ (by omega)).2, (nc _ (by omega)).2, (ns _ (by omega)).2, (nv _ (by omega)).2, (nu _ (by omega)).2, (nx _ (by omega)).2, (n2 _ (by omega)).2]; exact a9
        have kk2 : kdl (B + 2) = (2, 0, p + 1) := by rw [(nB _ (by omega)).1, (nk _ (by omega)).1, (nc _ (by omega)).1, (ns _ (by omega)).1, (nv _ (by omega)).1, (nu _ (by omega)).1, (nx _ (by omega)).1]; exact e2
        have aa2 : Al (B + 2) = q2 := by rw [(nB _ (by omega)).2.1, (nk _ (by omega)).2, (nc _ (by omega)).2, (ns _ (by omega)).2, (nv _ (by omega)).2, (nu _ (by omega)).2, (nx _ (by omega)).2]; exact a2
        have kk3 : kdl (B + 3) = (2, 0, p + 1) := by rw [(nB _ (by omega)).1, (nk _ (by omega)).1, (nc _ (by omega)).1, (ns _ (by omega)).1, (nv _ (by omega)).1, (nu _ (by omega)).1]; exact ex
        have aa3 : Al (B + 3) = qx := by rw [(nB _ (by omega)).2.1, (nk _ (by omega)).2, (nc _ (by omega)).2, (ns _ (by omega)).2, (nv _ (by omega)).2, (nu _ (by omega)).2]; exact ax
        have kk4 : kdl (B + 4) = (2, 0, p + 1) := by rw [(nB _ (by omega)).1, (nk _ (by omega)).1, (nc _ (by omega)).1, (ns _ (by omega)).1, (nv _ (by omega)).1]; exact eu
        have aa4 : Al (B + 4) = qu := by rw [(nB _ (by omega)).2.1, (nk _ (by omega)).2, (nc _ (by omega)).2, (ns _ (by omega)).2, (nv _ (by omega)).2]; exact au
        have kk5 : kdl (B + 5) = (2, 0, p + 1) := by rw [(nB _ (by omega)).1, (nk _ (by omega)).1, (nc _ (by omega)).1, (ns _ (by omega)).1]; exact ev
        have aa5 : Al (B + 5) = qv := by rw [(nB _ (by omega)).2.1, (nk _ (by omega)).2, (nc _ (by omega)).2, (ns _ (by omega)).2]; exact av
        have kk6 : kdl (B + 6) = (6, 2, sz + 3) := by rw [(nB _ (by omega)).1, (nk _ (by omega)).1, (nc _ (by omega)).1]; exact es
        have aa6 : Al (B + 6) = qs := by rw [(nB _ (by omega)).2.1, (nk _ (by omega)).2, (nc _ (by omega)).2]; exact as
        have kk7 : kdl (B + 7) = (6, 2, sz) := by rw [(nB _ (by omega)).1, (nk _ (by omega)).1]; exact ec
        have aa7 : Al (B + 7) = qc := by rw [(nB _ (by omega)).2.1, (nk _ (by omega)).2]; exact ac
        have kk8 : kdl (B + 8) = (6, 2, sz) := by rw [(nB _ (by omega)).1]; exact ek
        have aa8 : Al (B + 8) = qk := by rw [(nB _ (by omega)).2.1]; exact ak
        have aa10 : Al (B + 10) = q0 := by rw [(nB _ (by omega)).2.1, (nk _ (by omega)).2, (nc _ (by omega)).2, (ns _ (by omega)).2, (nv _ (by omega)).2, (nu _ (by omega)).2, (nx _ (by omega)).2, (n2 _ (by omega)).2, (n9 _ (by omega)).2]; exact aM
        have kk1 : kdl (B + 1) = (6, 2, 32) := by rw [(nB _ (by omega)).1, (nk _ (by omega)).1, (nc _ (by omega)).1, (ns _ (by omega)).1, (nv _ (by omega)).1, (nu _ (by omega)).1, (nx _ (by omega)).1, (n2 _ (by omega)).1, (n9 _ (by omega)).1, (nM _ (by omega)).1]; exact k1
        have aa1 : Al (B + 1) = q1 := by rw [(nB _ (by omega)).2.1, (nk _ (by omega)).2, (nc _ (by omega)).2, (ns _ (by omega)).2, (nv _ (by omega)).2, (nu _ (by omega)).2, (nx _ (by omega)).2, (n2 _ (by omega)).2, (n9 _ (by omega)).2, (nM _ (by omega)).2.1]; exact b1
        have mol : MoK kdl Al Ol (B + 10) p mv ng := mo.eq (by omega) fun j h1 h2 => ⟨by rw [(nB j (by omega)).1, (nk j (by omega)).1, (nc j (by omega)).1, (ns j (by omega)).1, (nv j (by omega)).1, (nu j (by omega)).1, (nx j (by omega)).1, (n2 j (by omega)).1, (n9 j (by omega)).1], by rw [(nB j (by omega)).2.1, (nk j (by omega)).2, (nc j (by omega)).2, (ns j (by omega)).2, (nv j (by omega)).2, (nu j (by omega)).2, (nx j (by omega)).2, (n2 j (by omega)).2, (n9 j (by omega)).2], by rw [(nB j (by omega)).2.2]⟩
        have g6 := (G.1 6 (KB_f (by omega))).2.1
        have g50 := (G.1 50 (KB_f (by omega))).2.1
        have sg : SgK kdl Al Ol B sz s p mv ng 1 := ⟨⟨hB, eB, ?_⟩, kk1, kk2, kk3, kk4, kk5, kk6, kk7, kk8, kk9, mol, h66, h256, hp, hmt, hml, hs⟩
        rotate_left
        · rw [oB]
          unfold sgFl
          rw [aa1, g6, g50, aa10, aa9, aa2, aa3, aa4, aa5, aa6, aa7, aa8]
          rfl
        refine XX.wide (k' := 20) (n' := 1800) (by dsimp only; omega) (by dsimp only; omega) ?_
        refine X_return (pc := 438) dX15_init_438 rfl (Nat.le_of_ble_eq_true rfl) (Nat.le_of_ble_eq_true rfl) ?_
        refine good kdl Al Ol Rv Sk _ p ng G aB sg ?_ ?_ ?_ (fun j hj => ?_) (fun j hj => ?_) w ⟨cz, cd⟩
        · rw [sv.2 _ (by omega), su.2 _ (by omega), sx.2 _ (by omega)]; exact x3
        · rw [sv.2 _ (by omega), su.2 _ (by omega), sx.2 _ (by omega), o3 _ (by omega), s2.2 _ (by omega)]; exact v9
        · rw [sk.2 _ (by omega), sc.2 _ (by omega), up_same]
        · rw [sv.2 _ (by omega), su.2 _ (by omega), sx.2 _ (by omega)]; exact fR3 j hj
        · rw [sk.2 _ (by omega), sc.2 _ (by omega), up_ne (by omega), ss.2 _ (by omega)]
    · rw [if_neg cd] at er3
      subst er3
      refine X_if_eq (pc := 319) 332 dX15_init_319 (by decide) (fun _ => ?_) (fun z => absurd rfl z)
      exact no _ _ (by decide) (by decide) (fun z => cd z.2)
  have loop : ∀ m i, i + m = sz → ∀ (f : Nat → Int32) (h1 : AH), V (p + 1) f = num T 0 i * 256 ^ m → BY b 10 [.ref q1, .int 2, .int 1, .ref (A 6), .ref (A 50), .int (nI sz), .int (nI s), .int 0, .null, .null, .null, .null, .null, .null, .null, .null, .null] kd A (hset X am (Ai false 0 (p + 1) f)) R S O F h1 →
      XX g MX15_init ({ frames := 5, cells := 20, slots := 1800, locals := 111 } : Room) Q 2 96 209 [(9, .int (nI i)), (8, .ref am), (7, .int (nI (p + 1))), (6, .int 1), (5, .int (nI e)), (0, .ref b), (1, .ref (A 6)), (2, .ref (A 50)), (3, .ref (A 56)), (4, .int (nI T.length))] [] h1 := by
    intro m
    induction m with
    | zero =>
      intro i hi f h1 hv y1
      have e : i = sz := by omega
      subst e
      refine X_iload (pc := 209) 0 dX15_init_209 rfl ?_
      refine X_aload_n (pc := 211) 5 dX15_init_211 rfl rfl ?_
      refine X_getfield (pc := 212) dX15_init_212 fg_X15_19_10 (BY.c y1) (by first | rfl | assumption) ?_
      refine X_cge (pc := 215) 264 dX15_init_215 (by decide) (by omega) (by omega) (fun _ => ?_) (fun c => absurd c (by omega))
      exact tail f h1 (by rw [hv, Nat.pow_zero, Nat.mul_one]; exact hmv) y1
    | succ m ih =>
      intro i hi f h1 hv y1
      have ci : (nI (m / 4)).toNatClampNeg = m / 4 := nI_clamp (by omega)
      have cb : (nI i).toNatClampNeg = i := nI_clamp (by omega)
      have b1' : vp_in (nI (m / 4)) (p + 1) := vp_in_nI (by omega) (by omega)
      have b2' : vp_in (nI i) 1200 := vp_in_nI (by omega) (by omega)
      have d3 : nI sz - 1 - nI i = nI m := by rw [show (1 : Int32) = nI 1 from rfl, pk_sub (by omega), pk_sub (by omega)]; congr 1; omega
      have hcm := y1.sidec apa hab
      obtain ⟨ft, ct, pt, -⟩ := y1.1.s 56 (y1.1.k 56 (by decide))
      rw [hT] at pt
      refine X_iload (pc := 209) 0 dX15_init_209 rfl ?_
      refine X_aload_n (pc := 211) 5 dX15_init_211 rfl rfl ?_
      refine X_getfield (pc := 212) dX15_init_212 fg_X15_19_10 (BY.c y1) (by first | rfl | assumption) ?_
      refine X_cge (pc := 215) 264 dX15_init_215 (by decide) (by omega) (by omega) (fun c => absurd c (by omega)) (fun _ => ?_)
      refine X_aload (pc := 218) 1 dX15_init_218 rfl ?_
      refine X_aload_n (pc := 220) 5 dX15_init_220 rfl rfl ?_
      refine X_getfield (pc := 221) dX15_init_221 fg_X15_19_10 (BY.c y1) (by first | rfl | assumption) ?_
      refine X_iconst (pc := 224) (x := 1) dX15_init_224 (by decide) ?_
      refine X_isub (pc := 225) dX15_init_225 ?_
      refine X_iload (pc := 226) 0 dX15_init_226 rfl ?_
      refine X_isub (pc := 228) dX15_init_228 ?_
      rw [d3]
      refine X_iconst (pc := 229) (x := 2) dX15_init_229 (by decide) ?_
      refine X_ishr (pc := 230) dX15_init_230 ?_
      rw [i_shr2 (by omega)]
      refine X_dup2_11 (pc := 231) dX15_init_231 rfl rfl ?_
      refine X_iaload (pc := 232) dX15_init_232 hcm b1' ?_
      refine X_aload_n (pc := 233) 8 dX15_init_233 rfl rfl ?_
      refine X_iload (pc := 234) 0 dX15_init_234 rfl ?_
      refine X_baload (pc := 236) dX15_init_236 ct b2' ?_
      refine X_sipush (pc := 237) (x := 255) dX15_init_237 (by decide) ?_
      refine X_iand (pc := 240) dX15_init_240 ?_
      refine X_bipush (pc := 241) (x := 8) dX15_init_241 (by decide) ?_
      refine X_aload_n (pc := 243) 5 dX15_init_243 rfl rfl ?_
      refine X_getfield (pc := 244) dX15_init_244 fg_X15_19_10 (BY.c y1) (by first | rfl | assumption) ?_
      refine X_iconst (pc := 247) (x := 1) dX15_init_247 (by decide) ?_
      refine X_isub (pc := 248) dX15_init_248 ?_
      refine X_iload (pc := 249) 0 dX15_init_249 rfl ?_
      refine X_isub (pc := 251) dX15_init_251 ?_
      rw [ci, cb, pt i (by omega), and255b, d3]
      refine X_iconst (pc := 252) (x := 3) dX15_init_252 (by decide) ?_
      refine X_iand (pc := 253) dX15_init_253 ?_
      rw [i_and3 (by omega)]
      refine X_imul (pc := 254) dX15_init_254 ?_
      rw [show (8 : Int32) * nI (m % 4) = nI (8 * (m % 4)) from pk_mul 8 (m % 4)]
      refine X_ishl (pc := 255) dX15_init_255 ?_
      refine X_ior (pc := 256) dX15_init_256 ?_
      refine X_iastore (pc := 257) dX15_init_257 hcm b1' ?_
      rw [ci]
      refine X_iinc (pc := 258) (L' := [(9, .int (_ + 1)), (8, .ref _), (7, .int _), (6, .int _), (5, .int _), (0, .ref _), (1, .ref _), (2, .ref _), (3, .ref _), (4, .int _)]) 0 dX15_init_258 rfl rfl (Nat.le_of_ble_eq_true rfl) rfl ?_
      refine X_goto (pc := 261) 209 dX15_init_261 (by decide) ?_
      rw [show nI i + 1 = nI (i + 1) from nI_add i 1]
      refine ih (i + 1) (by omega) _ _ ?_ (y1.sideS apa hab _)
      rw [b_top (c := num T 0 i) (by omega) hv rfl (Nat.mod_lt _ (by decide)), num_snoc, Nat.zero_add, Nat.pow_succ]
      generalize 256 ^ m = K
      grind
  refine X_astore (pc := 204) (L' := [(8, .ref _), (7, .int _), (6, .int _), (5, .int _), (0, .ref _), (1, .ref _), (2, .ref _), (3, .ref _), (4, .int _)]) dX15_init_204 (Nat.le_of_ble_eq_true rfl) rfl ?_
  refine X_iconst (pc := 206) (x := 0) dX15_init_206 (by decide) ?_
  refine X_istore (pc := 207) (L' := [(9, .int _), (8, .ref _), (7, .int _), (6, .int _), (5, .int _), (0, .ref _), (1, .ref _), (2, .ref _), (3, .ref _), (4, .int _)]) dX15_init_207 (Nat.le_of_ble_eq_true rfl) rfl ?_
  refine loop sz 0 (by omega) (fun _ => 0) ha ?_ ya
  rw [V_zero0]
  show 0 = 0 * _
  omega
end XSi
