set_option maxRecDepth 100000
/-! VeilMint's moduli: powers; bytes to numbers and back -/
theorem ashr_bit (x : Int32) {r : Nat} (hr : r < 32) : (x >>> (nI r &&& 31)) &&& 1 = nI (u32 x / 2 ^ r % 2) := by
  have hs : ((nI r &&& 31).toBitVec.smod 32).toNat = r := sl_n _ hr
  have h1 : (x >>> (nI r &&& 31)) &&& 1 = nI (u32 (x >>> (nI r &&& 31)) % 2 ^ 1) := pk_and _ 1 (by decide)
  rw [h1]
  congr 1
  have e := pk_shr x (nI r &&& 31) r hs
  rw [toInt_u32, toInt_u32 x, Int.shiftRight_eq_div_pow] at e
  have hp : (2 : Int) ^ 32 = 2 * 2 ^ (31 - r) * 2 ^ r := by
    rw [show (2 : Int) * 2 ^ (31 - r) = 2 ^ (31 - r + 1) by rw [Int.pow_succ, Int.mul_comm], ← Int.pow_add]
    congr 1
    omega
  have hp0 : (2 : Int) ^ r ≠ 0 := Int.pow_ne_zero (by decide)
  have hn : ((u32 x / 2 ^ r : Nat) : Int) = (u32 x : Int) / 2 ^ r := by push_cast; rfl
  have hx := u32_lt x
  have hy := u32_lt (x >>> (nI r &&& 31))
  have e2 : ((u32 x : Int) - 2 ^ 32) / 2 ^ r = (u32 x : Int) / 2 ^ r - 2 * 2 ^ (31 - r) := by
    rw [hp, Int.sub_eq_add_neg, ← Int.neg_mul, Int.add_mul_ediv_right _ _ hp0, ← Int.sub_eq_add_neg]
  rw [show ((2 ^ r : Nat) : Int) = (2 : Int) ^ r by push_cast; rfl] at e
  generalize (2 : Int) ^ (31 - r) = c at *
  generalize u32 (x >>> (nI r &&& 31)) = y at *
  by_cases c1 : u32 x < 2 ^ 31
  · rw [if_pos c1, ← hn] at e
    split at e <;> omega
  · rw [if_neg c1, e2, ← hn] at e
    split at e <;> omega
theorem abit_at {n b : Nat} {f : Nat → Int32} (hb : b / 32 < n) : (f (b / 32) >>> (nI (b % 32) &&& 31)) &&& 1 = nI (V n f / 2 ^ b % 2) := by
  rw [ashr_bit _ (Nat.mod_lt _ (by decide)), V_bit hb (Nat.mod_lt _ (by decide)), show 32 * (b / 32) + b % 32 = b by omega]
theorem i_shr5 {k : Nat} (h : k < 2 ^ 31) : nI k >>> ((5 : Int32) &&& 31) = nI (k / 32) := pk_shrN h _ 5 (by decide)
theorem i_and31 {k : Nat} (h : k < 2 ^ 31) : nI k &&& 31 = nI (k % 32) := pk_andN (by omega) 5 (by decide)
theorem i_shr2 {k : Nat} (h : k < 2 ^ 31) : nI k >>> ((2 : Int32) &&& 31) = nI (k / 4) := pk_shrN h _ 2 (by decide)
theorem i_and3 {k : Nat} (h : k < 2 ^ 31) : nI k &&& 3 = nI (k % 4) := pk_andN (by omega) 2 (by decide)
theorem and255b (x : Int32) : x &&& 255 = nI (b8 x) := pk_and x (m := 255) 8 rfl
theorem mgm_mul {m n y z : Nat} (hm : m % 2 = 1) : mgm m n ((y * 2 ^ (32 * n) % m) * (z * 2 ^ (32 * n) % m)) = y * z * 2 ^ (32 * n) % m := by
  refine (mgm_eq hm (Nat.mod_lt _ (by omega)) ?_).symm
  rw [Nat.mod_mul_mod, ← Nat.mul_mod]
  congr 1
  generalize 2 ^ (32 * n) = W
  grind
theorem mgm_to {m n v : Nat} (hm : m % 2 = 1) (hv : v < m) : mgm m n v * 2 ^ (32 * n) % m = v := by
  rw [(mgm_ok hm n v).2, Nat.mod_eq_of_lt hv]
theorem mgm_of {m n x : Nat} (hm : m % 2 = 1) : mgm m n (x * 2 ^ (32 * n) % m) = x % m := by
  refine (mgm_eq hm (Nat.mod_lt _ (by omega)) ?_).symm
  rw [Nat.mod_mul_mod, Nat.mod_mod]
theorem pow_bit (x e i : Nat) : x ^ (e / 2 ^ i) = x ^ (e / 2 ^ (i + 1)) * x ^ (e / 2 ^ (i + 1)) * x ^ (e / 2 ^ i % 2) := by
  rw [← Nat.pow_add, ← Nat.pow_add]
  congr 1
  have := half_bit e i
  omega
/-- an operand that stays while some registers change -/
def OpE (kd : Nat → KD) (A : Nat → Nat) (X : AH) (R : Nat → Nat) (S : Nat → List Int32) (O : Nat → AC) (F : Nat → Int32) (fr : Nat → Bool) (a n v : Nat) : Prop :=
  ∀ X2 R2 h2, XW kd A X2 R2 S O F h2 → (∀ q c, X q = some c → X2 q = some c) → (∀ j, fr j = false → R2 j = R j) → OpX kd A h2 a n v
section XP
variable {kd : Nat → KD} {A : Nat → Nat} {X : AH} {R : Nat → Nat} {S : Nat → List Int32} {O : Nat → AC} {F : Nat → Int32} {h : AH}
theorem OpE.g {fr : Nat → Bool} {j n mv : Nat} (st : St kd j n mv) (hj : fr j = false) : OpE kd A X R S O F fr (A j) n (R j) := fun X2 R2 h2 w _ hf => by
  rw [← hf j hj]
  exact OpX.g w st
theorem OpE.x {fr : Nat → Bool} {q n v : Nat} {f : Nat → Int32} (hq : ∀ k, (kd k).1 ≠ 0 → A k ≠ q) (hX : X q = some (Ai false 0 n f)) (hv : V n f = v) : OpE kd A X R S O F fr q n v := fun X2 R2 h2 w hx _ => OpX.x w hq (hx q _ hX) hv
theorem OpE.now {fr : Nat → Bool} {a n v : Nat} (o : OpE kd A X R S O F fr a n v) (w : XW kd A X R S O F h) : OpX kd A h a n v := o X R h w (fun _ _ e => e) (fun _ _ => rfl)
theorem XW.fresh (w : XW kd A X R S O F h) {q : Nat} (hq : h q = none) (c : AC) : XW kd A (hset X q c) R S O F (hset h q c) := ⟨w.1.fresh hq c, w.2⟩
theorem XW.forget {q : Nat} {c : AC} (w : XW kd A (hset X q c) R S O F h) (hX : X q = none) (hq : ∀ k, (kd k).1 ≠ 0 → A k ≠ q) : XW kd A X R S O F (hdel h q) := ⟨w.1.forget hX hq, w.2⟩
theorem hset_new {X : AH} {q : Nat} {c : AC} (hX : X q = none) : ∀ p d, X p = some d → hset X q c p = some d := fun p d e => by
  rw [hset_ne]
  · exact e
  · intro z
    subst z
    rw [hX] at e
    cases e
section Mod
variable {K p mv : Nat} {ng : Int32}
set_option maxHeartbeats 4000000 in
theorem xpowW (g : GX) (w : XW kd A X R S O F h) (mo : MoK kd A O K p mv ng) (k : Nat) (st : St kd k (p + 1) mv) {a va ae ne ev : Nat} (oa : OpX kd A h a (p + 1) va) (hva : va < mv) (oe : OpE kd A X R S O F (fun j => j == k) ae ne ev) (hne : ne < 2 ^ 20) :
    MT g MX6_pow ({ frames := 4, cells := 1, slots := 64, locals := 95 } : Room) [.ref (A K), .ref a, .ref ae, .ref (A k)] h (RV fun h' => XW kd A X (up R k (mgm mv (p + 1) va ^ ev * 2 ^ (32 * (p + 1)) % mv)) S O F h') := by
  refine MT.of (by decide) (Nat.le_of_ble_eq_true rfl) ?_
  have hp64 := mo.p64
  have hodd := mo.odd
  have hmv : 0 < mv := by have := mo.big; omega
  obtain ⟨fa, ha, hVa, -⟩ := oa
  refine XX.know fun rok => ?_
  refine X_aload_n (pc := 0) 1 dX6_pow_0 rfl rfl ?_
  refine X_clone (pc := 1) dX6_pow_1 q1005 q1007 q1008 ha (Nat.le_of_ble_eq_true rfl) (Nat.le_of_ble_eq_true rfl) (Nat.le_of_ble_eq_true rfl) (by show 0 + (p + 1) ≤ 64; omega) (fun q hq => ?_)
  have hXq : X q = none := w.1.noX hq
  have apart := w.1.apart hq
  have gq := rok.no hq
  have wf := w.fresh hq (Ai false 0 (p + 1) fa)
  refine X_castI (pc := 4) dX6_pow_4 q1011 (hset_self _ _ _) ?_
  -- the loop
  generalize hx : mgm mv (p + 1) va = x
  have hva2 : va = x * 2 ^ (32 * (p + 1)) % mv := by rw [← hx, mgm_to hodd hva]
  have loop : ∀ i, i ≤ 32 * ne → ∀ h', XW kd A (hset X q (Ai false 0 (p + 1) fa)) (up R k (x ^ (ev / 2 ^ i) * 2 ^ (32 * (p + 1)) % mv)) S O F h' →
      XX g MX6_pow ({ frames := 4, cells := 1, slots := 64, locals := 95 } : Room) (RV fun h' => XW kd A X (up R k (x ^ ev * 2 ^ (32 * (p + 1)) % mv)) S O F h') (0 + 1) (0 + (p + 1)) 26 [(5, .int (nI i - 1)), (4, .ref q), (0, .ref (A K)), (1, .ref a), (2, .ref ae), (3, .ref (A k))] [] h' := by
    intro i
    induction i with
    | zero =>
      intro _ h' w'
      refine X_iload (pc := 26) 0 dX6_pow_26 rfl ?_
      refine X_if_lt (pc := 28) 70 dX6_pow_28 (by decide) (fun c_28 => ?_) (fun c_28 => ?_)
      · rw [Nat.pow_zero, Nat.div_one] at w'
        refine XX.del gq ?_
        refine X_return (pc := 70) dX6_pow_70 rfl (Nat.le_of_ble_eq_true rfl) (by show 0 + (p + 1) ≤ 64; omega) ?_
        exact ⟨rfl, w'.forget hXq apart⟩
      · exact absurd (show nI 0 - 1 < 0 by decide) c_28
    | succ i ih =>
      intro hi h' w'
      rw [nI_pred]
      have oe' := oe _ _ _ w' (hset_new hXq) (fun j hj => up_ne (by intro z; simp [z] at hj))
      have hgk : up R k (x ^ (ev / 2 ^ (i + 1)) * 2 ^ (32 * (p + 1)) % mv) k < mv := by rw [up_same]; exact Nat.mod_lt _ hmv
      refine X_iload (pc := 26) 0 dX6_pow_26 rfl ?_
      refine X_if_lt (pc := 28) 70 dX6_pow_28 (by decide) (fun c_28 => ?_) (fun c_28 => ?_)
      · exact absurd c_28 (nI_pos (by omega))
      · refine X_aload_n (pc := 31) 2 dX6_pow_31 rfl rfl ?_
        refine X_aload_n (pc := 32) 5 dX6_pow_32 rfl rfl ?_
        refine X_aload_n (pc := 33) 5 dX6_pow_33 rfl rfl ?_
        refine X_aload_n (pc := 34) 5 dX6_pow_34 rfl rfl ?_
        refine X_ivv (pc := 35) _ dX6_pow_35 cv_X6_77_4 (mo.ob w') rfl (xmulW g w' mo k st (OpX.g w' st) (OpX.g w' st) hgk) nX6_mul (Nat.le_of_ble_eq_true rfl) (Nat.le_of_ble_eq_true rfl) (Nat.le_of_ble_eq_true rfl) (by show 0 + (p + 1) + 0 ≤ 64; omega) (fun h2 w2 => ?_)
        rw [up_same, up_up', mgm_mul hodd] at w2
        have oe2 := oe _ _ _ w2 (hset_new hXq) (fun j hj => up_ne (by intro z; simp [z] at hj))
        obtain ⟨fe, he, hVe, -⟩ := oe2
        have ck : (nI (i / 32)).toNatClampNeg = i / 32 := nI_clamp (by omega)
        have b1 : vp_in (nI (i / 32)) ne := vp_in_nI (by omega) (by omega)
        refine X_aload_n (pc := 38) 4 dX6_pow_38 rfl rfl ?_
        refine X_iload (pc := 39) 0 dX6_pow_39 rfl ?_
        refine X_iconst (pc := 41) (x := 5) dX6_pow_41 (by decide) ?_
        refine X_ishr (pc := 42) dX6_pow_42 ?_
        rw [i_shr5 (by omega)]
        refine X_iaload (pc := 43) dX6_pow_43 he b1 ?_
        refine X_iload (pc := 44) 0 dX6_pow_44 rfl ?_
        refine X_bipush (pc := 46) (x := 31) dX6_pow_46 (by decide) ?_
        refine X_iand (pc := 48) dX6_pow_48 ?_
        rw [ck, i_and31 (by omega)]
        refine X_ishr (pc := 49) dX6_pow_49 ?_
        refine X_iconst (pc := 50) (x := 1) dX6_pow_50 (by decide) ?_
        refine X_iand (pc := 51) dX6_pow_51 ?_
        rw [abit_at (n := ne) (by omega), hVe]
        refine X_iconst (pc := 52) (x := 1) dX6_pow_52 (by decide) ?_
        have pb := pow_bit x ev i
        have h01 : ev / 2 ^ i % 2 = 0 ∨ ev / 2 ^ i % 2 = 1 := by omega
        rcases h01 with hb | hb
        · rw [hb] at pb ⊢
          refine X_icmp_ne (pc := 53) 64 dX6_pow_53 (by decide) (fun _ => ?_) (fun c => absurd c (by decide))
          refine X_iinc (pc := 64) (L' := [(5, .int (_ + (-1))), (4, .ref _), (0, .ref _), (1, .ref _), (2, .ref _), (3, .ref _)]) 0 dX6_pow_64 rfl rfl (Nat.le_of_ble_eq_true rfl) rfl ?_
          refine X_goto (pc := 67) 26 dX6_pow_67 (by decide) ?_
          rw [m1]
          refine ih (by omega) h2 ?_
          rw [pb, Nat.pow_zero, Nat.mul_one]
          exact w2
        · rw [hb] at pb ⊢
          refine X_icmp_ne (pc := 53) 64 dX6_pow_53 (by decide) (fun c => absurd rfl c) (fun _ => ?_)
          have ob := OpX.x w2 apart (hset_self _ _ _) hVa
          refine X_aload_n (pc := 56) 2 dX6_pow_56 rfl rfl ?_
          refine X_aload_n (pc := 57) 5 dX6_pow_57 rfl rfl ?_
          refine X_aload (pc := 58) 1 dX6_pow_58 rfl ?_
          refine X_aload_n (pc := 60) 5 dX6_pow_60 rfl rfl ?_
          refine X_ivv (pc := 61) _ dX6_pow_61 cv_X6_77_4 (mo.ob w2) rfl (xmulW g w2 mo k st (OpX.g w2 st) ob hva) nX6_mul (Nat.le_of_ble_eq_true rfl) (Nat.le_of_ble_eq_true rfl) (Nat.le_of_ble_eq_true rfl) (by show 0 + (p + 1) + 0 + 0 ≤ 64; omega) (fun h3 w3 => ?_)
          rw [up_same, up_up', hva2, mgm_mul hodd] at w3
          refine X_iinc (pc := 64) (L' := [(5, .int (_ + (-1))), (4, .ref _), (0, .ref _), (1, .ref _), (2, .ref _), (3, .ref _)]) 0 dX6_pow_64 rfl rfl (Nat.le_of_ble_eq_true rfl) rfl ?_
          refine X_goto (pc := 67) 26 dX6_pow_67 (by decide) ?_
          rw [m1]
          refine ih (by omega) h3 ?_
          rw [pb, Nat.pow_one]
          exact w3
  refine X_astore (pc := 7) (L' := [(4, .ref _), (0, .ref _), (1, .ref _), (2, .ref _), (3, .ref _)]) dX6_pow_7 (Nat.le_of_ble_eq_true rfl) rfl ?_
  refine X_aload_n (pc := 9) 1 dX6_pow_9 rfl rfl ?_
  refine X_getfield (pc := 10) dX6_pow_10 fg_X6_17_4 (mo.ob wf) (by first | rfl | assumption) ?_
  refine X_aload_n (pc := 13) 4 dX6_pow_13 rfl rfl ?_
  refine X_isv (pc := 14) _ dX6_pow_14 cs_X6_44 rfl (xcopyW g wf k st (mo.o1 wf) (Nat.mod_lt _ hmv) (by omega)) nX6_copy (Nat.le_of_ble_eq_true rfl) (Nat.le_of_ble_eq_true rfl) (Nat.le_of_ble_eq_true rfl) (by show 0 + (p + 1) + 0 ≤ 64; omega) (fun h1 w1 => ?_)
  have oe1 := oe _ _ _ w1 (hset_new hXq) (fun j hj => up_ne (by intro z; simp [z] at hj))
  obtain ⟨fe, he, hVe, -⟩ := oe1
  have hev := V_lt ne fe
  rw [hVe] at hev
  refine X_bipush (pc := 17) (x := 32) dX6_pow_17 (by decide) ?_
  refine X_aload_n (pc := 19) 3 dX6_pow_19 rfl rfl ?_
  refine X_alenI (pc := 20) dX6_pow_20 he (fun _ => rfl) ?_
  refine X_imul (pc := 21) dX6_pow_21 ?_
  rw [show (32 : Int32) * nI ne = nI (32 * ne) from pk_mul 32 ne]
  refine X_iconst (pc := 22) (x := 1) dX6_pow_22 (by decide) ?_
  refine X_isub (pc := 23) dX6_pow_23 ?_
  refine X_istore (pc := 24) (L' := [(5, .int _), (4, .ref _), (0, .ref _), (1, .ref _), (2, .ref _), (3, .ref _)]) dX6_pow_24 (Nat.le_of_ble_eq_true rfl) rfl ?_
  refine loop (32 * ne) (Nat.le_refl _) h1 ?_
  rw [Nat.div_eq_of_lt hev, Nat.pow_zero, Nat.one_mul]
  exact w1
end Mod
end XP
theorem bsm_s (f : Nat → Int32) (hi : Nat) : ∀ k, bsm f (hi + 1) (k + 1) = bsm f hi k * 256 + b8 (f hi)
  | 0 => by
    show 0 + b8 (f (hi + 1 - 1 - 0)) * 256 ^ 0 = 0 * 256 + b8 (f hi)
    rw [show hi + 1 - 1 - 0 = hi by omega]
    omega
  | k + 1 => by
    show bsm f (hi + 1) (k + 1) + b8 (f (hi + 1 - 1 - (k + 1))) * 256 ^ (k + 1) = (bsm f hi k + b8 (f (hi - 1 - k)) * 256 ^ k) * 256 + b8 (f hi)
    rw [bsm_s f hi k, show hi + 1 - 1 - (k + 1) = hi - 1 - k by omega, Nat.pow_succ]
    generalize 256 ^ k = K
    grind
theorem b_top {n i : Nat} {f : Nat → Int32} {b v c : Nat} (hi : i / 4 < n) (hV : V n f = v) (hv : v = c * 256 ^ (i + 1)) (hb : b < 256) :
    V n (upd f (i / 4) (f (i / 4) ||| nI b <<< (nI (8 * (i % 4)) &&& 31))) = v + b * 256 ^ i := by
  have hr : 8 * (i % 4) < 32 := by omega
  have hl : u32 (f (i / 4)) = 2 ^ (8 * (i % 4) + 8) * (c % 2 ^ (32 - (8 * (i % 4) + 8))) := by
    have e := lim_V f hi
    rw [← e, u32_lim, hV, hv, Nat.pow_succ, p256, show (256 : Nat) = 2 ^ 8 from rfl, Nat.mul_assoc, ← Nat.pow_add, show c * (2 ^ (32 * (i / 4)) * 2 ^ (8 * (i % 4) + 8)) = 2 ^ (8 * (i % 4) + 8) * c * 2 ^ (32 * (i / 4)) by rw [Nat.mul_comm (2 ^ (32 * (i / 4))), ← Nat.mul_assoc, Nat.mul_comm c], Nat.mul_div_cancel _ (Nat.two_pow_pos _)]
    have e2 : (2 : Nat) ^ 32 = 2 ^ (8 * (i % 4) + 8) * 2 ^ (32 - (8 * (i % 4) + 8)) := by rw [← Nat.pow_add]; congr 1; omega
    rw [e2, Nat.mul_mod_mul_left]
  have hs : u32 (nI b <<< (nI (8 * (i % 4)) &&& 31)) = 2 ^ (8 * (i % 4)) * b := by
    have h1 : u32 (nI b <<< (nI (8 * (i % 4)) &&& 31)) = u32 (nI b) * 2 ^ (8 * (i % 4)) % 2 ^ 32 := pk_shl _ _ _ (sl_n _ hr)
    have h2 : u32 (nI b) = b := pk_tn (by omega)
    rw [h1, h2, Nat.mul_comm]
    apply Nat.mod_eq_of_lt
    have h3 : (2 : Nat) ^ (8 * (i % 4)) ≤ 2 ^ 24 := Nat.pow_le_pow_right (by decide) (by omega)
    have h4 := Nat.mul_le_mul_right b h3
    omega
  have hlt : 2 ^ (8 * (i % 4)) * b < 2 ^ (8 * (i % 4) + 8) := by
    rw [Nat.pow_add]
    exact Nat.mul_lt_mul_of_pos_left (by omega) (Nat.two_pow_pos _)
  have ho : u32 (f (i / 4) ||| nI b <<< (nI (8 * (i % 4)) &&& 31)) = u32 (f (i / 4)) + 2 ^ (8 * (i % 4)) * b := by
    rw [u32_or_dis hl hs hlt, ← hl]
  have hA := V_at (f := f) (x := f (i / 4) ||| nI b <<< (nI (8 * (i % 4)) &&& 31)) hi
  rw [ho, hV, Nat.add_mul, Nat.mul_comm _ b, Nat.mul_assoc b, Nat.mul_comm (2 ^ (8 * (i % 4))), ← p256] at hA
  omega
set_option maxHeartbeats 2000000 in
theorem xread_ok (g : GX) {h : AH} {M am b to fr many n nb : Nat} {fs : List Value} {fm fb ft : Nat → Int32} (hM : h M = some (Ob 4 fs)) (g0 : fs[0]? = some (.int (nI n))) (g1 : fs[1]? = some (.ref am)) (hm : h am = some (Ai false 0 n fm)) (hb : h b = some (Ai false 2 nb fb)) (ht : h to = some (Ai false 0 n ft)) (hne : am ≠ to) (h1 : fr + many ≤ nb) (h2 : nb < 2 ^ 31) (h4 : n < 2 ^ 20) (h5 : many ≤ 4 * n) :
    MT g MX6_read ({ frames := 4, cells := 0, slots := 0, locals := 85 } : Room) [.ref M, .ref b, .int (nI fr), .int (nI many), .ref to] h (RI fun r h' => ∃ f, V n f = bsm fb (fr + many) many ∧ r = (if bsm fb (fr + many) many < V n fm then 1 else 0) ∧ h' = hset h to (Ai false 0 n f)) := by
  refine MT.of (by decide) (Nat.le_of_ble_eq_true rfl) ?_
  have hbt : b ≠ to := fun e => by subst e; rw [hb] at ht; cases ht
  have hMt : M ≠ to := ne_of hM ht (fun e => by cases e)
  generalize hPost : (RI fun r h' => ∃ f, V n f = bsm fb (fr + many) many ∧ r = (if bsm fb (fr + many) many < V n fm then 1 else 0) ∧ h' = hset h to (Ai false 0 n f)) = Post
  have loop2 : ∀ m i, i + m = many → ∀ f : Nat → Int32, V n f = bsm fb (fr + i) i * 256 ^ m → XX g MX6_read ({ frames := 4, cells := 0, slots := 0, locals := 85 } : Room) Post 0 0 27 [(5, .int (nI i)), (0, .ref M), (1, .ref b), (2, .int (nI fr)), (3, .int (nI many)), (4, .ref to)] [] (hset h to (Ai false 0 n f)) := by
    intro m
    induction m with
    | zero =>
      intro i hi f hv
      have c1 := hset_self h to (Ai false 0 n f)
      have c2 : hset h to (Ai false 0 n f) M = some (Ob 4 fs) := by rw [hset_ne hMt]; exact hM
      have c3 : hset h to (Ai false 0 n f) am = some (Ai false 0 n fm) := by rw [hset_ne hne]; exact hm
      have e : i = many := by omega
      subst e
      rw [Nat.pow_zero, Nat.mul_one] at hv
      refine X_iload (pc := 27) 0 dX6_read_27 rfl ?_
      refine X_iload_n (pc := 29) 4 dX6_read_29 rfl rfl ?_
      refine X_cge (pc := 30) 75 dX6_read_30 (by decide) (by omega) (by omega) (fun _ => ?_) (fun c => absurd c (by omega))
      refine X_aload_n (pc := 75) 1 dX6_read_75 rfl rfl ?_
      refine X_aload (pc := 76) 5 dX6_read_76 rfl ?_
      refine X_ivi (pc := 78) _ dX6_read_78 cv_X6_100_4 c2 rfl (xbelow_ok g c2 g1 c3 c1 (by omega)) nX6_isBelow (Nat.le_of_ble_eq_true rfl) (Nat.le_of_ble_eq_true rfl) (Nat.le_of_ble_eq_true rfl) (Nat.le_of_ble_eq_true rfl) (fun r1 h1 q1 => ?_)
      obtain ⟨er, rfl⟩ := q1
      subst hPost
      rw [hv] at er
      rw [er]
      refine X_zreturn (pc := 81) dX6_read_81 rfl (by first | exact Or.inl rfl | exact Or.inr rfl | assumption | exact zo_if) (Nat.le_of_ble_eq_true rfl) (Nat.le_of_ble_eq_true rfl) ?_
      exact ⟨_, rfl, f, hv, rfl, rfl⟩
    | succ m ih =>
      intro i hi f hv
      have ci : (nI (m / 4)).toNatClampNeg = m / 4 := nI_clamp (by omega)
      have cb : (nI (fr + i)).toNatClampNeg = fr + i := nI_clamp (by omega)
      have b1 : vp_in (nI (m / 4)) n := vp_in_nI (by omega) (by omega)
      have b2 : vp_in (nI (fr + i)) nb := vp_in_nI (by omega) (by omega)
      have c1 := hset_self h to (Ai false 0 n f)
      have c2 : hset h to (Ai false 0 n f) b = some (Ai false 2 nb fb) := by rw [hset_ne hbt]; exact hb
      have d3 : nI many - 1 - nI i = nI m := by rw [show (1 : Int32) = nI 1 from rfl, pk_sub (by omega), pk_sub (by omega)]; congr 1; omega
      refine X_iload (pc := 27) 0 dX6_read_27 rfl ?_
      refine X_iload_n (pc := 29) 4 dX6_read_29 rfl rfl ?_
      refine X_cge (pc := 30) 75 dX6_read_30 (by decide) (by omega) (by omega) (fun c => absurd c (by omega)) (fun _ => ?_)
      refine X_iload_n (pc := 33) 4 dX6_read_33 rfl rfl ?_
      refine X_iconst (pc := 34) (x := 1) dX6_read_34 (by decide) ?_
      refine X_isub (pc := 35) dX6_read_35 ?_
      refine X_iload (pc := 36) 0 dX6_read_36 rfl ?_
      refine X_isub (pc := 38) dX6_read_38 ?_
      rw [d3]
      refine X_istore (pc := 39) (L' := [(6, .int _), (5, .int _), (0, .ref _), (1, .ref _), (2, .int _), (3, .int _), (4, .ref _)]) dX6_read_39 (Nat.le_of_ble_eq_true rfl) rfl ?_
      refine X_aload (pc := 41) 6 dX6_read_41 rfl ?_
      refine X_iload (pc := 43) 0 dX6_read_43 rfl ?_
      refine X_iconst (pc := 45) (x := 2) dX6_read_45 (by decide) ?_
      refine X_ishr (pc := 46) dX6_read_46 ?_
      rw [i_shr2 (by omega)]
      refine X_dup2_11 (pc := 47) dX6_read_47 rfl rfl ?_
      refine X_iaload (pc := 48) dX6_read_48 c1 b1 ?_
      refine X_aload_n (pc := 49) 3 dX6_read_49 rfl rfl ?_
      refine X_iload_n (pc := 50) 4 dX6_read_50 rfl rfl ?_
      refine X_iload (pc := 51) 1 dX6_read_51 rfl ?_
      refine X_iadd (pc := 53) dX6_read_53 ?_
      rw [ci, nI_add]
      refine X_baload (pc := 54) dX6_read_54 c2 b2 ?_
      refine X_sipush (pc := 55) (x := 255) dX6_read_55 (by decide) ?_
      refine X_iand (pc := 58) dX6_read_58 ?_
      refine X_bipush (pc := 59) (x := 8) dX6_read_59 (by decide) ?_
      refine X_iload (pc := 61) 0 dX6_read_61 rfl ?_
      refine X_iconst (pc := 63) (x := 3) dX6_read_63 (by decide) ?_
      refine X_iand (pc := 64) dX6_read_64 ?_
      rw [cb, and255b, i_and3 (by omega)]
      refine X_imul (pc := 65) dX6_read_65 ?_
      rw [show (8 : Int32) * nI (m % 4) = nI (8 * (m % 4)) from pk_mul 8 (m % 4)]
      refine X_ishl (pc := 66) dX6_read_66 ?_
      refine X_ior (pc := 67) dX6_read_67 ?_
      refine X_iastore (pc := 68) dX6_read_68 c1 b1 ?_
      refine X_iinc (pc := 69) (L' := [(5, .int (_ + 1)), (6, .int _), (0, .ref _), (1, .ref _), (2, .int _), (3, .int _), (4, .ref _)]) 1 dX6_read_69 rfl rfl (Nat.le_of_ble_eq_true rfl) rfl ?_
      refine X_goto (pc := 72) 27 dX6_read_72 (by decide) ?_
      rw [ci, hset_hset, show nI i + 1 = nI (i + 1) from nI_add i 1]
      refine XX.pick (L' := [(5, .int _), (0, .ref _), (1, .ref _), (2, .int _), (3, .int _), (4, .ref _)]) [0, 2, 3, 4, 5, 6] rfl ?_
      refine ih (i + 1) (by omega) _ ?_
      rw [b_top (c := bsm fb (fr + i) i) (by omega) hv rfl (Nat.mod_lt _ (by decide)), show fr + (i + 1) = fr + i + 1 by omega, bsm_s, Nat.pow_succ]
      generalize 256 ^ m = K
      grind
  have loop1 : ∀ m i, i + m = n → ∀ f : Nat → Int32, (∀ j, j < i → f j = 0) → XX g MX6_read ({ frames := 4, cells := 0, slots := 0, locals := 85 } : Room) Post 0 0 3 [(5, .int (nI i)), (0, .ref M), (1, .ref b), (2, .int (nI fr)), (3, .int (nI many)), (4, .ref to)] [] (hset h to (Ai false 0 n f)) := by
    intro m
    induction m with
    | zero =>
      intro i hi f hz
      have c2 : hset h to (Ai false 0 n f) M = some (Ob 4 fs) := by rw [hset_ne hMt]; exact hM
      refine X_iload (pc := 3) 0 dX6_read_3 rfl ?_
      refine X_aload_n (pc := 5) 1 dX6_read_5 rfl rfl ?_
      refine X_getfield (pc := 6) dX6_read_6 fg_X6_7_4 c2 g0 ?_
      refine X_cge (pc := 9) 24 dX6_read_9 (by decide) (by omega) (by omega) (fun _ => ?_) (fun c => absurd c (by omega))
      refine X_iconst (pc := 24) (x := 0) dX6_read_24 (by decide) ?_
      refine X_istore (pc := 25) (L' := [(5, .int _), (0, .ref _), (1, .ref _), (2, .int _), (3, .int _), (4, .ref _)]) dX6_read_25 (Nat.le_of_ble_eq_true rfl) rfl ?_
      refine loop2 many 0 (by omega) f ?_
      have e : i = n := by omega
      subst e
      rw [V_zeros hz]
      show 0 = 0 * _
      omega
    | succ m ih =>
      intro i hi f hz
      have ci : (nI i).toNatClampNeg = i := nI_clamp (by omega)
      have b1 : vp_in (nI i) n := vp_in_nI (by omega) (by omega)
      have c1 := hset_self h to (Ai false 0 n f)
      have c2 : hset h to (Ai false 0 n f) M = some (Ob 4 fs) := by rw [hset_ne hMt]; exact hM
      refine X_iload (pc := 3) 0 dX6_read_3 rfl ?_
      refine X_aload_n (pc := 5) 1 dX6_read_5 rfl rfl ?_
      refine X_getfield (pc := 6) dX6_read_6 fg_X6_7_4 c2 g0 ?_
      refine X_cge (pc := 9) 24 dX6_read_9 (by decide) (by omega) (by omega) (fun c => absurd c (by omega)) (fun _ => ?_)
      refine X_aload (pc := 12) 5 dX6_read_12 rfl ?_
      refine X_iload (pc := 14) 0 dX6_read_14 rfl ?_
      refine X_iconst (pc := 16) (x := 0) dX6_read_16 (by decide) ?_
      refine X_iastore (pc := 17) dX6_read_17 c1 b1 ?_
      refine X_iinc (pc := 18) (L' := [(5, .int (_ + 1)), (0, .ref _), (1, .ref _), (2, .int _), (3, .int _), (4, .ref _)]) 0 dX6_read_18 rfl rfl (Nat.le_of_ble_eq_true rfl) rfl ?_
      refine X_goto (pc := 21) 3 dX6_read_21 (by decide) ?_
      rw [ci, hset_hset, show nI i + 1 = nI (i + 1) from nI_add i 1]
      refine ih (i + 1) (by omega) _ (fun j hj => ?_)
      by_cases e : j = i
      · exact if_pos e
      · exact (if_neg e).trans (hz j (by omega))
  refine X_iconst (pc := 0) (x := 0) dX6_read_0 (by decide) ?_
  refine X_istore (pc := 1) (L' := [(5, .int _), (0, .ref _), (1, .ref _), (2, .int _), (3, .int _), (4, .ref _)]) dX6_read_1 (Nat.le_of_ble_eq_true rfl) rfl ?_
  have := loop1 n 0 (by omega) ft (fun j hj => absurd hj (by omega))
  rw [hset_same ht] at this
  exact this
theorem ast_byte {n i : Nat} {f : Nat → Int32} (hi : i / 4 < n) : (f (i / 4) >>> (nI (8 * (i % 4)) &&& 31)).toInt8.toInt32 = tb (V n f / 256 ^ i) := by
  have hr : 8 * (i % 4) < 32 := by omega
  have h1 := pk_shr (f (i / 4)) (nI (8 * (i % 4)) &&& 31) (8 * (i % 4)) (sl_n _ hr)
  rw [toInt8_low, ← tb_mod (V n f / 256 ^ i), ← V_byte hi, tb_mod, ← tb_mod, ← tb_mod (u32 (f (i / 4)) / 2 ^ (8 * (i % 4)))]
  congr 1
  rw [toInt_u32, toInt_u32 (f (i / 4)), Int.shiftRight_eq_div_pow] at h1
  have hx := u32_lt (f (i / 4))
  have hy := u32_lt (f (i / 4) >>> (nI (8 * (i % 4)) &&& 31))
  generalize u32 (f (i / 4)) = x at *
  generalize u32 (f (i / 4) >>> (nI (8 * (i % 4)) &&& 31)) = y at *
  have h4 : i % 4 = 0 ∨ i % 4 = 1 ∨ i % 4 = 2 ∨ i % 4 = 3 := by omega
  rcases h4 with e | e | e | e <;> rw [e] at h1 ⊢ <;> (try simp only [Nat.mul_zero, Nat.mul_one, Nat.pow_zero, Nat.div_one] at h1 ⊢) <;> split at h1 <;> split at h1 <;> omega
set_option maxHeartbeats 2000000 in
theorem xwrite_ok (g : GX) {h : AH} {a to fr many n nt : Nat} {ra : Bool} {fa ft : Nat → Int32} (ha : h a = some (Ai ra 0 n fa)) (ht : h to = some (Ai false 2 nt ft)) (h2 : n < 2 ^ 20) (h3 : fr + many ≤ nt) (h4 : nt < 2 ^ 31) (h5 : many ≤ 4 * n) :
    MT g MX6_write ({ frames := 0, cells := 0, slots := 0, locals := 0 } : Room) [.ref a, .ref to, .int (nI fr), .int (nI many)] h (RV fun h' => h' = hset h to (Ai false 2 nt (stF (V n fa) fr many ft))) := by
  refine MT.of (by decide) (Nat.le_of_ble_eq_true rfl) ?_
  have hne : a ≠ to := fun e => by subst e; rw [ha] at ht; cases ht
  generalize hPost : (RV fun h' => h' = hset h to (Ai false 2 nt (stF (V n fa) fr many ft))) = Post
  have loop : ∀ m i, i + m = many → ∀ f : Nat → Int32, (∀ j, f j = if fr ≤ j ∧ j < fr + i then tb (V n fa / 256 ^ (fr + many - 1 - j)) else ft j) → XX g MX6_write ({ frames := 0, cells := 0, slots := 0, locals := 0 } : Room) Post 0 0 3 [(4, .int (nI i)), (0, .ref a), (1, .ref to), (2, .int (nI fr)), (3, .int (nI many))] [] (hset h to (Ai false 2 nt f)) := by
    intro m
    induction m with
    | zero =>
      intro i hi f hf
      refine X_iload (pc := 3) 0 dX6_write_3 rfl ?_
      refine X_iload_n (pc := 5) 4 dX6_write_5 rfl rfl ?_
      refine X_cge (pc := 6) 44 dX6_write_6 (by decide) (by omega) (by omega) (fun _ => ?_) (fun c => absurd c (by omega))
      subst hPost
      refine X_return (pc := 44) dX6_write_44 rfl (Nat.le_of_ble_eq_true rfl) (Nat.le_of_ble_eq_true rfl) ?_
      refine ⟨rfl, ?_⟩
      have e : f = stF (V n fa) fr many ft := funext fun j => by rw [hf j, show i = many by omega]; rfl
      rw [e]
    | succ m ih =>
      intro i hi f hf
      have ci : (nI (m / 4)).toNatClampNeg = m / 4 := nI_clamp (by omega)
      have cb : (nI (fr + i)).toNatClampNeg = fr + i := nI_clamp (by omega)
      have b1 : vp_in (nI (m / 4)) n := vp_in_nI (by omega) (by omega)
      have b2 : vp_in (nI (fr + i)) nt := vp_in_nI (by omega) (by omega)
      have c1 := hset_self h to (Ai false 2 nt f)
      have c2 : hset h to (Ai false 2 nt f) a = some (Ai ra 0 n fa) := by rw [hset_ne hne]; exact ha
      have d3 : nI many - 1 - nI i = nI m := by rw [show (1 : Int32) = nI 1 from rfl, pk_sub (by omega), pk_sub (by omega)]; congr 1; omega
      refine X_iload (pc := 3) 0 dX6_write_3 rfl ?_
      refine X_iload_n (pc := 5) 4 dX6_write_5 rfl rfl ?_
      refine X_cge (pc := 6) 44 dX6_write_6 (by decide) (by omega) (by omega) (fun c => absurd c (by omega)) (fun _ => ?_)
      refine X_iload_n (pc := 9) 4 dX6_write_9 rfl rfl ?_
      refine X_iconst (pc := 10) (x := 1) dX6_write_10 (by decide) ?_
      refine X_isub (pc := 11) dX6_write_11 ?_
      refine X_iload (pc := 12) 0 dX6_write_12 rfl ?_
      refine X_isub (pc := 14) dX6_write_14 ?_
      rw [d3]
      refine X_istore (pc := 15) (L' := [(5, .int _), (4, .int _), (0, .ref _), (1, .ref _), (2, .int _), (3, .int _)]) dX6_write_15 (Nat.le_of_ble_eq_true rfl) rfl ?_
      refine X_aload_n (pc := 17) 3 dX6_write_17 rfl rfl ?_
      refine X_iload_n (pc := 18) 4 dX6_write_18 rfl rfl ?_
      refine X_iload (pc := 19) 1 dX6_write_19 rfl ?_
      refine X_iadd (pc := 21) dX6_write_21 ?_
      rw [nI_add]
      refine X_aload_n (pc := 22) 2 dX6_write_22 rfl rfl ?_
      refine X_iload (pc := 23) 0 dX6_write_23 rfl ?_
      refine X_iconst (pc := 25) (x := 2) dX6_write_25 (by decide) ?_
      refine X_ishr (pc := 26) dX6_write_26 ?_
      rw [i_shr2 (by omega)]
      refine X_iaload (pc := 27) dX6_write_27 c2 b1 ?_
      refine X_bipush (pc := 28) (x := 8) dX6_write_28 (by decide) ?_
      refine X_iload (pc := 30) 0 dX6_write_30 rfl ?_
      refine X_iconst (pc := 32) (x := 3) dX6_write_32 (by decide) ?_
      refine X_iand (pc := 33) dX6_write_33 ?_
      rw [ci, i_and3 (by omega)]
      refine X_imul (pc := 34) dX6_write_34 ?_
      rw [show (8 : Int32) * nI (m % 4) = nI (8 * (m % 4)) from pk_mul 8 (m % 4)]
      refine X_ishr (pc := 35) dX6_write_35 ?_
      refine X_i2b (pc := 36) dX6_write_36 ?_
      rw [ast_byte (n := n) (by omega)]
      refine X_bastore (pc := 37) dX6_write_37 c1 b2 ?_
      refine X_iinc (pc := 38) (L' := [(4, .int (_ + 1)), (5, .int _), (0, .ref _), (1, .ref _), (2, .int _), (3, .int _)]) 1 dX6_write_38 rfl rfl (Nat.le_of_ble_eq_true rfl) rfl ?_
      refine X_goto (pc := 41) 3 dX6_write_41 (by decide) ?_
      rw [cb, tb8, hset_hset, show nI i + 1 = nI (i + 1) from nI_add i 1]
      refine XX.pick (L' := [(4, .int _), (0, .ref _), (1, .ref _), (2, .int _), (3, .int _)]) [0, 2, 3, 4, 5] rfl ?_
      refine ih (i + 1) (by omega) _ (fun j => ?_)
      unfold upd
      by_cases e : j = fr + i
      · rw [if_pos e, if_pos (by omega), e, show fr + many - 1 - (fr + i) = m by omega]
      · rw [if_neg e, hf j]
        by_cases c : fr ≤ j ∧ j < fr + i
        · rw [if_pos c, if_pos (by omega)]
        · rw [if_neg c, if_neg (by omega)]
  refine X_iconst (pc := 0) (x := 0) dX6_write_0 (by decide) ?_
  refine X_istore (pc := 1) (L' := [(4, .int _), (0, .ref _), (1, .ref _), (2, .int _), (3, .int _)]) dX6_write_1 (Nat.le_of_ble_eq_true rfl) rfl ?_
  have := loop many 0 (by omega) ft (fun j => by rw [if_neg (by omega)])
  rw [hset_same ht] at this
  exact this
