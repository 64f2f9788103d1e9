set_option maxRecDepth 100000
/-! the reference: the product in the wide row -/
def sh (i : Nat) (f : Nat → Int32) : Nat → Int32 := fun j => f (i + j)
theorem V_split (a b : Nat) (f : Nat → Int32) : V (a + b) f = V a f + 2 ^ (32 * a) * V b (sh a f) := by
  induction b with
  | zero => show V a f = V a f + 2 ^ (32 * a) * 0; omega
  | succ b ih =>
    show V (a + b) f + u32 (f (a + b)) * 2 ^ (32 * (a + b)) = V a f + 2 ^ (32 * a) * (V b (sh a f) + u32 (f (a + b)) * 2 ^ (32 * b))
    rw [ih, Nat.mul_add 32, Nat.pow_add]
    generalize (2 : Nat) ^ (32 * a) = A
    generalize (2 : Nat) ^ (32 * b) = B
    generalize V b (sh a f) = v
    generalize u32 (f (a + b)) = u
    grind
theorem V_sh_upd {k i : Nat} {f : Nat → Int32} {x : Int32} : V (k + 1) (sh i (upd f (i + k) x)) = V k (sh i f) + u32 x * 2 ^ (32 * k) := by
  show V k (sh i (upd f (i + k) x)) + u32 (upd f (i + k) x (i + k)) * 2 ^ (32 * k) = _
  rw [pk_us, V_congr (f := sh i (upd f (i + k) x)) (f' := sh i f) fun j hj => pk_un (by omega)]
theorem V_mulN {Vf Vf0 Vb K c c' a b x y : Nat} (hv : Vf + c * K = Vf0 + a * Vb) (hs : x + c' * 2 ^ 32 = c + (a * b + y)) : Vf + x * K + c' * (2 ^ 32 * K) = Vf0 + y * K + a * (Vb + b * K) := by
  have h2 : (x + c' * 2 ^ 32) * K = (c + (a * b + y)) * K := by rw [hs]
  grind
theorem mulN_lt {a b c y : Nat} (ha : a < 2 ^ 32) (hb : b < 2 ^ 32) (hc : c < 2 ^ 32) (hy : y < 2 ^ 32) : c + (a * b + y) < 2 ^ 64 := by
  have : a * b ≤ (2 ^ 32 - 1) * (2 ^ 32 - 1) := Nat.mul_le_mul (by omega) (by omega)
  omega
theorem pow_s (k : Nat) : (2 : Nat) ^ (32 * (k + 1)) = 2 ^ 32 * 2 ^ (32 * k) := by rw [← Nat.pow_add]; congr 1; omega
set_option maxHeartbeats 8000000 in
theorem mprod (g : GX) {h : AH} {M0 M am ah a b to n na nb aw : Nat} {s : Int32} {fl : List Value} {ra rb : Bool} {fa fb fw : Nat → Int32} (hO : h M0 = some (Ob 11 fl)) (hM : h M = some (Ob 12 [.ref am, .ref ah, .int (nI n), .int s])) (ha : h a = some (Ai ra 0 na fa)) (hb : h b = some (Ai rb 0 nb fb)) (hw : h aw = some (Ai false 0 130 fw))
    (f1 : fl[1]? = some (.ref aw)) (ea : a ≠ aw) (eb : b ≠ aw) (h64 : n ≤ 64) (hs : n ≤ na ∧ n ≤ nb) (hl : na < 2 ^ 31 ∧ nb < 2 ^ 31) (Q : Outcome → AH → Prop)
    (hQ : ∀ f, V (2 * n) f = V n fa * V n fb → XX g MX10_times ({ frames := 3, cells := 0, slots := 0, locals := 83 } : Room) Q 0 0 134 [(5, .int (nI n)), (0, .ref M0), (1, .ref M), (2, .ref a), (3, .ref b), (4, .ref to)] [] (hset h aw (Ai false 0 130 f))) :
    XX g MX10_times ({ frames := 3, cells := 0, slots := 0, locals := 83 } : Room) Q 0 0 0 [(0, .ref M0), (1, .ref M), (2, .ref a), (3, .ref b), (4, .ref to)] [] h := by
  have out : ∀ f, hset h aw (Ai false 0 130 f) M0 = some (Ob 11 fl) ∧ hset h aw (Ai false 0 130 f) a = some (Ai ra 0 na fa) ∧ hset h aw (Ai false 0 130 f) b = some (Ai rb 0 nb fb) := fun f =>
    ⟨by rw [hset_ne (ne_of hO hw (fun e => by cases e))]; exact hO, by rw [hset_ne ea]; exact ha, by rw [hset_ne eb]; exact hb⟩
  -- the inner loop
  have inner : ∀ (i : Nat) (f0 : Nat → Int32), i < n → (∀ (f : Nat → Int32) (c : Nat), c < 2 ^ 32 → (∀ j, j < i ∨ i + n ≤ j → f j = f0 j) → V n (sh i f) + c * 2 ^ (32 * n) = V n (sh i f0) + u32 (fa i) * V n fb →
      XX g MX10_times ({ frames := 3, cells := 0, slots := 0, locals := 83 } : Room) Q 0 0 115 [(7, .long (lN c)), (6, .int (nI i)), (5, .int (nI n)), (0, .ref M0), (1, .ref M), (2, .ref a), (3, .ref b), (4, .ref to)] [] (hset h aw (Ai false 0 130 f))) →
      ∀ k, k ≤ n → ∀ (f : Nat → Int32) (c : Nat), c < 2 ^ 32 → (∀ j, j < i ∨ i + k ≤ j → f j = f0 j) → V k (sh i f) + c * 2 ^ (32 * k) = V k (sh i f0) + u32 (fa i) * V k fb →
      XX g MX10_times ({ frames := 3, cells := 0, slots := 0, locals := 83 } : Room) Q 0 0 48 [(9, .int (nI k)), (7, .long (lN c)), (6, .int (nI i)), (5, .int (nI n)), (0, .ref M0), (1, .ref M), (2, .ref a), (3, .ref b), (4, .ref to)] [] (hset h aw (Ai false 0 130 f)) := by
    intro i f0 hi hx
    refine loop_up n ?_ ?_
    · intro f c hc hf hv
      refine X_iload (pc := 48) 0 dX10_times_48 rfl ?_
      refine X_iload (pc := 50) 3 dX10_times_50 rfl ?_
      refine X_cge (pc := 52) 115 dX10_times_52 (by decide) (by omega) (Nat.le_refl n) (fun _ => ?_) (fun c => absurd c (Nat.lt_irrefl _))
      refine XX.pick (L' := [(7, .long _), (6, .int _), (5, .int _), (0, .ref _), (1, .ref _), (2, .ref _), (3, .ref _), (4, .ref _)]) [1, 2, 3, 4, 5, 6, 7, 8] rfl ?_
      exact hx f c hc hf hv
    · intro k hk ih f c hc hf hv
      obtain ⟨o1, o2, o3⟩ := out f
      have ck : (nI k).toNatClampNeg = k := nI_clamp (by omega)
      have ci : (nI i).toNatClampNeg = i := nI_clamp (by omega)
      have cik : (nI (i + k)).toNatClampNeg = i + k := nI_clamp (by omega)
      have b1 : vp_in (nI i) na := vp_in_nI (by omega) (by omega)
      have b2 : vp_in (nI k) nb := vp_in_nI (by omega) (by omega)
      have b3 : vp_in (nI (i + k)) 130 := vp_in_nI (by omega) (by omega)
      have l1 := u32_lt (fa i)
      have l2 := u32_lt (fb k)
      have l3 := u32_lt (f0 (i + k))
      have hs1 := mulN_lt l1 l2 hc l3
      refine X_iload (pc := 48) 0 dX10_times_48 rfl ?_
      refine X_iload (pc := 50) 3 dX10_times_50 rfl ?_
      refine X_cge (pc := 52) 115 dX10_times_52 (by decide) (by omega) (by omega) (fun c => absurd c (by omega)) (fun _ => ?_)
      refine X_lload (pc := 55) 1 dX10_times_55 rfl ?_
      refine X_aload_n (pc := 57) 6 dX10_times_57 rfl rfl ?_
      refine X_iload (pc := 58) 2 dX10_times_58 rfl ?_
      refine X_iaload (pc := 60) dX10_times_60 o2 b1 ?_
      rw [ci]
      refine X_isl (pc := 61) _ dX10_times_61 cs_X10_9 rfl (mu_ok g _ _) nX10_u (Nat.le_of_ble_eq_true rfl) (Nat.le_of_ble_eq_true rfl) (Nat.le_of_ble_eq_true rfl) (Nat.le_of_ble_eq_true rfl) (fun r1 h1 q1 => ?_)
      obtain ⟨rfl, rfl⟩ := q1
      refine X_aload_n (pc := 64) 7 dX10_times_64 rfl rfl ?_
      refine X_iload (pc := 65) 0 dX10_times_65 rfl ?_
      refine X_iaload (pc := 67) dX10_times_67 o3 b2 ?_
      rw [ck]
      refine X_isl (pc := 68) _ dX10_times_68 cs_X10_9 rfl (mu_ok g _ _) nX10_u (Nat.le_of_ble_eq_true rfl) (Nat.le_of_ble_eq_true rfl) (Nat.le_of_ble_eq_true rfl) (Nat.le_of_ble_eq_true rfl) (fun r1 h1 q1 => ?_)
      obtain ⟨rfl, rfl⟩ := q1
      refine X_lmul (pc := 71) dX10_times_71 ?_
      refine X_aload_n (pc := 72) 4 dX10_times_72 rfl rfl ?_
      refine X_getfield (pc := 73) dX10_times_73 fg_X10_36_11 o1 f1 ?_
      refine X_iload (pc := 76) 2 dX10_times_76 rfl ?_
      refine X_iload (pc := 78) 0 dX10_times_78 rfl ?_
      refine X_iadd (pc := 80) dX10_times_80 ?_
      rw [nI_add, lN_mul]
      refine X_iaload (pc := 81) dX10_times_81 (hset_self _ _ _) b3 ?_
      rw [cik, hf (i + k) (Or.inr (Nat.le_refl _))]
      refine X_isl (pc := 82) _ dX10_times_82 cs_X10_9 rfl (mu_ok g _ _) nX10_u (Nat.le_of_ble_eq_true rfl) (Nat.le_of_ble_eq_true rfl) (Nat.le_of_ble_eq_true rfl) (Nat.le_of_ble_eq_true rfl) (fun r1 h1 q1 => ?_)
      obtain ⟨rfl, rfl⟩ := q1
      refine X_ladd (pc := 85) dX10_times_85 ?_
      refine X_ladd (pc := 86) dX10_times_86 ?_
      rw [lN_add, lN_add]
      refine X_lstore (pc := 87) (L' := [(7, .long _), (9, .int _), (6, .int _), (5, .int _), (0, .ref _), (1, .ref _), (2, .ref _), (3, .ref _), (4, .ref _)]) dX10_times_87 (Nat.le_of_ble_eq_true rfl) rfl ?_
      refine X_aload_n (pc := 89) 4 dX10_times_89 rfl rfl ?_
      refine X_getfield (pc := 90) dX10_times_90 fg_X10_36_11 o1 f1 ?_
      refine X_iload (pc := 93) 2 dX10_times_93 rfl ?_
      refine X_iload (pc := 95) 1 dX10_times_95 rfl ?_
      refine X_iadd (pc := 97) dX10_times_97 ?_
      rw [nI_add]
      refine X_lload (pc := 98) 0 dX10_times_98 rfl ?_
      refine X_l2i (pc := 100) dX10_times_100 ?_
      rw [lN_i]
      refine X_iastore (pc := 101) dX10_times_101 (hset_self _ _ _) b3 ?_
      refine XX.eqh (hset_hset _ _ _ _) ?_
      rw [cik]
      refine X_lload (pc := 102) 0 dX10_times_102 rfl ?_
      refine X_bipush (pc := 104) (x := 32) dX10_times_104 (by decide) ?_
      refine X_lushr (pc := 106) dX10_times_106 ?_
      rw [lsr32 hs1]
      refine X_lstore (pc := 107) (L' := [(7, .long _), (9, .int _), (6, .int _), (5, .int _), (0, .ref _), (1, .ref _), (2, .ref _), (3, .ref _), (4, .ref _)]) dX10_times_107 (Nat.le_of_ble_eq_true rfl) rfl ?_
      refine X_iinc (pc := 109) (L' := [(9, .int (_ + 1)), (7, .long _), (6, .int _), (5, .int _), (0, .ref _), (1, .ref _), (2, .ref _), (3, .ref _), (4, .ref _)]) 1 dX10_times_109 rfl rfl (Nat.le_of_ble_eq_true rfl) rfl ?_
      refine X_goto (pc := 112) 48 dX10_times_112 (by decide) ?_
      rw [nI_1]
      refine XX.pick (L' := [(9, .int _), (7, .long _), (6, .int _), (5, .int _), (0, .ref _), (1, .ref _), (2, .ref _), (3, .ref _), (4, .ref _)]) [0, 1, 2, 3, 4, 5, 6, 7, 8] rfl ?_
      refine ih _ _ (by omega) (fun j hj => ?_) ?_
      · rw [pk_un (by omega)]
        exact hf j (by omega)
      · rw [V_sh_upd, pow_s]
        exact V_mulN (y := u32 (f0 (i + k))) hv (by rw [u32_nI]; omega)
  -- the outer loop
  have outer := loop_up (P := fun i => ∀ f : Nat → Int32, V (n + i) f = V i fa * V n fb →
      XX g MX10_times ({ frames := 3, cells := 0, slots := 0, locals := 83 } : Room) Q 0 0 35 [(6, .int (nI i)), (5, .int (nI n)), (0, .ref M0), (1, .ref M), (2, .ref a), (3, .ref b), (4, .ref to)] [] (hset h aw (Ai false 0 130 f))) n
    (by
      intro f hv
      refine X_iload (pc := 35) 0 dX10_times_35 rfl ?_
      refine X_iload (pc := 37) 1 dX10_times_37 rfl ?_
      refine X_cge (pc := 39) 134 dX10_times_39 (by decide) (by omega) (Nat.le_refl n) (fun _ => ?_) (fun c => absurd c (Nat.lt_irrefl _))
      refine XX.pick (L' := [(5, .int _), (0, .ref _), (1, .ref _), (2, .ref _), (3, .ref _), (4, .ref _)]) [1, 2, 3, 4, 5, 6] rfl ?_
      exact hQ f (by rw [← hv]; congr 1; omega))
    (fun i hi ih f hv => by
      refine X_iload (pc := 35) 0 dX10_times_35 rfl ?_
      refine X_iload (pc := 37) 1 dX10_times_37 rfl ?_
      refine X_cge (pc := 39) 134 dX10_times_39 (by decide) (by omega) (by omega) (fun c => absurd c (by omega)) (fun _ => ?_)
      refine X_lconst (pc := 42) (x := 0) dX10_times_42 (by decide) ?_
      refine X_lstore (pc := 43) (L' := [(7, .long _), (6, .int _), (5, .int _), (0, .ref _), (1, .ref _), (2, .ref _), (3, .ref _), (4, .ref _)]) dX10_times_43 (Nat.le_of_ble_eq_true rfl) rfl ?_
      refine X_iconst (pc := 45) (x := 0) dX10_times_45 (by decide) ?_
      refine X_istore (pc := 46) (L' := [(9, .int _), (7, .long _), (6, .int _), (5, .int _), (0, .ref _), (1, .ref _), (2, .ref _), (3, .ref _), (4, .ref _)]) dX10_times_46 (Nat.le_of_ble_eq_true rfl) rfl ?_
      refine inner i f hi ?_ 0 (Nat.zero_le n) f 0 (by decide) (fun _ _ => rfl) (by show 0 + 0 * _ = 0 + _ * 0; omega)
      intro f' c hc hf' hv'
      obtain ⟨o1, o2, o3⟩ := out f'
      have cin : (nI (i + n)).toNatClampNeg = i + n := nI_clamp (by omega)
      have b3 : vp_in (nI (i + n)) 130 := vp_in_nI (by omega) (by omega)
      refine X_aload_n (pc := 115) 3 dX10_times_115 rfl rfl ?_
      refine X_getfield (pc := 116) dX10_times_116 fg_X10_36_11 o1 f1 ?_
      refine X_iload (pc := 119) 1 dX10_times_119 rfl ?_
      refine X_iload (pc := 121) 2 dX10_times_121 rfl ?_
      refine X_iadd (pc := 123) dX10_times_123 ?_
      rw [nI_add]
      refine X_lload (pc := 124) 0 dX10_times_124 rfl ?_
      refine X_l2i (pc := 126) dX10_times_126 ?_
      rw [lN_i]
      refine X_iastore (pc := 127) dX10_times_127 (hset_self _ _ _) b3 ?_
      refine X_iinc (pc := 128) (L' := [(6, .int (_ + 1)), (7, .long _), (5, .int _), (0, .ref _), (1, .ref _), (2, .ref _), (3, .ref _), (4, .ref _)]) 1 dX10_times_128 rfl rfl (Nat.le_of_ble_eq_true rfl) rfl ?_
      refine X_goto (pc := 131) 35 dX10_times_131 (by decide) ?_
      refine XX.eqh (hset_hset _ _ _ _) ?_
      rw [cin, nI_1]
      refine XX.pick (L' := [(6, .int _), (5, .int _), (0, .ref _), (1, .ref _), (2, .ref _), (3, .ref _), (4, .ref _)]) [0, 2, 3, 4, 5, 6, 7] rfl ?_
      refine ih _ ?_
      have e1 : V (n + (i + 1)) (upd f' (i + n) (nI c)) = V (n + i) f' + c * 2 ^ (32 * (n + i)) := by
        show V (n + i) _ + u32 (upd f' (i + n) (nI c) (n + i)) * _ = _
        rw [show i + n = n + i by omega, pk_us, V_congr (f := upd f' (n + i) (nI c)) (f' := f') fun j hj => pk_un (by omega), u32_nI, Nat.mod_eq_of_lt hc]
        rfl
      rw [e1]
      have e2 := V_split i n f'
      have e3 := V_split i n f
      rw [show i + n = n + i by omega] at e2 e3
      have e4 : V i f' = V i f := V_congr fun j hj => hf' j (Or.inl hj)
      rw [hv] at e3
      rw [e2, e4]
      show _ = (V i fa + u32 (fa i) * 2 ^ (32 * i)) * V n fb
      rw [Nat.mul_add 32, Nat.pow_add]
      generalize (2 : Nat) ^ (32 * i) = K at *
      generalize (2 : Nat) ^ (32 * n) = N at *
      generalize V n (sh i f') = v1 at *
      generalize V n (sh i f) = v2 at *
      generalize V i f = v3 at *
      have e5 : K * (v1 + c * N) = K * (v2 + u32 (fa i) * V n fb) := by rw [hv']
      generalize V n fb = vb at *
      generalize V i fa = va at *
      generalize u32 (fa i) = u at *
      grind)
  -- zeros
  have zeros := loop_up (P := fun k => ∀ f : Nat → Int32, (∀ j, j < k → f j = 0) →
      XX g MX10_times ({ frames := 3, cells := 0, slots := 0, locals := 83 } : Room) Q 0 0 9 [(6, .int (nI k)), (5, .int (nI n)), (0, .ref M0), (1, .ref M), (2, .ref a), (3, .ref b), (4, .ref to)] [] (hset h aw (Ai false 0 130 f))) (2 * n)
    (by
      intro f hf
      refine X_iload (pc := 9) 0 dX10_times_9 rfl ?_
      refine X_iconst (pc := 11) (x := 2) dX10_times_11 (by decide) ?_
      refine X_iload (pc := 12) 1 dX10_times_12 rfl ?_
      refine X_imul (pc := 14) dX10_times_14 ?_
      rw [show (2 : Int32) * nI n = nI (2 * n) from pk_mul 2 n]
      refine X_cge (pc := 15) 32 dX10_times_15 (by decide) (by omega) (Nat.le_refl _) (fun _ => ?_) (fun c => absurd c (Nat.lt_irrefl _))
      refine X_iconst (pc := 32) (x := 0) dX10_times_32 (by decide) ?_
      refine X_istore (pc := 33) (L' := [(6, .int _), (5, .int _), (0, .ref _), (1, .ref _), (2, .ref _), (3, .ref _), (4, .ref _)]) dX10_times_33 (Nat.le_of_ble_eq_true rfl) rfl ?_
      refine outer 0 (Nat.zero_le n) f ?_
      rw [(V_0 (n + 0) f).mpr fun j hj => hf j (by omega)]
      show 0 = 0 * _
      omega)
    (fun k hk ih f hf => by
      obtain ⟨o1, o2, o3⟩ := out f
      have ck : (nI k).toNatClampNeg = k := nI_clamp (by omega)
      have b3 : vp_in (nI k) 130 := vp_in_nI (by omega) (by omega)
      refine X_iload (pc := 9) 0 dX10_times_9 rfl ?_
      refine X_iconst (pc := 11) (x := 2) dX10_times_11 (by decide) ?_
      refine X_iload (pc := 12) 1 dX10_times_12 rfl ?_
      refine X_imul (pc := 14) dX10_times_14 ?_
      rw [show (2 : Int32) * nI n = nI (2 * n) from pk_mul 2 n]
      refine X_cge (pc := 15) 32 dX10_times_15 (by decide) (by omega) (by omega) (fun c => absurd c (by omega)) (fun _ => ?_)
      refine X_aload_n (pc := 18) 2 dX10_times_18 rfl rfl ?_
      refine X_getfield (pc := 19) dX10_times_19 fg_X10_36_11 o1 f1 ?_
      refine X_iload (pc := 22) 0 dX10_times_22 rfl ?_
      refine X_iconst (pc := 24) (x := 0) dX10_times_24 (by decide) ?_
      refine X_iastore (pc := 25) dX10_times_25 (hset_self _ _ _) b3 ?_
      refine X_iinc (pc := 26) (L' := [(6, .int (_ + 1)), (5, .int _), (0, .ref _), (1, .ref _), (2, .ref _), (3, .ref _), (4, .ref _)]) 0 dX10_times_26 rfl rfl (Nat.le_of_ble_eq_true rfl) rfl ?_
      refine X_goto (pc := 29) 9 dX10_times_29 (by decide) ?_
      refine XX.eqh (hset_hset _ _ _ _) ?_
      rw [ck, nI_1]
      refine ih _ (fun j hj => ?_)
      by_cases e : j = k
      · subst e; exact pk_us
      · rw [pk_un e]; exact hf j (by omega))
  refine X_aload_n (pc := 0) 1 dX10_times_0 rfl rfl ?_
  refine X_getfield (pc := 1) dX10_times_1 fg_X10_13_12 (by assumption) (by first | rfl | assumption) ?_
  refine X_istore (pc := 4) (L' := [(5, .int _), (0, .ref _), (1, .ref _), (2, .ref _), (3, .ref _), (4, .ref _)]) dX10_times_4 (Nat.le_of_ble_eq_true rfl) rfl ?_
  refine X_iconst (pc := 6) (x := 0) dX10_times_6 (by decide) ?_
  refine X_istore (pc := 7) (L' := [(6, .int _), (5, .int _), (0, .ref _), (1, .ref _), (2, .ref _), (3, .ref _), (4, .ref _)]) dX10_times_7 (Nat.le_of_ble_eq_true rfl) rfl ?_
  refine XX.eqh (hset_same hw).symm ?_
  exact zeros 0 (Nat.zero_le _) fw (fun j hj => absurd hj (Nat.not_lt_zero j))
