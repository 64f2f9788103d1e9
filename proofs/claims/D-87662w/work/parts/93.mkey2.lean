set_option maxRecDepth 100000
/-! the reference: keys of type 2 -/
theorem or3 {a b c : Nat} (ha : a < 256) (hb : b < 256) (hc : c < 256) : ((nI a <<< ((16 : Int32) &&& 31)) ||| (nI b <<< ((8 : Int32) &&& 31))) ||| nI c = nI (a * 65536 + b * 256 + c) := by
  have h1 : u32 (nI a <<< ((16 : Int32) &&& 31)) = 2 ^ 16 * a := by
    have : u32 (nI a <<< ((16 : Int32) &&& 31)) = u32 (nI a) * 2 ^ 16 % 2 ^ 32 := pk_shl _ _ 16 (sl_n 16 (by decide))
    rw [this, show u32 (nI a) = a from pk_tn (by omega)]
    omega
  have h2 : u32 (nI b <<< ((8 : Int32) &&& 31)) = b * 256 := by
    have : u32 (nI b <<< ((8 : Int32) &&& 31)) = u32 (nI b) * 2 ^ 8 % 2 ^ 32 := pk_shl _ _ 8 (sl_n 8 (by decide))
    rw [this, show u32 (nI b) = b from pk_tn (by omega)]
    omega
  have h3 := u32_or_dis h1 h2 (by omega)
  have h4 : u32 ((nI a <<< ((16 : Int32) &&& 31)) ||| (nI b <<< ((8 : Int32) &&& 31))) = 2 ^ 8 * (256 * a + b) := by rw [h3]; omega
  have h5 := u32_or_dis h4 (show u32 (nI c) = c from pk_tn (by omega)) (by omega)
  apply u32_inj
  rw [h5, show u32 (nI (a * 65536 + b * 256 + c)) = a * 65536 + b * 256 + c from pk_tn (by omega)]
  omega
theorem and1 (x : Int32) : x &&& 1 = 0 ↔ u32 x % 2 = 0 := by
  have e : x &&& 1 = nI (u32 x % 2) := pk_and x (m := 1) 1 rfl
  rw [e]
  constructor
  · intro z
    exact nI_inj' (b := 0) (by omega) (by decide) z
  · intro z
    rw [z]
    rfl
theorem b8_0 {x : Int32} (h : tb (u32 x) = x) (hx : x ≠ 0) : 0 < b8 x := by
  apply Nat.pos_of_ne_zero
  intro z
  apply hx
  rw [← h, ← tb_mod]
  show tb (b8 x) = 0
  rw [z]
  rfl
theorem num_top {T : List Int32} {len : Nat} (h0 : 0 < len) (hB : IsB T) (hx : T.getD 0 0 ≠ 0) : 256 ^ (len - 1) ≤ num T 0 len := by
  obtain ⟨q, rfl⟩ : ∃ q, len = q + 1 := ⟨len - 1, by omega⟩
  unfold num
  rw [Nat.zero_add]
  show _ ≤ bsm (fun q => T.getD q 0) (q + 1) q + b8 (T.getD (q + 1 - 1 - q) 0) * 256 ^ q
  rw [show q + 1 - 1 - q = 0 by omega, Nat.add_sub_cancel]
  have := b8_0 (hB.at' 0) hx
  have h2 := Nat.mul_le_mul_right (256 ^ q) this
  omega
theorem num_lt (T : List Int32) (fr len : Nat) : num T fr len < 256 ^ len := bsm_lt _ _ _
theorem top_nz {n len m : Nat} {f : Nat → Int32} (hn : n = (len + 3) / 4) (hl : 0 < len) (hV : V n f = m) (hm : 256 ^ (len - 1) ≤ m) : u32 (f (n - 1)) ≠ 0 := by
  intro z
  obtain ⟨q, rfl⟩ : ∃ q, n = q + 1 := ⟨n - 1, by omega⟩
  have h1 : V (q + 1) f = V q f + u32 (f q) * 2 ^ (32 * q) := rfl
  rw [Nat.add_sub_cancel] at z
  rw [h1, z, Nat.zero_mul, Nat.add_zero] at hV
  have h2 := V_lt q f
  have h3 : (256 : Nat) ^ (len - 1) = 2 ^ (8 * (len - 1)) := by rw [show (256 : Nat) = 2 ^ 8 from rfl, ← Nat.pow_mul]
  have h4 : (2 : Nat) ^ (32 * q) ≤ 2 ^ (8 * (len - 1)) := Nat.pow_le_pow_right (by decide) (by omega)
  omega
theorem bits_eq {n s m : Nat} {f : Nat → Int32} (hn : 0 < n) (hs : s < 32) (hV : V n f = m * 2 ^ s) (ht : 2 ^ 31 ≤ u32 (f (n - 1))) : btN n s = bitsN m := by
  have h1 := V_lt n f
  have h2 : 2 ^ (32 * n - 1) ≤ V n f := by
    obtain ⟨q, rfl⟩ : ∃ q, n = q + 1 := ⟨n - 1, by omega⟩
    rw [Nat.add_sub_cancel] at ht
    show _ ≤ V q f + u32 (f q) * 2 ^ (32 * q)
    have := Nat.mul_le_mul_right (2 ^ (32 * q)) ht
    rw [← Nat.pow_add] at this
    rw [show 32 * (q + 1) - 1 = 31 + 32 * q by omega]
    omega
  rw [hV] at h1 h2
  have e1 : (2 : Nat) ^ (32 * n - 1) = 2 ^ (32 * n - 1 - s) * 2 ^ s := by rw [← Nat.pow_add]; congr 1; omega
  have e2 : (2 : Nat) ^ (32 * n) = 2 ^ (32 * n - s) * 2 ^ s := by rw [← Nat.pow_add]; congr 1; omega
  rw [e1] at h2
  rw [e2] at h1
  have h3 := Nat.le_of_mul_le_mul_right h2 (Nat.two_pow_pos s)
  have h4 := Nat.lt_of_mul_lt_mul_right h1
  have hm0 : m ≠ 0 := fun z => by rw [z] at h3; exact absurd h3 (Nat.not_le.mpr (Nat.two_pow_pos _))
  have h5 := (Nat.le_log2 hm0).mpr h3
  have h6 := (Nat.log2_lt hm0).mpr h4
  unfold btN bitsN
  omega
section MK2
variable {A : Nat → Nat} {X : AH} {R R' : Nat → Nat} {I I' : Nat → Nat → Int32} {S S' : Nat → List Int32} {F F' : Nat → Int32} {h : AH} {N : Nat → Nat} {L : Nat → List Int32}
set_option maxHeartbeats 16000000 in
theorem keyTwo_ok (g : GX) (wf : Wf N L) (w : MW A X R I S F h) (ms : MS N L R I (up S 81 []) F) {T : List Int32} (hT : S 81 = T) (hTl : T.length ≤ 1200) (hTB : IsB T) :
    MT g MX10_keyTwo ({ frames := 5, cells := 0, slots := 0, locals := 117 } : Room) [.ref (A 96), .int (nI T.length)] h (RI (MQ3 A X (cIf (okTwo T) (addK N L 2 (num T ((T.length - 4) / 2 + 3) ((T.length - 4) / 2)) (num T 0 ((T.length - 4) / 2)) (eN T ((T.length - 4) / 2)) ((T.length - 4) / 2) (b8 (T.getD (T.length - 1) 0))) (-2, N, L)))) := by
  refine MT.of (by decide) (Nat.le_of_ble_eq_true rfl) ?_
  obtain ⟨f81, c81, p81, -⟩ := w.s 81 rfl
  rw [hT] at p81
  have s63 : (S 63).length = 192 := by have := ms.2.2.2.2.2.2.1; rwa [up_ne (by decide)] at this
  have f70 : F 70 = nI (N 0) := ms.f70
  have h6 := wf.1
  generalize hPost : RI (MQ3 A X (cIf (okTwo T) (addK N L 2 (num T ((T.length - 4) / 2 + 3) ((T.length - 4) / 2)) (num T 0 ((T.length - 4) / 2)) (eN T ((T.length - 4) / 2)) ((T.length - 4) / 2) (b8 (T.getD (T.length - 1) 0))) (-2, N, L))) = Post
  have nok : ∀ {R' I' S' F' h'}, MW A X R' I' S' F' h' → MS N L R' I' (up S' 81 []) F' → ¬ okTwo T → Post (.returned (some (.int (-2)))) h' := by
    intro R' I' S' F' h' w' ms' hc
    subst hPost
    rw [cIf_f hc]
    exact ⟨_, rfl, rfl, MRep.of w' ms'⟩
  have r25 : ∀ L', ¬ okTwo T → XX g MX10_keyTwo ({ frames := 5, cells := 0, slots := 0, locals := 117 } : Room) Post 0 0 25 L' [] h := by
    intro L' hc
    refine X_bipush (pc := 25) (x := (-2)) dX10_keyTwo_25 (by decide) ?_
    refine X_ireturn (pc := 27) dX10_keyTwo_27 rfl (Nat.le_of_ble_eq_true rfl) (Nat.le_of_ble_eq_true rfl) ?_
    exact nok w ms hc
  have r121 : ∀ L', ¬ okTwo T → XX g MX10_keyTwo ({ frames := 5, cells := 0, slots := 0, locals := 117 } : Room) Post 0 0 121 L' [] h := by
    intro L' hc
    refine X_bipush (pc := 121) (x := (-2)) dX10_keyTwo_121 (by decide) ?_
    refine X_ireturn (pc := 123) dX10_keyTwo_123 rfl (Nat.le_of_ble_eq_true rfl) (Nat.le_of_ble_eq_true rfl) ?_
    exact nok w ms hc
  have r149 : ∀ L', ¬ okTwo T → XX g MX10_keyTwo ({ frames := 5, cells := 0, slots := 0, locals := 117 } : Room) Post 0 0 149 L' [] h := by
    intro L' hc
    refine X_bipush (pc := 149) (x := (-2)) dX10_keyTwo_149 (by decide) ?_
    refine X_ireturn (pc := 151) dX10_keyTwo_151 rfl (Nat.le_of_ble_eq_true rfl) (Nat.le_of_ble_eq_true rfl) ?_
    exact nok w ms hc
  refine X_iload_n (pc := 0) 1 dX10_keyTwo_0 rfl rfl ?_
  refine X_iconst (pc := 1) (x := 4) dX10_keyTwo_1 (by decide) ?_
  refine X_isub (pc := 2) dX10_keyTwo_2 ?_
  refine X_iconst (pc := 3) (x := 2) dX10_keyTwo_3 (by decide) ?_
  refine X_idiv (pc := 4) dX10_keyTwo_4 (show ¬ (2 : Int32) = 0 by decide) ?_
  refine X_istore_n (pc := 5) (L' := [(2, .int _), (0, .ref _), (1, .int _)]) dX10_keyTwo_5 rfl (Nat.le_of_ble_eq_true rfl) rfl ?_
  refine X_iload_n (pc := 6) 2 dX10_keyTwo_6 rfl rfl ?_
  refine X_iconst (pc := 7) (x := 2) dX10_keyTwo_7 (by decide) ?_
  refine X_irem (pc := 8) dX10_keyTwo_8 (show ¬ (2 : Int32) = 0 by decide) ?_
  rw [show nI T.length - nI T.length / 2 * 2 = nI (T.length % 2) from pk_rem (d := 2) (by omega) (by decide) (by decide)]
  by_cases c1 : T.length % 2 = 0
  rotate_left
  · refine X_if_ne (pc := 9) 25 dX10_keyTwo_9 (by decide) (fun _ => r25 _ (fun z => c1 z.1)) (fun z => absurd (nI_inj' (b := 0) (by omega) (by decide) z) c1)
  refine X_if_ne (pc := 9) 25 dX10_keyTwo_9 (by decide) (fun z => absurd (by rw [c1]; rfl) z) (fun _ => ?_)
  by_cases c0 : T.length < 4
  · have hlt : (nI T.length - 4) / 2 < 66 := by
      obtain e | e : T.length = 0 ∨ T.length = 2 := by omega
      · rw [e]; decide
      · rw [e]; decide
    refine X_iload_n (pc := 12) 0 dX10_keyTwo_12 rfl rfl ?_
    refine X_bipush (pc := 13) (x := 66) dX10_keyTwo_13 (by decide) ?_
    exact X_icmp_lt (pc := 15) 25 dX10_keyTwo_15 (by decide) (fun _ => r25 _ (fun z => absurd z.2.1 (by omega))) (fun z => absurd hlt z)
  rw [show nI T.length - 4 = nI (T.length - 4) from pk_sub (b := 4) (by omega), show nI (T.length - 4) / 2 = nI ((T.length - 4) / 2) from pk_div (d := 2) (by omega) (by decide) (by decide)]
  have hTn : T.length = 2 * ((T.length - 4) / 2) + 4 := by omega
  have hokd : okTwo T = okTwo T := rfl
  generalize hlen : (T.length - 4) / 2 = len at *
  refine X_iload_n (pc := 12) 0 dX10_keyTwo_12 rfl rfl ?_
  refine X_bipush (pc := 13) (x := 66) dX10_keyTwo_13 (by decide) ?_
  by_cases c2 : len < 66
  · exact X_icmp_lt (pc := 15) 25 dX10_keyTwo_15 (by decide) (fun _ => r25 _ (fun z => absurd z.2.1 (by omega))) (fun z => absurd (nI_lt (b := 66) c2 (by decide)) z)
  refine X_icmp_lt (pc := 15) 25 dX10_keyTwo_15 (by decide) (fun z => absurd ((nI_ltI (b := 66) (by omega) (by decide)).mp z) c2) (fun _ => ?_)
  refine X_iload_n (pc := 18) 0 dX10_keyTwo_18 rfl rfl ?_
  refine X_sipush (pc := 19) (x := 256) dX10_keyTwo_19 (by decide) ?_
  by_cases c3 : 256 < len
  · exact X_icmp_le (pc := 22) 28 dX10_keyTwo_22 (by decide) (fun z => absurd z (nI_ge (a := 256) c3 (by omega))) (fun _ => r25 _ (fun z => absurd z.2.2.1 (by omega)))
  refine X_icmp_le (pc := 22) 28 dX10_keyTwo_22 (by decide) (fun _ => ?_) (fun z => absurd (nI_le (b := 256) (by omega) (by decide)) z)
  have bt : ∀ j, j < 1208 → vp_in (nI j) 1208 := fun j hj => vp_in_nI hj (by decide)
  have ct : ∀ j, j < 1208 → (nI j).toNatClampNeg = j := fun j hj => nI_clamp (by omega)
  have d4 : ∀ x : Int32, x &&& 255 = nI (b8 x) := fun x => pk_and x (m := 255) 8 rfl
  have b8l : ∀ x : Int32, b8 x < 256 := fun x => Nat.mod_lt _ (by decide)
  refine X_aload_n (pc := 28) 1 dX10_keyTwo_28 rfl rfl ?_
  refine X_getfield (pc := 29) dX10_keyTwo_29 fg_X10_534_11 (MW.ob w) mf_81 ?_
  refine X_iload_n (pc := 32) 0 dX10_keyTwo_32 rfl rfl ?_
  refine X_baload (pc := 33) dX10_keyTwo_33 c81 (bt _ (by omega)) ?_
  refine X_sipush (pc := 34) (x := 255) dX10_keyTwo_34 (by decide) ?_
  refine X_iand (pc := 37) dX10_keyTwo_37 ?_
  refine X_bipush (pc := 38) (x := 16) dX10_keyTwo_38 (by decide) ?_
  refine X_ishl (pc := 40) dX10_keyTwo_40 ?_
  refine X_aload_n (pc := 41) 1 dX10_keyTwo_41 rfl rfl ?_
  refine X_getfield (pc := 42) dX10_keyTwo_42 fg_X10_534_11 (MW.ob w) mf_81 ?_
  refine X_iload_n (pc := 45) 0 dX10_keyTwo_45 rfl rfl ?_
  refine X_iconst (pc := 46) (x := 1) dX10_keyTwo_46 (by decide) ?_
  refine X_iadd (pc := 47) dX10_keyTwo_47 ?_
  rw [ct _ (by omega), p81 _ (by omega), show nI len + 1 = nI (len + 1) from nI_add len 1]
  refine X_baload (pc := 48) dX10_keyTwo_48 c81 (bt _ (by omega)) ?_
  refine X_sipush (pc := 49) (x := 255) dX10_keyTwo_49 (by decide) ?_
  refine X_iand (pc := 52) dX10_keyTwo_52 ?_
  refine X_bipush (pc := 53) (x := 8) dX10_keyTwo_53 (by decide) ?_
  refine X_ishl (pc := 55) dX10_keyTwo_55 ?_
  refine X_ior (pc := 56) dX10_keyTwo_56 ?_
  refine X_aload_n (pc := 57) 1 dX10_keyTwo_57 rfl rfl ?_
  refine X_getfield (pc := 58) dX10_keyTwo_58 fg_X10_534_11 (MW.ob w) mf_81 ?_
  refine X_iload_n (pc := 61) 0 dX10_keyTwo_61 rfl rfl ?_
  refine X_iconst (pc := 62) (x := 2) dX10_keyTwo_62 (by decide) ?_
  refine X_iadd (pc := 63) dX10_keyTwo_63 ?_
  rw [ct _ (by omega), p81 _ (by omega), show nI len + 2 = nI (len + 2) from nI_add len 2]
  refine X_baload (pc := 64) dX10_keyTwo_64 c81 (bt _ (by omega)) ?_
  refine X_sipush (pc := 65) (x := 255) dX10_keyTwo_65 (by decide) ?_
  refine X_iand (pc := 68) dX10_keyTwo_68 ?_
  refine X_ior (pc := 69) dX10_keyTwo_69 ?_
  rw [ct _ (by omega), p81 _ (by omega), d4, d4, d4, or3 (b8l _) (b8l _) (b8l _)]
  have hee : b8 (T.getD len 0) * 65536 + b8 (T.getD (len + 1) 0) * 256 + b8 (T.getD (len + 2) 0) = eN T len := rfl
  rw [hee]
  have hel : eN T len < 2 ^ 24 := by
    unfold eN
    have := b8l (T.getD len 0)
    have := b8l (T.getD (len + 1) 0)
    have := b8l (T.getD (len + 2) 0)
    omega
  have hoke : okTwo T ↔ (T.getD 0 0 ≠ 0 ∧ b8 (T.getD (len - 1) 0) % 2 = 1 ∧ eN T len % 2 = 1 ∧ 3 ≤ eN T len ∧ eN T len ≤ 65537 ∧ (T.getD (T.length - 1) 0 = 0 ∨ (T.getD (T.length - 1) 0 = 48 ∧ 100 ≤ len)) ∧ num T (len + 3) len ≠ 0 ∧ num T (len + 3) len < num T 0 len) := by
    unfold okTwo
    rw [hlen]
    exact ⟨fun z => z.2.2.2, fun z => ⟨c1, by omega, by omega, z⟩⟩
  generalize hev : eN T len = e at *
  refine X_istore_n (pc := 70) (L' := [(3, .int _), (2, .int _), (0, .ref _), (1, .int _)]) dX10_keyTwo_70 rfl (Nat.le_of_ble_eq_true rfl) rfl ?_
  refine X_aload_n (pc := 71) 2 dX10_keyTwo_71 rfl rfl ?_
  refine X_getfield (pc := 72) dX10_keyTwo_72 fg_X10_534_11 (MW.ob w) mf_81 ?_
  refine X_iload_n (pc := 75) 3 dX10_keyTwo_75 rfl rfl ?_
  refine X_iconst (pc := 76) (x := 1) dX10_keyTwo_76 (by decide) ?_
  refine X_isub (pc := 77) dX10_keyTwo_77 ?_
  rw [show nI T.length - 1 = nI (T.length - 1) from by rw [show T.length = T.length - 1 + 1 by omega, nI_pred, Nat.add_sub_cancel]]
  refine X_baload (pc := 78) dX10_keyTwo_78 c81 (bt _ (by omega)) ?_
  refine X_istore (pc := 79) (L' := [(4, .int _), (3, .int _), (2, .int _), (0, .ref _), (1, .int _)]) dX10_keyTwo_79 (Nat.le_of_ble_eq_true rfl) rfl ?_
  rw [ct _ (by omega), p81 _ (by omega)]
  generalize hsx : T.getD (T.length - 1) 0 = sx at *
  refine X_aload_n (pc := 81) 3 dX10_keyTwo_81 rfl rfl ?_
  refine X_getfield (pc := 82) dX10_keyTwo_82 fg_X10_534_11 (MW.ob w) mf_81 ?_
  refine X_iconst (pc := 85) (x := 0) dX10_keyTwo_85 (by decide) ?_
  refine X_baload (pc := 86) dX10_keyTwo_86 c81 (bt 0 (by decide)) ?_
  rw [show ((0 : Int32).toNatClampNeg) = 0 from rfl, p81 0 (by omega)]
  by_cases c4 : T.getD 0 0 = 0
  · exact X_if_eq (pc := 87) 121 dX10_keyTwo_87 (by decide) (fun _ => r121 _ (fun z => (hoke.mp z).1 c4)) (fun z => absurd c4 z)
  refine X_if_eq (pc := 87) 121 dX10_keyTwo_87 (by decide) (fun z => absurd z c4) (fun _ => ?_)
  refine X_aload_n (pc := 90) 3 dX10_keyTwo_90 rfl rfl ?_
  refine X_getfield (pc := 91) dX10_keyTwo_91 fg_X10_534_11 (MW.ob w) mf_81 ?_
  refine X_iload_n (pc := 94) 2 dX10_keyTwo_94 rfl rfl ?_
  refine X_iconst (pc := 95) (x := 1) dX10_keyTwo_95 (by decide) ?_
  refine X_isub (pc := 96) dX10_keyTwo_96 ?_
  rw [show nI len - 1 = nI (len - 1) from by rw [show len = len - 1 + 1 by omega, nI_pred, Nat.add_sub_cancel]]
  refine X_baload (pc := 97) dX10_keyTwo_97 c81 (bt _ (by omega)) ?_
  refine X_iconst (pc := 98) (x := 1) dX10_keyTwo_98 (by decide) ?_
  refine X_iand (pc := 99) dX10_keyTwo_99 ?_
  rw [ct _ (by omega), p81 _ (by omega)]
  have hb2 : b8 (T.getD (len - 1) 0) % 2 = u32 (T.getD (len - 1) 0) % 2 := by
    show u32 (T.getD (len - 1) 0) % 256 % 2 = _
    omega
  by_cases c5 : u32 (T.getD (len - 1) 0) % 2 = 0
  · exact X_if_eq (pc := 100) 121 dX10_keyTwo_100 (by decide) (fun _ => r121 _ (fun z => by have := (hoke.mp z).2.1; omega)) (fun z => absurd ((and1 _).mpr c5) z)
  refine X_if_eq (pc := 100) 121 dX10_keyTwo_100 (by decide) (fun z => absurd ((and1 _).mp z) c5) (fun _ => ?_)
  refine X_iload_n (pc := 103) 1 dX10_keyTwo_103 rfl rfl ?_
  refine X_iconst (pc := 104) (x := 1) dX10_keyTwo_104 (by decide) ?_
  refine X_iand (pc := 105) dX10_keyTwo_105 ?_
  have hu : u32 (nI e) = e := pk_tn (by omega)
  by_cases c6 : e % 2 = 0
  · exact X_if_eq (pc := 106) 121 dX10_keyTwo_106 (by decide) (fun _ => r121 _ (fun z => by have := (hoke.mp z).2.2.1; omega)) (fun z => absurd ((and1 _).mpr (by rw [hu]; exact c6)) z)
  refine X_if_eq (pc := 106) 121 dX10_keyTwo_106 (by decide) (fun z => absurd ((and1 _).mp z) (by rw [hu]; exact c6)) (fun _ => ?_)
  refine X_iload_n (pc := 109) 1 dX10_keyTwo_109 rfl rfl ?_
  refine X_iconst (pc := 110) (x := 3) dX10_keyTwo_110 (by decide) ?_
  by_cases c7 : e < 3
  · exact X_icmp_lt (pc := 111) 121 dX10_keyTwo_111 (by decide) (fun _ => r121 _ (fun z => by have := (hoke.mp z).2.2.2.1; omega)) (fun z => absurd (nI_lt (b := 3) c7 (by decide)) z)
  refine X_icmp_lt (pc := 111) 121 dX10_keyTwo_111 (by decide) (fun z => absurd ((nI_ltI (b := 3) (by omega) (by decide)).mp z) c7) (fun _ => ?_)
  refine X_iload_n (pc := 114) 1 dX10_keyTwo_114 rfl rfl ?_
  refine X_ldcw (pc := 115) dX10_keyTwo_115 q1869 ?_
  by_cases c8 : 65537 < e
  · exact X_icmp_le (pc := 118) 124 dX10_keyTwo_118 (by decide) (fun z => absurd z (nI_ge (a := 65537) c8 (by omega))) (fun _ => r121 _ (fun z => by have := (hoke.mp z).2.2.2.2.1; omega))
  refine X_icmp_le (pc := 118) 124 dX10_keyTwo_118 (by decide) (fun _ => ?_) (fun z => absurd (nI_le (b := 65537) (by omega) (by decide)) z)
  have main : (sx = 0 ∨ (sx = 48 ∧ 100 ≤ len)) → XX g MX10_keyTwo ({ frames := 5, cells := 0, slots := 0, locals := 117 } : Room) Post 0 0 152 [(4, .int sx), (3, .int (nI e)), (2, .int (nI len)), (0, .ref (A 96)), (1, .int (nI T.length))] [] h := by
    intro hsx2
    have hok9 : okTwo T ↔ (num T (len + 3) len ≠ 0 ∧ num T (len + 3) len < num T 0 len) := by
      rw [hoke]
      exact ⟨fun z => z.2.2.2.2.2.2, fun z => ⟨c4, by omega, by omega, by omega, by omega, hsx2, z⟩⟩
    have hsb : sx = nI (b8 sx) ∧ b8 sx < 2 ^ 8 := by
      rcases hsx2 with rfl | ⟨rfl, -⟩
      · exact ⟨rfl, by decide⟩
      · exact ⟨rfl, by decide⟩
    generalize hs0 : b8 sx = s at *
    obtain ⟨hsx3, hs8⟩ := hsb
    obtain ⟨n, hn⟩ : ∃ n, n = (len + 3) / 4 := ⟨_, rfl⟩
    have hn2 : 17 ≤ n ∧ n ≤ 64 ∧ len ≤ 4 * n := by omega
    refine X_iload_n (pc := 152) 2 dX10_keyTwo_152 rfl rfl ?_
    refine X_iconst (pc := 153) (x := 3) dX10_keyTwo_153 (by decide) ?_
    refine X_iadd (pc := 154) dX10_keyTwo_154 ?_
    refine X_iconst (pc := 155) (x := 4) dX10_keyTwo_155 (by decide) ?_
    rw [show nI len + 3 = nI (len + 3) from nI_add len 3]
    refine X_idiv (pc := 156) dX10_keyTwo_156 (show ¬ (4 : Int32) = 0 by decide) ?_
    rw [show nI (len + 3) / 4 = nI ((len + 3) / 4) from pk_div (d := 4) (by omega) (by decide) (by decide), ← hn]
    refine X_istore (pc := 157) (L' := [(5, .int _), (4, .int _), (3, .int _), (2, .int _), (0, .ref _), (1, .int _)]) dX10_keyTwo_157 (Nat.le_of_ble_eq_true rfl) rfl ?_
    refine X_aload_n (pc := 159) 4 dX10_keyTwo_159 rfl rfl ?_
    refine X_getfield (pc := 160) dX10_keyTwo_160 fg_X10_534_11 (MW.ob w) mf_81 ?_
    refine X_iconst (pc := 163) (x := 0) dX10_keyTwo_163 (by decide) ?_
    refine X_iload_n (pc := 164) 3 dX10_keyTwo_164 rfl rfl ?_
    refine X_aload_n (pc := 165) 4 dX10_keyTwo_165 rfl rfl ?_
    refine X_getfield (pc := 166) dX10_keyTwo_166 fg_X10_549_11 (MW.ob w) mf_88 ?_
    refine X_iload (pc := 169) 0 dX10_keyTwo_169 rfl ?_
    refine X_isv (pc := 171) _ dX10_keyTwo_171 cs_X10_217 rfl (load_ok g (fr := 0) (many := len) (n := n) c81 (w.i 88 rfl) (by omega) (by decide) hn2.2.1 (by decide) hn2.2.2) nX10_load (Nat.le_of_ble_eq_true rfl) (Nat.le_of_ble_eq_true rfl) (Nat.le_of_ble_eq_true rfl) (Nat.le_of_ble_eq_true rfl) (fun h1 q1 => ?_)
    obtain ⟨fm, hvm, -, rfl⟩ := q1
    have hnum0 : V n fm = num T 0 len := by rw [hvm]; exact bsm_cg fun q hq => p81 _ (by omega)
    have w1 := w.setI 88 rfl fm
    have c81' : (hset h (A 88) (Ai false 0 64 fm)) (A 81) = some (Ai false 2 1208 f81) := by rw [hset_ne (w.ne (by decide) (by decide) (by decide))]; exact c81
    generalize hset h (A 88) (Ai false 0 64 fm) = h1 at *
    refine X_aload_n (pc := 174) 4 dX10_keyTwo_174 rfl rfl ?_
    refine X_getfield (pc := 175) dX10_keyTwo_175 fg_X10_534_11 (MW.ob w1) mf_81 ?_
    refine X_iload_n (pc := 178) 3 dX10_keyTwo_178 rfl rfl ?_
    refine X_iconst (pc := 179) (x := 3) dX10_keyTwo_179 (by decide) ?_
    refine X_iadd (pc := 180) dX10_keyTwo_180 ?_
    rw [show nI len + 3 = nI (len + 3) from nI_add len 3]
    refine X_iload_n (pc := 181) 3 dX10_keyTwo_181 rfl rfl ?_
    refine X_aload_n (pc := 182) 4 dX10_keyTwo_182 rfl rfl ?_
    refine X_getfield (pc := 183) dX10_keyTwo_183 fg_X10_552_11 (MW.ob w1) mf_89 ?_
    refine X_iload (pc := 186) 0 dX10_keyTwo_186 rfl ?_
    refine X_isv (pc := 188) _ dX10_keyTwo_188 cs_X10_217 rfl (load_ok g (fr := len + 3) (many := len) (n := n) c81' (w1.i 89 rfl) (by omega) (by decide) hn2.2.1 (by decide) hn2.2.2) nX10_load (Nat.le_of_ble_eq_true rfl) (Nat.le_of_ble_eq_true rfl) (Nat.le_of_ble_eq_true rfl) (Nat.le_of_ble_eq_true rfl) (fun h2 q2 => ?_)
    obtain ⟨fd, hvd, -, rfl⟩ := q2
    have hnum1 : V n fd = num T (len + 3) len := by rw [hvd]; exact bsm_cg fun q hq => p81 _ (by omega)
    have w2 := w1.setI 89 rfl fd
    generalize hset h1 (A 89) (Ai false 0 64 fd) = h2 at *
    have ms2 : MS N L R (up (up I 88 fm) 89 fd) (up S 81 []) F := ms.cg ⟨wf.1, wf.2.1⟩ (fun _ _ => rfl) (fun j hj => by unfold relI at hj; rw [up_ne (by omega), up_ne (by omega)]) (fun _ _ => rfl) (fun _ _ => rfl)
    have i88 : (up (up I 88 fm) 89 fd) 88 = fm := by rw [up_ne (by decide), up_same]
    have i89 : (up (up I 88 fm) 89 fd) 89 = fd := up_same _ _ _
    have iot : ∀ j, j ≠ 88 → j ≠ 89 → (up (up I 88 fm) 89 fd) j = I j := fun j a b => by rw [up_ne b, up_ne a]
    generalize up (up I 88 fm) 89 fd = I2 at *
    have o88 : OpM A h2 (A 88) n (num T 0 len) := by have := OpM.i w2 88 rfl hn2.2.1 (by decide); rwa [i88, hnum0] at this
    have o89 : OpM A h2 (A 89) n (num T (len + 3) len) := by have := OpM.i w2 89 rfl hn2.2.1 (by decide); rwa [i89, hnum1] at this
    have hmt := num_top (len := len) (by omega) hTB c4
    generalize hdv : num T (len + 3) len = d at *
    generalize hmv : num T 0 len = m at *
    have r219 : ∀ L', ¬ okTwo T → XX g MX10_keyTwo ({ frames := 5, cells := 0, slots := 0, locals := 117 } : Room) Post 0 0 219 L' [] h2 := by
      intro L' hc
      refine X_bipush (pc := 219) (x := (-2)) dX10_keyTwo_219 (by decide) ?_
      refine X_ireturn (pc := 221) dX10_keyTwo_221 rfl (Nat.le_of_ble_eq_true rfl) (Nat.le_of_ble_eq_true rfl) ?_
      exact nok w2 ms2 hc
    refine X_aload_n (pc := 191) 4 dX10_keyTwo_191 rfl rfl ?_
    refine X_getfield (pc := 192) dX10_keyTwo_192 fg_X10_552_11 (MW.ob w2) mf_89 ?_
    refine X_iload (pc := 195) 0 dX10_keyTwo_195 rfl ?_
    refine X_isi (pc := 197) _ dX10_keyTwo_197 cs_X10_122 rfl (mzW g o89) nX10_isZero (Nat.le_of_ble_eq_true rfl) (Nat.le_of_ble_eq_true rfl) (Nat.le_of_ble_eq_true rfl) (Nat.le_of_ble_eq_true rfl) (fun r3 h3 q3 => ?_)
    obtain ⟨rfl, rfl⟩ := q3
    by_cases e0 : d = 0
    · rw [if_pos e0]
      exact X_if_ne (pc := 200) 219 dX10_keyTwo_200 (by decide) (fun _ => r219 _ (fun z => (hok9.mp z).1 e0)) (fun z => absurd z (by decide))
    rw [if_neg e0]
    refine X_if_ne (pc := 200) 219 dX10_keyTwo_200 (by decide) (fun z => absurd rfl z) (fun _ => ?_)
    refine X_aload_n (pc := 203) 4 dX10_keyTwo_203 rfl rfl ?_
    refine X_getfield (pc := 204) dX10_keyTwo_204 fg_X10_552_11 (MW.ob w2) mf_89 ?_
    refine X_aload_n (pc := 207) 4 dX10_keyTwo_207 rfl rfl ?_
    refine X_getfield (pc := 208) dX10_keyTwo_208 fg_X10_549_11 (MW.ob w2) mf_88 ?_
    refine X_iload (pc := 211) 0 dX10_keyTwo_211 rfl ?_
    refine X_isi (pc := 213) _ dX10_keyTwo_213 cs_X10_26 rfl (mcW g o89 o88) nX10_compare (Nat.le_of_ble_eq_true rfl) (Nat.le_of_ble_eq_true rfl) (Nat.le_of_ble_eq_true rfl) (Nat.le_of_ble_eq_true rfl) (fun r4 h4 q4 => ?_)
    obtain ⟨rfl, rfl⟩ := q4
    by_cases e1 : d < m
    rotate_left
    · exact X_if_lt (pc := 216) 222 dX10_keyTwo_216 (by decide) (fun z => absurd (cmpN_lt0.mp z) e1) (fun _ => r219 _ (fun z => e1 (hok9.mp z).2))
    refine X_if_lt (pc := 216) 222 dX10_keyTwo_216 (by decide) (fun _ => ?_) (fun z => absurd (cmpN_lt0.mpr e1) z)
    have hPost2 : RI (MQ3 A X (addK N L 2 d m e len s)) = Post := by
      rw [← hPost, cIf_t (hok9.mpr ⟨e0, e1⟩)]
    clear hPost
    refine X_aload_n (pc := 222) 4 dX10_keyTwo_222 rfl rfl ?_
    refine X_getfield (pc := 223) dX10_keyTwo_223 fg_X10_626_11 (MW.ob w2) mf_70 ?_
    refine X_bipush (pc := 226) (x := 6) dX10_keyTwo_226 (by decide) ?_
    rw [f70]
    by_cases c9 : N 0 = 6
    · refine X_icmp_ne (pc := 228) 234 dX10_keyTwo_228 (by decide) (fun z => absurd (by rw [c9]; rfl) z) (fun _ => ?_)
      have es : addK N L 2 d m e len s = (-6, N, L) := if_pos c9
      refine X_bipush (pc := 231) (x := (-6)) dX10_keyTwo_231 (by decide) ?_
      refine X_ireturn (pc := 233) dX10_keyTwo_233 rfl (Nat.le_of_ble_eq_true rfl) (Nat.le_of_ble_eq_true rfl) ?_
      subst hPost2
      rw [es]
      exact ⟨_, rfl, rfl, MRep.of w2 ms2⟩
    · refine X_icmp_ne (pc := 228) 234 dX10_keyTwo_228 (by decide) (fun _ => ?_) (fun z => absurd (nI_inj' (b := 6) (by omega) (by decide) z) c9)
      have es : addK N L 2 d m e len s = (nI (N 0), newK N 2 d m e len s, up L (100 + N 0) (sha256 (keyB (newK N 2 d m e len s) (N 0)))) := if_neg c9
      have hn6 : N 0 < 6 := by omega
      rw [es] at hPost2
      generalize hk0 : N 0 = k at *
      have bk : vp_in (nI k) 6 := vp_in_nI (by omega) (by omega)
      have ck : (nI k).toNatClampNeg = k := nI_clamp (by omega)
      have hkd := kd_m (j := 2 + k) (by omega) (by omega)
      have hmd := w2.md (j := 2 + k) (by omega) (by omega)
      have c88 := w2.i 88 rfl
      rw [i88] at c88
      have n1 : A 88 ≠ A (510 + (2 + k)) := w2.ne (by decide) (by rw [hkd.2.1]; decide) (by omega)
      have n2 : A 88 ≠ A (520 + (2 + k)) := w2.ne (by decide) (by rw [hkd.2.2]; decide) (by omega)
      have htz := top_nz hn (by omega) hnum0 hmt
      refine X_aload_n (pc := 234) 4 dX10_keyTwo_234 rfl rfl ?_
      refine X_getfield (pc := 235) dX10_keyTwo_235 fg_X10_503_11 (MW.ob w2) mf_66 ?_
      refine X_aload_n (pc := 238) 4 dX10_keyTwo_238 rfl rfl ?_
      refine X_getfield (pc := 239) dX10_keyTwo_239 fg_X10_626_11 (MW.ob w2) mf_70 ?_
      rw [f70]
      refine X_aaload (pc := 242) dX10_keyTwo_242 (w2.o 66 rfl) (fun _ => rfl) bk ?_
      rw [ck]
      refine XX.eqst (st' := [.ref (A (500 + (2 + k)))]) (by rw [show 500 + (2 + k) = 502 + k by omega]; rfl) ?_
      refine X_aload_n (pc := 243) 4 dX10_keyTwo_243 rfl rfl ?_
      refine X_getfield (pc := 244) dX10_keyTwo_244 fg_X10_549_11 (MW.ob w2) mf_88 ?_
      refine X_iload (pc := 247) 0 dX10_keyTwo_247 rfl ?_
      refine X_ivv (pc := 249) _ dX10_keyTwo_249 cv_X10_573_12 hmd rfl (modis_ok g w2 (j := 2 + k) (n := n) (by omega) (by omega) ⟨by omega, hn2.2.1⟩ c88 hn2.2.1 (by decide) n1 n2 htz) nX11_is (Nat.le_of_ble_eq_true rfl) (Nat.le_of_ble_eq_true rfl) (Nat.le_of_ble_eq_true rfl) (Nat.le_of_ble_eq_true rfl) (fun h5 q5 => ?_)
      obtain ⟨gm, gh, sh, w5, hgm, hsh, hgh, htop, t1, t2⟩ := q5
      have hVgm : V n gm = m := by rw [← hnum0]; exact V_congr hgm
      rw [hnum0] at hgh
      have o89' : OpM A h5 (A 89) n d := by
        have := OpM.i w5 89 rfl hn2.2.1 (by decide)
        rwa [up_ne (by omega), up_ne (by omega), i89, hnum1] at this
      have f705 : (up (up F (540 + (2 + k)) (nI n)) (550 + (2 + k)) (nI sh)) 70 = nI k := by rw [up_ne (by omega), up_ne (by omega)]; exact f70
      refine X_aload_n (pc := 252) 4 dX10_keyTwo_252 rfl rfl ?_
      refine X_getfield (pc := 253) dX10_keyTwo_253 fg_X10_552_11 (MW.ob w5) mf_89 ?_
      refine X_aload_n (pc := 256) 4 dX10_keyTwo_256 rfl rfl ?_
      refine X_getfield (pc := 257) dX10_keyTwo_257 fg_X10_475_11 (MW.ob w5) mf_64 ?_
      refine X_aload_n (pc := 260) 4 dX10_keyTwo_260 rfl rfl ?_
      refine X_getfield (pc := 261) dX10_keyTwo_261 fg_X10_626_11 (MW.ob w5) mf_70 ?_
      rw [f705]
      refine X_aaloadA (pc := 264) dX10_keyTwo_264 (w5.o 64 rfl) bk ?_
      rw [ck]
      refine XX.eqst (st' := [.ref (A (530 + k)), .ref (A 89)]) rfl ?_
      refine X_iload (pc := 265) 0 dX10_keyTwo_265 rfl ?_
      refine X_isv (pc := 267) _ dX10_keyTwo_267 cs_X10_91 rfl (mcpI g w5 (530 + k) (kd530 hn6) (n := n) hn2.2.1 o89') nX10_copy (Nat.le_of_ble_eq_true rfl) (Nat.le_of_ble_eq_true rfl) (Nat.le_of_ble_eq_true rfl) (Nat.le_of_ble_eq_true rfl) (fun h6 q6 => ?_)
      obtain ⟨gd, hgd, -, w6⟩ := q6
      have iq : ∀ j, (j = 61 ∨ j = 62 ∨ j = 67 ∨ j = 68 ∨ j = 69) → (up (up (up I2 (510 + (2 + k)) gm) (520 + (2 + k)) gh) (530 + k) gd) j = I j := fun j hj => by
        rw [up_ne (by omega), up_ne (by omega), up_ne (by omega), iot j (by omega) (by omega)]
      have ir : ∀ j, relI j → j ≠ 530 + k → j ≠ 512 + k → j ≠ 522 + k → (up (up (up I2 (510 + (2 + k)) gm) (520 + (2 + k)) gh) (530 + k) gd) j = I j := fun j hj a b c => by
        unfold relI at hj
        rw [up_ne a, up_ne (by omega), up_ne (by omega), iot j (by omega) (by omega)]
      have i5m : (up (up (up I2 (510 + (2 + k)) gm) (520 + (2 + k)) gh) (530 + k) gd) (510 + (2 + k)) = gm := by rw [up_ne (by omega), up_ne (by omega), up_same]
      have i5h : (up (up (up I2 (510 + (2 + k)) gm) (520 + (2 + k)) gh) (530 + k) gd) (520 + (2 + k)) = gh := by rw [up_ne (by omega), up_same]
      have i5d : (up (up (up I2 (510 + (2 + k)) gm) (520 + (2 + k)) gh) (530 + k) gd) (530 + k) = gd := up_same _ _ _
      generalize up (up (up I2 (510 + (2 + k)) gm) (520 + (2 + k)) gh) (530 + k) gd = I6 at *
      have c67 := w6.i 67 rfl
      rw [iq 67 (by omega)] at c67
      refine X_aload_n (pc := 270) 4 dX10_keyTwo_270 rfl rfl ?_
      refine X_getfield (pc := 271) dX10_keyTwo_271 fg_X10_507_11 (MW.ob w6) mf_67 ?_
      refine X_aload_n (pc := 274) 4 dX10_keyTwo_274 rfl rfl ?_
      refine X_getfield (pc := 275) dX10_keyTwo_275 fg_X10_626_11 (MW.ob w6) mf_70 ?_
      rw [f705]
      refine X_iload_n (pc := 278) 2 dX10_keyTwo_278 rfl rfl ?_
      refine X_iastore (pc := 279) dX10_keyTwo_279 c67 bk ?_
      rw [ck]
      have w7 := w6.setI 67 rfl (upd (I 67) k (nI e))
      generalize hset h6 (A 67) (Ai false 0 6 (upd (I 67) k (nI e))) = h7 at *
      have c68 := w7.i 68 rfl
      rw [up_ne (by decide), iq 68 (by omega)] at c68
      refine X_aload_n (pc := 280) 4 dX10_keyTwo_280 rfl rfl ?_
      refine X_getfield (pc := 281) dX10_keyTwo_281 fg_X10_510_11 (MW.ob w7) mf_68 ?_
      refine X_aload_n (pc := 284) 4 dX10_keyTwo_284 rfl rfl ?_
      refine X_getfield (pc := 285) dX10_keyTwo_285 fg_X10_626_11 (MW.ob w7) mf_70 ?_
      rw [f705]
      refine X_iload_n (pc := 288) 3 dX10_keyTwo_288 rfl rfl ?_
      refine X_iastore (pc := 289) dX10_keyTwo_289 c68 bk ?_
      rw [ck]
      have w8 := w7.setI 68 rfl (upd (I 68) k (nI len))
      generalize hset h7 (A 68) (Ai false 0 6 (upd (I 68) k (nI len))) = h8 at *
      have c69 := w8.i 69 rfl
      rw [up_ne (by decide), up_ne (by decide), iq 69 (by omega)] at c69
      refine X_aload_n (pc := 290) 4 dX10_keyTwo_290 rfl rfl ?_
      refine X_getfield (pc := 291) dX10_keyTwo_291 fg_X10_513_11 (MW.ob w8) mf_69 ?_
      refine X_aload_n (pc := 294) 4 dX10_keyTwo_294 rfl rfl ?_
      refine X_getfield (pc := 295) dX10_keyTwo_295 fg_X10_626_11 (MW.ob w8) mf_70 ?_
      rw [f705]
      refine X_iload (pc := 298) 1 dX10_keyTwo_298 rfl ?_
      refine X_iastore (pc := 300) dX10_keyTwo_300 c69 bk ?_
      rw [ck, hsx3]
      have w9 := w8.setI 69 rfl (upd (I 69) k (nI s))
      generalize hset h8 (A 69) (Ai false 0 6 (upd (I 69) k (nI s))) = h9 at *
      have j61 : (up (up (up I6 67 (upd (I 67) k (nI e))) 68 (upd (I 68) k (nI len))) 69 (upd (I 69) k (nI s))) 61 = I 61 := by rw [up_ne (by decide), up_ne (by decide), up_ne (by decide)]; exact iq 61 (by omega)
      have j62 : (up (up (up I6 67 (upd (I 67) k (nI e))) 68 (upd (I 68) k (nI len))) 69 (upd (I 69) k (nI s))) 62 = I 62 := by rw [up_ne (by decide), up_ne (by decide), up_ne (by decide)]; exact iq 62 (by omega)
      obtain ⟨kb, hkb⟩ : ∃ kb, kb = byN m len ++ [tb (e / 65536), tb (e / 256), tb e] ++ [tb s] := ⟨_, rfl⟩
      refine X_aload_n (pc := 301) 4 dX10_keyTwo_301 rfl rfl ?_
      refine X_iconst (pc := 302) (x := 2) dX10_keyTwo_302 (by decide) ?_
      refine X_ivi (pc := 303) _ dX10_keyTwo_303 cv_X10_629_11 (MW.ob w9) rfl (comes_ok g w9 (k := k) (t := 2) (kb := kb) hn6 f705 s63 (Or.inr ⟨by rw [up_same, upd_at]; rfl, n, m, e, s, len, hn2.2.1, by omega, hn2.2.2, by rw [up_ne (by omega), up_ne (by omega), up_ne (by omega), up_ne (by omega), i5m]; exact hVgm, by rw [up_ne (by decide), up_ne (by decide), up_same, upd_at], by rw [up_ne (by decide), up_ne (by decide), up_ne (by decide), up_same, upd_at], by rw [up_ne (by decide), up_same, upd_at], hel, hs8, hkb⟩)) nX10_comes (Nat.le_of_ble_eq_true rfl) (Nat.le_of_ble_eq_true rfl) (Nat.le_of_ble_eq_true rfl) (Nat.le_of_ble_eq_true rfl) (fun r10 h10 q10 => ?_)
      obtain ⟨rfl, S10, w10, fS10, s6310⟩ := q10
      rw [j61, j62] at w10
      obtain ⟨a1, a2, a3, a4, a5, a6, a7⟩ := newK_at (N := N) (t := 2) (d := d) (m := m) (e := e) (len := len) (s := s)
      rw [hk0] at a1 a2 a3 a4 a5 a6 a7
      have hlm : limN (newK N 2 d m e len s) k = n := by
        unfold limN
        rw [a1, if_neg (by decide), a6, hn]
      have hid : keyB (newK N 2 d m e len s) k = kb := by
        unfold keyB pubB
        rw [a1, if_neg (by decide), if_neg (by decide), a4, a5, a6, a7, hkb]
      refine X_ireturn (pc := 306) dX10_keyTwo_306 rfl (Nat.le_of_ble_eq_true rfl) (Nat.le_of_ble_eq_true rfl) ?_
      subst hPost2
      rw [hid]
      refine ⟨_, rfl, rfl, MRep.of w10 ?_⟩
      have h26 : F 26 = 0 := ms.1.2.2.2.2.2.2
      rw [← hk0]
      refine MS.addk wf (by omega) ms (sha256_B _) (fun _ _ _ _ => rfl) (fun j hj b1 b2 b3 b4 b5 b6 b7 b8 => ?_) (fun j hj i hi => ?_) (fun j hj a => ?_) ?_ (fun j hj b1 b2 b3 b4 => ?_) ?_ ?_
      · rw [up_ne b2, up_ne b1, up_ne b5, up_ne b4, up_ne b3]
        exact ir j hj (by omega) (by omega) (by omega)
      · rcases hj with rfl | rfl | rfl | rfl | rfl
        · rw [up_ne (by decide), up_same]; exact if_neg hi
        · rw [up_same]; exact if_neg hi
        · rw [up_ne (by decide), up_ne (by decide), up_ne (by decide), up_ne (by decide), up_same]; exact if_neg hi
        · rw [up_ne (by decide), up_ne (by decide), up_ne (by decide), up_same]; exact if_neg hi
        · rw [up_ne (by decide), up_ne (by decide), up_same]; exact if_neg hi
      · unfold relS at hj
        by_cases e : j = 81
        · subst e; rw [up_same, up_same]
        · rw [up_ne e, up_ne e, fS10 j (by unfold iK; simp; omega)]
      · rw [up_ne (by decide), up_ne (by decide), s6310, hk0]
      · rw [up_ne b1]
        by_cases e : j = 26
        · subst e; rw [up_same, h26]
        · rw [up_ne e, up_ne (by omega), up_ne (by omega)]
      · rw [up_same, hk0]
      · rw [hk0]
        refine ⟨?_, ?_, ?_, ?_, fun t2 => absurd (a1.symm.trans t2) (by decide), fun _ => ⟨sh, hsh, ?_, ?_, ?_, ?_, ?_, ?_, ?_⟩⟩
        · rw [up_ne (by decide), up_same, upd_at, a1]
        · rw [up_same, upd_at, a2]; rfl
        · rw [up_ne (by decide), s6310, up_same]; exact lay_sub (by omega) (sha256_len _)
        · rw [up_ne (by decide), up_ne (by decide), up_ne (by decide), up_same, upd_at, a6]
        · rw [hlm, a4]
          refine Or.inr (Or.inr ⟨by omega, by omega, sh, hsh, ?_, ?_, ?_, ?_, ?_, by omega, hn2.2.1⟩)
          · rw [up_ne (by omega), up_ne (by omega), up_ne (by omega), up_same]
          · rw [up_ne (by omega), up_ne (by omega), up_same]
          · rw [up_ne (by omega), up_ne (by omega), up_ne (by omega), up_ne (by omega), up_ne (by omega), i5m]; exact hVgm
          · rw [up_ne (by omega), up_ne (by omega), up_ne (by omega), up_ne (by omega), up_ne (by omega), i5h]; exact hgh
          · rw [up_ne (by omega), up_ne (by omega), up_ne (by omega), up_ne (by omega), up_ne (by omega), i5h]; exact htop
        · rw [hlm, show 542 + k = 540 + (2 + k) by omega, up_ne (by omega), up_ne (by omega), up_ne (by omega), up_same]
        · rw [show 552 + k = 550 + (2 + k) by omega, up_ne (by omega), up_ne (by omega), up_same]
        · rw [hlm, a4]; exact bits_eq (by omega) hsh hgh htop
        · rw [up_ne (by decide), up_ne (by decide), up_ne (by decide), up_ne (by decide), up_same, upd_at, a5]
        · rw [up_ne (by decide), up_ne (by decide), up_same, upd_at, a7]
        · rw [hlm, up_ne (by omega), up_ne (by omega), up_ne (by omega), up_ne (by omega), up_ne (by omega), i5d, hgd, a3]
  refine X_iload (pc := 124) 0 dX10_keyTwo_124 rfl ?_
  by_cases s0 : sx = 0
  · refine X_if_eq (pc := 126) 136 dX10_keyTwo_126 (by decide) (fun _ => ?_) (fun z => absurd s0 z)
    refine X_iload (pc := 136) 0 dX10_keyTwo_136 rfl ?_
    refine X_bipush (pc := 138) (x := 48) dX10_keyTwo_138 (by decide) ?_
    exact X_icmp_ne (pc := 140) 152 dX10_keyTwo_140 (by decide) (fun _ => main (Or.inl s0)) (fun z => absurd (s0.symm.trans z) (by decide))
  refine X_if_eq (pc := 126) 136 dX10_keyTwo_126 (by decide) (fun z => absurd z s0) (fun _ => ?_)
  refine X_iload (pc := 129) 0 dX10_keyTwo_129 rfl ?_
  refine X_bipush (pc := 131) (x := 48) dX10_keyTwo_131 (by decide) ?_
  by_cases s48 : sx = 48
  rotate_left
  · exact X_icmp_ne (pc := 133) 149 dX10_keyTwo_133 (by decide) (fun _ => r149 _ (fun z => (hoke.mp z).2.2.2.2.2.1.elim s0 (fun q => s48 q.1))) (fun z => absurd z s48)
  refine X_icmp_ne (pc := 133) 149 dX10_keyTwo_133 (by decide) (fun z => absurd s48 z) (fun _ => ?_)
  refine X_iload (pc := 136) 0 dX10_keyTwo_136 rfl ?_
  refine X_bipush (pc := 138) (x := 48) dX10_keyTwo_138 (by decide) ?_
  refine X_icmp_ne (pc := 140) 152 dX10_keyTwo_140 (by decide) (fun z => absurd s48 z) (fun _ => ?_)
  refine X_iload_n (pc := 143) 2 dX10_keyTwo_143 rfl rfl ?_
  refine X_bipush (pc := 144) (x := 100) dX10_keyTwo_144 (by decide) ?_
  by_cases l100 : len < 100
  · exact X_icmp_ge (pc := 146) 152 dX10_keyTwo_146 (by decide) (fun z => absurd z (nI_ge (b := 100) l100 (by decide))) (fun _ => r149 _ (fun z => (hoke.mp z).2.2.2.2.2.1.elim s0 (fun q => by omega)))
  exact X_icmp_ge (pc := 146) 152 dX10_keyTwo_146 (by decide) (fun _ => main (Or.inr ⟨s48, by omega⟩)) (fun z => absurd (nI_le (a := 100) (by omega) (by omega)) z)
theorem keyc_ok (g : GX) (wf : Wf N L) (m : MRep N L A X h) (t : Int32) : MT g MX10_key ({ frames := 8, cells := 0, slots := 0, locals := 198 } : Room) [.ref (A 96), .int t] h (RI (MQ3 A X (sKey N L t))) := by
  obtain ⟨R, I, S, F, w, ms⟩ := m
  refine MT.of (by decide) (Nat.le_of_ble_eq_true rfl) ?_
  have ms1 := ms.use wf
  have hl0 : (L 0).length ≤ 1200 := wf.2.2.2.2.2.2.2.1
  have hB0 : IsB (L 0) := wf.2.2.2.2.2.2.2.2.2.2.1
  have s81 : S 81 = L 0 := ms.2.1
  have f82 : F 82 = nI (L 0).length := ms.2.2.1
  refine X_aload_n (pc := 0) 0 dX10_key_0 rfl rfl ?_
  refine X_ivi (pc := 1) _ dX10_key_1 cv_X10_612_11 (MW.ob w) rfl (used_ok g w) nX10_used (Nat.le_of_ble_eq_true rfl) (Nat.le_of_ble_eq_true rfl) (Nat.le_of_ble_eq_true rfl) (Nat.le_of_ble_eq_true rfl) (fun r1 h1 q1 => ?_)
  obtain ⟨rfl, w1⟩ := q1
  rw [f82]
  generalize up (up F 0 0) 82 0 = F1 at *
  refine X_istore_n (pc := 4) (L' := [(2, .int _), (0, .ref _), (1, .int _)]) dX10_key_4 rfl (Nat.le_of_ble_eq_true rfl) rfl ?_
  refine X_iload_n (pc := 5) 2 dX10_key_5 rfl rfl ?_
  refine X_iconst (pc := 6) (x := 1) dX10_key_6 (by decide) ?_
  by_cases c1 : t = 1
  · refine X_icmp_ne (pc := 7) 16 dX10_key_7 (by decide) (fun z => absurd c1 z) (fun _ => ?_)
    have es : sKey N L t = if (L 0).length = 48 ∧ 0 < num (L 0) 0 48 ∧ num (L 0) 0 48 < qP then addK (up N 6 0) (up L 0 []) 1 (num (L 0) 0 48) 0 0 48 0 else (-2, up N 6 0, up L 0 []) := if_pos c1
    rw [es]
    refine X_aload_n (pc := 10) 1 dX10_key_10 rfl rfl ?_
    refine X_iload_n (pc := 11) 0 dX10_key_11 rfl rfl ?_
    refine X_ivi (pc := 12) _ dX10_key_12 cv_X10_615_11 (MW.ob w1) rfl (keyOne_ok g wf.use w1 ms1 s81 hl0) nX10_keyOne (Nat.le_of_ble_eq_true rfl) (Nat.le_of_ble_eq_true rfl) (Nat.le_of_ble_eq_true rfl) (Nat.le_of_ble_eq_true rfl) (fun r2 h2 q2 => ?_)
    refine X_ireturn (pc := 15) dX10_key_15 rfl (Nat.le_of_ble_eq_true rfl) (Nat.le_of_ble_eq_true rfl) ?_
    exact ⟨_, rfl, q2⟩
  refine X_icmp_ne (pc := 7) 16 dX10_key_7 (by decide) (fun _ => ?_) (fun z => absurd z c1)
  refine X_iload_n (pc := 16) 2 dX10_key_16 rfl rfl ?_
  refine X_iconst (pc := 17) (x := 2) dX10_key_17 (by decide) ?_
  by_cases c2 : t = 2
  · refine X_icmp_ne (pc := 18) 27 dX10_key_18 (by decide) (fun z => absurd c2 z) (fun _ => ?_)
    have es : sKey N L t = cIf (okTwo (L 0)) (addK (up N 6 0) (up L 0 []) 2 (num (L 0) (((L 0).length - 4) / 2 + 3) (((L 0).length - 4) / 2)) (num (L 0) 0 (((L 0).length - 4) / 2)) (eN (L 0) (((L 0).length - 4) / 2)) (((L 0).length - 4) / 2) (b8 ((L 0).getD ((L 0).length - 1) 0))) (-2, up N 6 0, up L 0 []) := (if_neg c1).trans (if_pos c2)
    rw [es]
    refine X_aload_n (pc := 21) 1 dX10_key_21 rfl rfl ?_
    refine X_iload_n (pc := 22) 0 dX10_key_22 rfl rfl ?_
    refine X_ivi (pc := 23) _ dX10_key_23 cv_X10_619_11 (MW.ob w1) rfl (keyTwo_ok g wf.use w1 ms1 s81 hl0 hB0) nX10_keyTwo (Nat.le_of_ble_eq_true rfl) (Nat.le_of_ble_eq_true rfl) (Nat.le_of_ble_eq_true rfl) (Nat.le_of_ble_eq_true rfl) (fun r2 h2 q2 => ?_)
    refine X_ireturn (pc := 26) dX10_key_26 rfl (Nat.le_of_ble_eq_true rfl) (Nat.le_of_ble_eq_true rfl) ?_
    exact ⟨_, rfl, q2⟩
  refine X_icmp_ne (pc := 18) 27 dX10_key_18 (by decide) (fun _ => ?_) (fun z => absurd z c2)
  have es : sKey N L t = (-2, up N 6 0, up L 0 []) := (if_neg c1).trans (if_neg c2)
  rw [es]
  refine X_bipush (pc := 27) (x := (-2)) dX10_key_27 (by decide) ?_
  refine X_ireturn (pc := 29) dX10_key_29 rfl (Nat.le_of_ble_eq_true rfl) (Nat.le_of_ble_eq_true rfl) ?_
  exact ⟨_, rfl, rfl, MRep.of w1 ms1⟩
end MK2
