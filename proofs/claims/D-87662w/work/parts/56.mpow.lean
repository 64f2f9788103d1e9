set_option maxRecDepth 100000
/-! the reference: powers, roots, the curve's right side -/
theorem pw_sq {a e m : Nat} : (a ^ e % m) * (a ^ e % m) % m = a ^ (2 * e) % m := by
  rw [← Nat.mul_mod, ← Nat.pow_add]
  congr 2
  omega
theorem pw_one {a e m : Nat} : (a ^ e % m) * a % m = a ^ (e + 1) % m := by
  rw [Nat.mod_mul_mod, Nat.pow_succ]
theorem half_bit (e k : Nat) : e / 2 ^ k = 2 * (e / 2 ^ (k + 1)) + e / 2 ^ k % 2 := by
  rw [Nat.pow_succ, ← Nat.div_div_eq_div_mul]
  omega
section MQ
variable {A : Nat → Nat} {X : AH} {R : Nat → Nat} {I : Nat → Nat → Int32} {S : Nat → List Int32} {F : Nat → Int32} {h : AH}
def OutJ (A : Nat → Nat) (h h' : AH) : Prop := ∀ x, x ≠ A 1 → x ≠ A 2 → x ≠ A 3 → x ≠ A 4 → h' x = h x
theorem ne_Al {h : AH} {x y n n' : Nat} {r t : _} {f : Nat → Int32} {F : Nat → Int64} (h1 : h x = some (Ai r t n f)) (h2 : h y = some (Al false n' F)) : x ≠ y := fun e => by
  subst e
  rw [h1] at h2
  cases h2
set_option maxHeartbeats 4000000 in
theorem power_ok (g : GX) (w : MW A X R I S F h) {j n mv a va ae ne N bits to no ev : Nat} {re : Bool} {fe fo : Nat → Int32} (hm : MoS I F j n mv) (hmv : 1 < mv) (hn : 0 < n ∧ n ≤ 64) (oa : OpM A h a n va) (he : h ae = some (Ai re 0 ne fe)) (hN : N ≤ ne) (hne : ne < 2 ^ 31) (hb : bits ≤ 32 * N) (hb2 : bits < 2 ^ 31) (hev : V N fe = ev) (hev2 : ev < 2 ^ bits) (ee : ae ≠ A 1 ∧ ae ≠ A 3 ∧ ae ≠ A 4) (ho : h to = some (Ai false 0 no fo)) (hno : n ≤ no) (hno2 : no < 2 ^ 31) (eo : to ≠ A 1 ∧ to ≠ A 3 ∧ to ≠ A 4) :
    MT g MX10_power ({ frames := 4, cells := 0, slots := 0, locals := 112 } : Room) [.ref (A 96), .ref (A (500 + j)), .ref a, .ref ae, .int (nI bits), .ref to] h (RV fun h' => ∃ h1 f, MW A X R I S F h1 ∧ OutJ A h h1 ∧ V n f = va ^ ev % mv ∧ (∀ j, n ≤ j → f j = fo j) ∧ h' = hset h1 to (Ai false 0 no f)) := by
  refine MT.of (by decide) (Nat.le_of_ble_eq_true rfl) ?_
  generalize hPost : (RV fun h' => ∃ h1 f, MW A X R I S F h1 ∧ OutJ A h h1 ∧ V n f = va ^ ev % mv ∧ (∀ j, n ≤ j → f j = fo j) ∧ h' = hset h1 to (Ai false 0 no f)) = Post
  obtain ⟨F2, h2c⟩ := w.l 2 rfl
  have e2 : ae ≠ A 2 := ne_Al he h2c
  have o2 : to ≠ A 2 := ne_Al ho h2c
  have mfn : (mO A F (500 + j)) = (mO A F (500 + j)) := rfl
  have n31 : (A 3 ≠ A 1) := w.ne (by decide) (by decide) (by decide)
  have n41 : (A 4 ≠ A 1) := w.ne (by decide) (by decide) (by decide)
  have n34 : (A 3 ≠ A 4) := w.ne (by decide) (by decide) (by decide)
  have n32 : (A 3 ≠ A 2) := w.ne (by decide) (by decide) (by decide)
  have n42 : (A 4 ≠ A 2) := w.ne (by decide) (by decide) (by decide)
  have times : ∀ (h1 : AH) (x : Nat) (fx fr : Nat → Int32), MW A X R I S F h1 → x ≠ A 1 → h1 x = some (Ai false 0 64 fx) → h1 (A 4) = some (Ai false 0 64 fr) →
      MT g MX10_times ({ frames := 3, cells := 0, slots := 0, locals := 83 } : Room) [.ref (A 96), .ref (A (500 + j)), .ref (A 4), .ref x, .ref (A 4)] h1 (RV fun h' => ∃ f, V n f = V n fr * V n fx % mv ∧ MW A X R I S F h' ∧ OutJ A h1 h' ∧ h' (A 4) = some (Ai false 0 64 f) ∧ (h' (A 3) = h1 (A 3))) := by
    intro h1 x fx fr w1 x1 hx hr
    obtain ⟨fw, hw⟩ := w1.j 1 rfl
    obtain ⟨F0, hf⟩ := w1.l 2 rfl
    refine MT.mono (mtimes_ok g w1.ob (hm.T w1) hr hx hr hw hf mf_1 mf_2 n41 x1 n41 (hm.sc w1).1 ⟨hn.2, hn.2, hn.2⟩ ⟨by decide, by decide, by decide⟩) (fun o h' q => ?_)
    obtain ⟨e, fw', F', f, -, hv, rfl⟩ := q
    refine ⟨e, f, hv, ((w1.setJ 1 rfl fw').setL 2 rfl F').setJ 4 rfl f, fun y y1 y2 y3 y4 => ?_, hset_self _ _ _, ?_⟩
    · rw [hset_ne y4, hset_ne y2, hset_ne y1]
    · rw [hset_ne n34, hset_ne n32, hset_ne n31]
  have loop : ∀ (m : Nat), m ≤ bits → ∀ (h1 : AH) (fb fr : Nat → Int32), MW A X R I S F h1 → OutJ A h h1 → h1 (A 3) = some (Ai false 0 64 fb) → V n fb = va → h1 (A 4) = some (Ai false 0 64 fr) → V n fr = va ^ (ev / 2 ^ m) % mv →
      XX g MX10_power ({ frames := 4, cells := 0, slots := 0, locals := 112 } : Room) Post 0 0 30 [(6, .int (nI m - 1)), (0, .ref (A 96)), (1, .ref (A (500 + j))), (2, .ref a), (3, .ref ae), (4, .int (nI bits)), (5, .ref to)] [] h1 := by
    intro m
    induction m with
    | zero =>
      intro _ h1 fb fr w1 ou hb3 hbv hr hrv
      refine X_iload (pc := 30) 0 dX10_power_30 rfl ?_
      refine X_if_lt (pc := 32) 94 dX10_power_32 (by decide) (fun c_32 => ?_) (fun c_32 => ?_)
      · skip
        obtain ⟨s, Nm, fm, hM, -⟩ := hm.T w1
        have ho1 : h1 to = some (Ai false 0 no fo) := by rw [ou to eo.1 o2 eo.2.1 eo.2.2]; exact ho
        refine X_aload_n (pc := 94) 1 dX10_power_94 rfl rfl ?_
        refine X_getfield (pc := 95) dX10_power_95 fg_X10_95_11 (MW.ob w1) mf_4 ?_
        refine X_aload (pc := 98) 6 dX10_power_98 rfl ?_
        refine X_aload_n (pc := 100) 2 dX10_power_100 rfl rfl ?_
        refine X_getfield (pc := 101) dX10_power_101 fg_X10_13_12 hM (by first | rfl | assumption) ?_
        refine X_isv (pc := 104) _ dX10_power_104 cs_X10_91 rfl (mcopy_ok g (n := n) hr ho1 hn.2 hno ⟨by decide, hno2⟩) nX10_copy (Nat.le_of_ble_eq_true rfl) (Nat.le_of_ble_eq_true rfl) (Nat.le_of_ble_eq_true rfl) (Nat.le_of_ble_eq_true rfl) (fun h2 q2 => ?_)
        subst hPost
        refine X_return (pc := 107) dX10_power_107 rfl (Nat.le_of_ble_eq_true rfl) (Nat.le_of_ble_eq_true rfl) ?_
        subst q2
        refine ⟨rfl, h1, _, w1, ou, ?_, fun j hj => cpN_at hj, rfl⟩
        rw [cpN_V, hrv, Nat.pow_zero, Nat.div_one]
      · exact absurd (show nI 0 - 1 < 0 by decide) c_32
    | succ k ih =>
      intro hk h1 fb fr w1 ou hb3 hbv hr hrv
      rw [nI_pred]
      have hk12 : k / 32 < N := by omega
      have ck : (nI (k / 32)).toNatClampNeg = k / 32 := nI_clamp (by omega)
      have b1 : vp_in (nI (k / 32)) ne := vp_in_nI (by omega) (by omega)
      have hbit := half_bit ev k
      refine X_iload (pc := 30) 0 dX10_power_30 rfl ?_
      refine X_if_lt (pc := 32) 94 dX10_power_32 (by decide) (fun c_32 => ?_) (fun c_32 => ?_)
      · exact absurd c_32 (nI_pos (by omega))
      · skip
        refine X_aload_n (pc := 35) 1 dX10_power_35 rfl rfl ?_
        refine X_aload_n (pc := 36) 2 dX10_power_36 rfl rfl ?_
        refine X_aload_n (pc := 37) 1 dX10_power_37 rfl rfl ?_
        refine X_getfield (pc := 38) dX10_power_38 fg_X10_95_11 (MW.ob w1) mf_4 ?_
        refine X_aload_n (pc := 41) 1 dX10_power_41 rfl rfl ?_
        refine X_getfield (pc := 42) dX10_power_42 fg_X10_95_11 (MW.ob w1) mf_4 ?_
        refine X_aload_n (pc := 45) 1 dX10_power_45 rfl rfl ?_
        refine X_getfield (pc := 46) dX10_power_46 fg_X10_95_11 (MW.ob w1) mf_4 ?_
        refine X_ivv (pc := 49) _ dX10_power_49 cv_X10_102_11 (MW.ob w1) rfl (times h1 (A 4) fr fr w1 n41 hr hr) nX10_times (Nat.le_of_ble_eq_true rfl) (Nat.le_of_ble_eq_true rfl) (Nat.le_of_ble_eq_true rfl) (Nat.le_of_ble_eq_true rfl) (fun h2 q2 => ?_)
        obtain ⟨f2, v2, w2, ou2, hr2, hb2'⟩ := q2
        rw [hrv, pw_sq] at v2
        have he2 : h2 ae = some (Ai re 0 ne fe) := by rw [ou2 ae ee.1 e2 ee.2.1 ee.2.2, ou ae ee.1 e2 ee.2.1 ee.2.2]; exact he
        have ou' : OutJ A h h2 := fun y y1 y2 y3 y4 => (ou2 y y1 y2 y3 y4).trans (ou y y1 y2 y3 y4)
        refine X_aload_n (pc := 52) 4 dX10_power_52 rfl rfl ?_
        refine X_iload (pc := 53) 0 dX10_power_53 rfl ?_
        refine X_bipush (pc := 55) (x := 32) dX10_power_55 (by decide) ?_
        refine X_idiv (pc := 57) dX10_power_57 (by decide) ?_
        rw [b_div (by omega)]
        refine X_iaload (pc := 58) dX10_power_58 he2 b1 ?_
        refine X_iload (pc := 59) 0 dX10_power_59 rfl ?_
        refine X_bipush (pc := 61) (x := 32) dX10_power_61 (by decide) ?_
        refine X_irem (pc := 63) dX10_power_63 (by decide) ?_
        rw [b_rem (by omega), ck]
        refine X_iushr (pc := 64) dX10_power_64 ?_
        refine X_iconst (pc := 65) (x := 1) dX10_power_65 (by decide) ?_
        refine X_iand (pc := 66) dX10_power_66 ?_
        refine X_iconst (pc := 67) (x := 1) dX10_power_67 (by decide) ?_
        rw [bit_at hk12, hev]
        have h01 : ev / 2 ^ k % 2 = 0 ∨ ev / 2 ^ k % 2 = 1 := by omega
        rcases h01 with hb0 | hb1
        · rw [hb0]
          refine X_icmp_ne (pc := 68) 88 dX10_power_68 (by decide) (fun _ => ?_) (fun c => absurd c (by decide))
          refine X_iinc (pc := 88) (L' := [(6, .int (_ + (-1))), (0, .ref _), (1, .ref _), (2, .ref _), (3, .ref _), (4, .int _), (5, .ref _)]) 0 dX10_power_88 rfl rfl (Nat.le_of_ble_eq_true rfl) rfl ?_
          refine X_goto (pc := 91) 30 dX10_power_91 (by decide) ?_
          rw [m1]
          refine ih (by omega) h2 fb f2 w2 ou' (by rw [hb2']; exact hb3) hbv hr2 ?_
          rw [v2, hbit, hb0]
          rfl
        · rw [hb1]
          refine X_icmp_ne (pc := 68) 88 dX10_power_68 (by decide) (fun c => absurd rfl c) (fun _ => ?_)
          refine X_aload_n (pc := 71) 1 dX10_power_71 rfl rfl ?_
          refine X_aload_n (pc := 72) 2 dX10_power_72 rfl rfl ?_
          refine X_aload_n (pc := 73) 1 dX10_power_73 rfl rfl ?_
          refine X_getfield (pc := 74) dX10_power_74 fg_X10_95_11 (MW.ob w2) mf_4 ?_
          refine X_aload_n (pc := 77) 1 dX10_power_77 rfl rfl ?_
          refine X_getfield (pc := 78) dX10_power_78 fg_X10_88_11 (MW.ob w2) mf_3 ?_
          refine X_aload_n (pc := 81) 1 dX10_power_81 rfl rfl ?_
          refine X_getfield (pc := 82) dX10_power_82 fg_X10_95_11 (MW.ob w2) mf_4 ?_
          refine X_ivv (pc := 85) _ dX10_power_85 cv_X10_102_11 (MW.ob w2) rfl (times h2 (A 3) fb f2 w2 n31 (by rw [hb2']; exact hb3) hr2) nX10_times (Nat.le_of_ble_eq_true rfl) (Nat.le_of_ble_eq_true rfl) (Nat.le_of_ble_eq_true rfl) (Nat.le_of_ble_eq_true rfl) (fun h3 q3 => ?_)
          obtain ⟨f3, v3, w3, ou3, hr3, hb3'⟩ := q3
          rw [v2, hbv, pw_one] at v3
          refine X_iinc (pc := 88) (L' := [(6, .int (_ + (-1))), (0, .ref _), (1, .ref _), (2, .ref _), (3, .ref _), (4, .int _), (5, .ref _)]) 0 dX10_power_88 rfl rfl (Nat.le_of_ble_eq_true rfl) rfl ?_
          refine X_goto (pc := 91) 30 dX10_power_91 (by decide) ?_
          rw [m1]
          refine ih (by omega) h3 fb f3 w3 (fun y y1 y2 y3 y4 => (ou3 y y1 y2 y3 y4).trans (ou' y y1 y2 y3 y4)) (by rw [hb3', hb2']; exact hb3) hbv hr3 ?_
          rw [v3, hbit, hb1]
  obtain ⟨s0, Nm, fm, hM, -⟩ := hm.T w
  obtain ⟨ra, na, fa, a1, a2, a3, rfl, a5, a6⟩ := oa
  obtain ⟨f3, hc3⟩ := w.j 3 rfl
  refine X_aload_n (pc := 0) 2 dX10_power_0 rfl rfl ?_
  refine X_aload_n (pc := 1) 0 dX10_power_1 rfl rfl ?_
  refine X_getfield (pc := 2) dX10_power_2 fg_X10_88_11 (MW.ob w) mf_3 ?_
  refine X_aload_n (pc := 5) 1 dX10_power_5 rfl rfl ?_
  refine X_getfield (pc := 6) dX10_power_6 fg_X10_13_12 hM (by first | rfl | assumption) ?_
  refine X_isv (pc := 9) _ dX10_power_9 cs_X10_91 rfl (mcopy_ok g (n := n) a1 hc3 a2 hn.2 ⟨a3, by decide⟩) nX10_copy (Nat.le_of_ble_eq_true rfl) (Nat.le_of_ble_eq_true rfl) (Nat.le_of_ble_eq_true rfl) (Nat.le_of_ble_eq_true rfl) (fun h1 q1 => ?_)
  subst q1
  have w1 := w.setJ 3 rfl (cpN n fa f3)
  obtain ⟨f4, hc4⟩ := w1.j 4 rfl
  obtain ⟨s1, Nm1, fm1, hM1, -⟩ := hm.T w1
  refine X_iconst (pc := 12) (x := 1) dX10_power_12 (by decide) ?_
  refine X_aload_n (pc := 13) 0 dX10_power_13 rfl rfl ?_
  refine X_getfield (pc := 14) dX10_power_14 fg_X10_95_11 (MW.ob w1) mf_4 ?_
  refine X_aload_n (pc := 17) 1 dX10_power_17 rfl rfl ?_
  refine X_getfield (pc := 18) dX10_power_18 fg_X10_13_12 hM1 (by first | rfl | assumption) ?_
  refine X_isv (pc := 21) _ dX10_power_21 cs_X10_98 rfl (msmall_ok g (n := n) hc4 hn.1 hn.2 (by decide)) nX10_small (Nat.le_of_ble_eq_true rfl) (Nat.le_of_ble_eq_true rfl) (Nat.le_of_ble_eq_true rfl) (Nat.le_of_ble_eq_true rfl) (fun h2 q2 => ?_)
  subst q2
  have w2 := w1.setJ 4 rfl (smN n 1 f4)
  refine X_iload (pc := 24) 4 dX10_power_24 rfl ?_
  refine X_iconst (pc := 26) (x := 1) dX10_power_26 (by decide) ?_
  refine X_isub (pc := 27) dX10_power_27 ?_
  refine X_istore (pc := 28) (L' := [(6, .int _), (0, .ref _), (1, .ref _), (2, .ref _), (3, .ref _), (4, .int _), (5, .ref _)]) dX10_power_28 (Nat.le_of_ble_eq_true rfl) rfl ?_
  refine loop bits (Nat.le_refl _) _ (cpN n fa f3) (smN n 1 f4) w2 (fun y y1 y2 y3 y4 => by rw [hset_ne y4, hset_ne y3]) (by rw [hset_ne n34, hset_self]) cpN_V (hset_self _ _ _) ?_
  rw [smN_V hn.1, Nat.div_eq_of_lt hev2, Nat.pow_zero, Nat.mod_eq_of_lt hmv]
  rfl
end MQ
