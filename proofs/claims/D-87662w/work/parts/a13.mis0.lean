set_option maxRecDepth 100000
/-! the reference's constructor: a modulus is told a number of 12 limbs of which the top one is all ones -/
def hMod (h : AH) (b m hi : Nat) (fm fh : Nat → Int32) (n s : Int32) : AH := fun q => if q = b then some (Ob 12 [.ref m, .ref hi, .int n, .int s]) else if q = m then some (Ai false 0 64 fm) else if q = hi then some (Ai false 0 64 fh) else h q
section MIs0
variable {h : AH} {b m hi : Nat} {fm fh : Nat → Int32} {n s : Int32}
theorem hMod_b : hMod h b m hi fm fh n s b = some (Ob 12 [.ref m, .ref hi, .int n, .int s]) := if_pos rfl
theorem hMod_m (e1 : m ≠ b) : hMod h b m hi fm fh n s m = some (Ai false 0 64 fm) := by unfold hMod; rw [if_neg e1, if_pos rfl]
theorem hMod_hi (e2 : hi ≠ b) (e3 : hi ≠ m) : hMod h b m hi fm fh n s hi = some (Ai false 0 64 fh) := by unfold hMod; rw [if_neg e2, if_neg e3, if_pos rfl]
theorem hMod_o {a : Nat} (e1 : a ≠ b) (e2 : a ≠ m) (e3 : a ≠ hi) : hMod h b m hi fm fh n s a = h a := by unfold hMod; rw [if_neg e1, if_neg e2, if_neg e3]
theorem hMod_sb (n' s' : Int32) : hset (hMod h b m hi fm fh n s) b (Ob 12 [.ref m, .ref hi, .int n', .int s']) = hMod h b m hi fm fh n' s' := by
  funext q
  by_cases e : q = b
  · rw [e, hset_self, hMod_b]
  · rw [hset_ne e]
    unfold hMod
    rw [if_neg e, if_neg e]
theorem hMod_sm (e1 : m ≠ b) (fm' : Nat → Int32) : hset (hMod h b m hi fm fh n s) m (Ai false 0 64 fm') = hMod h b m hi fm' fh n s := by
  funext q
  by_cases e : q = m
  · rw [e, hset_self, hMod_m e1]
  · rw [hset_ne e]
    unfold hMod
    rw [if_neg e, if_neg e]
theorem hMod_sh (e2 : hi ≠ b) (e3 : hi ≠ m) (fh' : Nat → Int32) : hset (hMod h b m hi fm fh n s) hi (Ai false 0 64 fh') = hMod h b m hi fm fh' n s := by
  funext q
  by_cases e : q = hi
  · rw [e, hset_self, hMod_hi e2 e3]
  · rw [hset_ne e]
    unfold hMod
    rw [if_neg e, if_neg e]
theorem hMod_0 (e1 : h b = some (Ob 12 [.ref m, .ref hi, .int n, .int s])) (e2 : h m = some (Ai false 0 64 fm)) (e3 : h hi = some (Ai false 0 64 fh)) : h = hMod h b m hi fm fh n s := by
  funext q
  unfold hMod
  by_cases c1 : q = b
  · rw [if_pos c1, c1, e1]
  · rw [if_neg c1]
    by_cases c2 : q = m
    · rw [if_pos c2, c2, e2]
    · rw [if_neg c2]
      by_cases c3 : q = hi
      · rw [if_pos c3, c3, e3]
      · rw [if_neg c3]
/-- 12 limbs in a row of 64 -/
def lo12 (fa : Nat → Int32) (i j : Nat) : Int32 := if j < i then fa j else 0
theorem lo12_s (fa : Nat → Int32) (i : Nat) : upd (lo12 fa i) i (fa i) = lo12 fa (i + 1) := by
  funext j
  show (if j = i then fa i else lo12 fa i j) = _
  unfold lo12
  by_cases e : j = i
  · rw [if_pos e, if_pos (by omega), e]
  · rw [if_neg e]
    by_cases c : j < i
    · rw [if_pos c, if_pos (by omega)]
    · rw [if_neg c, if_neg (by omega)]
def hi12 (fa : Nat → Int32) (i j : Nat) : Int32 := if i ≤ j ∧ j < 12 then fa j else 0
theorem hi12_s (fa : Nat → Int32) {i : Nat} (h : i < 12) : upd (hi12 fa (i + 1)) i (fa i) = hi12 fa i := by
  funext j
  show (if j = i then fa i else hi12 fa (i + 1) j) = _
  unfold hi12
  by_cases e : j = i
  · rw [if_pos e, if_pos (by omega), e]
  · rw [if_neg e]
    by_cases c : i ≤ j ∧ j < 12
    · rw [if_pos c, if_pos (by omega)]
    · rw [if_neg c, if_neg (by omega)]
theorem shl0 (x : Int32) : x <<< ((0 : Int32) &&& 31) = x := by
  apply Int32.toBitVec_inj.mp
  rw [Int32.toBitVec_shiftLeft]
  show x.toBitVec <<< (0 : BitVec 32) = _
  simp
theorem orz (x : Int32) : x ||| 0 = x := by
  apply Int32.toBitVec_inj.mp
  rw [Int32.toBitVec_or]
  show x.toBitVec ||| (0 : BitVec 32) = _
  simp
set_option maxHeartbeats 2000000 in
theorem modIs0 (g : GX) {a : Nat} {fa : Nat → Int32} (e1 : h b = some (Ob 12 [.ref m, .ref hi, .int 0, .int 0])) (e2 : h m = some (Ai false 0 64 fun _ => 0)) (e3 : h hi = some (Ai false 0 64 fun _ => 0)) (e4 : hi ≠ m) (ha : h a = some (Ai true 0 12 fa)) (htop : fa 11 = -1) :
    MT g MX11_is ({ frames := 1, cells := 0, slots := 0, locals := 21 } : Room) [.ref b, .ref a, .int 12] h (RV fun h' => h' = hMod h b m hi (lo12 fa 12) (hi12 fa 0) 12 0) := by
  refine MT.of (by decide) (Nat.le_of_ble_eq_true rfl) ?_
  have mb : m ≠ b := fun e => by rw [e, e1] at e2; cases e2
  have hb : hi ≠ b := fun e => by rw [e, e1] at e3; cases e3
  have ab : a ≠ b := fun e => by rw [e, e1] at ha; cases ha
  have am : a ≠ m := fun e => by rw [e, e2] at ha; cases ha
  have ah : a ≠ hi := fun e => by rw [e, e3] at ha; cases ha
  generalize hPost : (RV fun h' => h' = hMod h b m hi (lo12 fa 12) (hi12 fa 0) 12 0) = Post
  have loop2 : ∀ k, k ≤ 12 → XX g MX11_is ({ frames := 1, cells := 0, slots := 0, locals := 21 } : Room) Post 0 0 55 [(3, .int (nI k - 1)), (0, .ref b), (1, .ref a), (2, .int 12)] [] (hMod h b m hi (lo12 fa 12) (hi12 fa k) 12 0) := by
    intro k
    induction k with
    | zero =>
      intro _
      refine X_iload_n (pc := 55) 0 dX11_is_55 rfl rfl ?_
      refine X_if_lt (pc := 56) 114 dX11_is_56 (by decide) (fun _ => ?_) (fun z => absurd (show nI 0 - 1 < 0 by decide) z)
      subst hPost
      refine X_return (pc := 114) dX11_is_114 rfl (Nat.le_of_ble_eq_true rfl) (Nat.le_of_ble_eq_true rfl) ?_
      exact ⟨rfl, rfl⟩
    | succ k ih =>
      intro hk
      rw [nI_pred]
      have ck : (nI k).toNatClampNeg = k := nI_clamp (by omega)
      have bk : vp_in (nI k) 64 := vp_in_nI (by omega) (by omega)
      have cO : hMod h b m hi (lo12 fa 12) (hi12 fa (k + 1)) 12 0 b = some (Ob 12 [.ref m, .ref hi, .int 12, .int 0]) := hMod_b
      have cm : hMod h b m hi (lo12 fa 12) (hi12 fa (k + 1)) 12 0 m = some (Ai false 0 64 (lo12 fa 12)) := hMod_m mb
      have ch : hMod h b m hi (lo12 fa 12) (hi12 fa (k + 1)) 12 0 hi = some (Ai false 0 64 (hi12 fa (k + 1))) := hMod_hi hb e4
      refine X_iload_n (pc := 55) 0 dX11_is_55 rfl rfl ?_
      refine X_if_lt (pc := 56) 114 dX11_is_56 (by decide) (fun z => absurd z (nI_pos (by omega))) (fun _ => ?_)
      refine X_aload_n (pc := 59) 1 dX11_is_59 rfl rfl ?_
      refine X_getfield (pc := 60) dX11_is_60 fg_X11_15_12 cO (by first | rfl | assumption) ?_
      refine X_iload_n (pc := 63) 0 dX11_is_63 rfl rfl ?_
      refine X_aload_n (pc := 64) 1 dX11_is_64 rfl rfl ?_
      refine X_getfield (pc := 65) dX11_is_65 fg_X11_9_12 cO (by first | rfl | assumption) ?_
      refine X_iload_n (pc := 68) 0 dX11_is_68 rfl rfl ?_
      refine X_iaload (pc := 69) dX11_is_69 cm bk ?_
      refine X_aload_n (pc := 70) 1 dX11_is_70 rfl rfl ?_
      refine X_getfield (pc := 71) dX11_is_71 fg_X11_28_12 cO (by first | rfl | assumption) ?_
      refine X_ishl (pc := 74) dX11_is_74 ?_
      refine X_aload_n (pc := 75) 1 dX11_is_75 rfl rfl ?_
      refine X_getfield (pc := 76) dX11_is_76 fg_X11_28_12 cO (by first | rfl | assumption) ?_
      rw [ck, shl0, show lo12 fa 12 k = fa k from if_pos (by omega)]
      refine X_if_le (pc := 79) 105 dX11_is_79 (by decide) (fun _ => ?_) (fun z => absurd (show (0 : Int32) ≤ 0 by decide) z)
      refine X_iconst (pc := 105) (x := 0) dX11_is_105 (by decide) ?_
      refine X_ior (pc := 106) dX11_is_106 ?_
      rw [orz]
      refine X_iastore (pc := 107) dX11_is_107 ch bk ?_
      rw [ck, hi12_s fa (by omega), hMod_sh hb e4]
      refine X_iinc (pc := 108) (L' := [(3, .int (_ + (-1))), (0, .ref _), (1, .ref _), (2, .int _)]) 0 dX11_is_108 rfl rfl (Nat.le_of_ble_eq_true rfl) rfl ?_
      refine X_goto (pc := 111) 55 dX11_is_111 (by decide) ?_
      rw [m1]
      exact ih (by omega)
  have loop1 : ∀ k i, i + k = 12 → XX g MX11_is ({ frames := 1, cells := 0, slots := 0, locals := 21 } : Room) Post 0 0 7 [(3, .int (nI i)), (0, .ref b), (1, .ref a), (2, .int 12)] [] (hMod h b m hi (lo12 fa i) (fun _ => 0) 12 0) := by
    intro k
    induction k with
    | zero =>
      intro i hi'
      have ei : i = 12 := by omega
      subst ei
      have cO : hMod h b m hi (lo12 fa 12) (fun _ => 0) 12 0 b = some (Ob 12 [.ref m, .ref hi, .int 12, .int 0]) := hMod_b
      have cm : hMod h b m hi (lo12 fa 12) (fun _ => 0) 12 0 m = some (Ai false 0 64 (lo12 fa 12)) := hMod_m mb
      have v11 : vp_in ((12 : Int32) - 1) 64 := vp_in_nI (n := 11) (by decide) (by decide)
      refine X_iload_n (pc := 7) 0 dX11_is_7 rfl rfl ?_
      refine X_aload_n (pc := 8) 1 dX11_is_8 rfl rfl ?_
      refine X_getfield (pc := 9) dX11_is_9 fg_X11_18_12 cO (by first | rfl | assumption) ?_
      refine X_cge (a := 12) (b := 12) (pc := 12) 30 dX11_is_12 (by decide) (by omega) (by omega) (fun _ => ?_) (fun z => absurd z (by omega))
      refine X_aload_n (pc := 30) 1 dX11_is_30 rfl rfl ?_
      refine X_aload_n (pc := 31) 1 dX11_is_31 rfl rfl ?_
      refine X_getfield (pc := 32) dX11_is_32 fg_X11_9_12 cO (by first | rfl | assumption) ?_
      refine X_aload_n (pc := 35) 1 dX11_is_35 rfl rfl ?_
      refine X_getfield (pc := 36) dX11_is_36 fg_X11_18_12 cO (by first | rfl | assumption) ?_
      refine X_iconst (pc := 39) (x := 1) dX11_is_39 (by decide) ?_
      refine X_isub (pc := 40) dX11_is_40 ?_
      refine X_iaload (pc := 41) dX11_is_41 cm v11 ?_
      rw [show ((12 : Int32) - 1).toNatClampNeg = 11 from rfl, show lo12 fa 12 11 = nI 4294967295 from (if_pos (by decide)).trans htop]
      refine X_isi (pc := 42) _ dX11_is_42 cs_X11_22 rfl (nlz_ok g _ (n := 4294967295) (by decide) (by decide)) nJ4_numberOfLeadingZeros (Nat.le_of_ble_eq_true rfl) (Nat.le_of_ble_eq_true rfl) (Nat.le_of_ble_eq_true rfl) (Nat.le_of_ble_eq_true rfl) (fun r1 h1 q1 => ?_)
      obtain ⟨rfl, s, hs, rfl, hs1, hs2⟩ := q1
      have hs0 : s = 0 := by
        apply Nat.le_antisymm _ (Nat.zero_le s)
        apply Nat.le_of_not_lt
        intro z
        have : 2 ^ 1 ≤ 2 ^ s := Nat.pow_le_pow_right (by decide) z
        have h2 : 4294967295 * 2 ^ 1 ≤ 4294967295 * 2 ^ s := Nat.mul_le_mul_left _ this
        omega
      subst hs0
      refine X_putfield (pc := 45) dX11_is_45 fp_X11_28_12 (fun e => by cases e) cO rfl rfl (Nat.le_of_ble_eq_true rfl) ?_
      refine XX.eqh (h' := hMod h b m hi (lo12 fa 12) (hi12 fa 12) 12 0) ?_ ?_
      · have e0 : hi12 fa 12 = fun _ => 0 := funext fun j => if_neg (by omega)
        rw [e0]
        exact hMod_sb 12 0
      have cO : hMod h b m hi (lo12 fa 12) (hi12 fa 12) 12 0 b = some (Ob 12 [.ref m, .ref hi, .int 12, .int 0]) := hMod_b
      refine X_aload_n (pc := 48) 1 dX11_is_48 rfl rfl ?_
      refine X_getfield (pc := 49) dX11_is_49 fg_X11_18_12 cO (by first | rfl | assumption) ?_
      refine X_iconst (pc := 52) (x := 1) dX11_is_52 (by decide) ?_
      refine X_isub (pc := 53) dX11_is_53 ?_
      refine X_istore_n (pc := 54) (L' := [(3, .int _), (0, .ref _), (1, .ref _), (2, .int _)]) dX11_is_54 rfl (Nat.le_of_ble_eq_true rfl) rfl ?_
      exact loop2 12 (by omega)
    | succ k ih =>
      intro i hi'
      have cO : hMod h b m hi (lo12 fa i) (fun _ => 0) 12 0 b = some (Ob 12 [.ref m, .ref hi, .int 12, .int 0]) := hMod_b
      have cm : hMod h b m hi (lo12 fa i) (fun _ => 0) 12 0 m = some (Ai false 0 64 (lo12 fa i)) := hMod_m mb
      have ca : hMod h b m hi (lo12 fa i) (fun _ => 0) 12 0 a = some (Ai true 0 12 fa) := (hMod_o ab am ah).trans ha
      have ci : (nI i).toNatClampNeg = i := nI_clamp (by omega)
      have bi : vp_in (nI i) 64 := vp_in_nI (by omega) (by omega)
      have bi2 : vp_in (nI i) 12 := vp_in_nI (by omega) (by omega)
      refine X_iload_n (pc := 7) 0 dX11_is_7 rfl rfl ?_
      refine X_aload_n (pc := 8) 1 dX11_is_8 rfl rfl ?_
      refine X_getfield (pc := 9) dX11_is_9 fg_X11_18_12 cO (by first | rfl | assumption) ?_
      refine X_cge (b := 12) (pc := 12) 30 dX11_is_12 (by decide) (by omega) (by omega) (fun z => absurd z (by omega)) (fun _ => ?_)
      refine X_aload_n (pc := 15) 1 dX11_is_15 rfl rfl ?_
      refine X_getfield (pc := 16) dX11_is_16 fg_X11_9_12 cO (by first | rfl | assumption) ?_
      refine X_iload_n (pc := 19) 0 dX11_is_19 rfl rfl ?_
      refine X_aload_n (pc := 20) 2 dX11_is_20 rfl rfl ?_
      refine X_iload_n (pc := 21) 0 dX11_is_21 rfl rfl ?_
      refine X_iaload (pc := 22) dX11_is_22 ca bi2 ?_
      refine X_iastore (pc := 23) dX11_is_23 cm bi ?_
      rw [ci, lo12_s, hMod_sm mb]
      refine X_iinc (pc := 24) (L' := [(3, .int (_ + 1)), (0, .ref _), (1, .ref _), (2, .int _)]) 0 dX11_is_24 rfl rfl (Nat.le_of_ble_eq_true rfl) rfl ?_
      refine X_goto (pc := 27) 7 dX11_is_27 (by decide) ?_
      rw [show nI i + 1 = nI (i + 1) from nI_add i 1]
      exact ih (i + 1) (by omega)
  refine X_aload_n (pc := 0) 0 dX11_is_0 rfl rfl ?_
  refine X_iload_n (pc := 1) 2 dX11_is_1 rfl rfl ?_
  refine X_putfield (pc := 2) dX11_is_2 fp_X11_18_12 (fun e => by cases e) e1 rfl rfl (Nat.le_of_ble_eq_true rfl) ?_
  refine XX.eqh (h' := hMod h b m hi (lo12 fa 0) (fun _ => 0) 12 0) ?_ ?_
  · have e0 : lo12 fa 0 = fun _ => 0 := funext fun j => if_neg (by omega)
    rw [e0, ← hMod_sb (n := 0) (s := 0), ← hMod_0 e1 e2 e3]
    rfl
  refine X_iconst (pc := 5) (x := 0) dX11_is_5 (by decide) ?_
  refine X_istore_n (pc := 6) (L' := [(3, .int _), (0, .ref _), (1, .ref _), (2, .int _)]) dX11_is_6 rfl (Nat.le_of_ble_eq_true rfl) rfl ?_
  exact loop1 12 0 (by omega)
end MIs0
