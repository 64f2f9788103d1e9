set_option maxRecDepth 100000
/-! the reference: a point's bytes; is a number a secret -/
def encF (x y at' : Nat) (f : Nat → Int32) (j : Nat) : Int32 := if j = at' then tb (2 + y % 2) else stF x (at' + 1) 48 f j
section MSm
variable {A : Nat → Nat} {X : AH} {R : Nat → Nat} {I : Nat → Nat → Int32} {S : Nat → List Int32} {F : Nat → Int32} {h : AH}
theorem bytes_ok (g : GX) (w : MW A X R I S F h) {s out at' nt : Nat} {ft : Nat → Int32} (hs : s < 31) (ho : h out = some (Ai false 2 nt ft)) (h1 : at' + 49 ≤ nt) (h2 : nt < 2 ^ 31) :
    MT g MX10_bytes ({ frames := 1, cells := 0, slots := 0, locals := 24 } : Room) [.ref (A (400 + s)), .ref out, .int (nI at')] h (RV fun h' => h' = hset h out (Ai false 2 nt (encF (R (200 + s)) (R (300 + s)) at' ft))) := by
  refine MT.of (by decide) (Nat.le_of_ble_eq_true rfl) ?_
  obtain ⟨fy, cy, vy, ly⟩ := w.n (300 + s) (kd_y hs)
  obtain ⟨rx, nx, fx, cx, x2, x3, vx, -, -⟩ := OpM.sx w hs
  have ca : (nI at').toNatClampNeg = at' := nI_clamp (by omega)
  have b1 : vp_in (nI at') nt := vp_in_nI (by omega) (by omega)
  have n1 : A (200 + s) ≠ out := fun e => by rw [← e, cx] at ho; cases ho
  have n2 : A (400 + s) ≠ out := fun e => by have c := w.sp s hs; rw [e, ho] at c; cases c
  refine X_aload_n (pc := 0) 1 dX10_bytes_0 rfl rfl ?_
  refine X_iload_n (pc := 1) 2 dX10_bytes_1 rfl rfl ?_
  refine X_iconst (pc := 2) (x := 2) dX10_bytes_2 (by decide) ?_
  refine X_aload_n (pc := 3) 0 dX10_bytes_3 rfl rfl ?_
  refine X_getfield (pc := 4) dX10_bytes_4 fg_X10_149_13 (w.sp s hs) (by first | rfl | assumption) ?_
  refine X_iconst (pc := 7) (x := 0) dX10_bytes_7 (by decide) ?_
  refine X_iaload (pc := 8) dX10_bytes_8 cy (vp_in_nI (n := 0) (by decide) (by decide)) ?_
  refine X_iconst (pc := 9) (x := 1) dX10_bytes_9 (by decide) ?_
  refine X_iand (pc := 10) dX10_bytes_10 ?_
  rw [show fy ((0 : Int32).toNatClampNeg) &&& 1 = nI (R (300 + s) % 2) by rw [show (0 : Int32).toNatClampNeg = 0 from rfl, V_odd (n := 12) (by decide), vy]]
  refine X_iadd (pc := 11) dX10_bytes_11 ?_
  rw [show (2 : Int32) + nI (R (300 + s) % 2) = nI (2 + R (300 + s) % 2) from nI_add 2 _]
  refine X_i2b (pc := 12) dX10_bytes_12 ?_
  rw [toInt8_low]
  refine X_bastore (pc := 13) dX10_bytes_13 ho b1 ?_
  rw [tb8, ca, show u32 (nI (2 + R (300 + s) % 2)) = 2 + R (300 + s) % 2 from pk_tn (by omega)]
  have c0 : hset h out (Ai false 2 nt (upd ft at' (tb (2 + R (300 + s) % 2)))) (A (400 + s)) = some (Ob 13 [.ref (A (200 + s)), .ref (A (300 + s)), .int (F (400 + s))]) := by rw [hset_ne n2]; exact w.sp s hs
  have c1 : hset h out (Ai false 2 nt (upd ft at' (tb (2 + R (300 + s) % 2)))) (A (200 + s)) = some (Ai rx 0 nx fx) := by rw [hset_ne n1]; exact cx
  refine X_aload_n (pc := 14) 0 dX10_bytes_14 rfl rfl ?_
  refine X_getfield (pc := 15) dX10_bytes_15 fg_X10_146_13 c0 (by first | rfl | assumption) ?_
  refine X_aload_n (pc := 18) 1 dX10_bytes_18 rfl rfl ?_
  refine X_iload_n (pc := 19) 2 dX10_bytes_19 rfl rfl ?_
  refine X_iconst (pc := 20) (x := 1) dX10_bytes_20 (by decide) ?_
  refine X_iadd (pc := 21) dX10_bytes_21 ?_
  refine X_bipush (pc := 22) (x := 48) dX10_bytes_22 (by decide) ?_
  rw [show nI at' + 1 = nI (at' + 1) from nI_add at' 1]
  refine X_isv (pc := 24) _ dX10_bytes_24 cs_X10_232 rfl (store_ok g (fr := at' + 1) (many := 48) (n := 12) c1 (hset_self _ _ _) x2 x3 (by omega) h2 (by decide)) nX10_store (Nat.le_of_ble_eq_true rfl) (Nat.le_of_ble_eq_true rfl) (Nat.le_of_ble_eq_true rfl) (Nat.le_of_ble_eq_true rfl) (fun h3 q3 => ?_)
  subst q3
  refine X_return (pc := 27) dX10_bytes_27 rfl (Nat.le_of_ble_eq_true rfl) (Nat.le_of_ble_eq_true rfl) ?_
  refine ⟨rfl, ?_⟩
  rw [hset_hset, vx]
  congr 3
  funext j
  unfold encF stF upd
  by_cases e : j = at'
  · rw [if_neg (by omega), if_pos e, if_pos e]
  · rw [if_neg e, if_neg e]
theorem isSec_ok (g : GX) (w : MW A X R I S F h) {a v : Nat} (oa : OpM A h a 12 v) :
    MT g MX10_isSecret ({ frames := 2, cells := 0, slots := 0, locals := 43 } : Room) [.ref a] h (RI fun r h' => r = (if v ≠ 0 ∧ v < qP then 1 else 0) ∧ h' = h) := by
  refine MT.of (by decide) (Nat.le_of_ble_eq_true rfl) ?_
  refine X_aload_n (pc := 0) 0 dX10_isSecret_0 rfl rfl ?_
  refine X_bipush (pc := 1) (x := 12) dX10_isSecret_1 (by decide) ?_
  refine X_isi (pc := 3) _ dX10_isSecret_3 cs_X10_122 rfl (mzW g oa) nX10_isZero (Nat.le_of_ble_eq_true rfl) (Nat.le_of_ble_eq_true rfl) (Nat.le_of_ble_eq_true rfl) (Nat.le_of_ble_eq_true rfl) (fun r1 h1 q1 => ?_)
  obtain ⟨rfl, rfl⟩ := q1
  by_cases h0 : v = 0
  · rw [if_pos h0]
    refine X_if_ne (pc := 6) 25 dX10_isSecret_6 (by decide) (fun _ => ?_) (fun c => absurd c (by decide))
    refine X_iconst (pc := 25) (x := 0) dX10_isSecret_25 (by decide) ?_
    refine X_zreturn (pc := 26) dX10_isSecret_26 rfl (by first | exact Or.inl rfl | exact Or.inr rfl | assumption | exact zo_if) (Nat.le_of_ble_eq_true rfl) (Nat.le_of_ble_eq_true rfl) ?_
    exact ⟨0, rfl, by rw [if_neg (fun c => c.1 h0)], rfl⟩
  · rw [if_neg h0]
    refine X_if_ne (pc := 6) 25 dX10_isSecret_6 (by decide) (fun c => absurd rfl c) (fun _ => ?_)
    refine X_aload_n (pc := 9) 0 dX10_isSecret_9 rfl rfl ?_
    refine X_getstatic (pc := 10) (j := 4) dX10_isSecret_10 q1384 (fun _ => rfl) rfl (fun st_10 hs_10 => ?_)
    refine X_bipush (pc := 13) (x := 12) dX10_isSecret_13 (by decide) ?_
    refine X_isi (pc := 15) _ dX10_isSecret_15 cs_X10_26 rfl (mcW g oa (OpM.st w hs_10 (by decide))) nX10_compare (Nat.le_of_ble_eq_true rfl) (Nat.le_of_ble_eq_true rfl) (Nat.le_of_ble_eq_true rfl) (Nat.le_of_ble_eq_true rfl) (fun r2 h2 q2 => ?_)
    obtain ⟨rfl, rfl⟩ := q2
    rw [V_tQ]
    by_cases hq : v < qP
    · refine X_if_ge (pc := 18) 25 dX10_isSecret_18 (by decide) (fun c => absurd (cmpN_lt0.mpr hq) (Int32.not_lt.mpr c)) (fun _ => ?_)
      refine X_iconst (pc := 21) (x := 1) dX10_isSecret_21 (by decide) ?_
      refine X_goto (pc := 22) 26 dX10_isSecret_22 (by decide) ?_
      refine X_zreturn (pc := 26) dX10_isSecret_26 rfl (by first | exact Or.inl rfl | exact Or.inr rfl | assumption | exact zo_if) (Nat.le_of_ble_eq_true rfl) (Nat.le_of_ble_eq_true rfl) ?_
      exact ⟨1, rfl, by rw [if_pos ⟨h0, hq⟩], rfl⟩
    · refine X_if_ge (pc := 18) 25 dX10_isSecret_18 (by decide) (fun _ => ?_) (fun c => absurd (cmpN_lt0.mp (Int32.not_le.mp c)) hq)
      refine X_iconst (pc := 25) (x := 0) dX10_isSecret_25 (by decide) ?_
      refine X_zreturn (pc := 26) dX10_isSecret_26 rfl (by first | exact Or.inl rfl | exact Or.inr rfl | assumption | exact zo_if) (Nat.le_of_ble_eq_true rfl) (Nat.le_of_ble_eq_true rfl) ?_
      exact ⟨0, rfl, by rw [if_neg (fun c => hq c.2)], rfl⟩
end MSm
