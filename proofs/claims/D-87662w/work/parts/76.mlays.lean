set_option maxRecDepth 100000
/-! the reference: messages -/
/-- the world when l lies in the message -/
def LW (A : Nat → Nat) (X : AH) (R : Nat → Nat) (I : Nat → Nat → Int32) (S : Nat → List Int32) (F : Nat → Int32) (l : List Int32) (h : AH) : Prop := MW A X R I (up S 32 l) (up F 33 (nI l.length)) h
def encB (x y : Nat) : List Int32 := (List.range 49).map (encF x y 0 fun _ => 0)
theorem encB_len (x y : Nat) : (encB x y).length = 49 := by unfold encB; rw [List.length_map, List.length_range]
theorem encF_cg {x y at' j : Nat} {f f' : Nat → Int32} (h : at' ≤ j) (hj : j < at' + 49) : encF x y at' f j = encF x y 0 f' (j - at') := by
  unfold encF
  by_cases e : j = at'
  · rw [if_pos e, if_pos (by omega)]
  · rw [if_neg e, if_neg (by omega)]
    unfold stF
    rw [if_pos (by omega), if_pos (by omega)]
    congr 2
    congr 1
    omega
theorem encB_B (x y : Nat) : IsB (encB x y) := fun v hv => by
  unfold encB at hv
  obtain ⟨a, ha, rfl⟩ := List.mem_map.mp hv
  have hl := List.mem_range.mp ha
  unfold encF
  split
  · exact tb_tb _
  · unfold stF
    rw [if_pos (by omega)]
    exact tb_tb _
theorem getD_map_range {f : Nat → Int32} {n j : Nat} (hj : j < n) : ((List.range n).map f).getD j 0 = f j := by
  rw [List.getD_eq_getElem?_getD, List.getElem?_map, List.getElem?_range hj]
  rfl
theorem getD_app_lt {a b : List Int32} {j : Nat} (h : j < a.length) : (a ++ b).getD j 0 = a.getD j 0 := by
  rw [List.getD_eq_getElem?_getD, List.getD_eq_getElem?_getD, List.getElem?_append_left h]
section MLy
variable {A : Nat → Nat} {X : AH} {R : Nat → Nat} {I : Nat → Nat → Int32} {S : Nat → List Int32} {F : Nat → Int32} {h : AH} {l : List Int32} {a v : Nat} {tx : List Nat}
/-- a byte behind the message -/
theorem MW.msg (w : MW A X R I (up S 32 l) F h) {f : Nat → Int32} (c : h (A 32) = some (Ai false 2 700 f)) (p : PL f l) {x : Int32} (hl : l.length < 700) : MW A X R I (up S 32 (l ++ [x])) F (hset h (A 32) (Ai false 2 700 (upd f l.length x))) := by
  have w2 := w.setS 32 rfl (PL_snoc (x := x) p) (by rw [List.length_append]; exact hl)
  rw [up_up'] at w2
  exact w2
set_option maxHeartbeats 1000000 in
theorem lays_ok (g : GX) (w : LW A X R I S F l h) {kb nb at' n : Nat} (hkb : kdM kb = (6, 2, nb)) (hnb : nb < 2 ^ 31) (hkn : kb ≠ 32) (hB : IsB (S kb)) (hat : at' + n ≤ (S kb).length) (hl : l.length + 2 + n ≤ 700) :
    MT g MX10_lays ({ frames := 0, cells := 0, slots := 0, locals := 0 } : Room) [.ref (A 96), .ref (A kb), .int (nI at'), .int (nI n)] h (RV fun h' => LW A X R I S F (l ++ [tb (n / 256), tb n] ++ sub (S kb) at' n) h') := by
  refine MT.of (by decide) (Nat.le_of_ble_eq_true rfl) ?_
  generalize hPost : (RV fun h' => LW A X R I S F (l ++ [tb (n / 256), tb n] ++ sub (S kb) at' n) h') = Post
  have e8 : nI n >>> ((8 : Int32) &&& 31) = nI (n / 256) := pk_shrN (by omega) _ 8 (sl_n 8 (by decide))
  have w : MW A X R I (up S 32 l) (up F 33 (nI l.length)) h := w
  obtain ⟨f, c1, c2, -⟩ := w.s 32 rfl
  rw [up_same] at c2
  have ci : (nI l.length).toNatClampNeg = l.length := nI_clamp (by omega)
  have b1 : vp_in (nI l.length) 700 := vp_in_nI (by omega) (by omega)
  refine X_aload_n (pc := 0) 0 dX10_lays_0 rfl rfl ?_
  refine X_getfield (pc := 1) dX10_lays_1 fg_X10_328_11 (MW.ob w) mf_32 ?_
  refine X_aload_n (pc := 4) 0 dX10_lays_4 rfl rfl ?_
  refine X_getfield (pc := 5) dX10_lays_5 fg_X10_331_11 (MW.ob w) mf_33 ?_
  refine X_iload_n (pc := 8) 3 dX10_lays_8 rfl rfl ?_
  refine X_bipush (pc := 9) (x := 8) dX10_lays_9 (by decide) ?_
  rw [up_same]
  refine X_ishr (pc := 11) dX10_lays_11 ?_
  refine X_i2b (pc := 12) dX10_lays_12 ?_
  rw [e8]
  refine X_bastore (pc := 13) dX10_lays_13 c1 b1 ?_
  rw [ci, Int8.toInt8_toInt32, toInt8_low, tb_u]
  have w1 := w.msg c1 c2 (x := tb (n / 256)) (by omega)
  have c3 := hset_self h (A 32) (Ai false 2 700 (upd f l.length (tb (n / 256))))
  have c4 := PL_snoc (x := tb (n / 256)) c2
  generalize hset h (A 32) (Ai false 2 700 (upd f l.length (tb (n / 256)))) = h1 at *
  have b2 : vp_in (nI (l.length + 1)) 700 := vp_in_nI (by omega) (by omega)
  have ci2 : (nI (l.length + 1)).toNatClampNeg = (l ++ [tb (n / 256)]).length := by rw [List.length_append]; exact nI_clamp (by omega)
  refine X_aload_n (pc := 14) 0 dX10_lays_14 rfl rfl ?_
  refine X_getfield (pc := 15) dX10_lays_15 fg_X10_328_11 (MW.ob w1) mf_32 ?_
  refine X_aload_n (pc := 18) 0 dX10_lays_18 rfl rfl ?_
  refine X_getfield (pc := 19) dX10_lays_19 fg_X10_331_11 (MW.ob w1) mf_33 ?_
  refine X_iconst (pc := 22) (x := 1) dX10_lays_22 (by decide) ?_
  refine X_iadd (pc := 23) dX10_lays_23 ?_
  rw [up_same, show nI l.length + 1 = nI (l.length + 1) from nI_add _ 1]
  refine X_iload_n (pc := 24) 3 dX10_lays_24 rfl rfl ?_
  refine X_i2b (pc := 25) dX10_lays_25 ?_
  refine X_bastore (pc := 26) dX10_lays_26 c3 b2 ?_
  rw [ci2, Int8.toInt8_toInt32, toInt8_low, tb_u]
  have w2 := w1.msg c3 c4 (x := tb n) (by rw [List.length_append]; show l.length + 1 < 700; omega)
  rw [List.append_assoc] at w2
  generalize hset h1 (A 32) _ = h2 at *
  refine X_aload_n (pc := 27) 0 dX10_lays_27 rfl rfl ?_
  refine X_dup (pc := 28) dX10_lays_28 rfl ?_
  refine X_getfield (pc := 29) dX10_lays_29 fg_X10_331_11 (MW.ob w2) mf_33 ?_
  refine X_iconst (pc := 32) (x := 2) dX10_lays_32 (by decide) ?_
  refine X_iadd (pc := 33) dX10_lays_33 ?_
  rw [up_same, show nI l.length + 2 = nI (l.length + 2) from nI_add _ 2]
  refine X_putfield (pc := 34) dX10_lays_34 fp_X10_331_11 (fun e => by cases e) (MW.ob w2) rfl rfl (Nat.le_of_ble_eq_true rfl) ?_
  have w3 := w2.setF33 (v := nI (l.length + 2))
  generalize hset h2 (A 96) (Ob 11 ((mFl A (up F 33 (nI l.length))).set 33 (.int (nI (l.length + 2))))) = h3 at *
  rw [up_up'] at w3
  have hsd : sub (S kb) at' n = (List.range n).map fun j => (S kb).getD (at' + j) 0 := rfl
  obtain ⟨l2, hl2⟩ : ∃ l2, l2 = l ++ ([tb (n / 256)] ++ [tb n]) := ⟨_, rfl⟩
  have hll : l2.length = l.length + 2 := by rw [hl2, List.length_append]; rfl
  rw [← hl2, ← hll] at w3
  have loop : ∀ m i, i + m = n → ∀ h', MW A X R I (up S 32 (l2 ++ (List.range i).map fun j => (S kb).getD (at' + j) 0)) (up F 33 (nI l2.length)) h' →
      XX g MX10_lays ({ frames := 0, cells := 0, slots := 0, locals := 0 } : Room) Post 0 0 40 [(4, .int (nI i)), (0, .ref (A 96)), (1, .ref (A kb)), (2, .int (nI at')), (3, .int (nI n))] [] h' := by
    intro m
    induction m with
    | zero =>
      intro i hi h' w'
      have e : i = n := by omega
      subst e
      refine X_iload (pc := 40) 0 dX10_lays_40 rfl ?_
      refine X_iload_n (pc := 42) 4 dX10_lays_42 rfl rfl ?_
      refine X_cge (pc := 43) 70 dX10_lays_43 (by decide) (by omega) (by omega) (fun _ => ?_) (fun c => absurd c (by omega))
      refine X_aload_n (pc := 70) 1 dX10_lays_70 rfl rfl ?_
      refine X_dup (pc := 71) dX10_lays_71 rfl ?_
      refine X_getfield (pc := 72) dX10_lays_72 fg_X10_331_11 (MW.ob w') mf_33 ?_
      refine X_iload_n (pc := 75) 4 dX10_lays_75 rfl rfl ?_
      refine X_iadd (pc := 76) dX10_lays_76 ?_
      rw [up_same, nI_add]
      refine X_putfield (pc := 77) dX10_lays_77 fp_X10_331_11 (fun e => by cases e) (MW.ob w') rfl rfl (Nat.le_of_ble_eq_true rfl) ?_
      have w4 := w'.setF33 (v := nI (l2.length + i))
      rw [up_up'] at w4
      subst hPost
      refine X_return (pc := 80) dX10_lays_80 rfl (Nat.le_of_ble_eq_true rfl) (Nat.le_of_ble_eq_true rfl) ?_
      refine ⟨rfl, ?_⟩
      unfold LW
      rw [List.length_append, sub_len, hsd]
      have e2 : l ++ [tb (i / 256), tb i] = l2 := hl2.symm
      rw [e2]
      exact w4
    | succ m ih =>
      intro i hi h' w'
      obtain ⟨fb, cb, pb, lb⟩ := w'.s kb hkb
      obtain ⟨f32, c32, p32, -⟩ := w'.s 32 rfl
      rw [up_ne hkn] at pb lb
      rw [up_same] at p32
      have hli : (l2 ++ (List.range i).map fun j => (S kb).getD (at' + j) 0).length = l2.length + i := by rw [List.length_append, List.length_map, List.length_range]
      have b3 : vp_in (nI (at' + i)) nb := vp_in_nI (by omega) (by omega)
      have c5 : (nI (at' + i)).toNatClampNeg = at' + i := nI_clamp (by omega)
      have b4 : vp_in (nI (l2.length + i)) 700 := vp_in_nI (by omega) (by omega)
      have c6 : (nI (l2.length + i)).toNatClampNeg = (l2 ++ (List.range i).map fun j => (S kb).getD (at' + j) 0).length := by rw [hli]; exact nI_clamp (by omega)
      refine X_iload (pc := 40) 0 dX10_lays_40 rfl ?_
      refine X_iload_n (pc := 42) 4 dX10_lays_42 rfl rfl ?_
      refine X_cge (pc := 43) 70 dX10_lays_43 (by decide) (by omega) (by omega) (fun c => absurd c (by omega)) (fun _ => ?_)
      refine X_aload_n (pc := 46) 1 dX10_lays_46 rfl rfl ?_
      refine X_getfield (pc := 47) dX10_lays_47 fg_X10_328_11 (MW.ob w') mf_32 ?_
      refine X_aload_n (pc := 50) 1 dX10_lays_50 rfl rfl ?_
      refine X_getfield (pc := 51) dX10_lays_51 fg_X10_331_11 (MW.ob w') mf_33 ?_
      refine X_iload (pc := 54) 0 dX10_lays_54 rfl ?_
      refine X_iadd (pc := 56) dX10_lays_56 ?_
      rw [up_same, nI_add]
      refine X_aload_n (pc := 57) 2 dX10_lays_57 rfl rfl ?_
      refine X_iload_n (pc := 58) 3 dX10_lays_58 rfl rfl ?_
      refine X_iload (pc := 59) 0 dX10_lays_59 rfl ?_
      refine X_iadd (pc := 61) dX10_lays_61 ?_
      rw [nI_add]
      refine X_baload (pc := 62) dX10_lays_62 cb b3 ?_
      refine X_bastore (pc := 63) dX10_lays_63 c32 b4 ?_
      rw [c5, c6, pb _ (by omega), hB.nar]
      have w4 := w'.msg c32 p32 (x := (S kb).getD (at' + i) 0) (by omega)
      rw [List.append_assoc, ← List.map_singleton (f := fun j => (S kb).getD (at' + j) 0), ← List.map_append, ← List.range_succ] at w4
      refine X_iinc (pc := 64) (L' := [(4, .int (_ + 1)), (0, .ref _), (1, .ref _), (2, .int _), (3, .int _)]) 0 dX10_lays_64 rfl rfl (Nat.le_of_ble_eq_true rfl) rfl ?_
      refine X_goto (pc := 67) 40 dX10_lays_67 (by decide) ?_
      rw [show nI i + 1 = nI (i + 1) from nI_add i 1]
      exact ih (i + 1) (by omega) _ w4
  refine X_iconst (pc := 37) (x := 0) dX10_lays_37 (by decide) ?_
  refine X_istore (pc := 38) (L' := [(4, .int _), (0, .ref _), (1, .ref _), (2, .int _), (3, .int _)]) dX10_lays_38 (Nat.le_of_ble_eq_true rfl) rfl ?_
  refine loop n 0 (by omega) h3 ?_
  rw [List.range_zero, List.map_nil, List.append_nil]
  exact w3
theorem laysWord_ok (g : GX) (w : LW A X R I S F l h) (ha : h a = some (Sg v tx)) (h7 : ∀ j, tx.getD j 0 < 128) (hl : l.length + tx.length ≤ 700) :
    MT g MX10_laysWord ({ frames := 5, cells := 0, slots := 0, locals := 106 } : Room) [.ref (A 96), .ref a] h (RV fun h' => LW A X R I S F (l ++ wrd tx) h') := by
  refine MT.of (by decide) (Nat.le_of_ble_eq_true rfl) ?_
  generalize hPost : (RV fun h' => LW A X R I S F (l ++ wrd tx) h') = Post
  have w : MW A X R I (up S 32 l) (up F 33 (nI l.length)) h := w
  have loop : ∀ m i, i + m = tx.length → ∀ h', MW A X R I (up S 32 (l ++ (List.range i).map fun j => tb (tx.getD j 0))) (up F 33 (nI l.length)) h' →
      XX g MX10_laysWord ({ frames := 5, cells := 0, slots := 0, locals := 106 } : Room) Post 0 0 2 [(2, .int (nI i)), (0, .ref (A 96)), (1, .ref a)] [] h' := by
    intro m
    induction m with
    | zero =>
      intro i hi h' w'
      have e : i = tx.length := by omega
      subst e
      have ha' := MW.txt w w' ha
      refine X_iload_n (pc := 2) 0 dX10_laysWord_2 rfl rfl ?_
      refine X_aload_n (pc := 3) 2 dX10_laysWord_3 rfl rfl ?_
      refine X_iti (pc := 4) _ dX10_laysWord_4 cvs_X10_250 ha' rfl (slen_ok g ha' (by omega)) nJ0_length (Nat.le_of_ble_eq_true rfl) (Nat.le_of_ble_eq_true rfl) (Nat.le_of_ble_eq_true rfl) (Nat.le_of_ble_eq_true rfl) (fun r1 h1 q1 => ?_)
      obtain ⟨rfl, rfl⟩ := q1
      refine X_cge (pc := 7) 33 dX10_laysWord_7 (by decide) (by omega) (by omega) (fun _ => ?_) (fun c => absurd c (by omega))
      refine X_aload_n (pc := 33) 1 dX10_laysWord_33 rfl rfl ?_
      refine X_dup (pc := 34) dX10_laysWord_34 rfl ?_
      refine X_getfield (pc := 35) dX10_laysWord_35 fg_X10_331_11 (MW.ob w') mf_33 ?_
      refine X_aload_n (pc := 38) 2 dX10_laysWord_38 rfl rfl ?_
      refine X_iti (pc := 39) _ dX10_laysWord_39 cvs_X10_250 ha' rfl (slen_ok g ha' (by omega)) nJ0_length (Nat.le_of_ble_eq_true rfl) (Nat.le_of_ble_eq_true rfl) (Nat.le_of_ble_eq_true rfl) (Nat.le_of_ble_eq_true rfl) (fun r1 h1 q1 => ?_)
      obtain ⟨rfl, rfl⟩ := q1
      refine X_iadd (pc := 42) dX10_laysWord_42 ?_
      rw [up_same, nI_add]
      refine X_putfield (pc := 43) dX10_laysWord_43 fp_X10_331_11 (fun e => by cases e) (MW.ob w') rfl rfl (Nat.le_of_ble_eq_true rfl) ?_
      have w4 := w'.setF33 (v := nI (l.length + tx.length))
      rw [up_up'] at w4
      subst hPost
      refine X_return (pc := 46) dX10_laysWord_46 rfl (Nat.le_of_ble_eq_true rfl) (Nat.le_of_ble_eq_true rfl) ?_
      refine ⟨rfl, ?_⟩
      unfold LW
      rw [List.length_append, wrd_len]
      exact w4
    | succ m ih =>
      intro i hi h' w'
      have ha' := MW.txt w w' ha
      obtain ⟨f32, c32, p32, -⟩ := w'.s 32 rfl
      rw [up_same] at p32
      have hli : (l ++ (List.range i).map fun j => tb (tx.getD j 0)).length = l.length + i := by rw [List.length_append, List.length_map, List.length_range]
      have b4 : vp_in (nI (l.length + i)) 700 := vp_in_nI (by omega) (by omega)
      have c6 : (nI (l.length + i)).toNatClampNeg = (l ++ (List.range i).map fun j => tb (tx.getD j 0)).length := by rw [hli]; exact nI_clamp (by omega)
      refine X_iload_n (pc := 2) 0 dX10_laysWord_2 rfl rfl ?_
      refine X_aload_n (pc := 3) 2 dX10_laysWord_3 rfl rfl ?_
      refine X_iti (pc := 4) _ dX10_laysWord_4 cvs_X10_250 ha' rfl (slen_ok g ha' (by omega)) nJ0_length (Nat.le_of_ble_eq_true rfl) (Nat.le_of_ble_eq_true rfl) (Nat.le_of_ble_eq_true rfl) (Nat.le_of_ble_eq_true rfl) (fun r1 h1 q1 => ?_)
      obtain ⟨rfl, rfl⟩ := q1
      refine X_cge (pc := 7) 33 dX10_laysWord_7 (by decide) (by omega) (by omega) (fun c => absurd c (by omega)) (fun _ => ?_)
      refine X_aload_n (pc := 10) 1 dX10_laysWord_10 rfl rfl ?_
      refine X_getfield (pc := 11) dX10_laysWord_11 fg_X10_328_11 (MW.ob w') mf_32 ?_
      refine X_aload_n (pc := 14) 1 dX10_laysWord_14 rfl rfl ?_
      refine X_getfield (pc := 15) dX10_laysWord_15 fg_X10_331_11 (MW.ob w') mf_33 ?_
      refine X_iload_n (pc := 18) 0 dX10_laysWord_18 rfl rfl ?_
      refine X_iadd (pc := 19) dX10_laysWord_19 ?_
      rw [up_same, nI_add]
      refine X_aload_n (pc := 20) 2 dX10_laysWord_20 rfl rfl ?_
      refine X_iload_n (pc := 21) 0 dX10_laysWord_21 rfl rfl ?_
      refine X_iti (pc := 22) _ dX10_laysWord_22 cvs_X10_256 ha' rfl (chat_ok g ha' h7 (i := i) (by omega) (by omega)) nJ0_charAt (Nat.le_of_ble_eq_true rfl) (Nat.le_of_ble_eq_true rfl) (Nat.le_of_ble_eq_true rfl) (Nat.le_of_ble_eq_true rfl) (fun r1 h1 q1 => ?_)
      obtain ⟨rfl, rfl⟩ := q1
      refine X_i2b (pc := 25) dX10_laysWord_25 ?_
      refine X_bastore (pc := 26) dX10_laysWord_26 c32 b4 ?_
      rw [c6, Int8.toInt8_toInt32, toInt8_low, tb_u]
      have w4 := w'.msg c32 p32 (x := tb (tx.getD i 0)) (by omega)
      rw [List.append_assoc, ← List.map_singleton (f := fun j => tb (tx.getD j 0)), ← List.map_append, ← List.range_succ] at w4
      refine X_iinc (pc := 27) (L' := [(2, .int (_ + 1)), (0, .ref _), (1, .ref _)]) 0 dX10_laysWord_27 rfl rfl (Nat.le_of_ble_eq_true rfl) rfl ?_
      refine X_goto (pc := 30) 2 dX10_laysWord_30 (by decide) ?_
      rw [show nI i + 1 = nI (i + 1) from nI_add i 1]
      exact ih (i + 1) (by omega) _ w4
  refine X_iconst (pc := 0) (x := 0) dX10_laysWord_0 (by decide) ?_
  refine X_istore_n (pc := 1) (L' := [(2, .int _), (0, .ref _), (1, .ref _)]) dX10_laysWord_1 rfl (Nat.le_of_ble_eq_true rfl) rfl ?_
  exact loop tx.length 0 (by omega) h (by rw [List.range_zero, List.map_nil, List.append_nil]; exact w)
/-- a point's bytes in a row of their own -/
theorem someB (w : MW A X R I S F h) (x y : Nat) {f : Nat → Int32} : MW A X R I (up S 56 (encB x y)) F (hset h (A 56) (Ai false 2 49 (encF x y 0 f))) :=
  w.setS 56 rfl (fun j hj => by
    rw [encB_len] at hj
    unfold encB
    rw [getD_map_range hj]
    exact encF_cg (Nat.zero_le _) (by omega)) (by rw [encB_len]; exact Nat.le_refl _)
theorem laysSpot_ok (g : GX) (w : LW A X R I S F l h) {s : Nat} (hs : s < 31) (hl : l.length + 51 ≤ 700) :
    MT g MX10_laysSpot ({ frames := 2, cells := 0, slots := 0, locals := 46 } : Room) [.ref (A 96), .ref (A (400 + s))] h (RV fun h' => LW A X R I (up S 56 (encB (R (200 + s)) (R (300 + s)))) F (l ++ [tb 0, tb 49] ++ encB (R (200 + s)) (R (300 + s))) h') := by
  refine MT.of (by decide) (Nat.le_of_ble_eq_true rfl) ?_
  have w : MW A X R I (up S 32 l) (up F 33 (nI l.length)) h := w
  obtain ⟨f56, c56, -, -⟩ := w.s 56 rfl
  refine X_aload_n (pc := 0) 1 dX10_laysSpot_0 rfl rfl ?_
  refine X_aload_n (pc := 1) 0 dX10_laysSpot_1 rfl rfl ?_
  refine X_getfield (pc := 2) dX10_laysSpot_2 fg_X10_402_11 (MW.ob w) mf_56 ?_
  refine X_iconst (pc := 5) (x := 0) dX10_laysSpot_5 (by decide) ?_
  refine X_isv (pc := 6) _ dX10_laysSpot_6 cs_X10_405 rfl (bytes_ok g w (at' := 0) hs c56 (by decide) (by decide)) nX10_bytes (Nat.le_of_ble_eq_true rfl) (Nat.le_of_ble_eq_true rfl) (Nat.le_of_ble_eq_true rfl) (Nat.le_of_ble_eq_true rfl) (fun h1 q1 => ?_)
  subst q1
  have w1 := someB w (R (200 + s)) (R (300 + s)) (f := f56)
  rw [up_comm _ _ _ (show 32 ≠ 56 by decide)] at w1
  generalize hset h (A 56) _ = h1 at *
  refine X_aload_n (pc := 9) 0 dX10_laysSpot_9 rfl rfl ?_
  refine X_aload_n (pc := 10) 0 dX10_laysSpot_10 rfl rfl ?_
  refine X_getfield (pc := 11) dX10_laysSpot_11 fg_X10_402_11 (MW.ob w1) mf_56 ?_
  refine X_iconst (pc := 14) (x := 0) dX10_laysSpot_14 (by decide) ?_
  refine X_bipush (pc := 15) (x := 49) dX10_laysSpot_15 (by decide) ?_
  refine X_ivv (pc := 17) _ dX10_laysSpot_17 cv_X10_409_11 (MW.ob w1) rfl (lays_ok g (l := l) (S := up S 56 (encB (R (200 + s)) (R (300 + s)))) w1 (kb := 56) (at' := 0) (n := 49) rfl (by decide) (by decide) (by rw [up_same]; exact encB_B _ _) (by rw [up_same, encB_len]; decide) (by omega)) nX10_lays (Nat.le_of_ble_eq_true rfl) (Nat.le_of_ble_eq_true rfl) (Nat.le_of_ble_eq_true rfl) (Nat.le_of_ble_eq_true rfl) (fun h2 w2 => ?_)
  rw [up_same] at w2
  refine X_return (pc := 20) dX10_laysSpot_20 rfl (Nat.le_of_ble_eq_true rfl) (Nat.le_of_ble_eq_true rfl) ?_
  refine ⟨rfl, ?_⟩
  have e : sub (encB (R (200 + s)) (R (300 + s))) 0 49 = encB (R (200 + s)) (R (300 + s)) := by
    unfold sub
    rw [show (fun j => (encB (R (200 + s)) (R (300 + s))).getD (0 + j) 0) = fun j => (encB (R (200 + s)) (R (300 + s))).getD j 0 from funext fun j => by rw [Nat.zero_add]]
    exact map_getD (encB_len _ _)
  rw [e] at w2
  exact w2
end MLy
