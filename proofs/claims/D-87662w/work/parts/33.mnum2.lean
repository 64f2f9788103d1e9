set_option maxRecDepth 100000
/-! the reference: add, sub, half, halves, swap -/
/-- an array that holds a number in its first n limbs -/
def Nu (h : AH) (a n v : Nat) : Prop := ∃ (ro : Bool) (N : Nat) (f : Nat → Int32), h a = some (Ai ro 0 N f) ∧ n ≤ N ∧ N < 2 ^ 31 ∧ V n f = v
/-- a modulus: its object and its row -/
def MoW (h : AH) (M n mv : Nat) : Prop := ∃ (am ah : Nat) (s : Int32) (N : Nat) (f : Nat → Int32), h M = some (Ob 12 [.ref am, .ref ah, .int (nI n), .int s]) ∧ h am = some (Ai false 0 N f) ∧ n ≤ N ∧ N < 2 ^ 31 ∧ V n f = mv
set_option maxHeartbeats 4000000 in
/-- the row m lies apart from the target -/
theorem mmadd_ok (g : GX) {h : AH} {M am ah a b out n N na nb no : Nat} {s : Int32} {ra rb : Bool} {fm fa fb fo : Nat → Int32} (hM : h M = some (Ob 12 [.ref am, .ref ah, .int (nI n), .int s])) (hm : h am = some (Ai false 0 N fm)) (ha : h a = some (Ai ra 0 na fa)) (hb : h b = some (Ai rb 0 nb fb)) (ho : h out = some (Ai false 0 no fo))
    (hne : am ≠ out) (hs : n ≤ N ∧ n ≤ na ∧ n ≤ nb ∧ n ≤ no) (hl : N < 2 ^ 31 ∧ na < 2 ^ 31 ∧ nb < 2 ^ 31 ∧ no < 2 ^ 31) (hva : V n fa < V n fm) (hvb : V n fb < V n fm) :
    MT g MX10_add ({ frames := 2, cells := 0, slots := 0, locals := 46 } : Room) [.ref M, .ref a, .ref b, .ref out] h (RV fun h' => ∃ f : Nat → Int32, (∀ j, n ≤ j → f j = fo j) ∧ V n f = (V n fa + V n fb) % V n fm ∧ h' = hset h out (Ai false 0 no f)) := by
  refine MT.of (by decide) (Nat.le_of_ble_eq_true rfl) ?_
  have hMo : M ≠ out := ne_of hM ho (fun e => by cases e)
  have hml := V_lt n fm
  refine X_aload_n (pc := 0) 1 dX10_add_0 rfl rfl ?_
  refine X_aload_n (pc := 1) 2 dX10_add_1 rfl rfl ?_
  refine X_aload_n (pc := 2) 3 dX10_add_2 rfl rfl ?_
  refine X_aload_n (pc := 3) 0 dX10_add_3 rfl rfl ?_
  refine X_getfield (pc := 4) dX10_add_4 fg_X10_13_12 (by assumption) (by first | rfl | assumption) ?_
  refine X_isi (pc := 7) _ dX10_add_7 cs_X10_18 rfl (mplus_ok g ha hb ho hs.2.1 hs.2.2.1 hs.2.2.2 ⟨hl.2.1, hl.2.2.1, hl.2.2.2⟩) nX10_plus (Nat.le_of_ble_eq_true rfl) (Nat.le_of_ble_eq_true rfl) (Nat.le_of_ble_eq_true rfl) (Nat.le_of_ble_eq_true rfl) (fun r h1 q => ?_)
  obtain ⟨f, w, rfl, hw, hf, hv, rfl⟩ := q
  have hVl := V_lt n f
  have hfo := hset_self h out (Ai false 0 no f)
  have hfM : hset h out (Ai false 0 no f) M = some (Ob 12 [.ref am, .ref ah, .int (nI n), .int s]) := by rw [hset_ne hMo]; exact hM
  have hfm : hset h out (Ai false 0 no f) am = some (Ai false 0 N fm) := by rw [hset_ne hne]; exact hm
  have fin : ∀ x : Int32, V n fm ≤ V n fa + V n fb → XX g MX10_add ({ frames := 2, cells := 0, slots := 0, locals := 46 } : Room) (RV fun h' => ∃ f : Nat → Int32, (∀ j, n ≤ j → f j = fo j) ∧ V n f = (V n fa + V n fb) % V n fm ∧ h' = hset h out (Ai false 0 no f)) 0 0 32 [(4, .int x), (0, .ref M), (1, .ref a), (2, .ref b), (3, .ref out)] [] (hset h out (Ai false 0 no f)) := by
    intro x hge
    refine X_aload_n (pc := 32) 4 dX10_add_32 rfl rfl ?_
    refine X_aload_n (pc := 33) 1 dX10_add_33 rfl rfl ?_
    refine X_getfield (pc := 34) dX10_add_34 fg_X10_22_12 (by assumption) (by first | rfl | assumption) ?_
    refine X_aload_n (pc := 37) 4 dX10_add_37 rfl rfl ?_
    refine X_aload_n (pc := 38) 1 dX10_add_38 rfl rfl ?_
    refine X_getfield (pc := 39) dX10_add_39 fg_X10_13_12 (by assumption) (by first | rfl | assumption) ?_
    refine X_isi (pc := 42) _ dX10_add_42 cs_X10_30 rfl (mminus_ok g hfo hfm hfo hs.2.2.2 hs.1 hs.2.2.2 ⟨hl.2.2.2, hl.1, hl.2.2.2⟩) nX10_minus (Nat.le_of_ble_eq_true rfl) (Nat.le_of_ble_eq_true rfl) (Nat.le_of_ble_eq_true rfl) (Nat.le_of_ble_eq_true rfl) (fun r2 h2 q2 => ?_)
    obtain ⟨f2, hr2, hf2, hv2, rfl⟩ := q2
    have hVl2 := V_lt n f2
    refine X_istore (pc := 45) (L' := [(4, .int _), (0, .ref _), (1, .ref _), (2, .ref _), (3, .ref _)]) dX10_add_45 (Nat.le_of_ble_eq_true rfl) rfl ?_
    refine XX.eqh (hset_hset _ _ _ _) ?_
    refine X_return (pc := 47) dX10_add_47 rfl (Nat.le_of_ble_eq_true rfl) (Nat.le_of_ble_eq_true rfl) ?_
    refine ⟨rfl, f2, fun j hj => (hf2 j hj).trans (hf j hj), ?_, rfl⟩
    have hp : ((2 ^ (32 * n) : Nat) : Int) = (2 : Int) ^ (32 * n) := by push_cast; rfl
    rw [Nat.mod_eq_sub_mod hge, Nat.mod_eq_of_lt (by omega)]
    rcases hr2 with rfl | rfl
    · have e0 : (0 : Int32).toInt = 0 := rfl
      rw [e0] at hv2
      rcases Nat.le_one_iff_eq_zero_or_eq_one.mp hw with rfl | rfl
      · omega
      · omega
    · have e0 : (-1 : Int32).toInt = -1 := rfl
      rw [e0, ← hp] at hv2
      rcases Nat.le_one_iff_eq_zero_or_eq_one.mp hw with rfl | rfl
      · omega
      · omega
  refine X_istore (pc := 10) (L' := [(4, .int _), (0, .ref _), (1, .ref _), (2, .ref _), (3, .ref _)]) dX10_add_10 (Nat.le_of_ble_eq_true rfl) rfl ?_
  refine X_iload (pc := 12) 0 dX10_add_12 rfl ?_
  refine X_if_ne (pc := 14) 32 dX10_add_14 (by decide) (fun c_14 => ?_) (fun c_14 => ?_)
  · refine fin _ ?_
    rcases Nat.le_one_iff_eq_zero_or_eq_one.mp hw with rfl | rfl
    · exact absurd nI_0 c_14
    · omega
  · have hw0 : w = 0 := by
      rcases Nat.le_one_iff_eq_zero_or_eq_one.mp hw with e | e
      · exact e
      · subst e; exact absurd c_14 (by decide)
    subst hw0
    refine X_aload_n (pc := 17) 4 dX10_add_17 rfl rfl ?_
    refine X_aload_n (pc := 18) 1 dX10_add_18 rfl rfl ?_
    refine X_getfield (pc := 19) dX10_add_19 fg_X10_22_12 (by assumption) (by first | rfl | assumption) ?_
    refine X_aload_n (pc := 22) 1 dX10_add_22 rfl rfl ?_
    refine X_getfield (pc := 23) dX10_add_23 fg_X10_13_12 (by assumption) (by first | rfl | assumption) ?_
    refine X_isi (pc := 26) _ dX10_add_26 cs_X10_26 rfl (mcmp_ok g hfo hfm hs.2.2.2 hs.1 ⟨hl.2.2.2, hl.1⟩) nX10_compare (Nat.le_of_ble_eq_true rfl) (Nat.le_of_ble_eq_true rfl) (Nat.le_of_ble_eq_true rfl) (Nat.le_of_ble_eq_true rfl) (fun r2 h2 q2 => ?_)
    obtain ⟨rfl, rfl⟩ := q2
    refine X_if_lt (pc := 29) 47 dX10_add_29 (by decide) (fun c_29 => ?_) (fun c_29 => ?_)
    · have hlt : V n f < V n fm := by
        unfold cmpN at c_29
        split at c_29
        · assumption
        · split at c_29
          · exact absurd c_29 (by decide)
          · exact absurd c_29 (by decide)
      refine X_return (pc := 47) dX10_add_47 rfl (Nat.le_of_ble_eq_true rfl) (Nat.le_of_ble_eq_true rfl) ?_
      refine ⟨rfl, f, hf, ?_, rfl⟩
      rw [Nat.mod_eq_of_lt (by omega)]
      omega
    · refine fin _ ?_
      unfold cmpN at c_29
      split at c_29
      · exact absurd (show (-1 : Int32) < 0 by decide) c_29
      · omega
set_option maxHeartbeats 4000000 in
theorem mmsub_ok (g : GX) {h : AH} {M am ah a b out n N na nb no : Nat} {s : Int32} {ra rb : Bool} {fm fa fb fo : Nat → Int32} (hM : h M = some (Ob 12 [.ref am, .ref ah, .int (nI n), .int s])) (hm : h am = some (Ai false 0 N fm)) (ha : h a = some (Ai ra 0 na fa)) (hb : h b = some (Ai rb 0 nb fb)) (ho : h out = some (Ai false 0 no fo))
    (hne : am ≠ out) (hs : n ≤ N ∧ n ≤ na ∧ n ≤ nb ∧ n ≤ no) (hl : N < 2 ^ 31 ∧ na < 2 ^ 31 ∧ nb < 2 ^ 31 ∧ no < 2 ^ 31) (hva : V n fa < V n fm) (hvb : V n fb < V n fm) :
    MT g MX10_sub ({ frames := 2, cells := 0, slots := 0, locals := 46 } : Room) [.ref M, .ref a, .ref b, .ref out] h (RV fun h' => ∃ f : Nat → Int32, (∀ j, n ≤ j → f j = fo j) ∧ V n f = (V n fa + (V n fm - V n fb)) % V n fm ∧ h' = hset h out (Ai false 0 no f)) := by
  refine MT.of (by decide) (Nat.le_of_ble_eq_true rfl) ?_
  have hMo : M ≠ out := ne_of hM ho (fun e => by cases e)
  have hml := V_lt n fm
  refine X_aload_n (pc := 0) 1 dX10_sub_0 rfl rfl ?_
  refine X_aload_n (pc := 1) 2 dX10_sub_1 rfl rfl ?_
  refine X_aload_n (pc := 2) 3 dX10_sub_2 rfl rfl ?_
  refine X_aload_n (pc := 3) 0 dX10_sub_3 rfl rfl ?_
  refine X_getfield (pc := 4) dX10_sub_4 fg_X10_13_12 (by assumption) (by first | rfl | assumption) ?_
  refine X_isi (pc := 7) _ dX10_sub_7 cs_X10_30 rfl (mminus_ok g ha hb ho hs.2.1 hs.2.2.1 hs.2.2.2 ⟨hl.2.1, hl.2.2.1, hl.2.2.2⟩) nX10_minus (Nat.le_of_ble_eq_true rfl) (Nat.le_of_ble_eq_true rfl) (Nat.le_of_ble_eq_true rfl) (Nat.le_of_ble_eq_true rfl) (fun r h1 q => ?_)
  obtain ⟨f, hr, hf, hv, rfl⟩ := q
  have hVl := V_lt n f
  have hfo := hset_self h out (Ai false 0 no f)
  have hfM : hset h out (Ai false 0 no f) M = some (Ob 12 [.ref am, .ref ah, .int (nI n), .int s]) := by rw [hset_ne hMo]; exact hM
  have hfm : hset h out (Ai false 0 no f) am = some (Ai false 0 N fm) := by rw [hset_ne hne]; exact hm
  have hp : ((2 ^ (32 * n) : Nat) : Int) = (2 : Int) ^ (32 * n) := by push_cast; rfl
  refine X_if_eq (pc := 10) 28 dX10_sub_10 (by decide) (fun c_10 => ?_) (fun c_10 => ?_)
  · subst c_10
    have e0 : (0 : Int32).toInt = 0 := rfl
    rw [e0] at hv
    refine X_return (pc := 28) dX10_sub_28 rfl (Nat.le_of_ble_eq_true rfl) (Nat.le_of_ble_eq_true rfl) ?_
    refine ⟨rfl, f, hf, ?_, rfl⟩
    rw [Nat.mod_eq_sub_mod (by omega), Nat.mod_eq_of_lt (by omega)]
    omega
  · have hr1 : r = -1 := by
      rcases hr with e | e
      · exact absurd e c_10
      · exact e
    subst hr1
    have e0 : (-1 : Int32).toInt = -1 := rfl
    rw [e0, ← hp] at hv
    refine X_aload_n (pc := 13) 3 dX10_sub_13 rfl rfl ?_
    refine X_aload_n (pc := 14) 0 dX10_sub_14 rfl rfl ?_
    refine X_getfield (pc := 15) dX10_sub_15 fg_X10_22_12 (by assumption) (by first | rfl | assumption) ?_
    refine X_aload_n (pc := 18) 3 dX10_sub_18 rfl rfl ?_
    refine X_aload_n (pc := 19) 0 dX10_sub_19 rfl rfl ?_
    refine X_getfield (pc := 20) dX10_sub_20 fg_X10_13_12 (by assumption) (by first | rfl | assumption) ?_
    refine X_isi (pc := 23) _ dX10_sub_23 cs_X10_18 rfl (mplus_ok g hfo hfm hfo hs.2.2.2 hs.1 hs.2.2.2 ⟨hl.2.2.2, hl.1, hl.2.2.2⟩) nX10_plus (Nat.le_of_ble_eq_true rfl) (Nat.le_of_ble_eq_true rfl) (Nat.le_of_ble_eq_true rfl) (Nat.le_of_ble_eq_true rfl) (fun r2 h2 q2 => ?_)
    obtain ⟨f2, w2, rfl, hw2, hf2, hv2, rfl⟩ := q2
    have hVl2 := V_lt n f2
    refine X_istore (pc := 26) (L' := [(4, .int _), (0, .ref _), (1, .ref _), (2, .ref _), (3, .ref _)]) dX10_sub_26 (Nat.le_of_ble_eq_true rfl) rfl ?_
    refine XX.eqh (hset_hset _ _ _ _) ?_
    refine X_return (pc := 28) dX10_sub_28 rfl (Nat.le_of_ble_eq_true rfl) (Nat.le_of_ble_eq_true rfl) ?_
    refine ⟨rfl, f2, fun j hj => (hf2 j hj).trans (hf j hj), ?_, rfl⟩
    rw [Nat.mod_eq_of_lt (by omega)]
    rcases Nat.le_one_iff_eq_zero_or_eq_one.mp hw2 with rfl | rfl
    · omega
    · omega
