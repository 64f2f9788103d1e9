set_option maxRecDepth 100000
/-! the reference: rolls -/
def rolI (x k : Int32) : Int32 := (x.toUInt32 >>> (k.toUInt32 &&& Int32.toUInt32 31)).toInt32 ||| (x <<< ((32 - k) &&& 31))
def rolL (x : Int64) (k : Int32) : Int64 := (x.toUInt64 >>> (k.toInt64.toUInt64 &&& Int64.toUInt64 63)).toInt64 ||| (x <<< ((64 - k).toInt64 &&& 63))
theorem roll_ok (g : GX) {h : AH} (x k : Int32) : MT g MX10_roll ({ frames := 0, cells := 0, slots := 0, locals := 0 } : Room) [.int x, .int k] h (RI fun r h' => r = rolI x k ∧ h' = h) := by
  refine MT.of (by decide) (Nat.le_of_ble_eq_true rfl) ?_
  refine X_iload_n (pc := 0) 0 dX10_roll_0 rfl rfl ?_
  refine X_iload_n (pc := 1) 1 dX10_roll_1 rfl rfl ?_
  refine X_iushr (pc := 2) dX10_roll_2 ?_
  refine X_iload_n (pc := 3) 0 dX10_roll_3 rfl rfl ?_
  refine X_bipush (pc := 4) (x := 32) dX10_roll_4 (by decide) ?_
  refine X_iload_n (pc := 6) 1 dX10_roll_6 rfl rfl ?_
  refine X_isub (pc := 7) dX10_roll_7 ?_
  refine X_ishl (pc := 8) dX10_roll_8 ?_
  refine X_ior (pc := 9) dX10_roll_9 ?_
  refine X_ireturn (pc := 10) dX10_roll_10 rfl (Nat.le_of_ble_eq_true rfl) (Nat.le_of_ble_eq_true rfl) ?_
  exact ⟨_, rfl, rfl, rfl⟩
theorem rollL_ok (g : GX) {h : AH} (x : Int64) (k : Int32) : MT g MX10_roll_2 ({ frames := 0, cells := 0, slots := 0, locals := 0 } : Room) [.long x, .int k] h (RL fun r h' => r = rolL x k ∧ h' = h) := by
  refine MT.of (by decide) (Nat.le_of_ble_eq_true rfl) ?_
  refine X_lload_n (pc := 0) 0 dX10_roll_2_0 rfl rfl ?_
  refine X_iload_n (pc := 1) 1 dX10_roll_2_1 rfl rfl ?_
  refine X_lushr (pc := 2) dX10_roll_2_2 ?_
  refine X_lload_n (pc := 3) 0 dX10_roll_2_3 rfl rfl ?_
  refine X_bipush (pc := 4) (x := 64) dX10_roll_2_4 (by decide) ?_
  refine X_iload_n (pc := 6) 1 dX10_roll_2_6 rfl rfl ?_
  refine X_isub (pc := 7) dX10_roll_2_7 ?_
  refine X_lshl (pc := 8) dX10_roll_2_8 ?_
  refine X_lor (pc := 9) dX10_roll_2_9 ?_
  refine X_lreturn (pc := 10) dX10_roll_2_10 rfl (Nat.le_of_ble_eq_true rfl) (Nat.le_of_ble_eq_true rfl) ?_
  exact ⟨_, rfl, rfl, rfl⟩
