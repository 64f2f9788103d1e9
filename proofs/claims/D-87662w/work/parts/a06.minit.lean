set_option maxRecDepth 100000
/-! the reference's constructor: spots and moduli -/
section MIa
variable {h : AH}
theorem spotInit_ok (g : GX) {b : Nat} (hb : h b = some (Ob 13 [.null, .null, .int 0])) : MT g MX12_init ({ frames := 1, cells := 2, slots := 24, locals := 20 } : Room) [.ref b] h (RV fun h' => ∃ x y, h x = none ∧ h y = none ∧ x ≠ y ∧ h' = hset (hset (hset h x (Ai false 0 12 fun _ => 0)) y (Ai false 0 12 fun _ => 0)) b (Ob 13 [.ref x, .ref y, .int 0])) := by
  refine MT.of (by decide) (Nat.le_of_ble_eq_true rfl) ?_
  refine X_aload_n (pc := 0) 0 dX12_init_0 rfl rfl ?_
  refine X_objInit (pc := 1) dX12_init_1 q1359 q131 q132 (Nat.le_of_ble_eq_true rfl) (Nat.le_of_ble_eq_true rfl) ?_
  refine X_aload_n (pc := 4) 0 dX12_init_4 rfl rfl ?_
  refine X_bipush (pc := 5) (x := 12) dX12_init_5 (by decide) ?_
  refine X_new_int 12 (pc := 7) dX12_init_7 rfl (by decide) (Nat.le_of_ble_eq_true rfl) (Nat.le_of_ble_eq_true rfl) (fun x hx => ?_)
  have b1 : hset h x (Ai false 0 12 fun _ => 0) b = some (Ob 13 [.null, .null, .int 0]) := by rw [hset_ne (fun e => by rw [e, hx] at hb; cases hb)]; exact hb
  refine X_putfield (pc := 9) dX12_init_9 fp_X12_9_13 (fun _ => rfl) b1 rfl rfl (Nat.le_of_ble_eq_true rfl) ?_
  refine X_aload_n (pc := 12) 0 dX12_init_12 rfl rfl ?_
  refine X_bipush (pc := 13) (x := 12) dX12_init_13 (by decide) ?_
  refine X_new_int 12 (pc := 15) dX12_init_15 rfl (by decide) (Nat.le_of_ble_eq_true rfl) (Nat.le_of_ble_eq_true rfl) (fun y hy => ?_)
  have yb : y ≠ b := fun e => by rw [e, hset_self] at hy; cases hy
  rw [hset_ne yb] at hy
  have yx : y ≠ x := fun e => by rw [e, hset_self] at hy; cases hy
  rw [hset_ne yx] at hy
  refine X_putfield (pc := 17) dX12_init_17 fp_X12_15_13 (fun _ => rfl) (by rw [hset_ne (fun e => yb e.symm), hset_self]) rfl rfl (Nat.le_of_ble_eq_true rfl) ?_
  refine X_return (pc := 20) dX12_init_20 rfl (Nat.le_of_ble_eq_true rfl) (Nat.le_of_ble_eq_true rfl) ?_
  exact ⟨rfl, x, y, hx, hy, fun e => yx e.symm, by rw [hset_comm _ _ _ (fun e => yb e.symm), hset_hset]; rfl⟩
theorem modInit_ok (g : GX) {b : Nat} (hb : h b = some (Ob 12 [.null, .null, .int 0, .int 0])) : MT g MX11_init ({ frames := 1, cells := 2, slots := 128, locals := 20 } : Room) [.ref b] h (RV fun h' => ∃ x y, h x = none ∧ h y = none ∧ x ≠ y ∧ h' = hset (hset (hset h x (Ai false 0 64 fun _ => 0)) y (Ai false 0 64 fun _ => 0)) b (Ob 12 [.ref x, .ref y, .int 0, .int 0])) := by
  refine MT.of (by decide) (Nat.le_of_ble_eq_true rfl) ?_
  refine X_aload_n (pc := 0) 0 dX11_init_0 rfl rfl ?_
  refine X_objInit (pc := 1) dX11_init_1 q1336 q131 q132 (Nat.le_of_ble_eq_true rfl) (Nat.le_of_ble_eq_true rfl) ?_
  refine X_aload_n (pc := 4) 0 dX11_init_4 rfl rfl ?_
  refine X_bipush (pc := 5) (x := 64) dX11_init_5 (by decide) ?_
  refine X_new_int 64 (pc := 7) dX11_init_7 rfl (by decide) (Nat.le_of_ble_eq_true rfl) (Nat.le_of_ble_eq_true rfl) (fun x hx => ?_)
  have b1 : hset h x (Ai false 0 64 fun _ => 0) b = some (Ob 12 [.null, .null, .int 0, .int 0]) := by rw [hset_ne (fun e => by rw [e, hx] at hb; cases hb)]; exact hb
  refine X_putfield (pc := 9) dX11_init_9 fp_X11_9_12 (fun _ => rfl) b1 rfl rfl (Nat.le_of_ble_eq_true rfl) ?_
  refine X_aload_n (pc := 12) 0 dX11_init_12 rfl rfl ?_
  refine X_bipush (pc := 13) (x := 64) dX11_init_13 (by decide) ?_
  refine X_new_int 64 (pc := 15) dX11_init_15 rfl (by decide) (Nat.le_of_ble_eq_true rfl) (Nat.le_of_ble_eq_true rfl) (fun y hy => ?_)
  have yb : y ≠ b := fun e => by rw [e, hset_self] at hy; cases hy
  rw [hset_ne yb] at hy
  have yx : y ≠ x := fun e => by rw [e, hset_self] at hy; cases hy
  rw [hset_ne yx] at hy
  refine X_putfield (pc := 17) dX11_init_17 fp_X11_15_12 (fun _ => rfl) (by rw [hset_ne (fun e => yb e.symm), hset_self]) rfl rfl (Nat.le_of_ble_eq_true rfl) ?_
  refine X_return (pc := 20) dX11_init_20 rfl (Nat.le_of_ble_eq_true rfl) (Nat.le_of_ble_eq_true rfl) ?_
  exact ⟨rfl, x, y, hx, hy, fun e => yx e.symm, by rw [hset_comm _ _ _ (fun e => yb e.symm), hset_hset]; rfl⟩
end MIa
