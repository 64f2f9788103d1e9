set_option maxRecDepth 100000
/-! VeilMint's world grows: what is new; points; elements are read back -/
theorem dfX1 : ∀ j, j < 15 → defaultValue (tyX1 j) = vp_V [.null, .null, .null, .null, .null, .null, .null, .null, .null, .null, .int 0, .int 0, .int 0, .int 0, .int 0] j := by
  intro j hj
  obtain rfl | rfl | rfl | rfl | rfl | rfl | rfl | rfl | rfl | rfl | rfl | rfl | rfl | rfl | rfl : j = 0 ∨ j = 1 ∨ j = 2 ∨ j = 3 ∨ j = 4 ∨ j = 5 ∨ j = 6 ∨ j = 7 ∨ j = 8 ∨ j = 9 ∨ j = 10 ∨ j = 11 ∨ j = 12 ∨ j = 13 ∨ j = 14 := by omega
  · rfl
  · rfl
  · rfl
  · rfl
  · rfl
  · rfl
  · rfl
  · rfl
  · rfl
  · rfl
  · rfl
  · rfl
  · rfl
  · rfl
  · rfl
theorem dfX3 : ∀ j, j < 6 → defaultValue (tyX3 j) = vp_V [.null, .null, .long 0, .int 0, .null, .null] j := by
  intro j hj
  obtain rfl | rfl | rfl | rfl | rfl | rfl : j = 0 ∨ j = 1 ∨ j = 2 ∨ j = 3 ∨ j = 4 ∨ j = 5 := by omega
  · rfl
  · rfl
  · rfl
  · rfl
  · rfl
  · rfl
theorem dfX4 : ∀ j, j < 6 → defaultValue (tyX4 j) = vp_V [.null, .null, .long 0, .int 0, .null, .null] j := by
  intro j hj
  obtain rfl | rfl | rfl | rfl | rfl | rfl : j = 0 ∨ j = 1 ∨ j = 2 ∨ j = 3 ∨ j = 4 ∨ j = 5 := by omega
  · rfl
  · rfl
  · rfl
  · rfl
  · rfl
  · rfl
theorem dfX5 : ∀ j, j < 21 → defaultValue (tyX5 j) = vp_V [.null, .null, .null, .null, .null, .null, .null, .null, .null, .null, .null, .null, .null, .null, .null, .null, .null, .null, .null, .null, .null] j := by
  intro j hj
  obtain rfl | rfl | rfl | rfl | rfl | rfl | rfl | rfl | rfl | rfl | rfl | rfl | rfl | rfl | rfl | rfl | rfl | rfl | rfl | rfl | rfl : j = 0 ∨ j = 1 ∨ j = 2 ∨ j = 3 ∨ j = 4 ∨ j = 5 ∨ j = 6 ∨ j = 7 ∨ j = 8 ∨ j = 9 ∨ j = 10 ∨ j = 11 ∨ j = 12 ∨ j = 13 ∨ j = 14 ∨ j = 15 ∨ j = 16 ∨ j = 17 ∨ j = 18 ∨ j = 19 ∨ j = 20 := by omega
  · rfl
  · rfl
  · rfl
  · rfl
  · rfl
  · rfl
  · rfl
  · rfl
  · rfl
  · rfl
  · rfl
  · rfl
  · rfl
  · rfl
  · rfl
  · rfl
  · rfl
  · rfl
  · rfl
  · rfl
  · rfl
theorem dfX6 : ∀ j, j < 11 → defaultValue (tyX6 j) = vp_V [.int 0, .null, .null, .null, .null, .null, .null, .null, .null, .null, .int 0] j := by
  intro j hj
  obtain rfl | rfl | rfl | rfl | rfl | rfl | rfl | rfl | rfl | rfl | rfl : j = 0 ∨ j = 1 ∨ j = 2 ∨ j = 3 ∨ j = 4 ∨ j = 5 ∨ j = 6 ∨ j = 7 ∨ j = 8 ∨ j = 9 ∨ j = 10 := by omega
  · rfl
  · rfl
  · rfl
  · rfl
  · rfl
  · rfl
  · rfl
  · rfl
  · rfl
  · rfl
  · rfl
theorem dfX7 : ∀ j, j < 3 → defaultValue (tyX7 j) = vp_V [.null, .null, .null] j := by
  intro j hj
  obtain rfl | rfl | rfl : j = 0 ∨ j = 1 ∨ j = 2 := by omega
  · rfl
  · rfl
  · rfl
theorem dfX8 : ∀ j, j < 7 → defaultValue (tyX8 j) = vp_V [.null, .null, .null, .null, .null, .int 0, .int 0] j := by
  intro j hj
  obtain rfl | rfl | rfl | rfl | rfl | rfl | rfl : j = 0 ∨ j = 1 ∨ j = 2 ∨ j = 3 ∨ j = 4 ∨ j = 5 ∨ j = 6 := by omega
  · rfl
  · rfl
  · rfl
  · rfl
  · rfl
  · rfl
  · rfl
theorem dfX9 : ∀ j, j < 5 → defaultValue (tyX9 j) = vp_V [.null, .null, .int 0, .int 0, .int 0] j := by
  intro j hj
  obtain rfl | rfl | rfl | rfl | rfl : j = 0 ∨ j = 1 ∨ j = 2 ∨ j = 3 ∨ j = 4 := by omega
  · rfl
  · rfl
  · rfl
  · rfl
  · rfl
theorem dfX16 : ∀ j, j < 4 → defaultValue (tyX16 j) = vp_V [.null, .null, .null, .int 0] j := by
  intro j hj
  obtain rfl | rfl | rfl | rfl : j = 0 ∨ j = 1 ∨ j = 2 ∨ j = 3 := by omega
  · rfl
  · rfl
  · rfl
  · rfl
theorem dfX14 : ∀ j, j < 18 → defaultValue (tyX14 j) = vp_V [.null, .int 0, .int 0, .null, .null, .null, .null, .null, .null, .null, .null, .null, .null, .null, .null, .null, .null, .null] j := by
  intro j hj
  obtain rfl | rfl | rfl | rfl | rfl | rfl | rfl | rfl | rfl | rfl | rfl | rfl | rfl | rfl | rfl | rfl | rfl | rfl : j = 0 ∨ j = 1 ∨ j = 2 ∨ j = 3 ∨ j = 4 ∨ j = 5 ∨ j = 6 ∨ j = 7 ∨ j = 8 ∨ j = 9 ∨ j = 10 ∨ j = 11 ∨ j = 12 ∨ j = 13 ∨ j = 14 ∨ j = 15 ∨ j = 16 ∨ j = 17 := by omega
  · rfl
  · rfl
  · rfl
  · rfl
  · rfl
  · rfl
  · rfl
  · rfl
  · rfl
  · rfl
  · rfl
  · rfl
  · rfl
  · rfl
  · rfl
  · rfl
  · rfl
  · rfl
theorem dfX15 : ∀ j, j < 17 → defaultValue (tyX15 j) = vp_V [.null, .int 0, .int 0, .null, .null, .int 0, .int 0, .int 0, .null, .null, .null, .null, .null, .null, .null, .null, .null] j := by
  intro j hj
  obtain rfl | rfl | rfl | rfl | rfl | rfl | rfl | rfl | rfl | rfl | rfl | rfl | rfl | rfl | rfl | rfl | rfl : j = 0 ∨ j = 1 ∨ j = 2 ∨ j = 3 ∨ j = 4 ∨ j = 5 ∨ j = 6 ∨ j = 7 ∨ j = 8 ∨ j = 9 ∨ j = 10 ∨ j = 11 ∨ j = 12 ∨ j = 13 ∨ j = 14 ∨ j = 15 ∨ j = 16 := by omega
  · rfl
  · rfl
  · rfl
  · rfl
  · rfl
  · rfl
  · rfl
  · rfl
  · rfl
  · rfl
  · rfl
  · rfl
  · rfl
  · rfl
  · rfl
  · rfl
  · rfl
theorem dfJ9 : ∀ j, j < 6 → defaultValue (tyJ9 j) = vp_V [.null, .null, .null, .null, .null, .int 0] j := by
  intro j hj
  obtain rfl | rfl | rfl | rfl | rfl | rfl : j = 0 ∨ j = 1 ∨ j = 2 ∨ j = 3 ∨ j = 4 ∨ j = 5 := by omega
  · rfl
  · rfl
  · rfl
  · rfl
  · rfl
  · rfl
/-- a cell that may be written -/
def WrC (c : AC) : Prop := (∃ ci fs, c = Ob ci fs) ∨ ∃ n v, c = nm n v
/-- only keys of D are new -/
def Gw (D : Nat → Bool) (kd : Nat → KD) (A : Nat → Nat) (O : Nat → AC) (kd' : Nat → KD) (A' : Nat → Nat) (O' : Nat → AC) : Prop :=
  (∀ j, D j = false → kd' j = kd j ∧ A' j = A j ∧ O' j = O j) ∧ ∀ j, D j = true → (kd' j).1 = 7 → WrC (O' j)
section XGr
variable {D : Nat → Bool} {kd kd' : Nat → KD} {A A' : Nat → Nat} {X : AH} {R : Nat → Nat} {S : Nat → List Int32} {O O' : Nat → AC} {F : Nat → Int32} {h : AH}
theorem Gw.refl (e : ∀ j, D j = true → (kd j).1 = 0) : Gw D kd A O kd A O := ⟨fun _ _ => ⟨rfl, rfl, rfl⟩, fun j hj h7 => by rw [e j hj] at h7; cases h7⟩
theorem Gw.add (e : Gw D kd A O kd' A' O') {k q : Nat} {d : KD} (hk : D k = true) (hd : d.1 ≠ 7) : Gw D kd A O (up kd' k d) (up A' k q) O' := by
  refine ⟨fun j hj => ?_, fun j hj h7 => ?_⟩
  · have n : j ≠ k := fun z => by rw [z, hk] at hj; cases hj
    rw [up_ne n, up_ne n]
    exact e.1 j hj
  · by_cases n : j = k
    · rw [n, up_same] at h7; exact absurd h7 hd
    · rw [up_ne n] at h7; exact e.2 j hj h7
theorem Gw.addO (e : Gw D kd A O kd' A' O') {k q ci : Nat} {fs : List Value} {d : KD} (hk : D k = true) : Gw D kd A O (up kd' k d) (up A' k q) (up O' k (Ob ci fs)) := by
  refine ⟨fun j hj => ?_, fun j hj h7 => ?_⟩
  · have n : j ≠ k := fun z => by rw [z, hk] at hj; cases hj
    rw [up_ne n, up_ne n, up_ne n]
    exact e.1 j hj
  · by_cases n : j = k
    · rw [n, up_same]; exact Or.inl ⟨_, _, rfl⟩
    · rw [up_ne n] at h7
      rw [up_ne n]
      exact e.2 j hj h7
theorem Gw.setO (e : Gw D kd A O kd' A' O') {k ci : Nat} {fs : List Value} (hk : D k = true) : Gw D kd A O kd' A' (up O' k (Ob ci fs)) := by
  refine ⟨fun j hj => ?_, fun j hj h7 => ?_⟩
  · have n : j ≠ k := fun z => by rw [z, hk] at hj; cases hj
    rw [up_ne n]
    exact e.1 j hj
  · by_cases n : j = k
    · rw [n, up_same]; exact Or.inl ⟨_, _, rfl⟩
    · rw [up_ne n]
      exact e.2 j hj h7
theorem PtK.gw {P : Nat} (p : PtK kd A O P) (e : Gw D kd A O kd' A' O') (hP : 80 ≤ P) (hD : ∀ j, P ≤ j → j < P + 4 → D j = false) : PtK kd' A' O' P := by
  obtain ⟨k0, ⟨o0, o1⟩, k1, k2, k3⟩ := p
  have e0 := e.1 P (hD P (Nat.le_refl _) (by omega))
  have e1 := e.1 (P + 1) (hD _ (by omega) (by omega))
  have e2 := e.1 (P + 2) (hD _ (by omega) (by omega))
  have e3 := e.1 (P + 3) (hD _ (by omega) (by omega))
  refine ⟨by rw [e0.1]; exact k0, ⟨?_, o1⟩, by rw [e1.1]; exact k1, by rw [e2.1]; exact k2, by rw [e3.1]; exact k3⟩
  unfold OS at o0 ⊢
  rw [if_neg (by omega)] at o0 ⊢
  unfold ptC at o0 ⊢
  rw [e0.2.2, e1.2.1, e2.2.1, e3.2.1]
  exact o0
theorem ObK.gw {B : Nat} {lv : Int32} (o : ObK kd A O B lv) (e : Gw D kd A O kd' A' O') (hD : ∀ j, (j = 11 ∨ j = 50 ∨ (B ≤ j ∧ j < B + 30)) → D j = false) : ObK kd' A' O' B lv := by
  have hB := o.b
  have e' : ∀ i, i < 30 → kd' (B + i) = kd (B + i) ∧ A' (B + i) = A (B + i) ∧ O' (B + i) = O (B + i) := fun i hi => e.1 _ (hD _ (by omega))
  have e0 := e' 0 (by decide)
  have e11 := (e.1 11 (hD _ (by omega))).2.1
  have e50 := (e.1 50 (hD _ (by omega))).2.1
  obtain ⟨⟨a1, a2, a3⟩, b1, b2, b3, b4, b5, b6, b7, b8, b9, c1, c2, c3, c4, c5⟩ := o
  refine ⟨⟨a1, by rw [← a2]; exact e0.1, ?_⟩, by rw [(e' 1 (by decide)).1]; exact b1, by rw [(e' 2 (by decide)).1]; exact b2, by rw [(e' 3 (by decide)).1]; exact b3, by rw [(e' 4 (by decide)).1]; exact b4, by rw [(e' 5 (by decide)).1]; exact b5, by rw [(e' 6 (by decide)).1]; exact b6, by rw [(e' 7 (by decide)).1]; exact b7, by rw [(e' 8 (by decide)).1]; exact b8, by rw [(e' 9 (by decide)).1]; exact b9,
    c1.gw e (by omega) (fun j _ _ => hD j (by omega)), c2.gw e (by omega) (fun j _ _ => hD j (by omega)), c3.gw e (by omega) (fun j _ _ => hD j (by omega)), c4.gw e (by omega) (fun j _ _ => hD j (by omega)), c5.gw e (by omega) (fun j _ _ => hD j (by omega))⟩
  have : O' B = O B := e0.2.2
  rw [this, a3]
  unfold obFl
  rw [(e' 1 (by decide)).2.1, e11, e50, (e' 2 (by decide)).2.1, (e' 3 (by decide)).2.1, (e' 4 (by decide)).2.1, (e' 5 (by decide)).2.1, (e' 6 (by decide)).2.1, (e' 7 (by decide)).2.1, (e' 8 (by decide)).2.1, (e' 9 (by decide)).2.1, (e' 10 (by decide)).2.1, (e' 14 (by decide)).2.1, (e' 18 (by decide)).2.1, (e' 22 (by decide)).2.1, (e' 26 (by decide)).2.1]
/-- the rows of a call -/
def T80 (j : Nat) : Bool := decide (80 ≤ j ∧ j < 100)
theorem T80_f {j : Nat} (h : ¬ (80 ≤ j ∧ j < 100)) : T80 j = false := decide_eq_false h
theorem T80_t {j : Nat} (h : 80 ≤ j ∧ j < 100) : T80 j = true := decide_eq_true h
theorem freeT {k : Nat} (h1 : 80 ≤ k) (h2 : k < 100) : FreeK F k := ⟨h1, fun _ _ => by omega, fun _ _ => by omega⟩
/-- where an asking lies -/
def AsK (kd : Nat → KD) (A : Nat → Nat) (O : Nat → AC) (C B n : Nat) (op : Int32) : Prop :=
  kd C = (7, 0, 0) ∧ (1000 ≤ C ∧ O C = Ob 8 [.ref (A B), .ref (A (C + 1)), .ref (A (C + 2)), .int op]) ∧ kd (C + 1) = (6, 2, 98) ∧ kd (C + 2) = (2, 0, n)
theorem AsK.c {C B n : Nat} {op : Int32} (a : AsK kd A O C B n op) (w : XW kd A X R S O F h) : h (A C) = some (Ob 8 [.ref (A B), .ref (A (C + 1)), .ref (A (C + 2)), .int op]) := by
  have hC := a.2.1.1
  rw [w.ob C a.1 (mut_f (Or.inr (by omega)))]
  unfold OS
  rw [if_neg (by omega), a.2.1.2]
theorem AsK.gw {C B n : Nat} {op : Int32} (a : AsK kd A O C B n op) (e : Gw D kd A O kd' A' O') (hD : ∀ j, (j = B ∨ (C ≤ j ∧ j < C + 3)) → D j = false) : AsK kd' A' O' C B n op := by
  obtain ⟨k0, ⟨o1, o0⟩, k1, k2⟩ := a
  have e0 := e.1 C (hD C (by omega))
  have e1 := e.1 (C + 1) (hD _ (by omega))
  have e2 := e.1 (C + 2) (hD _ (by omega))
  have eB := e.1 B (hD _ (by omega))
  exact ⟨by rw [e0.1]; exact k0, ⟨o1, by rw [e0.2.2, eB.2.1, e1.2.1, e2.2.1]; exact o0⟩, by rw [e1.1]; exact k1, by rw [e2.1]; exact k2⟩
theorem hset_mid {b x y z : Nat} {c0 u v t c : AC} : hset (hset (hset (hset (hset h b c0) x u) y v) z t) b c = hset (hset (hset (hset h x u) y v) z t) b c := by
  funext a
  by_cases e : a = b
  · rw [e, hset_self, hset_self]
  · rw [hset_ne e, hset_ne e]
    by_cases ez : a = z
    · rw [ez, hset_self, hset_self]
    · rw [hset_ne ez, hset_ne ez]
      by_cases ey : a = y
      · rw [ey, hset_self, hset_self]
      · rw [hset_ne ey, hset_ne ey]
        by_cases ex : a = x
        · rw [ex, hset_self, hset_self]
        · rw [hset_ne ex, hset_ne ex, hset_ne e]
theorem hset_nn {q b : Nat} {c : AC} (e : hset h b c q = none) : q ≠ b ∧ h q = none := by
  have n : q ≠ b := fun z => by rw [z, hset_self] at e; cases e
  rw [hset_ne n] at e
  exact ⟨n, e⟩
theorem pointInit_ok (g : GX) {b : Nat} (hb : h b = some (Ob 5 [.null, .null, .null])) : MT g MX7_init ({ frames := 1, cells := 3, slots := 36, locals := 20 } : Room) [.ref b] h (RV fun h' => ∃ x y z, h x = none ∧ h y = none ∧ h z = none ∧ x ≠ y ∧ x ≠ z ∧ y ≠ z ∧ h' = hset (hset (hset (hset h x (Ai false 0 12 fun _ => 0)) y (Ai false 0 12 fun _ => 0)) z (Ai false 0 12 fun _ => 0)) b (Ob 5 [.ref x, .ref y, .ref z])) := by
  refine MT.of (by decide) (Nat.le_of_ble_eq_true rfl) ?_
  refine X_aload_n (pc := 0) 0 dX7_init_0 rfl rfl ?_
  refine X_objInit (pc := 1) dX7_init_1 q323 q131 q132 (Nat.le_of_ble_eq_true rfl) (Nat.le_of_ble_eq_true rfl) ?_
  refine X_aload_n (pc := 4) 0 dX7_init_4 rfl rfl ?_
  refine X_bipush (pc := 5) (x := 12) dX7_init_5 (by decide) ?_
  refine X_new_int (12) (pc := 7) dX7_init_7 rfl (by decide) (Nat.le_of_ble_eq_true rfl) (Nat.le_of_ble_eq_true rfl) (fun x hx => ?_)
  have b1 : hset h x (Ai false 0 12 fun _ => 0) b = some (Ob 5 [.null, .null, .null]) := by rw [hset_ne (fun e => by rw [e, hx] at hb; cases hb)]; exact hb
  refine X_putfield (pc := 9) dX7_init_9 fp_X7_9_5 (fun _ => rfl) b1 rfl rfl (Nat.le_of_ble_eq_true rfl) ?_
  refine X_aload_n (pc := 12) 0 dX7_init_12 rfl rfl ?_
  refine X_bipush (pc := 13) (x := 12) dX7_init_13 (by decide) ?_
  refine X_new_int (12) (pc := 15) dX7_init_15 rfl (by decide) (Nat.le_of_ble_eq_true rfl) (Nat.le_of_ble_eq_true rfl) (fun y hy => ?_)
  obtain ⟨yb, hy1⟩ := hset_nn hy
  obtain ⟨yx, hy2⟩ := hset_nn hy1
  have b2 : hset (hset (hset h x (Ai false 0 12 fun _ => 0)) b (Ob 5 ([.null, .null, .null].set 0 (.ref x)))) y (Ai false 0 12 fun _ => 0) b = some (Ob 5 [.ref x, .null, .null]) := by rw [hset_ne (fun e => yb e.symm), hset_self]; rfl
  refine X_putfield (pc := 17) dX7_init_17 fp_X7_15_5 (fun _ => rfl) b2 rfl rfl (Nat.le_of_ble_eq_true rfl) ?_
  refine X_aload_n (pc := 20) 0 dX7_init_20 rfl rfl ?_
  refine X_bipush (pc := 21) (x := 12) dX7_init_21 (by decide) ?_
  refine X_new_int (12) (pc := 23) dX7_init_23 rfl (by decide) (Nat.le_of_ble_eq_true rfl) (Nat.le_of_ble_eq_true rfl) (fun z hz => ?_)
  obtain ⟨zb, hz1⟩ := hset_nn hz
  obtain ⟨zy, hz2⟩ := hset_nn hz1
  obtain ⟨-, hz3⟩ := hset_nn hz2
  obtain ⟨zx, hz4⟩ := hset_nn hz3
  refine X_putfield (pc := 25) dX7_init_25 fp_X7_18_5 (fun _ => rfl) (by rw [hset_ne (fun e => zb e.symm), hset_self]) rfl rfl (Nat.le_of_ble_eq_true rfl) ?_
  refine X_return (pc := 28) dX7_init_28 rfl (Nat.le_of_ble_eq_true rfl) (Nat.le_of_ble_eq_true rfl) ?_
  refine ⟨rfl, x, y, z, hx, hy2, hz4, fun e => yx e.symm, fun e => zx e.symm, fun e => zy e.symm, ?_⟩
  funext a
  by_cases e : a = b
  · rw [e, hset_self, hset_self]; rfl
  · rw [hset_ne e, hset_ne e]
    by_cases ez : a = z
    · rw [ez, hset_self, hset_self]
    · rw [hset_ne ez, hset_ne ez, hset_ne e]
      by_cases ey : a = y
      · rw [ey, hset_self, hset_self]
      · rw [hset_ne ey, hset_ne ey, hset_ne e]
/-- a new point comes into the world -/
theorem XW.addPt (w : XW kd A X R S O F h) {b x y z P : Nat} {c0 : AC} (hP : 80 ≤ P) (fk : ∀ j, P ≤ j → j ≤ P + 3 → FreeK F j ∧ (kd j).1 = 0) (hb : h b = none) (hx : hset h b c0 x = none) (hy : hset h b c0 y = none) (hz : hset h b c0 z = none) (xy : x ≠ y) (xz : x ≠ z) (yz : y ≠ z) :
    ∃ kd' A' O' R', PtK kd' A' O' P ∧ (∀ j, ¬ (P ≤ j ∧ j ≤ P + 3) → kd' j = kd j ∧ A' j = A j ∧ O' j = O j) ∧ A' P = b ∧ (∀ D kd0 A0 O0, Gw D kd0 A0 O0 kd A O → (∀ j, P ≤ j → j ≤ P + 3 → D j = true) → Gw D kd0 A0 O0 kd' A' O') ∧ (∀ j, ¬ (P < j ∧ j ≤ P + 3) → R' j = R j) ∧
      XW kd' A' X R' S O' F (hset (hset (hset (hset (hset h b c0) x (Ai false 0 12 fun _ => 0)) y (Ai false 0 12 fun _ => 0)) z (Ai false 0 12 fun _ => 0)) b (Ob 5 [.ref x, .ref y, .ref z])) := by
  have xb := hset_nn hx
  have yb := hset_nn hy
  have zb := hset_nn hz
  have v0 : V 12 (fun _ => (0 : Int32)) < pP := by decide +kernel
  have n1 : P + 2 ≠ P + 1 := by omega
  have n2 : P + 3 ≠ P + 1 := by omega
  have n3 : P + 3 ≠ P + 2 := by omega
  have n4 : P ≠ P + 1 := by omega
  have n5 : P ≠ P + 2 := by omega
  have n6 : P ≠ P + 3 := by omega
  have w1 := w.addN1 (q := x) (k := P + 1) (f := fun _ => 0) xb.2 (fk _ (by omega) (by omega)).2 (fk _ (by omega) (by omega)).1 v0
  have w2 := w1.addN1 (q := y) (k := P + 2) (f := fun _ => 0) (by rw [hset_ne (fun e => xy e.symm)]; exact yb.2) (by rw [up_ne n1]; exact (fk _ (by omega) (by omega)).2) (fk _ (by omega) (by omega)).1 v0
  have w3 := w2.addN1 (q := z) (k := P + 3) (f := fun _ => 0) (by rw [hset_ne (fun e => yz e.symm), hset_ne (fun e => xz e.symm)]; exact zb.2) (by rw [up_ne n3, up_ne n2]; exact (fk _ (by omega) (by omega)).2) (fk _ (by omega) (by omega)).1 v0
  have w4 := w3.addO (q := b) (k := P) (c := Ob 5 [.ref x, .ref y, .ref z]) (by rw [hset_ne (fun e => zb.1 e.symm), hset_ne (fun e => yb.1 e.symm), hset_ne (fun e => xb.1 e.symm)]; exact hb) (by rw [up_ne n6, up_ne n5, up_ne n4]; exact (fk _ (by omega) (by omega)).2) (fk _ (by omega) (by omega)).1 (fun v tx e => by cases e)
  rw [hset_mid]
  refine ⟨_, _, _, _, ⟨up_same _ _ _, ⟨?_, by omega⟩, ?_, ?_, ?_⟩, fun j hj => ?_, up_same _ _ _, fun D kd0 A0 O0 e hD => ?_, fun j hj => ?_, w4⟩
  · unfold OS ptC
    rw [if_neg (by omega), up_same, up_ne n4.symm, up_ne n2.symm, up_ne n1.symm, up_same, up_ne n5.symm, up_ne n3.symm, up_same, up_ne n6.symm, up_same]
  · rw [up_ne n4.symm, up_ne n2.symm, up_ne n1.symm, up_same]
  · rw [up_ne n5.symm, up_ne n3.symm, up_same]
  · rw [up_ne n6.symm, up_same]
  · have a1 : j ≠ P := by omega
    have a2 : j ≠ P + 1 := by omega
    have a3 : j ≠ P + 2 := by omega
    have a4 : j ≠ P + 3 := by omega
    rw [up_ne a1, up_ne a4, up_ne a3, up_ne a2, up_ne a1, up_ne a4, up_ne a3, up_ne a2, up_ne a1]
    exact ⟨rfl, rfl, rfl⟩
  · exact (((e.add (hD _ (by omega) (by omega)) (by decide)).add (hD _ (by omega) (by omega)) (by decide)).add (hD _ (by omega) (by omega)) (by decide)).addO (hD _ (by omega) (by omega))
  · rw [up_ne (by omega), up_ne (by omega), up_ne (by omega)]
end XGr
/-- bytes are read back -/
theorem b8_tb (v : Nat) : b8 (tb v) = v % 256 := by
  rw [← tb_mod]
  have h : ∀ i : Fin 256, b8 (tb i.val) = i.val := by decide +kernel
  exact h ⟨v % 256, Nat.mod_lt _ (by decide)⟩
theorem bsm_v {f : Nat → Int32} {hi v : Nat} : ∀ m, (∀ i, i < m → f (hi - 1 - i) = tb (v / 256 ^ i)) → bsm f hi m = v % 256 ^ m
  | 0, _ => (Nat.mod_one v).symm
  | m + 1, h => by
    show bsm f hi m + b8 (f (hi - 1 - m)) * 256 ^ m = _
    rw [bsm_v m (fun i hi => h i (by omega)), h m (by omega), b8_tb, Nat.mod_pow_succ, Nat.mul_comm]
theorem num_byN (v n : Nat) : num (byN v n) 0 n = v % 256 ^ n := bsm_v n fun i hi => by
  show (osB v n).getD (0 + n - 1 - i) 0 = _
  rw [byte_le (by omega), show n - 1 - (0 + n - 1 - i) = i by omega]
theorem sub_getD {T : List Int32} {a n j : Nat} (hj : j < n) : (sub T a n).getD j 0 = T.getD (a + j) 0 := getD_map_range hj
theorem ngng {F : Type} [Lean.Grind.CommRing F] (y : F) : - -y = y := by grind
theorem ng00 {F : Type} [Lean.Grind.CommRing F] {y : F} (h : -y = 0) : y = 0 := by grind
theorem eltP_en {P : PP} (on : OnP P) (hn : P ≠ none) {T : List Int32} {a : Nat} (h : sub T a 49 = en P) : eltP T a = P := by
  match P, hn with
  | some (x, y), _ =>
    have he : y * y = gx x := on
    have h' : sub T a 49 = [tb (2 + y.val % 2)] ++ byN x.val 48 := by rw [h]; exact encB_cons _ _
    have l0 : T.getD a 0 = tb (2 + y.val % 2) := by
      have := sub_getD (T := T) (a := a) (n := 49) (j := 0) (by decide)
      rw [h'] at this
      exact this.symm
    have ln : bsm (fun j => T.getD (a + j) 0) 49 48 = x.val := by
      rw [bsm_v (v := x.val) 48 (fun i hi => ?_), Nat.mod_eq_of_lt (Nat.lt_trans (fp_lt x) (by decide +kernel))]
      have := sub_getD (T := T) (a := a) (n := 49) (j := 49 - 1 - i) (by omega)
      rw [← this, h', List.getD_eq_getElem?_getD, List.getElem?_append_right (by show 1 ≤ _; omega), ← List.getD_eq_getElem?_getD]
      show (osB x.val 48).getD (49 - 1 - i - 1) 0 = _
      rw [byte_le (by omega), show 48 - 1 - (49 - 1 - i - 1) = i by omega]
    have fx : fp x.val = x := fp_ext (fp_val_lt (fp_lt x))
    have t2 : tb (2 + 0) = 2 := by decide
    have t3 : tb (2 + 1) = 3 := by decide
    have n32 : (3 : Int32) ≠ 2 := by decide
    show decE (fun j => T.getD (a + j) 0) = _
    unfold decE
    rw [show (fun j => T.getD (a + j) 0) 0 = T.getD a 0 from rfl, l0, ln, fx, if_pos (fp_lt x)]
    have hr : rt (gx x) * rt (gx x) = gx x := rt_sq he
    unfold decY
    rw [show (fun j => T.getD (a + j) 0) 0 = T.getD a 0 from rfl, l0]
    generalize rt (gx x) = r at hr ⊢
    rw [if_pos hr]
    have h2 : tb (2 + y.val % 2) = 2 ↔ y.val % 2 = 0 := by
      have : y.val % 2 = 0 ∨ y.val % 2 = 1 := by omega
      rcases this with e | e
      · rw [e, t2]; exact ⟨fun _ => rfl, fun _ => rfl⟩
      · rw [e, t3]; exact ⟨fun z => absurd z n32, fun z => absurd z (by decide)⟩
    rw [if_pos (by
      have : y.val % 2 = 0 ∨ y.val % 2 = 1 := by omega
      rcases this with e | e
      · rw [e, t2]; exact Or.inl rfl
      · rw [e, t3]; exact Or.inr rfl)]
    by_cases r0 : r = 0
    · have y0 : y = 0 := by
        rcases sq_eq (hr.trans he.symm) with e | e
        · rw [← e]; exact r0
        · rw [r0] at e; exact ng00 e.symm
      rw [if_pos r0, if_pos (h2.mpr (by rw [y0]; rfl)), r0, y0]
    · rw [if_neg r0]
      rcases sq_eq (hr.trans he.symm) with e | e
      · rw [e, if_pos (Iff.symm h2)]
      · have y0 : y ≠ 0 := fun z => r0 (by rw [e, z]; decide +kernel)
        have yv : y.val ≠ 0 := fun z => y0 (fp_ext z)
        have := neg_par yv (fp_lt y)
        rw [if_neg (by
          rw [e, fp_negv y0]
          intro z
          have z1 := z.trans h2
          omega), e, ngng]
