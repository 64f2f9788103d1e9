set_option maxRecDepth 100000
/-! VeilMint's world grows while an object is being made -/
/-- the object that is being made lies beside the world -/
def BY (b ci : Nat) (fs : List Value) (kd : Nat → KD) (A : Nat → Nat) (X : AH) (R : Nat → Nat) (S : Nat → List Int32) (O : Nat → AC) (F : Nat → Int32) (h : AH) : Prop :=
  XW kd A (hset X b (Ob ci fs)) R S O F h ∧ X b = none ∧ ∀ k, (kd k).1 ≠ 0 → A k ≠ b
section XBy
variable {b ci : Nat} {fs fs' : List Value} {kd kd' : Nat → KD} {A A' : Nat → Nat} {X : AH} {R R' : Nat → Nat} {S S' : Nat → List Int32} {O O' : Nat → AC} {F F' : Nat → Int32} {h : AH}
theorem XW.by (w : XW kd A X R S O F h) (hb : h b = none) : BY b ci fs kd A X R S O F (hset h b (Ob ci fs)) := ⟨w.fresh hb _, w.1.noX hb, w.1.apart hb⟩
theorem BY.c (y : BY b ci fs kd A X R S O F h) : h b = some (Ob ci fs) := by
  rw [y.1.1.2.2 b y.2.2, hset_self]
theorem BY.put (y : BY b ci fs kd A X R S O F h) (fs' : List Value) : BY b ci fs' kd A X R S O F (hset h b (Ob ci fs')) := by
  refine ⟨?_, y.2⟩
  have := y.1.1.setX y.2.2 (Ob ci fs')
  rw [hset_hset] at this
  exact ⟨this, y.1.2⟩
theorem BY.ap {q k : Nat} {c : AC} (y : BY b ci fs kd A X R S O F h) (hq : h q = none) (e : ∀ j, j ≠ k → kd' j = kd j ∧ A' j = A j) (ak : A' k = q) : ∀ j, (kd' j).1 ≠ 0 → A' j ≠ b := fun j hj => by
  by_cases ej : j = k
  · rw [ej, ak]
    exact fun z => by rw [z, y.c] at hq; cases hq
  · rw [(e j ej).2]
    exact y.2.2 j (by rw [← (e j ej).1]; exact hj)
theorem BY.growS (y : BY b ci fs kd A X R S O F h) {q k : Nat} (n : Nat) (hq : h q = none) (hk : (kd k).1 = 0) (fk : FreeK F k) :
    ∃ kd' A' S', kd' k = (6, 2, n) ∧ A' k = q ∧ (∀ j, j ≠ k → kd' j = kd j ∧ A' j = A j) ∧ (∀ D kd0 A0 O0, Gw D kd0 A0 O0 kd A O → D k = true → Gw D kd0 A0 O0 kd' A' O) ∧ (S' k = [] ∧ ∀ j, j ≠ k → S' j = S j) ∧ BY b ci fs kd' A' X R S' O F (hset h q (Ai false 2 n fun _ => 0)) := by
  obtain ⟨kd', A', e1, e2, e3, e4, e5⟩ := y.1.growS (n := n) hq hk fk
  exact ⟨kd', A', _, e1, e2, e3, e4, ⟨up_same _ _ _, fun j hj => up_ne hj⟩, e5, y.2.1, y.ap (c := Ob ci fs) hq e3 e2⟩
theorem BY.growN (y : BY b ci fs kd A X R S O F h) {q k : Nat} (n : Nat) (hq : h q = none) (hk : (kd k).1 = 0) (fk : FreeK F k) :
    ∃ kd' A' R', kd' k = (2, 0, n) ∧ A' k = q ∧ (∀ j, j ≠ k → kd' j = kd j ∧ A' j = A j) ∧ (∀ D kd0 A0 O0, Gw D kd0 A0 O0 kd A O → D k = true → Gw D kd0 A0 O0 kd' A' O) ∧ (R' k = 0 ∧ ∀ j, j ≠ k → R' j = R j) ∧ BY b ci fs kd' A' X R' S O F (hset h q (Ai false 0 n fun _ => 0)) := by
  obtain ⟨kd', A', e1, e2, e3, e4, e5⟩ := y.1.growN (n := n) hq hk fk
  exact ⟨kd', A', _, e1, e2, e3, e4, ⟨up_same _ _ _, fun j hj => up_ne hj⟩, e5, y.2.1, y.ap (c := Ob ci fs) hq e3 e2⟩
/-- a new point beside the object -/
theorem BY.growP (y : BY b ci fs kd A X R S O F h) {p x t z P : Nat} {c0 : AC} (hP : 80 ≤ P) (fk : ∀ j, P ≤ j → j ≤ P + 3 → FreeK F j ∧ (kd j).1 = 0) (hp : h p = none) (hx : hset h p c0 x = none) (ht : hset h p c0 t = none) (hz : hset h p c0 z = none) (xt : x ≠ t) (xz : x ≠ z) (tz : t ≠ z) :
    ∃ kd' A' O' R', PtK kd' A' O' P ∧ A' P = p ∧ (∀ j, ¬ (P ≤ j ∧ j ≤ P + 3) → kd' j = kd j ∧ A' j = A j ∧ O' j = O j) ∧ (∀ D kd0 A0 O0, Gw D kd0 A0 O0 kd A O → (∀ j, P ≤ j → j ≤ P + 3 → D j = true) → Gw D kd0 A0 O0 kd' A' O') ∧ (∀ j, ¬ (P ≤ j ∧ j ≤ P + 3) → R' j = R j) ∧
      BY b ci fs kd' A' X R' S O' F (hset (hset (hset (hset (hset h p c0) x (Ai false 0 12 fun _ => 0)) t (Ai false 0 12 fun _ => 0)) z (Ai false 0 12 fun _ => 0)) p (Ob 5 [.ref x, .ref t, .ref z])) := by
  obtain ⟨kd', A', O', R', e1, e2, e3, e4, e5, e6⟩ := y.1.addPt hP fk hp hx ht hz xt xz tz
  refine ⟨kd', A', O', R', e1, e3, e2, e4, fun j hj => e5 j (by omega), e6, y.2.1, fun j hj => ?_⟩
  have hb := y.c
  have nb : ∀ {a : Nat}, h a = none → a ≠ b := fun ha z => by rw [z, hb] at ha; cases ha
  by_cases ej : P ≤ j ∧ j ≤ P + 3
  · have hw := e6.1.2.1 j
    have pc := e1.c e6
    obtain ⟨k0, ⟨o0, o1⟩, k1, k2, k3⟩ := e1
    have hob : hset (hset (hset (hset (hset h p c0) x (Ai false 0 12 fun _ => 0)) t (Ai false 0 12 fun _ => 0)) z (Ai false 0 12 fun _ => 0)) p (Ob 5 [.ref x, .ref t, .ref z]) p = some (Ob 5 [.ref x, .ref t, .ref z]) := hset_self _ _ _
    rw [e3, hob] at pc
    have pe : Ob 5 [.ref x, .ref t, .ref z] = ptC A' P := Option.some.inj pc
    unfold ptC at pe
    have pe2 : [Value.ref x, Value.ref t, Value.ref z] = [Value.ref (A' (P + 1)), Value.ref (A' (P + 2)), Value.ref (A' (P + 3))] := by
      injection pe with pe
      exact (Prod.mk.inj (Sum.inl.inj (Sum.inr.inj (Sum.inr.inj pe)))).2
    injection pe2 with p1 p2
    injection p2 with p2 p3
    injection p3 with p3 p4
    injection p1 with p1
    injection p2 with p2
    injection p3 with p3
    have : j = P ∨ j = P + 1 ∨ j = P + 2 ∨ j = P + 3 := by omega
    rcases this with rfl | rfl | rfl | rfl
    · rw [e3]; exact nb hp
    · rw [← p1]; exact nb (hset_nn hx).2
    · rw [← p2]; exact nb (hset_nn ht).2
    · rw [← p3]; exact nb (hset_nn hz).2
  · rw [(e2 j ej).2.1]
    exact y.2.2 j (by rw [← (e2 j ej).1]; exact hj)
/-- the object comes into the world -/
theorem BY.take (y : BY b ci fs kd A X R S O F h) {k : Nat} (hk : (kd k).1 = 0) (fk : FreeK F k) :
    ∃ kd' A' O', kd' k = (7, 0, 0) ∧ A' k = b ∧ O' k = Ob ci fs ∧ (∀ j, j ≠ k → kd' j = kd j ∧ A' j = A j ∧ O' j = O j) ∧ (∀ D kd0 A0 O0, Gw D kd0 A0 O0 kd A O → D k = true → Gw D kd0 A0 O0 kd' A' O') ∧ XW kd' A' X R S O' F h :=
  ⟨up kd k (7, 0, 0), up A k b, up O k (Ob ci fs), up_same _ _ _, up_same _ _ _, up_same _ _ _, fun j hj => ⟨up_ne hj, up_ne hj, up_ne hj⟩, fun D kd0 A0 O0 e hD => e.addO hD,
    XW.take y.1 y.2.1 y.2.2 hk fk (Nat.succ_ne_zero _) (Nat.le_refl _) (congrArg some (up_same O k (Ob ci fs)).symm) (fun _ _ => rfl) (fun _ _ => rfl) (fun _ e => up_ne e) (fun v tx => by rw [up_same]; exact fun z => by cases z)⟩
theorem keyInit9_ok (g : GX) {fs : List Value} (hb : h b = some (Ob 9 (.null :: .int 0 :: .int 0 :: fs))) {t : Int32} : MT g MX13_init ({ frames := 1, cells := 1, slots := 32, locals := 20 } : Room) [.ref b, .int t] h (RV fun h' => ∃ q, h q = none ∧ h' = hset (hset h q (Ai false 2 32 fun _ => 0)) b (Ob 9 (.ref q :: .int t :: .int 1 :: fs))) := by
  refine MT.of (by decide) (Nat.le_of_ble_eq_true rfl) ?_
  refine X_aload_n (pc := 0) 0 dX13_init_0 rfl rfl ?_
  refine X_objInit (pc := 1) dX13_init_1 q611 q131 q132 (Nat.le_of_ble_eq_true rfl) (Nat.le_of_ble_eq_true rfl) ?_
  refine X_aload_n (pc := 4) 0 dX13_init_4 rfl rfl ?_
  refine X_bipush (pc := 5) (x := 32) dX13_init_5 (by decide) ?_
  refine X_new_byte (32) (pc := 7) dX13_init_7 rfl (by decide) (Nat.le_of_ble_eq_true rfl) (Nat.le_of_ble_eq_true rfl) (fun q hq => ?_)
  have b1 : hset h q (Ai false 2 32 fun _ => 0) b = some (Ob 9 (.null :: .int 0 :: .int 0 :: fs)) := by rw [hset_ne (fun e => by rw [e, hq] at hb; cases hb)]; exact hb
  refine X_putfield (pc := 9) dX13_init_9 fp_X13_7_9 (fun _ => rfl) b1 rfl rfl (Nat.le_of_ble_eq_true rfl) ?_
  refine X_aload_n (pc := 12) 0 dX13_init_12 rfl rfl ?_
  refine X_iconst (pc := 13) (x := 1) dX13_init_13 (by decide) ?_
  refine X_putfield (pc := 14) dX13_init_14 fp_X13_13_9 (fun _ => rfl) (hset_self _ _ _) rfl rfl (Nat.le_of_ble_eq_true rfl) ?_
  refine X_aload_n (pc := 17) 0 dX13_init_17 rfl rfl ?_
  refine X_iload_n (pc := 18) 1 dX13_init_18 rfl rfl ?_
  refine X_putfield (pc := 19) dX13_init_19 fp_X13_17_9 (fun _ => rfl) (hset_self _ _ _) rfl rfl (Nat.le_of_ble_eq_true rfl) ?_
  refine X_return (pc := 22) dX13_init_22 rfl (Nat.le_of_ble_eq_true rfl) (Nat.le_of_ble_eq_true rfl) ?_
  exact ⟨rfl, q, hq, by rw [hset_hset, hset_hset]; rfl⟩
theorem keyInit10_ok (g : GX) {fs : List Value} (hb : h b = some (Ob 10 (.null :: .int 0 :: .int 0 :: fs))) {t : Int32} : MT g MX13_init ({ frames := 1, cells := 1, slots := 32, locals := 20 } : Room) [.ref b, .int t] h (RV fun h' => ∃ q, h q = none ∧ h' = hset (hset h q (Ai false 2 32 fun _ => 0)) b (Ob 10 (.ref q :: .int t :: .int 1 :: fs))) := by
  refine MT.of (by decide) (Nat.le_of_ble_eq_true rfl) ?_
  refine X_aload_n (pc := 0) 0 dX13_init_0 rfl rfl ?_
  refine X_objInit (pc := 1) dX13_init_1 q611 q131 q132 (Nat.le_of_ble_eq_true rfl) (Nat.le_of_ble_eq_true rfl) ?_
  refine X_aload_n (pc := 4) 0 dX13_init_4 rfl rfl ?_
  refine X_bipush (pc := 5) (x := 32) dX13_init_5 (by decide) ?_
  refine X_new_byte (32) (pc := 7) dX13_init_7 rfl (by decide) (Nat.le_of_ble_eq_true rfl) (Nat.le_of_ble_eq_true rfl) (fun q hq => ?_)
  have b1 : hset h q (Ai false 2 32 fun _ => 0) b = some (Ob 10 (.null :: .int 0 :: .int 0 :: fs)) := by rw [hset_ne (fun e => by rw [e, hq] at hb; cases hb)]; exact hb
  refine X_putfield (pc := 9) dX13_init_9 fp_X13_7_10 (fun _ => rfl) b1 rfl rfl (Nat.le_of_ble_eq_true rfl) ?_
  refine X_aload_n (pc := 12) 0 dX13_init_12 rfl rfl ?_
  refine X_iconst (pc := 13) (x := 1) dX13_init_13 (by decide) ?_
  refine X_putfield (pc := 14) dX13_init_14 fp_X13_13_10 (fun _ => rfl) (hset_self _ _ _) rfl rfl (Nat.le_of_ble_eq_true rfl) ?_
  refine X_aload_n (pc := 17) 0 dX13_init_17 rfl rfl ?_
  refine X_iload_n (pc := 18) 1 dX13_init_18 rfl rfl ?_
  refine X_putfield (pc := 19) dX13_init_19 fp_X13_17_10 (fun _ => rfl) (hset_self _ _ _) rfl rfl (Nat.le_of_ble_eq_true rfl) ?_
  refine X_return (pc := 22) dX13_init_22 rfl (Nat.le_of_ble_eq_true rfl) (Nat.le_of_ble_eq_true rfl) ?_
  exact ⟨rfl, q, hq, by rw [hset_hset, hset_hset]; rfl⟩
end XBy
