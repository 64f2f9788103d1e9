set_option maxRecDepth 100000
/-! VeilMint's curve: a message becomes a number, a point -/
section XX22
variable {kd : Nat → KD} {A : Nat → Nat} {X : AH} {R : Nat → Nat} {S : Nat → List Int32} {O : Nat → AC} {F : Nat → Int32} {h : AH}
theorem scalarX_ok (g : GX) {msg : List Int32} (d : DL kd A X R S O F (zer128 ++ msg) h) (k : Nat) (hk : kd k = (2, 0, 12)) (hl : msg.length + 2000 < 2 ^ 28) :
    MT g MX5_scalar ({ frames := 8, cells := 0, slots := 0, locals := 175 } : Room) [.ref (A 11), .ref (A k)] h (RV fun h' => ∃ S' F', XSr S S' ∧ XFr F F' ∧ XW kd A X (up R k (h2s msg)) S' O F' h') := by
  refine MT.of (by decide) (Nat.le_of_ble_eq_true rfl) ?_
  refine X_aload_n (pc := 0) 0 dX5_scalar_0 rfl rfl ?_
  refine X_bipush (pc := 1) (x := 72) dX5_scalar_1 (by decide) ?_
  refine X_ldcS (pc := 3) (j := 11) dX5_scalar_3 rfl (fun tx_3 vx_3 ht_3 => ?_)
  refine X_ivv (pc := 5) _ dX5_scalar_5 cv_X5_235_3 (XW.cv d.1) rfl (expandX_ok g d ht_3 (c7_all (by decide)) (by decide) (many := 72) (Or.inl rfl) hl) nX5_expand (Nat.le_of_ble_eq_true rfl) (Nat.le_of_ble_eq_true rfl) (Nat.le_of_ble_eq_true rfl) (Nat.le_of_ble_eq_true rfl) (fun h1 q1 => ?_)
  obtain ⟨S1, F1, s1, f1, e24, w1⟩ := q1
  have l24 : (S1 24).length = 72 := by rw [e24]; exact xmd_len _ _ _
  refine X_aload_n (pc := 8) 0 dX5_scalar_8 rfl rfl ?_
  refine X_getfield (pc := 9) dX5_scalar_9 fg_X5_28_3 (XW.cv w1) (by first | rfl | assumption) ?_
  refine X_aload_n (pc := 12) 0 dX5_scalar_12 rfl rfl ?_
  refine X_getfield (pc := 13) dX5_scalar_13 fg_X5_81_3 (XW.cv w1) (by first | rfl | assumption) ?_
  refine X_iconst (pc := 16) (x := 0) dX5_scalar_16 (by decide) ?_
  refine X_bipush (pc := 17) (x := 72) dX5_scalar_17 (by decide) ?_
  refine X_aload_n (pc := 19) 1 dX5_scalar_19 rfl rfl ?_
  refine X_ivv (pc := 20) _ dX5_scalar_20 cv_X5_239_4 (MoK.ob (XW.mq w1) w1) rfl (xrestW g w1 w1.mq k (St.q hk) (kb := 24) (nb := 144) (fr := 0) (many := 72) (w1.k 24 (by decide)) (by decide) (by rw [l24]; decide)) nX6_rest (Nat.le_of_ble_eq_true rfl) (Nat.le_of_ble_eq_true rfl) (Nat.le_of_ble_eq_true rfl) (Nat.le_of_ble_eq_true rfl) (fun h2 w2 => ?_)
  rw [e24] at w2
  refine X_return (pc := 23) dX5_scalar_23 rfl (Nat.le_of_ble_eq_true rfl) (Nat.le_of_ble_eq_true rfl) ?_
  exact ⟨rfl, S1, F1, s1, f1, w2⟩
def gpS (P j : Nat) : Bool := ecS P j || (decide (69 ≤ j) && decide (j ≤ 71))
theorem gpS_ne {P j : Nat} (h : gpS P j = false) : ecS P j = false ∧ ¬ (69 ≤ j ∧ j ≤ 71) := by
  unfold gpS at h
  simp only [Bool.or_eq_false_iff, Bool.and_eq_false_iff, decide_eq_false_iff_not] at h
  exact ⟨h.1, by omega⟩
theorem gpS_f {P j : Nat} (h : ecS P j = false) (h2 : ¬ (69 ≤ j ∧ j ≤ 71)) : gpS P j = false := by
  unfold gpS
  simp only [Bool.or_eq_false_iff, Bool.and_eq_false_iff, decide_eq_false_iff_not]
  exact ⟨h, by omega⟩
/-- a point is the result; registers, rows and the digest have changed -/
def PtH (kd : Nat → KD) (A : Nat → Nat) (X : AH) (R : Nat → Nat) (S : Nat → List Int32) (O : Nat → AC) (F : Nat → Int32) (P : Nat) (Pt : PP) (h' : AH) : Prop :=
  ∃ R' S' F', (∀ j, gpS P j = false → R' j = R j) ∧ XSr S S' ∧ XFr F F' ∧ PtV R' P Pt ∧ XW kd A X R' S' O F' h'
set_option maxHeartbeats 4000000 in
theorem groupX_ok (g : GX) {msg : List Int32} (d : DL kd A X R S O F (zer128 ++ msg) h) {P : Nat} (hP : PtK kd A O P) (hP72 : 72 ≤ P) (xb : XB R) (hl : msg.length + 2000 < 2 ^ 28) :
    MT g MX5_group ({ frames := 8, cells := 4, slots := 256, locals := 175 } : Room) [.ref (A 11), .ref (A P)] h (RV (PtH kd A X R S O F P (h2p msg))) := by
  refine MT.of (by decide) (Nat.le_of_ble_eq_true rfl) ?_
  refine X_aload_n (pc := 0) 0 dX5_group_0 rfl rfl ?_
  refine X_sipush (pc := 1) (x := 144) dX5_group_1 (by decide) ?_
  refine X_ldcS (pc := 4) (j := 5) dX5_group_4 rfl (fun tx_4 vx_4 ht_4 => ?_)
  refine X_ivv (pc := 6) _ dX5_group_6 cv_X5_235_3 (XW.cv d.1) rfl (expandX_ok g d ht_4 (c7_all (by decide)) (by decide) (many := 144) (Or.inr rfl) hl) nX5_expand (Nat.le_of_ble_eq_true rfl) (Nat.le_of_ble_eq_true rfl) (Nat.le_of_ble_eq_true rfl) (Nat.le_of_ble_eq_true rfl) (fun h1 q1 => ?_)
  obtain ⟨S1, F1, s1, f1, e24, w1⟩ := q1
  have l24 : (S1 24).length = 144 := by rw [e24]; exact xmd_len _ _ _
  refine X_aload_n (pc := 9) 0 dX5_group_9 rfl rfl ?_
  refine X_iconst (pc := 10) (x := 0) dX5_group_10 (by decide) ?_
  refine X_aload_n (pc := 11) 1 dX5_group_11 rfl rfl ?_
  refine X_ivv (pc := 12) _ dX5_group_12 cv_X5_245_3 (XW.cv w1) rfl (xmap_ok g w1 (at' := 0) hP (by omega) xb (by rw [l24]; decide)) nX5_map (Nat.le_of_ble_eq_true rfl) (Nat.le_of_ble_eq_true rfl) (Nat.le_of_ble_eq_true rfl) (Nat.le_of_ble_eq_true rfl) (fun h2 q2 => ?_)
  obtain ⟨R2, r2, v2, w2⟩ := q2
  have xb2 : XB R2 := xb.fr fun j hj => r2 j (ecS_f (by omega) (by omega) (by omega) (by omega))
  refine X_aload_n (pc := 15) 0 dX5_group_15 rfl rfl ?_
  refine X_bipush (pc := 16) (x := 72) dX5_group_16 (by decide) ?_
  refine X_aload_n (pc := 18) 0 dX5_group_18 rfl rfl ?_
  refine X_getfield (pc := 19) dX5_group_19 fg_X5_78_3 (XW.cv w2) (by first | rfl | assumption) ?_
  refine X_ivv (pc := 22) _ dX5_group_22 cv_X5_245_3 (XW.cv w2) rfl (xmap_ok g w2 (at' := 72) (XW.pt68 w2) (by decide) xb2 (by rw [l24]; decide)) nX5_map (Nat.le_of_ble_eq_true rfl) (Nat.le_of_ble_eq_true rfl) (Nat.le_of_ble_eq_true rfl) (Nat.le_of_ble_eq_true rfl) (fun h3 q3 => ?_)
  obtain ⟨R3, r3, v3, w3⟩ := q3
  have xb3 : XB R3 := xb2.fr fun j hj => r3 j (ecS_f (by omega) (by omega) (by omega) (by omega))
  have v2' : PtV R3 P (mapS (fp (fld (S1 24) 0 pP))) := by
    unfold PtV
    rw [r3 _ (ecS_f (by omega) (by omega) (by omega) (by omega)), r3 _ (ecS_f (by omega) (by omega) (by omega) (by omega)), r3 _ (ecS_f (by omega) (by omega) (by omega) (by omega))]
    exact v2
  refine X_aload_n (pc := 25) 0 dX5_group_25 rfl rfl ?_
  refine X_aload_n (pc := 26) 1 dX5_group_26 rfl rfl ?_
  refine X_aload_n (pc := 27) 0 dX5_group_27 rfl rfl ?_
  refine X_getfield (pc := 28) dX5_group_28 fg_X5_78_3 (XW.cv w3) (by first | rfl | assumption) ?_
  refine X_ivv (pc := 31) _ dX5_group_31 cv_X5_157_3 (XW.cv w3) rfl (add_ok g w3 hP (XW.pt68 w3) (by omega) (by decide) (by omega) xb3 (by omega) (mapS_on _) (mapS_on _) v2' v3) nX5_add (Nat.le_of_ble_eq_true rfl) (Nat.le_of_ble_eq_true rfl) (Nat.le_of_ble_eq_true rfl) (Nat.le_of_ble_eq_true rfl) (fun h4 q4 => ?_)
  obtain ⟨R4, r4, v4, w4⟩ := q4
  refine X_return (pc := 34) dX5_group_34 rfl (Nat.le_of_ble_eq_true rfl) (Nat.le_of_ble_eq_true rfl) ?_
  refine ⟨rfl, R4, S1, F1, fun j hj => ?_, s1, f1, ?_, w4⟩
  · obtain ⟨a1, a2⟩ := gpS_ne hj
    have a3 := ecS_ne a1
    rw [r4 j a1, r3 j (ecS_f (by omega) (by omega) (by omega) (by omega)), r2 j a1]
  · rw [e24] at v4
    exact v4
end XX22
