set_option maxRecDepth 100000
/-! VeilMint's keys of the first type: blinding, outputs, judging, the challenge -/
def obR (B j : Nat) : Bool := decide (16 ≤ j ∧ j ≤ 23) || (decide (65 ≤ j ∧ j ≤ 71) || (decide (B + 3 ≤ j ∧ j ≤ B + 5) || (decide (B + 10 ≤ j ∧ j ≤ B + 29) || decide (80 ≤ j ∧ j < 100))))
def obS (B j : Nat) : Bool := hX j || (j == 58 || (decide (B + 7 ≤ j ∧ j ≤ B + 9) || decide (80 ≤ j ∧ j < 100)))
theorem obR_ne {B j : Nat} (h : obR B j = false) : ¬ (16 ≤ j ∧ j ≤ 23) ∧ ¬ (65 ≤ j ∧ j ≤ 71) ∧ ¬ (B + 3 ≤ j ∧ j ≤ B + 5) ∧ ¬ (B + 10 ≤ j ∧ j ≤ B + 29) ∧ ¬ (80 ≤ j ∧ j < 100) := by
  unfold obR at h
  simp only [Bool.or_eq_false_iff, decide_eq_false_iff_not] at h
  exact h
theorem obS_ne {B j : Nat} (h : obS B j = false) : hX j = false ∧ j ≠ 58 ∧ ¬ (B + 7 ≤ j ∧ j ≤ B + 9) ∧ ¬ (80 ≤ j ∧ j < 100) := by
  unfold obS at h
  simp only [Bool.or_eq_false_iff, decide_eq_false_iff_not, beq_eq_false_iff_ne] at h
  exact h
/-- what a method of a key of the first type may change -/
def FrO (B : Nat) (R R' : Nat → Nat) (S S' : Nat → List Int32) (F F' : Nat → Int32) : Prop := (∀ j, obR B j = false → R' j = R j) ∧ (∀ j, obS B j = false → S' j = S j) ∧ ∀ j, j ≠ 22 → j ≠ 23 → j ≠ 24 → F' j = F j
theorem FrO.trans {B : Nat} {R R' R'' : Nat → Nat} {S S' S'' : Nat → List Int32} {F F' F'' : Nat → Int32} (a : FrO B R R' S S' F F') (b : FrO B R' R'' S' S'' F' F'') : FrO B R R'' S S'' F F'' :=
  ⟨fun j h => (b.1 j h).trans (a.1 j h), fun j h => (b.2.1 j h).trans (a.2.1 j h), fun j h1 h2 h3 => (b.2.2 j h1 h2 h3).trans (a.2.2 j h1 h2 h3)⟩
theorem FrO.refl (B : Nat) (R : Nat → Nat) (S : Nat → List Int32) (F : Nat → Int32) : FrO B R R S S F F := ⟨fun _ _ => rfl, fun _ _ => rfl, fun _ _ _ _ => rfl⟩
theorem FrO.why {B : Nat} {R R' : Nat → Nat} {S S' : Nat → List Int32} {F F' : Nat → Int32} (a : FrO B R R' S S' F F') (v : Int32) : FrO B R R' S S' F (up F' 24 v) := ⟨a.1, a.2.1, fun j h1 h2 h3 => (up_ne h3).trans (a.2.2 j h1 h2 h3)⟩
theorem XB.ob {R R' : Nat → Nat} {B : Nat} (xb : XB R) (hB : 100 ≤ B) (h : ∀ j, obR B j = false → R' j = R j) : XB R' := xb.fr fun j hj => h j (by
  unfold obR
  simp only [Bool.or_eq_false_iff, decide_eq_false_iff_not]
  omega)
theorem hX58 : hX 58 = false := by decide
theorem hX56 : hX 56 = false := by decide
theorem hX_f {j : Nat} (h : 27 ≤ j) : hX j = false := by
  unfold hX
  simp only [Bool.or_eq_false_iff, beq_eq_false_iff_ne]
  omega
section XOb2
variable {kd : Nat → KD} {A : Nat → Nat} {X : AH} {R : Nat → Nat} {S : Nat → List Int32} {O : Nat → AC} {F : Nat → Int32} {h : AH} {B : Nat} {lv : Int32}
/-- thrown: it was no good -/
def BadO (kd : Nat → KD) (A : Nat → Nat) (X : AH) (R : Nat → Nat) (S : Nat → List Int32) (O : Nat → AC) (F : Nat → Int32) (B : Nat) (h' : AH) : Prop := ∃ R' S' F', FrO B R R' S S' F F' ∧ F' 24 = -4 ∧ XW kd A X R' S' O F' h'
theorem mP_nn {n : Nat} {P : PP} (h : mP n P ≠ none) : P ≠ none := fun e => h (by rw [e, mP_none])
set_option maxHeartbeats 4000000 in
theorem blindsX_ok (g : GX) (w : XW kd A X R S O F h) (o : ObK kd A O B lv) (xb : XB R) {ki ni at' : Nat} (hki : kd ki = (6, 2, ni)) (hni : ni < 2 ^ 20) (hkX : hX ki = false) (hBi : IsB (S ki)) (hli : 98 ≤ (S ki).length) (hlt : at' + 48 ≤ (S 56).length) (hld : (S 58).length + 49 ≤ 1200) :
    MT g MX14_blinds ({ frames := 10, cells := 5, slots := 320, locals := 219 } : Room) [.ref (A B), .ref (A ki), .ref (A 56), .int (nI at'), .ref (A 58), .int (nI (S 58).length)] h
      (TW (A 50) (RR fun r h' => (0 < num (S 56) at' 48 ∧ num (S 56) at' 48 < qP ∧ mP (num (S 56) at' 48) (h2p (sub (S ki) 0 98)) ≠ none) ∧ ∃ R' S' F' f, FrO B R R' S S' F F' ∧ S' 58 = S 58 ++ en (mP (num (S 56) at' 48) (h2p (sub (S ki) 0 98))) ∧ V 12 f = num (S 56) at' 48 ∧ X r = none ∧ (∀ k, (kd k).1 ≠ 0 → A k ≠ r) ∧ XW kd A (hset X r (Ai false 0 12 f)) R' S' O F' h')
        (fun h' => ¬ (0 < num (S 56) at' 48 ∧ num (S 56) at' 48 < qP ∧ mP (num (S 56) at' 48) (h2p (sub (S ki) 0 98)) ≠ none) ∧ BadO kd A X R S O F B h')) := by
  refine MT.of (by decide) (Nat.le_of_ble_eq_true rfl) ?_
  have hB := o.b
  have l56 : (S 56).length ≤ 1200 := (w.s 56 (w.k 56 (by decide))).choose_spec.2.2
  generalize hu : num (S 56) at' 48 = u
  generalize hH : h2p (sub (S ki) 0 98) = H
  generalize hQ : TW (A 50) _ _ = Q
  refine X_aload_n (pc := 0) 0 dX14_blinds_0 rfl rfl ?_
  refine X_aload_n (pc := 1) 2 dX14_blinds_1 rfl rfl ?_
  refine X_iload_n (pc := 2) 3 dX14_blinds_2 rfl rfl ?_
  refine X_aload_n (pc := 3) 0 dX14_blinds_3 rfl rfl ?_
  refine X_getfield (pc := 4) dX14_blinds_4 fg_X14_15_9 (o.ob w) (by first | rfl | assumption) ?_
  refine X_ivi (pc := 7) _ dX14_blinds_7 cv_X14_66_9 (o.ob w) rfl (isSecX_ok g w o (B + 3) o.sc (kb := 56) (nb := 1200) (fr := at') (w.k 56 (by decide)) (by decide) hlt) nX14_isSecret (Nat.le_of_ble_eq_true rfl) (Nat.le_of_ble_eq_true rfl) (Nat.le_of_ble_eq_true rfl) (Nat.le_of_ble_eq_true rfl) (fun r1 h1 q1 => ?_)
  obtain ⟨er, q1⟩ := q1
  rw [hu] at er q1
  obtain ⟨R1, e1, o1, w1⟩ := XW.ab q1
  by_cases cu : 0 < u ∧ u < qP
  · rw [if_pos cu] at er
    subst er
    refine X_if_ne (pc := 10) 23 dX14_blinds_10 (by decide) (fun _ => ?_) (fun c => absurd c (by decide))
    have xb1 : XB R1 := xb.fr fun j hj => o1 j (by omega)
    refine X_aload_n (pc := 23) 0 dX14_blinds_23 rfl rfl ?_
    refine X_aload_n (pc := 24) 1 dX14_blinds_24 rfl rfl ?_
    refine X_iconst (pc := 25) (x := 0) dX14_blinds_25 (by decide) ?_
    refine X_aload_n (pc := 26) 0 dX14_blinds_26 rfl rfl ?_
    refine X_getfield (pc := 27) dX14_blinds_27 fg_X14_42_9 (o.ob w1) (by first | rfl | assumption) ?_
    refine X_ivv (pc := 30) _ dX14_blinds_30 cv_X14_126_9 (o.ob w1) rfl (groupO_ok g w1 o (P := B + 10) (fr := 0) o.pt (by omega) xb1 hki hni hBi (by omega)) nX14_group (Nat.le_of_ble_eq_true rfl) (Nat.le_of_ble_eq_true rfl) (Nat.le_of_ble_eq_true rfl) (Nat.le_of_ble_eq_true rfl) (fun h2 q2 => ?_)
    obtain ⟨R2, S2, F2, r2, s2, f2, v2, w2⟩ := q2
    rw [hH] at v2
    have xb2 : XB R2 := xb1.fr fun j hj => r2 j (gpS_f (ecS_f (by omega) (by omega) (by omega) (by omega)) (by omega))
    have e2 : R2 (B + 3) = u := by rw [r2 _ (gpS_f (ecS_f (by omega) (by omega) (by omega) (by omega)) (by omega))]; exact e1
    have ok2 : OpE kd A X R2 S2 O F2 (tmS (B + 22)) (A (B + 3)) 12 u := by
      rw [← e2]
      exact OpE.g (mv := qP) (St.q o.sc) (tmS_f (ecS_f (by omega) (by omega) (by omega) (by omega)) (by omega))
    have onH : OnP H := by rw [← hH]; exact h2p_on _
    refine X_aload_n (pc := 33) 0 dX14_blinds_33 rfl rfl ?_
    refine X_getfield (pc := 34) dX14_blinds_34 fg_X14_58_9 (o.ob w2) (by first | rfl | assumption) ?_
    refine X_aload_n (pc := 37) 0 dX14_blinds_37 rfl rfl ?_
    refine X_getfield (pc := 38) dX14_blinds_38 fg_X14_15_9 (o.ob w2) (by first | rfl | assumption) ?_
    refine X_aload_n (pc := 41) 0 dX14_blinds_41 rfl rfl ?_
    refine X_getfield (pc := 42) dX14_blinds_42 fg_X14_42_9 (o.ob w2) (by first | rfl | assumption) ?_
    refine X_aload_n (pc := 45) 0 dX14_blinds_45 rfl rfl ?_
    refine X_getfield (pc := 46) dX14_blinds_46 fg_X14_52_9 (o.ob w2) (by first | rfl | assumption) ?_
    refine X_ivv (pc := 49) _ dX14_blinds_49 cv_X14_81_3 (XW.cv w2) rfl (times_ok g w2 (P := B + 22) (Q := B + 10) o.wk o.pt (by omega) (by omega) (by omega) (by omega) xb2 ok2 onH v2) nX5_times (Nat.le_of_ble_eq_true rfl) (Nat.le_of_ble_eq_true rfl) (Nat.le_of_ble_eq_true rfl) (Nat.le_of_ble_eq_true rfl) (fun h3 q3 => ?_)
    obtain ⟨R3, r3, v3, w3⟩ := q3
    have e58 : S 58 = S2 58 := (s2 58 hX58).symm
    have e3 : R3 (B + 3) = u := by rw [r3 _ (tmS_f (ecS_f (by omega) (by omega) (by omega) (by omega)) (by omega))]; exact e2
    have fr3 : ∀ j, obR B j = false → R3 j = R j := fun j hj => by
      have a := obR_ne hj
      rw [r3 j (tmS_f (ecS_f (by omega) (by omega) (by omega) (by omega)) (by omega)), r2 j (gpS_f (ecS_f (by omega) (by omega) (by omega) (by omega)) (by omega)), o1 j (by omega)]
    refine X_aload_n (pc := 52) 0 dX14_blinds_52 rfl rfl ?_
    refine X_aload_n (pc := 53) 0 dX14_blinds_53 rfl rfl ?_
    refine X_getfield (pc := 54) dX14_blinds_54 fg_X14_52_9 (o.ob w3) (by first | rfl | assumption) ?_
    refine X_aload (pc := 57) 4 dX14_blinds_57 rfl ?_
    refine X_iload (pc := 59) 5 dX14_blinds_59 rfl ?_
    rw [e58]
    rw [e58] at hld
    refine X_ivvT (pc := 61) _ dX14_blinds_61 cv_X14_129_9 (o.ob w3) rfl (writeO_ok g w3 o (P := B + 22) (kt := 58) (nt := 1200) o.wk (by omega) (w3.k 58 (by decide)) (by decide) hld v3) nX14_write (Nat.le_of_ble_eq_true rfl) (Nat.le_of_ble_eq_true rfl) (Nat.le_of_ble_eq_true rfl) (Nat.le_of_ble_eq_true rfl) (fun h4 q4 => ?_) (fun hx qx => ?_)
    · obtain ⟨hD, R4, r4, w4⟩ := q4
      have fr4 : ∀ j, obR B j = false → R4 j = R j := fun j hj => by
        have a := obR_ne hj
        rw [r4 j (cvS_f (by omega)), fr3 j hj]
      have e4 : R4 (B + 3) = u := by rw [r4 _ (cvS_f (by omega))]; exact e3
      obtain ⟨f, hf, hV⟩ := w4.n2 (B + 3) o.sc
      rw [e4] at hV
      refine X_aload_n (pc := 64) 0 dX14_blinds_64 rfl rfl ?_
      refine X_getfield (pc := 65) dX14_blinds_65 fg_X14_15_9 (o.ob w4) (by first | rfl | assumption) ?_
      refine X_clone (pc := 68) dX14_blinds_68 q1021 q1007 q1008 hf (Nat.le_of_ble_eq_true rfl) (Nat.le_of_ble_eq_true rfl) (Nat.le_of_ble_eq_true rfl) (Nat.le_of_ble_eq_true rfl) (fun q hq => ?_)
      refine X_castI (pc := 71) dX14_blinds_71 q1022 (hset_self _ _ _) ?_
      subst hQ
      refine X_aret (pc := 74) dX14_blinds_74 rfl (by first | exact Or.inl ⟨_, rfl⟩ | exact Or.inr ⟨_, rfl⟩) (Or.inr ⟨_, rfl⟩) (Nat.le_of_ble_eq_true rfl) (Nat.le_of_ble_eq_true rfl) ?_
      refine Or.inl ⟨q, rfl, ⟨cu.1, cu.2, hD⟩, R4, _, F2, f, ⟨fr4, fun j hj => ?_, fun j a b _ => f2 j a b⟩, ?_, hV, w4.1.noX hq, w4.1.apart hq, w4.fresh hq _⟩
      · have a := obS_ne hj
        rw [up_ne (by omega), s2 j a.1]
      · rw [up_same, ← e58]
    · obtain ⟨hD, R4, r4, w4⟩ := qx
      subst hQ
      refine XT_out (fun _ hq => absurd hq List.not_mem_nil) (Nat.le_of_ble_eq_true rfl) (Nat.le_of_ble_eq_true rfl) (Or.inr ⟨rfl, fun z => z.2.2 hD, R4, S2, _, ⟨fun j hj => ?_, fun j hj => s2 j (obS_ne hj).1, fun j a b c => (up_ne c).trans (f2 j a b)⟩, up_same _ _ _, w4⟩)
      have a := obR_ne hj
      rw [r4 j (cvS_f (by omega)), fr3 j hj]
  · rw [if_neg cu] at er
    subst er
    refine X_if_ne (pc := 10) 23 dX14_blinds_10 (by decide) (fun c => absurd rfl c) (fun _ => ?_)
    refine X_aload_n (pc := 13) 0 dX14_blinds_13 rfl rfl ?_
    refine X_getfield (pc := 14) dX14_blinds_14 fg_X14_62_9 (o.ob w1) (by first | rfl | assumption) ?_
    refine X_bipush (pc := 17) (x := (-4)) dX14_blinds_17 (by decide) ?_
    refine X_ivr (pc := 19) _ dX14_blinds_19 cv_X14_70_6 (XW.rf w1) rfl (as_ok g w1 (-4)) nX8_as (Nat.le_of_ble_eq_true rfl) (Nat.le_of_ble_eq_true rfl) (Nat.le_of_ble_eq_true rfl) (Nat.le_of_ble_eq_true rfl) (fun r2 h2 q2 => ?_)
    obtain ⟨rfl, w2⟩ := q2
    subst hQ
    refine X_athrow (pc := 22) dX14_blinds_22 rfl (Nat.le_of_ble_eq_true rfl) (Nat.le_of_ble_eq_true rfl) ?_
    refine Or.inr ⟨rfl, fun z => cu ⟨z.1, z.2.1⟩, R1, S, _, ⟨fun j hj => ?_, fun _ _ => rfl, fun j a b c => up_ne c⟩, up_same _ _ _, w2⟩
    have a := obR_ne hj
    exact o1 j (by omega)
end XOb2
