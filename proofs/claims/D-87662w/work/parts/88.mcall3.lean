set_option maxRecDepth 100000
/-! the reference: the disk, counts, retiring -/
section MC3
variable {A : Nat → Nat} {X : AH} {R : Nat → Nat} {I : Nat → Nat → Int32} {S : Nat → List Int32} {F : Nat → Int32} {h : AH} {N : Nat → Nat} {L : Nat → List Int32}
theorem slot_ok (g : GX) {k : Nat} (hk : k < 112) : MT g MX10_slot ({ frames := 0, cells := 0, slots := 0, locals := 0 } : Room) [.int (nI k)] h (RI fun r h' => r = nI (slotN k) ∧ h' = h) := by
  refine MT.of (by decide) (Nat.le_of_ble_eq_true rfl) ?_
  refine X_sipush (pc := 0) (x := 512) dX10_slot_0 (by decide) ?_
  refine X_iload_n (pc := 3) 0 dX10_slot_3 rfl rfl ?_
  refine X_bipush (pc := 4) (x := 14) dX10_slot_4 (by decide) ?_
  refine X_idiv (pc := 6) dX10_slot_6 (show ¬ (14 : Int32) = 0 by decide) ?_
  rw [show nI k / 14 = nI (k / 14) from pk_div (d := 14) (by omega) (by decide) (by decide)]
  refine X_imul (pc := 7) dX10_slot_7 ?_
  refine X_bipush (pc := 8) (x := 36) dX10_slot_8 (by decide) ?_
  refine X_iload_n (pc := 10) 0 dX10_slot_10 rfl rfl ?_
  refine X_bipush (pc := 11) (x := 14) dX10_slot_11 (by decide) ?_
  refine X_irem (pc := 13) dX10_slot_13 (show ¬ (14 : Int32) = 0 by decide) ?_
  rw [show (512 : Int32) * nI (k / 14) = nI (512 * (k / 14)) from pk_mul 512 _, show nI k - nI k / 14 * 14 = nI (k % 14) from pk_rem (d := 14) (by omega) (by decide) (by decide)]
  refine X_imul (pc := 14) dX10_slot_14 ?_
  refine X_iadd (pc := 15) dX10_slot_15 ?_
  rw [show (36 : Int32) * nI (k % 14) = nI (36 * (k % 14)) from pk_mul 36 _, nI_add]
  refine X_ireturn (pc := 16) dX10_slot_16 rfl (Nat.le_of_ble_eq_true rfl) (Nat.le_of_ble_eq_true rfl) ?_
  exact ⟨_, rfl, rfl, rfl⟩
theorem isFree_ok (g : GX) (w : MW A X R I S F h) {d : List Int32} (hd : S 76 = d) (hl : d.length = 4096) {k : Nat} (hk : k < 112) : MT g MX10_isFree ({ frames := 1, cells := 0, slots := 0, locals := 20 } : Room) [.ref (A 96), .int (nI k)] h (RI fun r h' => r = (if freeS d k then 1 else 0) ∧ h' = h) := by
  refine MT.of (by decide) (Nat.le_of_ble_eq_true rfl) ?_
  obtain ⟨f, c, p, -⟩ := w.s 76 rfl
  rw [hd] at p
  have hs : slotN k + 36 ≤ 4096 := by unfold slotN; omega
  have hfd : freeS d k = (d.getD (slotN k) 0 == 0 && d.getD (slotN k + 1) 0 == 0 && d.getD (slotN k + 2) 0 == 0 && d.getD (slotN k + 3) 0 == 0) := rfl
  generalize hst : slotN k = t at *
  have bb : ∀ j, j < 4 → vp_in (nI (t + j)) 4096 := fun j hj => vp_in_nI (by omega) (by omega)
  have cc : ∀ j, j < 4 → (nI (t + j)).toNatClampNeg = t + j := fun j hj => nI_clamp (by omega)
  have ad : ∀ j, nI t + nI j = nI (t + j) := fun j => nI_add t j
  have no : freeS d k = false → ∀ L', XX g MX10_isFree ({ frames := 1, cells := 0, slots := 0, locals := 20 } : Room) (RI fun r h' => r = (if freeS d k then 1 else 0) ∧ h' = h) 0 0 51 L' [] h := by
    intro hn L'
    refine X_iconst (pc := 51) (x := 0) dX10_isFree_51 (by decide) ?_
    rw [hn]
    refine X_zreturn (pc := 52) dX10_isFree_52 rfl (by first | exact Or.inl rfl | exact Or.inr rfl | assumption | exact zo_if) (Nat.le_of_ble_eq_true rfl) (Nat.le_of_ble_eq_true rfl) ?_
    exact ⟨0, rfl, rfl, rfl⟩
  refine X_iload_n (pc := 0) 1 dX10_isFree_0 rfl rfl ?_
  refine X_isi (pc := 1) _ dX10_isFree_1 cs_X10_701 rfl (slot_ok g hk) nX10_slot (Nat.le_of_ble_eq_true rfl) (Nat.le_of_ble_eq_true rfl) (Nat.le_of_ble_eq_true rfl) (Nat.le_of_ble_eq_true rfl) (fun r1 h1 q1 => ?_)
  obtain ⟨rfl, rfl⟩ := q1
  rw [hst]
  refine X_istore_n (pc := 4) (L' := [(2, .int _), (0, .ref _), (1, .int _)]) dX10_isFree_4 rfl (Nat.le_of_ble_eq_true rfl) rfl ?_
  refine X_aload_n (pc := 5) 1 dX10_isFree_5 rfl rfl ?_
  refine X_getfield (pc := 6) dX10_isFree_6 fg_X10_528_11 (MW.ob w) mf_76 ?_
  refine X_iload_n (pc := 9) 0 dX10_isFree_9 rfl rfl ?_
  refine X_baload (pc := 10) dX10_isFree_10 c (bb 0 (by decide)) ?_
  rw [show (nI t).toNatClampNeg = t from cc 0 (by decide), p t (by omega)]
  by_cases z0 : d.getD t 0 = 0
  · refine X_if_ne (pc := 11) 51 dX10_isFree_11 (by decide) (fun z => absurd z0 z) (fun _ => ?_)
    refine X_aload_n (pc := 14) 1 dX10_isFree_14 rfl rfl ?_
    refine X_getfield (pc := 15) dX10_isFree_15 fg_X10_528_11 (MW.ob w) mf_76 ?_
    refine X_iload_n (pc := 18) 0 dX10_isFree_18 rfl rfl ?_
    refine X_iconst (pc := 19) (x := 1) dX10_isFree_19 (by decide) ?_
    refine X_iadd (pc := 20) dX10_isFree_20 ?_
    rw [show nI t + 1 = nI (t + 1) from ad 1]
    refine X_baload (pc := 21) dX10_isFree_21 c (bb 1 (by decide)) ?_
    rw [cc 1 (by decide), p _ (by omega)]
    by_cases z1 : d.getD (t + 1) 0 = 0
    · refine X_if_ne (pc := 22) 51 dX10_isFree_22 (by decide) (fun z => absurd z1 z) (fun _ => ?_)
      refine X_aload_n (pc := 25) 1 dX10_isFree_25 rfl rfl ?_
      refine X_getfield (pc := 26) dX10_isFree_26 fg_X10_528_11 (MW.ob w) mf_76 ?_
      refine X_iload_n (pc := 29) 0 dX10_isFree_29 rfl rfl ?_
      refine X_iconst (pc := 30) (x := 2) dX10_isFree_30 (by decide) ?_
      refine X_iadd (pc := 31) dX10_isFree_31 ?_
      rw [show nI t + 2 = nI (t + 2) from ad 2]
      refine X_baload (pc := 32) dX10_isFree_32 c (bb 2 (by decide)) ?_
      rw [cc 2 (by decide), p _ (by omega)]
      by_cases z2 : d.getD (t + 2) 0 = 0
      · refine X_if_ne (pc := 33) 51 dX10_isFree_33 (by decide) (fun z => absurd z2 z) (fun _ => ?_)
        refine X_aload_n (pc := 36) 1 dX10_isFree_36 rfl rfl ?_
        refine X_getfield (pc := 37) dX10_isFree_37 fg_X10_528_11 (MW.ob w) mf_76 ?_
        refine X_iload_n (pc := 40) 0 dX10_isFree_40 rfl rfl ?_
        refine X_iconst (pc := 41) (x := 3) dX10_isFree_41 (by decide) ?_
        refine X_iadd (pc := 42) dX10_isFree_42 ?_
        rw [show nI t + 3 = nI (t + 3) from ad 3]
        refine X_baload (pc := 43) dX10_isFree_43 c (bb 3 (by decide)) ?_
        rw [cc 3 (by decide), p _ (by omega)]
        by_cases z3 : d.getD (t + 3) 0 = 0
        · refine X_if_ne (pc := 44) 51 dX10_isFree_44 (by decide) (fun z => absurd z3 z) (fun _ => ?_)
          refine X_iconst (pc := 47) (x := 1) dX10_isFree_47 (by decide) ?_
          refine X_goto (pc := 48) 52 dX10_isFree_48 (by decide) ?_
          have hy : freeS d k = true := by rw [hfd, z0, z1, z2, z3]; rfl
          rw [hy]
          refine X_zreturn (pc := 52) dX10_isFree_52 rfl (by first | exact Or.inl rfl | exact Or.inr rfl | assumption | exact zo_if) (Nat.le_of_ble_eq_true rfl) (Nat.le_of_ble_eq_true rfl) ?_
          exact ⟨1, rfl, rfl, rfl⟩
        · exact X_if_ne (pc := 44) 51 dX10_isFree_44 (by decide) (fun _ => no (by rw [hfd, beq_eq_false_iff_ne.mpr z3, Bool.and_false]) _) (fun z => absurd z z3)
      · exact X_if_ne (pc := 33) 51 dX10_isFree_33 (by decide) (fun _ => no (by rw [hfd, beq_eq_false_iff_ne.mpr z2, Bool.and_false, Bool.false_and]) _) (fun z => absurd z z2)
    · exact X_if_ne (pc := 22) 51 dX10_isFree_22 (by decide) (fun _ => no (by rw [hfd, beq_eq_false_iff_ne.mpr z1, Bool.and_false, Bool.false_and, Bool.false_and]) _) (fun z => absurd z z1)
  · exact X_if_ne (pc := 11) 51 dX10_isFree_11 (by decide) (fun _ => no (by rw [hfd, beq_eq_false_iff_ne.mpr z0, Bool.false_and, Bool.false_and, Bool.false_and]) _) (fun z => absurd z z0)
theorem cntN_le (p : Nat → Bool) (n : Nat) : cntN p n ≤ n := by
  induction n with
  | zero => exact Nat.le_refl _
  | succ n ih =>
    unfold cntN
    split <;> omega
theorem spent_ok (g : GX) (w : MW A X R I S F h) {d : List Int32} (hd : S 76 = d) (hl : d.length = 4096) : MT g MX10_spent ({ frames := 2, cells := 0, slots := 0, locals := 42 } : Room) [.ref (A 96)] h (RI fun r h' => r = nI (spentN d) ∧ h' = h) := by
  refine MT.of (by decide) (Nat.le_of_ble_eq_true rfl) ?_
  have loop : ∀ m i, i + m = 112 → XX g MX10_spent ({ frames := 2, cells := 0, slots := 0, locals := 42 } : Room) (RI fun r h' => r = nI (spentN d) ∧ h' = h) 0 0 4 [(2, .int (nI i)), (1, .int (nI (cntN (fun k => !freeS d k) i))), (0, .ref (A 96))] [] h := by
    intro m
    induction m with
    | zero =>
      intro i hi
      have e : i = 112 := by omega
      subst e
      refine X_iload_n (pc := 4) 0 dX10_spent_4 rfl rfl ?_
      refine X_bipush (pc := 5) (x := 112) dX10_spent_5 (by decide) ?_
      refine X_cge (a := 112) (b := 112) (pc := 7) 32 dX10_spent_7 (by decide) (by omega) (by omega) (fun _ => ?_) (fun z => absurd z (by omega))
      refine X_iload_n (pc := 32) 1 dX10_spent_32 rfl rfl ?_
      refine X_ireturn (pc := 33) dX10_spent_33 rfl (Nat.le_of_ble_eq_true rfl) (Nat.le_of_ble_eq_true rfl) ?_
      exact ⟨_, rfl, rfl, rfl⟩
    | succ m ih =>
      intro i hi
      have ih := ih (i + 1) (by omega)
      have hc : cntN (fun k => !freeS d k) (i + 1) = cntN (fun k => !freeS d k) i + (if !freeS d i then 1 else 0) := rfl
      rw [hc] at ih
      refine X_iload_n (pc := 4) 0 dX10_spent_4 rfl rfl ?_
      refine X_bipush (pc := 5) (x := 112) dX10_spent_5 (by decide) ?_
      refine X_cge (b := 112) (pc := 7) 32 dX10_spent_7 (by decide) (by omega) (by omega) (fun z => absurd z (by omega)) (fun _ => ?_)
      refine X_iload_n (pc := 10) 1 dX10_spent_10 rfl rfl ?_
      refine X_aload_n (pc := 11) 2 dX10_spent_11 rfl rfl ?_
      refine X_iload_n (pc := 12) 0 dX10_spent_12 rfl rfl ?_
      refine X_ivi (pc := 13) _ dX10_spent_13 cv_X10_712_11 (MW.ob w) rfl (isFree_ok g w hd hl (k := i) (by omega)) nX10_isFree (Nat.le_of_ble_eq_true rfl) (Nat.le_of_ble_eq_true rfl) (Nat.le_of_ble_eq_true rfl) (Nat.le_of_ble_eq_true rfl) (fun r1 h1 q1 => ?_)
      obtain ⟨rfl, rfl⟩ := q1
      cases hf : freeS d i with
      | true =>
        rw [hf] at ih
        refine X_if_eq (pc := 16) 23 dX10_spent_16 (by decide) (fun z => absurd z (by decide)) (fun _ => ?_)
        refine X_iconst (pc := 19) (x := 0) dX10_spent_19 (by decide) ?_
        refine X_goto (pc := 20) 24 dX10_spent_20 (by decide) ?_
        refine X_iadd (pc := 24) dX10_spent_24 ?_
        refine X_istore_n (pc := 25) (L' := [(1, .int _), (2, .int _), (0, .ref _)]) dX10_spent_25 rfl (Nat.le_of_ble_eq_true rfl) rfl ?_
        refine X_iinc (pc := 26) (L' := [(2, .int (_ + 1)), (1, .int _), (0, .ref _)]) 1 dX10_spent_26 rfl rfl (Nat.le_of_ble_eq_true rfl) rfl ?_
        refine X_goto (pc := 29) 4 dX10_spent_29 (by decide) ?_
        refine XX.pick (L' := [(2, .int _), (1, .int _), (0, .ref _)]) [0, 1, 2] rfl ?_
        rw [show nI i + 1 = nI (i + 1) from nI_add i 1, show nI (cntN (fun k => !freeS d k) i) + 0 = nI (cntN (fun k => !freeS d k) i + 0) from nI_add _ 0]
        exact ih
      | false =>
        rw [hf] at ih
        refine X_if_eq (pc := 16) 23 dX10_spent_16 (by decide) (fun _ => ?_) (fun z => absurd rfl z)
        refine X_iconst (pc := 23) (x := 1) dX10_spent_23 (by decide) ?_
        refine X_iadd (pc := 24) dX10_spent_24 ?_
        refine X_istore_n (pc := 25) (L' := [(1, .int _), (2, .int _), (0, .ref _)]) dX10_spent_25 rfl (Nat.le_of_ble_eq_true rfl) rfl ?_
        refine X_iinc (pc := 26) (L' := [(2, .int (_ + 1)), (1, .int _), (0, .ref _)]) 1 dX10_spent_26 rfl rfl (Nat.le_of_ble_eq_true rfl) rfl ?_
        refine X_goto (pc := 29) 4 dX10_spent_29 (by decide) ?_
        refine XX.pick (L' := [(2, .int _), (1, .int _), (0, .ref _)]) [0, 1, 2] rfl ?_
        rw [show nI i + 1 = nI (i + 1) from nI_add i 1, show nI (cntN (fun k => !freeS d k) i) + 1 = nI (cntN (fun k => !freeS d k) i + 1) from nI_add _ 1]
        exact ih
  refine X_iconst (pc := 0) (x := 0) dX10_spent_0 (by decide) ?_
  refine X_istore_n (pc := 1) (L' := [(1, .int _), (0, .ref _)]) dX10_spent_1 rfl (Nat.le_of_ble_eq_true rfl) rfl ?_
  refine X_iconst (pc := 2) (x := 0) dX10_spent_2 (by decide) ?_
  refine X_istore_n (pc := 3) (L' := [(2, .int _), (1, .int _), (0, .ref _)]) dX10_spent_3 rfl (Nat.le_of_ble_eq_true rfl) rfl ?_
  exact loop 112 0 (by omega)
theorem powerc_ok (g : GX) (wf : Wf N L) (m : MRep N L A X h) : MT g MX10_power_2 ({ frames := 3, cells := 0, slots := 0, locals := 64 } : Room) [.ref (A 96)] h (RI (MQ3 A X (sPower N L))) := by
  obtain ⟨R, I, S, F, w, ms⟩ := m
  refine MT.of (by decide) (Nat.le_of_ble_eq_true rfl) ?_
  have ms1 := ((ms.thr ⟨wf.1, wf.2.1⟩ 0).dwn (wf1 wf (by decide)) 0).fus (by rw [up_ne (by decide), up_ne (by decide), up_ne (by decide), up_ne (by decide)]; exact ⟨wf.1, wf.2.1⟩) 0
  have hd : S 76 = L 2 := ms.2.2.2.2.2.1
  have hl : (L 2).length = 4096 := wf.2.2.2.2.2.2.2.2.2.1
  refine X_aload_n (pc := 0) 0 dX10_power_2_0 rfl rfl ?_
  refine X_iconst (pc := 1) (x := 0) dX10_power_2_1 (by decide) ?_
  refine X_putfield (pc := 2) dX10_power_2_2 fp_X10_1_11 (fun e => by cases e) (MW.ob w) rfl rfl (Nat.le_of_ble_eq_true rfl) ?_
  have w1 := w.setF0 (v := 0)
  refine X_aload_n (pc := 5) 0 dX10_power_2_5 rfl rfl ?_
  refine X_iconst (pc := 6) (x := 0) dX10_power_2_6 (by decide) ?_
  refine X_putfield (pc := 7) dX10_power_2_7 fp_X10_704_11 (fun e => by cases e) (MW.ob w1) rfl rfl (Nat.le_of_ble_eq_true rfl) ?_
  have w2 := w1.setF80 (v := 0)
  refine X_aload_n (pc := 10) 0 dX10_power_2_10 rfl rfl ?_
  refine X_iconst (pc := 11) (x := (-1)) dX10_power_2_11 (by decide) ?_
  refine X_putfield (pc := 12) dX10_power_2_12 fp_X10_531_11 (fun e => by cases e) (MW.ob w2) rfl rfl (Nat.le_of_ble_eq_true rfl) ?_
  have w3 := w2.setF78 (v := -1)
  refine X_aload_n (pc := 15) 0 dX10_power_2_15 rfl rfl ?_
  refine X_ivi (pc := 16) _ dX10_power_2_16 cv_X10_724_11 (MW.ob w3) rfl (spent_ok g w3 hd hl) nX10_spent (Nat.le_of_ble_eq_true rfl) (Nat.le_of_ble_eq_true rfl) (Nat.le_of_ble_eq_true rfl) (Nat.le_of_ble_eq_true rfl) (fun r1 h1 q1 => ?_)
  obtain ⟨rfl, rfl⟩ := q1
  refine X_ireturn (pc := 19) dX10_power_2_19 rfl (Nat.le_of_ble_eq_true rfl) (Nat.le_of_ble_eq_true rfl) ?_
  exact ⟨_, rfl, rfl, _, _, _, _, w3, ms1⟩
theorem diskc_ok (g : GX) (wf : Wf N L) (m : MRep N L A X h) (i : Int32) : MT g MX10_disk ({ frames := 0, cells := 0, slots := 0, locals := 0 } : Room) [.ref (A 96), .int i] h (RI (MQ3 A X (sDisk N L i))) := by
  obtain ⟨R, I, S, F, w, ms⟩ := m
  refine MT.of (by decide) (Nat.le_of_ble_eq_true rfl) ?_
  have hd : S 76 = L 2 := ms.2.2.2.2.2.1
  have hl : (L 2).length = 4096 := wf.2.2.2.2.2.2.2.2.2.1
  refine X_aload_n (pc := 0) 0 dX10_disk_0 rfl rfl ?_
  refine X_iconst (pc := 1) (x := 0) dX10_disk_1 (by decide) ?_
  refine X_putfield (pc := 2) dX10_disk_2 fp_X10_1_11 (fun e => by cases e) (MW.ob w) rfl rfl (Nat.le_of_ble_eq_true rfl) ?_
  have w1 := w.setF0 (v := 0)
  generalize hset h (A 96) (Ob 11 ((mFl A F).set 0 (.int 0))) = h1 at *
  have fin : ∀ x : Int32, x = (sDisk N L i).1 → RI (MQ3 A X (sDisk N L i)) (.returned (some (.int x))) h1 := fun x hx => ⟨x, rfl, hx, _, _, _, _, w1, ms.thr ⟨wf.1, wf.2.1⟩ 0⟩
  refine X_iload_n (pc := 5) 1 dX10_disk_5 rfl rfl ?_
  by_cases c1 : i < 0
  · refine X_if_lt (pc := 6) 16 dX10_disk_6 (by decide) (fun _ => ?_) (fun c => absurd c1 c)
    refine X_iconst (pc := 16) (x := (-1)) dX10_disk_16 (by decide) ?_
    refine X_goto (pc := 17) 30 dX10_disk_17 (by decide) ?_
    refine X_ireturn (pc := 30) dX10_disk_30 rfl (Nat.le_of_ble_eq_true rfl) (Nat.le_of_ble_eq_true rfl) ?_
    exact fin _ (by unfold sDisk; rw [if_pos (Or.inl c1)])
  · refine X_if_lt (pc := 6) 16 dX10_disk_6 (by decide) (fun c => absurd c c1) (fun _ => ?_)
    refine X_iload_n (pc := 9) 1 dX10_disk_9 rfl rfl ?_
    refine X_sipush (pc := 10) (x := 4096) dX10_disk_10 (by decide) ?_
    by_cases c2 : i < 4096
    · refine X_icmp_lt (pc := 13) 20 dX10_disk_13 (by decide) (fun _ => ?_) (fun c => absurd c2 c)
      obtain ⟨f83, c83, p83, -⟩ := w1.s 76 rfl
      rw [hd] at p83
      rcases pk_ix i (show 4096 < 2 ^ 31 by decide) with z | z | ⟨j, hj, rfl⟩
      · exact absurd z c1
      · exact absurd z (Int32.not_le.mpr c2)
      have bj : vp_in (nI j) 4096 := vp_in_nI (by omega) (by omega)
      have cj : (nI j).toNatClampNeg = j := nI_clamp (by omega)
      refine X_aload_n (pc := 20) 0 dX10_disk_20 rfl rfl ?_
      refine X_getfield (pc := 21) dX10_disk_21 fg_X10_528_11 (MW.ob w1) mf_76 ?_
      refine X_iload_n (pc := 24) 1 dX10_disk_24 rfl rfl ?_
      refine X_baload (pc := 25) dX10_disk_25 c83 bj ?_
      refine X_sipush (pc := 26) (x := 255) dX10_disk_26 (by decide) ?_
      refine X_iand (pc := 29) dX10_disk_29 ?_
      rw [cj, p83 j (by omega)]
      refine X_ireturn (pc := 30) dX10_disk_30 rfl (Nat.le_of_ble_eq_true rfl) (Nat.le_of_ble_eq_true rfl) ?_
      refine fin _ ?_
      unfold sDisk
      rw [if_neg (fun z => z.elim c1 (fun z => absurd z (Int32.not_le.mpr c2))), cj]
    · refine X_icmp_lt (pc := 13) 20 dX10_disk_13 (by decide) (fun c => absurd c c2) (fun _ => ?_)
      refine X_iconst (pc := 16) (x := (-1)) dX10_disk_16 (by decide) ?_
      refine X_goto (pc := 17) 30 dX10_disk_17 (by decide) ?_
      refine X_ireturn (pc := 30) dX10_disk_30 rfl (Nat.le_of_ble_eq_true rfl) (Nat.le_of_ble_eq_true rfl) ?_
      exact fin _ (by unfold sDisk; rw [if_pos (Or.inr (Int32.not_lt.mp c2))])
theorem nI_b {n : Nat} (h : n ≤ 1) : (nI n = 0 ↔ n = 0) := by
  obtain rfl | rfl : n = 0 ∨ n = 1 := by omega
  · exact ⟨fun _ => rfl, fun _ => rfl⟩
  · exact ⟨fun z => absurd z (by decide), fun z => absurd z (by decide)⟩
theorem cutc_ok (g : GX) (wf : Wf N L) (m : MRep N L A X h) (i : Int32) : MT g MX10_cut ({ frames := 0, cells := 0, slots := 0, locals := 0 } : Room) [.ref (A 96), .int i] h (RI (MQ3 A X (sCut N L i))) := by
  obtain ⟨R, I, S, F, w, ms⟩ := m
  refine MT.of (by decide) (Nat.le_of_ble_eq_true rfl) ?_
  have ms1 := ms.thr ⟨wf.1, wf.2.1⟩ 0
  have h80 : (up F 0 0) 80 = nI (N 5) := by rw [up_ne (by decide)]; exact ms.2.2.2.2.2.2.2.2.2.2.2.2.2.2.2.1
  have h5 : N 5 ≤ 1 := wf.2.2.2.2.2.1
  refine X_aload_n (pc := 0) 0 dX10_cut_0 rfl rfl ?_
  refine X_iconst (pc := 1) (x := 0) dX10_cut_1 (by decide) ?_
  refine X_putfield (pc := 2) dX10_cut_2 fp_X10_1_11 (fun e => by cases e) (MW.ob w) rfl rfl (Nat.le_of_ble_eq_true rfl) ?_
  have w1 := w.setF0 (v := 0)
  generalize hset h (A 96) (Ob 11 ((mFl A F).set 0 (.int 0))) = h1 at *
  have no : (i < 0 ∨ 1000 < i ∨ N 5 ≠ 0) → XX g MX10_cut ({ frames := 0, cells := 0, slots := 0, locals := 0 } : Room) (RI (MQ3 A X (sCut N L i))) 0 0 23 [(0, .ref (A 96)), (1, .int i)] [] h1 := by
    intro hc
    refine X_iconst (pc := 23) (x := 0) dX10_cut_23 (by decide) ?_
    refine X_zreturn (pc := 24) dX10_cut_24 rfl (by first | exact Or.inl rfl | exact Or.inr rfl | assumption | exact zo_if) (Nat.le_of_ble_eq_true rfl) (Nat.le_of_ble_eq_true rfl) ?_
    have e : sCut N L i = (0, up N 6 0, L) := if_pos hc
    rw [e]
    exact ⟨0, rfl, rfl, _, _, _, _, w1, ms1⟩
  refine X_iload_n (pc := 5) 1 dX10_cut_5 rfl rfl ?_
  by_cases c1 : i < 0
  · exact X_if_lt (pc := 6) 23 dX10_cut_6 (by decide) (fun _ => no (Or.inl c1)) (fun z => absurd c1 z)
  refine X_if_lt (pc := 6) 23 dX10_cut_6 (by decide) (fun z => absurd z c1) (fun _ => ?_)
  refine X_iload_n (pc := 9) 1 dX10_cut_9 rfl rfl ?_
  refine X_sipush (pc := 10) (x := 1000) dX10_cut_10 (by decide) ?_
  by_cases c2 : 1000 < i
  · exact X_icmp_gt (pc := 13) 23 dX10_cut_13 (by decide) (fun _ => no (Or.inr (Or.inl c2))) (fun z => absurd c2 z)
  refine X_icmp_gt (pc := 13) 23 dX10_cut_13 (by decide) (fun z => absurd z c2) (fun _ => ?_)
  refine X_aload_n (pc := 16) 0 dX10_cut_16 rfl rfl ?_
  refine X_getfield (pc := 17) dX10_cut_17 fg_X10_704_11 (MW.ob w1) mf_80 ?_
  rw [h80]
  by_cases c3 : N 5 = 0
  · refine X_if_eq (pc := 20) 25 dX10_cut_20 (by decide) (fun _ => ?_) (fun z => absurd ((nI_b h5).mpr c3) z)
    refine X_aload_n (pc := 25) 0 dX10_cut_25 rfl rfl ?_
    refine X_iload_n (pc := 26) 1 dX10_cut_26 rfl rfl ?_
    refine X_putfield (pc := 27) dX10_cut_27 fp_X10_531_11 (fun e => by cases e) (MW.ob w1) rfl rfl (Nat.le_of_ble_eq_true rfl) ?_
    have w2 := w1.setF78 (v := i)
    refine X_iconst (pc := 30) (x := 1) dX10_cut_30 (by decide) ?_
    refine X_zreturn (pc := 31) dX10_cut_31 rfl (by first | exact Or.inl rfl | exact Or.inr rfl | assumption | exact zo_if) (Nat.le_of_ble_eq_true rfl) (Nat.le_of_ble_eq_true rfl) ?_
    have e : sCut N L i = (1, up (up N 6 0) 3 (i.toNatClampNeg + 1), L) := if_neg (fun z => z.elim c1 fun z => z.elim c2 fun z => z c3)
    rw [e]
    have ms2 := ms1.fus (wf1 wf (by decide)) (i.toNatClampNeg + 1)
    rcases pk_ix i (show 1001 < 2 ^ 31 by decide) with z | z | ⟨j, hj, rfl⟩
    · exact absurd z c1
    · exact absurd (Int32.lt_of_lt_of_le (by decide) z) c2
    rw [nI_clamp (by omega), nI_pred] at ms2
    rw [nI_clamp (by omega)]
    exact ⟨1, rfl, rfl, _, _, _, _, w2, ms2⟩
  · exact X_if_eq (pc := 20) 25 dX10_cut_20 (by decide) (fun z => absurd ((nI_b h5).mp z) c3) (fun _ => no (Or.inr (Or.inr c3)))
theorem noKey_ok (g : GX) (w : MW A X R I S F h) (h70 : F 70 = nI (N 0)) (k : Int32) : MT g MX10_noKey ({ frames := 0, cells := 0, slots := 0, locals := 0 } : Room) [.ref (A 96), .int k] h (RI fun r h' => r = (if noK N k then 1 else 0) ∧ h' = h) := by
  refine MT.of (by decide) (Nat.le_of_ble_eq_true rfl) ?_
  refine X_iload_n (pc := 0) 1 dX10_noKey_0 rfl rfl ?_
  by_cases c1 : k < 0
  · refine X_if_lt (pc := 1) 12 dX10_noKey_1 (by decide) (fun _ => ?_) (fun z => absurd c1 z)
    refine X_iconst (pc := 12) (x := 1) dX10_noKey_12 (by decide) ?_
    refine X_goto (pc := 13) 17 dX10_noKey_13 (by decide) ?_
    rw [if_pos (Or.inl c1)]
    refine X_zreturn (pc := 17) dX10_noKey_17 rfl (by first | exact Or.inl rfl | exact Or.inr rfl | assumption | exact zo_if) (Nat.le_of_ble_eq_true rfl) (Nat.le_of_ble_eq_true rfl) ?_
    exact ⟨1, rfl, rfl, rfl⟩
  refine X_if_lt (pc := 1) 12 dX10_noKey_1 (by decide) (fun z => absurd z c1) (fun _ => ?_)
  refine X_iload_n (pc := 4) 1 dX10_noKey_4 rfl rfl ?_
  refine X_aload_n (pc := 5) 0 dX10_noKey_5 rfl rfl ?_
  refine X_getfield (pc := 6) dX10_noKey_6 fg_X10_626_11 (MW.ob w) mf_70 ?_
  rw [h70]
  by_cases c2 : k < nI (N 0)
  · refine X_icmp_lt (pc := 9) 16 dX10_noKey_9 (by decide) (fun _ => ?_) (fun z => absurd c2 z)
    refine X_iconst (pc := 16) (x := 0) dX10_noKey_16 (by decide) ?_
    rw [if_neg (fun z => z.elim c1 (fun z => absurd z (Int32.not_le.mpr c2)))]
    refine X_zreturn (pc := 17) dX10_noKey_17 rfl (by first | exact Or.inl rfl | exact Or.inr rfl | assumption | exact zo_if) (Nat.le_of_ble_eq_true rfl) (Nat.le_of_ble_eq_true rfl) ?_
    exact ⟨0, rfl, rfl, rfl⟩
  · refine X_icmp_lt (pc := 9) 16 dX10_noKey_9 (by decide) (fun z => absurd z c2) (fun _ => ?_)
    refine X_iconst (pc := 12) (x := 1) dX10_noKey_12 (by decide) ?_
    refine X_goto (pc := 13) 17 dX10_noKey_13 (by decide) ?_
    rw [if_pos (Or.inr (Int32.not_lt.mp c2))]
    refine X_zreturn (pc := 17) dX10_noKey_17 rfl (by first | exact Or.inl rfl | exact Or.inr rfl | assumption | exact zo_if) (Nat.le_of_ble_eq_true rfl) (Nat.le_of_ble_eq_true rfl) ?_
    exact ⟨1, rfl, rfl, rfl⟩
theorem noK_ex {k : Int32} (h0 : N 0 ≤ 6) (h : ¬ noK N k) : ∃ j, j < N 0 ∧ k = nI j := by
  rcases pk_ix k (show N 0 < 2 ^ 31 by omega) with z | z | z
  · exact absurd (Or.inl z) h
  · exact absurd (Or.inr z) h
  · exact z
theorem Wf.ka (wf : Wf N L) : ∀ a, a < N 1 → N (200 + a) < N 0 := fun a ha => (wf.2.2.2.2.2.2.2.2.2.2.2.2.2.2 a ha).1
theorem Wf.kk (wf : Wf N L) {k : Nat} (hk : k < N 0) : KOk N L k := wf.2.2.2.2.2.2.2.2.2.2.2.2.2.1 k hk
theorem Wf.aa (wf : Wf N L) {a : Nat} (ha : a < N 1) : AOk N L a := wf.2.2.2.2.2.2.2.2.2.2.2.2.2.2 a ha
theorem MS.kk (ms : MS N L R I S F) {k : Nat} (hk : k < N 0) : KM N L R I S F k := ms.2.2.2.2.2.2.2.2.2.2.2.2.2.2.2.2.2.1 k hk
theorem MS.aa (ms : MS N L R I S F) {a : Nat} (ha : a < N 1) : AM N L I S a := ms.2.2.2.2.2.2.2.2.2.2.2.2.2.2.2.2.2.2 a ha
theorem MS.f70 (ms : MS N L R I S F) : F 70 = nI (N 0) := ms.2.2.2.2.2.2.2.2.2.2.1
theorem MS.f75 (ms : MS N L R I S F) : F 75 = nI (N 1) := ms.2.2.2.2.2.2.2.2.2.2.2.1
theorem retirec_ok (g : GX) (wf : Wf N L) (m : MRep N L A X h) (k : Int32) : MT g MX10_retire ({ frames := 1, cells := 0, slots := 0, locals := 21 } : Room) [.ref (A 96), .int k] h (RI (MQ3 A X (sRetire N L k))) := by
  obtain ⟨R, I, S, F, w, ms⟩ := m
  refine MT.of (by decide) (Nat.le_of_ble_eq_true rfl) ?_
  have ms1 := ms.thr ⟨wf.1, wf.2.1⟩ 0
  have h70 : (up F 0 0) 70 = nI (N 0) := by rw [up_ne (by decide)]; exact ms.f70
  refine X_aload_n (pc := 0) 0 dX10_retire_0 rfl rfl ?_
  refine X_iconst (pc := 1) (x := 0) dX10_retire_1 (by decide) ?_
  refine X_putfield (pc := 2) dX10_retire_2 fp_X10_1_11 (fun e => by cases e) (MW.ob w) rfl rfl (Nat.le_of_ble_eq_true rfl) ?_
  have w1 := w.setF0 (v := 0)
  generalize hset h (A 96) (Ob 11 ((mFl A F).set 0 (.int 0))) = h1 at *
  refine X_aload_n (pc := 5) 0 dX10_retire_5 rfl rfl ?_
  refine X_iload_n (pc := 6) 1 dX10_retire_6 rfl rfl ?_
  refine X_ivi (pc := 7) _ dX10_retire_7 cv_X10_636_11 (MW.ob w1) rfl (noKey_ok g w1 h70 k) nX10_noKey (Nat.le_of_ble_eq_true rfl) (Nat.le_of_ble_eq_true rfl) (Nat.le_of_ble_eq_true rfl) (Nat.le_of_ble_eq_true rfl) (fun r1 h2 q1 => ?_)
  obtain ⟨rfl, rfl⟩ := q1
  by_cases c1 : noK N k
  · rw [if_pos c1]
    refine X_if_eq (pc := 10) 20 dX10_retire_10 (by decide) (fun z => absurd z (by decide)) (fun _ => ?_)
    refine X_aload_n (pc := 13) 0 dX10_retire_13 rfl rfl ?_
    refine X_iconst (pc := 14) (x := 1) dX10_retire_14 (by decide) ?_
    refine X_putfield (pc := 15) dX10_retire_15 fp_X10_1_11 (fun e => by cases e) (MW.ob w1) rfl rfl (Nat.le_of_ble_eq_true rfl) ?_
    have w2 := w1.setF0 (v := 1)
    rw [up_up'] at w2
    refine X_iconst (pc := 18) (x := 0) dX10_retire_18 (by decide) ?_
    refine X_zreturn (pc := 19) dX10_retire_19 rfl (by first | exact Or.inl rfl | exact Or.inr rfl | assumption | exact zo_if) (Nat.le_of_ble_eq_true rfl) (Nat.le_of_ble_eq_true rfl) ?_
    have e : sRetire N L k = (0, up N 6 1, L) := if_pos c1
    rw [e]
    exact ⟨0, rfl, rfl, _, _, _, _, (w1.setF0 (v := 1)), by rw [up_up']; exact ms.thr ⟨wf.1, wf.2.1⟩ 1⟩
  · rw [if_neg c1]
    refine X_if_eq (pc := 10) 20 dX10_retire_10 (by decide) (fun _ => ?_) (fun z => absurd rfl z)
    obtain ⟨j, hj, rfl⟩ := noK_ex wf.1 c1
    have hj6 : j < 6 := Nat.lt_of_lt_of_le hj wf.1
    have bj : vp_in (nI j) 6 := vp_in_nI (by omega) (by omega)
    have cj : (nI j).toNatClampNeg = j := nI_clamp (by omega)
    have hk := (ms.kk hj).2.1
    have hw := (wf.kk hj).1
    refine X_aload_n (pc := 20) 0 dX10_retire_20 rfl rfl ?_
    refine X_getfield (pc := 21) dX10_retire_21 fg_X10_495_11 (MW.ob w1) mf_62 ?_
    refine X_iload_n (pc := 24) 1 dX10_retire_24 rfl rfl ?_
    refine X_zaload (pc := 25) dX10_retire_25 (w1.i 62 rfl) bj ?_
    refine X_istore_n (pc := 26) (L' := [(2, .int _), (0, .ref _), (1, .int _)]) dX10_retire_26 rfl (Nat.le_of_ble_eq_true rfl) rfl ?_
    refine X_aload_n (pc := 27) 1 dX10_retire_27 rfl rfl ?_
    refine X_getfield (pc := 28) dX10_retire_28 fg_X10_495_11 (MW.ob w1) mf_62 ?_
    refine X_iload_n (pc := 31) 2 dX10_retire_31 rfl rfl ?_
    refine X_iconst (pc := 32) (x := 0) dX10_retire_32 (by decide) ?_
    refine X_zastore (pc := 33) dX10_retire_33 (w1.i 62 rfl) bj ?_
    rw [cj]
    have w2 := w1.setI 62 rfl (upd (I 62) j (nI 0))
    refine X_iload_n (pc := 34) 0 dX10_retire_34 rfl rfl ?_
    rw [hk]
    have hz : nI (N (110 + j)) = 0 ∨ nI (N (110 + j)) = 1 := by
      obtain e | e : N (110 + j) = 0 ∨ N (110 + j) = 1 := by omega
      · exact Or.inl (by rw [e]; rfl)
      · exact Or.inr (by rw [e]; rfl)
    refine X_zreturn (pc := 35) dX10_retire_35 rfl (by first | exact Or.inl rfl | exact Or.inr rfl | assumption | exact zo_if) (Nat.le_of_ble_eq_true rfl) (Nat.le_of_ble_eq_true rfl) ?_
    have e : sRetire N L (nI j) = (nI (N (110 + j)), up (up N 6 0) (110 + j) 0, L) := by unfold sRetire; rw [if_neg c1, cj]
    rw [e]
    have ms2 := MS.liv (wf1 wf (by decide)) (fun a ha => by rw [up_ne (by decide)] at ha; rw [up_ne (by omega), up_ne (by decide)]; exact wf.ka a ha) ms1 (i := j) (by rw [up_ne (by decide)]; exact hj) 0
    exact ⟨_, rfl, rfl, _, _, _, _, w2, ms2⟩
end MC3
