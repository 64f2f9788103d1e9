set_option maxRecDepth 100000
/-! the reference: two bytes; the padding -/
section MPd
variable {A : Nat → Nat} {X : AH} {R : Nat → Nat} {I : Nat → Nat → Int32} {S : Nat → List Int32} {F : Nat → Int32} {h : AH} {l : List Int32}
theorem both_ok (g : GX) (w : SW A X R I S F l h) {n : Nat} (hl : l.length + 2 ≤ 2600) (hn : n < 2 ^ 31) :
    MT g MX10_both ({ frames := 1, cells := 0, slots := 0, locals := 21 } : Room) [.ref (A 96), .int (nI n)] h (RV fun h' => SW A X R I S F (l ++ [tb (n / 256), tb n]) h') := by
  refine MT.of (by decide) (Nat.le_of_ble_eq_true rfl) ?_
  have e8 : nI n >>> ((8 : Int32) &&& 31) = nI (n / 256) := pk_shrN hn _ 8 (sl_n 8 (by decide))
  refine X_aload_n (pc := 0) 0 dX10_both_0 rfl rfl ?_
  refine X_iload_n (pc := 1) 1 dX10_both_1 rfl rfl ?_
  refine X_bipush (pc := 2) (x := 8) dX10_both_2 (by decide) ?_
  refine X_ishr (pc := 4) dX10_both_4 ?_
  rw [e8]
  refine X_ivv (pc := 5) _ dX10_both_5 cv_X10_246_11 (MW.ob w) rfl (say_ok g w (by omega) (nI (n / 256))) nX10_say_2 (Nat.le_of_ble_eq_true rfl) (Nat.le_of_ble_eq_true rfl) (Nat.le_of_ble_eq_true rfl) (Nat.le_of_ble_eq_true rfl) (fun h1 w1 => ?_)
  refine X_aload_n (pc := 8) 0 dX10_both_8 rfl rfl ?_
  refine X_iload_n (pc := 9) 1 dX10_both_9 rfl rfl ?_
  refine X_ivv (pc := 10) _ dX10_both_10 cv_X10_246_11 (MW.ob w1) rfl (say_ok g w1 (by rw [List.length_append]; exact hl) (nI n)) nX10_say_2 (Nat.le_of_ble_eq_true rfl) (Nat.le_of_ble_eq_true rfl) (Nat.le_of_ble_eq_true rfl) (Nat.le_of_ble_eq_true rfl) (fun h2 w2 => ?_)
  refine X_return (pc := 13) dX10_both_13 rfl (Nat.le_of_ble_eq_true rfl) (Nat.le_of_ble_eq_true rfl) ?_
  rw [List.append_assoc, show u32 (nI (n / 256)) = n / 256 from pk_tn (by omega), show u32 (nI n) = n from pk_tn (by omega)] at w2
  exact ⟨rfl, w2⟩
def padZ (n blk sz : Nat) : Nat := (blk + blk - sz - (n + 1) % blk) % blk
def lenB (n sz : Nat) (j : Nat) : Int32 := if sz - 1 - j < 8 then tb (8 * n / 2 ^ (8 * (sz - 1 - j))) else tb 0
def padL (n blk sz : Nat) : List Int32 := tb 128 :: (List.replicate (padZ n blk sz) (tb 0) ++ (List.range sz).map (lenB n sz))
theorem nI_inj' {a b : Nat} (ha : a < 2 ^ 32) (hb : b < 2 ^ 32) (e : nI a = nI b) : a = b := by
  have h : (nI a).toBitVec.toNat = (nI b).toBitVec.toNat := by rw [e]
  rwa [pk_tn ha, pk_tn hb] at h
theorem tb_u (n : Nat) : tb (u32 (nI n)) = tb n := by
  have e : u32 (nI n) = n % 2 ^ 32 := u32_ofNat n
  unfold tb
  rw [e, Nat.mod_mod_of_dvd _ (by decide)]
theorem lt8 : ∀ k, k < 8 → ¬ (8 : Int32) ≤ nI k := by decide
theorem ge8 : ∀ k, k < 16 → ¬ k < 8 → (8 : Int32) ≤ nI k := by decide
theorem lsh_n : ∀ k, k < 64 → ((nI k).toInt64.toUInt64 &&& Int64.toUInt64 63).toNat % 64 = k := by decide
set_option maxHeartbeats 2000000 in
theorem pads_ok (g : GX) (w : SW A X R I S F l h) {blk sz : Nat} (hb : (blk = 64 ∧ sz = 8) ∨ (blk = 128 ∧ sz = 16)) (hl : l.length + blk + sz ≤ 2600) :
    MT g MX10_pads ({ frames := 1, cells := 0, slots := 0, locals := 21 } : Room) [.ref (A 96), .int (nI blk), .int (nI sz)] h (RV fun h' => SW A X R I S F (l ++ padL l.length blk sz) h') := by
  refine MT.of (by decide) (Nat.le_of_ble_eq_true rfl) ?_
  generalize hPost : (RV fun h' => SW A X R I S F (l ++ padL l.length blk sz) h') = Post
  have hne : ¬ nI blk = 0 := by rcases hb with ⟨rfl, rfl⟩ | ⟨rfl, rfl⟩ <;> decide
  have hbs : 0 < blk ∧ blk < 2 ^ 31 ∧ sz ≤ blk ∧ sz ≤ 16 := by omega
  have hZ : padZ l.length blk sz < blk := Nat.mod_lt _ hbs.1
  have hZ1 : ∀ i, i < padZ l.length blk sz → (l.length + 1 + i) % blk ≠ blk - sz := by
    intro i hi
    unfold padZ at hi
    rcases hb with ⟨rfl, rfl⟩ | ⟨rfl, rfl⟩ <;> omega
  have hZ2 : (l.length + 1 + padZ l.length blk sz) % blk = blk - sz := by
    unfold padZ
    rcases hb with ⟨rfl, rfl⟩ | ⟨rfl, rfl⟩ <;> omega
  have loop2 : ∀ m, m ≤ sz → ∀ h', SW A X R I S F (l ++ tb 128 :: (List.replicate (padZ l.length blk sz) (tb 0) ++ (List.range (sz - m)).map (lenB l.length sz))) h' →
      XX g MX10_pads ({ frames := 1, cells := 0, slots := 0, locals := 21 } : Room) Post 0 0 42 [(5, .int (nI m - 1)), (3, .long (lN (8 * l.length))), (0, .ref (A 96)), (1, .int (nI blk)), (2, .int (nI sz))] [] h' := by
    intro m
    induction m with
    | zero =>
      intro _ h' w'
      refine X_iload (pc := 42) 0 dX10_pads_42 rfl ?_
      refine X_if_lt (pc := 44) 76 dX10_pads_44 (by decide) (fun c_44 => ?_) (fun c_44 => ?_)
      · subst hPost
        refine X_return (pc := 76) dX10_pads_76 rfl (Nat.le_of_ble_eq_true rfl) (Nat.le_of_ble_eq_true rfl) ?_
        exact ⟨rfl, w'⟩
      · exact absurd (show nI 0 - 1 < 0 by decide) c_44
    | succ k ih =>
      intro hk h' w'
      rw [nI_pred]
      have hlen : (l ++ tb 128 :: (List.replicate (padZ l.length blk sz) (tb 0) ++ (List.range (sz - (k + 1))).map (lenB l.length sz))).length < 2600 := by
        rw [List.length_append, List.length_cons, List.length_append, List.length_replicate, List.length_map, List.length_range]
        omega
      have hj : sz - 1 - (sz - (k + 1)) = k := by omega
      have nxt : ∀ h2, SW A X R I S F ((l ++ tb 128 :: (List.replicate (padZ l.length blk sz) (tb 0) ++ (List.range (sz - (k + 1))).map (lenB l.length sz))) ++ [lenB l.length sz (sz - (k + 1))]) h2 →
          XX g MX10_pads ({ frames := 1, cells := 0, slots := 0, locals := 21 } : Room) Post 0 0 70 [(5, .int (nI k)), (3, .long (lN (8 * l.length))), (0, .ref (A 96)), (1, .int (nI blk)), (2, .int (nI sz))] [] h2 := by
        intro h2 w2
        refine X_iinc (pc := 70) (L' := [(5, .int (_ + (-1))), (3, .long _), (0, .ref _), (1, .int _), (2, .int _)]) 0 dX10_pads_70 rfl rfl (Nat.le_of_ble_eq_true rfl) rfl ?_
        refine X_goto (pc := 73) 42 dX10_pads_73 (by decide) ?_
        rw [m1]
        refine ih (by omega) h2 ?_
        rw [List.append_assoc, List.cons_append, List.append_assoc, ← List.map_singleton (f := lenB l.length sz), ← List.map_append, ← List.range_succ, show (sz - (k + 1)).succ = sz - k by omega] at w2
        exact w2
      refine X_iload (pc := 42) 0 dX10_pads_42 rfl ?_
      refine X_if_lt (pc := 44) 76 dX10_pads_44 (by decide) (fun c_44 => ?_) (fun c_44 => ?_)
      · exact absurd c_44 (nI_pos (by omega))
      · skip
        refine X_aload_n (pc := 47) 2 dX10_pads_47 rfl rfl ?_
        refine X_iload (pc := 48) 0 dX10_pads_48 rfl ?_
        refine X_bipush (pc := 50) (x := 8) dX10_pads_50 (by decide) ?_
        by_cases h8 : k < 8
        · refine X_icmp_ge (pc := 52) 66 dX10_pads_52 (by decide) (fun c => absurd c (lt8 k h8)) (fun _ => ?_)
          refine X_lload_n (pc := 55) 1 dX10_pads_55 rfl rfl ?_
          refine X_bipush (pc := 56) (x := 8) dX10_pads_56 (by decide) ?_
          refine X_iload (pc := 58) 0 dX10_pads_58 rfl ?_
          refine X_imul (pc := 60) dX10_pads_60 ?_
          rw [show (8 : Int32) * nI k = nI (8 * k) from pk_mul 8 k]
          refine X_lushr (pc := 61) dX10_pads_61 ?_
          rw [lN_ush (by omega) _ (lsh_n (8 * k) (by omega))]
          refine X_l2i (pc := 62) dX10_pads_62 ?_
          refine X_goto (pc := 63) 67 dX10_pads_63 (by decide) ?_
          rw [lN_i]
          refine X_ivv (pc := 67) _ dX10_pads_67 cv_X10_246_11 (MW.ob w') rfl (say_ok g w' hlen _) nX10_say_2 (Nat.le_of_ble_eq_true rfl) (Nat.le_of_ble_eq_true rfl) (Nat.le_of_ble_eq_true rfl) (Nat.le_of_ble_eq_true rfl) (fun h2 w2 => ?_)
          refine nxt h2 ?_
          rw [tb_u] at w2
          have e : lenB l.length sz (sz - (k + 1)) = tb (8 * l.length / 2 ^ (8 * k)) := by unfold lenB; rw [hj, if_pos h8]
          rw [e]
          exact w2
        · refine X_icmp_ge (pc := 52) 66 dX10_pads_52 (by decide) (fun _ => ?_) (fun c => absurd (ge8 k (by omega) h8) c)
          refine X_iconst (pc := 66) (x := 0) dX10_pads_66 (by decide) ?_
          refine X_ivv (pc := 67) _ dX10_pads_67 cv_X10_246_11 (MW.ob w') rfl (say_ok g w' hlen _) nX10_say_2 (Nat.le_of_ble_eq_true rfl) (Nat.le_of_ble_eq_true rfl) (Nat.le_of_ble_eq_true rfl) (Nat.le_of_ble_eq_true rfl) (fun h2 w2 => ?_)
          refine nxt h2 ?_
          have e : lenB l.length sz (sz - (k + 1)) = tb 0 := by unfold lenB; rw [hj, if_neg h8]
          rw [e]
          exact w2
  have loop1 : ∀ m i, i + m = padZ l.length blk sz → ∀ h', SW A X R I S F (l ++ tb 128 :: List.replicate i (tb 0)) h' →
      XX g MX10_pads ({ frames := 1, cells := 0, slots := 0, locals := 21 } : Room) Post 0 0 17 [(3, .long (lN (8 * l.length))), (0, .ref (A 96)), (1, .int (nI blk)), (2, .int (nI sz))] [] h' := by
    intro m i hi h' w'
    have hlen : (l ++ tb 128 :: List.replicate i (tb 0)).length = l.length + 1 + i := by
      rw [List.length_append, List.length_cons, List.length_replicate]
      omega
    have hrem : nI (l ++ tb 128 :: List.replicate i (tb 0)).length - nI (l ++ tb 128 :: List.replicate i (tb 0)).length / nI blk * nI blk = nI ((l.length + 1 + i) % blk) := by
      rw [hlen]
      exact pk_rem (by omega) hbs.1 hbs.2.1
    have hml : (l.length + 1 + i) % blk < blk := Nat.mod_lt _ hbs.1
    have hsb : nI blk - nI sz = nI (blk - sz) := pk_sub hbs.2.2.1
    revert hi h' w'
    induction m generalizing i with
    | zero =>
      intro hi h' w'
      have hi : i = padZ l.length blk sz := by omega
      have w1 : MW A X R I (up S 25 (l ++ tb 128 :: List.replicate i (tb 0))) (up F 26 (nI (l ++ tb 128 :: List.replicate i (tb 0)).length)) h' := w'
      refine X_aload_n (pc := 17) 1 dX10_pads_17 rfl rfl ?_
      refine X_getfield (pc := 18) dX10_pads_18 fg_X10_243_11 (MW.ob w1) mf_26 ?_
      refine X_iload_n (pc := 21) 2 dX10_pads_21 rfl rfl ?_
      rw [up_same]
      refine X_irem (pc := 22) dX10_pads_22 hne ?_
      rw [hrem]
      refine X_iload_n (pc := 23) 2 dX10_pads_23 rfl rfl ?_
      refine X_iload_n (pc := 24) 3 dX10_pads_24 rfl rfl ?_
      refine X_isub (pc := 25) dX10_pads_25 ?_
      rw [hsb]
      refine X_icmp_eq (pc := 26) 37 dX10_pads_26 (by decide) (fun _ => ?_) (fun c => absurd (by rw [hi, hZ2]) c)
      refine X_iload_n (pc := 37) 3 dX10_pads_37 rfl rfl ?_
      refine X_iconst (pc := 38) (x := 1) dX10_pads_38 (by decide) ?_
      refine X_isub (pc := 39) dX10_pads_39 ?_
      refine X_istore (pc := 40) (L' := [(5, .int _), (3, .long _), (0, .ref _), (1, .int _), (2, .int _)]) dX10_pads_40 (Nat.le_of_ble_eq_true rfl) rfl ?_
      refine loop2 sz (Nat.le_refl _) h' ?_
      rw [Nat.sub_self, List.range_zero, List.map_nil, List.append_nil, ← hi]
      exact w'
    | succ m ih =>
      intro hi h' w'
      have w1 : MW A X R I (up S 25 (l ++ tb 128 :: List.replicate i (tb 0))) (up F 26 (nI (l ++ tb 128 :: List.replicate i (tb 0)).length)) h' := w'
      refine X_aload_n (pc := 17) 1 dX10_pads_17 rfl rfl ?_
      refine X_getfield (pc := 18) dX10_pads_18 fg_X10_243_11 (MW.ob w1) mf_26 ?_
      refine X_iload_n (pc := 21) 2 dX10_pads_21 rfl rfl ?_
      rw [up_same]
      refine X_irem (pc := 22) dX10_pads_22 hne ?_
      rw [hrem]
      refine X_iload_n (pc := 23) 2 dX10_pads_23 rfl rfl ?_
      refine X_iload_n (pc := 24) 3 dX10_pads_24 rfl rfl ?_
      refine X_isub (pc := 25) dX10_pads_25 ?_
      rw [hsb]
      refine X_icmp_eq (pc := 26) 37 dX10_pads_26 (by decide) (fun c => absurd (nI_inj' (by omega) (by omega) c) (hZ1 i (by omega))) (fun _ => ?_)
      refine X_aload_n (pc := 29) 1 dX10_pads_29 rfl rfl ?_
      refine X_iconst (pc := 30) (x := 0) dX10_pads_30 (by decide) ?_
      refine X_ivv (pc := 31) _ dX10_pads_31 cv_X10_246_11 (MW.ob w') rfl (say_ok g w' (by omega) 0) nX10_say_2 (Nat.le_of_ble_eq_true rfl) (Nat.le_of_ble_eq_true rfl) (Nat.le_of_ble_eq_true rfl) (Nat.le_of_ble_eq_true rfl) (fun h2 w2 => ?_)
      refine X_goto (pc := 34) 17 dX10_pads_34 (by decide) ?_
      have e2 : (l ++ tb 128 :: List.replicate i (tb 0)) ++ [tb (u32 0)] = l ++ tb 128 :: List.replicate (i + 1) (tb 0) := by
        rw [List.append_assoc, List.cons_append, List.replicate_succ']
        rfl
      rw [e2] at w2
      have hlen2 : (l ++ tb 128 :: List.replicate (i + 1) (tb 0)).length = l.length + 1 + (i + 1) := by
        rw [List.length_append, List.length_cons, List.length_replicate]
        omega
      refine ih (i + 1) hlen2 ?_ (Nat.mod_lt _ hbs.1) (by omega) h2 w2
      rw [hlen2]
      exact pk_rem (by omega) hbs.1 hbs.2.1
  have w0 : MW A X R I (up S 25 l) (up F 26 (nI l.length)) h := w
  refine X_ldc2 (pc := 0) dX10_pads_0 q1853 ?_
  refine X_aload_n (pc := 3) 0 dX10_pads_3 rfl rfl ?_
  refine X_getfield (pc := 4) dX10_pads_4 fg_X10_243_11 (MW.ob w0) mf_26 ?_
  rw [up_same]
  refine X_i2l (pc := 7) dX10_pads_7 ?_
  rw [nI_l (by omega)]
  refine X_lmul (pc := 8) dX10_pads_8 ?_
  rw [show (8 : Int64) * lN l.length = lN (8 * l.length) from lN_mul 8 l.length]
  refine X_lstore_n (pc := 9) (L' := [(3, .long _), (0, .ref _), (1, .int _), (2, .int _)]) dX10_pads_9 rfl (Nat.le_of_ble_eq_true rfl) rfl ?_
  refine X_aload_n (pc := 10) 1 dX10_pads_10 rfl rfl ?_
  refine X_sipush (pc := 11) (x := 128) dX10_pads_11 (by decide) ?_
  refine X_ivv (pc := 14) _ dX10_pads_14 cv_X10_246_11 (MW.ob w) rfl (say_ok g w (by omega) 128) nX10_say_2 (Nat.le_of_ble_eq_true rfl) (Nat.le_of_ble_eq_true rfl) (Nat.le_of_ble_eq_true rfl) (Nat.le_of_ble_eq_true rfl) (fun h1 w1 => ?_)
  exact loop1 (padZ l.length blk sz) 0 (by omega) h1 w1
end MPd
