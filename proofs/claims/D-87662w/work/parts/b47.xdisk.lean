set_option maxRecDepth 100000
/-! VeilMint's disk -/
theorem u32_or (x y : Int32) : u32 (x ||| y) = u32 x ||| u32 y := by
  show (x ||| y).toBitVec.toNat = _
  rw [Int32.toBitVec_or, BitVec.toNat_or]
  rfl
section XDk
variable {kd : Nat → KD} {A : Nat → Nat} {X : AH} {R : Nat → Nat} {S : Nat → List Int32} {O : Nat → AC} {F : Nat → Int32} {h : AH} {g : GX} {d T : List Int32}
theorem XW.dk (w : XW kd A X R S O F h) : h (A 51) = some (Ob 7 (dkFl A F)) := w.o 51 (by decide) rfl
theorem place_ok {k : Nat} (hk : k < 112) : MT g MX9_place ({ frames := 0, cells := 0, slots := 0, locals := 0 } : Room) [.int (nI k)] h (RI fun r h' => r = nI (slotN k) ∧ h' = h) := by
  refine MT.of (by decide) (Nat.le_of_ble_eq_true rfl) ?_
  refine X_sipush (pc := 0) (x := 512) dX9_place_0 (by decide) ?_
  refine X_iload_n (pc := 3) 0 dX9_place_3 rfl rfl ?_
  refine X_bipush (pc := 4) (x := 14) dX9_place_4 (by decide) ?_
  refine X_idiv (pc := 6) dX9_place_6 (show ¬ (14 : Int32) = 0 by decide) ?_
  rw [show nI k / 14 = nI (k / 14) from pk_div (d := 14) (by omega) (by decide) (by decide)]
  refine X_imul (pc := 7) dX9_place_7 ?_
  refine X_bipush (pc := 8) (x := 36) dX9_place_8 (by decide) ?_
  refine X_iload_n (pc := 10) 0 dX9_place_10 rfl rfl ?_
  refine X_bipush (pc := 11) (x := 14) dX9_place_11 (by decide) ?_
  refine X_irem (pc := 13) dX9_place_13 (show ¬ (14 : Int32) = 0 by decide) ?_
  rw [show (512 : Int32) * nI (k / 14) = nI (512 * (k / 14)) from pk_mul 512 _, show nI k - nI k / 14 * 14 = nI (k % 14) from pk_rem (d := 14) (by omega) (by decide) (by decide)]
  refine X_imul (pc := 14) dX9_place_14 ?_
  refine X_iadd (pc := 15) dX9_place_15 ?_
  rw [show (36 : Int32) * nI (k % 14) = nI (36 * (k % 14)) from pk_mul 36 _, nI_add]
  refine X_ireturn (pc := 16) dX9_place_16 rfl (Nat.le_of_ble_eq_true rfl) (Nat.le_of_ble_eq_true rfl) ?_
  exact ⟨_, rfl, rfl, rfl⟩
theorem isFreeX_ok (w : XW kd A X R S O F h) (hd : S 52 = d) (hl : d.length = 4096) {k : Nat} (hk : k < 112) : MT g MX9_isFree ({ frames := 1, cells := 0, slots := 0, locals := 20 } : Room) [.ref (A 51), .int (nI k)] h (RI fun r h' => r = (if freeS d k then 1 else 0) ∧ h' = h) := by
  refine MT.of (by decide) (Nat.le_of_ble_eq_true rfl) ?_
  obtain ⟨f, c, p, -⟩ := w.s 52 (w.k 52 (by decide))
  rw [hd] at p
  have hs : slotN k + 36 ≤ 4096 := by unfold slotN; omega
  have hfd : freeS d k = (d.getD (slotN k) 0 == 0 && d.getD (slotN k + 1) 0 == 0 && d.getD (slotN k + 2) 0 == 0 && d.getD (slotN k + 3) 0 == 0) := rfl
  generalize hst : slotN k = t at *
  have bb : ∀ j, j < 4 → vp_in (nI (t + j)) 4096 := fun j hj => vp_in_nI (by omega) (by omega)
  have cc : ∀ j, j < 4 → (nI (t + j)).toNatClampNeg = t + j := fun j hj => nI_clamp (by omega)
  refine X_iload_n (pc := 0) 1 dX9_isFree_0 rfl rfl ?_
  refine X_isi (pc := 1) _ dX9_isFree_1 cs_X9_22 rfl (place_ok hk) nX9_place (Nat.le_of_ble_eq_true rfl) (Nat.le_of_ble_eq_true rfl) (Nat.le_of_ble_eq_true rfl) (Nat.le_of_ble_eq_true rfl) (fun r1 h1 q1 => ?_)
  obtain ⟨rfl, rfl⟩ := q1
  rw [hst]
  refine X_istore_n (pc := 4) (L' := [(2, .int _), (0, .ref _), (1, .int _)]) dX9_isFree_4 rfl (Nat.le_of_ble_eq_true rfl) rfl ?_
  refine X_aload_n (pc := 5) 1 dX9_isFree_5 rfl rfl ?_
  refine X_getfield (pc := 6) dX9_isFree_6 fg_X9_11_7 (XW.dk w) (by first | rfl | assumption) ?_
  refine X_iload_n (pc := 9) 0 dX9_isFree_9 rfl rfl ?_
  refine X_baload (pc := 10) dX9_isFree_10 c (bb 0 (by decide)) ?_
  refine X_aload_n (pc := 11) 1 dX9_isFree_11 rfl rfl ?_
  refine X_getfield (pc := 12) dX9_isFree_12 fg_X9_11_7 (XW.dk w) (by first | rfl | assumption) ?_
  refine X_iload_n (pc := 15) 0 dX9_isFree_15 rfl rfl ?_
  refine X_iconst (pc := 16) (x := 1) dX9_isFree_16 (by decide) ?_
  refine X_iadd (pc := 17) dX9_isFree_17 ?_
  rw [show nI t + 1 = nI (t + 1) from nI_add t 1]
  refine X_baload (pc := 18) dX9_isFree_18 c (bb 1 (by decide)) ?_
  refine X_ior (pc := 19) dX9_isFree_19 ?_
  refine X_aload_n (pc := 20) 1 dX9_isFree_20 rfl rfl ?_
  refine X_getfield (pc := 21) dX9_isFree_21 fg_X9_11_7 (XW.dk w) (by first | rfl | assumption) ?_
  refine X_iload_n (pc := 24) 0 dX9_isFree_24 rfl rfl ?_
  refine X_iconst (pc := 25) (x := 2) dX9_isFree_25 (by decide) ?_
  refine X_iadd (pc := 26) dX9_isFree_26 ?_
  rw [show nI t + 2 = nI (t + 2) from nI_add t 2]
  refine X_baload (pc := 27) dX9_isFree_27 c (bb 2 (by decide)) ?_
  refine X_ior (pc := 28) dX9_isFree_28 ?_
  refine X_aload_n (pc := 29) 1 dX9_isFree_29 rfl rfl ?_
  refine X_getfield (pc := 30) dX9_isFree_30 fg_X9_11_7 (XW.dk w) (by first | rfl | assumption) ?_
  refine X_iload_n (pc := 33) 0 dX9_isFree_33 rfl rfl ?_
  refine X_iconst (pc := 34) (x := 3) dX9_isFree_34 (by decide) ?_
  refine X_iadd (pc := 35) dX9_isFree_35 ?_
  rw [show nI t + 3 = nI (t + 3) from nI_add t 3]
  refine X_baload (pc := 36) dX9_isFree_36 c (bb 3 (by decide)) ?_
  refine X_ior (pc := 37) dX9_isFree_37 ?_
  rw [show (nI t).toNatClampNeg = t from cc 0 (by decide), cc 1 (by decide), cc 2 (by decide), cc 3 (by decide), p t (by omega), p (t + 1) (by omega), p (t + 2) (by omega), p (t + 3) (by omega)]
  have e0 : (d.getD t 0 ||| d.getD (t + 1) 0 ||| d.getD (t + 2) 0 ||| d.getD (t + 3) 0 = 0) ↔ freeS d k = true := by
    rw [or0, or0, or0, hfd]
    simp only [Bool.and_eq_true, beq_iff_eq]
  cases hf : freeS d k with
  | true =>
    refine X_if_ne (pc := 38) 45 dX9_isFree_38 (by decide) (fun z => absurd (e0.mpr hf) z) (fun _ => ?_)
    refine X_iconst (pc := 41) (x := 1) dX9_isFree_41 (by decide) ?_
    refine X_goto (pc := 42) 46 dX9_isFree_42 (by decide) ?_
    refine X_zreturn (pc := 46) dX9_isFree_46 rfl (by first | exact Or.inl rfl | exact Or.inr rfl | assumption | exact zo_if) (Nat.le_of_ble_eq_true rfl) (Nat.le_of_ble_eq_true rfl) ?_
    exact ⟨_, rfl, rfl, rfl⟩
  | false =>
    refine X_if_ne (pc := 38) 45 dX9_isFree_38 (by decide) (fun _ => ?_) (fun z => absurd (e0.mp z) (by rw [hf]; decide))
    refine X_iconst (pc := 45) (x := 0) dX9_isFree_45 (by decide) ?_
    refine X_zreturn (pc := 46) dX9_isFree_46 rfl (by first | exact Or.inl rfl | exact Or.inr rfl | assumption | exact zo_if) (Nat.le_of_ble_eq_true rfl) (Nat.le_of_ble_eq_true rfl) ?_
    exact ⟨_, rfl, rfl, rfl⟩
theorem hasX_ok (w : XW kd A X R S O F h) (hd : S 52 = d) (hl : d.length = 4096) (hT : S 56 = T) (hTl : 34 ≤ T.length) {k : Nat} (hk : k < 112) : MT g MX9_has ({ frames := 1, cells := 0, slots := 0, locals := 20 } : Room) [.ref (A 51), .int (nI k), .ref (A 56), .int 2] h (RI fun r h' => r = (if hasS d k T then 1 else 0) ∧ h' = h) := by
  refine MT.of (by decide) (Nat.le_of_ble_eq_true rfl) ?_
  obtain ⟨f, c, p, -⟩ := w.s 52 (w.k 52 (by decide))
  rw [hd] at p
  obtain ⟨f5, c5, p5, l5⟩ := w.s 56 (w.k 56 (by decide))
  rw [hT] at p5 l5
  have hs : slotN k + 36 ≤ 4096 := by unfold slotN; omega
  have hhd : hasS d k T = true ↔ ∀ j, j < 32 → d.getD (slotN k + 4 + j) 0 = T.getD (2 + j) 0 := by
    unfold hasS
    rw [beq_iff_eq]
    constructor
    · intro z j hj
      have : (sub d (slotN k + 4) 32).getD j 0 = (sub T 2 32).getD j 0 := by rw [z]
      rw [sub_getD hj, sub_getD hj] at this
      exact this
    · intro z
      refine list_ext0 (by rw [sub_len, sub_len]) fun j hj => ?_
      rw [sub_len] at hj
      rw [sub_getD hj, sub_getD hj]
      exact z j hj
  generalize hQ : (RI fun r h' => r = (if hasS d k T then 1 else 0) ∧ h' = h) = Q
  have loop : ∀ m i, i + m = 32 → ∀ v : Int32, Agr (fun j => d.getD (slotN k + 4 + j) 0 = T.getD (2 + j) 0) i 32 v → XX g MX9_has ({ frames := 1, cells := 0, slots := 0, locals := 20 } : Room) Q 0 0 6 [(5, .int (nI i)), (4, .int v), (0, .ref (A 51)), (1, .int (nI k)), (2, .ref (A 56)), (3, .int 2)] [] h := by
    intro m
    induction m with
    | zero =>
      intro i hi v hv
      have e : i = 32 := by omega
      subst e
      refine X_iload (pc := 6) 0 dX9_has_6 rfl ?_
      refine X_bipush (pc := 8) (x := 32) dX9_has_8 (by decide) ?_
      refine X_cge (a := 32) (b := 32) (pc := 10) 54 dX9_has_10 (by decide) (by omega) (by omega) (fun _ => ?_) (fun z => absurd z (by omega))
      refine X_iload (pc := 54) 1 dX9_has_54 rfl ?_
      subst hQ
      rcases hv with ⟨rfl, hv⟩ | ⟨rfl, j, hj, hn⟩
      · refine X_zreturn (pc := 56) dX9_has_56 rfl (by first | exact Or.inl rfl | exact Or.inr rfl | assumption | exact zo_if) (Nat.le_of_ble_eq_true rfl) (Nat.le_of_ble_eq_true rfl) ?_
        exact ⟨1, rfl, by rw [if_pos (hhd.mpr hv)], rfl⟩
      · refine X_zreturn (pc := 56) dX9_has_56 rfl (by first | exact Or.inl rfl | exact Or.inr rfl | assumption | exact zo_if) (Nat.le_of_ble_eq_true rfl) (Nat.le_of_ble_eq_true rfl) ?_
        exact ⟨0, rfl, by rw [if_neg (fun z => hn (hhd.mp z j hj))], rfl⟩
    | succ m ih =>
      intro i hi v hv
      have nxt : ∀ v' : Int32, Agr (fun j => d.getD (slotN k + 4 + j) 0 = T.getD (2 + j) 0) (i + 1) 32 v' → XX g MX9_has ({ frames := 1, cells := 0, slots := 0, locals := 20 } : Room) Q 0 0 46 [(5, .int (nI i)), (4, .int v), (0, .ref (A 51)), (1, .int (nI k)), (2, .ref (A 56)), (3, .int 2)] [.int v'] h := by
        intro v' hv'
        refine X_istore (pc := 46) (L' := [(4, .int _), (5, .int _), (0, .ref _), (1, .int _), (2, .ref _), (3, .int _)]) dX9_has_46 (Nat.le_of_ble_eq_true rfl) rfl ?_
        refine X_iinc (pc := 48) (L' := [(5, .int (_ + 1)), (4, .int _), (0, .ref _), (1, .int _), (2, .ref _), (3, .int _)]) 1 dX9_has_48 rfl rfl (Nat.le_of_ble_eq_true rfl) rfl ?_
        refine X_goto (pc := 51) 6 dX9_has_51 (by decide) ?_
        rw [show nI i + 1 = nI (i + 1) from nI_add i 1]
        exact ih (i + 1) (by omega) v' hv'
      have bs : vp_in (nI (slotN k + 4 + i)) 4096 := vp_in_nI (by omega) (by omega)
      have cs : (nI (slotN k + 4 + i)).toNatClampNeg = slotN k + 4 + i := nI_clamp (by omega)
      have bt : vp_in (nI (2 + i)) 1200 := vp_in_nI (by omega) (by omega)
      have ct : (nI (2 + i)).toNatClampNeg = 2 + i := nI_clamp (by omega)
      refine X_iload (pc := 6) 0 dX9_has_6 rfl ?_
      refine X_bipush (pc := 8) (x := 32) dX9_has_8 (by decide) ?_
      refine X_cge (b := 32) (pc := 10) 54 dX9_has_10 (by decide) (by omega) (by omega) (fun z => absurd z (by omega)) (fun _ => ?_)
      refine X_iload (pc := 13) 1 dX9_has_13 rfl ?_
      rcases hv with ⟨rfl, hv⟩ | ⟨rfl, hv⟩
      · refine X_if_eq (pc := 15) 45 dX9_has_15 (by decide) (fun z => absurd z (by decide)) (fun _ => ?_)
        refine X_aload_n (pc := 18) 2 dX9_has_18 rfl rfl ?_
        refine X_getfield (pc := 19) dX9_has_19 fg_X9_11_7 (XW.dk w) (by first | rfl | assumption) ?_
        refine X_iload_n (pc := 22) 3 dX9_has_22 rfl rfl ?_
        refine X_isi (pc := 23) _ dX9_has_23 cs_X9_22 rfl (place_ok hk) nX9_place (Nat.le_of_ble_eq_true rfl) (Nat.le_of_ble_eq_true rfl) (Nat.le_of_ble_eq_true rfl) (Nat.le_of_ble_eq_true rfl) (fun r1 h1 q1 => ?_)
        obtain ⟨rfl, rfl⟩ := q1
        refine X_iconst (pc := 26) (x := 4) dX9_has_26 (by decide) ?_
        refine X_iadd (pc := 27) dX9_has_27 ?_
        rw [show nI (slotN k) + 4 = nI (slotN k + 4) from nI_add _ 4]
        refine X_iload (pc := 28) 0 dX9_has_28 rfl ?_
        refine X_iadd (pc := 30) dX9_has_30 ?_
        rw [nI_add]
        refine X_baload (pc := 31) dX9_has_31 c bs ?_
        refine X_aload_n (pc := 32) 4 dX9_has_32 rfl rfl ?_
        refine X_iload_n (pc := 33) 5 dX9_has_33 rfl rfl ?_
        refine X_iload (pc := 34) 0 dX9_has_34 rfl ?_
        refine X_iadd (pc := 36) dX9_has_36 ?_
        rw [cs, p _ (by omega), show (2 : Int32) + nI i = nI (2 + i) from nI_add 2 i]
        refine X_baload (pc := 37) dX9_has_37 c5 bt ?_
        rw [ct, p5 _ (by omega)]
        by_cases ce : d.getD (slotN k + 4 + i) 0 = T.getD (2 + i) 0
        · refine X_icmp_ne (pc := 38) 45 dX9_has_38 (by decide) (fun z => absurd ce z) (fun _ => ?_)
          refine X_iconst (pc := 41) (x := 1) dX9_has_41 (by decide) ?_
          refine X_goto (pc := 42) 46 dX9_has_42 (by decide) ?_
          refine nxt 1 (Or.inl ⟨rfl, fun j hj => ?_⟩)
          by_cases ej : j = i
          · rw [ej]; exact ce
          · exact hv j (by omega)
        · refine X_icmp_ne (pc := 38) 45 dX9_has_38 (by decide) (fun _ => ?_) (fun z => absurd z ce)
          refine X_iconst (pc := 45) (x := 0) dX9_has_45 (by decide) ?_
          exact nxt 0 (Or.inr ⟨rfl, i, by omega, ce⟩)
      · refine X_if_eq (pc := 15) 45 dX9_has_15 (by decide) (fun _ => ?_) (fun z => absurd rfl z)
        refine X_iconst (pc := 45) (x := 0) dX9_has_45 (by decide) ?_
        exact nxt 0 (Or.inr ⟨rfl, hv⟩)
  refine X_iconst (pc := 0) (x := 1) dX9_has_0 (by decide) ?_
  refine X_istore (pc := 1) (L' := [(4, .int _), (0, .ref _), (1, .int _), (2, .ref _), (3, .int _)]) dX9_has_1 (Nat.le_of_ble_eq_true rfl) rfl ?_
  refine X_iconst (pc := 3) (x := 0) dX9_has_3 (by decide) ?_
  refine X_istore (pc := 4) (L' := [(5, .int _), (4, .int _), (0, .ref _), (1, .int _), (2, .ref _), (3, .int _)]) dX9_has_4 (Nat.le_of_ble_eq_true rfl) rfl ?_
  exact loop 32 0 (by omega) 1 (Or.inl ⟨rfl, fun j hj => absurd hj (Nat.not_lt_zero j)⟩)
theorem manyX_ok (w : XW kd A X R S O F h) (hd : S 52 = d) (hl : d.length = 4096) : MT g MX9_many ({ frames := 2, cells := 0, slots := 0, locals := 42 } : Room) [.ref (A 51)] h (RI fun r h' => r = nI (spentN d) ∧ h' = h) := by
  refine MT.of (by decide) (Nat.le_of_ble_eq_true rfl) ?_
  have loop : ∀ m i, i + m = 112 → XX g MX9_many ({ frames := 2, cells := 0, slots := 0, locals := 42 } : Room) (RI fun r h' => r = nI (spentN d) ∧ h' = h) 0 0 4 [(2, .int (nI i)), (1, .int (nI (cntN (fun k => !freeS d k) i))), (0, .ref (A 51))] [] h := by
    intro m
    induction m with
    | zero =>
      intro i hi
      have e : i = 112 := by omega
      subst e
      refine X_iload_n (pc := 4) 0 dX9_many_4 rfl rfl ?_
      refine X_bipush (pc := 5) (x := 112) dX9_many_5 (by decide) ?_
      refine X_cge (a := 112) (b := 112) (pc := 7) 32 dX9_many_7 (by decide) (by omega) (by omega) (fun _ => ?_) (fun z => absurd z (by omega))
      refine X_iload_n (pc := 32) 1 dX9_many_32 rfl rfl ?_
      refine X_ireturn (pc := 33) dX9_many_33 rfl (Nat.le_of_ble_eq_true rfl) (Nat.le_of_ble_eq_true rfl) ?_
      exact ⟨_, rfl, rfl, rfl⟩
    | succ m ih =>
      intro i hi
      have ih := ih (i + 1) (by omega)
      have hc : cntN (fun k => !freeS d k) (i + 1) = cntN (fun k => !freeS d k) i + (if !freeS d i then 1 else 0) := rfl
      rw [hc] at ih
      refine X_iload_n (pc := 4) 0 dX9_many_4 rfl rfl ?_
      refine X_bipush (pc := 5) (x := 112) dX9_many_5 (by decide) ?_
      refine X_cge (b := 112) (pc := 7) 32 dX9_many_7 (by decide) (by omega) (by omega) (fun z => absurd z (by omega)) (fun _ => ?_)
      refine X_iload_n (pc := 10) 1 dX9_many_10 rfl rfl ?_
      refine X_aload_n (pc := 11) 2 dX9_many_11 rfl rfl ?_
      refine X_iload_n (pc := 12) 0 dX9_many_12 rfl rfl ?_
      refine X_ivi (pc := 13) _ dX9_many_13 cv_X9_26_7 (XW.dk w) rfl (isFreeX_ok w hd hl (k := i) (by omega)) nX9_isFree (Nat.le_of_ble_eq_true rfl) (Nat.le_of_ble_eq_true rfl) (Nat.le_of_ble_eq_true rfl) (Nat.le_of_ble_eq_true rfl) (fun r1 h1 q1 => ?_)
      obtain ⟨rfl, rfl⟩ := q1
      cases hf : freeS d i with
      | true =>
        rw [hf] at ih
        refine X_if_eq (pc := 16) 23 dX9_many_16 (by decide) (fun z => absurd z (by decide)) (fun _ => ?_)
        refine X_iconst (pc := 19) (x := 0) dX9_many_19 (by decide) ?_
        refine X_goto (pc := 20) 24 dX9_many_20 (by decide) ?_
        refine X_iadd (pc := 24) dX9_many_24 ?_
        refine X_istore_n (pc := 25) (L' := [(1, .int _), (2, .int _), (0, .ref _)]) dX9_many_25 rfl (Nat.le_of_ble_eq_true rfl) rfl ?_
        refine X_iinc (pc := 26) (L' := [(2, .int (_ + 1)), (1, .int _), (0, .ref _)]) 1 dX9_many_26 rfl rfl (Nat.le_of_ble_eq_true rfl) rfl ?_
        refine X_goto (pc := 29) 4 dX9_many_29 (by decide) ?_
        refine XX.pick (L' := [(2, .int _), (1, .int _), (0, .ref _)]) [0, 1, 2] rfl ?_
        rw [show nI i + 1 = nI (i + 1) from nI_add i 1, show nI (cntN (fun k => !freeS d k) i) + 0 = nI (cntN (fun k => !freeS d k) i + 0) from nI_add _ 0]
        exact ih
      | false =>
        rw [hf] at ih
        refine X_if_eq (pc := 16) 23 dX9_many_16 (by decide) (fun _ => ?_) (fun z => absurd rfl z)
        refine X_iconst (pc := 23) (x := 1) dX9_many_23 (by decide) ?_
        refine X_iadd (pc := 24) dX9_many_24 ?_
        refine X_istore_n (pc := 25) (L' := [(1, .int _), (2, .int _), (0, .ref _)]) dX9_many_25 rfl (Nat.le_of_ble_eq_true rfl) rfl ?_
        refine X_iinc (pc := 26) (L' := [(2, .int (_ + 1)), (1, .int _), (0, .ref _)]) 1 dX9_many_26 rfl rfl (Nat.le_of_ble_eq_true rfl) rfl ?_
        refine X_goto (pc := 29) 4 dX9_many_29 (by decide) ?_
        refine XX.pick (L' := [(2, .int _), (1, .int _), (0, .ref _)]) [0, 1, 2] rfl ?_
        rw [show nI i + 1 = nI (i + 1) from nI_add i 1, show nI (cntN (fun k => !freeS d k) i) + 1 = nI (cntN (fun k => !freeS d k) i + 1) from nI_add _ 1]
        exact ih
  refine X_iconst (pc := 0) (x := 0) dX9_many_0 (by decide) ?_
  refine X_istore_n (pc := 1) (L' := [(1, .int _), (0, .ref _)]) dX9_many_1 rfl (Nat.le_of_ble_eq_true rfl) rfl ?_
  refine X_iconst (pc := 2) (x := 0) dX9_many_2 (by decide) ?_
  refine X_istore_n (pc := 3) (L' := [(2, .int _), (1, .int _), (0, .ref _)]) dX9_many_3 rfl (Nat.le_of_ble_eq_true rfl) rfl ?_
  exact loop 112 0 (by omega)
/-- what writing a slot comes to -/
def WrD (kd : Nat → KD) (A : Nat → Nat) (X : AH) (R : Nat → Nat) (S : Nat → List Int32) (O : Nat → AC) (F : Nat → Int32) (k : Nat) (r : Int32) (h' : AH) : Prop :=
  ∃ S', (∀ j, j ≠ 52 → j ≠ 53 → S' j = S j) ∧ ((F 26 = 0 ∧ r = -9 ∧ S' 52 = S 52 ∧ XW kd A X R S' O (up F 27 1) h') ∨ (F 26 ≠ 0 ∧ r = 0 ∧ S' 52 = putS (S 52) k (S 56) ∧ XW kd A X R S' O (up (if 0 < F 26 then up F 26 (F 26 - 1) else F) 25 (F 25 + 1)) h'))
set_option maxHeartbeats 4000000 in
theorem writeX_ok (w : XW kd A X R S O F h) (hl : (S 52).length = 4096) (hTl : 34 ≤ (S 56).length) {k : Nat} (hk : k < 112) : MT g MX9_write ({ frames := 1, cells := 0, slots := 0, locals := 48 } : Room) [.ref (A 51), .int (nI k), .ref (A 56), .int 2] h (RI (WrD kd A X R S O F k)) := by
  refine MT.of (by decide) (Nat.le_of_ble_eq_true rfl) ?_
  have hq14 : k / 14 < 8 := by omega
  have l56 : (S 56).length ≤ 1200 := (w.s 56 (w.k 56 (by decide))).choose_spec.2.2
  generalize hbg : 512 * (k / 14) = bg
  have hpl : slotN k = bg + 36 * (k % 14) := by unfold slotN; rw [hbg]
  generalize hpp : 36 * (k % 14) = pp at *
  have hpp2 : pp ≤ 468 := by omega
  refine X_sipush (pc := 0) (x := 512) dX9_write_0 (by decide) ?_
  refine X_iload_n (pc := 3) 1 dX9_write_3 rfl rfl ?_
  refine X_bipush (pc := 4) (x := 14) dX9_write_4 (by decide) ?_
  refine X_idiv (pc := 6) dX9_write_6 (show ¬ (14 : Int32) = 0 by decide) ?_
  rw [show nI k / 14 = nI (k / 14) from pk_div (d := 14) (by omega) (by decide) (by decide)]
  refine X_imul (pc := 7) dX9_write_7 ?_
  rw [show (512 : Int32) * nI (k / 14) = nI (512 * (k / 14)) from pk_mul 512 _, hbg]
  obtain ⟨f2, c2, p2, -⟩ := w.s 52 (w.k 52 (by decide))
  obtain ⟨f3, c3, p3, -⟩ := w.s 53 (w.k 53 (by decide))
  refine X_istore (pc := 8) (L' := [(4, .int _), (0, .ref _), (1, .int _), (2, .ref _), (3, .int _)]) dX9_write_8 (Nat.le_of_ble_eq_true rfl) rfl ?_
  refine X_aload_n (pc := 10) 1 dX9_write_10 rfl rfl ?_
  refine X_getfield (pc := 11) dX9_write_11 fg_X9_11_7 (XW.dk w) (by first | rfl | assumption) ?_
  refine X_iload (pc := 14) 0 dX9_write_14 rfl ?_
  refine X_aload_n (pc := 16) 1 dX9_write_16 rfl rfl ?_
  refine X_getfield (pc := 17) dX9_write_17 fg_X9_15_7 (XW.dk w) (by first | rfl | assumption) ?_
  refine X_iconst (pc := 20) (x := 0) dX9_write_20 (by decide) ?_
  refine X_sipush (pc := 21) (x := 512) dX9_write_21 (by decide) ?_
  refine X_copyI (pc := 24) (bg) (0) (512) dX9_write_24 q1221 (Or.inr rfl) c2 c3 rfl rfl rfl (by omega) (by omega) ⟨by omega, by omega⟩ (Nat.le_of_ble_eq_true rfl) (Nat.le_of_ble_eq_true rfl) ?_
  have w1 := w.cpy (ks := 52) (ns := 4096) (sN := bg) (dN := 0) (n := 512) (w.k 53 (by decide)) p2 p3 (Nat.zero_le _) (by rw [hl]; omega) (by decide)
  rw [List.take_zero, List.nil_append] at w1
  generalize hset h (A 53) _ = h1 at w1 ⊢
  generalize hE1 : sub (S 52) bg 512 = E1 at w1
  have l1 : E1.length = 512 := by rw [← hE1]; exact sub_len _ _ _
  have v1 : ∀ j, j < 512 → E1.getD j 0 = (S 52).getD (bg + j) 0 := fun j hj => by rw [← hE1, sub_getD hj]
  refine X_iload_n (pc := 27) 2 dX9_write_27 rfl rfl ?_
  refine X_isi (pc := 28) _ dX9_write_28 cs_X9_22 rfl (place_ok hk) nX9_place (Nat.le_of_ble_eq_true rfl) (Nat.le_of_ble_eq_true rfl) (Nat.le_of_ble_eq_true rfl) (Nat.le_of_ble_eq_true rfl) (fun r2 h2 q2 => ?_)
  obtain ⟨rfl, rfl⟩ := q2
  refine X_iload (pc := 31) 0 dX9_write_31 rfl ?_
  refine X_isub (pc := 33) dX9_write_33 ?_
  rw [hpl, pk_sub (Nat.le_add_right bg pp), Nat.add_sub_cancel_left]
  obtain ⟨f4, c4, p4, -⟩ := w1.s 53 (w1.k 53 (by decide))
  rw [up_same] at p4
  have b3 : vp_in (nI (pp + 3)) 512 := vp_in_nI (by omega) (by omega)
  have k3 : (nI (pp + 3)).toNatClampNeg = pp + 3 := nI_clamp (by omega)
  refine X_istore (pc := 34) (L' := [(5, .int _), (4, .int _), (0, .ref _), (1, .int _), (2, .ref _), (3, .int _)]) dX9_write_34 (Nat.le_of_ble_eq_true rfl) rfl ?_
  refine X_aload_n (pc := 36) 2 dX9_write_36 rfl rfl ?_
  refine X_getfield (pc := 37) dX9_write_37 fg_X9_15_7 (XW.dk w1) (by first | rfl | assumption) ?_
  refine X_iload (pc := 40) 0 dX9_write_40 rfl ?_
  refine X_iconst (pc := 42) (x := 3) dX9_write_42 (by decide) ?_
  refine X_iadd (pc := 43) dX9_write_43 ?_
  rw [show nI pp + 3 = nI (pp + 3) from nI_add pp 3]
  refine X_iconst (pc := 44) (x := 1) dX9_write_44 (by decide) ?_
  refine X_bastore (pc := 45) dX9_write_45 c4 b3 ?_
  rw [k3, show (1 : Int32).toInt8.toInt32 = 1 by decide]
  have w2 := w1.setS 53 (w1.k 53 (by decide)) (PL_set p4 (pp + 3) 1) (by rw [List.length_set, l1]; decide)
  rw [up_up'] at w2
  generalize hset h2 (A 53) _ = h3 at w2 ⊢
  generalize hE2 : E1.set (pp + 3) 1 = E2 at w2
  have l2 : E2.length = 512 := by rw [← hE2, List.length_set, l1]
  have v2 : ∀ j, E2.getD j 0 = if j = pp + 3 then 1 else E1.getD j 0 := fun j => by rw [← hE2, set_at (by omega)]
  obtain ⟨f5, c5, p5, -⟩ := w2.s 56 (w2.k 56 (by decide))
  obtain ⟨f6, c6, p6, -⟩ := w2.s 53 (w2.k 53 (by decide))
  rw [up_ne (by decide)] at p5
  rw [up_same] at p6
  refine X_aload_n (pc := 46) 4 dX9_write_46 rfl rfl ?_
  refine X_iload_n (pc := 47) 5 dX9_write_47 rfl rfl ?_
  refine X_aload_n (pc := 48) 2 dX9_write_48 rfl rfl ?_
  refine X_getfield (pc := 49) dX9_write_49 fg_X9_15_7 (XW.dk w2) (by first | rfl | assumption) ?_
  refine X_iload (pc := 52) 0 dX9_write_52 rfl ?_
  refine X_iconst (pc := 54) (x := 4) dX9_write_54 (by decide) ?_
  refine X_iadd (pc := 55) dX9_write_55 ?_
  rw [show nI pp + 4 = nI (pp + 4) from nI_add pp 4]
  refine X_bipush (pc := 56) (x := 32) dX9_write_56 (by decide) ?_
  refine X_copyI (pc := 58) (2) (pp + 4) (32) dX9_write_58 q1221 (Or.inr rfl) c5 c6 rfl rfl rfl (by omega) (by omega) ⟨by omega, by omega⟩ (Nat.le_of_ble_eq_true rfl) (Nat.le_of_ble_eq_true rfl) ?_
  have w3 := w2.cpyM (ks := 56) (kt := 53) (sN := 2) (dN := pp + 4) (n := 32) (w2.k 53 (by decide)) (by rw [up_ne (by decide)]; exact p5) (by rw [up_same]; exact p6) (by rw [up_ne (by decide)]; omega) (by rw [up_same, l2]; decide)
  rw [up_same, up_ne (show (56 : Nat) ≠ 53 by decide), up_up'] at w3
  generalize hset h3 (A 53) _ = h4 at w3 ⊢
  generalize hE3 : layL E2 (S 56) (pp + 4) 2 32 = E3 at w3
  have l3 : E3.length = 512 := by rw [← hE3, layL_len, l2]
  have v3 : ∀ j, j < 512 → E3.getD j 0 = if pp + 4 ≤ j ∧ j < pp + 4 + 32 then (S 56).getD (2 + (j - (pp + 4))) 0 else E2.getD j 0 := fun j hj => by rw [← hE3, layL_at (by rw [l2]; exact hj)]
  have e52 : up S 53 E3 52 = S 52 := up_ne (by decide)
  have fS : ∀ j, j ≠ 52 → j ≠ 53 → up S 53 E3 j = S j := fun j _ b => up_ne b
  refine X_aload_n (pc := 61) 2 dX9_write_61 rfl rfl ?_
  refine X_getfield (pc := 62) dX9_write_62 fg_X9_18_7 (XW.dk w3) (by first | rfl | assumption) ?_
  by_cases cf : F 26 = 0
  · refine X_if_ne (pc := 65) 76 dX9_write_65 (by decide) (fun z => absurd cf z) (fun _ => ?_)
    refine X_aload_n (pc := 68) 2 dX9_write_68 rfl rfl ?_
    refine X_iconst (pc := 69) (x := 1) dX9_write_69 (by decide) ?_
    refine X_putfield (pc := 70) dX9_write_70 fp_X9_46_7 (fun e => by cases e) (XW.dk w3) rfl rfl (Nat.le_of_ble_eq_true rfl) ?_
    have w4 := XW.setF27 w3 (v := 1)
    refine X_bipush (pc := 73) (x := (-9)) dX9_write_73 (by decide) ?_
    refine X_ireturn (pc := 75) dX9_write_75 rfl (Nat.le_of_ble_eq_true rfl) (Nat.le_of_ble_eq_true rfl) ?_
    exact ⟨_, rfl, _, fS, Or.inl ⟨cf, rfl, e52, w4⟩⟩
  · refine X_if_ne (pc := 65) 76 dX9_write_65 (by decide) (fun _ => ?_) (fun z => absurd z cf)
    -- behind the fuse
    have tail : ∀ (F1 : Nat → Int32) (h5 : AH), F1 = (if 0 < F 26 then up F 26 (F 26 - 1) else F) → XW kd A X R (up S 53 E3) O F1 h5 → XX g MX9_write ({ frames := 1, cells := 0, slots := 0, locals := 48 } : Room) (RI (WrD kd A X R S O F k)) 0 0 93 [(5, .int (nI pp)), (4, .int (nI bg)), (0, .ref (A 51)), (1, .int (nI k)), (2, .ref (A 56)), (3, .int 2)] [] h5 := by
      intro F1 h5 hF1 w5
      have e25 : F1 25 = F 25 := by rw [hF1]; split; exact up_ne (by decide); rfl
      refine X_aload_n (pc := 93) 2 dX9_write_93 rfl rfl ?_
      refine X_dup (pc := 94) dX9_write_94 rfl ?_
      refine X_getfield (pc := 95) dX9_write_95 fg_X9_50_7 (XW.dk w5) (by first | rfl | assumption) ?_
      refine X_iconst (pc := 98) (x := 1) dX9_write_98 (by decide) ?_
      refine X_iadd (pc := 99) dX9_write_99 ?_
      refine X_putfield (pc := 100) dX9_write_100 fp_X9_50_7 (fun e => by cases e) (XW.dk w5) rfl rfl (Nat.le_of_ble_eq_true rfl) ?_
      have w6 := XW.setF25 w5 (v := F1 25 + 1)
      generalize hset h5 (A 51) _ = h6 at w6 ⊢
      obtain ⟨f7, c7, p7, -⟩ := w6.s 53 (w6.k 53 (by decide))
      obtain ⟨f8, c8, p8, -⟩ := w6.s 52 (w6.k 52 (by decide))
      rw [up_same] at p7
      rw [e52] at p8
      refine X_aload_n (pc := 103) 2 dX9_write_103 rfl rfl ?_
      refine X_getfield (pc := 104) dX9_write_104 fg_X9_15_7 (XW.dk w6) (by first | rfl | assumption) ?_
      refine X_iconst (pc := 107) (x := 0) dX9_write_107 (by decide) ?_
      refine X_aload_n (pc := 108) 2 dX9_write_108 rfl rfl ?_
      refine X_getfield (pc := 109) dX9_write_109 fg_X9_11_7 (XW.dk w6) (by first | rfl | assumption) ?_
      refine X_iload (pc := 112) 1 dX9_write_112 rfl ?_
      refine X_sipush (pc := 114) (x := 512) dX9_write_114 (by decide) ?_
      refine X_copyI (pc := 117) (0) (bg) (512) dX9_write_117 q1221 (Or.inr rfl) c7 c8 rfl rfl rfl (by omega) (by omega) ⟨by omega, by omega⟩ (Nat.le_of_ble_eq_true rfl) (Nat.le_of_ble_eq_true rfl) ?_
      have w7 := w6.cpyM (ks := 53) (kt := 52) (sN := 0) (dN := bg) (n := 512) (w6.k 52 (by decide)) (by rw [up_same]; exact p7) (by rw [e52]; exact p8) (by rw [up_same, l3]; decide) (by rw [e52, hl]; decide)
      rw [up_same, e52] at w7
      refine X_iconst (pc := 120) (x := 0) dX9_write_120 (by decide) ?_
      refine X_ireturn (pc := 121) dX9_write_121 rfl (Nat.le_of_ble_eq_true rfl) (Nat.le_of_ble_eq_true rfl) ?_
      refine ⟨_, rfl, up (up S 53 E3) 52 (layL (S 52) E3 bg 0 512), fun j a b => by rw [up_ne a]; exact fS j a b, Or.inr ⟨cf, rfl, ?_, by rw [← hF1, ← e25]; exact w7⟩⟩
      rw [up_same]
      refine list_ext0 (by rw [layL_len]; unfold putS; rw [List.length_map, List.length_range]) fun j hj => ?_
      rw [layL_len] at hj
      rw [layL_at hj]
      unfold putS
      rw [getD_map_range hj, hpl]
      by_cases z : bg ≤ j ∧ j < bg + 512
      · rw [if_pos z, v3 _ (by omega), Nat.zero_add]
        by_cases z1 : j = bg + pp + 3
        · rw [if_pos z1, if_neg (by omega), v2, if_pos (by omega)]
        · rw [if_neg z1]
          by_cases z2 : bg + pp + 4 ≤ j ∧ j < bg + pp + 36
          · rw [if_pos z2, if_pos (by omega)]
            congr 1
            omega
          · rw [if_neg z2, if_neg (by omega), v2, if_neg (by omega), v1 _ (by omega), show bg + (j - bg) = j by omega]
      · rw [if_neg z, if_neg (by omega), if_neg (by omega)]
    refine X_aload_n (pc := 76) 2 dX9_write_76 rfl rfl ?_
    refine X_getfield (pc := 77) dX9_write_77 fg_X9_18_7 (XW.dk w3) (by first | rfl | assumption) ?_
    by_cases cp : 0 < F 26
    · refine X_if_le (pc := 80) 93 dX9_write_80 (by decide) (fun z => absurd z (Int32.not_le.mpr cp)) (fun _ => ?_)
      refine X_aload_n (pc := 83) 2 dX9_write_83 rfl rfl ?_
      refine X_dup (pc := 84) dX9_write_84 rfl ?_
      refine X_getfield (pc := 85) dX9_write_85 fg_X9_18_7 (XW.dk w3) (by first | rfl | assumption) ?_
      refine X_iconst (pc := 88) (x := 1) dX9_write_88 (by decide) ?_
      refine X_isub (pc := 89) dX9_write_89 ?_
      refine X_putfield (pc := 90) dX9_write_90 fp_X9_18_7 (fun e => by cases e) (XW.dk w3) rfl rfl (Nat.le_of_ble_eq_true rfl) ?_
      have w4 := XW.setF26 w3 (v := F 26 - 1)
      exact tail _ _ (by rw [if_pos cp]) w4
    · refine X_if_le (pc := 80) 93 dX9_write_80 (by decide) (fun _ => ?_) (fun z => absurd (Int32.not_lt.mp cp) z)
      exact tail F h4 (by rw [if_neg cp]) w3
/-- what spending comes to -/
def SpD (kd : Nat → KD) (A : Nat → Nat) (X : AH) (R : Nat → Nat) (S : Nat → List Int32) (O : Nat → AC) (F : Nat → Int32) (r : Int32) (h' : AH) : Prop :=
  (low (wayP (S 52) (S 56)) 112 = none ∧ r = -6 ∧ XW kd A X R S O F h') ∨ ∃ i, low (wayP (S 52) (S 56)) 112 = some i ∧ ((freeS (S 52) ((num (S 56) 2 4 % 112 + i) % 112) = false ∧ r = -5 ∧ XW kd A X R S O F h') ∨ (freeS (S 52) ((num (S 56) 2 4 % 112 + i) % 112) = true ∧ WrD kd A X R S O F ((num (S 56) 2 4 % 112 + i) % 112) r h'))
set_option maxHeartbeats 4000000 in
theorem spendX_ok (w : XW kd A X R S O F h) (hl : (S 52).length = 4096) (hTl : 34 ≤ (S 56).length) : MT g MX9_spend ({ frames := 2, cells := 0, slots := 0, locals := 73 } : Room) [.ref (A 51), .ref (A 56), .int 2] h (RI (SpD kd A X R S O F)) := by
  refine MT.of (by decide) (Nat.le_of_ble_eq_true rfl) ?_
  have d4 : ∀ x : Int32, x &&& 255 = nI (b8 x) := fun x => pk_and x (m := 255) 8 rfl
  have b8l : ∀ x : Int32, b8 x < 256 := fun x => Nat.mod_lt _ (by decide)
  have l56 : (S 56).length ≤ 1200 := (w.s 56 (w.k 56 (by decide))).choose_spec.2.2
  obtain ⟨f56, c56, p56, -⟩ := w.s 56 (w.k 56 (by decide))
  have hwd : ∀ i, wayP (S 52) (S 56) i = (freeS (S 52) ((num (S 56) 2 4 % 112 + i) % 112) || hasS (S 52) ((num (S 56) 2 4 % 112 + i) % 112) (S 56)) := fun _ => rfl
  generalize hQ : RI (SpD kd A X R S O F) = Q
  have hst : num (S 56) 2 4 % 112 < 112 := Nat.mod_lt _ (by decide)
  have way : ∀ v3, ∀ m i, i + m = 112 → (∀ j, j < i → wayP (S 52) (S 56) j = false) → XX g MX9_spend ({ frames := 2, cells := 0, slots := 0, locals := 73 } : Room) Q 0 0 45 [(6, .int (nI i)), (5, .int (nI ((num (S 56) 2 4 % 112 + i) % 112))), (3, .long v3), (0, .ref (A 51)), (1, .ref (A 56)), (2, .int 2)] [] h := by
    intro v3 m
    induction m with
    | zero =>
      intro i hi hno
      have ei : i = 112 := by omega
      subst ei
      refine X_iload (pc := 45) 0 dX9_spend_45 rfl ?_
      refine X_bipush (pc := 47) (x := 112) dX9_spend_47 (by decide) ?_
      refine X_cge (a := 112) (b := 112) (pc := 49) 107 dX9_spend_49 (by decide) (by omega) (by omega) (fun _ => ?_) (fun z => absurd z (by omega))
      refine X_bipush (pc := 107) (x := (-6)) dX9_spend_107 (by decide) ?_
      subst hQ
      refine X_ireturn (pc := 109) dX9_spend_109 rfl (Nat.le_of_ble_eq_true rfl) (Nat.le_of_ble_eq_true rfl) ?_
      exact ⟨_, rfl, Or.inl ⟨low_not hno, rfl, w⟩⟩
    | succ m ih =>
      intro i hi hno
      have hw := hwd i
      have hkk : (num (S 56) 2 4 % 112 + i) % 112 < 112 := Nat.mod_lt _ (by decide)
      generalize hkd : (num (S 56) 2 4 % 112 + i) % 112 = k at hw hkk ⊢
      refine X_iload (pc := 45) 0 dX9_spend_45 rfl ?_
      refine X_bipush (pc := 47) (x := 112) dX9_spend_47 (by decide) ?_
      refine X_cge (b := 112) (pc := 49) 107 dX9_spend_49 (by decide) (by omega) (by omega) (fun z => absurd z (by omega)) (fun _ => ?_)
      refine X_aload_n (pc := 52) 3 dX9_spend_52 rfl rfl ?_
      refine X_iload (pc := 53) 1 dX9_spend_53 rfl ?_
      refine X_ivi (pc := 55) _ dX9_spend_55 cv_X9_26_7 (XW.dk w) rfl (isFreeX_ok w rfl hl hkk) nX9_isFree (Nat.le_of_ble_eq_true rfl) (Nat.le_of_ble_eq_true rfl) (Nat.le_of_ble_eq_true rfl) (Nat.le_of_ble_eq_true rfl) (fun r1 h1 q1 => ?_)
      obtain ⟨rfl, rfl⟩ := q1
      cases hf : freeS (S 52) k with
      | true =>
        have hlow : low (wayP (S 52) (S 56)) 112 = some i := low_is (by omega) (by rw [hw, hf]; rfl) hno
        rw [if_pos rfl]
        refine X_if_eq (pc := 58) 70 dX9_spend_58 (by decide) (fun z => absurd z (by decide)) (fun _ => ?_)
        refine X_aload_n (pc := 61) 3 dX9_spend_61 rfl rfl ?_
        refine X_iload (pc := 62) 1 dX9_spend_62 rfl ?_
        refine X_aload_n (pc := 64) 4 dX9_spend_64 rfl rfl ?_
        refine X_iload_n (pc := 65) 5 dX9_spend_65 rfl rfl ?_
        refine X_ivi (pc := 66) _ dX9_spend_66 cv_X9_32_7 (XW.dk w) rfl (writeX_ok w hl hTl hkk) nX9_write (Nat.le_of_ble_eq_true rfl) (Nat.le_of_ble_eq_true rfl) (Nat.le_of_ble_eq_true rfl) (Nat.le_of_ble_eq_true rfl) (fun r2 h2 q2 => ?_)
        subst hQ
        refine X_ireturn (pc := 69) dX9_spend_69 rfl (Nat.le_of_ble_eq_true rfl) (Nat.le_of_ble_eq_true rfl) ?_
        exact ⟨_, rfl, Or.inr ⟨i, hlow, Or.inr ⟨by rw [hkd]; exact hf, by rw [hkd]; exact q2⟩⟩⟩
      | false =>
        rw [if_neg (by decide)]
        refine X_if_eq (pc := 58) 70 dX9_spend_58 (by decide) (fun _ => ?_) (fun z => absurd rfl z)
        refine X_aload_n (pc := 70) 3 dX9_spend_70 rfl rfl ?_
        refine X_iload (pc := 71) 1 dX9_spend_71 rfl ?_
        refine X_aload_n (pc := 73) 4 dX9_spend_73 rfl rfl ?_
        refine X_iload_n (pc := 74) 5 dX9_spend_74 rfl rfl ?_
        refine X_ivi (pc := 75) _ dX9_spend_75 cv_X9_36_7 (XW.dk w) rfl (hasX_ok w rfl hl rfl hTl hkk) nX9_has (Nat.le_of_ble_eq_true rfl) (Nat.le_of_ble_eq_true rfl) (Nat.le_of_ble_eq_true rfl) (Nat.le_of_ble_eq_true rfl) (fun r2 h2 q2 => ?_)
        obtain ⟨rfl, rfl⟩ := q2
        cases hh : hasS (S 52) k (S 56) with
        | true =>
          have hlow : low (wayP (S 52) (S 56)) 112 = some i := low_is (by omega) (by rw [hw, hf, hh]; rfl) hno
          rw [if_pos rfl]
          refine X_if_eq (pc := 78) 84 dX9_spend_78 (by decide) (fun z => absurd z (by decide)) (fun _ => ?_)
          refine X_bipush (pc := 81) (x := (-5)) dX9_spend_81 (by decide) ?_
          subst hQ
          refine X_ireturn (pc := 83) dX9_spend_83 rfl (Nat.le_of_ble_eq_true rfl) (Nat.le_of_ble_eq_true rfl) ?_
          exact ⟨_, rfl, Or.inr ⟨i, hlow, Or.inl ⟨by rw [hkd]; exact hf, rfl, w⟩⟩⟩
        | false =>
          rw [if_neg (by decide)]
          have hno' : ∀ j, j < i + 1 → wayP (S 52) (S 56) j = false := fun j hj => by
            by_cases ej : j = i
            · rw [ej, hw, hf, hh]; rfl
            · exact hno j (by omega)
          have nx := ih (i + 1) (by omega) hno'
          refine X_if_eq (pc := 78) 84 dX9_spend_78 (by decide) (fun _ => ?_) (fun z => absurd rfl z)
          refine X_iload (pc := 84) 1 dX9_spend_84 rfl ?_
          refine X_bipush (pc := 86) (x := 111) dX9_spend_86 (by decide) ?_
          by_cases c111 : k = 111
          · refine X_icmp_ne (pc := 88) 95 dX9_spend_88 (by decide) (fun z => absurd (by rw [c111]; rfl) z) (fun _ => ?_)
            refine X_iconst (pc := 91) (x := 0) dX9_spend_91 (by decide) ?_
            refine X_goto (pc := 92) 99 dX9_spend_92 (by decide) ?_
            refine X_istore (pc := 99) (L' := [(5, .int _), (6, .int _), (3, .long _), (0, .ref _), (1, .ref _), (2, .int _)]) dX9_spend_99 (Nat.le_of_ble_eq_true rfl) rfl ?_
            refine X_iinc (pc := 101) (L' := [(6, .int (_ + 1)), (5, .int _), (3, .long _), (0, .ref _), (1, .ref _), (2, .int _)]) 1 dX9_spend_101 rfl rfl (Nat.le_of_ble_eq_true rfl) rfl ?_
            refine X_goto (pc := 104) 45 dX9_spend_104 (by decide) ?_
            refine XX.pick (L' := [(6, .int _), (5, .int _), (3, .long _), (0, .ref _), (1, .ref _), (2, .int _)]) [0, 1, 2, 3, 4, 5] rfl ?_
            rw [show nI i + 1 = nI (i + 1) from nI_add i 1]
            rw [show (num (S 56) 2 4 % 112 + (i + 1)) % 112 = 0 by omega] at nx
            exact nx
          · refine X_icmp_ne (pc := 88) 95 dX9_spend_88 (by decide) (fun _ => ?_) (fun z => absurd (nI_inj' (b := 111) (by omega) (by decide) z) c111)
            refine X_iload (pc := 95) 1 dX9_spend_95 rfl ?_
            refine X_iconst (pc := 97) (x := 1) dX9_spend_97 (by decide) ?_
            refine X_iadd (pc := 98) dX9_spend_98 ?_
            refine X_istore (pc := 99) (L' := [(5, .int _), (6, .int _), (3, .long _), (0, .ref _), (1, .ref _), (2, .int _)]) dX9_spend_99 (Nat.le_of_ble_eq_true rfl) rfl ?_
            refine X_iinc (pc := 101) (L' := [(6, .int (_ + 1)), (5, .int _), (3, .long _), (0, .ref _), (1, .ref _), (2, .int _)]) 1 dX9_spend_101 rfl rfl (Nat.le_of_ble_eq_true rfl) rfl ?_
            refine X_goto (pc := 104) 45 dX9_spend_104 (by decide) ?_
            refine XX.pick (L' := [(6, .int _), (5, .int _), (3, .long _), (0, .ref _), (1, .ref _), (2, .int _)]) [0, 1, 2, 3, 4, 5] rfl ?_
            rw [show nI i + 1 = nI (i + 1) from nI_add i 1, show nI k + 1 = nI (k + 1) from nI_add k 1]
            rw [show (num (S 56) 2 4 % 112 + (i + 1)) % 112 = k + 1 by omega] at nx
            exact nx
  have acc : ∀ m i, i + m = 4 → XX g MX9_spend ({ frames := 2, cells := 0, slots := 0, locals := 73 } : Room) Q 0 0 5 [(5, .int (nI i)), (3, .long (lN (num (S 56) 2 i))), (0, .ref (A 51)), (1, .ref (A 56)), (2, .int 2)] [] h := by
    intro m
    induction m with
    | zero =>
      intro i hi
      have ei : i = 4 := by omega
      subst ei
      have hlt := num_lt' (S 56) 2 4
      refine X_iload (pc := 5) 0 dX9_spend_5 rfl ?_
      refine X_iconst (pc := 7) (x := 4) dX9_spend_7 (by decide) ?_
      refine X_cge (a := 4) (b := 4) (pc := 8) 34 dX9_spend_8 (by decide) (by omega) (by omega) (fun _ => ?_) (fun z => absurd z (by omega))
      refine X_lload_n (pc := 34) 1 dX9_spend_34 rfl rfl ?_
      refine X_ldc2 (pc := 35) dX9_spend_35 q1209 ?_
      refine X_lrem (pc := 38) dX9_spend_38 (show ¬ (112 : Int64) = 0 by decide) ?_
      rw [show lN (num (S 56) 2 4) - lN (num (S 56) 2 4) / 112 * 112 = lN (num (S 56) 2 4 % 112) from pk_lRem (b := 112) (by omega) (by decide) (by decide)]
      refine X_l2i (pc := 39) dX9_spend_39 ?_
      rw [lN_i]
      refine X_istore (pc := 40) (L' := [(5, .int _), (3, .long _), (0, .ref _), (1, .ref _), (2, .int _)]) dX9_spend_40 (Nat.le_of_ble_eq_true rfl) rfl ?_
      refine X_iconst (pc := 42) (x := 0) dX9_spend_42 (by decide) ?_
      refine X_istore (pc := 43) (L' := [(6, .int _), (5, .int _), (3, .long _), (0, .ref _), (1, .ref _), (2, .int _)]) dX9_spend_43 (Nat.le_of_ble_eq_true rfl) rfl ?_
      refine XX.pick (L' := [(6, .int _), (5, .int _), (3, .long _), (0, .ref _), (1, .ref _), (2, .int _)]) [0, 1, 2, 3, 4, 5] rfl ?_
      have := way (lN (num (S 56) 2 4)) 112 0 (by omega) (fun j hj => by omega)
      rw [Nat.add_zero, Nat.mod_mod] at this
      exact this
    | succ m ih =>
      intro i hi
      have hlt := num_lt' (S 56) 2 i
      have hlt2 : num (S 56) 2 i < 2 ^ 24 := Nat.lt_of_lt_of_le hlt (Nat.le_trans (Nat.pow_le_pow_right (by decide) (show i ≤ 3 by omega)) (by decide))
      have b8' : vp_in (nI (2 + i)) 1200 := vp_in_nI (by omega) (by omega)
      have c8' : (nI (2 + i)).toNatClampNeg = 2 + i := nI_clamp (by omega)
      refine X_iload (pc := 5) 0 dX9_spend_5 rfl ?_
      refine X_iconst (pc := 7) (x := 4) dX9_spend_7 (by decide) ?_
      refine X_cge (b := 4) (pc := 8) 34 dX9_spend_8 (by decide) (by omega) (by omega) (fun z => absurd z (by omega)) (fun _ => ?_)
      refine X_lload_n (pc := 11) 1 dX9_spend_11 rfl rfl ?_
      refine X_bipush (pc := 12) (x := 8) dX9_spend_12 (by decide) ?_
      refine X_lshl (pc := 14) dX9_spend_14 ?_
      rw [lN_shl (k := 8) _ (by decide) (by omega)]
      refine X_aload_n (pc := 15) 3 dX9_spend_15 rfl rfl ?_
      refine X_iload_n (pc := 16) 4 dX9_spend_16 rfl rfl ?_
      refine X_iload (pc := 17) 0 dX9_spend_17 rfl ?_
      refine X_iadd (pc := 19) dX9_spend_19 ?_
      rw [show (2 : Int32) + nI i = nI (2 + i) from nI_add 2 i]
      refine X_baload (pc := 20) dX9_spend_20 c56 b8' ?_
      refine X_sipush (pc := 21) (x := 255) dX9_spend_21 (by decide) ?_
      refine X_iand (pc := 24) dX9_spend_24 ?_
      rw [c8', p56 _ (by omega), d4]
      refine X_i2l (pc := 25) dX9_spend_25 ?_
      have hb := b8l ((S 56).getD (2 + i) 0)
      rw [nI_l (by omega)]
      refine X_lor (pc := 26) dX9_spend_26 ?_
      rw [lN_or8 (by omega) hb, show num (S 56) 2 i * 2 ^ 8 + b8 ((S 56).getD (2 + i) 0) = num (S 56) 2 (i + 1) from (num_snoc (S 56) 2 i).symm]
      refine X_lstore_n (pc := 27) (L' := [(3, .long _), (5, .int _), (0, .ref _), (1, .ref _), (2, .int _)]) dX9_spend_27 rfl (Nat.le_of_ble_eq_true rfl) rfl ?_
      refine X_iinc (pc := 28) (L' := [(5, .int (_ + 1)), (3, .long _), (0, .ref _), (1, .ref _), (2, .int _)]) 1 dX9_spend_28 rfl rfl (Nat.le_of_ble_eq_true rfl) rfl ?_
      refine X_goto (pc := 31) 5 dX9_spend_31 (by decide) ?_
      rw [show nI i + 1 = nI (i + 1) from nI_add i 1]
      refine XX.pick (L' := [(5, .int _), (3, .long _), (0, .ref _), (1, .ref _), (2, .int _)]) [0, 1, 2, 3, 4] rfl ?_
      exact ih (i + 1) (by omega)
  refine X_lconst (pc := 0) (x := 0) dX9_spend_0 (by decide) ?_
  refine X_lstore_n (pc := 1) (L' := [(3, .long _), (0, .ref _), (1, .ref _), (2, .int _)]) dX9_spend_1 rfl (Nat.le_of_ble_eq_true rfl) rfl ?_
  refine X_iconst (pc := 2) (x := 0) dX9_spend_2 (by decide) ?_
  refine X_istore (pc := 3) (L' := [(5, .int _), (3, .long _), (0, .ref _), (1, .ref _), (2, .int _)]) dX9_spend_3 (Nat.le_of_ble_eq_true rfl) rfl ?_
  refine XX.pick (L' := [(5, .int _), (3, .long _), (0, .ref _), (1, .ref _), (2, .int _)]) [0, 1, 2, 3, 4] rfl ?_
  exact acc 4 0 (by omega)
end XDk
