set_option maxRecDepth 100000
/-! VeilMint's keys of the second type -/
/-- the fields of a key of the second type -/
def sgFl (A : Nat → Nat) (B sz s bt : Nat) (lv : Int32) : List Value := [.ref (A (B + 1)), .int 2, .int lv, .ref (A 6), .ref (A 50), .int (nI sz), .int (nI s), .int (nI bt), .ref (A (B + 10)), .ref (A (B + 9)), .ref (A (B + 2)), .ref (A (B + 3)), .ref (A (B + 4)), .ref (A (B + 5)), .ref (A (B + 6)), .ref (A (B + 7)), .ref (A (B + 8))]
def dbV (mv : Nat) : Nat := esz (bitsN mv) - 49
/-- where a key of the second type lies -/
def SgK (kd : Nat → KD) (A : Nat → Nat) (O : Nat → AC) (B sz s p mv : Nat) (ng lv : Int32) : Prop :=
  (100 ≤ B ∧ kd B = (7, 0, 0) ∧ O B = Ob 10 (sgFl A B sz s (bitsN mv - 1) lv)) ∧ kd (B + 1) = (6, 2, 32) ∧ kd (B + 2) = (2, 0, p + 1) ∧ kd (B + 3) = (2, 0, p + 1) ∧ kd (B + 4) = (2, 0, p + 1) ∧ kd (B + 5) = (2, 0, p + 1) ∧ kd (B + 6) = (6, 2, sz + 3) ∧ kd (B + 7) = (6, 2, sz) ∧ kd (B + 8) = (6, 2, sz) ∧ kd (B + 9) = (2, 0, 1) ∧ MoK kd A O (B + 10) p mv ng ∧
  (66 ≤ sz ∧ sz ≤ 256 ∧ p + 1 = (sz + 3) / 4 ∧ 256 ^ (sz - 1) ≤ mv ∧ mv < 256 ^ sz ∧ (s = 0 ∨ (s = 48 ∧ 100 ≤ sz)))
section XSg
variable {kd : Nat → KD} {A : Nat → Nat} {X : AH} {R : Nat → Nat} {S : Nat → List Int32} {O : Nat → AC} {F : Nat → Int32} {h : AH} {B sz s p mv : Nat} {ng lv : Int32}
theorem SgK.ob (o : SgK kd A O B sz s p mv ng lv) (w : XW kd A X R S O F h) : h (A B) = some (Ob 10 (sgFl A B sz s (bitsN mv - 1) lv)) := by
  have hB := o.1.1
  rw [w.ob B o.1.2.1 (mut_f (Or.inr (by omega)))]
  unfold OS
  rw [if_neg (by omega), o.1.2.2]
theorem SgK.b (o : SgK kd A O B sz s p mv ng lv) : 100 ≤ B := o.1.1
theorem SgK.se (o : SgK kd A O B sz s p mv ng lv) : kd (B + 2) = (2, 0, p + 1) := o.2.2.1
theorem SgK.x (o : SgK kd A O B sz s p mv ng lv) : kd (B + 3) = (2, 0, p + 1) := o.2.2.2.1
theorem SgK.y (o : SgK kd A O B sz s p mv ng lv) : kd (B + 4) = (2, 0, p + 1) := o.2.2.2.2.1
theorem SgK.z (o : SgK kd A O B sz s p mv ng lv) : kd (B + 5) = (2, 0, p + 1) := o.2.2.2.2.2.1
theorem SgK.sh (o : SgK kd A O B sz s p mv ng lv) : kd (B + 6) = (6, 2, sz + 3) := o.2.2.2.2.2.2.1
theorem SgK.co (o : SgK kd A O B sz s p mv ng lv) : kd (B + 7) = (6, 2, sz) := o.2.2.2.2.2.2.2.1
theorem SgK.ma (o : SgK kd A O B sz s p mv ng lv) : kd (B + 8) = (6, 2, sz) := o.2.2.2.2.2.2.2.2.1
theorem SgK.po (o : SgK kd A O B sz s p mv ng lv) : kd (B + 9) = (2, 0, 1) := o.2.2.2.2.2.2.2.2.2.1
theorem SgK.mo (o : SgK kd A O B sz s p mv ng lv) : MoK kd A O (B + 10) p mv ng := o.2.2.2.2.2.2.2.2.2.2.1
theorem SgK.nu (o : SgK kd A O B sz s p mv ng lv) : 66 ≤ sz ∧ sz ≤ 256 ∧ p + 1 = (sz + 3) / 4 ∧ 256 ^ (sz - 1) ≤ mv ∧ mv < 256 ^ sz ∧ (s = 0 ∨ (s = 48 ∧ 100 ≤ sz)) := o.2.2.2.2.2.2.2.2.2.2.2
/-- its lengths -/
theorem SgK.db (o : SgK kd A O B sz s p mv ng lv) : esz (bitsN mv) = dbV mv + 49 ∧ (sz = dbV mv + 49 ∨ sz = dbV mv + 50) ∧ s + 1 ≤ dbV mv ∧ s ≤ 48 ∧ (bitsN mv - 1) ≤ 2048 ∧ (bitsN mv - 1 + 7) / 8 = dbV mv + 49 := by
  obtain ⟨h1, h2, h3, h4, h5, h6⟩ := o.nu
  have he := esz_ge h1 h4 h5
  have hd : dbV mv = esz (bitsN mv) - 49 := rfl
  have hz : esz (bitsN mv) = (bitsN mv - 1 + 7) / 8 := rfl
  generalize esz (bitsN mv) = e at *
  generalize bitsN mv - 1 = b at *
  refine ⟨by omega, by omega, by omega, by omega, by omega, by omega⟩
theorem lengthX_ok (g : GX) (w : XW kd A X R S O F h) (o : SgK kd A O B sz s p mv ng lv) : MT g MX15_length ({ frames := 0, cells := 0, slots := 0, locals := 0 } : Room) [.ref (A B)] h (RI fun r h' => r = nI (dbV mv + 49) ∧ h' = h) := by
  refine MT.of (by decide) (Nat.le_of_ble_eq_true rfl) ?_
  obtain ⟨-, -, -, -, hb, hd⟩ := o.db
  refine X_aload_n (pc := 0) 0 dX15_length_0 rfl rfl ?_
  refine X_getfield (pc := 1) dX15_length_1 fg_X15_88_10 (o.ob w) (by first | rfl | assumption) ?_
  refine X_bipush (pc := 4) (x := 7) dX15_length_4 (by decide) ?_
  refine X_iadd (pc := 6) dX15_length_6 ?_
  rw [show nI (bitsN mv - 1) + 7 = nI (bitsN mv - 1 + 7) from nI_add _ 7]
  refine X_bipush (pc := 7) (x := 8) dX15_length_7 (by decide) ?_
  refine X_idiv (pc := 9) dX15_length_9 (by decide) ?_
  rw [show nI (bitsN mv - 1 + 7) / 8 = nI ((bitsN mv - 1 + 7) / 8) from pk_div (d := 8) (by omega) (by decide) (by decide), hd]
  refine X_ireturn (pc := 10) dX15_length_10 rfl (Nat.le_of_ble_eq_true rfl) (Nat.le_of_ble_eq_true rfl) ?_
  exact ⟨_, rfl, rfl, rfl⟩
set_option maxHeartbeats 8000000 in
theorem saltedX_ok (g : GX) (w : XW kd A X R S O F h) (o : SgK kd A O B sz s p mv ng lv) {ki ni fr ks ns at' : Nat} (hki : kd ki = (6, 2, ni)) (hni : ni < 2 ^ 20) (hk8 : ki ≠ 8) (hBi : IsB (S ki)) (hli : fr + 98 ≤ (S ki).length) (hks : kd ks = (6, 2, ns)) (hns : ns < 2 ^ 20) (hs8 : ks ≠ 8) (hsB : ks ≠ B + 8) (hBs : IsB (S ks)) (hls : at' + s ≤ (S ks).length) :
    MT g MX15_salted ({ frames := 4, cells := 0, slots := 0, locals := 108 } : Room) [.ref (A B), .ref (A ki), .int (nI fr), .ref (A ks), .int (nI at')] h
      (RR fun r h' => r = A 8 ∧ ∃ S' F', (∀ j, j ≠ 8 → j ≠ B + 8 → S' j = S j) ∧ XFr F F' ∧ S' 8 = saltH (sub (S ki) fr 98) (sub (S ks) at' s) ∧ XW kd A X R S' O F' h') := by
  refine MT.of (by decide) (Nat.le_of_ble_eq_true rfl) ?_
  have hB := o.b
  obtain ⟨h66, h256, -, -, -, -⟩ := o.nu
  obtain ⟨-, -, -, hs48, -, -⟩ := o.db
  generalize hQ : (RR fun r h' => r = A 8 ∧ ∃ S' F', (∀ j, j ≠ 8 → j ≠ B + 8 → S' j = S j) ∧ XFr F F' ∧ S' 8 = saltH (sub (S ki) fr 98) (sub (S ks) at' s) ∧ XW kd A X R S' O F' h') = Q
  have t0 : (0 : Int32).toInt8.toInt32 = tb 0 := by decide
  refine X_aload_n (pc := 0) 0 dX15_salted_0 rfl rfl ?_
  refine X_getfield (pc := 1) dX15_salted_1 fg_X15_9_10 (o.ob w) (by first | rfl | assumption) ?_
  refine X_ivr (pc := 4) _ dX15_salted_4 cv_X15_91_2 (XW.dL w) rfl (xbeginL_ok g w) nX2_begin (Nat.le_of_ble_eq_true rfl) (Nat.le_of_ble_eq_true rfl) (Nat.le_of_ble_eq_true rfl) (Nat.le_of_ble_eq_true rfl) (fun r1 h1 q1 => ?_)
  obtain ⟨rfl, d1⟩ := q1
  refine X_aload_n (pc := 7) 1 dX15_salted_7 rfl rfl ?_
  refine X_iload_n (pc := 8) 2 dX15_salted_8 rfl rfl ?_
  refine X_bipush (pc := 9) (x := 98) dX15_salted_9 (by decide) ?_
  refine X_ivr (pc := 11) _ dX15_salted_11 cv_X15_97_2 (XW.dL d1.1) rfl (xputsL_ok g d1 (n := 98) hki (by omega) hBi hli (by decide)) nX2_put (Nat.le_of_ble_eq_true rfl) (Nat.le_of_ble_eq_true rfl) (Nat.le_of_ble_eq_true rfl) (Nat.le_of_ble_eq_true rfl) (fun r2 h2 q2 => ?_)
  obtain ⟨rfl, d2⟩ := q2
  rw [List.nil_append] at d2
  refine X_ivr (pc := 14) _ dX15_salted_14 cv_X15_103_2 (XW.dL d2.1) rfl (endL_ok g d2 (by rw [sub_len]; decide)) nX2_end (Nat.le_of_ble_eq_true rfl) (Nat.le_of_ble_eq_true rfl) (Nat.le_of_ble_eq_true rfl) (Nat.le_of_ble_eq_true rfl) (fun r3 h3 q3 => ?_)
  obtain ⟨rfl, F3, f3, w3⟩ := q3
  generalize hin : sub (S ki) fr 98 = inp at *
  have hol : (sha384 inp).length = 48 := sha384_len _
  obtain ⟨f8, c8, p8, -⟩ := w3.s 8 (w3.k 8 (by decide))
  obtain ⟨fm, cm, pm, -⟩ := w3.s (B + 8) o.ma
  refine X_iconst (pc := 17) (x := 0) dX15_salted_17 (by decide) ?_
  refine X_aload_n (pc := 18) 0 dX15_salted_18 rfl rfl ?_
  refine X_getfield (pc := 19) dX15_salted_19 fg_X15_79_10 (o.ob w3) (by first | rfl | assumption) ?_
  refine X_iconst (pc := 22) (x := 0) dX15_salted_22 (by decide) ?_
  refine X_bipush (pc := 23) (x := 48) dX15_salted_23 (by decide) ?_
  refine X_copyI (pc := 25) (0) (0) (48) dX15_salted_25 q753 (Or.inr rfl) c8 cm rfl rfl rfl (by omega) (by omega) ⟨by omega, by omega⟩ (Nat.le_of_ble_eq_true rfl) (Nat.le_of_ble_eq_true rfl) ?_
  have w4 := w3.cpy (ks := 8) (ns := 48) (sN := 0) (dN := 0) (n := 48) o.ma p8 pm (Nat.zero_le _) (by rw [up_same, hol]; decide) (by omega)
  rw [up_same, List.take_zero, List.nil_append, sub_all hol] at w4
  generalize hset h3 (A (B + 8)) _ = h4 at w4 ⊢
  have hmL : up (up S 8 (sha384 inp)) (B + 8) (sha384 inp) (B + 8) = sha384 inp := up_same _ _ _
  have hsL : up (up S 8 (sha384 inp)) (B + 8) (sha384 inp) ks = S ks := by rw [up_ne hsB, up_ne hs8]
  have hfr : ∀ j, j ≠ 8 → j ≠ B + 8 → up (up S 8 (sha384 inp)) (B + 8) (sha384 inp) j = S j := fun j a b => by rw [up_ne b, up_ne a]
  generalize up (up S 8 (sha384 inp)) (B + 8) (sha384 inp) = S4 at w4 hmL hsL hfr
  have tail : ∀ h5, DL kd A X R S4 O F3 (List.replicate 8 (tb 0)) h5 → XX g MX15_salted ({ frames := 4, cells := 0, slots := 0, locals := 108 } : Room) Q 0 0 61 [(5, .int (nI 8)), (0, .ref (A B)), (1, .ref (A ki)), (2, .int (nI fr)), (3, .ref (A ks)), (4, .int (nI at'))] [] h5 := by
    intro h5 d5
    refine X_aload_n (pc := 61) 1 dX15_salted_61 rfl rfl ?_
    refine X_getfield (pc := 62) dX15_salted_62 fg_X15_9_10 (o.ob d5.1) (by first | rfl | assumption) ?_
    refine X_aload_n (pc := 65) 1 dX15_salted_65 rfl rfl ?_
    refine X_getfield (pc := 66) dX15_salted_66 fg_X15_79_10 (o.ob d5.1) (by first | rfl | assumption) ?_
    refine X_iconst (pc := 69) (x := 0) dX15_salted_69 (by decide) ?_
    refine X_bipush (pc := 70) (x := 48) dX15_salted_70 (by decide) ?_
    refine X_ivr (pc := 72) _ dX15_salted_72 cv_X15_110_2 (XW.dL d5.1) rfl (xputsL_ok g d5 (ks := B + 8) (fr := 0) (n := 48) o.ma (by omega) (by rw [hmL]; exact sha384_B _) (by rw [hmL, hol]; decide) (by rw [List.length_replicate]; decide)) nX2_put (Nat.le_of_ble_eq_true rfl) (Nat.le_of_ble_eq_true rfl) (Nat.le_of_ble_eq_true rfl) (Nat.le_of_ble_eq_true rfl) (fun r6 h6 q6 => ?_)
    obtain ⟨rfl, d6⟩ := q6
    rw [hmL, sub_all hol] at d6
    refine X_aload_n (pc := 75) 4 dX15_salted_75 rfl rfl ?_
    refine X_iload (pc := 76) 5 dX15_salted_76 rfl ?_
    refine X_aload_n (pc := 78) 1 dX15_salted_78 rfl rfl ?_
    refine X_getfield (pc := 79) dX15_salted_79 fg_X15_23_10 (o.ob d6.1) (by first | rfl | assumption) ?_
    refine X_ivr (pc := 82) _ dX15_salted_82 cv_X15_97_2 (XW.dL d6.1) rfl (xputsL_ok g d6 (n := s) hks (by omega) (by rw [hsL]; exact hBs) (by rw [hsL]; exact hls) (by rw [List.length_append, List.length_replicate, hol]; omega)) nX2_put (Nat.le_of_ble_eq_true rfl) (Nat.le_of_ble_eq_true rfl) (Nat.le_of_ble_eq_true rfl) (Nat.le_of_ble_eq_true rfl) (fun r7 h7 q7 => ?_)
    obtain ⟨rfl, d7⟩ := q7
    rw [hsL] at d7
    refine X_ivr (pc := 85) _ dX15_salted_85 cv_X15_103_2 (XW.dL d7.1) rfl (endL_ok g d7 (by rw [List.length_append, List.length_append, List.length_replicate, hol, sub_len]; omega)) nX2_end (Nat.le_of_ble_eq_true rfl) (Nat.le_of_ble_eq_true rfl) (Nat.le_of_ble_eq_true rfl) (Nat.le_of_ble_eq_true rfl) (fun r8 h8 q8 => ?_)
    obtain ⟨rfl, F8, f8', w8⟩ := q8
    subst hQ
    refine X_aret (pc := 88) dX15_salted_88 rfl (by first | exact Or.inl ⟨_, rfl⟩ | exact Or.inr ⟨_, rfl⟩) (Or.inr ⟨_, rfl⟩) (Nat.le_of_ble_eq_true rfl) (Nat.le_of_ble_eq_true rfl) ?_
    exact ⟨_, rfl, rfl, _, F8, fun j a b => by rw [up_ne a]; exact hfr j a b, XFr.trans f3 f8', up_same _ _ _, w8⟩
  have loop : ∀ m i, i + m = 8 → ∀ h5, DL kd A X R S4 O F3 (List.replicate i (tb 0)) h5 → XX g MX15_salted ({ frames := 4, cells := 0, slots := 0, locals := 108 } : Room) Q 0 0 39 [(5, .int (nI i)), (0, .ref (A B)), (1, .ref (A ki)), (2, .int (nI fr)), (3, .ref (A ks)), (4, .int (nI at'))] [] h5 := by
    intro m
    induction m with
    | zero =>
      intro i hi h5 d5
      have e : i = 8 := by omega
      subst e
      refine X_iload (pc := 39) 0 dX15_salted_39 rfl ?_
      refine X_bipush (pc := 41) (x := 8) dX15_salted_41 (by decide) ?_
      refine X_cge (a := 8) (b := 8) (pc := 43) 61 dX15_salted_43 (by decide) (by omega) (by omega) (fun _ => ?_) (fun c => absurd c (by omega))
      exact tail h5 d5
    | succ m ih =>
      intro i hi h5 d5
      refine X_iload (pc := 39) 0 dX15_salted_39 rfl ?_
      refine X_bipush (pc := 41) (x := 8) dX15_salted_41 (by decide) ?_
      refine X_cge (b := 8) (pc := 43) 61 dX15_salted_43 (by decide) (by omega) (by omega) (fun c => absurd c (by omega)) (fun _ => ?_)
      refine X_aload_n (pc := 46) 1 dX15_salted_46 rfl rfl ?_
      refine X_getfield (pc := 47) dX15_salted_47 fg_X15_9_10 (o.ob d5.1) (by first | rfl | assumption) ?_
      refine X_iconst (pc := 50) (x := 0) dX15_salted_50 (by decide) ?_
      refine X_ivr (pc := 51) _ dX15_salted_51 cv_X15_107_2 (XW.dL d5.1) rfl (xputL_ok g d5 0 (by rw [List.length_replicate]; omega)) nX2_put_2 (Nat.le_of_ble_eq_true rfl) (Nat.le_of_ble_eq_true rfl) (Nat.le_of_ble_eq_true rfl) (Nat.le_of_ble_eq_true rfl) (fun r6 h6 q6 => ?_)
      obtain ⟨rfl, d6⟩ := q6
      rw [t0, ← List.replicate_succ'] at d6
      refine X_pop (pc := 54) dX15_salted_54 rfl ?_
      refine X_iinc (pc := 55) (L' := [(5, .int (_ + 1)), (0, .ref _), (1, .ref _), (2, .int _), (3, .ref _), (4, .int _)]) 0 dX15_salted_55 rfl rfl (Nat.le_of_ble_eq_true rfl) rfl ?_
      refine X_goto (pc := 58) 39 dX15_salted_58 (by decide) ?_
      rw [show nI i + 1 = nI (i + 1) from nI_add i 1]
      exact ih (i + 1) (by omega) h6 d6
  refine X_aload_n (pc := 28) 0 dX15_salted_28 rfl rfl ?_
  refine X_getfield (pc := 29) dX15_salted_29 fg_X15_9_10 (o.ob w4) (by first | rfl | assumption) ?_
  refine X_ivr (pc := 32) _ dX15_salted_32 cv_X15_91_2 (XW.dL w4) rfl (xbeginL_ok g w4) nX2_begin (Nat.le_of_ble_eq_true rfl) (Nat.le_of_ble_eq_true rfl) (Nat.le_of_ble_eq_true rfl) (Nat.le_of_ble_eq_true rfl) (fun r5 h5 q5 => ?_)
  obtain ⟨rfl, d5⟩ := q5
  refine X_pop (pc := 35) dX15_salted_35 rfl ?_
  refine X_iconst (pc := 36) (x := 0) dX15_salted_36 (by decide) ?_
  refine X_istore (pc := 37) (L' := [(5, .int _), (0, .ref _), (1, .ref _), (2, .int _), (3, .ref _), (4, .int _)]) dX15_salted_37 (Nat.le_of_ble_eq_true rfl) rfl ?_
  exact loop 8 0 (by omega) h5 d5
end XSg
