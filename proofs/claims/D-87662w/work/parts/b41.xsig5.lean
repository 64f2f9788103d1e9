set_option maxRecDepth 100000
/-! VeilMint's keys of the second type: judging, signing, finishing -/
section XSg5
variable {kd : Nat → KD} {A : Nat → Nat} {X : AH} {R : Nat → Nat} {S : Nat → List Int32} {O : Nat → AC} {F : Nat → Int32} {h : AH} {B sz s p mv : Nat} {ng lv : Int32} {g : GX} {b : Nat}
theorem SgK.odd (o : SgK kd A O B sz s p mv ng lv) : mv % 2 = 1 := o.mo.odd
theorem SgK.big (o : SgK kd A O B sz s p mv ng lv) : 1 < mv := o.mo.big
/-- whether a number is a right signature -/
noncomputable def rgt (mv e s : Nat) (inp : List Int32) (v : Nat) : Prop := v < mv ∧ sgOk inp (v ^ e % mv) (dbV mv) s (clr (bitsN mv))
set_option maxHeartbeats 8000000 in
theorem isRightG_ok (w : XW kd A X R S O F h) (o : SgK kd A O B sz s p mv ng lv) {ki ni fr kp np at' : Nat} (hki : kd ki = (6, 2, ni)) (hni : ni < 2 ^ 20) (hk8 : ki ≠ 8) (hk7 : ki ≠ B + 7) (hkb : ki ≠ B + 8) (hBi : IsB (S ki)) (hli : fr + 98 ≤ (S ki).length) (hkp : kd kp = (6, 2, np)) (hnp : np < 2 ^ 20) (hlp : at' + sz ≤ (S kp).length) :
    MT g MX15_isRight ({ frames := 6, cells := 2, slots := 320, locals := 165 } : Room) [.ref (A B), .ref (A ki), .int (nI fr), .ref (A kp), .int (nI at')] h
      (RI fun r h' => ((r = 1 ∧ rgt mv (R (B + 9)) s (sub (S ki) fr 98) (num (S kp) at' sz)) ∨ (r = 0 ∧ ¬ rgt mv (R (B + 9)) s (sub (S ki) fr 98) (num (S kp) at' sz))) ∧ ∃ R' S' F', (∀ j, j ≠ B + 3 → j ≠ B + 5 → R' j = R j) ∧ (∀ j, j ≠ 8 → j ≠ B + 7 → j ≠ B + 8 → S' j = S j) ∧ XFr F F' ∧ XW kd A X R' S' O F' h') := by
  refine MT.of (by decide) (Nat.le_of_ble_eq_true rfl) ?_
  have hB := o.b
  obtain ⟨h66, h256, hp, -, hmz, -⟩ := o.nu
  have hodd := o.odd
  have hbig := o.big
  have rd := xreadW g w o.mo (B + 3) o.x (kb := kp) (nb := np) (fr := at') (many := sz) hkp (by omega) hlp (by omega)
  generalize hv : num (S kp) at' sz = v at *
  generalize hin : sub (S ki) fr 98 = inp
  generalize hcond : rgt mv (R (B + 9)) s inp v = cond
  generalize hQ : (RI fun r h' => ((r = 1 ∧ cond) ∨ (r = 0 ∧ ¬ cond)) ∧ ∃ R' S' F', (∀ j, j ≠ B + 3 → j ≠ B + 5 → R' j = R j) ∧ (∀ j, j ≠ 8 → j ≠ B + 7 → j ≠ B + 8 → S' j = S j) ∧ XFr F F' ∧ XW kd A X R' S' O F' h') = Q
  refine X_aload_n (pc := 0) 0 dX15_isRight_0 rfl rfl ?_
  refine X_getfield (pc := 1) dX15_isRight_1 fg_X15_38_10 (o.ob w) (by first | rfl | assumption) ?_
  refine X_aload_n (pc := 4) 3 dX15_isRight_4 rfl rfl ?_
  refine X_iload (pc := 5) 4 dX15_isRight_5 rfl ?_
  refine X_aload_n (pc := 7) 0 dX15_isRight_7 rfl rfl ?_
  refine X_getfield (pc := 8) dX15_isRight_8 fg_X15_19_10 (o.ob w) (by first | rfl | assumption) ?_
  refine X_aload_n (pc := 11) 0 dX15_isRight_11 rfl rfl ?_
  refine X_getfield (pc := 12) dX15_isRight_12 fg_X15_57_10 (o.ob w) (by first | rfl | assumption) ?_
  refine X_ivi (pc := 15) _ dX15_isRight_15 cv_X15_49_4 (MoK.ob o.mo w) rfl (rd) nX6_read (Nat.le_of_ble_eq_true rfl) (Nat.le_of_ble_eq_true rfl) (Nat.le_of_ble_eq_true rfl) (Nat.le_of_ble_eq_true rfl) (fun r1 h1 q1 => ?_)
  obtain ⟨er, q1⟩ := q1
  obtain ⟨R1, x1, o1, w1⟩ := XW.ab q1
  by_cases cv : v < mv
  · rw [if_pos cv] at er
    subst er
    refine X_if_ne (pc := 18) 23 dX15_isRight_18 (by decide) (fun _ => ?_) (fun c => absurd c (by decide))
    have op1 := OpX.n2 w1 (B + 3) o.x
    rw [x1] at op1
    refine X_aload_n (pc := 23) 0 dX15_isRight_23 rfl rfl ?_
    refine X_getfield (pc := 24) dX15_isRight_24 fg_X15_38_10 (o.ob w1) (by first | rfl | assumption) ?_
    refine X_aload_n (pc := 27) 0 dX15_isRight_27 rfl rfl ?_
    refine X_getfield (pc := 28) dX15_isRight_28 fg_X15_57_10 (o.ob w1) (by first | rfl | assumption) ?_
    refine X_aload_n (pc := 31) 0 dX15_isRight_31 rfl rfl ?_
    refine X_getfield (pc := 32) dX15_isRight_32 fg_X15_57_10 (o.ob w1) (by first | rfl | assumption) ?_
    refine X_ivv (pc := 35) _ dX15_isRight_35 cv_X15_137_4 (MoK.ob o.mo w1) rfl (xinW g w1 o.mo (B + 3) (St.q o.x) op1) nX6_in (Nat.le_of_ble_eq_true rfl) (Nat.le_of_ble_eq_true rfl) (Nat.le_of_ble_eq_true rfl) (Nat.le_of_ble_eq_true rfl) (fun h2 q2 => ?_)
    obtain ⟨R2, x2, o2, w2⟩ := XW.ab q2
    have op2 := OpX.n2 w2 (B + 3) o.x
    rw [x2] at op2
    have e9 : R2 (B + 9) = R (B + 9) := by rw [o2 _ (by omega), o1 _ (by omega)]
    have oe2 : OpE kd A X R2 S O F (fun j => j == B + 5) (A (B + 9)) 1 (R (B + 9)) := by
      rw [← e9]
      exact OpE.g (mv := mv) (St.q o.po) (by rw [beq_eq_false_iff_ne]; omega)
    refine X_aload_n (pc := 38) 0 dX15_isRight_38 rfl rfl ?_
    refine X_getfield (pc := 39) dX15_isRight_39 fg_X15_38_10 (o.ob w2) (by first | rfl | assumption) ?_
    refine X_aload_n (pc := 42) 0 dX15_isRight_42 rfl rfl ?_
    refine X_getfield (pc := 43) dX15_isRight_43 fg_X15_57_10 (o.ob w2) (by first | rfl | assumption) ?_
    refine X_aload_n (pc := 46) 0 dX15_isRight_46 rfl rfl ?_
    refine X_getfield (pc := 47) dX15_isRight_47 fg_X15_42_10 (o.ob w2) (by first | rfl | assumption) ?_
    refine X_aload_n (pc := 50) 0 dX15_isRight_50 rfl rfl ?_
    refine X_getfield (pc := 51) dX15_isRight_51 fg_X15_63_10 (o.ob w2) (by first | rfl | assumption) ?_
    refine X_ivv (pc := 54) _ dX15_isRight_54 cv_X15_141_4 (MoK.ob o.mo w2) rfl (xpowW g w2 o.mo (B + 5) (St.q o.z) op2 (Nat.mod_lt _ (by omega)) oe2 (by decide)) nX6_pow (Nat.le_of_ble_eq_true rfl) (Nat.le_of_ble_eq_true rfl) (Nat.le_of_ble_eq_true rfl) (Nat.le_of_ble_eq_true rfl) (fun h3 q3 => ?_)
    rw [mgm_of hodd, Nat.mod_eq_of_lt cv] at q3
    obtain ⟨R3, z3, o3, w3⟩ := XW.ab q3
    have op3 := OpX.n2 w3 (B + 5) o.z
    rw [z3] at op3
    refine X_aload_n (pc := 57) 0 dX15_isRight_57 rfl rfl ?_
    refine X_getfield (pc := 58) dX15_isRight_58 fg_X15_38_10 (o.ob w3) (by first | rfl | assumption) ?_
    refine X_aload_n (pc := 61) 0 dX15_isRight_61 rfl rfl ?_
    refine X_getfield (pc := 62) dX15_isRight_62 fg_X15_63_10 (o.ob w3) (by first | rfl | assumption) ?_
    refine X_aload_n (pc := 65) 0 dX15_isRight_65 rfl rfl ?_
    refine X_getfield (pc := 66) dX15_isRight_66 fg_X15_63_10 (o.ob w3) (by first | rfl | assumption) ?_
    refine X_ivv (pc := 69) _ dX15_isRight_69 cv_X15_148_4 (MoK.ob o.mo w3) rfl (xfromW g w3 o.mo (B + 5) (St.q o.z) op3) nX6_from (Nat.le_of_ble_eq_true rfl) (Nat.le_of_ble_eq_true rfl) (Nat.le_of_ble_eq_true rfl) (Nat.le_of_ble_eq_true rfl) (fun h4 q4 => ?_)
    rw [mgm_of hodd] at q4
    obtain ⟨R4, z4, o4, w4⟩ := XW.ab q4
    have ic := isCodeX_ok g w4 o z4 (Nat.lt_trans (Nat.mod_lt _ (by omega)) hmz) hki hni hk8 hk7 hkb hBi hli
    rw [hin] at ic
    have hc2 : cond ↔ sgOk inp (v ^ R (B + 9) % mv) (dbV mv) s (clr (bitsN mv)) := by rw [← hcond]; exact ⟨fun z => z.2, fun z => ⟨cv, z⟩⟩
    refine X_aload_n (pc := 72) 0 dX15_isRight_72 rfl rfl ?_
    refine X_aload_n (pc := 73) 1 dX15_isRight_73 rfl rfl ?_
    refine X_iload_n (pc := 74) 2 dX15_isRight_74 rfl rfl ?_
    refine X_ivi (pc := 75) _ dX15_isRight_75 cv_X15_167_10 (o.ob w4) rfl (ic) nX15_isCode (Nat.le_of_ble_eq_true rfl) (Nat.le_of_ble_eq_true rfl) (Nat.le_of_ble_eq_true rfl) (Nat.le_of_ble_eq_true rfl) (fun r5 h5 q5 => ?_)
    obtain ⟨hr, S5, F5, fS, fF, w5⟩ := q5
    have fR : ∀ j, j ≠ B + 3 → j ≠ B + 5 → R4 j = R j := fun j a b => by rw [o4 j b, o3 j b, o2 j a, o1 j a]
    subst hQ
    rcases hr with ⟨rfl, hr⟩ | ⟨rfl, hr⟩
    · refine X_zreturn (pc := 78) dX15_isRight_78 rfl (by first | exact Or.inl rfl | exact Or.inr rfl | assumption | exact zo_if) (Nat.le_of_ble_eq_true rfl) (Nat.le_of_ble_eq_true rfl) ?_
      exact ⟨1, rfl, Or.inl ⟨rfl, hc2.mpr hr⟩, R4, S5, F5, fR, fS, fF, w5⟩
    · refine X_zreturn (pc := 78) dX15_isRight_78 rfl (by first | exact Or.inl rfl | exact Or.inr rfl | assumption | exact zo_if) (Nat.le_of_ble_eq_true rfl) (Nat.le_of_ble_eq_true rfl) ?_
      exact ⟨0, rfl, Or.inr ⟨rfl, fun z => hr (hc2.mp z)⟩, R4, S5, F5, fR, fS, fF, w5⟩
  · rw [if_neg cv] at er
    subst er
    refine X_if_ne (pc := 18) 23 dX15_isRight_18 (by decide) (fun c => absurd rfl c) (fun _ => ?_)
    refine X_iconst (pc := 21) (x := 0) dX15_isRight_21 (by decide) ?_
    subst hQ
    refine X_zreturn (pc := 22) dX15_isRight_22 rfl (by first | exact Or.inl rfl | exact Or.inr rfl | assumption | exact zo_if) (Nat.le_of_ble_eq_true rfl) (Nat.le_of_ble_eq_true rfl) ?_
    exact ⟨0, rfl, Or.inr ⟨rfl, by rw [← hcond]; exact fun z => cv z.1⟩, R1, S, F, fun j a _ => o1 j a, fun _ _ _ _ => rfl, fun _ _ _ => rfl, w1⟩
set_option maxHeartbeats 8000000 in
theorem issuesG_ok (w : XW kd A X R S O F h) (o : SgK kd A O B sz s p mv ng lv) {many : Int32} (hl : 3 + sz ≤ (S 56).length) :
    MT g MX15_issues ({ frames := 5, cells := 2, slots := 128, locals := 120 } : Room) [.ref (A B), .ref (A 56), .int 3, .int many, .ref (A 58)] h
      (TW (A 50) (RV fun h' => (num (S 56) 3 sz < mv ∧ (num (S 56) 3 sz ^ R (B + 2) % mv) ^ R (B + 9) % mv = num (S 56) 3 sz) ∧ ∃ R' S' F', FrO B R R' S S' F F' ∧ S' 58 = byN (num (S 56) 3 sz ^ R (B + 2) % mv) sz ∧ XW kd A X R' S' O F' h')
        (fun h' => ¬ (num (S 56) 3 sz < mv ∧ (num (S 56) 3 sz ^ R (B + 2) % mv) ^ R (B + 9) % mv = num (S 56) 3 sz) ∧ BadO kd A X R S O F B h')) := by
  refine MT.of (by decide) (Nat.le_of_ble_eq_true rfl) ?_
  have hB := o.b
  obtain ⟨h66, h256, hp, -, hmz, -⟩ := o.nu
  have hodd := o.odd
  have hbig := o.big
  have rd := xreadW g w o.mo (B + 3) o.x (kb := 56) (nb := 1200) (fr := 3) (many := sz) (w.k 56 (by decide)) (by decide) hl (by omega)
  generalize hv : num (S 56) 3 sz = v at *
  generalize hQ : TW (A 50) _ _ = Q
  refine X_aload_n (pc := 0) 0 dX15_issues_0 rfl rfl ?_
  refine X_getfield (pc := 1) dX15_issues_1 fg_X15_38_10 (o.ob w) (by first | rfl | assumption) ?_
  refine X_aload_n (pc := 4) 1 dX15_issues_4 rfl rfl ?_
  refine X_iload_n (pc := 5) 2 dX15_issues_5 rfl rfl ?_
  refine X_aload_n (pc := 6) 0 dX15_issues_6 rfl rfl ?_
  refine X_getfield (pc := 7) dX15_issues_7 fg_X15_19_10 (o.ob w) (by first | rfl | assumption) ?_
  refine X_aload_n (pc := 10) 0 dX15_issues_10 rfl rfl ?_
  refine X_getfield (pc := 11) dX15_issues_11 fg_X15_57_10 (o.ob w) (by first | rfl | assumption) ?_
  refine X_ivi (pc := 14) _ dX15_issues_14 cv_X15_49_4 (MoK.ob o.mo w) rfl (rd) nX6_read (Nat.le_of_ble_eq_true rfl) (Nat.le_of_ble_eq_true rfl) (Nat.le_of_ble_eq_true rfl) (Nat.le_of_ble_eq_true rfl) (fun r1 h1 q1 => ?_)
  obtain ⟨er, q1⟩ := q1
  obtain ⟨R1, x1, o1, w1⟩ := XW.ab q1
  by_cases cv : v < mv
  · rw [if_pos cv] at er
    subst er
    refine X_if_ne (pc := 17) 30 dX15_issues_17 (by decide) (fun _ => ?_) (fun c => absurd c (by decide))
    have op1 := OpX.n2 w1 (B + 3) o.x
    rw [x1] at op1
    refine X_aload_n (pc := 30) 0 dX15_issues_30 rfl rfl ?_
    refine X_getfield (pc := 31) dX15_issues_31 fg_X15_38_10 (o.ob w1) (by first | rfl | assumption) ?_
    refine X_aload_n (pc := 34) 0 dX15_issues_34 rfl rfl ?_
    refine X_getfield (pc := 35) dX15_issues_35 fg_X15_57_10 (o.ob w1) (by first | rfl | assumption) ?_
    refine X_aload_n (pc := 38) 0 dX15_issues_38 rfl rfl ?_
    refine X_getfield (pc := 39) dX15_issues_39 fg_X15_60_10 (o.ob w1) (by first | rfl | assumption) ?_
    refine X_ivv (pc := 42) _ dX15_issues_42 cv_X15_137_4 (MoK.ob o.mo w1) rfl (xinW g w1 o.mo (B + 4) (St.q o.y) op1) nX6_in (Nat.le_of_ble_eq_true rfl) (Nat.le_of_ble_eq_true rfl) (Nat.le_of_ble_eq_true rfl) (Nat.le_of_ble_eq_true rfl) (fun h2 q2 => ?_)
    obtain ⟨R2, y2, o2, w2⟩ := XW.ab q2
    have op2 := OpX.n2 w2 (B + 4) o.y
    rw [y2] at op2
    have e2 : R2 (B + 2) = R (B + 2) := by rw [o2 _ (by omega), o1 _ (by omega)]
    have oe2 : OpE kd A X R2 S O F (fun j => j == B + 5) (A (B + 2)) (p + 1) (R (B + 2)) := by
      rw [← e2]
      exact OpE.g (mv := mv) (St.q o.se) (by rw [beq_eq_false_iff_ne]; omega)
    refine X_aload_n (pc := 45) 0 dX15_issues_45 rfl rfl ?_
    refine X_getfield (pc := 46) dX15_issues_46 fg_X15_38_10 (o.ob w2) (by first | rfl | assumption) ?_
    refine X_aload_n (pc := 49) 0 dX15_issues_49 rfl rfl ?_
    refine X_getfield (pc := 50) dX15_issues_50 fg_X15_60_10 (o.ob w2) (by first | rfl | assumption) ?_
    refine X_aload_n (pc := 53) 0 dX15_issues_53 rfl rfl ?_
    refine X_getfield (pc := 54) dX15_issues_54 fg_X15_46_10 (o.ob w2) (by first | rfl | assumption) ?_
    refine X_aload_n (pc := 57) 0 dX15_issues_57 rfl rfl ?_
    refine X_getfield (pc := 58) dX15_issues_58 fg_X15_63_10 (o.ob w2) (by first | rfl | assumption) ?_
    refine X_ivv (pc := 61) _ dX15_issues_61 cv_X15_141_4 (MoK.ob o.mo w2) rfl (xpowW g w2 o.mo (B + 5) (St.q o.z) op2 (Nat.mod_lt _ (by omega)) oe2 (by omega)) nX6_pow (Nat.le_of_ble_eq_true rfl) (Nat.le_of_ble_eq_true rfl) (Nat.le_of_ble_eq_true rfl) (Nat.le_of_ble_eq_true rfl) (fun h3 q3 => ?_)
    rw [mgm_of hodd, Nat.mod_eq_of_lt cv] at q3
    obtain ⟨R3, z3, o3, w3⟩ := XW.ab q3
    have op3 := OpX.n2 w3 (B + 5) o.z
    rw [z3] at op3
    have e9 : R3 (B + 9) = R (B + 9) := by rw [o3 _ (by omega), o2 _ (by omega), o1 _ (by omega)]
    have oe3 : OpE kd A X R3 S O F (fun j => j == B + 4) (A (B + 9)) 1 (R (B + 9)) := by
      rw [← e9]
      exact OpE.g (mv := mv) (St.q o.po) (by rw [beq_eq_false_iff_ne]; omega)
    refine X_aload_n (pc := 64) 0 dX15_issues_64 rfl rfl ?_
    refine X_getfield (pc := 65) dX15_issues_65 fg_X15_38_10 (o.ob w3) (by first | rfl | assumption) ?_
    refine X_aload_n (pc := 68) 0 dX15_issues_68 rfl rfl ?_
    refine X_getfield (pc := 69) dX15_issues_69 fg_X15_63_10 (o.ob w3) (by first | rfl | assumption) ?_
    refine X_aload_n (pc := 72) 0 dX15_issues_72 rfl rfl ?_
    refine X_getfield (pc := 73) dX15_issues_73 fg_X15_42_10 (o.ob w3) (by first | rfl | assumption) ?_
    refine X_aload_n (pc := 76) 0 dX15_issues_76 rfl rfl ?_
    refine X_getfield (pc := 77) dX15_issues_77 fg_X15_60_10 (o.ob w3) (by first | rfl | assumption) ?_
    refine X_ivv (pc := 80) _ dX15_issues_80 cv_X15_141_4 (MoK.ob o.mo w3) rfl (xpowW g w3 o.mo (B + 4) (St.q o.y) op3 (Nat.mod_lt _ (by omega)) oe3 (by decide)) nX6_pow (Nat.le_of_ble_eq_true rfl) (Nat.le_of_ble_eq_true rfl) (Nat.le_of_ble_eq_true rfl) (Nat.le_of_ble_eq_true rfl) (fun h4 q4 => ?_)
    rw [mgm_of hodd] at q4
    obtain ⟨R4, y4, o4, w4⟩ := XW.ab q4
    have op4 := OpX.n2 w4 (B + 4) o.y
    rw [y4] at op4
    refine X_aload_n (pc := 83) 0 dX15_issues_83 rfl rfl ?_
    refine X_getfield (pc := 84) dX15_issues_84 fg_X15_38_10 (o.ob w4) (by first | rfl | assumption) ?_
    refine X_aload_n (pc := 87) 0 dX15_issues_87 rfl rfl ?_
    refine X_getfield (pc := 88) dX15_issues_88 fg_X15_60_10 (o.ob w4) (by first | rfl | assumption) ?_
    refine X_aload_n (pc := 91) 0 dX15_issues_91 rfl rfl ?_
    refine X_getfield (pc := 92) dX15_issues_92 fg_X15_60_10 (o.ob w4) (by first | rfl | assumption) ?_
    refine X_ivv (pc := 95) _ dX15_issues_95 cv_X15_148_4 (MoK.ob o.mo w4) rfl (xfromW g w4 o.mo (B + 4) (St.q o.y) op4) nX6_from (Nat.le_of_ble_eq_true rfl) (Nat.le_of_ble_eq_true rfl) (Nat.le_of_ble_eq_true rfl) (Nat.le_of_ble_eq_true rfl) (fun h5 q5 => ?_)
    rw [mgm_of hodd] at q5
    obtain ⟨R5, y5, o5, w5⟩ := XW.ab q5
    have opy := OpX.n2 w5 (B + 4) o.y
    rw [y5] at opy
    have opx := OpX.n2 w5 (B + 3) o.x
    rw [o5 _ (by omega), o4 _ (by omega), o3 _ (by omega), o2 _ (by omega), x1] at opx
    have fr5 : FrO B R R5 S S F F := ⟨fun j hj => by have a := obR_ne hj; rw [o5 _ (by omega), o4 _ (by omega), o3 _ (by omega), o2 _ (by omega), o1 _ (by omega)], fun _ _ => rfl, fun _ _ _ _ => rfl⟩
    refine X_aload_n (pc := 98) 0 dX15_issues_98 rfl rfl ?_
    refine X_getfield (pc := 99) dX15_issues_99 fg_X15_57_10 (o.ob w5) (by first | rfl | assumption) ?_
    refine X_aload_n (pc := 102) 0 dX15_issues_102 rfl rfl ?_
    refine X_getfield (pc := 103) dX15_issues_103 fg_X15_60_10 (o.ob w5) (by first | rfl | assumption) ?_
    refine X_isi (pc := 106) _ dX15_issues_106 cs_X15_151 rfl (xcmpW g opx opy (by omega)) nX6_compare (Nat.le_of_ble_eq_true rfl) (Nat.le_of_ble_eq_true rfl) (Nat.le_of_ble_eq_true rfl) (Nat.le_of_ble_eq_true rfl) (fun r6 h6 q6 => ?_)
    obtain ⟨er6, rfl⟩ := q6
    by_cases ce : v = (v ^ R (B + 2) % mv) ^ R (B + 9) % mv
    · rw [cmpN_eq0.mpr ce] at er6
      subst er6
      refine X_if_eq (pc := 109) 122 dX15_issues_109 (by decide) (fun _ => ?_) (fun q => absurd rfl q)
      have op6 := OpX.n2 w5 (B + 5) o.z
      rw [o5 _ (by omega), o4 _ (by omega), z3] at op6
      refine X_aload_n (pc := 122) 0 dX15_issues_122 rfl rfl ?_
      refine X_getfield (pc := 123) dX15_issues_123 fg_X15_38_10 (o.ob w5) (by first | rfl | assumption) ?_
      refine X_aload_n (pc := 126) 0 dX15_issues_126 rfl rfl ?_
      refine X_getfield (pc := 127) dX15_issues_127 fg_X15_63_10 (o.ob w5) (by first | rfl | assumption) ?_
      refine X_aload_n (pc := 130) 0 dX15_issues_130 rfl rfl ?_
      refine X_getfield (pc := 131) dX15_issues_131 fg_X15_63_10 (o.ob w5) (by first | rfl | assumption) ?_
      refine X_ivv (pc := 134) _ dX15_issues_134 cv_X15_148_4 (MoK.ob o.mo w5) rfl (xfromW g w5 o.mo (B + 5) (St.q o.z) op6) nX6_from (Nat.le_of_ble_eq_true rfl) (Nat.le_of_ble_eq_true rfl) (Nat.le_of_ble_eq_true rfl) (Nat.le_of_ble_eq_true rfl) (fun h7 q7 => ?_)
      rw [mgm_of hodd] at q7
      obtain ⟨R7, z7, o7, w7'⟩ := XW.ab q7
      have w7 := w7'.nilS (w7'.k 58 (by decide))
      have op7 := OpX.n2 w7 (B + 5) o.z
      rw [z7] at op7
      have l58 : (up S 58 [] 58).length = 0 := by rw [up_same]; rfl
      refine X_aload_n (pc := 137) 0 dX15_issues_137 rfl rfl ?_
      refine X_getfield (pc := 138) dX15_issues_138 fg_X15_63_10 (o.ob w7) (by first | rfl | assumption) ?_
      refine X_aload (pc := 141) 4 dX15_issues_141 rfl ?_
      refine X_iconst (pc := 143) (x := 0) dX15_issues_143 (by decide) ?_
      refine X_aload_n (pc := 144) 0 dX15_issues_144 rfl rfl ?_
      refine X_getfield (pc := 145) dX15_issues_145 fg_X15_19_10 (o.ob w7) (by first | rfl | assumption) ?_
      rw [show (0 : Int32) = nI (up S 58 [] 58).length by rw [l58]; rfl]
      refine X_isv (pc := 148) _ dX15_issues_148 cs_X15_124 rfl (xwriteA g w7 op7 (kt := 58) (nt := 1200) (many := sz) (w7.k 58 (by decide)) (by omega) (by decide) (by rw [l58]; omega) (by omega)) nX6_write (Nat.le_of_ble_eq_true rfl) (Nat.le_of_ble_eq_true rfl) (Nat.le_of_ble_eq_true rfl) (Nat.le_of_ble_eq_true rfl) (fun h8 w8 => ?_)
      rw [up_up', up_same, List.nil_append] at w8
      subst hQ
      refine X_return (pc := 151) dX15_issues_151 rfl (Nat.le_of_ble_eq_true rfl) (Nat.le_of_ble_eq_true rfl) ?_
      exact Or.inl ⟨rfl, ⟨cv, ce.symm⟩, R7, _, F, fr5.trans ⟨fun j hj => o7 j (by have a := obR_ne hj; omega), fun j hj => up_ne (obS_ne hj).2.1, fun _ _ _ _ => rfl⟩, up_same _ _ _, w8⟩
    · have er0 : r6 ≠ 0 := fun q => ce (cmpN_eq0.mp (er6.symm.trans q))
      refine X_if_eq (pc := 109) 122 dX15_issues_109 (by decide) (fun q => absurd q er0) (fun _ => ?_)
      refine X_aload_n (pc := 112) 0 dX15_issues_112 rfl rfl ?_
      refine X_getfield (pc := 113) dX15_issues_113 fg_X15_15_10 (o.ob w5) (by first | rfl | assumption) ?_
      refine X_bipush (pc := 116) (x := (-4)) dX15_issues_116 (by decide) ?_
      refine X_ivr (pc := 118) _ dX15_issues_118 cv_X15_27_6 (XW.rf w5) rfl (as_ok g w5 (-4)) nX8_as (Nat.le_of_ble_eq_true rfl) (Nat.le_of_ble_eq_true rfl) (Nat.le_of_ble_eq_true rfl) (Nat.le_of_ble_eq_true rfl) (fun r7 h7 q7 => ?_)
      obtain ⟨rfl, w7⟩ := q7
      subst hQ
      refine X_athrow (pc := 121) dX15_issues_121 rfl (Nat.le_of_ble_eq_true rfl) (Nat.le_of_ble_eq_true rfl) ?_
      exact Or.inr ⟨rfl, fun z => ce z.2.symm, R5, S, _, fr5.why (-4), up_same _ _ _, w7⟩
  · rw [if_neg cv] at er
    subst er
    refine X_if_ne (pc := 17) 30 dX15_issues_17 (by decide) (fun c => absurd rfl c) (fun _ => ?_)
    refine X_aload_n (pc := 20) 0 dX15_issues_20 rfl rfl ?_
    refine X_getfield (pc := 21) dX15_issues_21 fg_X15_15_10 (o.ob w1) (by first | rfl | assumption) ?_
    refine X_bipush (pc := 24) (x := (-4)) dX15_issues_24 (by decide) ?_
    refine X_ivr (pc := 26) _ dX15_issues_26 cv_X15_27_6 (XW.rf w1) rfl (as_ok g w1 (-4)) nX8_as (Nat.le_of_ble_eq_true rfl) (Nat.le_of_ble_eq_true rfl) (Nat.le_of_ble_eq_true rfl) (Nat.le_of_ble_eq_true rfl) (fun r2 h2 q2 => ?_)
    obtain ⟨rfl, w2⟩ := q2
    subst hQ
    refine X_athrow (pc := 29) dX15_issues_29 rfl (Nat.le_of_ble_eq_true rfl) (Nat.le_of_ble_eq_true rfl) ?_
    exact Or.inr ⟨rfl, fun z => cv z.1, R1, S, _, ⟨fun j hj => o1 j (by have a := obR_ne hj; omega), fun _ _ => rfl, fun j _ _ c => up_ne c⟩, up_same _ _ _, w2⟩
set_option maxHeartbeats 8000000 in
theorem finishesG_ok (w : XW kd A X R S O F h) (o : SgK kd A O B sz s p mv ng lv) {a C : Nat} {many op : Int32} (ha : a < 60) (hF : a < (F 31).toNatClampNeg) (hC : 1000 + 10 * a = C) (ak : AsK kd A O C B (p + 1) op) (hB2 : B + 30 ≤ 1000) (hl : sz ≤ (S 56).length) (hkp : R (C + 2) < mv) (hil : (S (C + 1)).length = 98) (hiB : IsB (S (C + 1))) :
    MT g MX15_finishes ({ frames := 7, cells := 2, slots := 320, locals := 189 } : Room) [.ref (A B), .ref (A 55), .int (nI a), .int many, .ref (A 56), .ref (A 58)] h
      (TW (A 50) (RV fun h' => (num (S 56) 0 sz < mv ∧ rgt mv (R (B + 9)) s (S (C + 1)) (num (S 56) 0 sz * R (C + 2) % mv)) ∧ ∃ R' S' F', FrO B R R' S S' F F' ∧ S' 58 = S (C + 1) ++ byN (num (S 56) 0 sz * R (C + 2) % mv) sz ∧ XW kd A X R' S' O F' h')
        (fun h' => ¬ (num (S 56) 0 sz < mv ∧ rgt mv (R (B + 9)) s (S (C + 1)) (num (S 56) 0 sz * R (C + 2) % mv)) ∧ BadO kd A X R S O F B h')) := by
  refine MT.of (by decide) (Nat.le_of_ble_eq_true rfl) ?_
  have hB := o.b
  obtain ⟨h66, h256, hp, -, hmz, -⟩ := o.nu
  have hodd := o.odd
  have hbig := o.big
  have rd := xreadW g w o.mo (B + 3) o.x (kb := 56) (nb := 1200) (fr := 0) (many := sz) (w.k 56 (by decide)) (by decide) (by omega) (by omega)
  generalize hv : num (S 56) 0 sz = v at *
  generalize hQ : TW (A 50) _ _ = Q
  refine X_aload_n (pc := 0) 1 dX15_finishes_0 rfl rfl ?_
  refine X_iload_n (pc := 1) 2 dX15_finishes_1 rfl rfl ?_
  refine X_aaload (pc := 2) dX15_finishes_2 (XW.asks w) (fun _ => rfl) (vp_in_nI (by omega) (by omega)) ?_
  rw [ask_at (A := A) (F := F) ha hF, hC]
  refine X_astore (pc := 3) (L' := [(6, .ref _), (0, .ref _), (1, .ref _), (2, .int _), (3, .int _), (4, .ref _), (5, .ref _)]) dX15_finishes_3 (Nat.le_of_ble_eq_true rfl) rfl ?_
  refine X_aload_n (pc := 5) 1 dX15_finishes_5 rfl rfl ?_
  refine X_getfield (pc := 6) dX15_finishes_6 fg_X15_38_10 (o.ob w) (by first | rfl | assumption) ?_
  refine X_aload (pc := 9) 5 dX15_finishes_9 rfl ?_
  refine X_iconst (pc := 11) (x := 0) dX15_finishes_11 (by decide) ?_
  refine X_aload_n (pc := 12) 1 dX15_finishes_12 rfl rfl ?_
  refine X_getfield (pc := 13) dX15_finishes_13 fg_X15_19_10 (o.ob w) (by first | rfl | assumption) ?_
  refine X_aload_n (pc := 16) 1 dX15_finishes_16 rfl rfl ?_
  refine X_getfield (pc := 17) dX15_finishes_17 fg_X15_57_10 (o.ob w) (by first | rfl | assumption) ?_
  refine X_ivi (pc := 20) _ dX15_finishes_20 cv_X15_49_4 (MoK.ob o.mo w) rfl (rd) nX6_read (Nat.le_of_ble_eq_true rfl) (Nat.le_of_ble_eq_true rfl) (Nat.le_of_ble_eq_true rfl) (Nat.le_of_ble_eq_true rfl) (fun r1 h1 q1 => ?_)
  obtain ⟨er, q1⟩ := q1
  obtain ⟨R1, x1, o1, w1⟩ := XW.ab q1
  by_cases cv : v < mv
  · rw [if_pos cv] at er
    subst er
    refine X_if_ne (pc := 23) 36 dX15_finishes_23 (by decide) (fun _ => ?_) (fun c => absurd c (by decide))
    have op1 := OpX.n2 w1 (B + 3) o.x
    rw [x1] at op1
    refine X_aload_n (pc := 36) 1 dX15_finishes_36 rfl rfl ?_
    refine X_getfield (pc := 37) dX15_finishes_37 fg_X15_38_10 (o.ob w1) (by first | rfl | assumption) ?_
    refine X_aload_n (pc := 40) 1 dX15_finishes_40 rfl rfl ?_
    refine X_getfield (pc := 41) dX15_finishes_41 fg_X15_57_10 (o.ob w1) (by first | rfl | assumption) ?_
    refine X_aload_n (pc := 44) 1 dX15_finishes_44 rfl rfl ?_
    refine X_getfield (pc := 45) dX15_finishes_45 fg_X15_57_10 (o.ob w1) (by first | rfl | assumption) ?_
    refine X_ivv (pc := 48) _ dX15_finishes_48 cv_X15_137_4 (MoK.ob o.mo w1) rfl (xinW g w1 o.mo (B + 3) (St.q o.x) op1) nX6_in (Nat.le_of_ble_eq_true rfl) (Nat.le_of_ble_eq_true rfl) (Nat.le_of_ble_eq_true rfl) (Nat.le_of_ble_eq_true rfl) (fun h2 q2 => ?_)
    obtain ⟨R2, x2, o2, w2⟩ := XW.ab q2
    have op2 := OpX.n2 w2 (B + 3) o.x
    rw [x2] at op2
    have opk := OpX.n2 w2 (C + 2) ak.2.2.2
    rw [o2 _ (by omega), o1 _ (by omega)] at opk
    refine X_aload_n (pc := 51) 1 dX15_finishes_51 rfl rfl ?_
    refine X_getfield (pc := 52) dX15_finishes_52 fg_X15_38_10 (o.ob w2) (by first | rfl | assumption) ?_
    refine X_aload_n (pc := 55) 1 dX15_finishes_55 rfl rfl ?_
    refine X_getfield (pc := 56) dX15_finishes_56 fg_X15_57_10 (o.ob w2) (by first | rfl | assumption) ?_
    refine X_aload (pc := 59) 0 dX15_finishes_59 rfl ?_
    refine X_getfield (pc := 61) dX15_finishes_61 fg_X15_155_8 (ak.c w2) (by first | rfl | assumption) ?_
    refine X_aload_n (pc := 64) 1 dX15_finishes_64 rfl rfl ?_
    refine X_getfield (pc := 65) dX15_finishes_65 fg_X15_60_10 (o.ob w2) (by first | rfl | assumption) ?_
    refine X_ivv (pc := 68) _ dX15_finishes_68 cv_X15_145_4 (MoK.ob o.mo w2) rfl (xmulW g w2 o.mo (B + 4) (St.q o.y) op2 opk hkp) nX6_mul (Nat.le_of_ble_eq_true rfl) (Nat.le_of_ble_eq_true rfl) (Nat.le_of_ble_eq_true rfl) (Nat.le_of_ble_eq_true rfl) (fun h3 q3 => ?_)
    rw [mgm_half hodd] at q3
    obtain ⟨R3, y3, o3, w3'⟩ := XW.ab q3
    have w3 := w3'.nilS (w3'.k 58 (by decide))
    generalize hsv : v * R (C + 2) % mv = sv at *
    have hsm : sv < mv := by rw [← hsv]; exact Nat.mod_lt _ (by omega)
    obtain ⟨gi, ci, pi, -⟩ := w3.s (C + 1) ak.2.2.1
    obtain ⟨g5, c5, p5, -⟩ := w3.s 58 (w3.k 58 (by decide))
    have eC : up S 58 [] (C + 1) = S (C + 1) := up_ne (by omega)
    refine X_aload (pc := 71) 0 dX15_finishes_71 rfl ?_
    refine X_getfield (pc := 73) dX15_finishes_73 fg_X15_160_8 (ak.c w3) (by first | rfl | assumption) ?_
    refine X_iconst (pc := 76) (x := 0) dX15_finishes_76 (by decide) ?_
    refine X_aload (pc := 77) 6 dX15_finishes_77 rfl ?_
    refine X_iconst (pc := 79) (x := 0) dX15_finishes_79 (by decide) ?_
    refine X_bipush (pc := 80) (x := 98) dX15_finishes_80 (by decide) ?_
    refine X_copyI (pc := 82) (0) (0) (98) dX15_finishes_82 q753 (Or.inr rfl) ci c5 rfl rfl rfl (by omega) (by omega) ⟨by omega, by omega⟩ (Nat.le_of_ble_eq_true rfl) (Nat.le_of_ble_eq_true rfl) ?_
    have w4 := w3.cpy (ks := C + 1) (ns := 98) (sN := 0) (dN := 0) (n := 98) (w3.k 58 (by decide)) pi p5 (Nat.zero_le _) (by rw [eC, hil]; decide) (by decide)
    rw [List.take_zero, List.nil_append, eC, sub_all hil, up_up'] at w4
    generalize hset h3 (A 58) _ = h4 at w4 ⊢
    have op4 := OpX.n2 w4 (B + 4) o.y
    rw [y3] at op4
    have l58 : (up S 58 (S (C + 1)) 58).length = 98 := by rw [up_same]; exact hil
    refine X_aload_n (pc := 85) 1 dX15_finishes_85 rfl rfl ?_
    refine X_getfield (pc := 86) dX15_finishes_86 fg_X15_60_10 (o.ob w4) (by first | rfl | assumption) ?_
    refine X_aload (pc := 89) 6 dX15_finishes_89 rfl ?_
    refine X_bipush (pc := 91) (x := 98) dX15_finishes_91 (by decide) ?_
    refine X_aload_n (pc := 93) 1 dX15_finishes_93 rfl rfl ?_
    refine X_getfield (pc := 94) dX15_finishes_94 fg_X15_19_10 (o.ob w4) (by first | rfl | assumption) ?_
    rw [show (98 : Int32) = nI (up S 58 (S (C + 1)) 58).length by rw [l58]; rfl]
    refine X_isv (pc := 97) _ dX15_finishes_97 cs_X15_124 rfl (xwriteA g w4 op4 (kt := 58) (nt := 1200) (many := sz) (w4.k 58 (by decide)) (by omega) (by decide) (by rw [l58]; omega) (by omega)) nX6_write (Nat.le_of_ble_eq_true rfl) (Nat.le_of_ble_eq_true rfl) (Nat.le_of_ble_eq_true rfl) (Nat.le_of_ble_eq_true rfl) (fun h5 w5 => ?_)
    rw [up_up', up_same] at w5
    have e58 : up S 58 (S (C + 1) ++ byN sv sz) 58 = S (C + 1) ++ byN sv sz := up_same _ _ _
    have fS5 : ∀ j, j ≠ 58 → up S 58 (S (C + 1) ++ byN sv sz) j = S j := fun j hj => up_ne hj
    generalize up S 58 (S (C + 1) ++ byN sv sz) = S5 at w5 e58 fS5
    have ir := isRightG_ok (g := g) w5 o (ki := 58) (ni := 1200) (fr := 0) (kp := 58) (np := 1200) (at' := 98) (w5.k 58 (by decide)) (by decide) (by decide) (by omega) (by omega) (by rw [e58]; exact hiB.app (byN_B _ _)) (by rw [e58, List.length_append, hil, byN_len]; omega) (w5.k 58 (by decide)) (by decide) (by rw [e58, List.length_append, hil, byN_len]; exact Nat.le_refl _)
    have e9 : R3 (B + 9) = R (B + 9) := by rw [o3 _ (by omega), o2 _ (by omega), o1 _ (by omega)]
    have en1 : sub (S (C + 1) ++ byN sv sz) 0 98 = S (C + 1) := sub_mid (a := []) (c := byN sv sz) rfl hil
    have en2 : num (S (C + 1) ++ byN sv sz) 98 sz = sv := by
      have e1 : num (S (C + 1) ++ byN sv sz) 98 sz = num (byN sv sz) 0 sz := bsm_cg fun j hj => by
        show (S (C + 1) ++ byN sv sz).getD (98 + sz - 1 - j) 0 = (byN sv sz).getD (0 + sz - 1 - j) 0
        rw [getD_app_ge (by rw [hil]; omega), hil]
        congr 1
        omega
      rw [e1, num_byN, Nat.mod_eq_of_lt (Nat.lt_trans hsm hmz)]
    rw [e58, e9, en1, en2] at ir
    have fr3 : FrO B R R3 S S5 F F := ⟨fun j hj => by have a := obR_ne hj; rw [o3 _ (by omega), o2 _ (by omega), o1 _ (by omega)], fun j hj => fS5 j (obS_ne hj).2.1, fun _ _ _ _ => rfl⟩
    refine X_aload_n (pc := 100) 1 dX15_finishes_100 rfl rfl ?_
    refine X_aload (pc := 101) 6 dX15_finishes_101 rfl ?_
    refine X_iconst (pc := 103) (x := 0) dX15_finishes_103 (by decide) ?_
    refine X_aload (pc := 104) 6 dX15_finishes_104 rfl ?_
    refine X_bipush (pc := 106) (x := 98) dX15_finishes_106 (by decide) ?_
    refine X_ivi (pc := 108) _ dX15_finishes_108 cv_X15_163_10 (o.ob w5) rfl (ir) nX15_isRight (Nat.le_of_ble_eq_true rfl) (Nat.le_of_ble_eq_true rfl) (Nat.le_of_ble_eq_true rfl) (Nat.le_of_ble_eq_true rfl) (fun r6 h6 q6 => ?_)
    obtain ⟨hr, R6, S6, F6, fR6, fS6, fF6, w6⟩ := q6
    have fr6 : FrO B R R6 S S6 F F6 := fr3.trans ⟨fun j hj => by have a := obR_ne hj; exact fR6 j (by omega) (by omega), fun j hj => by have a := obS_ne hj; exact fS6 j (fun z => by rw [z] at a; exact absurd a.1 (by decide)) (by omega) (by omega), fun j a b _ => fF6 j a b⟩
    rcases hr with ⟨rfl, hr⟩ | ⟨rfl, hr⟩
    · refine X_if_ne (pc := 111) 124 dX15_finishes_111 (by decide) (fun _ => ?_) (fun c => absurd c (by decide))
      subst hQ
      refine X_return (pc := 124) dX15_finishes_124 rfl (Nat.le_of_ble_eq_true rfl) (Nat.le_of_ble_eq_true rfl) ?_
      exact Or.inl ⟨rfl, ⟨cv, hr⟩, R6, S6, F6, fr6, by rw [fS6 58 (by decide) (by omega) (by omega)]; exact e58, w6⟩
    · refine X_if_ne (pc := 111) 124 dX15_finishes_111 (by decide) (fun c => absurd rfl c) (fun _ => ?_)
      refine X_aload_n (pc := 114) 1 dX15_finishes_114 rfl rfl ?_
      refine X_getfield (pc := 115) dX15_finishes_115 fg_X15_15_10 (o.ob w6) (by first | rfl | assumption) ?_
      refine X_bipush (pc := 118) (x := (-4)) dX15_finishes_118 (by decide) ?_
      refine X_ivr (pc := 120) _ dX15_finishes_120 cv_X15_27_6 (XW.rf w6) rfl (as_ok g w6 (-4)) nX8_as (Nat.le_of_ble_eq_true rfl) (Nat.le_of_ble_eq_true rfl) (Nat.le_of_ble_eq_true rfl) (Nat.le_of_ble_eq_true rfl) (fun r7 h7 q7 => ?_)
      obtain ⟨rfl, w7⟩ := q7
      subst hQ
      refine X_athrow (pc := 123) dX15_finishes_123 rfl (Nat.le_of_ble_eq_true rfl) (Nat.le_of_ble_eq_true rfl) ?_
      exact Or.inr ⟨rfl, fun z => hr z.2, R6, S6, _, fr6.why (-4), up_same _ _ _, w7⟩
  · rw [if_neg cv] at er
    subst er
    refine X_if_ne (pc := 23) 36 dX15_finishes_23 (by decide) (fun c => absurd rfl c) (fun _ => ?_)
    refine X_aload_n (pc := 26) 1 dX15_finishes_26 rfl rfl ?_
    refine X_getfield (pc := 27) dX15_finishes_27 fg_X15_15_10 (o.ob w1) (by first | rfl | assumption) ?_
    refine X_bipush (pc := 30) (x := (-4)) dX15_finishes_30 (by decide) ?_
    refine X_ivr (pc := 32) _ dX15_finishes_32 cv_X15_27_6 (XW.rf w1) rfl (as_ok g w1 (-4)) nX8_as (Nat.le_of_ble_eq_true rfl) (Nat.le_of_ble_eq_true rfl) (Nat.le_of_ble_eq_true rfl) (Nat.le_of_ble_eq_true rfl) (fun r2 h2 q2 => ?_)
    obtain ⟨rfl, w2⟩ := q2
    subst hQ
    refine X_athrow (pc := 35) dX15_finishes_35 rfl (Nat.le_of_ble_eq_true rfl) (Nat.le_of_ble_eq_true rfl) ?_
    exact Or.inr ⟨rfl, fun z => cv z.1, R1, S, _, ⟨fun j hj => o1 j (by have a := obR_ne hj; omega), fun _ _ => rfl, fun j _ _ c => up_ne c⟩, up_same _ _ _, w2⟩
theorem blindedG_ok (w : XW kd A X R S O F h) (o : SgK kd A O B sz s p mv ng lv) : MT g MX15_blinded ({ frames := 0, cells := 0, slots := 0, locals := 0 } : Room) [.ref (A B)] h (RI fun r h' => r = nI sz ∧ h' = h) := by
  refine MT.of (by decide) (Nat.le_of_ble_eq_true rfl) ?_
  refine X_aload_n (pc := 0) 0 dX15_blinded_0 rfl rfl ?_
  refine X_getfield (pc := 1) dX15_blinded_1 fg_X15_19_10 (o.ob w) (by first | rfl | assumption) ?_
  refine X_ireturn (pc := 4) dX15_blinded_4 rfl (Nat.le_of_ble_eq_true rfl) (Nat.le_of_ble_eq_true rfl) ?_
  exact ⟨_, rfl, rfl, rfl⟩
theorem provedG_ok (w : XW kd A X R S O F h) (o : SgK kd A O B sz s p mv ng lv) : MT g MX15_proved ({ frames := 0, cells := 0, slots := 0, locals := 0 } : Room) [.ref (A B)] h (RI fun r h' => r = nI sz ∧ h' = h) := by
  refine MT.of (by decide) (Nat.le_of_ble_eq_true rfl) ?_
  refine X_aload_n (pc := 0) 0 dX15_proved_0 rfl rfl ?_
  refine X_getfield (pc := 1) dX15_proved_1 fg_X15_19_10 (o.ob w) (by first | rfl | assumption) ?_
  refine X_ireturn (pc := 4) dX15_proved_4 rfl (Nat.le_of_ble_eq_true rfl) (Nat.le_of_ble_eq_true rfl) ?_
  exact ⟨_, rfl, rfl, rfl⟩
theorem blindG_ok (w : XW kd A X R S O F h) (o : SgK kd A O B sz s p mv ng lv) : MT g MX15_blind ({ frames := 0, cells := 0, slots := 0, locals := 0 } : Room) [.ref (A B)] h (RI fun r h' => r = nI (s + sz) ∧ h' = h) := by
  refine MT.of (by decide) (Nat.le_of_ble_eq_true rfl) ?_
  refine X_aload_n (pc := 0) 0 dX15_blind_0 rfl rfl ?_
  refine X_getfield (pc := 1) dX15_blind_1 fg_X15_23_10 (o.ob w) (by first | rfl | assumption) ?_
  refine X_aload_n (pc := 4) 0 dX15_blind_4 rfl rfl ?_
  refine X_getfield (pc := 5) dX15_blind_5 fg_X15_19_10 (o.ob w) (by first | rfl | assumption) ?_
  refine X_iadd (pc := 8) dX15_blind_8 ?_
  rw [nI_add]
  refine X_ireturn (pc := 9) dX15_blind_9 rfl (Nat.le_of_ble_eq_true rfl) (Nat.le_of_ble_eq_true rfl) ?_
  exact ⟨_, rfl, rfl, rfl⟩
theorem chanceG_ok : MT g MX15_chance ({ frames := 0, cells := 0, slots := 0, locals := 0 } : Room) [.ref b] h (RI fun r h' => r = 0 ∧ h' = h) := by
  refine MT.of (by decide) (Nat.le_of_ble_eq_true rfl) ?_
  refine X_iconst (pc := 0) (x := 0) dX15_chance_0 (by decide) ?_
  refine X_ireturn (pc := 1) dX15_chance_1 rfl (Nat.le_of_ble_eq_true rfl) (Nat.le_of_ble_eq_true rfl) ?_
  exact ⟨_, rfl, rfl, rfl⟩
theorem answersG_ok (w : XW kd A X R S O F h) (o : SgK kd A O B sz s p mv ng lv) {many : Int32} : MT g MX15_answers ({ frames := 0, cells := 0, slots := 0, locals := 0 } : Room) [.ref (A B), .int many] h (RI fun r h' => r = nI sz ∧ h' = h) := by
  refine MT.of (by decide) (Nat.le_of_ble_eq_true rfl) ?_
  refine X_aload_n (pc := 0) 0 dX15_answers_0 rfl rfl ?_
  refine X_getfield (pc := 1) dX15_answers_1 fg_X15_19_10 (o.ob w) (by first | rfl | assumption) ?_
  refine X_ireturn (pc := 4) dX15_answers_4 rfl (Nat.le_of_ble_eq_true rfl) (Nat.le_of_ble_eq_true rfl) ?_
  exact ⟨_, rfl, rfl, rfl⟩
theorem publicsG_ok (w : XW kd A X R S O F h) (o : SgK kd A O B sz s p mv ng lv) : MT g MX15_publics ({ frames := 0, cells := 0, slots := 0, locals := 0 } : Room) [.ref (A B)] h (RI fun r h' => r = nI (sz + 3) ∧ h' = h) := by
  refine MT.of (by decide) (Nat.le_of_ble_eq_true rfl) ?_
  refine X_aload_n (pc := 0) 0 dX15_publics_0 rfl rfl ?_
  refine X_getfield (pc := 1) dX15_publics_1 fg_X15_19_10 (o.ob w) (by first | rfl | assumption) ?_
  refine X_iconst (pc := 4) (x := 3) dX15_publics_4 (by decide) ?_
  refine X_iadd (pc := 5) dX15_publics_5 ?_
  rw [show nI sz + 3 = nI (sz + 3) from nI_add sz 3]
  refine X_ireturn (pc := 6) dX15_publics_6 rfl (Nat.le_of_ble_eq_true rfl) (Nat.le_of_ble_eq_true rfl) ?_
  exact ⟨_, rfl, rfl, rfl⟩
theorem publishG_ok (w : XW kd A X R S O F h) (o : SgK kd A O B sz s p mv ng lv) (hl : (S (B + 6)).length = sz + 3) : MT g MX15_publish ({ frames := 1, cells := 0, slots := 0, locals := 48 } : Room) [.ref (A B), .ref (A 58)] h (RV fun h' => XW kd A X R (up S 58 (S (B + 6))) O F h') := by
  refine MT.of (by decide) (Nat.le_of_ble_eq_true rfl) ?_
  obtain ⟨h66, h256, -, -, -, -⟩ := o.nu
  refine X_aload_n (pc := 0) 0 dX15_publish_0 rfl rfl ?_
  refine X_getfield (pc := 1) dX15_publish_1 fg_X15_66_10 (o.ob w) (by first | rfl | assumption) ?_
  refine X_iconst (pc := 4) (x := 0) dX15_publish_4 (by decide) ?_
  refine X_aload_n (pc := 5) 1 dX15_publish_5 rfl rfl ?_
  refine X_iconst (pc := 6) (x := 0) dX15_publish_6 (by decide) ?_
  refine X_aload_n (pc := 7) 0 dX15_publish_7 rfl rfl ?_
  refine X_getfield (pc := 8) dX15_publish_8 fg_X15_19_10 (o.ob w) (by first | rfl | assumption) ?_
  refine X_iconst (pc := 11) (x := 3) dX15_publish_11 (by decide) ?_
  refine X_iadd (pc := 12) dX15_publish_12 ?_
  rw [show nI sz + 3 = nI (sz + 3) from nI_add sz 3]
  obtain ⟨f6, c6, p6, -⟩ := w.s (B + 6) o.sh
  obtain ⟨f5, c5, p5, -⟩ := w.s 58 (w.k 58 (by decide))
  refine X_copyI (pc := 13) (0) (0) (sz + 3) dX15_publish_13 q753 (Or.inr rfl) c6 c5 rfl rfl rfl (by omega) (by omega) ⟨by omega, by omega⟩ (Nat.le_of_ble_eq_true rfl) (Nat.le_of_ble_eq_true rfl) ?_
  have w1 := w.cpy (ks := B + 6) (ns := 49) (sN := 0) (dN := 0) (n := sz + 3) (w.k 58 (by decide)) p6 p5 (Nat.zero_le _) (by rw [hl]; omega) (by omega)
  rw [List.take_zero, List.nil_append, sub_all hl] at w1
  refine X_return (pc := 16) dX15_publish_16 rfl (Nat.le_of_ble_eq_true rfl) (Nat.le_of_ble_eq_true rfl) ?_
  exact ⟨rfl, w1⟩
end XSg5
