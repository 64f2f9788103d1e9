set_option maxRecDepth 100000
/-! VeilMint's keys: exceptions; the first type -/
/-- it returns with P, or throws x with T -/
def TW (x : Nat) (P : Outcome → AH → Prop) (T : AH → Prop) : Outcome → AH → Prop := fun oc h' => P oc h' ∨ (oc = .threw x ∧ T h')
section XTh
variable {g : GX} {M M' : MI} {rm rm' : Room} {Q Q' : Outcome → AH → Prop} {k n pc : Nat} {L : List (Nat × Value)} {st rest : List Value} {h : AH} {T : AH → Prop} {x : Nat}
theorem X_ivvT {P : AH → Prop} {idx ci b : Nat} {fs : List Value} (As : List Value) (hdg : decode M.2.1 pc = .ok (.invokevirtual idx, 3)) (V : CV M.1.cls idx ci M') (hb : h b = some (Ob ci fs)) (hst : st = As.reverse ++ .ref b :: rest) (hM : MT g M' rm' (.ref b :: As) h (TW x (RV P) T)) (hna : (parseMethodDescriptor M'.1.desc).map (fun d => d.parameters.length) = some As.length) (hfr : rm'.frames + 1 ≤ rm.frames) (hlo : (rest.map fun v => v.category).sum + (M'.2.2.1 + 11) + rm'.locals ≤ rm.locals) (hc : k + rm'.cells ≤ rm.cells) (hs : n + rm'.slots ≤ rm.slots)
    (kr : ∀ h', P h' → XX g M rm Q (k + rm'.cells) (n + rm'.slots) (pc + 3) L rest h') (kt : ∀ h', T h' → XT g M rm Q (k + rm'.cells) (n + rm'.slots) pc L x h') : XX g M rm Q k n pc L st h :=
  X_invokevirtual As hdg V hb hst hM hna hfr hlo hc hs (fun v h' q => by
    rcases q with ⟨e, p⟩ | ⟨e, -⟩
    · cases e; exact kr h' p
    · cases e) (fun y h' q => by
    rcases q with ⟨e, -⟩ | ⟨e, t⟩
    · cases e
    · cases e; exact kt h' t)
theorem X_iviT {P : Int32 → AH → Prop} {idx ci b : Nat} {fs : List Value} (As : List Value) (hdg : decode M.2.1 pc = .ok (.invokevirtual idx, 3)) (V : CV M.1.cls idx ci M') (hb : h b = some (Ob ci fs)) (hst : st = As.reverse ++ .ref b :: rest) (hM : MT g M' rm' (.ref b :: As) h (TW x (RI P) T)) (hna : (parseMethodDescriptor M'.1.desc).map (fun d => d.parameters.length) = some As.length) (hfr : rm'.frames + 1 ≤ rm.frames) (hlo : (rest.map fun v => v.category).sum + (M'.2.2.1 + 11) + rm'.locals ≤ rm.locals) (hc : k + rm'.cells ≤ rm.cells) (hs : n + rm'.slots ≤ rm.slots)
    (kr : ∀ r h', P r h' → XX g M rm Q (k + rm'.cells) (n + rm'.slots) (pc + 3) L (.int r :: rest) h') (kt : ∀ h', T h' → XT g M rm Q (k + rm'.cells) (n + rm'.slots) pc L x h') : XX g M rm Q k n pc L st h :=
  X_invokevirtual As hdg V hb hst hM hna hfr hlo hc hs (fun v h' q => by
    rcases q with ⟨r, e, p⟩ | ⟨e, -⟩
    · cases e; exact kr r h' p
    · cases e) (fun y h' q => by
    rcases q with ⟨r, e, -⟩ | ⟨e, t⟩
    · cases e
    · cases e; exact kt h' t)
theorem X_ivrT {P : Nat → AH → Prop} {idx ci b : Nat} {fs : List Value} (As : List Value) (hdg : decode M.2.1 pc = .ok (.invokevirtual idx, 3)) (V : CV M.1.cls idx ci M') (hb : h b = some (Ob ci fs)) (hst : st = As.reverse ++ .ref b :: rest) (hM : MT g M' rm' (.ref b :: As) h (TW x (RR P) T)) (hna : (parseMethodDescriptor M'.1.desc).map (fun d => d.parameters.length) = some As.length) (hfr : rm'.frames + 1 ≤ rm.frames) (hlo : (rest.map fun v => v.category).sum + (M'.2.2.1 + 11) + rm'.locals ≤ rm.locals) (hc : k + rm'.cells ≤ rm.cells) (hs : n + rm'.slots ≤ rm.slots)
    (kr : ∀ r h', P r h' → XX g M rm Q (k + rm'.cells) (n + rm'.slots) (pc + 3) L (.ref r :: rest) h') (kt : ∀ h', T h' → XT g M rm Q (k + rm'.cells) (n + rm'.slots) pc L x h') : XX g M rm Q k n pc L st h :=
  X_invokevirtual As hdg V hb hst hM hna hfr hlo hc hs (fun v h' q => by
    rcases q with ⟨r, e, p⟩ | ⟨e, -⟩
    · cases e; exact kr r h' p
    · cases e) (fun y h' q => by
    rcases q with ⟨r, e, -⟩ | ⟨e, t⟩
    · cases e
    · cases e; exact kt h' t)
end XTh
/-- the fields of a key of the first type -/
def obFl (A : Nat → Nat) (B : Nat) (lv : Int32) : List Value := [.ref (A (B + 1)), .int 1, .int lv, .ref (A 11), .ref (A 50), .ref (A (B + 2)), .ref (A (B + 3)), .ref (A (B + 4)), .ref (A (B + 5)), .ref (A (B + 6)), .ref (A (B + 7)), .ref (A (B + 8)), .ref (A (B + 9)), .ref (A (B + 10)), .ref (A (B + 14)), .ref (A (B + 18)), .ref (A (B + 22)), .ref (A (B + 26))]
/-- where a key of the first type lies -/
def ObK (kd : Nat → KD) (A : Nat → Nat) (O : Nat → AC) (B : Nat) (lv : Int32) : Prop :=
  (100 ≤ B ∧ kd B = (7, 0, 0) ∧ O B = Ob 9 (obFl A B lv)) ∧ kd (B + 1) = (6, 2, 32) ∧ kd (B + 2) = (2, 0, 12) ∧ kd (B + 3) = (2, 0, 12) ∧ kd (B + 4) = (2, 0, 12) ∧ kd (B + 5) = (2, 0, 12) ∧ kd (B + 6) = (6, 2, 49) ∧ kd (B + 7) = (6, 2, 48) ∧ kd (B + 8) = (6, 2, 245) ∧ kd (B + 9) = (6, 2, 49) ∧
  PtK kd A O (B + 10) ∧ PtK kd A O (B + 14) ∧ PtK kd A O (B + 18) ∧ PtK kd A O (B + 22) ∧ PtK kd A O (B + 26)
section XOb
variable {kd : Nat → KD} {A : Nat → Nat} {X : AH} {R : Nat → Nat} {S : Nat → List Int32} {O : Nat → AC} {F : Nat → Int32} {h : AH} {B : Nat} {lv : Int32}
theorem ObK.ob (o : ObK kd A O B lv) (w : XW kd A X R S O F h) : h (A B) = some (Ob 9 (obFl A B lv)) := by
  have hB := o.1.1
  rw [w.ob B o.1.2.1 (mut_f (Or.inr (by omega)))]
  unfold OS
  rw [if_neg (by omega), o.1.2.2]
theorem ObK.b (o : ObK kd A O B lv) : 100 ≤ B := o.1.1
theorem ObK.se (o : ObK kd A O B lv) : kd (B + 2) = (2, 0, 12) := o.2.2.1
theorem ObK.sc (o : ObK kd A O B lv) : kd (B + 3) = (2, 0, 12) := o.2.2.2.1
theorem ObK.su (o : ObK kd A O B lv) : kd (B + 4) = (2, 0, 12) := o.2.2.2.2.1
theorem ObK.ot (o : ObK kd A O B lv) : kd (B + 5) = (2, 0, 12) := o.2.2.2.2.2.1
theorem ObK.el (o : ObK kd A O B lv) : kd (B + 6) = (6, 2, 49) := o.2.2.2.2.2.2.1
theorem ObK.sd (o : ObK kd A O B lv) : kd (B + 7) = (6, 2, 48) := o.2.2.2.2.2.2.2.1
theorem ObK.fv (o : ObK kd A O B lv) : kd (B + 8) = (6, 2, 245) := o.2.2.2.2.2.2.2.2.1
theorem ObK.to (o : ObK kd A O B lv) : kd (B + 9) = (6, 2, 49) := o.2.2.2.2.2.2.2.2.2.1
theorem ObK.pt (o : ObK kd A O B lv) : PtK kd A O (B + 10) := o.2.2.2.2.2.2.2.2.2.2.1
theorem ObK.co (o : ObK kd A O B lv) : PtK kd A O (B + 14) := o.2.2.2.2.2.2.2.2.2.2.2.1
theorem ObK.ev (o : ObK kd A O B lv) : PtK kd A O (B + 18) := o.2.2.2.2.2.2.2.2.2.2.2.2.1
theorem ObK.wk (o : ObK kd A O B lv) : PtK kd A O (B + 22) := o.2.2.2.2.2.2.2.2.2.2.2.2.2.1
theorem ObK.mo (o : ObK kd A O B lv) : PtK kd A O (B + 26) := o.2.2.2.2.2.2.2.2.2.2.2.2.2.2
theorem XW.rf (w : XW kd A X R S O F h) : h (A 50) = some (Ob 6 (rfFl F)) := w.o 50 (by decide) rfl
theorem as_ok (g : GX) (w : XW kd A X R S O F h) (v : Int32) : MT g MX8_as ({ frames := 0, cells := 0, slots := 0, locals := 0 } : Room) [.ref (A 50), .int v] h (RR fun r h' => r = A 50 ∧ XW kd A X R S O (up F 24 v) h') := by
  refine MT.of (by decide) (Nat.le_of_ble_eq_true rfl) ?_
  refine X_aload_n (pc := 0) 0 dX8_as_0 rfl rfl ?_
  refine X_iload_n (pc := 1) 1 dX8_as_1 rfl rfl ?_
  refine X_putfield (pc := 2) dX8_as_2 fp_X8_7_6 (fun e => by cases e) (XW.rf w) rfl rfl (Nat.le_of_ble_eq_true rfl) ?_
  have w1 := XW.setF24 w (v := v)
  refine X_aload_n (pc := 5) 0 dX8_as_5 rfl rfl ?_
  refine X_aret (pc := 6) dX8_as_6 rfl (Or.inl ⟨_, rfl⟩) (Or.inr ⟨_, rfl⟩) (Nat.le_of_ble_eq_true rfl) (Nat.le_of_ble_eq_true rfl) ?_
  exact ⟨_, rfl, rfl, w1⟩
theorem isSecX_ok (g : GX) (w : XW kd A X R S O F h) (o : ObK kd A O B lv) (k : Nat) (hk : kd k = (2, 0, 12)) {kb nb fr : Nat} (hkb : kd kb = (6, 2, nb)) (hnb : nb < 2 ^ 31) (hl : fr + 48 ≤ (S kb).length) :
    MT g MX14_isSecret ({ frames := 5, cells := 0, slots := 0, locals := 111 } : Room) [.ref (A B), .ref (A kb), .int (nI fr), .ref (A k)] h (RI fun r h' => r = (if 0 < num (S kb) fr 48 ∧ num (S kb) fr 48 < qP then 1 else 0) ∧ XW kd A X (up R k (num (S kb) fr 48)) S O F h') := by
  refine MT.of (by decide) (Nat.le_of_ble_eq_true rfl) ?_
  refine X_aload_n (pc := 0) 0 dX14_isSecret_0 rfl rfl ?_
  refine X_getfield (pc := 1) dX14_isSecret_1 fg_X14_58_9 (o.ob w) (by first | rfl | assumption) ?_
  refine X_getfield (pc := 4) dX14_isSecret_4 fg_X14_89_3 (XW.cv w) (by first | rfl | assumption) ?_
  refine X_aload_n (pc := 7) 1 dX14_isSecret_7 rfl rfl ?_
  refine X_iload_n (pc := 8) 2 dX14_isSecret_8 rfl rfl ?_
  refine X_bipush (pc := 9) (x := 48) dX14_isSecret_9 (by decide) ?_
  refine X_aload_n (pc := 11) 3 dX14_isSecret_11 rfl rfl ?_
  refine X_ivi (pc := 12) _ dX14_isSecret_12 cv_X14_93_4 (MoK.ob (XW.mq w) w) rfl (xreadW g w w.mq k hk (many := 48) hkb hnb hl (by decide)) nX6_read (Nat.le_of_ble_eq_true rfl) (Nat.le_of_ble_eq_true rfl) (Nat.le_of_ble_eq_true rfl) (Nat.le_of_ble_eq_true rfl) (fun r1 h1 q1 => ?_)
  obtain ⟨er, w1⟩ := q1
  by_cases c1 : num (S kb) fr 48 < qP
  · rw [if_pos c1] at er
    subst er
    refine X_if_eq (pc := 15) 29 dX14_isSecret_15 (by decide) (fun c => absurd c (by decide)) (fun _ => ?_)
    have op := OpX.n2 w1 k hk
    rw [up_same] at op
    refine X_aload_n (pc := 18) 3 dX14_isSecret_18 rfl rfl ?_
    refine X_isi (pc := 19) _ dX14_isSecret_19 cs_X14_99 rfl (xzeroW g op (by decide)) nX6_isZero (Nat.le_of_ble_eq_true rfl) (Nat.le_of_ble_eq_true rfl) (Nat.le_of_ble_eq_true rfl) (Nat.le_of_ble_eq_true rfl) (fun r2 h2 q2 => ?_)
    obtain ⟨er2, rfl⟩ := q2
    by_cases c2 : num (S kb) fr 48 = 0
    · rw [if_pos c2] at er2
      subst er2
      refine X_if_ne (pc := 22) 29 dX14_isSecret_22 (by decide) (fun _ => ?_) (fun c => absurd c (by decide))
      refine X_iconst (pc := 29) (x := 0) dX14_isSecret_29 (by decide) ?_
      refine X_zreturn (pc := 30) dX14_isSecret_30 rfl (by first | exact Or.inl rfl | exact Or.inr rfl | assumption | exact zo_if) (Nat.le_of_ble_eq_true rfl) (Nat.le_of_ble_eq_true rfl) ?_
      exact ⟨0, rfl, by rw [if_neg (by omega)], w1⟩
    · rw [if_neg c2] at er2
      subst er2
      refine X_if_ne (pc := 22) 29 dX14_isSecret_22 (by decide) (fun c => absurd rfl c) (fun _ => ?_)
      refine X_iconst (pc := 25) (x := 1) dX14_isSecret_25 (by decide) ?_
      refine X_goto (pc := 26) 30 dX14_isSecret_26 (by decide) ?_
      refine X_zreturn (pc := 30) dX14_isSecret_30 rfl (by first | exact Or.inl rfl | exact Or.inr rfl | assumption | exact zo_if) (Nat.le_of_ble_eq_true rfl) (Nat.le_of_ble_eq_true rfl) ?_
      exact ⟨1, rfl, by rw [if_pos ⟨by omega, c1⟩], w1⟩
  · rw [if_neg c1] at er
    subst er
    refine X_if_eq (pc := 15) 29 dX14_isSecret_15 (by decide) (fun _ => ?_) (fun c => absurd rfl c)
    refine X_iconst (pc := 29) (x := 0) dX14_isSecret_29 (by decide) ?_
    refine X_zreturn (pc := 30) dX14_isSecret_30 rfl (by first | exact Or.inl rfl | exact Or.inr rfl | assumption | exact zo_if) (Nat.le_of_ble_eq_true rfl) (Nat.le_of_ble_eq_true rfl) ?_
    exact ⟨0, rfl, by rw [if_neg (by intro z; exact c1 z.2)], w1⟩
theorem groupO_ok (g : GX) (w : XW kd A X R S O F h) (o : ObK kd A O B lv) {P ks ns fr : Nat} (hP : PtK kd A O P) (hP72 : 72 ≤ P) (xb : XB R) (hks : kd ks = (6, 2, ns)) (hns : ns < 2 ^ 20) (hB : IsB (S ks)) (hl : fr + 98 ≤ (S ks).length) :
    MT g MX14_group ({ frames := 9, cells := 4, slots := 256, locals := 196 } : Room) [.ref (A B), .ref (A ks), .int (nI fr), .ref (A P)] h (RV (PtH kd A X R S O F P (h2p (sub (S ks) fr 98)))) := by
  refine MT.of (by decide) (Nat.le_of_ble_eq_true rfl) ?_
  have zl : zer128.length = 128 := List.length_replicate
  refine X_aload_n (pc := 0) 0 dX14_group_0 rfl rfl ?_
  refine X_getfield (pc := 1) dX14_group_1 fg_X14_58_9 (o.ob w) (by first | rfl | assumption) ?_
  refine X_ivr (pc := 4) _ dX14_group_4 cv_X14_109_3 (XW.cv w) rfl (beginX_ok g w) nX5_begin (Nat.le_of_ble_eq_true rfl) (Nat.le_of_ble_eq_true rfl) (Nat.le_of_ble_eq_true rfl) (Nat.le_of_ble_eq_true rfl) (fun r1 h1 q1 => ?_)
  obtain ⟨rfl, d1⟩ := q1
  refine X_aload_n (pc := 7) 1 dX14_group_7 rfl rfl ?_
  refine X_iload_n (pc := 8) 2 dX14_group_8 rfl rfl ?_
  refine X_bipush (pc := 9) (x := 98) dX14_group_9 (by decide) ?_
  refine X_ivr (pc := 11) _ dX14_group_11 cv_X14_113_2 (XW.dL d1.1) rfl (xputsL_ok g d1 (n := 98) hks (by omega) hB hl (by rw [zl]; decide)) nX2_put (Nat.le_of_ble_eq_true rfl) (Nat.le_of_ble_eq_true rfl) (Nat.le_of_ble_eq_true rfl) (Nat.le_of_ble_eq_true rfl) (fun r2 h2 q2 => ?_)
  obtain ⟨rfl, d2⟩ := q2
  refine X_pop (pc := 14) dX14_group_14 rfl ?_
  refine X_aload_n (pc := 15) 0 dX14_group_15 rfl rfl ?_
  refine X_getfield (pc := 16) dX14_group_16 fg_X14_58_9 (o.ob d2.1) (by first | rfl | assumption) ?_
  refine X_aload_n (pc := 19) 3 dX14_group_19 rfl rfl ?_
  refine X_ivv (pc := 20) _ dX14_group_20 cv_X14_119_3 (XW.cv d2.1) rfl (groupX_ok g d2 hP hP72 xb (by rw [sub_len]; decide)) nX5_group (Nat.le_of_ble_eq_true rfl) (Nat.le_of_ble_eq_true rfl) (Nat.le_of_ble_eq_true rfl) (Nat.le_of_ble_eq_true rfl) (fun h3 q3 => ?_)
  refine X_return (pc := 23) dX14_group_23 rfl (Nat.le_of_ble_eq_true rfl) (Nat.le_of_ble_eq_true rfl) ?_
  exact ⟨rfl, q3⟩
theorem writeO_ok (g : GX) (w : XW kd A X R S O F h) (o : ObK kd A O B lv) {P kt nt : Nat} (hP : PtK kd A O P) (hP60 : 60 ≤ P) (hkt : kd kt = (6, 2, nt)) (hnt : nt < 2 ^ 31) (hl : (S kt).length + 49 ≤ nt) {D : PP} (hv : PtV R P D) :
    MT g MX14_write ({ frames := 6, cells := 0, slots := 0, locals := 141 } : Room) [.ref (A B), .ref (A P), .ref (A kt), .int (nI (S kt).length)] h (TW (A 50) (RV fun h' => D ≠ none ∧ ∃ R', (∀ j, cvS j = false → R' j = R j) ∧ XW kd A X R' (up S kt (S kt ++ en D)) O F h') (fun h' => D = none ∧ ∃ R', (∀ j, cvS j = false → R' j = R j) ∧ XW kd A X R' S O (up F 24 (-4)) h')) := by
  refine MT.of (by decide) (Nat.le_of_ble_eq_true rfl) ?_
  refine X_aload_n (pc := 0) 0 dX14_write_0 rfl rfl ?_
  refine X_getfield (pc := 1) dX14_write_1 fg_X14_58_9 (o.ob w) (by first | rfl | assumption) ?_
  refine X_aload_n (pc := 4) 1 dX14_write_4 rfl rfl ?_
  refine X_aload_n (pc := 5) 2 dX14_write_5 rfl rfl ?_
  refine X_iload_n (pc := 6) 3 dX14_write_6 rfl rfl ?_
  refine X_ivi (pc := 7) _ dX14_write_7 cv_X14_85_3 (XW.cv w) rfl (xwriteP_ok g w hP hP60 hkt hnt hl hv) nX5_write (Nat.le_of_ble_eq_true rfl) (Nat.le_of_ble_eq_true rfl) (Nat.le_of_ble_eq_true rfl) (Nat.le_of_ble_eq_true rfl) (fun r1 h1 q1 => ?_)
  obtain ⟨R1, f1, ⟨er, hD, w1⟩ | ⟨er, hD, w1⟩⟩ := q1
  · subst er
    refine X_if_ne (pc := 10) 23 dX14_write_10 (by decide) (fun c => absurd rfl c) (fun _ => ?_)
    refine X_aload_n (pc := 13) 0 dX14_write_13 rfl rfl ?_
    refine X_getfield (pc := 14) dX14_write_14 fg_X14_62_9 (o.ob w1) (by first | rfl | assumption) ?_
    refine X_bipush (pc := 17) (x := (-4)) dX14_write_17 (by decide) ?_
    refine X_ivr (pc := 19) _ dX14_write_19 cv_X14_70_6 (XW.rf w1) rfl (as_ok g w1 (-4)) nX8_as (Nat.le_of_ble_eq_true rfl) (Nat.le_of_ble_eq_true rfl) (Nat.le_of_ble_eq_true rfl) (Nat.le_of_ble_eq_true rfl) (fun r2 h2 q2 => ?_)
    obtain ⟨rfl, w2⟩ := q2
    refine X_athrow (pc := 22) dX14_write_22 rfl (Nat.le_of_ble_eq_true rfl) (Nat.le_of_ble_eq_true rfl) ?_
    exact Or.inr ⟨rfl, hD, R1, f1, w2⟩
  · subst er
    refine X_if_ne (pc := 10) 23 dX14_write_10 (by decide) (fun _ => ?_) (fun c => absurd c (by decide))
    refine X_return (pc := 23) dX14_write_23 rfl (Nat.le_of_ble_eq_true rfl) (Nat.le_of_ble_eq_true rfl) ?_
    exact Or.inl ⟨rfl, hD, R1, f1, w1⟩
theorem readO_ok (g : GX) (w : XW kd A X R S O F h) (o : ObK kd A O B lv) {P kb nb at' : Nat} (hP : PtK kd A O P) (hP60 : 64 ≤ P) (xb : XB R) (hkb : kd kb = (6, 2, nb)) (hnb : nb < 2 ^ 31) (hl : at' + 49 ≤ (S kb).length) :
    MT g MX14_read ({ frames := 6, cells := 1, slots := 64, locals := 143 } : Room) [.ref (A B), .ref (A kb), .int (nI at'), .ref (A P)] h (TW (A 50) (RV fun h' => eltP (S kb) at' ≠ none ∧ ∃ R', (∀ j, ecS P j = false → R' j = R j) ∧ PtV R' P (eltP (S kb) at') ∧ XW kd A X R' S O F h') (fun h' => eltP (S kb) at' = none ∧ ∃ R', (∀ j, ecS P j = false → R' j = R j) ∧ XW kd A X R' S O (up F 24 (-4)) h')) := by
  refine MT.of (by decide) (Nat.le_of_ble_eq_true rfl) ?_
  refine X_aload_n (pc := 0) 0 dX14_read_0 rfl rfl ?_
  refine X_getfield (pc := 1) dX14_read_1 fg_X14_58_9 (o.ob w) (by first | rfl | assumption) ?_
  refine X_aload_n (pc := 4) 1 dX14_read_4 rfl rfl ?_
  refine X_iload_n (pc := 5) 2 dX14_read_5 rfl rfl ?_
  refine X_aload_n (pc := 6) 3 dX14_read_6 rfl rfl ?_
  refine X_ivi (pc := 7) _ dX14_read_7 cv_X14_123_3 (XW.cv w) rfl (xreadP_ok g w hP hP60 xb hkb hnb hl) nX5_read (Nat.le_of_ble_eq_true rfl) (Nat.le_of_ble_eq_true rfl) (Nat.le_of_ble_eq_true rfl) (Nat.le_of_ble_eq_true rfl) (fun r1 h1 q1 => ?_)
  obtain ⟨R1, f1, w1, ⟨er, hD⟩ | ⟨er, hD, v1⟩⟩ := q1
  · subst er
    refine X_if_ne (pc := 10) 23 dX14_read_10 (by decide) (fun c => absurd rfl c) (fun _ => ?_)
    refine X_aload_n (pc := 13) 0 dX14_read_13 rfl rfl ?_
    refine X_getfield (pc := 14) dX14_read_14 fg_X14_62_9 (o.ob w1) (by first | rfl | assumption) ?_
    refine X_bipush (pc := 17) (x := (-4)) dX14_read_17 (by decide) ?_
    refine X_ivr (pc := 19) _ dX14_read_19 cv_X14_70_6 (XW.rf w1) rfl (as_ok g w1 (-4)) nX8_as (Nat.le_of_ble_eq_true rfl) (Nat.le_of_ble_eq_true rfl) (Nat.le_of_ble_eq_true rfl) (Nat.le_of_ble_eq_true rfl) (fun r2 h2 q2 => ?_)
    obtain ⟨rfl, w2⟩ := q2
    refine X_athrow (pc := 22) dX14_read_22 rfl (Nat.le_of_ble_eq_true rfl) (Nat.le_of_ble_eq_true rfl) ?_
    exact Or.inr ⟨rfl, hD, R1, f1, w2⟩
  · subst er
    refine X_if_ne (pc := 10) 23 dX14_read_10 (by decide) (fun _ => ?_) (fun c => absurd c (by decide))
    refine X_return (pc := 23) dX14_read_23 rfl (Nat.le_of_ble_eq_true rfl) (Nat.le_of_ble_eq_true rfl) ?_
    exact Or.inl ⟨rfl, hD, R1, f1, v1, w1⟩
end XOb
