set_option maxRecDepth 100000
/-! VeilMint's long digest -/
def fDL (F : Nat → Int32) (l : List Int32) : Nat → Int32 := up (up F 22 (nI (l.length % 128))) 23 (nI l.length)
/-- the digest has been told l -/
def DL (kd : Nat → KD) (A : Nat → Nat) (X : AH) (R : Nat → Nat) (S : Nat → List Int32) (O : Nat → AC) (F : Nat → Int32) (l : List Int32) (h : AH) : Prop :=
  XW kd A X R S O (fDL F l) h ∧ (∃ fc, h (A 9) = some (Al false 8 fc) ∧ ∀ j, j < 8 → fc j = chL (fun j => l.getD j 0) (l.length / 128) j) ∧ ∃ fb, h (A 7) = some (Ai false 2 128 fb) ∧ ∀ j, j < l.length % 128 → fb j = l.getD (128 * (l.length / 128) + j) 0
section XDL
variable {kd : Nat → KD} {A : Nat → Nat} {X : AH} {R : Nat → Nat} {S : Nat → List Int32} {O : Nat → AC} {F : Nat → Int32} {h : AH} {l : List Int32}
theorem fDL_up (F : Nat → Int32) (l : List Int32) (x : List Int32) : fDL (fDL F l) x = fDL F x := by
  unfold fDL
  rw [up_comm (up F 22 _) _ _ (by decide), up_up', up_up']
theorem XW.dL (w : XW kd A X R S O F h) : h (A 6) = some (Ob 2 (d2Fl A F)) := w.o 6 (by decide) rfl
theorem fDL_at (F : Nat → Int32) (l : List Int32) : fDL F l 22 = nI (l.length % 128) := (up_ne (by decide)).trans (up_same _ _ _)
theorem fDL_mn (F : Nat → Int32) (l : List Int32) : fDL F l 23 = nI l.length := up_same _ _ _
theorem xstartL_ok (g : GX) (w : XW kd A X R S O F h) : MT g MX4_start ({ frames := 1, cells := 0, slots := 0, locals := 48 } : Room) [.ref (A 6)] h (RV fun h' => ∃ fc, (∀ j, j < 8 → fc j = tF384.getD j 0) ∧ XW kd A X R S O F h' ∧ h' (A 9) = some (Al false 8 fc)) := by
  refine MT.of (by decide) (Nat.le_of_ble_eq_true rfl) ?_
  obtain ⟨f0, c0⟩ := w.l 9 (w.k 9 (by decide))
  refine X_getstatic (pc := 0) (j := 2) dX4_start_0 q837 (fun _ => rfl) rfl (fun st_0 hs_0 => ?_)
  refine X_iconst (pc := 3) (x := 0) dX4_start_3 (by decide) ?_
  refine X_aload_n (pc := 4) 0 dX4_start_4 rfl rfl ?_
  refine X_getfield (pc := 5) dX4_start_5 fg_X4_7_2 (XW.dL w) (by first | rfl | assumption) ?_
  refine X_iconst (pc := 8) (x := 0) dX4_start_8 (by decide) ?_
  refine X_bipush (pc := 9) (x := 8) dX4_start_9 (by decide) ?_
  refine X_copyLro (pc := 11) 0 0 8 dX4_start_11 q839 hs_0 c0 rfl rfl rfl (by decide) (by decide) ⟨by decide, by decide⟩ (Nat.le_of_ble_eq_true rfl) (Nat.le_of_ble_eq_true rfl) ?_
  refine X_return (pc := 14) dX4_start_14 rfl (Nat.le_of_ble_eq_true rfl) (Nat.le_of_ble_eq_true rfl) ?_
  refine ⟨rfl, _, fun j hj => ?_, w.setL 9 (w.k 9 (by decide)) _, hset_self _ _ _⟩
  rw [pk_cpy_in (by omega) (by omega)]
  congr 1
  omega
theorem xbeginL_ok (g : GX) (w : XW kd A X R S O F h) : MT g MX2_begin ({ frames := 2, cells := 0, slots := 0, locals := 68 } : Room) [.ref (A 6)] h (RR fun r h' => r = A 6 ∧ DL kd A X R S O F [] h') := by
  refine MT.of (by decide) (Nat.le_of_ble_eq_true rfl) ?_
  refine X_aload_n (pc := 0) 0 dX2_begin_0 rfl rfl ?_
  refine X_lconst (pc := 1) (x := 0) dX2_begin_1 (by decide) ?_
  refine X_putfield (pc := 2) dX2_begin_2 fp_X2_16_2 (fun e => by cases e) (XW.dL w) rfl rfl (Nat.le_of_ble_eq_true rfl) ?_
  have w1 := XW.setF23 w (v := 0) (x := 0) rfl
  generalize hset h (A 6) (Ob 2 ((d2Fl A F).set 2 (.long 0))) = h1 at w1
  refine X_aload_n (pc := 5) 0 dX2_begin_5 rfl rfl ?_
  refine X_iconst (pc := 6) (x := 0) dX2_begin_6 (by decide) ?_
  refine X_putfield (pc := 7) dX2_begin_7 fp_X2_20_2 (fun e => by cases e) (XW.dL w1) rfl rfl (Nat.le_of_ble_eq_true rfl) ?_
  have w2 := XW.setF22 w1 (v := 0)
  generalize hset h1 (A 6) (Ob 2 ((d2Fl A (up F 23 0)).set 3 (.int 0))) = h2 at w2
  rw [up_comm F _ _ (by decide)] at w2
  refine X_aload_n (pc := 10) 0 dX2_begin_10 rfl rfl ?_
  refine X_ivv (pc := 11) _ dX2_begin_11 cv_X2_24_2 (XW.dL w2) rfl (xstartL_ok g w2) nX4_start (Nat.le_of_ble_eq_true rfl) (Nat.le_of_ble_eq_true rfl) (Nat.le_of_ble_eq_true rfl) (Nat.le_of_ble_eq_true rfl) (fun h3 q3 => ?_)
  obtain ⟨fc, hc, w3, c3⟩ := q3
  obtain ⟨fb, cb⟩ := w3.j 7 (w3.k 7 (by decide))
  refine X_aload_n (pc := 14) 0 dX2_begin_14 rfl rfl ?_
  refine X_aret (pc := 15) dX2_begin_15 rfl (Or.inl ⟨_, rfl⟩) (Or.inr ⟨_, rfl⟩) (Nat.le_of_ble_eq_true rfl) (Nat.le_of_ble_eq_true rfl) ?_
  exact ⟨_, rfl, rfl, w3, ⟨fc, c3, hc⟩, fb, cb, fun j hj => absurd hj (by simp)⟩
set_option maxHeartbeats 4000000 in
theorem xputL_ok (g : GX) (d : DL kd A X R S O F l h) (b : Int32) (hl : l.length + 1 < 2 ^ 28) : MT g MX2_put_2 ({ frames := 2, cells := 0, slots := 0, locals := 63 } : Room) [.ref (A 6), .int b] h (RR fun r h' => r = A 6 ∧ DL kd A X R S O F (l ++ [b.toInt8.toInt32]) h') := by
  refine MT.of (by decide) (Nat.le_of_ble_eq_true rfl) ?_
  obtain ⟨w, ⟨fc, ch, hfc⟩, fb, cb, hfb⟩ := d
  have lm : l.length % 128 < 128 := Nat.mod_lt _ (by decide)
  have ca : (nI (l.length % 128)).toNatClampNeg = l.length % 128 := nI_clamp (by omega)
  have ba : vp_in (nI (l.length % 128)) 128 := vp_in_nI lm (by omega)
  have ea := fDL_at F l
  have em := fDL_mn F l
  have hlen : (l ++ [b.toInt8.toInt32]).length = l.length + 1 := by rw [List.length_append]; rfl
  have nHB : A 9 ≠ A 7 := w.ne (by rw [w.k 9 (by decide)]; decide) (by rw [w.k 7 (by decide)]; decide) (by decide)
  have nHO : A 9 ≠ A 6 := w.ne (by rw [w.k 9 (by decide)]; decide) (by rw [w.k 6 (by decide)]; decide) (by decide)
  have nBO : A 7 ≠ A 6 := w.ne (by rw [w.k 7 (by decide)]; decide) (by rw [w.k 6 (by decide)]; decide) (by decide)
  have nHW : A 9 ≠ A 10 := w.ne (by rw [w.k 9 (by decide)]; decide) (by rw [w.k 10 (by decide)]; decide) (by decide)
  have nBW : A 7 ≠ A 10 := w.ne (by rw [w.k 7 (by decide)]; decide) (by rw [w.k 10 (by decide)]; decide) (by decide)
  refine X_aload_n (pc := 0) 0 dX2_put_2_0 rfl rfl ?_
  refine X_getfield (pc := 1) dX2_put_2_1 fg_X2_7_2 (XW.dL w) (by first | rfl | assumption) ?_
  refine X_aload_n (pc := 4) 0 dX2_put_2_4 rfl rfl ?_
  refine X_getfield (pc := 5) dX2_put_2_5 fg_X2_20_2 (XW.dL w) (by first | rfl | assumption) ?_
  rw [ea]
  refine X_iload_n (pc := 8) 1 dX2_put_2_8 rfl rfl ?_
  refine X_i2b (pc := 9) dX2_put_2_9 ?_
  refine X_bastore (pc := 10) dX2_put_2_10 cb ba ?_
  rw [ca, i8i]
  have w1 := w.setJ 7 (w.k 7 (by decide)) (upd fb (l.length % 128) b.toInt8.toInt32)
  have cb1 := hset_self h (A 7) (Ai false 2 128 (upd fb (l.length % 128) b.toInt8.toInt32))
  have ch1 : hset h (A 7) (Ai false 2 128 (upd fb (l.length % 128) b.toInt8.toInt32)) (A 9) = some (Al false 8 fc) := by rw [hset_ne nHB]; exact ch
  generalize hset h (A 7) (Ai false 2 128 (upd fb (l.length % 128) b.toInt8.toInt32)) = h1 at w1 cb1 ch1
  have hfb1 : ∀ j, j < l.length % 128 + 1 → upd fb (l.length % 128) b.toInt8.toInt32 j = (l ++ [b.toInt8.toInt32]).getD (128 * (l.length / 128) + j) 0 := fun j hj => by
    by_cases e : j = l.length % 128
    · subst e
      rw [pk_us, show 128 * (l.length / 128) + l.length % 128 = l.length from Nat.div_add_mod _ _, getD_snoc_eq]
    · rw [pk_un e, hfb j (by omega), getD_snoc_lt (by have := Nat.div_add_mod l.length 128; omega)]
  generalize upd fb (l.length % 128) b.toInt8.toInt32 = fb1 at cb1 hfb1
  refine X_aload_n (pc := 11) 0 dX2_put_2_11 rfl rfl ?_
  refine X_dup (pc := 12) dX2_put_2_12 rfl ?_
  refine X_getfield (pc := 13) dX2_put_2_13 fg_X2_20_2 (XW.dL w1) (by first | rfl | assumption) ?_
  refine X_iconst (pc := 16) (x := 1) dX2_put_2_16 (by decide) ?_
  refine X_iadd (pc := 17) dX2_put_2_17 ?_
  rw [ea, show nI (l.length % 128) + 1 = nI (l.length % 128 + 1) from nI_add _ 1]
  refine X_putfield (pc := 18) dX2_put_2_18 fp_X2_20_2 (fun e => by cases e) (XW.dL w1) rfl rfl (Nat.le_of_ble_eq_true rfl) ?_
  have w2 := XW.setF22 w1 (v := nI (l.length % 128 + 1))
  have cb2 : hset h1 (A 6) (Ob 2 ((d2Fl A (fDL F l)).set 3 (.int (nI (l.length % 128 + 1))))) (A 7) = some (Ai false 2 128 fb1) := by rw [hset_ne nBO]; exact cb1
  have ch2 : hset h1 (A 6) (Ob 2 ((d2Fl A (fDL F l)).set 3 (.int (nI (l.length % 128 + 1))))) (A 9) = some (Al false 8 fc) := by rw [hset_ne nHO]; exact ch1
  generalize hset h1 (A 6) (Ob 2 ((d2Fl A (fDL F l)).set 3 (.int (nI (l.length % 128 + 1))))) = h2 at w2 cb2 ch2
  have em2 : up (fDL F l) 22 (nI (l.length % 128 + 1)) 23 = nI l.length := (up_ne (by decide)).trans em
  refine X_aload_n (pc := 21) 0 dX2_put_2_21 rfl rfl ?_
  refine X_dup (pc := 22) dX2_put_2_22 rfl ?_
  refine X_getfield (pc := 23) dX2_put_2_23 fg_X2_16_2 (XW.dL w2) (by first | rfl | assumption) ?_
  refine X_lconst (pc := 26) (x := 1) dX2_put_2_26 (by decide) ?_
  refine X_ladd (pc := 27) dX2_put_2_27 ?_
  rw [em2, many1 (by omega)]
  refine X_putfield (pc := 28) dX2_put_2_28 fp_X2_16_2 (fun e => by cases e) (XW.dL w2) rfl rfl (Nat.le_of_ble_eq_true rfl) ?_
  have w3 := XW.setF23 w2 (v := nI (l.length + 1)) rfl
  have cb3 : hset h2 (A 6) (Ob 2 ((d2Fl A (up (fDL F l) 22 (nI (l.length % 128 + 1)))).set 2 (.long (nI (l.length + 1)).toInt64))) (A 7) = some (Ai false 2 128 fb1) := by rw [hset_ne nBO]; exact cb2
  have ch3 : hset h2 (A 6) (Ob 2 ((d2Fl A (up (fDL F l) 22 (nI (l.length % 128 + 1)))).set 2 (.long (nI (l.length + 1)).toInt64))) (A 9) = some (Al false 8 fc) := by rw [hset_ne nHO]; exact ch2
  generalize hset h2 (A 6) (Ob 2 ((d2Fl A (up (fDL F l) 22 (nI (l.length % 128 + 1)))).set 2 (.long (nI (l.length + 1)).toInt64))) = h3 at w3 cb3 ch3
  have eF : up (up (fDL F l) 22 (nI (l.length % 128 + 1))) 23 (nI (l.length + 1)) = up (up F 22 (nI (l.length % 128 + 1))) 23 (nI (l.length + 1)) := by
    unfold fDL
    rw [up_comm (up F 22 _) _ _ (by decide), up_up', up_up']
  rw [eF] at w3
  have ea3 : up (up F 22 (nI (l.length % 128 + 1))) 23 (nI (l.length + 1)) 22 = nI (l.length % 128 + 1) := (up_ne (by decide)).trans (up_same _ _ _)
  refine X_aload_n (pc := 31) 0 dX2_put_2_31 rfl rfl ?_
  refine X_getfield (pc := 32) dX2_put_2_32 fg_X2_20_2 (XW.dL w3) (by first | rfl | assumption) ?_
  refine X_aload_n (pc := 35) 0 dX2_put_2_35 rfl rfl ?_
  refine X_getfield (pc := 36) dX2_put_2_36 fg_X2_7_2 (XW.dL w3) (by first | rfl | assumption) ?_
  refine X_alenI (pc := 39) dX2_put_2_39 cb3 (fun _ => rfl) ?_
  rw [ea3]
  by_cases full : l.length % 128 + 1 = 128
  · rw [full]
    refine X_icmp_ne (pc := 40) 52 dX2_put_2_40 (by decide) (fun c => absurd rfl c) (fun _ => ?_)
    obtain ⟨fw, cw⟩ := w3.l 10 (w3.k 10 (by decide))
    refine X_aload_n (pc := 43) 0 dX2_put_2_43 rfl rfl ?_
    refine X_ivv (pc := 44) _ dX2_put_2_44 cv_X2_27_2 (XW.dL w3) rfl (x4_mix_ok g (XW.dL w3) cb3 ch3 cw nHW nBW) nX4_mix (Nat.le_of_ble_eq_true rfl) (Nat.le_of_ble_eq_true rfl) (Nat.le_of_ble_eq_true rfl) (Nat.le_of_ble_eq_true rfl) (fun h4 q4 => ?_)
    obtain ⟨fs, hfs, rfl⟩ := q4
    have hdv : (l.length + 1) / 128 = l.length / 128 + 1 := by omega
    have hmd : (l.length + 1) % 128 = 0 := by omega
    have hstep := cmpL_step (m := fun j => (l ++ [b.toInt8.toInt32]).getD j 0) (b := l.length / 128) (fc := fc) (f := fs) (hfs.cg fun j hj => by rw [Nat.zero_add]; exact hfb1 j (by omega)) (fun j hj => (hfc j hj).trans (chL_cg _ (fun i hi => (getD_snoc_lt (by have := Nat.div_add_mod l.length 128; omega)).symm) j hj))
    have w4 := w3.setL 10 (w3.k 10 (by decide)) fs
    have w5 := w4.setL 9 (w4.k 9 (by decide)) (cmpL (rnLs (fun j => t512.getD j 0) fs fc 80) fc)
    have ch5 := hset_self (hset h3 (A 10) (Al false 80 fs)) (A 9) (Al false 8 (cmpL (rnLs (fun j => t512.getD j 0) fs fc 80) fc))
    generalize hset (hset h3 (A 10) (Al false 80 fs)) (A 9) (Al false 8 (cmpL (rnLs (fun j => t512.getD j 0) fs fc 80) fc)) = h5 at w5 ch5
    refine X_aload_n (pc := 47) 0 dX2_put_2_47 rfl rfl ?_
    refine X_iconst (pc := 48) (x := 0) dX2_put_2_48 (by decide) ?_
    refine X_putfield (pc := 49) dX2_put_2_49 fp_X2_20_2 (fun e => by cases e) (XW.dL w5) rfl rfl (Nat.le_of_ble_eq_true rfl) ?_
    have w6 := XW.setF22 w5 (v := 0)
    have ch6 : hset h5 (A 6) (Ob 2 ((d2Fl A (up (up F 22 (nI (l.length % 128 + 1))) 23 (nI (l.length + 1)))).set 3 (.int 0))) (A 9) = some (Al false 8 (cmpL (rnLs (fun j => t512.getD j 0) fs fc 80) fc)) := by rw [hset_ne nHO]; exact ch5
    generalize hset h5 (A 6) (Ob 2 ((d2Fl A (up (up F 22 (nI (l.length % 128 + 1))) 23 (nI (l.length + 1)))).set 3 (.int 0))) = h6 at w6 ch6
    obtain ⟨fb6, cb6⟩ := w6.j 7 (w6.k 7 (by decide))
    have eF6 : up (up (up F 22 (nI (l.length % 128 + 1))) 23 (nI (l.length + 1))) 22 0 = fDL F (l ++ [b.toInt8.toInt32]) := by
      unfold fDL
      rw [hlen, hmd, up_comm _ _ _ (by decide), up_up']
      rfl
    rw [eF6] at w6
    refine X_aload_n (pc := 52) 0 dX2_put_2_52 rfl rfl ?_
    refine X_aret (pc := 53) dX2_put_2_53 rfl (Or.inl ⟨_, rfl⟩) (Or.inr ⟨_, rfl⟩) (Nat.le_of_ble_eq_true rfl) (Nat.le_of_ble_eq_true rfl) ?_
    refine ⟨_, rfl, rfl, w6, ⟨_, ch6, fun j hj => ?_⟩, fb6, cb6, fun j hj => ?_⟩
    · rw [hlen, hdv]
      exact hstep j hj
    · rw [hlen, hmd] at hj
      exact absurd hj (Nat.not_lt_zero _)
  · refine X_icmp_ne (pc := 40) 52 dX2_put_2_40 (by decide) (fun _ => ?_) (fun c => absurd (nI_inj' (b := 128) (by omega) (by omega) c) full)
    have hdv : (l.length + 1) / 128 = l.length / 128 := by omega
    have hmd : (l.length + 1) % 128 = l.length % 128 + 1 := by omega
    refine X_aload_n (pc := 52) 0 dX2_put_2_52 rfl rfl ?_
    refine X_aret (pc := 53) dX2_put_2_53 rfl (Or.inl ⟨_, rfl⟩) (Or.inr ⟨_, rfl⟩) (Nat.le_of_ble_eq_true rfl) (Nat.le_of_ble_eq_true rfl) ?_
    refine ⟨_, rfl, rfl, ?_, ⟨fc, ch3, fun j hj => ?_⟩, fb1, cb3, fun j hj => ?_⟩
    · unfold fDL
      rw [hlen, hmd]
      exact w3
    · rw [hlen, hdv, hfc j hj]
      exact chL_cg _ (fun i hi => (getD_snoc_lt (by have := Nat.div_add_mod l.length 128; omega)).symm) j hj
    · rw [hlen, hmd] at hj
      rw [hlen, hdv]
      exact hfb1 j hj
theorem xputsL_ok (g : GX) (d : DL kd A X R S O F l h) {ks ns fr n : Nat} (hks : kd ks = (6, 2, ns)) (hns : ns < 2 ^ 28) (hB : IsB (S ks)) (hs : fr + n ≤ (S ks).length) (hl : l.length + n + 1 < 2 ^ 28) :
    MT g MX2_put ({ frames := 3, cells := 0, slots := 0, locals := 84 } : Room) [.ref (A 6), .ref (A ks), .int (nI fr), .int (nI n)] h (RR fun r h' => r = A 6 ∧ DL kd A X R S O F (l ++ sub (S ks) fr n) h') := by
  refine MT.of (by decide) (Nat.le_of_ble_eq_true rfl) ?_
  generalize hPost : (RR fun r h' => r = A 6 ∧ DL kd A X R S O F (l ++ sub (S ks) fr n) h') = Post
  have loop : ∀ m i, i + m = n → ∀ h', DL kd A X R S O F (l ++ sub (S ks) fr i) h' → XX g MX2_put ({ frames := 3, cells := 0, slots := 0, locals := 84 } : Room) Post 0 0 3 [(4, .int (nI i)), (0, .ref (A 6)), (1, .ref (A ks)), (2, .int (nI fr)), (3, .int (nI n))] [] h' := by
    intro m
    induction m with
    | zero =>
      intro i hi h' d'
      have e : i = n := by omega
      subst e
      refine X_iload (pc := 3) 0 dX2_put_3 rfl ?_
      refine X_iload_n (pc := 5) 4 dX2_put_5 rfl rfl ?_
      refine X_cge (pc := 6) 26 dX2_put_6 (by decide) (by omega) (by omega) (fun _ => ?_) (fun c => absurd c (by omega))
      refine X_aload_n (pc := 26) 1 dX2_put_26 rfl rfl ?_
      subst hPost
      refine X_aret (pc := 27) dX2_put_27 rfl (Or.inl ⟨_, rfl⟩) (Or.inr ⟨_, rfl⟩) (Nat.le_of_ble_eq_true rfl) (Nat.le_of_ble_eq_true rfl) ?_
      exact ⟨_, rfl, rfl, d'⟩
    | succ m ih =>
      intro i hi h' d'
      obtain ⟨fb, cb, pb, lb⟩ := d'.1.s ks hks
      have ca : (nI (fr + i)).toNatClampNeg = fr + i := nI_clamp (by omega)
      have ba : vp_in (nI (fr + i)) ns := vp_in_nI (by omega) (by omega)
      refine X_iload (pc := 3) 0 dX2_put_3 rfl ?_
      refine X_iload_n (pc := 5) 4 dX2_put_5 rfl rfl ?_
      refine X_cge (pc := 6) 26 dX2_put_6 (by decide) (by omega) (by omega) (fun c => absurd c (by omega)) (fun _ => ?_)
      refine X_aload_n (pc := 9) 1 dX2_put_9 rfl rfl ?_
      refine X_aload_n (pc := 10) 2 dX2_put_10 rfl rfl ?_
      refine X_iload_n (pc := 11) 3 dX2_put_11 rfl rfl ?_
      refine X_iload (pc := 12) 0 dX2_put_12 rfl ?_
      refine X_iadd (pc := 14) dX2_put_14 ?_
      rw [nI_add]
      refine X_baload (pc := 15) dX2_put_15 cb ba ?_
      rw [ca, pb _ (by omega)]
      refine X_ivr (pc := 16) _ dX2_put_16 cv_X2_30_2 (XW.dL d'.1) rfl (xputL_ok g d' _ (by rw [List.length_append, sub_len]; omega)) nX2_put_2 (Nat.le_of_ble_eq_true rfl) (Nat.le_of_ble_eq_true rfl) (Nat.le_of_ble_eq_true rfl) (Nat.le_of_ble_eq_true rfl) (fun r2 h2 q2 => ?_)
      obtain ⟨rfl, d2⟩ := q2
      rw [B_nar hB, List.append_assoc, ← sub_snoc] at d2
      refine X_pop (pc := 19) dX2_put_19 rfl ?_
      refine X_iinc (pc := 20) (L' := [(4, .int (_ + 1)), (0, .ref _), (1, .ref _), (2, .int _), (3, .int _)]) 0 dX2_put_20 rfl rfl (Nat.le_of_ble_eq_true rfl) rfl ?_
      refine X_goto (pc := 23) 3 dX2_put_23 (by decide) ?_
      rw [show nI i + 1 = nI (i + 1) from nI_add i 1]
      exact ih (i + 1) (by omega) h2 d2
  refine X_iconst (pc := 0) (x := 0) dX2_put_0 (by decide) ?_
  refine X_istore (pc := 1) (L' := [(4, .int _), (0, .ref _), (1, .ref _), (2, .int _), (3, .int _)]) dX2_put_1 (Nat.le_of_ble_eq_true rfl) rfl ?_
  exact loop n 0 (by omega) h (by show DL kd A X R S O F (l ++ []) h; rw [List.append_nil]; exact d)
theorem xtwoL_ok (g : GX) (d : DL kd A X R S O F l h) {n : Nat} (hn : n < 2 ^ 31) (hl : l.length + 3 < 2 ^ 28) :
    MT g MX2_two ({ frames := 3, cells := 0, slots := 0, locals := 84 } : Room) [.ref (A 6), .int (nI n)] h (RR fun r h' => r = A 6 ∧ DL kd A X R S O F (l ++ [tb (n / 256), tb n]) h') := by
  refine MT.of (by decide) (Nat.le_of_ble_eq_true rfl) ?_
  refine X_aload_n (pc := 0) 0 dX2_two_0 rfl rfl ?_
  refine X_iload_n (pc := 1) 1 dX2_two_1 rfl rfl ?_
  refine X_bipush (pc := 2) (x := 8) dX2_two_2 (by decide) ?_
  refine X_ishr (pc := 4) dX2_two_4 ?_
  rw [show nI n >>> ((8 : Int32) &&& 31) = nI (n / 256) from pk_shrN hn _ 8 (sl_n 8 (by decide))]
  refine X_ivr (pc := 5) _ dX2_two_5 cv_X2_30_2 (XW.dL d.1) rfl (xputL_ok g d _ (by omega)) nX2_put_2 (Nat.le_of_ble_eq_true rfl) (Nat.le_of_ble_eq_true rfl) (Nat.le_of_ble_eq_true rfl) (Nat.le_of_ble_eq_true rfl) (fun r1 h1 q1 => ?_)
  obtain ⟨rfl, d1⟩ := q1
  rw [tb_i] at d1
  refine X_iload_n (pc := 8) 1 dX2_two_8 rfl rfl ?_
  refine X_ivr (pc := 9) _ dX2_two_9 cv_X2_30_2 (XW.dL d1.1) rfl (xputL_ok g d1 _ (by rw [List.length_append]; show l.length + 1 + 1 < _; omega)) nX2_put_2 (Nat.le_of_ble_eq_true rfl) (Nat.le_of_ble_eq_true rfl) (Nat.le_of_ble_eq_true rfl) (Nat.le_of_ble_eq_true rfl) (fun r2 h2 q2 => ?_)
  obtain ⟨rfl, d2⟩ := q2
  rw [tb_i, List.append_assoc] at d2
  refine X_aret (pc := 12) dX2_two_12 rfl (Or.inl ⟨_, rfl⟩) (Or.inr ⟨_, rfl⟩) (Nat.le_of_ble_eq_true rfl) (Nat.le_of_ble_eq_true rfl) ?_
  exact ⟨_, rfl, rfl, d2⟩
end XDL
