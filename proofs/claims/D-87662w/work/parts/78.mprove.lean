set_option maxRecDepth 100000
/-! the reference: challenges and proofs -/
def ch0 : List Nat := chars "Challenge"
theorem ch0_len : ch0.length = 9 := by decide
theorem c7_ch : ∀ j, ch0.getD j 0 < 128 := c7_all (by decide)
def chmsg (e0 e1 e2 e3 e4 : List Int32) : List Int32 := [tb 0, tb 49] ++ e0 ++ [tb 0, tb 49] ++ e1 ++ [tb 0, tb 49] ++ e2 ++ [tb 0, tb 49] ++ e3 ++ [tb 0, tb 49] ++ e4 ++ wrd ch0
noncomputable def chal (K M Z T U : PP) : Nat := h2s (chmsg (en K) (en M) (en Z) (en T) (en U))
theorem cpt_on {d : Nat → Nat} {P : Nat → PP} {n : Nat} (h : ∀ i, i < n → OnP (P i)) : OnP (cpt d P n) := by
  induction n with
  | zero => exact on_none
  | succ n ih => exact ad_on (ih fun i hi => h i (by omega)) (mP_on (h n (by omega)) _)
section MCh
variable {A : Nat → Nat} {X : AH} {R : Nat → Nat} {I : Nat → Nat → Int32} {S : Nat → List Int32} {F : Nat → Int32} {h : AH}
theorem spt_no {s : Nat} (h : ¬ F (400 + s) = 0) : spt R F s = none := if_neg h
theorem spt_so {s : Nat} (h : F (400 + s) = 0) : spt R F s ≠ none := by unfold spt; rw [if_pos h]; exact fun e => by cases e
theorem sp_n {z : Int32} (h : z = 0 ∨ z = 1) : ¬ z = 0 → z = 1 := fun c => h.resolve_left c
def HPost (A : Nat → Nat) (X : AH) (R : Nat → Nat) (I : Nat → Nat → Int32) (S : Nat → List Int32) (F : Nat → Int32) (k : Nat) (K M Z T U : PP) (r : Int32) (h h' : AH) : Prop :=
  (r = 0 ∧ h' = h ∧ (M = none ∨ Z = none ∨ T = none ∨ U = none)) ∨ (r = 1 ∧ (M ≠ none ∧ Z ≠ none ∧ T ≠ none ∧ U ≠ none) ∧ ∃ S' F', MW A X (up R k (chal K M Z T U)) I S' F' h' ∧ (∀ j, cK j = false → S' j = S j) ∧ F' 26 = 0 ∧ (∀ j, j ≠ 26 → j ≠ 33 → j ≠ 35 → F' j = F j))
set_option maxHeartbeats 4000000 in
theorem challenges_ok (g : GX) (w : MW A X R I S F h) {k ks : Nat} (hk : kdM k = (2, 0, 12)) (hks : ks < 31) (hK : SpO R F ks) :
    MT g MX10_challenges ({ frames := 9, cells := 0, slots := 0, locals := 191 } : Room) [.ref (A 96), .ref (A (400 + ks)), .ref (A k)] h (RI fun r h' => HPost A X R I S F k (spt R F ks) (spt R F 3) (spt R F 4) (spt R F 5) (spt R F 6) r h h') := by
  refine MT.of (by decide) (Nat.le_of_ble_eq_true rfl) ?_
  generalize hPost : (RI fun r h' => HPost A X R I S F k (spt R F ks) (spt R F 3) (spt R F 4) (spt R F 5) (spt R F 6) r h h') = Post
  have no : (spt R F 3 = none ∨ spt R F 4 = none ∨ spt R F 5 = none ∨ spt R F 6 = none) → XX g MX10_challenges ({ frames := 9, cells := 0, slots := 0, locals := 191 } : Room) Post 0 0 40 [(0, .ref (A 96)), (1, .ref (A (400 + ks))), (2, .ref (A k))] [] h := by
    intro hn
    refine X_iconst (pc := 40) (x := 0) dX10_challenges_40 (by decide) ?_
    subst hPost
    refine X_zreturn (pc := 41) dX10_challenges_41 rfl (by first | exact Or.inl rfl | exact Or.inr rfl | assumption | exact zo_if) (Nat.le_of_ble_eq_true rfl) (Nat.le_of_ble_eq_true rfl) ?_
    exact ⟨0, rfl, Or.inl ⟨rfl, rfl, hn⟩⟩
  refine X_aload_n (pc := 0) 0 dX10_challenges_0 rfl rfl ?_
  refine X_getfield (pc := 1) dX10_challenges_1 fg_X10_417_11 (MW.ob w) mf_50 ?_
  refine X_getfield (pc := 4) dX10_challenges_4 fg_X10_136_13 (w.sp 3 (by decide)) (by first | rfl | assumption) ?_
  refine X_if_ne (pc := 7) 40 dX10_challenges_7 (by decide) (fun c_7 => ?_) (fun c_7 => ?_)
  · exact no (Or.inl (spt_no c_7))
  have n3 : F (400 + 3) = 0 := c_7
  refine X_aload_n (pc := 10) 0 dX10_challenges_10 rfl rfl ?_
  refine X_getfield (pc := 11) dX10_challenges_11 fg_X10_419_11 (MW.ob w) mf_51 ?_
  refine X_getfield (pc := 14) dX10_challenges_14 fg_X10_136_13 (w.sp 4 (by decide)) (by first | rfl | assumption) ?_
  refine X_if_ne (pc := 17) 40 dX10_challenges_17 (by decide) (fun c_17 => ?_) (fun c_17 => ?_)
  · exact no (Or.inr (Or.inl (spt_no c_17)))
  have n4 : F (400 + 4) = 0 := c_17
  refine X_aload_n (pc := 20) 0 dX10_challenges_20 rfl rfl ?_
  refine X_getfield (pc := 21) dX10_challenges_21 fg_X10_450_11 (MW.ob w) mf_52 ?_
  refine X_getfield (pc := 24) dX10_challenges_24 fg_X10_136_13 (w.sp 5 (by decide)) (by first | rfl | assumption) ?_
  refine X_if_ne (pc := 27) 40 dX10_challenges_27 (by decide) (fun c_27 => ?_) (fun c_27 => ?_)
  · exact no (Or.inr (Or.inr (Or.inl (spt_no c_27))))
  have n5 : F (400 + 5) = 0 := c_27
  refine X_aload_n (pc := 30) 0 dX10_challenges_30 rfl rfl ?_
  refine X_getfield (pc := 31) dX10_challenges_31 fg_X10_453_11 (MW.ob w) mf_53 ?_
  refine X_getfield (pc := 34) dX10_challenges_34 fg_X10_136_13 (w.sp 6 (by decide)) (by first | rfl | assumption) ?_
  refine X_if_eq (pc := 37) 42 dX10_challenges_37 (by decide) (fun n6 => ?_) (fun c => no (Or.inr (Or.inr (Or.inr (spt_no c)))))
  have e0 := en_spt hK.1 hK.2.1 (w.lt (kd_y hks))
  have e1 := en_spt (R := R) n3 (w.lt (k := 203) rfl) (w.lt (k := 303) rfl)
  have e2 := en_spt (R := R) n4 (w.lt (k := 204) rfl) (w.lt (k := 304) rfl)
  have e3 := en_spt (R := R) n5 (w.lt (k := 205) rfl) (w.lt (k := 305) rfl)
  have e4 := en_spt (R := R) n6 (w.lt (k := 206) rfl) (w.lt (k := 306) rfl)
  have s3 := spt_so (R := R) n3
  have s4 := spt_so (R := R) n4
  have s5 := spt_so (R := R) n5
  have s6 := spt_so (R := R) n6
  have l0 : (en (spt R F ks)).length = 49 := by rw [e0]; exact encB_len _ _
  have l1 : (en (spt R F 3)).length = 49 := by rw [e1]; exact encB_len _ _
  have l2 : (en (spt R F 4)).length = 49 := by rw [e2]; exact encB_len _ _
  have l3 : (en (spt R F 5)).length = 49 := by rw [e3]; exact encB_len _ _
  have l4 : (en (spt R F 6)).length = 49 := by rw [e4]; exact encB_len _ _
  have B0 : IsB (en (spt R F ks)) := by rw [e0]; exact encB_B _ _
  have B1 : IsB (en (spt R F 3)) := by rw [e1]; exact encB_B _ _
  have B2 : IsB (en (spt R F 4)) := by rw [e2]; exact encB_B _ _
  have B3 : IsB (en (spt R F 5)) := by rw [e3]; exact encB_B _ _
  have B4 : IsB (en (spt R F 6)) := by rw [e4]; exact encB_B _ _
  have hch : chal (spt R F ks) (spt R F 3) (spt R F 4) (spt R F 5) (spt R F 6) = h2s (chmsg (en (spt R F ks)) (en (spt R F 3)) (en (spt R F 4)) (en (spt R F 5)) (en (spt R F 6))) := rfl
  generalize hE0 : en (spt R F ks) = E0 at *
  generalize hE1 : en (spt R F 3) = E1 at *
  generalize hE2 : en (spt R F 4) = E2 at *
  generalize hE3 : en (spt R F 5) = E3 at *
  generalize hE4 : en (spt R F 6) = E4 at *
  refine X_aload_n (pc := 42) 0 dX10_challenges_42 rfl rfl ?_
  refine X_iconst (pc := 43) (x := 0) dX10_challenges_43 (by decide) ?_
  refine X_putfield (pc := 44) dX10_challenges_44 fp_X10_331_11 (fun e => by cases e) (MW.ob w) rfl rfl (Nat.le_of_ble_eq_true rfl) ?_
  have w1 : LW A X R I S F [] (hset h (A 96) (Ob 11 ((mFl A F).set 33 (.int 0)))) := (w.setF33 (v := 0)).cutS 32 rfl
  generalize hset h (A 96) (Ob 11 ((mFl A F).set 33 (.int 0))) = h1 at *
  refine X_aload_n (pc := 47) 0 dX10_challenges_47 rfl rfl ?_
  refine X_aload_n (pc := 48) 1 dX10_challenges_48 rfl rfl ?_
  refine X_ivv (pc := 49) _ dX10_challenges_49 cv_X10_426_11 (MW.ob w1) rfl (laysSpot_ok g w1 (s := ks) hks (by decide)) nX10_laysSpot (Nat.le_of_ble_eq_true rfl) (Nat.le_of_ble_eq_true rfl) (Nat.le_of_ble_eq_true rfl) (Nat.le_of_ble_eq_true rfl) (fun h2 w2 => ?_)
  rw [← e0] at w2
  have w2 : LW A X R I (up S 56 E0) F ([tb 0, tb 49] ++ E0) h2 := w2
  have k0 : ([tb 0, tb 49] ++ E0).length = 51 := by rw [List.length_append, l0]; rfl
  have w2' : MW A X R I (up (up S 56 E0) 32 ([tb 0, tb 49] ++ E0)) (up F 33 (nI ([tb 0, tb 49] ++ E0).length)) h2 := w2
  refine X_aload_n (pc := 52) 0 dX10_challenges_52 rfl rfl ?_
  refine X_aload_n (pc := 53) 0 dX10_challenges_53 rfl rfl ?_
  refine X_getfield (pc := 54) dX10_challenges_54 fg_X10_417_11 (MW.ob w2') mf_50 ?_
  refine X_ivv (pc := 57) _ dX10_challenges_57 cv_X10_426_11 (MW.ob w2) rfl (laysSpot_ok g w2 (s := 3) (by decide) (by omega)) nX10_laysSpot (Nat.le_of_ble_eq_true rfl) (Nat.le_of_ble_eq_true rfl) (Nat.le_of_ble_eq_true rfl) (Nat.le_of_ble_eq_true rfl) (fun h3 w3 => ?_)
  rw [← e1, up_up'] at w3
  have k1 : ([tb 0, tb 49] ++ E0 ++ [tb 0, tb 49] ++ E1).length = 102 := by rw [List.length_append, List.length_append, k0, l1]; rfl
  have w3' : MW A X R I (up (up S 56 E1) 32 ([tb 0, tb 49] ++ E0 ++ [tb 0, tb 49] ++ E1)) (up F 33 (nI ([tb 0, tb 49] ++ E0 ++ [tb 0, tb 49] ++ E1).length)) h3 := w3
  refine X_aload_n (pc := 60) 0 dX10_challenges_60 rfl rfl ?_
  refine X_aload_n (pc := 61) 0 dX10_challenges_61 rfl rfl ?_
  refine X_getfield (pc := 62) dX10_challenges_62 fg_X10_419_11 (MW.ob w3') mf_51 ?_
  refine X_ivv (pc := 65) _ dX10_challenges_65 cv_X10_426_11 (MW.ob w3) rfl (laysSpot_ok g w3 (s := 4) (by decide) (by omega)) nX10_laysSpot (Nat.le_of_ble_eq_true rfl) (Nat.le_of_ble_eq_true rfl) (Nat.le_of_ble_eq_true rfl) (Nat.le_of_ble_eq_true rfl) (fun h4 w4 => ?_)
  rw [← e2, up_up'] at w4
  have k2 : ([tb 0, tb 49] ++ E0 ++ [tb 0, tb 49] ++ E1 ++ [tb 0, tb 49] ++ E2).length = 153 := by rw [List.length_append, List.length_append, k1, l2]; rfl
  have w4' : MW A X R I (up (up S 56 E2) 32 ([tb 0, tb 49] ++ E0 ++ [tb 0, tb 49] ++ E1 ++ [tb 0, tb 49] ++ E2)) (up F 33 (nI ([tb 0, tb 49] ++ E0 ++ [tb 0, tb 49] ++ E1 ++ [tb 0, tb 49] ++ E2).length)) h4 := w4
  refine X_aload_n (pc := 68) 0 dX10_challenges_68 rfl rfl ?_
  refine X_aload_n (pc := 69) 0 dX10_challenges_69 rfl rfl ?_
  refine X_getfield (pc := 70) dX10_challenges_70 fg_X10_450_11 (MW.ob w4') mf_52 ?_
  refine X_ivv (pc := 73) _ dX10_challenges_73 cv_X10_426_11 (MW.ob w4) rfl (laysSpot_ok g w4 (s := 5) (by decide) (by omega)) nX10_laysSpot (Nat.le_of_ble_eq_true rfl) (Nat.le_of_ble_eq_true rfl) (Nat.le_of_ble_eq_true rfl) (Nat.le_of_ble_eq_true rfl) (fun h5 w5 => ?_)
  rw [← e3, up_up'] at w5
  have k3 : ([tb 0, tb 49] ++ E0 ++ [tb 0, tb 49] ++ E1 ++ [tb 0, tb 49] ++ E2 ++ [tb 0, tb 49] ++ E3).length = 204 := by rw [List.length_append, List.length_append, k2, l3]; rfl
  have w5' : MW A X R I (up (up S 56 E3) 32 ([tb 0, tb 49] ++ E0 ++ [tb 0, tb 49] ++ E1 ++ [tb 0, tb 49] ++ E2 ++ [tb 0, tb 49] ++ E3)) (up F 33 (nI ([tb 0, tb 49] ++ E0 ++ [tb 0, tb 49] ++ E1 ++ [tb 0, tb 49] ++ E2 ++ [tb 0, tb 49] ++ E3).length)) h5 := w5
  refine X_aload_n (pc := 76) 0 dX10_challenges_76 rfl rfl ?_
  refine X_aload_n (pc := 77) 0 dX10_challenges_77 rfl rfl ?_
  refine X_getfield (pc := 78) dX10_challenges_78 fg_X10_453_11 (MW.ob w5') mf_53 ?_
  refine X_ivv (pc := 81) _ dX10_challenges_81 cv_X10_426_11 (MW.ob w5) rfl (laysSpot_ok g w5 (s := 6) (by decide) (by omega)) nX10_laysSpot (Nat.le_of_ble_eq_true rfl) (Nat.le_of_ble_eq_true rfl) (Nat.le_of_ble_eq_true rfl) (Nat.le_of_ble_eq_true rfl) (fun h6 w6 => ?_)
  rw [← e4, up_up'] at w6
  have k4 : ([tb 0, tb 49] ++ E0 ++ [tb 0, tb 49] ++ E1 ++ [tb 0, tb 49] ++ E2 ++ [tb 0, tb 49] ++ E3 ++ [tb 0, tb 49] ++ E4).length = 255 := by rw [List.length_append, List.length_append, k3, l4]; rfl
  refine X_aload_n (pc := 84) 0 dX10_challenges_84 rfl rfl ?_
  refine X_ldcwS (pc := 85) (j := 20) dX10_challenges_85 rfl (fun tx_85 vx_85 ht_85 => ?_)
  refine X_ivv (pc := 88) _ dX10_challenges_88 cv_X10_434_11 (MW.ob w6) rfl (laysWord_ok g w6 ht_85 c7_ch (by rw [k4]; show 255 + ch0.length ≤ 700; rw [ch0_len]; decide)) nX10_laysWord (Nat.le_of_ble_eq_true rfl) (Nat.le_of_ble_eq_true rfl) (Nat.le_of_ble_eq_true rfl) (Nat.le_of_ble_eq_true rfl) (fun h7 w7 => ?_)
  have w7 : LW A X R I (up S 56 E4) F (chmsg E0 E1 E2 E3 E4) h7 := w7
  have two : ∀ u v : Nat, IsB [tb u, tb v] := fun u v => (IsB.one u).app (IsB.one v)
  have hmB : IsB (chmsg E0 E1 E2 E3 E4) := ((((((((((two 0 49).app B0).app (two 0 49)).app B1).app (two 0 49)).app B2).app (two 0 49)).app B3).app (two 0 49)).app B4).app (wrd_B _)
  have w7' : MW A X R I (up (up S 56 E4) 32 (chmsg E0 E1 E2 E3 E4)) (up F 33 (nI (chmsg E0 E1 E2 E3 E4).length)) h7 := w7
  refine X_aload_n (pc := 91) 0 dX10_challenges_91 rfl rfl ?_
  refine X_aload_n (pc := 92) 2 dX10_challenges_92 rfl rfl ?_
  refine X_ivv (pc := 93) _ dX10_challenges_93 cv_X10_440_11 (MW.ob w7') rfl (toScalar_ok g w7' (k := k) hk (up_same _ _ _) (up_same _ _ _) hmB) nX10_toScalar (Nat.le_of_ble_eq_true rfl) (Nat.le_of_ble_eq_true rfl) (Nat.le_of_ble_eq_true rfl) (Nat.le_of_ble_eq_true rfl) (fun h8 q8 => ?_)
  obtain ⟨S8, F8, w8, sf8, hf8⟩ := q8
  rw [← hch] at w8
  refine X_iconst (pc := 96) (x := 1) dX10_challenges_96 (by decide) ?_
  subst hPost
  refine X_zreturn (pc := 97) dX10_challenges_97 rfl (by first | exact Or.inl rfl | exact Or.inr rfl | assumption | exact zo_if) (Nat.le_of_ble_eq_true rfl) (Nat.le_of_ble_eq_true rfl) ?_
  refine ⟨1, rfl, Or.inr ⟨rfl, ⟨s3, s4, s5, s6⟩, S8, F8, w8, fun j hj => ?_, hf8.1, fun j a1 a2 a3 => ?_⟩⟩
  · rw [sf8 j (cK_h hj), up_ne (cK_ne hj rfl), up_ne (cK_ne hj rfl)]
  · rw [hf8.2 j a1 a3, up_ne a2]
def pvR (j : Nat) : Bool := cScr j || j == 58 || j == 59 || j == 60 || j == 205 || j == 305 || j == 206 || j == 306
def pvF (j : Nat) : Bool := cF j || j == 405 || j == 406
theorem pvR_c {j : Nat} (h : pvR j = false) : cScr j = false := by
  unfold pvR at h
  simp only [Bool.or_eq_false_iff] at h
  simp [h]
theorem pvR_ne {j k : Nat} (h : pvR j = false) (hk : pvR k = true) : j ≠ k := fun e => by rw [e, hk] at h; cases h
theorem pvF_ne {j k : Nat} (h : pvF j = false) (hk : pvF k = true) : j ≠ k := fun e => by rw [e, hk] at h; cases h
theorem pvF_c {j : Nat} (h : pvF j = false) : cF j = false := by
  unfold pvF at h
  simp only [Bool.or_eq_false_iff] at h
  simp [h]
theorem pvR_m5 {j : Nat} (h : pvR j = false) : mScr 5 j = false := by
  unfold pvR cScr at h
  unfold mScr
  simp only [Bool.or_eq_false_iff] at h ⊢
  simp [h]
theorem pvR_m6 {j : Nat} (h : pvR j = false) : mScr 6 j = false := by
  unfold pvR cScr at h
  unfold mScr
  simp only [Bool.or_eq_false_iff] at h ⊢
  simp [h]
theorem pvR_j5 {j : Nat} (h : pvR j = false) : jScr 5 j = false := by
  unfold pvR cScr at h
  unfold jScr
  simp only [Bool.or_eq_false_iff] at h ⊢
  simp [h]
theorem pvR_j6 {j : Nat} (h : pvR j = false) : jScr 6 j = false := by
  unfold pvR cScr at h
  unfold jScr
  simp only [Bool.or_eq_false_iff] at h ⊢
  simp [h]
theorem pvR_hi {j : Nat} (h : (208 ≤ j ∧ j < 300) ∨ 308 ≤ j) : pvR j = false := by
  simp only [pvR, cScr, Bool.or_eq_false_iff, beq_eq_false_iff_ne, ne_eq]
  omega
theorem pvF_hi {j : Nat} (h : 408 ≤ j) : pvF j = false := by
  simp only [pvF, cF, Bool.or_eq_false_iff, beq_eq_false_iff_ne, ne_eq]
  omega
/-- the world behind proofs: what may differ -/
def PvW (A : Nat → Nat) (X : AH) (R : Nat → Nat) (I : Nat → Nat → Int32) (S : Nat → List Int32) (F : Nat → Int32) (R' : Nat → Nat) (S' : Nat → List Int32) (F' : Nat → Int32) (h' : AH) : Prop :=
  MW A X R' I S' F' h' ∧ (∀ j, pvR j = false → R' j = R j) ∧ (∀ j, cK j = false → S' j = S j) ∧ (∀ j, pvF j = false → F' j = F j) ∧ F' 26 = 0
/-- the challenge of a proof, if there is one -/
noncomputable def prv (K M Z : PP) (r : Nat) : Option Nat := if M = none ∨ Z = none ∨ mP r GP = none ∨ mP r M = none then none else some (chal K M Z (mP r GP) (mP r M))
set_option maxHeartbeats 4000000 in
theorem proves_ok (g : GX) (w : MW A X R I S F h) {key many : Nat} (hkey : key < 6) (hm : many ≤ 8) (hkp : SpO R F (25 + key)) (ha : ∀ i, i < many → SpO R F (9 + i)) (hg : ∀ i, i < many → SpO R F (17 + i)) (hG : spt R F 0 = GP) (hG0 : F 400 = 0) (hr : R 94 < qP) :
    MT g MX10_proves ({ frames := 10, cells := 0, slots := 0, locals := 214 } : Room) [.ref (A 96), .int (nI key), .int (nI many), .ref (A 94)] h (RI fun r h' => ∃ R' S' F', PvW A X R I S F R' S' F' h' ∧
      match prv (spt R F (25 + key)) (cpt (cD (en (spt R F (25 + key))) (fun i => spt R F (9 + i)) (fun i => spt R F (17 + i))) (fun i => spt R F (9 + i)) many) (cpt (cD (en (spt R F (25 + key))) (fun i => spt R F (9 + i)) (fun i => spt R F (17 + i))) (fun i => spt R F (17 + i)) many) (R 94) with
      | none => r = 0
      | some c => r = 1 ∧ R' 58 = c ∧ R' 59 = sbN qP (R 94) (c * V 12 (I (530 + key)) % qP)) := by
  refine MT.of (by decide) (Nat.le_of_ble_eq_true rfl) ?_
  have bk : vp_in (nI key) 6 := vp_in_nI (by omega) (by omega)
  have ck : (nI key).toNatClampNeg = key := nI_clamp (by omega)
  refine X_aload_n (pc := 0) 0 dX10_proves_0 rfl rfl ?_
  refine X_iload_n (pc := 1) 2 dX10_proves_1 rfl rfl ?_
  refine X_aload_n (pc := 2) 0 dX10_proves_2 rfl rfl ?_
  refine X_getfield (pc := 3) dX10_proves_3 fg_X10_458_11 (MW.ob w) mf_65 ?_
  refine X_iload_n (pc := 6) 1 dX10_proves_6 rfl rfl ?_
  refine X_aaload (pc := 7) dX10_proves_7 (w.o 65 rfl) (fun _ => rfl) bk ?_
  rw [ck]
  show XX g MX10_proves _ _ 0 0 8 _ [.ref (A (425 + key)), .int (nI many), .ref (A 96)] h
  rw [show 425 + key = 400 + (25 + key) by omega]
  refine X_ivv (pc := 8) _ dX10_proves_8 cv_X10_461_11 (MW.ob w) rfl (composes_ok g w (ks := 25 + key) hm (by omega) hkp (by omega) ha hg) nX10_composes (Nat.le_of_ble_eq_true rfl) (Nat.le_of_ble_eq_true rfl) (Nat.le_of_ble_eq_true rfl) (Nat.le_of_ble_eq_true rfl) (fun h1 q1 => ?_)
  obtain ⟨R1, S1, F1, w1, fR1, fS1, fF1, f26, z3, z4, p3, p4⟩ := q1
  have onM : OnP (cpt (cD (en (spt R F (25 + key))) (fun i => spt R F (9 + i)) (fun i => spt R F (17 + i))) (fun i => spt R F (9 + i)) many) := cpt_on fun i hi => (ha i hi).2.2
  generalize hM : cpt (cD (en (spt R F (25 + key))) (fun i => spt R F (9 + i)) (fun i => spt R F (17 + i))) (fun i => spt R F (9 + i)) many = PM at *
  generalize hZ : cpt (cD (en (spt R F (25 + key))) (fun i => spt R F (9 + i)) (fun i => spt R F (17 + i))) (fun i => spt R F (17 + i)) many = PZ at *
  have p0 : spt R1 F1 0 = GP := by rw [← hG]; exact spt_cg (fR1 _ rfl) (fR1 _ rfl) (fF1 _ rfl)
  have r94 : R1 94 = R 94 := fR1 94 rfl
  have hr2 : R 94 < 2 ^ 384 := Nat.lt_trans hr qP_2
  refine X_aload_n (pc := 11) 0 dX10_proves_11 rfl rfl ?_
  refine X_aload_n (pc := 12) 3 dX10_proves_12 rfl rfl ?_
  refine X_aload_n (pc := 13) 0 dX10_proves_13 rfl rfl ?_
  refine X_getfield (pc := 14) dX10_proves_14 fg_X10_465_11 (MW.ob w1) mf_11 ?_
  refine X_aload_n (pc := 17) 0 dX10_proves_17 rfl rfl ?_
  refine X_getfield (pc := 18) dX10_proves_18 fg_X10_450_11 (MW.ob w1) mf_52 ?_
  refine X_ivv (pc := 21) _ dX10_proves_21 cv_X10_446_11 (MW.ob w1) rfl (mul_ok g w1 (sa := 0) (t := 5) (ak := A 94) (kv := R 94) (by decide) (by decide) (w1.lt (k := 200) rfl) (Or.inl (by rw [fF1 400 rfl]; exact hG0)) (by rw [p0]; exact GP_on) hr2 (fun {R2 F2 h2} w2 o2 => by have := OpM.n2 w2 94 rfl; rw [o2 94 rfl, r94] at this; exact this)) nX10_multiply (Nat.le_of_ble_eq_true rfl) (Nat.le_of_ble_eq_true rfl) (Nat.le_of_ble_eq_true rfl) (Nat.le_of_ble_eq_true rfl) (fun h2 q2 => ?_)
  obtain ⟨R2, F2, w2, fr2, ff2, z5, -, sp2, -⟩ := q2
  rw [p0] at sp2
  have p32 : spt R2 F2 3 = PM := by rw [← p3]; exact spt_cg (fr2 _ rfl) (fr2 _ rfl) (ff2 _ (by decide) (by decide))
  have p42 : spt R2 F2 4 = PZ := by rw [← p4]; exact spt_cg (fr2 _ rfl) (fr2 _ rfl) (ff2 _ (by decide) (by decide))
  refine X_aload_n (pc := 24) 0 dX10_proves_24 rfl rfl ?_
  refine X_aload_n (pc := 25) 3 dX10_proves_25 rfl rfl ?_
  refine X_aload_n (pc := 26) 0 dX10_proves_26 rfl rfl ?_
  refine X_getfield (pc := 27) dX10_proves_27 fg_X10_417_11 (MW.ob w2) mf_50 ?_
  refine X_aload_n (pc := 30) 0 dX10_proves_30 rfl rfl ?_
  refine X_getfield (pc := 31) dX10_proves_31 fg_X10_453_11 (MW.ob w2) mf_53 ?_
  refine X_ivv (pc := 34) _ dX10_proves_34 cv_X10_446_11 (MW.ob w2) rfl (mul_ok g w2 (sa := 3) (t := 6) (ak := A 94) (kv := R 94) (by decide) (by decide) (w2.lt (k := 203) rfl) (by rw [ff2 403 (by decide) (by decide)]; exact z3) (by rw [p32]; exact onM) hr2 (fun {R3 F3 h3} w3 o3 => by have := OpM.n2 w3 94 rfl; rw [o3 94 rfl, fr2 94 rfl, r94] at this; exact this)) nX10_multiply (Nat.le_of_ble_eq_true rfl) (Nat.le_of_ble_eq_true rfl) (Nat.le_of_ble_eq_true rfl) (Nat.le_of_ble_eq_true rfl) (fun h3 q3 => ?_)
  obtain ⟨R3, F3, w3, fr3, ff3, z6, -, sp3, -⟩ := q3
  rw [p32] at sp3
  have p33 : spt R3 F3 3 = PM := by rw [← p32]; exact spt_cg (fr3 _ rfl) (fr3 _ rfl) (ff3 _ (by decide) (by decide))
  have p43 : spt R3 F3 4 = PZ := by rw [← p42]; exact spt_cg (fr3 _ rfl) (fr3 _ rfl) (ff3 _ (by decide) (by decide))
  have p53 : spt R3 F3 5 = mP (R 94) GP := by rw [← sp2]; exact spt_cg (fr3 _ rfl) (fr3 _ rfl) (ff3 _ (by decide) (by decide))
  have fR3 : ∀ j, pvR j = false → R3 j = R j := fun j hj => by rw [fr3 j (pvR_m6 hj), fr2 j (pvR_m5 hj)]; exact fR1 j (pvR_c hj)
  have fF3 : ∀ j, pvF j = false → F3 j = F j := fun j hj => by rw [ff3 j (pvF_ne hj rfl) (pvF_ne hj rfl), ff2 j (pvF_ne hj rfl) (pvF_ne hj rfl)]; exact fF1 j (pvF_c hj)
  have f263 : F3 26 = 0 := by rw [ff3 26 (by decide) (by decide), ff2 26 (by decide) (by decide)]; exact f26
  have pk3 : spt R3 F3 (25 + key) = spt R F (25 + key) := spt_cg (fR3 _ (pvR_hi (by omega))) (fR3 _ (pvR_hi (by omega))) (fF3 _ (pvF_hi (by omega)))
  have hK3 : SpO R3 F3 (25 + key) := ⟨by rw [fF3 _ (pvF_hi (by omega))]; exact hkp.1, by rw [fR3 _ (pvR_hi (by omega))]; exact hkp.2.1, by rw [pk3]; exact hkp.2.2⟩
  refine X_aload_n (pc := 37) 0 dX10_proves_37 rfl rfl ?_
  refine X_aload_n (pc := 38) 0 dX10_proves_38 rfl rfl ?_
  refine X_getfield (pc := 39) dX10_proves_39 fg_X10_458_11 (MW.ob w3) mf_65 ?_
  refine X_iload_n (pc := 42) 1 dX10_proves_42 rfl rfl ?_
  refine X_aaload (pc := 43) dX10_proves_43 (w3.o 65 rfl) (fun _ => rfl) bk ?_
  refine X_aload_n (pc := 44) 0 dX10_proves_44 rfl rfl ?_
  refine X_getfield (pc := 45) dX10_proves_45 fg_X10_468_11 (MW.ob w3) mf_58 ?_
  rw [ck]
  show XX g MX10_proves _ _ 0 0 48 _ [.ref (A 58), .ref (A (425 + key)), .ref (A 96)] h3
  rw [show 425 + key = 400 + (25 + key) by omega]
  refine X_ivi (pc := 48) _ dX10_proves_48 cv_X10_471_11 (MW.ob w3) rfl (challenges_ok g w3 (k := 58) (ks := 25 + key) rfl (by omega) hK3) nX10_challenges (Nat.le_of_ble_eq_true rfl) (Nat.le_of_ble_eq_true rfl) (Nat.le_of_ble_eq_true rfl) (Nat.le_of_ble_eq_true rfl) (fun r4 h4 q4 => ?_)
  rw [pk3, p33, p43, p53, sp3] at q4
  rcases q4 with ⟨rfl, rfl, hn⟩ | ⟨rfl, ⟨hn1, hn2, hn3, hn4⟩, S4, F4, w4, fS4, f264, fF4⟩
  · have hpv : prv (spt R F (25 + key)) PM PZ (R 94) = none := if_pos hn
    refine X_if_ne (pc := 51) 56 dX10_proves_51 (by decide) (fun c => absurd rfl c) (fun _ => ?_)
    refine X_iconst (pc := 54) (x := 0) dX10_proves_54 (by decide) ?_
    refine X_zreturn (pc := 55) dX10_proves_55 rfl (by first | exact Or.inl rfl | exact Or.inr rfl | assumption | exact zo_if) (Nat.le_of_ble_eq_true rfl) (Nat.le_of_ble_eq_true rfl) ?_
    refine ⟨0, rfl, R3, S1, F3, ⟨w3, fR3, fS1, fF3, f263⟩, ?_⟩
    rw [hpv]
  · have hpv : prv (spt R F (25 + key)) PM PZ (R 94) = some (chal (spt R F (25 + key)) PM PZ (mP (R 94) GP) (mP (R 94) PM)) := if_neg (fun z => z.elim hn1 fun z => z.elim hn2 fun z => z.elim hn3 hn4)
    generalize chal (spt R F (25 + key)) PM PZ (mP (R 94) GP) (mP (R 94) PM) = cc at *
    refine X_if_ne (pc := 51) 56 dX10_proves_51 (by decide) (fun _ => ?_) (fun c => absurd c (by decide))
    refine X_aload_n (pc := 56) 0 dX10_proves_56 rfl rfl ?_
    refine X_aload_n (pc := 57) 0 dX10_proves_57 rfl rfl ?_
    refine X_getfield (pc := 58) dX10_proves_58 fg_X10_360_11 (MW.ob w4) mf_10 ?_
    refine X_aload_n (pc := 61) 0 dX10_proves_61 rfl rfl ?_
    refine X_getfield (pc := 62) dX10_proves_62 fg_X10_468_11 (MW.ob w4) mf_58 ?_
    refine X_aload_n (pc := 65) 0 dX10_proves_65 rfl rfl ?_
    refine X_getfield (pc := 66) dX10_proves_66 fg_X10_475_11 (MW.ob w4) mf_64 ?_
    refine X_iload_n (pc := 69) 1 dX10_proves_69 rfl rfl ?_
    refine X_aaloadA (pc := 70) dX10_proves_70 (w4.o 64 rfl) bk ?_
    rw [ck]
    show XX g MX10_proves _ _ 0 0 71 _ [.ref (A (530 + key)), .ref (A 58), .ref (A 501), .ref (A 96)] h4
    refine X_aload_n (pc := 71) 0 dX10_proves_71 rfl rfl ?_
    refine X_getfield (pc := 72) dX10_proves_72 fg_X10_437_11 (MW.ob w4) mf_57 ?_
    have hki : kdM (530 + key) = (3, 0, 64) := by
      obtain rfl | rfl | rfl | rfl | rfl | rfl : key = 0 ∨ key = 1 ∨ key = 2 ∨ key = 3 ∨ key = 4 ∨ key = 5 := by omega
      all_goals rfl
    have o58 : OpM A h4 (A 58) 12 cc := by have := OpM.n2 w4 58 rfl; rwa [up_same] at this
    refine X_ivv (pc := 75) _ dX10_proves_75 cv_X10_102_11 (MW.ob w4) rfl (mtN g w4 (j := 1) mo1 57 rfl o58 (OpM.i w4 (530 + key) hki (by decide) (by decide))) nX10_times (Nat.le_of_ble_eq_true rfl) (Nat.le_of_ble_eq_true rfl) (Nat.le_of_ble_eq_true rfl) (Nat.le_of_ble_eq_true rfl) (fun h5 w5 => ?_)
    have o94 : OpM A h5 (A 94) 12 (R 94) := by
      have := OpM.n2 w5 94 rfl
      rwa [up_ne (by decide), up_ne (by decide), fR3 94 rfl] at this
    have o57 : OpM A h5 (A 57) 12 (cc * V 12 (I (530 + key)) % qP) := by have := OpM.n2 w5 57 rfl; rwa [up_same] at this
    refine X_aload_n (pc := 78) 0 dX10_proves_78 rfl rfl ?_
    refine X_getfield (pc := 79) dX10_proves_79 fg_X10_360_11 (MW.ob w5) mf_10 ?_
    refine X_aload_n (pc := 82) 3 dX10_proves_82 rfl rfl ?_
    refine X_aload_n (pc := 83) 0 dX10_proves_83 rfl rfl ?_
    refine X_getfield (pc := 84) dX10_proves_84 fg_X10_437_11 (MW.ob w5) mf_57 ?_
    refine X_aload_n (pc := 87) 0 dX10_proves_87 rfl rfl ?_
    refine X_getfield (pc := 88) dX10_proves_88 fg_X10_479_11 (MW.ob w5) mf_59 ?_
    refine X_isv (pc := 91) _ dX10_proves_91 cs_X10_130 rfl (msQ g w5 59 rfl o94 o57 hr (Nat.mod_lt _ qP_pos)) nX10_sub (Nat.le_of_ble_eq_true rfl) (Nat.le_of_ble_eq_true rfl) (Nat.le_of_ble_eq_true rfl) (Nat.le_of_ble_eq_true rfl) (fun h6 w6 => ?_)
    refine X_iconst (pc := 94) (x := 1) dX10_proves_94 (by decide) ?_
    refine X_zreturn (pc := 95) dX10_proves_95 rfl (by first | exact Or.inl rfl | exact Or.inr rfl | assumption | exact zo_if) (Nat.le_of_ble_eq_true rfl) (Nat.le_of_ble_eq_true rfl) ?_
    refine ⟨1, rfl, _, S4, F4, ⟨w6, fun j hj => ?_, fun j hj => ?_, fun j hj => ?_, f264⟩, ?_⟩
    · rw [up_ne (pvR_ne hj rfl), up_ne (pvR_ne hj rfl), up_ne (pvR_ne hj rfl)]; exact fR3 j hj
    · rw [fS4 j hj]; exact fS1 j hj
    · rw [fF4 j (pvF_ne hj rfl) (pvF_ne hj rfl) (pvF_ne hj rfl)]; exact fF3 j hj
    · rw [hpv]
      exact ⟨rfl, by rw [up_ne (by decide), up_ne (by decide), up_same], up_same _ _ _⟩
/-- whether a proof is right -/
noncomputable def isp (K M Z : PP) (c s : Nat) : Prop :=
  M ≠ none ∧ Z ≠ none ∧ adP (mP s GP) (mP c K) ≠ none ∧ adP (mP s M) (mP c Z) ≠ none ∧ chal K M Z (adP (mP s GP) (mP c K)) (adP (mP s M) (mP c Z)) = c
set_option maxHeartbeats 8000000 in
theorem isProved_ok (g : GX) (w : MW A X R I S F h) {key many : Nat} (hkey : key < 6) (hm : many ≤ 8) (hkp : SpO R F (25 + key)) (ha : ∀ i, i < many → SpO R F (9 + i)) (hg : ∀ i, i < many → SpO R F (17 + i)) (hG : spt R F 0 = GP) (hG0 : F 400 = 0) (hc : R 58 < qP) (hs : R 59 < qP) :
    MT g MX10_isProved ({ frames := 10, cells := 0, slots := 0, locals := 214 } : Room) [.ref (A 96), .int (nI key), .int (nI many)] h (RI fun r h' => ∃ R' S' F', PvW A X R I S F R' S' F' h' ∧ R' 58 = R 58 ∧ R' 59 = R 59 ∧
      ((r = 0 ∧ ¬ isp (spt R F (25 + key)) (cpt (cD (en (spt R F (25 + key))) (fun i => spt R F (9 + i)) (fun i => spt R F (17 + i))) (fun i => spt R F (9 + i)) many) (cpt (cD (en (spt R F (25 + key))) (fun i => spt R F (9 + i)) (fun i => spt R F (17 + i))) (fun i => spt R F (17 + i)) many) (R 58) (R 59)) ∨
       (r = 1 ∧ isp (spt R F (25 + key)) (cpt (cD (en (spt R F (25 + key))) (fun i => spt R F (9 + i)) (fun i => spt R F (17 + i))) (fun i => spt R F (9 + i)) many) (cpt (cD (en (spt R F (25 + key))) (fun i => spt R F (9 + i)) (fun i => spt R F (17 + i))) (fun i => spt R F (17 + i)) many) (R 58) (R 59)))) := by
  refine MT.of (by decide) (Nat.le_of_ble_eq_true rfl) ?_
  have bk : vp_in (nI key) 6 := vp_in_nI (by omega) (by omega)
  have ck : (nI key).toNatClampNeg = key := nI_clamp (by omega)
  refine X_aload_n (pc := 0) 0 dX10_isProved_0 rfl rfl ?_
  refine X_iload_n (pc := 1) 2 dX10_isProved_1 rfl rfl ?_
  refine X_aload_n (pc := 2) 0 dX10_isProved_2 rfl rfl ?_
  refine X_getfield (pc := 3) dX10_isProved_3 fg_X10_458_11 (MW.ob w) mf_65 ?_
  refine X_iload_n (pc := 6) 1 dX10_isProved_6 rfl rfl ?_
  refine X_aaload (pc := 7) dX10_isProved_7 (w.o 65 rfl) (fun _ => rfl) bk ?_
  rw [ck]
  show XX g MX10_isProved _ _ 0 0 8 _ [.ref (A (425 + key)), .int (nI many), .ref (A 96)] h
  rw [show 425 + key = 400 + (25 + key) by omega]
  refine X_ivv (pc := 8) _ dX10_isProved_8 cv_X10_461_11 (MW.ob w) rfl (composes_ok g w (ks := 25 + key) hm (by omega) hkp (by omega) ha hg) nX10_composes (Nat.le_of_ble_eq_true rfl) (Nat.le_of_ble_eq_true rfl) (Nat.le_of_ble_eq_true rfl) (Nat.le_of_ble_eq_true rfl) (fun h1 q1 => ?_)
  obtain ⟨R1, S1, F1, w1, fR1, fS1, fF1, f26, z3, z4, p3, p4⟩ := q1
  have onM : OnP (cpt (cD (en (spt R F (25 + key))) (fun i => spt R F (9 + i)) (fun i => spt R F (17 + i))) (fun i => spt R F (9 + i)) many) := cpt_on fun i hi => (ha i hi).2.2
  have onZ : OnP (cpt (cD (en (spt R F (25 + key))) (fun i => spt R F (9 + i)) (fun i => spt R F (17 + i))) (fun i => spt R F (17 + i)) many) := cpt_on fun i hi => (hg i hi).2.2
  generalize hM : cpt (cD (en (spt R F (25 + key))) (fun i => spt R F (9 + i)) (fun i => spt R F (17 + i))) (fun i => spt R F (9 + i)) many = PM at *
  generalize hZ : cpt (cD (en (spt R F (25 + key))) (fun i => spt R F (9 + i)) (fun i => spt R F (17 + i))) (fun i => spt R F (17 + i)) many = PZ at *
  have p0 : spt R1 F1 0 = GP := by rw [← hG]; exact spt_cg (fR1 _ rfl) (fR1 _ rfl) (fF1 _ rfl)
  have r58 : R1 58 = R 58 := fR1 58 rfl
  have r59 : R1 59 = R 59 := fR1 59 rfl
  have hc2 : R 58 < 2 ^ 384 := Nat.lt_trans hc qP_2
  have hs2 : R 59 < 2 ^ 384 := Nat.lt_trans hs qP_2
  have pk1 : spt R1 F1 (25 + key) = spt R F (25 + key) := spt_cg (fR1 _ (cScr_hi (by omega))) (fR1 _ (cScr_hi (by omega))) (fF1 _ (cF_hi (by omega)))
  refine X_aload_n (pc := 11) 0 dX10_isProved_11 rfl rfl ?_
  refine X_aload_n (pc := 12) 0 dX10_isProved_12 rfl rfl ?_
  refine X_getfield (pc := 13) dX10_isProved_13 fg_X10_479_11 (MW.ob w1) mf_59 ?_
  refine X_aload_n (pc := 16) 0 dX10_isProved_16 rfl rfl ?_
  refine X_getfield (pc := 17) dX10_isProved_17 fg_X10_465_11 (MW.ob w1) mf_11 ?_
  refine X_aload_n (pc := 20) 0 dX10_isProved_20 rfl rfl ?_
  refine X_getfield (pc := 21) dX10_isProved_21 fg_X10_450_11 (MW.ob w1) mf_52 ?_
  refine X_ivv (pc := 24) _ dX10_isProved_24 cv_X10_446_11 (MW.ob w1) rfl (mul_ok g w1 (sa := 0) (t := 5) (ak := A 59) (kv := R 59) (by decide) (by decide) (w1.lt (k := 200) rfl) (Or.inl (by rw [fF1 400 rfl]; exact hG0)) (by rw [p0]; exact GP_on) hs2 (fun {R2 F2 h2} w2 o2 => by have := OpM.n2 w2 59 rfl; rw [o2 59 rfl, r59] at this; exact this)) nX10_multiply (Nat.le_of_ble_eq_true rfl) (Nat.le_of_ble_eq_true rfl) (Nat.le_of_ble_eq_true rfl) (Nat.le_of_ble_eq_true rfl) (fun h2 q2 => ?_)
  obtain ⟨R2, F2, w2, fr2, ff2, z5, -, sp2, -⟩ := q2
  rw [p0] at sp2
  have p32 : spt R2 F2 3 = PM := by rw [← p3]; exact spt_cg (fr2 _ rfl) (fr2 _ rfl) (ff2 _ (by decide) (by decide))
  have p42 : spt R2 F2 4 = PZ := by rw [← p4]; exact spt_cg (fr2 _ rfl) (fr2 _ rfl) (ff2 _ (by decide) (by decide))
  have mk5 : mScr 5 (200 + (25 + key)) = false ∧ mScr 5 (300 + (25 + key)) = false := ⟨pvR_m5 (pvR_hi (by omega)), pvR_m5 (pvR_hi (by omega))⟩
  have pk2 : spt R2 F2 (25 + key) = spt R F (25 + key) := by rw [← pk1]; exact spt_cg (fr2 _ mk5.1) (fr2 _ mk5.2) (ff2 _ (by omega) (by omega))
  have c582 : R2 58 = R 58 := by rw [fr2 58 rfl]; exact r58
  have c592 : R2 59 = R 59 := by rw [fr2 59 rfl]; exact r59
  refine X_aload_n (pc := 27) 0 dX10_isProved_27 rfl rfl ?_
  refine X_aload_n (pc := 28) 0 dX10_isProved_28 rfl rfl ?_
  refine X_getfield (pc := 29) dX10_isProved_29 fg_X10_468_11 (MW.ob w2) mf_58 ?_
  refine X_aload_n (pc := 32) 0 dX10_isProved_32 rfl rfl ?_
  refine X_getfield (pc := 33) dX10_isProved_33 fg_X10_458_11 (MW.ob w2) mf_65 ?_
  refine X_iload_n (pc := 36) 1 dX10_isProved_36 rfl rfl ?_
  refine X_aaload (pc := 37) dX10_isProved_37 (w2.o 65 rfl) (fun _ => rfl) bk ?_
  refine X_aload_n (pc := 38) 0 dX10_isProved_38 rfl rfl ?_
  refine X_getfield (pc := 39) dX10_isProved_39 fg_X10_443_11 (MW.ob w2) mf_54 ?_
  rw [ck]
  show XX g MX10_isProved _ _ 0 0 42 _ [.ref (A 407), .ref (A (425 + key)), .ref (A 58), .ref (A 96)] h2
  rw [show 425 + key = 400 + (25 + key) by omega]
  refine X_ivv (pc := 42) _ dX10_isProved_42 cv_X10_446_11 (MW.ob w2) rfl (mul_ok g w2 (sa := 25 + key) (t := 7) (ak := A 58) (kv := R 58) (by omega) (by decide) (by rw [fr2 _ mk5.1, fR1 _ (cScr_hi (by omega))]; exact hkp.2.1) (Or.inl (by rw [ff2 _ (by omega) (by omega), fF1 _ (cF_hi (by omega))]; exact hkp.1)) (by rw [pk2]; exact hkp.2.2) hc2 (fun {R3 F3 h3} w3 o3 => by have := OpM.n2 w3 58 rfl; rw [o3 58 rfl, c582] at this; exact this)) nX10_multiply (Nat.le_of_ble_eq_true rfl) (Nat.le_of_ble_eq_true rfl) (Nat.le_of_ble_eq_true rfl) (Nat.le_of_ble_eq_true rfl) (fun h3 q3 => ?_)
  obtain ⟨R3, F3, w3, fr3, ff3, z7, -, sp3, -⟩ := q3
  rw [pk2] at sp3
  have p53 : spt R3 F3 5 = mP (R 59) GP := by rw [← sp2]; exact spt_cg (fr3 _ rfl) (fr3 _ rfl) (ff3 _ (by decide) (by decide))
  have z53 : F3 405 = 0 ∨ F3 405 = 1 := by rw [ff3 405 (by decide) (by decide)]; exact z5
  refine X_aload_n (pc := 45) 0 dX10_isProved_45 rfl rfl ?_
  refine X_aload_n (pc := 46) 0 dX10_isProved_46 rfl rfl ?_
  refine X_getfield (pc := 47) dX10_isProved_47 fg_X10_450_11 (MW.ob w3) mf_52 ?_
  refine X_aload_n (pc := 50) 0 dX10_isProved_50 rfl rfl ?_
  refine X_getfield (pc := 51) dX10_isProved_51 fg_X10_443_11 (MW.ob w3) mf_54 ?_
  refine X_aload_n (pc := 54) 0 dX10_isProved_54 rfl rfl ?_
  refine X_getfield (pc := 55) dX10_isProved_55 fg_X10_450_11 (MW.ob w3) mf_52 ?_
  refine X_ivv (pc := 58) _ dX10_isProved_58 cv_X10_398_11 (MW.ob w3) rfl (join_ok g w3 (sa := 5) (sb := 7) (t := 5) (by decide) (by decide) (by decide) (w3.lt (k := 205) rfl) (w3.lt (k := 207) rfl) (w3.lt (k := 205) rfl) z53 z7) nX10_join (Nat.le_of_ble_eq_true rfl) (Nat.le_of_ble_eq_true rfl) (Nat.le_of_ble_eq_true rfl) (Nat.le_of_ble_eq_true rfl) (fun h4 q4 => ?_)
  obtain ⟨R4, F4, w4, fr4, ff4, z54, sp4, -⟩ := q4
  rw [p53, sp3] at sp4
  have p34 : spt R4 F4 3 = PM := by rw [← p32]; exact spt_cg (by rw [fr4 _ rfl, fr3 _ rfl]) (by rw [fr4 _ rfl, fr3 _ rfl]) (by rw [ff4 _ (by decide), ff3 _ (by decide) (by decide)])
  have p44 : spt R4 F4 4 = PZ := by rw [← p42]; exact spt_cg (by rw [fr4 _ rfl, fr3 _ rfl]) (by rw [fr4 _ rfl, fr3 _ rfl]) (by rw [ff4 _ (by decide), ff3 _ (by decide) (by decide)])
  have c584 : R4 58 = R 58 := by rw [fr4 58 rfl, fr3 58 rfl]; exact c582
  have c594 : R4 59 = R 59 := by rw [fr4 59 rfl, fr3 59 rfl]; exact c592
  have z34 : F4 403 = 0 ∨ F4 403 = 1 := by rw [ff4 403 (by decide), ff3 403 (by decide) (by decide), ff2 403 (by decide) (by decide)]; exact z3
  have z44 : F4 404 = 0 ∨ F4 404 = 1 := by rw [ff4 404 (by decide), ff3 404 (by decide) (by decide), ff2 404 (by decide) (by decide)]; exact z4
  have fR4 : ∀ j, pvR j = false → R4 j = R j := fun j hj => by rw [fr4 j (pvR_j5 hj), fr3 j (cScr_m (pvR_c hj)), fr2 j (pvR_m5 hj)]; exact fR1 j (pvR_c hj)
  have fF4 : ∀ j, pvF j = false → F4 j = F j := fun j hj => by rw [ff4 j (pvF_ne hj rfl), ff3 j (pvF_ne hj rfl) (pvF_ne hj rfl), ff2 j (pvF_ne hj rfl) (pvF_ne hj rfl)]; exact fF1 j (pvF_c hj)
  have f264 : F4 26 = 0 := by rw [ff4 26 (by decide), ff3 26 (by decide) (by decide), ff2 26 (by decide) (by decide)]; exact f26
  refine X_aload_n (pc := 61) 0 dX10_isProved_61 rfl rfl ?_
  refine X_aload_n (pc := 62) 0 dX10_isProved_62 rfl rfl ?_
  refine X_getfield (pc := 63) dX10_isProved_63 fg_X10_479_11 (MW.ob w4) mf_59 ?_
  refine X_aload_n (pc := 66) 0 dX10_isProved_66 rfl rfl ?_
  refine X_getfield (pc := 67) dX10_isProved_67 fg_X10_417_11 (MW.ob w4) mf_50 ?_
  refine X_aload_n (pc := 70) 0 dX10_isProved_70 rfl rfl ?_
  refine X_getfield (pc := 71) dX10_isProved_71 fg_X10_453_11 (MW.ob w4) mf_53 ?_
  refine X_ivv (pc := 74) _ dX10_isProved_74 cv_X10_446_11 (MW.ob w4) rfl (mul_ok g w4 (sa := 3) (t := 6) (ak := A 59) (kv := R 59) (by decide) (by decide) (w4.lt (k := 203) rfl) z34 (by rw [p34]; exact onM) hs2 (fun {R5 F5 h5} w5 o5 => by have := OpM.n2 w5 59 rfl; rw [o5 59 rfl, c594] at this; exact this)) nX10_multiply (Nat.le_of_ble_eq_true rfl) (Nat.le_of_ble_eq_true rfl) (Nat.le_of_ble_eq_true rfl) (Nat.le_of_ble_eq_true rfl) (fun h5 q5 => ?_)
  obtain ⟨R5, F5, w5, fr5, ff5, z65, -, sp5, -⟩ := q5
  rw [p34] at sp5
  have p45 : spt R5 F5 4 = PZ := by rw [← p44]; exact spt_cg (fr5 _ rfl) (fr5 _ rfl) (ff5 _ (by decide) (by decide))
  refine X_aload_n (pc := 77) 0 dX10_isProved_77 rfl rfl ?_
  refine X_aload_n (pc := 78) 0 dX10_isProved_78 rfl rfl ?_
  refine X_getfield (pc := 79) dX10_isProved_79 fg_X10_468_11 (MW.ob w5) mf_58 ?_
  refine X_aload_n (pc := 82) 0 dX10_isProved_82 rfl rfl ?_
  refine X_getfield (pc := 83) dX10_isProved_83 fg_X10_419_11 (MW.ob w5) mf_51 ?_
  refine X_aload_n (pc := 86) 0 dX10_isProved_86 rfl rfl ?_
  refine X_getfield (pc := 87) dX10_isProved_87 fg_X10_443_11 (MW.ob w5) mf_54 ?_
  refine X_ivv (pc := 90) _ dX10_isProved_90 cv_X10_446_11 (MW.ob w5) rfl (mul_ok g w5 (sa := 4) (t := 7) (ak := A 58) (kv := R 58) (by decide) (by decide) (w5.lt (k := 204) rfl) (by rw [ff5 404 (by decide) (by decide)]; exact z44) (by rw [p45]; exact onZ) hc2 (fun {R6 F6 h6} w6 o6 => by have := OpM.n2 w6 58 rfl; rw [o6 58 rfl, fr5 58 rfl, c584] at this; exact this)) nX10_multiply (Nat.le_of_ble_eq_true rfl) (Nat.le_of_ble_eq_true rfl) (Nat.le_of_ble_eq_true rfl) (Nat.le_of_ble_eq_true rfl) (fun h6 q6 => ?_)
  obtain ⟨R6, F6, w6, fr6, ff6, z76, -, sp6, -⟩ := q6
  rw [p45] at sp6
  have p66 : spt R6 F6 6 = mP (R 59) PM := by rw [← sp5]; exact spt_cg (fr6 _ rfl) (fr6 _ rfl) (ff6 _ (by decide) (by decide))
  have z66 : F6 406 = 0 ∨ F6 406 = 1 := by rw [ff6 406 (by decide) (by decide)]; exact z65
  refine X_aload_n (pc := 93) 0 dX10_isProved_93 rfl rfl ?_
  refine X_aload_n (pc := 94) 0 dX10_isProved_94 rfl rfl ?_
  refine X_getfield (pc := 95) dX10_isProved_95 fg_X10_453_11 (MW.ob w6) mf_53 ?_
  refine X_aload_n (pc := 98) 0 dX10_isProved_98 rfl rfl ?_
  refine X_getfield (pc := 99) dX10_isProved_99 fg_X10_443_11 (MW.ob w6) mf_54 ?_
  refine X_aload_n (pc := 102) 0 dX10_isProved_102 rfl rfl ?_
  refine X_getfield (pc := 103) dX10_isProved_103 fg_X10_453_11 (MW.ob w6) mf_53 ?_
  refine X_ivv (pc := 106) _ dX10_isProved_106 cv_X10_398_11 (MW.ob w6) rfl (join_ok g w6 (sa := 6) (sb := 7) (t := 6) (by decide) (by decide) (by decide) (w6.lt (k := 206) rfl) (w6.lt (k := 207) rfl) (w6.lt (k := 206) rfl) z66 z76) nX10_join (Nat.le_of_ble_eq_true rfl) (Nat.le_of_ble_eq_true rfl) (Nat.le_of_ble_eq_true rfl) (Nat.le_of_ble_eq_true rfl) (fun h7 q7 => ?_)
  obtain ⟨R7, F7, w7, fr7, ff7, -, sp7, -⟩ := q7
  rw [p66, sp6] at sp7
  have p37 : spt R7 F7 3 = PM := by rw [← p34]; exact spt_cg (by rw [fr7 _ rfl, fr6 _ rfl, fr5 _ rfl]) (by rw [fr7 _ rfl, fr6 _ rfl, fr5 _ rfl]) (by rw [ff7 _ (by decide), ff6 _ (by decide) (by decide), ff5 _ (by decide) (by decide)])
  have p47 : spt R7 F7 4 = PZ := by rw [← p45]; exact spt_cg (by rw [fr7 _ rfl, fr6 _ rfl]) (by rw [fr7 _ rfl, fr6 _ rfl]) (by rw [ff7 _ (by decide), ff6 _ (by decide) (by decide)])
  have p57 : spt R7 F7 5 = adP (mP (R 59) GP) (mP (R 58) (spt R F (25 + key))) := by rw [← sp4]; exact spt_cg (by rw [fr7 _ rfl, fr6 _ rfl, fr5 _ rfl]) (by rw [fr7 _ rfl, fr6 _ rfl, fr5 _ rfl]) (by rw [ff7 _ (by decide), ff6 _ (by decide) (by decide), ff5 _ (by decide) (by decide)])
  have fR7 : ∀ j, pvR j = false → R7 j = R j := fun j hj => by rw [fr7 j (pvR_j6 hj), fr6 j (cScr_m (pvR_c hj)), fr5 j (pvR_m6 hj)]; exact fR4 j hj
  have fF7 : ∀ j, pvF j = false → F7 j = F j := fun j hj => by rw [ff7 j (pvF_ne hj rfl), ff6 j (pvF_ne hj rfl) (pvF_ne hj rfl), ff5 j (pvF_ne hj rfl) (pvF_ne hj rfl)]; exact fF4 j hj
  have f267 : F7 26 = 0 := by rw [ff7 26 (by decide), ff6 26 (by decide) (by decide), ff5 26 (by decide) (by decide)]; exact f264
  have c587 : R7 58 = R 58 := by rw [fr7 58 rfl, fr6 58 rfl, fr5 58 rfl]; exact c584
  have c597 : R7 59 = R 59 := by rw [fr7 59 rfl, fr6 59 rfl, fr5 59 rfl]; exact c594
  have pk7 : spt R7 F7 (25 + key) = spt R F (25 + key) := spt_cg (fR7 _ (pvR_hi (by omega))) (fR7 _ (pvR_hi (by omega))) (fF7 _ (pvF_hi (by omega)))
  have hK7 : SpO R7 F7 (25 + key) := ⟨by rw [fF7 _ (pvF_hi (by omega))]; exact hkp.1, by rw [fR7 _ (pvR_hi (by omega))]; exact hkp.2.1, by rw [pk7]; exact hkp.2.2⟩
  clear w1 w2 w3 w4 w5 w6 fr2 fr3 fr4 fr5 fr6 fr7 ff2 ff3 ff4 ff5 ff6 ff7
  refine X_aload_n (pc := 109) 0 dX10_isProved_109 rfl rfl ?_
  refine X_aload_n (pc := 110) 0 dX10_isProved_110 rfl rfl ?_
  refine X_getfield (pc := 111) dX10_isProved_111 fg_X10_458_11 (MW.ob w7) mf_65 ?_
  refine X_iload_n (pc := 114) 1 dX10_isProved_114 rfl rfl ?_
  refine X_aaload (pc := 115) dX10_isProved_115 (w7.o 65 rfl) (fun _ => rfl) bk ?_
  refine X_aload_n (pc := 116) 0 dX10_isProved_116 rfl rfl ?_
  refine X_getfield (pc := 117) dX10_isProved_117 fg_X10_482_11 (MW.ob w7) mf_60 ?_
  rw [ck]
  show XX g MX10_isProved _ _ 0 0 120 _ [.ref (A 60), .ref (A (425 + key)), .ref (A 96)] h7
  rw [show 425 + key = 400 + (25 + key) by omega]
  refine X_ivi (pc := 120) _ dX10_isProved_120 cv_X10_471_11 (MW.ob w7) rfl (challenges_ok g w7 (k := 60) (ks := 25 + key) rfl (by omega) hK7) nX10_challenges (Nat.le_of_ble_eq_true rfl) (Nat.le_of_ble_eq_true rfl) (Nat.le_of_ble_eq_true rfl) (Nat.le_of_ble_eq_true rfl) (fun r8 h8 q8 => ?_)
  rw [pk7, p37, p47, p57, sp7] at q8
  generalize hK : spt R F (25 + key) = K at *
  rcases q8 with ⟨rfl, rfl, hn⟩ | ⟨rfl, ⟨hn1, hn2, hn3, hn4⟩, S8, F8, w8, fS8, f268, fF8⟩
  · refine X_if_eq (pc := 123) 146 dX10_isProved_123 (by decide) (fun _ => ?_) (fun c => absurd rfl c)
    refine X_iconst (pc := 146) (x := 0) dX10_isProved_146 (by decide) ?_
    refine X_zreturn (pc := 147) dX10_isProved_147 rfl (by first | exact Or.inl rfl | exact Or.inr rfl | assumption | exact zo_if) (Nat.le_of_ble_eq_true rfl) (Nat.le_of_ble_eq_true rfl) ?_
    refine ⟨0, rfl, R7, S1, F7, ⟨w7, fR7, fS1, fF7, f267⟩, c587, c597, Or.inl ⟨rfl, fun z => ?_⟩⟩
    obtain ⟨a1, a2, a3, a4, -⟩ := z
    exact hn.elim a1 fun z => z.elim a2 fun z => z.elim a3 a4
  · refine X_if_eq (pc := 123) 146 dX10_isProved_123 (by decide) (fun c => absurd c (by decide)) (fun _ => ?_)
    have hisp : isp K PM PZ (R 58) (R 59) ↔ chal K PM PZ (adP (mP (R 59) GP) (mP (R 58) K)) (adP (mP (R 59) PM) (mP (R 58) PZ)) = R 58 := ⟨fun z => z.2.2.2.2, fun z => ⟨hn1, hn2, hn3, hn4, z⟩⟩
    generalize chal K PM PZ (adP (mP (R 59) GP) (mP (R 58) K)) (adP (mP (R 59) PM) (mP (R 58) PZ)) = cc at *
    have fR8 : ∀ j, pvR j = false → (up R7 60 cc) j = R j := fun j hj => by rw [up_ne (pvR_ne hj rfl)]; exact fR7 j hj
    have fS8' : ∀ j, cK j = false → S8 j = S j := fun j hj => by rw [fS8 j hj]; exact fS1 j hj
    have fF8' : ∀ j, pvF j = false → F8 j = F j := fun j hj => by rw [fF8 j (pvF_ne hj rfl) (pvF_ne hj rfl) (pvF_ne hj rfl)]; exact fF7 j hj
    have c588 : (up R7 60 cc) 58 = R 58 := by rw [up_ne (by decide)]; exact c587
    have c598 : (up R7 60 cc) 59 = R 59 := by rw [up_ne (by decide)]; exact c597
    have o60 : OpM A h8 (A 60) 12 cc := by have := OpM.n2 w8 60 rfl; rwa [up_same] at this
    have o58 : OpM A h8 (A 58) 12 (R 58) := by have := OpM.n2 w8 58 rfl; rwa [c588] at this
    refine X_aload_n (pc := 126) 0 dX10_isProved_126 rfl rfl ?_
    refine X_getfield (pc := 127) dX10_isProved_127 fg_X10_482_11 (MW.ob w8) mf_60 ?_
    refine X_aload_n (pc := 130) 0 dX10_isProved_130 rfl rfl ?_
    refine X_getfield (pc := 131) dX10_isProved_131 fg_X10_468_11 (MW.ob w8) mf_58 ?_
    refine X_bipush (pc := 134) (x := 12) dX10_isProved_134 (by decide) ?_
    refine X_isi (pc := 136) _ dX10_isProved_136 cs_X10_26 rfl (mcW g (n := 12) o60 o58) nX10_compare (Nat.le_of_ble_eq_true rfl) (Nat.le_of_ble_eq_true rfl) (Nat.le_of_ble_eq_true rfl) (Nat.le_of_ble_eq_true rfl) (fun r9 h9 q9 => ?_)
    obtain ⟨rfl, rfl⟩ := q9
    by_cases ec : cc = R 58
    · refine X_if_ne (pc := 139) 146 dX10_isProved_139 (by decide) (fun c => absurd (cmpN_eq0.mpr ec) c) (fun _ => ?_)
      refine X_iconst (pc := 142) (x := 1) dX10_isProved_142 (by decide) ?_
      refine X_goto (pc := 143) 147 dX10_isProved_143 (by decide) ?_
      refine X_zreturn (pc := 147) dX10_isProved_147 rfl (by first | exact Or.inl rfl | exact Or.inr rfl | assumption | exact zo_if) (Nat.le_of_ble_eq_true rfl) (Nat.le_of_ble_eq_true rfl) ?_
      exact ⟨1, rfl, _, S8, F8, ⟨w8, fR8, fS8', fF8', f268⟩, c588, c598, Or.inr ⟨rfl, hisp.mpr ec⟩⟩
    · refine X_if_ne (pc := 139) 146 dX10_isProved_139 (by decide) (fun _ => ?_) (fun c => absurd (cmpN_eq0.mp c) ec)
      refine X_iconst (pc := 146) (x := 0) dX10_isProved_146 (by decide) ?_
      refine X_zreturn (pc := 147) dX10_isProved_147 rfl (by first | exact Or.inl rfl | exact Or.inr rfl | assumption | exact zo_if) (Nat.le_of_ble_eq_true rfl) (Nat.le_of_ble_eq_true rfl) ?_
      exact ⟨0, rfl, _, S8, F8, ⟨w8, fR8, fS8', fF8', f268⟩, c588, c598, Or.inl ⟨rfl, fun z => ec (hisp.mp z)⟩⟩
end MCh
