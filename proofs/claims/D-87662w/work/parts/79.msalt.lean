set_option maxRecDepth 100000
/-! the reference: salted digests and masks -/
noncomputable def saltH (inp salt : List Int32) : List Int32 := sha384 (List.replicate 8 (tb 0) ++ sha384 inp ++ salt)
noncomputable def mskD (of : List Int32) (i : Nat) : List Int32 := sha384 (of ++ [tb 0, tb 0] ++ [tb (i / 256), tb i])
noncomputable def mskB (of : List Int32) (j : Nat) : Int32 := (mskD of (j / 48)).getD (j % 48) 0
theorem mskB_at (of : List Int32) {i j : Nat} (hj : j < 48) : mskB of (48 * i + j) = (mskD of i).getD j 0 := by
  unfold mskB
  rw [show (48 * i + j) / 48 = i by omega, show (48 * i + j) % 48 = j by omega]
theorem mskB_b (of : List Int32) (j : Nat) : tb (u32 (mskB of j)) = mskB of j := (sha384_B _).at' _
section MSl
variable {A : Nat → Nat} {X : AH} {R : Nat → Nat} {I : Nat → Nat → Int32} {S : Nat → List Int32} {F : Nat → Int32} {h : AH} {l : List Int32}
/-- bytes of a row are said -/
theorem saysK (g : GX) (w : SW A X R I S F l h) {kb nb at' n : Nat} (hkb : kdM kb = (6, 2, nb)) (hnb : nb < 2 ^ 31) (hk25 : kb ≠ 25) (hB : IsB (S kb)) (hat : at' + n ≤ (S kb).length) (hl : l.length + n ≤ 2600) :
    MT g MX10_say ({ frames := 1, cells := 0, slots := 0, locals := 21 } : Room) [.ref (A 96), .ref (A kb), .int (nI at'), .int (nI n)] h (RV fun h' => SW A X R I S F (l ++ sub (S kb) at' n) h') := by
  have w' : MW A X R I (up S 25 l) (up F 26 (nI l.length)) h := w
  have hlb : (S kb).length ≤ nb := by obtain ⟨-, -, -, z⟩ := w'.s kb hkb; rwa [up_ne hk25] at z
  refine MT.mono (says_ok g w (b := A kb) (at' := at') (n := n) (src := fun j => (S kb).getD (at' + j) 0) hl (by omega) (fun {l' h'} w2 => Or.inr ?_)) (fun o h' q => ?_)
  · have := MW.byAt (fr := at') (m := n) w2 kb hkb hnb (by rw [up_ne hk25]; exact hat)
    rw [up_ne hk25] at this
    exact this
  · obtain ⟨e, q⟩ := q
    rw [show (fun j => tb (u32 ((S kb).getD (at' + j) 0))) = (fun j => (S kb).getD (at' + j) 0) from funext fun j => hB.at' _] at q
    exact ⟨e, q⟩
theorem sub_all {l : List Int32} {n : Nat} (h : l.length = n) : sub l 0 n = l := by
  unfold sub
  rw [show (fun j => l.getD (0 + j) 0) = fun j => l.getD j 0 from funext fun j => by rw [Nat.zero_add]]
  exact map_getD h
def sK (j : Nat) : Bool := hK j || j == 87
theorem sK_ne {j k : Nat} (h : sK j = false) (hk : sK k = true) : j ≠ k := fun e => by rw [e, hk] at h; cases h
set_option maxHeartbeats 2000000 in
theorem salted_ok (g : GX) (w : MW A X R I S F h) {ki ni fr ks ns at' n : Nat} (hki : kdM ki = (6, 2, ni)) (hni : ni < 2 ^ 31) (hi2 : hK ki = false) (hiB : IsB (S ki)) (hfr : fr + 98 ≤ (S ki).length) (hks : kdM ks = (6, 2, ns)) (hns : ns < 2 ^ 31) (hs2 : hK ks = false) (hsB : IsB (S ks)) (hat : at' + n ≤ (S ks).length) (hn : n ≤ 48) :
    MT g MX10_salted ({ frames := 3, cells := 0, slots := 0, locals := 85 } : Room) [.ref (A 96), .ref (A ki), .int (nI fr), .ref (A ks), .int (nI at'), .int (nI n)] h (RV fun h' => ∃ S', MW A X R I S' (up F 26 0) h' ∧ (∀ j, sK j = false → S' j = S j) ∧ S' 87 = saltH (sub (S ki) fr 98) (sub (S ks) at' n)) := by
  refine MT.of (by decide) (Nat.le_of_ble_eq_true rfl) ?_
  generalize hPost : (RV fun h' => ∃ S', MW A X R I S' (up F 26 0) h' ∧ (∀ j, sK j = false → S' j = S j) ∧ S' 87 = saltH (sub (S ki) fr 98) (sub (S ks) at' n)) = Post
  have i25 : ki ≠ 25 := fun e => by subst e; cases hi2
  have s25 : ks ≠ 25 := fun e => by subst e; cases hs2
  have s27 : ks ≠ 27 := fun e => by subst e; cases hs2
  have s36 : ks ≠ 36 := fun e => by subst e; cases hs2
  have hsd : saltH (sub (S ki) fr 98) (sub (S ks) at' n) = sha384 (List.replicate 8 (tb 0) ++ sha384 (sub (S ki) fr 98) ++ sub (S ks) at' n) := rfl
  refine X_aload_n (pc := 0) 0 dX10_salted_0 rfl rfl ?_
  refine X_iconst (pc := 1) (x := 0) dX10_salted_1 (by decide) ?_
  refine X_putfield (pc := 2) dX10_salted_2 fp_X10_243_11 (fun e => by cases e) (MW.ob w) rfl rfl (Nat.le_of_ble_eq_true rfl) ?_
  have w1 := w.cut0
  generalize hset h (A 96) (Ob 11 ((mFl A F).set 26 (.int 0))) = h1 at *
  refine X_aload_n (pc := 5) 0 dX10_salted_5 rfl rfl ?_
  refine X_aload_n (pc := 6) 1 dX10_salted_6 rfl rfl ?_
  refine X_iload_n (pc := 7) 2 dX10_salted_7 rfl rfl ?_
  refine X_bipush (pc := 8) (x := 98) dX10_salted_8 (by decide) ?_
  refine X_ivv (pc := 10) _ dX10_salted_10 cv_X10_325_11 (MW.ob w1) rfl (saysK g w1 (kb := ki) (at' := fr) (n := 98) hki hni i25 hiB hfr (by decide)) nX10_say (Nat.le_of_ble_eq_true rfl) (Nat.le_of_ble_eq_true rfl) (Nat.le_of_ble_eq_true rfl) (Nat.le_of_ble_eq_true rfl) (fun h2 w2 => ?_)
  refine X_aload_n (pc := 13) 0 dX10_salted_13 rfl rfl ?_
  refine X_ivv (pc := 14) _ dX10_salted_14 cv_X10_340_11 (MW.ob w2) rfl (h3_ok g w2 (by show (sub (S ki) fr 98).length + 144 ≤ 2600; rw [sub_len]; decide)) nX10_h3 (Nat.le_of_ble_eq_true rfl) (Nat.le_of_ble_eq_true rfl) (Nat.le_of_ble_eq_true rfl) (Nat.le_of_ble_eq_true rfl) (fun h3 w3' => ?_)
  have w3 : MW A X R I (up (up S 27 (sha384 (sub (S ki) fr 98))) 25 []) (up F 26 0) h3 := w3'
  have hdB := sha384_B (sub (S ki) fr 98)
  have hdl := sha384_len (sub (S ki) fr 98)
  generalize hd : sha384 (sub (S ki) fr 98) = d at *
  have t27 : (up (up S 27 d) 25 []) 27 = d := by rw [up_ne (by decide), up_same]
  have cont1 : ∀ h', MW A X R I (up (up (up S 27 d) 25 []) 36 d) (up F 26 0) h' → XX g MX10_salted ({ frames := 3, cells := 0, slots := 0, locals := 85 } : Room) Post 0 0 47 [(6, .int (nI 48)), (0, .ref (A 96)), (1, .ref (A ki)), (2, .int (nI fr)), (3, .ref (A ks)), (4, .int (nI at')), (5, .int (nI n))] [] h' := by
    intro h4 w4'
    have w4 : SW A X R I (up (up S 27 d) 36 d) F [] h4 := by
      rw [up_comm _ _ _ (show 25 ≠ 36 by decide)] at w4'
      exact w4'
    have loop : ∀ m i, i + m = 8 → ∀ h', SW A X R I (up (up S 27 d) 36 d) F (List.replicate i (tb 0)) h' →
        XX g MX10_salted ({ frames := 3, cells := 0, slots := 0, locals := 85 } : Room) Post 0 0 50 [(6, .int (nI i)), (0, .ref (A 96)), (1, .ref (A ki)), (2, .int (nI fr)), (3, .ref (A ks)), (4, .int (nI at')), (5, .int (nI n))] [] h' := by
      intro m
      induction m with
      | zero =>
        intro i hi h5 w5
        have e : i = 8 := by omega
        subst e
        have hz : (List.replicate 8 (tb 0)).length = 8 := List.length_replicate
        have w5' : MW A X R I (up (up (up S 27 d) 36 d) 25 (List.replicate 8 (tb 0))) (up F 26 (nI (List.replicate 8 (tb 0)).length)) h5 := w5
        refine X_iload (pc := 50) 0 dX10_salted_50 rfl ?_
        refine X_bipush (pc := 52) (x := 8) dX10_salted_52 (by decide) ?_
        refine X_cge (a := 8) (b := 8) (pc := 54) 68 dX10_salted_54 (by decide) (by omega) (by omega) (fun _ => ?_) (fun c => absurd c (by omega))
        refine X_aload_n (pc := 68) 1 dX10_salted_68 rfl rfl ?_
        refine X_aload_n (pc := 69) 1 dX10_salted_69 rfl rfl ?_
        refine X_getfield (pc := 70) dX10_salted_70 fg_X10_343_11 (MW.ob w5') mf_36 ?_
        refine X_iconst (pc := 73) (x := 0) dX10_salted_73 (by decide) ?_
        refine X_bipush (pc := 74) (x := 48) dX10_salted_74 (by decide) ?_
        refine X_ivv (pc := 76) _ dX10_salted_76 cv_X10_325_11 (MW.ob w5) rfl (saysK g w5 (kb := 36) (at' := 0) (n := 48) rfl (by decide) (by decide) (by rw [up_same]; exact hdB) (by rw [up_same, hdl]; decide) (by rw [hz]; decide)) nX10_say (Nat.le_of_ble_eq_true rfl) (Nat.le_of_ble_eq_true rfl) (Nat.le_of_ble_eq_true rfl) (Nat.le_of_ble_eq_true rfl) (fun h6 w6 => ?_)
        rw [up_same, sub_all hdl] at w6
        refine X_aload_n (pc := 79) 1 dX10_salted_79 rfl rfl ?_
        refine X_aload_n (pc := 80) 4 dX10_salted_80 rfl rfl ?_
        refine X_iload (pc := 81) 5 dX10_salted_81 rfl ?_
        refine X_iload (pc := 83) 6 dX10_salted_83 rfl ?_
        refine X_ivv (pc := 85) _ dX10_salted_85 cv_X10_325_11 (MW.ob w6) rfl (saysK g w6 (kb := ks) (at' := at') (n := n) hks hns s25 (by rw [up_ne s36, up_ne s27]; exact hsB) (by rw [up_ne s36, up_ne s27]; exact hat) (by rw [List.length_append, hz, hdl]; omega)) nX10_say (Nat.le_of_ble_eq_true rfl) (Nat.le_of_ble_eq_true rfl) (Nat.le_of_ble_eq_true rfl) (Nat.le_of_ble_eq_true rfl) (fun h7 w7 => ?_)
        rw [up_ne s36, up_ne s27] at w7
        refine X_aload_n (pc := 88) 1 dX10_salted_88 rfl rfl ?_
        refine X_ivv (pc := 89) _ dX10_salted_89 cv_X10_340_11 (MW.ob w7) rfl (h3_ok g w7 (by rw [List.length_append, List.length_append, hz, hdl, sub_len]; omega)) nX10_h3 (Nat.le_of_ble_eq_true rfl) (Nat.le_of_ble_eq_true rfl) (Nat.le_of_ble_eq_true rfl) (Nat.le_of_ble_eq_true rfl) (fun h8 w8' => ?_)
        rw [← hsd] at w8'
        generalize hD : saltH (sub (S ki) fr 98) (sub (S ks) at' n) = D at *
        have hDB : IsB D := by rw [← hD]; exact sha384_B _
        have hDl : D.length = 48 := by rw [← hD]; exact sha384_len _
        have w8 : MW A X R I (up (up (up (up S 27 d) 36 d) 27 D) 25 []) (up F 26 0) h8 := w8'
        have u27 : (up (up (up (up S 27 d) 36 d) 27 D) 25 []) 27 = D := by rw [up_ne (by decide), up_same]
        have cont2 : ∀ h', MW A X R I (up (up (up (up (up S 27 d) 36 d) 27 D) 25 []) 87 D) (up F 26 0) h' → XX g MX10_salted ({ frames := 3, cells := 0, slots := 0, locals := 85 } : Room) Post 0 0 122 [(6, .int (nI 48)), (0, .ref (A 96)), (1, .ref (A ki)), (2, .int (nI fr)), (3, .ref (A ks)), (4, .int (nI at')), (5, .int (nI n))] [] h' := by
          intro h9 w9
          subst hPost
          refine X_return (pc := 122) dX10_salted_122 rfl (Nat.le_of_ble_eq_true rfl) (Nat.le_of_ble_eq_true rfl) ?_
          refine ⟨rfl, _, w9, fun j hj => ?_, up_same _ _ _⟩
          rw [up_ne (sK_ne hj rfl), up_ne (sK_ne hj rfl), up_ne (sK_ne hj rfl), up_ne (sK_ne hj rfl), up_ne (sK_ne hj rfl)]
        have loop2 : ∀ m i, i + m = 48 → ∀ h', MW A X R I (up (up (up (up (up S 27 d) 36 d) 27 D) 25 []) 87 ((List.range i).map fun j => (D).getD j 0)) (up F 26 0) h' →
            XX g MX10_salted ({ frames := 3, cells := 0, slots := 0, locals := 85 } : Room) Post 0 0 95 [(6, .int (nI i)), (0, .ref (A 96)), (1, .ref (A ki)), (2, .int (nI fr)), (3, .ref (A ks)), (4, .int (nI at')), (5, .int (nI n))] [] h' := by
          intro m
          induction m with
          | zero =>
            intro i hi h' w'
            have e : i = 48 := by omega
            subst e
            rw [map_getD hDl] at w'
            refine X_iload (pc := 95) 0 dX10_salted_95 rfl ?_
            refine X_bipush (pc := 97) (x := 48) dX10_salted_97 (by decide) ?_
            refine X_cge (a := 48) (b := 48) (pc := 99) 122 dX10_salted_99 (by decide) (by omega) (by omega) (fun _ => ?_) (fun c => absurd c (by omega))
            exact cont2 h' w'
          | succ m ih =>
            intro i hi h' w'
            have ci : (nI i).toNatClampNeg = i := nI_clamp (by omega)
            have b1 : vp_in (nI i) 48 := vp_in_nI (by omega) (by omega)
            have b2 : vp_in (nI i) 48 := vp_in_nI (by omega) (by omega)
            obtain ⟨f27, c27, p27, -⟩ := w'.s 27 rfl
            obtain ⟨f55, c55, p55, -⟩ := w'.s 87 rfl
            rw [up_ne (by decide), u27] at p27
            rw [up_same] at p55
            have hli : ((List.range i).map fun j => (D).getD j 0).length = i := by rw [List.length_map, List.length_range]
            refine X_iload (pc := 95) 0 dX10_salted_95 rfl ?_
            refine X_bipush (pc := 97) (x := 48) dX10_salted_97 (by decide) ?_
            refine X_cge (b := 48) (pc := 99) 122 dX10_salted_99 (by decide) (by omega) (by omega) (fun c => absurd c (by omega)) (fun _ => ?_)
            refine X_aload_n (pc := 102) 1 dX10_salted_102 rfl rfl ?_
            refine X_getfield (pc := 103) dX10_salted_103 fg_X10_546_11 (MW.ob w') mf_87 ?_
            refine X_iload (pc := 106) 0 dX10_salted_106 rfl ?_
            refine X_aload_n (pc := 108) 1 dX10_salted_108 rfl rfl ?_
            refine X_getfield (pc := 109) dX10_salted_109 fg_X10_283_11 (MW.ob w') mf_27 ?_
            refine X_iload (pc := 112) 0 dX10_salted_112 rfl ?_
            refine X_baload (pc := 114) dX10_salted_114 c27 b2 ?_
            refine X_bastore (pc := 115) dX10_salted_115 c55 b1 ?_
            rw [ci, p27 i (by have := hDl; omega), (hDB).nar]
            have w2 := w'.setS 87 rfl (PL_snoc (x := (D).getD i 0) p55) (by rw [List.length_append, hli]; exact (show i + 1 ≤ 48 by omega))
            rw [up_up', hli, ← List.map_singleton (f := fun j => (D).getD j 0), ← List.map_append, ← List.range_succ] at w2
            refine X_iinc (pc := 116) (L' := [(6, .int (_ + 1)), (0, .ref _), (1, .ref _), (2, .int _), (3, .ref _), (4, .int _), (5, .int _)]) 0 dX10_salted_116 rfl rfl (Nat.le_of_ble_eq_true rfl) rfl ?_
            refine X_goto (pc := 119) 95 dX10_salted_119 (by decide) ?_
            rw [show nI i + 1 = nI (i + 1) from nI_add i 1]
            exact ih (i + 1) (by omega) _ w2
        refine X_iconst (pc := 92) (x := 0) dX10_salted_92 (by decide) ?_
        refine X_istore (pc := 93) (L' := [(6, .int _), (0, .ref _), (1, .ref _), (2, .int _), (3, .ref _), (4, .int _), (5, .int _)]) dX10_salted_93 (Nat.le_of_ble_eq_true rfl) rfl ?_
        exact loop2 48 0 (by omega) h8 (w8.cutS 87 rfl)
      | succ m ih =>
        intro i hi h5 w5
        refine X_iload (pc := 50) 0 dX10_salted_50 rfl ?_
        refine X_bipush (pc := 52) (x := 8) dX10_salted_52 (by decide) ?_
        refine X_cge (b := 8) (pc := 54) 68 dX10_salted_54 (by decide) (by omega) (by omega) (fun c => absurd c (by omega)) (fun _ => ?_)
        refine X_aload_n (pc := 57) 1 dX10_salted_57 rfl rfl ?_
        refine X_iconst (pc := 58) (x := 0) dX10_salted_58 (by decide) ?_
        refine X_ivv (pc := 59) _ dX10_salted_59 cv_X10_246_11 (MW.ob w5) rfl (say_ok g w5 (by rw [List.length_replicate]; omega) 0) nX10_say_2 (Nat.le_of_ble_eq_true rfl) (Nat.le_of_ble_eq_true rfl) (Nat.le_of_ble_eq_true rfl) (Nat.le_of_ble_eq_true rfl) (fun h6 w6 => ?_)
        have e2 : List.replicate i (tb 0) ++ [tb (u32 0)] = List.replicate (i + 1) (tb 0) := by rw [List.replicate_succ']; rfl
        rw [e2] at w6
        refine X_iinc (pc := 62) (L' := [(6, .int (_ + 1)), (0, .ref _), (1, .ref _), (2, .int _), (3, .ref _), (4, .int _), (5, .int _)]) 0 dX10_salted_62 rfl rfl (Nat.le_of_ble_eq_true rfl) rfl ?_
        refine X_goto (pc := 65) 50 dX10_salted_65 (by decide) ?_
        rw [show nI i + 1 = nI (i + 1) from nI_add i 1]
        exact ih (i + 1) (by omega) h6 w6
    refine X_iconst (pc := 47) (x := 0) dX10_salted_47 (by decide) ?_
    refine X_istore (pc := 48) (L' := [(6, .int _), (0, .ref _), (1, .ref _), (2, .int _), (3, .ref _), (4, .int _), (5, .int _)]) dX10_salted_48 (Nat.le_of_ble_eq_true rfl) rfl ?_
    exact loop 8 0 (by omega) h4 w4
  have loop1 : ∀ m i, i + m = 48 → ∀ h', MW A X R I (up (up (up S 27 d) 25 []) 36 ((List.range i).map fun j => (d).getD j 0)) (up F 26 0) h' →
      XX g MX10_salted ({ frames := 3, cells := 0, slots := 0, locals := 85 } : Room) Post 0 0 20 [(6, .int (nI i)), (0, .ref (A 96)), (1, .ref (A ki)), (2, .int (nI fr)), (3, .ref (A ks)), (4, .int (nI at')), (5, .int (nI n))] [] h' := by
    intro m
    induction m with
    | zero =>
      intro i hi h' w'
      have e : i = 48 := by omega
      subst e
      rw [map_getD hdl] at w'
      refine X_iload (pc := 20) 0 dX10_salted_20 rfl ?_
      refine X_bipush (pc := 22) (x := 48) dX10_salted_22 (by decide) ?_
      refine X_cge (a := 48) (b := 48) (pc := 24) 47 dX10_salted_24 (by decide) (by omega) (by omega) (fun _ => ?_) (fun c => absurd c (by omega))
      exact cont1 h' w'
    | succ m ih =>
      intro i hi h' w'
      have ci : (nI i).toNatClampNeg = i := nI_clamp (by omega)
      have b1 : vp_in (nI i) 48 := vp_in_nI (by omega) (by omega)
      have b2 : vp_in (nI i) 48 := vp_in_nI (by omega) (by omega)
      obtain ⟨f27, c27, p27, -⟩ := w'.s 27 rfl
      obtain ⟨f55, c55, p55, -⟩ := w'.s 36 rfl
      rw [up_ne (by decide), t27] at p27
      rw [up_same] at p55
      have hli : ((List.range i).map fun j => (d).getD j 0).length = i := by rw [List.length_map, List.length_range]
      refine X_iload (pc := 20) 0 dX10_salted_20 rfl ?_
      refine X_bipush (pc := 22) (x := 48) dX10_salted_22 (by decide) ?_
      refine X_cge (b := 48) (pc := 24) 47 dX10_salted_24 (by decide) (by omega) (by omega) (fun c => absurd c (by omega)) (fun _ => ?_)
      refine X_aload_n (pc := 27) 1 dX10_salted_27 rfl rfl ?_
      refine X_getfield (pc := 28) dX10_salted_28 fg_X10_343_11 (MW.ob w') mf_36 ?_
      refine X_iload (pc := 31) 0 dX10_salted_31 rfl ?_
      refine X_aload_n (pc := 33) 1 dX10_salted_33 rfl rfl ?_
      refine X_getfield (pc := 34) dX10_salted_34 fg_X10_283_11 (MW.ob w') mf_27 ?_
      refine X_iload (pc := 37) 0 dX10_salted_37 rfl ?_
      refine X_baload (pc := 39) dX10_salted_39 c27 b2 ?_
      refine X_bastore (pc := 40) dX10_salted_40 c55 b1 ?_
      rw [ci, p27 i (by have := hdl; omega), (hdB).nar]
      have w2 := w'.setS 36 rfl (PL_snoc (x := (d).getD i 0) p55) (by rw [List.length_append, hli]; exact (show i + 1 ≤ 48 by omega))
      rw [up_up', hli, ← List.map_singleton (f := fun j => (d).getD j 0), ← List.map_append, ← List.range_succ] at w2
      refine X_iinc (pc := 41) (L' := [(6, .int (_ + 1)), (0, .ref _), (1, .ref _), (2, .int _), (3, .ref _), (4, .int _), (5, .int _)]) 0 dX10_salted_41 rfl rfl (Nat.le_of_ble_eq_true rfl) rfl ?_
      refine X_goto (pc := 44) 20 dX10_salted_44 (by decide) ?_
      rw [show nI i + 1 = nI (i + 1) from nI_add i 1]
      exact ih (i + 1) (by omega) _ w2
  refine X_iconst (pc := 17) (x := 0) dX10_salted_17 (by decide) ?_
  refine X_istore (pc := 18) (L' := [(6, .int _), (0, .ref _), (1, .ref _), (2, .int _), (3, .ref _), (4, .int _), (5, .int _)]) dX10_salted_18 (Nat.le_of_ble_eq_true rfl) rfl ?_
  exact loop1 48 0 (by omega) h3 (w3.cutS 36 rfl)
def mK (j : Nat) : Bool := hK j || j == 86
theorem mK_ne {j k : Nat} (h : mK j = false) (hk : mK k = true) : j ≠ k := fun e => by rw [e, hk] at h; cases h
theorem mK_h {j : Nat} (h : mK j = false) : hK j = false := by
  unfold mK at h
  simp only [Bool.or_eq_false_iff] at h
  exact h.1
set_option maxHeartbeats 2000000 in
theorem masks_ok (g : GX) (w : MW A X R I S F h) (h26 : F 26 = 0) {kb nb at' many : Nat} (hkb : kdM kb = (6, 2, nb)) (hnb : nb < 2 ^ 31) (hk2 : mK kb = false) (hB : IsB (S kb)) (hat : at' + 48 ≤ (S kb).length) (hm : many ≤ 260) :
    MT g MX10_masks ({ frames := 3, cells := 0, slots := 0, locals := 85 } : Room) [.ref (A 96), .ref (A kb), .int (nI at'), .int (nI many)] h (RV fun h' => ∃ S', MW A X R I S' F h' ∧ (∀ j, mK j = false → S' j = S j) ∧ S' 86 = (List.range many).map (mskB (sub (S kb) at' 48))) := by
  refine MT.of (by decide) (Nat.le_of_ble_eq_true rfl) ?_
  generalize hPost : (RV fun h' => ∃ S', MW A X R I S' F h' ∧ (∀ j, mK j = false → S' j = S j) ∧ S' 86 = (List.range many).map (mskB (sub (S kb) at' 48))) = Post
  have hF : up F 26 (nI 0) = F := by
    have := up_id F 26
    rw [h26] at this
    exact this
  have k25 : kb ≠ 25 := fun e => by subst e; cases hk2
  have ol : (sub (S kb) at' 48).length = 48 := sub_len _ _ _
  generalize hof : sub (S kb) at' 48 = of at *
  have loop : ∀ m i, i + m = (many + 47) / 48 → ∀ S' h', SW A X R I S' F [] h' → (∀ j, mK j = false → S' j = S j) → S' 86 = (List.range (min (48 * i) many)).map (mskB of) →
      XX g MX10_masks ({ frames := 3, cells := 0, slots := 0, locals := 85 } : Room) Post 0 0 3 [(4, .int (nI i)), (0, .ref (A 96)), (1, .ref (A kb)), (2, .int (nI at')), (3, .int (nI many))] [] h' := by
    intro m
    induction m with
    | zero =>
      intro i hi S' h' w' fS s86
      refine X_bipush (pc := 3) (x := 48) dX10_masks_3 (by decide) ?_
      refine X_iload (pc := 5) 0 dX10_masks_5 rfl ?_
      refine X_imul (pc := 7) dX10_masks_7 ?_
      rw [show (48 : Int32) * nI i = nI (48 * i) from pk_mul 48 i]
      refine X_iload_n (pc := 8) 4 dX10_masks_8 rfl rfl ?_
      refine X_icmp_ge (pc := 9) 89 dX10_masks_9 (by decide) (fun _ => ?_) (fun c => absurd (nI_le (a := many) (b := 48 * i) (by omega) (by omega)) c)
      subst hPost
      refine X_return (pc := 89) dX10_masks_89 rfl (Nat.le_of_ble_eq_true rfl) (Nat.le_of_ble_eq_true rfl) ?_
      have w2 : MW A X R I (up S' 25 []) (up F 26 (nI 0)) h' := w'
      rw [hF] at w2
      refine ⟨rfl, _, w2, fun j hj => ?_, ?_⟩
      · rw [up_ne (mK_ne hj rfl)]; exact fS j hj
      · rw [up_ne (by decide), s86, show min (48 * i) many = many by omega]
    | succ m ih =>
      intro i hi S' h' w' fS s86
      have hi6 : i < 6 := by omega
      have skb : S' kb = S kb := fS kb hk2
      -- one digest
      have inner : ∀ m5 j, j + m5 = 48 → ∀ h5, SW A X R I (up (up S' 27 (mskD of i)) 86 ((List.range (min (48 * i + j) many)).map (mskB of))) F [] h5 → 48 * i + j ≤ many →
          XX g MX10_masks ({ frames := 3, cells := 0, slots := 0, locals := 85 } : Room) Post 0 0 38 [(5, .int (nI j)), (4, .int (nI i)), (0, .ref (A 96)), (1, .ref (A kb)), (2, .int (nI at')), (3, .int (nI many))] [] h5 := by
        have done : ∀ j h5, SW A X R I (up (up S' 27 (mskD of i)) 86 ((List.range (min (48 * i + j) many)).map (mskB of))) F [] h5 → (j = 48 ∨ 48 * i + j = many) → j ≤ 48 →
            XX g MX10_masks ({ frames := 3, cells := 0, slots := 0, locals := 85 } : Room) Post 0 0 83 [(5, .int (nI j)), (4, .int (nI i)), (0, .ref (A 96)), (1, .ref (A kb)), (2, .int (nI at')), (3, .int (nI many))] [] h5 := by
          intro j h5 w5 hj hj2
          refine X_iinc (pc := 83) (L' := [(4, .int (_ + 1)), (5, .int _), (0, .ref _), (1, .ref _), (2, .int _), (3, .int _)]) 1 dX10_masks_83 rfl rfl (Nat.le_of_ble_eq_true rfl) rfl ?_
          refine X_goto (pc := 86) 3 dX10_masks_86 (by decide) ?_
          refine XX.pick (L' := [(4, .int _), (0, .ref _), (1, .ref _), (2, .int _), (3, .int _)]) [0, 2, 3, 4, 5] rfl ?_
          rw [show nI i + 1 = nI (i + 1) from nI_add i 1]
          refine ih (i + 1) (by omega) _ h5 w5 (fun q hq => ?_) ?_
          · rw [up_ne (mK_ne hq rfl), up_ne (mK_ne hq rfl)]; exact fS q hq
          · rw [up_same, show min (48 * (i + 1)) many = min (48 * i + j) many by omega]
        intro m5
        induction m5 with
        | zero =>
          intro j hj h5 w5 hle
          have e : j = 48 := by omega
          subst e
          refine X_iload (pc := 38) 0 dX10_masks_38 rfl ?_
          refine X_bipush (pc := 40) (x := 48) dX10_masks_40 (by decide) ?_
          refine X_cge (a := 48) (b := 48) (pc := 42) 83 dX10_masks_42 (by decide) (by omega) (by omega) (fun _ => ?_) (fun c => absurd c (by omega))
          exact done 48 h5 w5 (Or.inl rfl) (Nat.le_refl _)
        | succ m5 ih5 =>
          intro j hj h5 w5 hle
          have w5' : MW A X R I (up (up (up S' 27 (mskD of i)) 86 ((List.range (min (48 * i + j) many)).map (mskB of))) 25 []) (up F 26 (nI 0)) h5 := w5
          refine X_iload (pc := 38) 0 dX10_masks_38 rfl ?_
          refine X_bipush (pc := 40) (x := 48) dX10_masks_40 (by decide) ?_
          refine X_cge (b := 48) (pc := 42) 83 dX10_masks_42 (by decide) (by omega) (by omega) (fun c => absurd c (by omega)) (fun _ => ?_)
          refine X_bipush (pc := 45) (x := 48) dX10_masks_45 (by decide) ?_
          refine X_iload (pc := 47) 1 dX10_masks_47 rfl ?_
          refine X_imul (pc := 49) dX10_masks_49 ?_
          refine X_iload (pc := 50) 0 dX10_masks_50 rfl ?_
          refine X_iadd (pc := 52) dX10_masks_52 ?_
          rw [show (48 : Int32) * nI i = nI (48 * i) from pk_mul 48 i, nI_add]
          refine X_iload_n (pc := 53) 5 dX10_masks_53 rfl rfl ?_
          refine X_cge (pc := 54) 83 dX10_masks_54 (by decide) (by omega) hle (fun e => ?_) (fun c9 => ?_)
          · exact done j h5 w5 (Or.inr e) (by omega)
          have cj : (nI j).toNatClampNeg = j := nI_clamp (by omega)
          have b1 : vp_in (nI j) 48 := vp_in_nI (by omega) (by omega)
          obtain ⟨f27, c27, p27, -⟩ := w5'.s 27 rfl
          obtain ⟨f86, c86, p86, -⟩ := w5'.s 86 rfl
          rw [up_ne (by decide), up_ne (by decide), up_same] at p27
          rw [up_ne (by decide), up_same] at p86
          have hdl : (mskD of i).length = 48 := sha384_len _
          have hdB : IsB (mskD of i) := sha384_B _
          have hlu : ((List.range (min (48 * i + j) many)).map (mskB of)).length = 48 * i + j := by rw [List.length_map, List.length_range]; omega
          have bu : vp_in (nI (48 * i + j)) 260 := vp_in_nI (by omega) (by omega)
          have cu : (nI (48 * i + j)).toNatClampNeg = 48 * i + j := nI_clamp (by omega)
          refine X_aload_n (pc := 57) 2 dX10_masks_57 rfl rfl ?_
          refine X_getfield (pc := 58) dX10_masks_58 fg_X10_543_11 (MW.ob w5') mf_86 ?_
          refine X_bipush (pc := 61) (x := 48) dX10_masks_61 (by decide) ?_
          refine X_iload (pc := 63) 1 dX10_masks_63 rfl ?_
          refine X_imul (pc := 65) dX10_masks_65 ?_
          refine X_iload (pc := 66) 0 dX10_masks_66 rfl ?_
          refine X_iadd (pc := 68) dX10_masks_68 ?_
          rw [show (48 : Int32) * nI i = nI (48 * i) from pk_mul 48 i, nI_add]
          refine X_aload_n (pc := 69) 2 dX10_masks_69 rfl rfl ?_
          refine X_getfield (pc := 70) dX10_masks_70 fg_X10_283_11 (MW.ob w5') mf_27 ?_
          refine X_iload (pc := 73) 0 dX10_masks_73 rfl ?_
          refine X_baload (pc := 75) dX10_masks_75 c27 b1 ?_
          refine X_bastore (pc := 76) dX10_masks_76 c86 bu ?_
          rw [cu, cj, p27 j (by omega), hdB.nar]
          have w7 := w5'.setS 86 rfl (PL_snoc (x := mskB of (48 * i + j)) p86) (by rw [List.length_append, hlu]; exact (show 48 * i + j + 1 ≤ 260 by omega))
          rw [hlu, ← List.map_singleton (f := mskB of), ← List.map_append, show min (48 * i + j) many = 48 * i + j by omega, ← List.range_succ, mskB_at of (by omega), up_comm _ _ _ (show 25 ≠ 86 by decide), up_up'] at w7
          refine X_iinc (pc := 77) (L' := [(5, .int (_ + 1)), (4, .int _), (0, .ref _), (1, .ref _), (2, .int _), (3, .int _)]) 0 dX10_masks_77 rfl rfl (Nat.le_of_ble_eq_true rfl) rfl ?_
          refine X_goto (pc := 80) 38 dX10_masks_80 (by decide) ?_
          rw [show nI j + 1 = nI (j + 1) from nI_add j 1]
          refine ih5 (j + 1) (by omega) _ ?_ (by omega)
          rw [show min (48 * i + (j + 1)) many = (48 * i + j).succ by omega]
          exact w7
      refine X_bipush (pc := 3) (x := 48) dX10_masks_3 (by decide) ?_
      refine X_iload (pc := 5) 0 dX10_masks_5 rfl ?_
      refine X_imul (pc := 7) dX10_masks_7 ?_
      rw [show (48 : Int32) * nI i = nI (48 * i) from pk_mul 48 i]
      refine X_iload_n (pc := 8) 4 dX10_masks_8 rfl rfl ?_
      refine X_icmp_ge (pc := 9) 89 dX10_masks_9 (by decide) (fun c => absurd c (nI_ge (by omega) (by omega))) (fun _ => ?_)
      refine X_aload_n (pc := 12) 1 dX10_masks_12 rfl rfl ?_
      refine X_aload_n (pc := 13) 2 dX10_masks_13 rfl rfl ?_
      refine X_iload_n (pc := 14) 3 dX10_masks_14 rfl rfl ?_
      refine X_bipush (pc := 15) (x := 48) dX10_masks_15 (by decide) ?_
      refine X_ivv (pc := 17) _ dX10_masks_17 cv_X10_325_11 (MW.ob w') rfl (saysK g w' (kb := kb) (at' := at') (n := 48) hkb hnb k25 (by rw [skb]; exact hB) (by rw [skb]; exact hat) (by decide)) nX10_say (Nat.le_of_ble_eq_true rfl) (Nat.le_of_ble_eq_true rfl) (Nat.le_of_ble_eq_true rfl) (Nat.le_of_ble_eq_true rfl) (fun h2 w2 => ?_)
      rw [skb, hof] at w2
      refine X_aload_n (pc := 20) 1 dX10_masks_20 rfl rfl ?_
      refine X_iconst (pc := 21) (x := 0) dX10_masks_21 (by decide) ?_
      refine X_ivv (pc := 22) _ dX10_masks_22 cv_X10_334_11 (MW.ob w2) rfl (both_ok g w2 (n := 0) (by show of.length + 2 ≤ 2600; rw [ol]; decide) (by decide)) nX10_both (Nat.le_of_ble_eq_true rfl) (Nat.le_of_ble_eq_true rfl) (Nat.le_of_ble_eq_true rfl) (Nat.le_of_ble_eq_true rfl) (fun h3 w3 => ?_)
      refine X_aload_n (pc := 25) 1 dX10_masks_25 rfl rfl ?_
      refine X_iload (pc := 26) 0 dX10_masks_26 rfl ?_
      refine X_ivv (pc := 28) _ dX10_masks_28 cv_X10_334_11 (MW.ob w3) rfl (both_ok g w3 (n := i) (by rw [List.length_append]; show of.length + 2 + 2 ≤ 2600; rw [ol]; decide) (by omega)) nX10_both (Nat.le_of_ble_eq_true rfl) (Nat.le_of_ble_eq_true rfl) (Nat.le_of_ble_eq_true rfl) (Nat.le_of_ble_eq_true rfl) (fun h4 w4 => ?_)
      refine X_aload_n (pc := 31) 1 dX10_masks_31 rfl rfl ?_
      refine X_ivv (pc := 32) _ dX10_masks_32 cv_X10_340_11 (MW.ob w4) rfl (h3_ok g w4 (by rw [List.length_append, List.length_append]; show of.length + 2 + 2 + 144 ≤ 2600; rw [ol]; decide)) nX10_h3 (Nat.le_of_ble_eq_true rfl) (Nat.le_of_ble_eq_true rfl) (Nat.le_of_ble_eq_true rfl) (Nat.le_of_ble_eq_true rfl) (fun h5 w5 => ?_)
      have w5 : SW A X R I (up S' 27 (mskD of i)) F [] h5 := w5
      refine X_iconst (pc := 35) (x := 0) dX10_masks_35 (by decide) ?_
      refine X_istore (pc := 36) (L' := [(5, .int _), (4, .int _), (0, .ref _), (1, .ref _), (2, .int _), (3, .int _)]) dX10_masks_36 (Nat.le_of_ble_eq_true rfl) rfl ?_
      refine inner 48 0 (by omega) h5 ?_ (by omega)
      have e86 : up (up S' 27 (mskD of i)) 86 ((List.range (min (48 * i + 0) many)).map (mskB of)) = up S' 27 (mskD of i) := by
        rw [show 48 * i + 0 = 48 * i from rfl, ← s86]
        have := up_id (up S' 27 (mskD of i)) 86
        rw [up_ne (by decide)] at this
        exact this
      rw [e86]
      exact w5
  refine X_iconst (pc := 0) (x := 0) dX10_masks_0 (by decide) ?_
  refine X_istore (pc := 1) (L' := [(4, .int _), (0, .ref _), (1, .ref _), (2, .int _), (3, .int _)]) dX10_masks_1 (Nat.le_of_ble_eq_true rfl) rfl ?_
  have w0 : SW A X R I (up S 86 []) F [] h := by
    have := (w.cutS 86 rfl).cutS 25 rfl
    rw [← hF] at this
    exact this
  refine loop ((many + 47) / 48) 0 (by omega) _ h w0 (fun j hj => up_ne (mK_ne hj rfl)) ?_
  rw [up_same, Nat.mul_zero, Nat.zero_min, List.range_zero, List.map_nil]
end MSl
