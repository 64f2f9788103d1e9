set_option maxRecDepth 100000
/-! the reference: a point from its bytes -/
/-- a stretch of bytes -/
def ByAt (h : AH) (b at' n : Nat) (l : Nat → Int32) : Prop := ∃ (rb : Bool) (nb : Nat) (fb : Nat → Int32), h b = some (Ai rb 2 nb fb) ∧ at' + n ≤ nb ∧ nb < 2 ^ 31 ∧ ∀ j, j < n → fb (at' + j) = l j
theorem bsm_cg {f l : Nat → Int32} {a b : Nat} : ∀ {i : Nat}, (∀ j, j < i → f (a - 1 - j) = l (b - 1 - j)) → bsm f a i = bsm l b i
  | 0, _ => rfl
  | i + 1, h => by
    show bsm f a i + b8 (f (a - 1 - i)) * 256 ^ i = bsm l b i + b8 (l (b - 1 - i)) * 256 ^ i
    rw [bsm_cg (fun j hj => h j (by omega)), h i (by omega)]
/-- the point that 49 bytes tell -/
noncomputable def decY (l : Nat → Int32) (x y : Fp) : Option (Fp × Fp) :=
  if y * y = gx x then (if y = 0 then (if l 0 = 2 then some (x, y) else none) else if (y.val % 2 = 0 ↔ l 0 = 2) then some (x, y) else some (x, -y)) else none
noncomputable def decE (l : Nat → Int32) : Option (Fp × Fp) :=
  if l 0 = 2 ∨ l 0 = 3 then (if bsm l 49 48 < pP then decY l (fp (bsm l 49 48)) (rt (gx (fp (bsm l 49 48)))) else none) else none
theorem cmpN_lt0 {a b : Nat} : cmpN a b < 0 ↔ a < b := by
  unfold cmpN
  by_cases c1 : a < b
  · rw [if_pos c1]; exact ⟨fun _ => c1, fun _ => by decide⟩
  · rw [if_neg c1]
    by_cases c2 : a = b
    · rw [if_pos c2]; exact ⟨fun e => absurd e (by decide), fun e => absurd e c1⟩
    · rw [if_neg c2]; exact ⟨fun e => absurd e (by decide), fun e => absurd e c1⟩
section ME
variable {A : Nat → Nat} {X : AH} {R : Nat → Nat} {I : Nat → Nat → Int32} {S : Nat → List Int32} {F : Nat → Int32} {h : AH}
def eScr (t j : Nat) : Bool := j == 13 || j == 14 || j == 15 || j == 24 || j == 200 + t || j == 300 + t
theorem eScr_ne {t j k : Nat} (h : eScr t j = false) (hk : eScr t k = true) : j ≠ k := fun e => by rw [e, hk] at h; cases h
theorem eScr_x {t : Nat} : eScr t (200 + t) = true := by simp [eScr]
theorem eScr_y {t : Nat} : eScr t (300 + t) = true := by simp [eScr]
def EPost (A : Nat → Nat) (X : AH) (R : Nat → Nat) (I : Nat → Nat → Int32) (S : Nat → List Int32) (F : Nat → Int32) (t : Nat) (l : Nat → Int32) (r : Int32) (h' : AH) : Prop :=
  ∃ R' F', MW A X R' I S F' h' ∧ (∀ j, eScr t j = false → R' j = R j) ∧ (∀ j, j ≠ 400 + t → F' j = F j) ∧ (F' (400 + t) = F (400 + t) ∨ F' (400 + t) = 0) ∧
    ((r = 0 ∧ decE l = none) ∨ (r = 1 ∧ ∃ P, decE l = some P ∧ spt R' F' t = some P ∧ F' (400 + t) = 0 ∧ R' (200 + t) < pP))
set_option maxHeartbeats 4000000 in
theorem elem_ok (g : GX) (w : MW A X R I S F h) {b at' t : Nat} {l : Nat → Int32} (ht : t < 31) (hk2 : kdM (200 + t) = (2, 0, 12)) (h16 : R 16 = eP)
    (ok : ∀ {R' : Nat → Nat} {F' : Nat → Int32} {h' : AH}, MW A X R' I S F' h' → ByAt h' b at' 49 l) :
    MT g MX10_element ({ frames := 6, cells := 0, slots := 0, locals := 160 } : Room) [.ref (A 96), .ref b, .int (nI at'), .ref (A (400 + t))] h (RI (EPost A X R I S F t l)) := by
  refine MT.of (by decide) (Nat.le_of_ble_eq_true rfl) ?_
  generalize hPost : RI (EPost A X R I S F t l) = Post
  have tag : ∀ {R' : Nat → Nat} {F' : Nat → Int32} {h' : AH}, MW A X R' I S F' h' → ∃ (rb : Bool) (nb : Nat) (fb : Nat → Int32), h' b = some (Ai rb 2 nb fb) ∧ vp_in (nI at') nb ∧ fb (nI at').toNatClampNeg = l 0 := by
    intro R' F' h' w'
    obtain ⟨rb, nb, fb, c1, c2, c3, c4⟩ := ok w'
    exact ⟨rb, nb, fb, c1, vp_in_nI (by omega) (by omega), by rw [nI_clamp (by omega)]; exact c4 0 (by decide)⟩
  -- the number
  have numb : l 0 = 2 ∨ l 0 = 3 → XX g MX10_element ({ frames := 6, cells := 0, slots := 0, locals := 160 } : Room) Post 0 0 16 [(0, .ref (A 96)), (1, .ref b), (2, .int (nI at')), (3, .ref (A (400 + t)))] [] h := by
    intro hl0
    obtain ⟨rb, nb, fb, c1, c2, c3, c4⟩ := ok w
    obtain ⟨fx, cx, -⟩ := w.n2 (200 + t) hk2
    have hbs : bsm fb (at' + 1 + 48) 48 = bsm l 49 48 := bsm_cg fun j hj => by
      rw [show at' + 1 + 48 - 1 - j = at' + (49 - 1 - j) by omega]
      exact c4 _ (by omega)
    refine X_aload_n (pc := 16) 1 dX10_element_16 rfl rfl ?_
    refine X_iload_n (pc := 17) 2 dX10_element_17 rfl rfl ?_
    refine X_iconst (pc := 18) (x := 1) dX10_element_18 (by decide) ?_
    refine X_iadd (pc := 19) dX10_element_19 ?_
    refine X_bipush (pc := 20) (x := 48) dX10_element_20 (by decide) ?_
    refine X_aload_n (pc := 22) 3 dX10_element_22 rfl rfl ?_
    refine X_getfield (pc := 23) dX10_element_23 fg_X10_146_13 (w.sp t ht) (by first | rfl | assumption) ?_
    refine X_bipush (pc := 26) (x := 12) dX10_element_26 (by decide) ?_
    rw [show nI at' + 1 = nI (at' + 1) from nI_add at' 1]
    refine X_isv (pc := 28) _ dX10_element_28 cs_X10_217 rfl (load_ok g (fr := at' + 1) (many := 48) (n := 12) c1 cx (by omega) c3 (Nat.le_refl _) (by decide) (by decide)) nX10_load (Nat.le_of_ble_eq_true rfl) (Nat.le_of_ble_eq_true rfl) (Nat.le_of_ble_eq_true rfl) (Nat.le_of_ble_eq_true rfl) (fun h1 q1 => ?_)
    obtain ⟨f1, v1, -, rfl⟩ := q1
    rw [hbs] at v1
    have w1' := w.setN2 (200 + t) hk2 v1
    obtain ⟨R1, e1, o1, w1⟩ := MW.abs w1'
    generalize hset h (A (200 + t)) (Ai false 0 12 f1) = h1 at w1
    have hdx : decE l = if bsm l 49 48 < pP then decY l (fp (bsm l 49 48)) (rt (gx (fp (bsm l 49 48)))) else none := by unfold decE; rw [if_pos hl0]
    generalize hxv : bsm l 49 48 = xv at *
    refine X_aload_n (pc := 31) 3 dX10_element_31 rfl rfl ?_
    refine X_getfield (pc := 32) dX10_element_32 fg_X10_146_13 (w1.sp t ht) (by first | rfl | assumption) ?_
    refine X_getstatic (pc := 35) (j := 3) dX10_element_35 q1377 (fun _ => rfl) rfl (fun st_35 hs_35 => ?_)
    refine X_bipush (pc := 38) (x := 12) dX10_element_38 (by decide) ?_
    refine X_isi (pc := 40) _ dX10_element_40 cs_X10_26 rfl (mcW g (OpM.sx w1 ht) (OpM.st w1 hs_35 (by decide))) nX10_compare (Nat.le_of_ble_eq_true rfl) (Nat.le_of_ble_eq_true rfl) (Nat.le_of_ble_eq_true rfl) (Nat.le_of_ble_eq_true rfl) (fun r2 h2 q2 => ?_)
    obtain ⟨rfl, rfl⟩ := q2
    rw [V_tP, e1]
    by_cases hlt : xv < pP
    · rw [if_pos hlt] at hdx
      refine X_if_lt (pc := 43) 48 dX10_element_43 (by decide) (fun _ => ?_) (fun c => absurd (cmpN_lt0.mpr hlt) c)
      refine X_aload_n (pc := 48) 0 dX10_element_48 rfl rfl ?_
      refine X_aload_n (pc := 49) 3 dX10_element_49 rfl rfl ?_
      refine X_getfield (pc := 50) dX10_element_50 fg_X10_146_13 (w1.sp t ht) (by first | rfl | assumption) ?_
      refine X_aload_n (pc := 53) 0 dX10_element_53 rfl rfl ?_
      refine X_getfield (pc := 54) dX10_element_54 fg_X10_158_11 (MW.ob w1) mf_13 ?_
      refine X_ivv (pc := 57) _ dX10_element_57 cv_X10_221_11 (MW.ob w1) rfl (curve_ok g w1 (k := 13) rfl (by decide) ht) nX10_curve (Nat.le_of_ble_eq_true rfl) (Nat.le_of_ble_eq_true rfl) (Nat.le_of_ble_eq_true rfl) (Nat.le_of_ble_eq_true rfl) (fun h3 q3 => ?_)
      obtain ⟨R3, w3, o3, g3⟩ := q3
      rw [e1] at g3
      have h3x : R3 (200 + t) = xv := (o3 _ (by omega) (by omega) (by omega)).trans e1
      have h316 : R3 16 = eP := by rw [o3 16 (by decide) (by decide) (by decide), o1 16 (by omega)]; exact h16
      refine X_aload_n (pc := 60) 0 dX10_element_60 rfl rfl ?_
      refine X_aload_n (pc := 61) 0 dX10_element_61 rfl rfl ?_
      refine X_getfield (pc := 62) dX10_element_62 fg_X10_158_11 (MW.ob w3) mf_13 ?_
      refine X_aload_n (pc := 65) 3 dX10_element_65 rfl rfl ?_
      refine X_getfield (pc := 66) dX10_element_66 fg_X10_149_13 (w3.sp t ht) (by first | rfl | assumption) ?_
      refine X_ivi (pc := 69) _ dX10_element_69 cv_X10_225_11 (MW.ob w3) rfl (root_ok g w3 (k := 13) rfl ht h316) nX10_root (Nat.le_of_ble_eq_true rfl) (Nat.le_of_ble_eq_true rfl) (Nat.le_of_ble_eq_true rfl) (Nat.le_of_ble_eq_true rfl) (fun r4 h4 q4 => ?_)
      obtain ⟨R4, w4, o4, y4, hr⟩ := q4
      rw [g3] at y4 hr
      have h4x : R4 (200 + t) = xv := (o4 _ (by omega) (by omega) (by omega)).trans h3x
      have fr4 : ∀ j, eScr t j = false → R4 j = R j := fun j hj => by
        rw [o4 j (eScr_ne hj rfl) (eScr_ne hj rfl) (eScr_ne hj eScr_y), o3 j (eScr_ne hj rfl) (eScr_ne hj rfl) (eScr_ne hj rfl), o1 j (eScr_ne hj eScr_x)]
      generalize hyv : rt (gx (fp xv)) = yv at *
      by_cases hq : yv * yv = gx (fp xv)
      · rw [if_pos hq] at hr
        subst hr
        have hdy : decE l = if yv = 0 then (if l 0 = 2 then some (fp xv, yv) else none) else if (yv.val % 2 = 0 ↔ l 0 = 2) then some (fp xv, yv) else some (fp xv, -yv) := by rw [hdx]; unfold decY; rw [if_pos hq]
        refine X_if_ne (pc := 72) 77 dX10_element_72 (by decide) (fun _ => ?_) (fun c => absurd c (by decide))
        refine X_aload_n (pc := 77) 3 dX10_element_77 rfl rfl ?_
        refine X_iconst (pc := 78) (x := 0) dX10_element_78 (by decide) ?_
        refine X_putfield (pc := 79) dX10_element_79 fp_X10_136_13 (fun e => by cases e) (w4.sp t ht) rfl rfl (Nat.le_of_ble_eq_true rfl) ?_
        generalize hh5 : hset h4 (A (400 + t)) (Ob 13 ([Value.ref (A (200 + t)), Value.ref (A (300 + t)), Value.int (F (400 + t))].set 2 (Value.int 0))) = h5
        have w5 : MW A X R4 I S (up F (400 + t) 0) h5 := by rw [← hh5]; exact w4.setSp t ht
        have hF : ∀ j, j ≠ 400 + t → up F (400 + t) 0 j = F j := fun j hj => up_ne hj
        have hF0 : up F (400 + t) 0 (400 + t) = 0 := up_same _ _ _
        generalize up F (400 + t) 0 = F5 at *
        obtain ⟨fy, cy, vy, ly⟩ := w5.n (300 + t) (kd_y ht)
        have hyn : yv.val = R4 (300 + t) := by rw [← y4]; exact fp_val_lt ly
        have hy0 : R4 (300 + t) = 0 ↔ yv = 0 := by rw [← y4]; exact (zero_fp ly).symm
        refine X_aload_n (pc := 82) 3 dX10_element_82 rfl rfl ?_
        refine X_getfield (pc := 83) dX10_element_83 fg_X10_149_13 (w5.sp t ht) (by first | rfl | assumption) ?_
        refine X_bipush (pc := 86) (x := 12) dX10_element_86 (by decide) ?_
        refine X_isi (pc := 88) _ dX10_element_88 cs_X10_122 rfl (mzW g (OpM.n w5 _ (kd_y ht))) nX10_isZero (Nat.le_of_ble_eq_true rfl) (Nat.le_of_ble_eq_true rfl) (Nat.le_of_ble_eq_true rfl) (Nat.le_of_ble_eq_true rfl) (fun r6 h6 q6 => ?_)
        obtain ⟨rfl, rfl⟩ := q6
        obtain ⟨rb, nb, fb, t1, t2, t3⟩ := tag w5
        by_cases hz : R4 (300 + t) = 0
        · rw [if_pos hz]
          rw [if_pos (hy0.mp hz)] at hdy
          refine X_if_eq (pc := 91) 107 dX10_element_91 (by decide) (fun c => absurd c (by decide)) (fun _ => ?_)
          refine X_aload_n (pc := 94) 1 dX10_element_94 rfl rfl ?_
          refine X_iload_n (pc := 95) 2 dX10_element_95 rfl rfl ?_
          refine X_baload (pc := 96) dX10_element_96 t1 t2 ?_
          refine X_iconst (pc := 97) (x := 2) dX10_element_97 (by decide) ?_
          rw [t3]
          by_cases hl2 : l 0 = 2
          · rw [if_pos hl2] at hdy
            refine X_icmp_ne (pc := 98) 105 dX10_element_98 (by decide) (fun c => absurd hl2 c) (fun _ => ?_)
            refine X_iconst (pc := 101) (x := 1) dX10_element_101 (by decide) ?_
            refine X_goto (pc := 102) 106 dX10_element_102 (by decide) ?_
            subst hPost
            refine X_zreturn (pc := 106) dX10_element_106 rfl (by first | exact Or.inl rfl | exact Or.inr rfl | assumption | exact zo_if) (Nat.le_of_ble_eq_true rfl) (Nat.le_of_ble_eq_true rfl) ?_
            refine ⟨1, rfl, R4, F5, w5, fr4, hF, Or.inr hF0, Or.inr ⟨rfl, _, hdy, ?_, hF0, by rw [h4x]; exact hlt⟩⟩
            unfold spt
            rw [if_pos hF0, h4x, y4]
          · rw [if_neg hl2] at hdy
            refine X_icmp_ne (pc := 98) 105 dX10_element_98 (by decide) (fun _ => ?_) (fun c => absurd c hl2)
            refine X_iconst (pc := 105) (x := 0) dX10_element_105 (by decide) ?_
            subst hPost
            refine X_zreturn (pc := 106) dX10_element_106 rfl (by first | exact Or.inl rfl | exact Or.inr rfl | assumption | exact zo_if) (Nat.le_of_ble_eq_true rfl) (Nat.le_of_ble_eq_true rfl) ?_
            exact ⟨0, rfl, R4, F5, w5, fr4, hF, Or.inr hF0, Or.inl ⟨rfl, hdy⟩⟩
        · rw [if_neg hz]
          rw [if_neg (fun e => hz (hy0.mpr e))] at hdy
          refine X_if_eq (pc := 91) 107 dX10_element_91 (by decide) (fun _ => ?_) (fun c => absurd rfl c)
          refine X_aload_n (pc := 107) 3 dX10_element_107 rfl rfl ?_
          refine X_getfield (pc := 108) dX10_element_108 fg_X10_149_13 (w5.sp t ht) (by first | rfl | assumption) ?_
          refine X_iconst (pc := 111) (x := 0) dX10_element_111 (by decide) ?_
          refine X_iaload (pc := 112) dX10_element_112 cy (vp_in_nI (n := 0) (by decide) (by decide)) ?_
          refine X_iconst (pc := 113) (x := 1) dX10_element_113 (by decide) ?_
          refine X_iand (pc := 114) dX10_element_114 ?_
          refine X_aload_n (pc := 115) 1 dX10_element_115 rfl rfl ?_
          refine X_iload_n (pc := 116) 2 dX10_element_116 rfl rfl ?_
          refine X_baload (pc := 117) dX10_element_117 t1 t2 ?_
          refine X_iconst (pc := 118) (x := 2) dX10_element_118 (by decide) ?_
          refine X_isub (pc := 119) dX10_element_119 ?_
          rw [t3, show fy ((0 : Int32).toNatClampNeg) &&& 1 = nI (R4 (300 + t) % 2) by rw [show (0 : Int32).toNatClampNeg = 0 from rfl, V_odd (n := 12) (by decide), vy]]
          have hpar : nI (R4 (300 + t) % 2) = l 0 - 2 ↔ (yv.val % 2 = 0 ↔ l 0 = 2) := by
            rw [hyn]
            have h01 : R4 (300 + t) % 2 = 0 ∨ R4 (300 + t) % 2 = 1 := by omega
            rcases hl0 with e | e <;> rcases h01 with e2 | e2 <;> rw [e, e2] <;> decide
          by_cases hp : (yv.val % 2 = 0 ↔ l 0 = 2)
          · rw [if_pos hp] at hdy
            refine X_icmp_eq (pc := 120) 130 dX10_element_120 (by decide) (fun _ => ?_) (fun c => absurd (hpar.mpr hp) c)
            refine X_iconst (pc := 130) (x := 1) dX10_element_130 (by decide) ?_
            subst hPost
            refine X_zreturn (pc := 131) dX10_element_131 rfl (by first | exact Or.inl rfl | exact Or.inr rfl | assumption | exact zo_if) (Nat.le_of_ble_eq_true rfl) (Nat.le_of_ble_eq_true rfl) ?_
            refine ⟨1, rfl, R4, F5, w5, fr4, hF, Or.inr hF0, Or.inr ⟨rfl, _, hdy, ?_, hF0, by rw [h4x]; exact hlt⟩⟩
            unfold spt
            rw [if_pos hF0, h4x, y4]
          · rw [if_neg hp] at hdy
            refine X_icmp_eq (pc := 120) 130 dX10_element_120 (by decide) (fun c => absurd (hpar.mp c) hp) (fun _ => ?_)
            refine X_aload_n (pc := 123) 3 dX10_element_123 rfl rfl ?_
            refine X_getfield (pc := 124) dX10_element_124 fg_X10_149_13 (w5.sp t ht) (by first | rfl | assumption) ?_
            refine X_isv (pc := 127) _ dX10_element_127 cs_X10_229 rfl (turn_ok g w5 ht hz) nX10_turn (Nat.le_of_ble_eq_true rfl) (Nat.le_of_ble_eq_true rfl) (Nat.le_of_ble_eq_true rfl) (Nat.le_of_ble_eq_true rfl) (fun h7 w7 => ?_)
            refine X_iconst (pc := 130) (x := 1) dX10_element_130 (by decide) ?_
            subst hPost
            refine X_zreturn (pc := 131) dX10_element_131 rfl (by first | exact Or.inl rfl | exact Or.inr rfl | assumption | exact zo_if) (Nat.le_of_ble_eq_true rfl) (Nat.le_of_ble_eq_true rfl) ?_
            have x7 : up R4 (300 + t) (pP - R4 (300 + t)) (200 + t) = xv := by rw [up_ne (by omega)]; exact h4x
            refine ⟨1, rfl, _, F5, w7, fun j hj => by rw [up_ne (eScr_ne hj eScr_y)]; exact fr4 j hj, hF, Or.inr hF0, Or.inr ⟨rfl, _, hdy, ?_, hF0, by rw [x7]; exact hlt⟩⟩
            unfold spt
            rw [if_pos hF0, x7, up_same, fp_neg (Nat.le_of_lt ly), y4]
      · rw [if_neg hq] at hr
        subst hr
        refine X_if_ne (pc := 72) 77 dX10_element_72 (by decide) (fun c => absurd rfl c) (fun _ => ?_)
        refine X_iconst (pc := 75) (x := 0) dX10_element_75 (by decide) ?_
        subst hPost
        refine X_zreturn (pc := 76) dX10_element_76 rfl (by first | exact Or.inl rfl | exact Or.inr rfl | assumption | exact zo_if) (Nat.le_of_ble_eq_true rfl) (Nat.le_of_ble_eq_true rfl) ?_
        exact ⟨0, rfl, R4, F, w4, fr4, fun _ _ => rfl, Or.inl rfl, Or.inl ⟨rfl, by rw [hdx]; unfold decY; rw [if_neg hq]⟩⟩
    · rw [if_neg hlt] at hdx
      refine X_if_lt (pc := 43) 48 dX10_element_43 (by decide) (fun c => absurd (cmpN_lt0.mp c) hlt) (fun _ => ?_)
      refine X_iconst (pc := 46) (x := 0) dX10_element_46 (by decide) ?_
      subst hPost
      refine X_zreturn (pc := 47) dX10_element_47 rfl (by first | exact Or.inl rfl | exact Or.inr rfl | assumption | exact zo_if) (Nat.le_of_ble_eq_true rfl) (Nat.le_of_ble_eq_true rfl) ?_
      exact ⟨0, rfl, R1, F, w1, fun j hj => o1 j (eScr_ne hj eScr_x), fun _ _ => rfl, Or.inl rfl, Or.inl ⟨rfl, hdx⟩⟩
  -- the tag
  obtain ⟨rb, nb, fb, t1, t2, t3⟩ := tag w
  refine X_aload_n (pc := 0) 1 dX10_element_0 rfl rfl ?_
  refine X_iload_n (pc := 1) 2 dX10_element_1 rfl rfl ?_
  refine X_baload (pc := 2) dX10_element_2 t1 t2 ?_
  refine X_iconst (pc := 3) (x := 2) dX10_element_3 (by decide) ?_
  rw [t3]
  by_cases h2 : l 0 = 2
  · refine X_icmp_eq (pc := 4) 16 dX10_element_4 (by decide) (fun _ => numb (Or.inl h2)) (fun c => absurd h2 c)
  · refine X_icmp_eq (pc := 4) 16 dX10_element_4 (by decide) (fun c => absurd c h2) (fun _ => ?_)
    refine X_aload_n (pc := 7) 1 dX10_element_7 rfl rfl ?_
    refine X_iload_n (pc := 8) 2 dX10_element_8 rfl rfl ?_
    refine X_baload (pc := 9) dX10_element_9 t1 t2 ?_
    refine X_iconst (pc := 10) (x := 3) dX10_element_10 (by decide) ?_
    rw [t3]
    by_cases h3 : l 0 = 3
    · refine X_icmp_eq (pc := 11) 16 dX10_element_11 (by decide) (fun _ => numb (Or.inr h3)) (fun c => absurd h3 c)
    · refine X_icmp_eq (pc := 11) 16 dX10_element_11 (by decide) (fun c => absurd c h3) (fun _ => ?_)
      refine X_iconst (pc := 14) (x := 0) dX10_element_14 (by decide) ?_
      subst hPost
      refine X_zreturn (pc := 15) dX10_element_15 rfl (by first | exact Or.inl rfl | exact Or.inr rfl | assumption | exact zo_if) (Nat.le_of_ble_eq_true rfl) (Nat.le_of_ble_eq_true rfl) ?_
      exact ⟨0, rfl, R, F, w, fun _ _ => rfl, fun _ _ => rfl, Or.inl rfl, Or.inl ⟨rfl, by unfold decE; rw [if_neg (fun c => c.elim h2 h3)]⟩⟩
end ME
