set_option maxRecDepth 100000
/-! the reference: blinding -/
theorem on_some {x y : Fp} (h : y * y = gx x) : OnP (some (x, y)) := h
theorem h2p_on (msg : List Int32) : OnP (h2p msg) := ad_on (mapS_on _) (mapS_on _)
theorem decE_on (l : Nat → Int32) : OnP (decE l) := by
  unfold decE
  split
  · split
    · unfold decY
      split
      · rename_i h
        split
        · split
          · exact on_some h
          · exact on_none
        · split
          · exact on_some h
          · refine on_some ?_
            rw [neg_sq']
            exact h
      · exact on_none
    · exact on_none
  · exact on_none
section MBd
variable {A : Nat → Nat} {X : AH} {R R' : Nat → Nat} {I I' : Nat → Nat → Int32} {S S' : Nat → List Int32} {F F' : Nat → Int32} {h : AH} {N : Nat → Nat} {L : Nat → List Int32}
theorem kd600 {a : Nat} (ha : a < 60) : kdM (600 + a) = (3, 0, 64) := by
  unfold kdM
  rw [if_neg (by omega), if_neg (by omega), if_neg (by omega), if_neg (by omega), if_neg (by omega), if_neg (by omega), if_neg (by omega), if_neg (by omega), if_neg (by omega), if_neg (by omega), if_neg (by omega), if_neg (by omega), if_neg (by omega), if_neg (by omega), if_neg (by omega), if_neg (by omega), if_neg (by omega), if_neg (by omega), if_neg (by omega), if_neg (by omega), if_pos (by omega)]
/-- nothing that the state lives on has changed, but for the blinds of asking a -/
def BFr (R R' : Nat → Nat) (I I' : Nat → Nat → Int32) (S S' : Nat → List Int32) (F F' : Nat → Int32) (a : Nat) : Prop :=
  (∀ j, relR j → R' j = R j) ∧ (∀ j, relI j → j ≠ 600 + a → I' j = I j) ∧ (∀ j, relS j → S' j = S j) ∧ (∀ j, relF j → F' j = F j)
theorem relR_t {j : Nat} (h : relR j) : tScr j = false := by
  unfold relR at h
  simp only [tScr, Bool.or_eq_false_iff, beq_eq_false_iff_ne, ne_eq]
  omega
theorem relR_m8 {j : Nat} (h : relR j) : mScr 8 j = false := by
  unfold relR at h
  simp only [mScr, Bool.or_eq_false_iff, beq_eq_false_iff_ne, ne_eq]
  omega
theorem relS_h {j : Nat} (h : relS j) : hKm j = false := by
  unfold relS at h
  simp only [hKm, hK, Bool.or_eq_false_iff, beq_eq_false_iff_ne, ne_eq]
  omega
theorem relS_r {j : Nat} (h : relS j) : rK j = false := by
  unfold relS at h
  simp only [rK, hK, Bool.or_eq_false_iff, beq_eq_false_iff_ne, ne_eq]
  omega
theorem mO74 : mO A F 74 = Ar 8 60 (fun j => some (A (600 + j))) := rfl
set_option maxHeartbeats 4000000 in
theorem blindsOne_ok (g : GX) (w : MW A X R I S F h) (mb : MB R F) {T inp : List Int32} {a : Nat} (hT : S 81 = T) (hTl : 112 ≤ T.length) (ha : a < 60) (h75 : F 75 = nI a) (h73l : (S 73).length = 5880) (h73B : IsB (S 73)) (hinp : sub (S 73) (98 * a) 98 = inp) :
    MT g MX10_blindsOne ({ frames := 9, cells := 0, slots := 0, locals := 208 } : Room) [.ref (A 96), .int (nI (98 * a))] h (RI fun r h' => ∃ R' I' S' F', MW A X R' I' S' F' h' ∧ BFr R R' I I' S S' F F' a ∧
      ((r = 0 ∧ ¬ (0 < num T 64 48 ∧ num T 64 48 < qP ∧ h2p inp ≠ none ∧ mP (num T 64 48) (h2p inp) ≠ none)) ∨
       (r = 1 ∧ (0 < num T 64 48 ∧ num T 64 48 < qP ∧ h2p inp ≠ none ∧ mP (num T 64 48) (h2p inp) ≠ none) ∧ V 12 (I' (600 + a)) = num T 64 48 ∧ F' 408 = 0 ∧ spt R' F' 8 = mP (num T 64 48) (h2p inp)))) := by
  refine MT.of (by decide) (Nat.le_of_ble_eq_true rfl) ?_
  obtain ⟨f81, c81, p81, -⟩ := w.s 81 rfl
  obtain ⟨f57, c57, -⟩ := w.n2 57 rfl
  rw [hT] at p81
  obtain ⟨m1, m2, m3, m4, -, -, m7⟩ := mb
  generalize hPost : (RI fun r h' => ∃ R' I' S' F', MW A X R' I' S' F' h' ∧ BFr R R' I I' S S' F F' a ∧ ((r = 0 ∧ ¬ (0 < num T 64 48 ∧ num T 64 48 < qP ∧ h2p inp ≠ none ∧ mP (num T 64 48) (h2p inp) ≠ none)) ∨ (r = 1 ∧ (0 < num T 64 48 ∧ num T 64 48 < qP ∧ h2p inp ≠ none ∧ mP (num T 64 48) (h2p inp) ≠ none) ∧ V 12 (I' (600 + a)) = num T 64 48 ∧ F' 408 = 0 ∧ spt R' F' 8 = mP (num T 64 48) (h2p inp)))) = Post
  have no : ∀ R' I' S' F' h', MW A X R' I' S' F' h' → BFr R R' I I' S S' F F' a → ¬ (0 < num T 64 48 ∧ num T 64 48 < qP ∧ h2p inp ≠ none ∧ mP (num T 64 48) (h2p inp) ≠ none) → Post (.returned (some (.int 0))) h' := by
    intro R' I' S' F' h' w' b' c'
    subst hPost
    exact ⟨0, rfl, R', I', S', F', w', b', Or.inl ⟨rfl, c'⟩⟩
  have ba : vp_in (nI a) 60 := vp_in_nI ha (by decide)
  have ca : (nI a).toNatClampNeg = a := nI_clamp (by omega)
  have hk6 := kd600 ha
  refine X_aload_n (pc := 0) 0 dX10_blindsOne_0 rfl rfl ?_
  refine X_getfield (pc := 1) dX10_blindsOne_1 fg_X10_534_11 (MW.ob w) mf_81 ?_
  refine X_bipush (pc := 4) (x := 64) dX10_blindsOne_4 (by decide) ?_
  refine X_bipush (pc := 6) (x := 48) dX10_blindsOne_6 (by decide) ?_
  refine X_aload_n (pc := 8) 0 dX10_blindsOne_8 rfl rfl ?_
  refine X_getfield (pc := 9) dX10_blindsOne_9 fg_X10_437_11 (MW.ob w) mf_57 ?_
  refine X_bipush (pc := 12) (x := 12) dX10_blindsOne_12 (by decide) ?_
  refine X_isv (pc := 14) _ dX10_blindsOne_14 cs_X10_217 rfl (load_ok g (fr := 64) (many := 48) (n := 12) c81 c57 (by decide) (by decide) (by decide) (by decide) (by decide)) nX10_load (Nat.le_of_ble_eq_true rfl) (Nat.le_of_ble_eq_true rfl) (Nat.le_of_ble_eq_true rfl) (Nat.le_of_ble_eq_true rfl) (fun h1 q1 => ?_)
  obtain ⟨f1, hv, -, rfl⟩ := q1
  have w1 := w.setN2 57 rfl hv
  generalize hset h (A 57) (Ai false 0 12 f1) = h1 at *
  have hvn : bsm f81 (64 + 48) 48 = num T 64 48 := bsm_cg fun q hq => p81 _ (by omega)
  rw [hvn] at w1
  generalize hb : num T 64 48 = b at *
  have o57 : OpM A h1 (A 57) 12 b := by have := OpM.n2 w1 57 rfl; rwa [up_same] at this
  have fr1 : BFr R (up R 57 b) I I S S F F a := ⟨fun j hj => up_ne (by unfold relR at hj; omega), fun _ _ _ => rfl, fun _ _ => rfl, fun _ _ => rfl⟩
  refine X_aload_n (pc := 17) 0 dX10_blindsOne_17 rfl rfl ?_
  refine X_getfield (pc := 18) dX10_blindsOne_18 fg_X10_437_11 (MW.ob w1) mf_57 ?_
  refine X_isi (pc := 21) _ dX10_blindsOne_21 cs_X10_622 rfl (isSec_ok g w1 o57) nX10_isSecret (Nat.le_of_ble_eq_true rfl) (Nat.le_of_ble_eq_true rfl) (Nat.le_of_ble_eq_true rfl) (Nat.le_of_ble_eq_true rfl) (fun r2 h2 q2 => ?_)
  obtain ⟨rfl, rfl⟩ := q2
  by_cases c2 : b ≠ 0 ∧ b < qP
  rotate_left
  · rw [if_neg c2]
    refine X_if_ne (pc := 24) 29 dX10_blindsOne_24 (by decide) (fun z => absurd rfl z) (fun _ => ?_)
    refine X_iconst (pc := 27) (x := 0) dX10_blindsOne_27 (by decide) ?_
    refine X_zreturn (pc := 28) dX10_blindsOne_28 rfl (by first | exact Or.inl rfl | exact Or.inr rfl | assumption | exact zo_if) (Nat.le_of_ble_eq_true rfl) (Nat.le_of_ble_eq_true rfl) ?_
    exact no _ _ _ _ _ w1 fr1 (fun z => c2 ⟨by omega, z.2.1⟩)
  rw [if_pos c2]
  refine X_if_ne (pc := 24) 29 dX10_blindsOne_24 (by decide) (fun _ => ?_) (fun z => absurd z (by decide))
  refine X_aload_n (pc := 29) 0 dX10_blindsOne_29 rfl rfl ?_
  refine X_getfield (pc := 30) dX10_blindsOne_30 fg_X10_437_11 (MW.ob w1) mf_57 ?_
  refine X_aload_n (pc := 33) 0 dX10_blindsOne_33 rfl rfl ?_
  refine X_getfield (pc := 34) dX10_blindsOne_34 fg_X10_525_11 (MW.ob w1) mf_74 ?_
  refine X_aload_n (pc := 37) 0 dX10_blindsOne_37 rfl rfl ?_
  refine X_getfield (pc := 38) dX10_blindsOne_38 fg_X10_640_11 (MW.ob w1) mf_75 ?_
  rw [h75]
  refine X_aaloadA (pc := 41) dX10_blindsOne_41 (w1.o 74 rfl) ba ?_
  rw [ca]
  refine XX.eqst (st' := [.ref (A (600 + a)), .ref (A 57)]) rfl ?_
  refine X_bipush (pc := 42) (x := 12) dX10_blindsOne_42 (by decide) ?_
  refine X_isv (pc := 44) _ dX10_blindsOne_44 cs_X10_91 rfl (mcpI g w1 (600 + a) hk6 (n := 12) (by decide) o57) nX10_copy (Nat.le_of_ble_eq_true rfl) (Nat.le_of_ble_eq_true rfl) (Nat.le_of_ble_eq_true rfl) (Nat.le_of_ble_eq_true rfl) (fun h3 q3 => ?_)
  obtain ⟨fs, hfs, -, w3⟩ := q3
  have rc : ∀ j, relR j → (up R 57 b) j = R j := fr1.1
  unfold relR at rc
  refine X_aload_n (pc := 47) 0 dX10_blindsOne_47 rfl rfl ?_
  refine X_aload_n (pc := 48) 0 dX10_blindsOne_48 rfl rfl ?_
  refine X_getfield (pc := 49) dX10_blindsOne_49 fg_X10_522_11 (MW.ob w3) mf_73 ?_
  refine X_iload_n (pc := 52) 1 dX10_blindsOne_52 rfl rfl ?_
  refine X_bipush (pc := 53) (x := 98) dX10_blindsOne_53 (by decide) ?_
  refine X_aload_n (pc := 55) 0 dX10_blindsOne_55 rfl rfl ?_
  refine X_getfield (pc := 56) dX10_blindsOne_56 fg_X10_564_11 (MW.ob w3) mf_93 ?_
  refine X_ivv (pc := 59) _ dX10_blindsOne_59 cv_X10_650_11 (MW.ob w3) rfl (toPoint_ok g w3 (kb := 73) (nb := 5880) (at' := 98 * a) rfl (by decide) (by decide) h73B (by omega) (by rw [rc 16 (by omega)]; exact m1) (by rw [rc 44 (by omega)]; exact m2) (by rw [rc 45 (by omega)]; exact m3) (by rw [rc 45 (by omega)]; exact m4)) nX10_toPoint (Nat.le_of_ble_eq_true rfl) (Nat.le_of_ble_eq_true rfl) (Nat.le_of_ble_eq_true rfl) (Nat.le_of_ble_eq_true rfl) (fun h4 q4 => ?_)
  obtain ⟨R4, S4, F4, w4, fR4, fS4, f264, fF4, z4, sp4⟩ := q4
  rw [hinp] at sp4
  have fr4 : BFr R R4 I (up I (600 + a) fs) S S4 F F4 a := by
    refine ⟨fun j hj => ?_, fun j _ hj => up_ne hj, fun j hj => fS4 j (relS_h hj), fun j hj => ?_⟩
    · rw [fR4 j (relR_t hj)]; exact fr1.1 j hj
    · by_cases e : j = 26
      · subst e; rw [f264, m7]
      · unfold relF at hj
        exact fF4 j e (by omega) (by omega) (by omega) (by omega)
  have f754 : F4 75 = nI a := by rw [fr4.2.2.2 75 (by unfold relF; omega)]; exact h75
  have on4 : OnP (spt R4 F4 8) := by rw [sp4]; exact h2p_on inp
  refine X_aload_n (pc := 62) 0 dX10_blindsOne_62 rfl rfl ?_
  refine X_getfield (pc := 63) dX10_blindsOne_63 fg_X10_564_11 (MW.ob w4) mf_93 ?_
  refine X_getfield (pc := 66) dX10_blindsOne_66 fg_X10_136_13 (w4.sp 8 (by decide)) (by first | rfl | assumption) ?_
  by_cases c3 : F4 (400 + 8) = 0
  rotate_left
  · refine X_if_eq (pc := 69) 74 dX10_blindsOne_69 (by decide) (fun z => absurd z c3) (fun _ => ?_)
    refine X_iconst (pc := 72) (x := 0) dX10_blindsOne_72 (by decide) ?_
    refine X_zreturn (pc := 73) dX10_blindsOne_73 rfl (by first | exact Or.inl rfl | exact Or.inr rfl | assumption | exact zo_if) (Nat.le_of_ble_eq_true rfl) (Nat.le_of_ble_eq_true rfl) ?_
    exact no _ _ _ _ _ w4 fr4 (fun z => z.2.2.1 (sp4.symm.trans (spt_no c3)))
  refine X_if_eq (pc := 69) 74 dX10_blindsOne_69 (by decide) (fun _ => ?_) (fun z => absurd c3 z)
  have hP : h2p inp ≠ none := by rw [← sp4]; exact spt_so c3
  refine X_aload_n (pc := 74) 0 dX10_blindsOne_74 rfl rfl ?_
  refine X_aload_n (pc := 75) 0 dX10_blindsOne_75 rfl rfl ?_
  refine X_getfield (pc := 76) dX10_blindsOne_76 fg_X10_525_11 (MW.ob w4) mf_74 ?_
  refine X_aload_n (pc := 79) 0 dX10_blindsOne_79 rfl rfl ?_
  refine X_getfield (pc := 80) dX10_blindsOne_80 fg_X10_640_11 (MW.ob w4) mf_75 ?_
  rw [f754]
  refine X_aaloadA (pc := 83) dX10_blindsOne_83 (w4.o 74 rfl) ba ?_
  rw [ca]
  refine XX.eqst (st' := [.ref (A (600 + a)), .ref (A 96)]) rfl ?_
  refine X_aload_n (pc := 84) 0 dX10_blindsOne_84 rfl rfl ?_
  refine X_getfield (pc := 85) dX10_blindsOne_85 fg_X10_564_11 (MW.ob w4) mf_93 ?_
  refine X_aload_n (pc := 88) 0 dX10_blindsOne_88 rfl rfl ?_
  refine X_getfield (pc := 89) dX10_blindsOne_89 fg_X10_564_11 (MW.ob w4) mf_93 ?_
  refine X_ivv (pc := 92) _ dX10_blindsOne_92 cv_X10_446_11 (MW.ob w4) rfl (mul_ok g w4 (sa := 8) (t := 8) (ak := A (600 + a)) (kv := b) (by decide) (by decide) (w4.lt (k := 208) rfl) z4 on4 (Nat.lt_trans c2.2 qP_2) (fun {R2 F2 h2} w2 _ => by have := OpM.i w2 (600 + a) hk6 (n := 12) (by decide) (by decide); rwa [up_same, hfs] at this)) nX10_multiply (Nat.le_of_ble_eq_true rfl) (Nat.le_of_ble_eq_true rfl) (Nat.le_of_ble_eq_true rfl) (Nat.le_of_ble_eq_true rfl) (fun h5 q5 => ?_)
  obtain ⟨R5, F5, w5, fR5, fF5, z5, -, sp5, -⟩ := q5
  rw [sp4] at sp5
  have fr5 : BFr R R5 I (up I (600 + a) fs) S S4 F F5 a := by
    refine ⟨fun j hj => ?_, fr4.2.1, fr4.2.2.1, fun j hj => ?_⟩
    · rw [fR5 j (relR_m8 hj)]; exact fr4.1 j hj
    · have := fr4.2.2.2 j hj
      unfold relF at hj
      rw [fF5 j (by omega) (by omega)]
      exact this
  refine X_aload_n (pc := 95) 0 dX10_blindsOne_95 rfl rfl ?_
  refine X_getfield (pc := 96) dX10_blindsOne_96 fg_X10_564_11 (MW.ob w5) mf_93 ?_
  refine X_getfield (pc := 99) dX10_blindsOne_99 fg_X10_136_13 (w5.sp 8 (by decide)) (by first | rfl | assumption) ?_
  by_cases c5 : F5 (400 + 8) = 0
  · refine X_if_ne (pc := 102) 109 dX10_blindsOne_102 (by decide) (fun z => absurd c5 z) (fun _ => ?_)
    refine X_iconst (pc := 105) (x := 1) dX10_blindsOne_105 (by decide) ?_
    refine X_goto (pc := 106) 110 dX10_blindsOne_106 (by decide) ?_
    refine X_zreturn (pc := 110) dX10_blindsOne_110 rfl (by first | exact Or.inl rfl | exact Or.inr rfl | assumption | exact zo_if) (Nat.le_of_ble_eq_true rfl) (Nat.le_of_ble_eq_true rfl) ?_
    subst hPost
    exact ⟨1, rfl, R5, _, S4, F5, w5, fr5, Or.inr ⟨rfl, ⟨by omega, c2.2, hP, by rw [← sp5]; exact spt_so c5⟩, by rw [up_same]; exact hfs, c5, sp5⟩⟩
  · refine X_if_ne (pc := 102) 109 dX10_blindsOne_102 (by decide) (fun _ => ?_) (fun z => absurd z c5)
    refine X_iconst (pc := 109) (x := 0) dX10_blindsOne_109 (by decide) ?_
    refine X_zreturn (pc := 110) dX10_blindsOne_110 rfl (by first | exact Or.inl rfl | exact Or.inr rfl | assumption | exact zo_if) (Nat.le_of_ble_eq_true rfl) (Nat.le_of_ble_eq_true rfl) ?_
    exact no _ _ _ _ _ w5 fr5 (fun z => z.2.2.2 (sp5.symm.trans (spt_no c5)))
/-- sizes of a modulus of a key -/
theorem esz_ge {m len : Nat} (h1 : 66 ≤ len) (h2 : 256 ^ (len - 1) ≤ m) (h3 : m < 256 ^ len) : len - 1 ≤ esz (bitsN m) ∧ esz (bitsN m) ≤ len := by
  have e1 : (256 : Nat) ^ (len - 1) = 2 ^ (8 * (len - 1)) := by rw [show (256 : Nat) = 2 ^ 8 from rfl, ← Nat.pow_mul]
  have e2 : (256 : Nat) ^ len = 2 ^ (8 * len) := by rw [show (256 : Nat) = 2 ^ 8 from rfl, ← Nat.pow_mul]
  rw [e1] at h2
  rw [e2] at h3
  have hm0 : m ≠ 0 := fun z => by rw [z] at h2; exact absurd h2 (Nat.not_le.mpr (Nat.two_pow_pos _))
  have h5 := (Nat.le_log2 hm0).mpr h2
  have h6 := (Nat.log2_lt hm0).mpr h3
  unfold esz bitsN
  omega
theorem KOk.two' {k : Nat} (ko : KOk N L k) (h : N (100 + k) ≠ 1) : 1 < N (130 + k) ∧ N (130 + k) % 2 = 1 ∧ 0 < N (120 + k) ∧ N (120 + k) < N (130 + k) ∧ esz (bitsN (N (130 + k))) = dbN N k + 49 ∧ N (160 + k) + 1 ≤ dbN N k ∧ dbN N k + 49 ≤ N (150 + k) ∧ N (160 + k) ≤ 48 ∧ N (130 + k) < 256 ^ N (150 + k) := by
  rcases ko.2.2.2 with z | z
  · exact absurd z.1 h
  · obtain ⟨t, a, b, c, d, e, f, f2, f3, f4, f5⟩ := z
    have := esz_ge d f f2
    have hd : dbN N k = esz (bitsN (N (130 + k))) - 49 := rfl
    refine ⟨?_, c, a, b, by omega, by omega, by omega, by omega, f2⟩
    have hp : 1 < 256 ^ (N (150 + k) - 1) := Nat.one_lt_pow (by omega) (by decide)
    omega
set_option maxHeartbeats 8000000 in
theorem blindsTwo_ok (g : GX) (wf : Wf N L) (w : MW A X R I S F h) (ms : MS N L R I (up S 81 []) F) {T inp : List Int32} {a k : Nat} (hk : k < N 0) (ht : N (100 + k) ≠ 1) (hT : S 81 = T) (hTB : IsB T) (hTl : T.length = 64 + (N (160 + k) + N (150 + k))) (ha : a < 60) (h75 : F 75 = nI a) (h73l : (S 73).length = 5880) (h73B : IsB (S 73)) (hinp : sub (S 73) (98 * a) 98 = inp) :
    MT g MX10_blindsTwo ({ frames := 6, cells := 0, slots := 0, locals := 161 } : Room) [.ref (A 96), .int (nI k), .int (nI (98 * a))] h (RI fun r h' => ∃ R' I' S' F', MW A X R' I' S' F' h' ∧ BFr R R' I I' S S' F F' a ∧
      ((r = 0 ∧ ¬ (0 < num T (64 + N (160 + k)) (N (150 + k)) ∧ num T (64 + N (160 + k)) (N (150 + k)) < N (130 + k) ∧ Nat.gcd (num T (64 + N (160 + k)) (N (150 + k))) (N (130 + k)) = 1 ∧ emN N k inp (sub T 64 (N (160 + k))) < N (130 + k) ∧ Nat.gcd (emN N k inp (sub T 64 (N (160 + k)))) (N (130 + k)) = 1)) ∨
       (r = 1 ∧ (0 < num T (64 + N (160 + k)) (N (150 + k)) ∧ num T (64 + N (160 + k)) (N (150 + k)) < N (130 + k) ∧ Nat.gcd (num T (64 + N (160 + k)) (N (150 + k))) (N (130 + k)) = 1 ∧ emN N k inp (sub T 64 (N (160 + k))) < N (130 + k) ∧ Nat.gcd (emN N k inp (sub T 64 (N (160 + k)))) (N (130 + k)) = 1) ∧
        V (limN N k) (I' (600 + a)) = num T (64 + N (160 + k)) (N (150 + k)) ∧ V (limN N k) (I' 89) = num T (64 + N (160 + k)) (N (150 + k)) ^ N (140 + k) * emN N k inp (sub T 64 (N (160 + k))) % N (130 + k)))) := by
  refine MT.of (by decide) (Nat.le_of_ble_eq_true rfl) ?_
  obtain ⟨f81, c81, p81, -⟩ := w.s 81 rfl
  rw [hT] at p81
  have hk6 : k < 6 := Nat.lt_of_lt_of_le hk wf.1
  have ko := wf.kk hk
  have km := ms.kk hk
  obtain ⟨t2, l1, l2, hlim, e1, e2, hs48⟩ := ko.two ht
  obtain ⟨hm1, hmo, hd0, hdm, hesz, hdb, hdb2, hs2, -⟩ := ko.two' ht
  obtain ⟨sh, hsh, mo, f542, f552, hbt, i67, i69, -⟩ := km.2.2.2.2.2 t2
  have i68 : I 68 k = nI (N (150 + k)) := km.2.2.2.1
  have h26 : F 26 = 0 := ms.1.2.2.2.2.2.2
  have hV := mo.V hk6
  have ha6 := kd600 ha
  have bk : vp_in (nI k) 6 := vp_in_nI hk6 (by decide)
  have ck : (nI k).toNatClampNeg = k := nI_clamp (by omega)
  have ba : vp_in (nI a) 60 := vp_in_nI ha (by decide)
  have ca : (nI a).toNatClampNeg = a := nI_clamp (by omega)
  have hn : 0 < limN N k ∧ limN N k ≤ 64 ∧ N (150 + k) ≤ 4 * limN N k := by omega
  have k510 := (kd_m (j := 2 + k) (by omega) (by omega)).2.1
  generalize hnn : limN N k = n at *
  generalize hr : num T (64 + N (160 + k)) (N (150 + k)) = r at *
  generalize hem : emN N k inp (sub T 64 (N (160 + k))) = em at *
  generalize hPost : (RI fun q h' => ∃ R' I' S' F', MW A X R' I' S' F' h' ∧ BFr R R' I I' S S' F F' a ∧ ((q = 0 ∧ ¬ (0 < r ∧ r < N (130 + k) ∧ Nat.gcd r (N (130 + k)) = 1 ∧ em < N (130 + k) ∧ Nat.gcd em (N (130 + k)) = 1)) ∨ (q = 1 ∧ (0 < r ∧ r < N (130 + k) ∧ Nat.gcd r (N (130 + k)) = 1 ∧ em < N (130 + k) ∧ Nat.gcd em (N (130 + k)) = 1) ∧ V n (I' (600 + a)) = r ∧ V n (I' 89) = r ^ N (140 + k) * em % N (130 + k)))) = Post
  have no : ∀ R' I' S' F' h', MW A X R' I' S' F' h' → BFr R R' I I' S S' F F' a → ¬ (0 < r ∧ r < N (130 + k) ∧ Nat.gcd r (N (130 + k)) = 1 ∧ em < N (130 + k) ∧ Nat.gcd em (N (130 + k)) = 1) → Post (.returned (some (.int 0))) h' := by
    intro R' I' S' F' h' w' b' c'
    subst hPost
    exact ⟨0, rfl, R', I', S', F', w', b', Or.inl ⟨rfl, c'⟩⟩
  have md : ∀ {I' S' F' h'}, MW A X R I' S' F' h' → F' (542 + k) = F (542 + k) → F' (552 + k) = F (552 + k) → h' (A (500 + (2 + k))) = some (Ob 12 [.ref (A (510 + (2 + k))), .ref (A (520 + (2 + k))), .int (nI n), .int (nI sh)]) := by
    intro I' S' F' h' w' a1 a2
    have := w'.md (j := 2 + k) (by omega) (by omega)
    rwa [show 540 + (2 + k) = 542 + k by omega, show 550 + (2 + k) = 552 + k by omega, a1, a2, f542, f552] at this
  have hmd := md w rfl rfl
  have om : ∀ {I' S' F' h'}, MW A X R I' S' F' h' → I' (510 + (2 + k)) = I (510 + (2 + k)) → OpM A h' (A (510 + (2 + k))) n (N (130 + k)) := by
    intro I' S' F' h' w' a1
    have := OpM.i w' (510 + (2 + k)) k510 hn.2.1 (by decide)
    rwa [a1, hV] at this
  have moc : ∀ {I' F'}, (∀ j, 500 ≤ j → j < 600 → I' j = I j) → (∀ j, 500 ≤ j → F' j = F j) → MoS I' F' (2 + k) n (N (130 + k)) := by
    intro I' F' a1 a2
    rcases mo with ⟨z, -, -⟩ | ⟨z, -, -⟩ | ⟨z1, z2, s, z3, z4, z5, z6, z7, z8, z9⟩
    · omega
    · omega
    · exact Or.inr (Or.inr ⟨z1, z2, s, z3, by rw [a2 _ (by omega)]; exact z4, by rw [a2 _ (by omega)]; exact z5, by rw [a1 _ (by omega) (by omega)]; exact z6, by rw [a1 _ (by omega) (by omega)]; exact z7, by rw [a1 _ (by omega) (by omega)]; exact z8, z9⟩)
  refine X_aload_n (pc := 0) 0 dX10_blindsTwo_0 rfl rfl ?_
  refine X_getfield (pc := 1) dX10_blindsTwo_1 fg_X10_503_11 (MW.ob w) mf_66 ?_
  refine X_iload_n (pc := 4) 1 dX10_blindsTwo_4 rfl rfl ?_
  refine X_aaload (pc := 5) dX10_blindsTwo_5 (w.o 66 rfl) (fun _ => rfl) bk ?_
  rw [ck]
  refine XX.eqst (st' := [.ref (A (500 + (2 + k)))]) (by rw [show 500 + (2 + k) = 502 + k by omega]; rfl) ?_
  refine X_astore_n (pc := 6) (L' := [(3, .ref _), (0, .ref _), (1, .int _), (2, .int _)]) dX10_blindsTwo_6 rfl (Nat.le_of_ble_eq_true rfl) rfl ?_
  refine X_aload_n (pc := 7) 1 dX10_blindsTwo_7 rfl rfl ?_
  refine X_getfield (pc := 8) dX10_blindsTwo_8 fg_X10_534_11 (MW.ob w) mf_81 ?_
  refine X_bipush (pc := 11) (x := 64) dX10_blindsTwo_11 (by decide) ?_
  refine X_aload_n (pc := 13) 1 dX10_blindsTwo_13 rfl rfl ?_
  refine X_getfield (pc := 14) dX10_blindsTwo_14 fg_X10_513_11 (MW.ob w) mf_69 ?_
  refine X_iload_n (pc := 17) 2 dX10_blindsTwo_17 rfl rfl ?_
  refine X_iaload (pc := 18) dX10_blindsTwo_18 (w.i 69 rfl) bk ?_
  refine X_iadd (pc := 19) dX10_blindsTwo_19 ?_
  rw [ck, i69, show (64 : Int32) + nI (N (160 + k)) = nI (64 + N (160 + k)) from nI_add 64 _]
  refine X_aload_n (pc := 20) 1 dX10_blindsTwo_20 rfl rfl ?_
  refine X_getfield (pc := 21) dX10_blindsTwo_21 fg_X10_510_11 (MW.ob w) mf_68 ?_
  refine X_iload_n (pc := 24) 2 dX10_blindsTwo_24 rfl rfl ?_
  refine X_iaload (pc := 25) dX10_blindsTwo_25 (w.i 68 rfl) bk ?_
  refine X_aload_n (pc := 26) 1 dX10_blindsTwo_26 rfl rfl ?_
  refine X_getfield (pc := 27) dX10_blindsTwo_27 fg_X10_549_11 (MW.ob w) mf_88 ?_
  refine X_aload_n (pc := 30) 0 dX10_blindsTwo_30 rfl rfl ?_
  refine X_getfield (pc := 31) dX10_blindsTwo_31 fg_X10_13_12 hmd (by first | rfl | assumption) ?_
  rw [ck, i68]
  refine X_isv (pc := 34) _ dX10_blindsTwo_34 cs_X10_217 rfl (load_ok g (fr := 64 + N (160 + k)) (many := N (150 + k)) (n := n) c81 (w.i 88 rfl) (by omega) (by decide) hn.2.1 (by decide) hn.2.2) nX10_load (Nat.le_of_ble_eq_true rfl) (Nat.le_of_ble_eq_true rfl) (Nat.le_of_ble_eq_true rfl) (Nat.le_of_ble_eq_true rfl) (fun h1 q1 => ?_)
  obtain ⟨fr, hfr, -, rfl⟩ := q1
  have hvr : V n fr = r := by rw [hfr, ← hr]; exact bsm_cg fun q hq => p81 _ (by omega)
  have w1 := w.setI 88 rfl fr
  generalize hset h (A 88) (Ai false 0 64 fr) = h1 at *
  have i88 : (up I 88 fr) 88 = fr := up_same _ _ _
  have iot : ∀ j, j ≠ 88 → (up I 88 fr) j = I j := fun j hj => up_ne hj
  generalize up I 88 fr = I1 at *
  have o88 : OpM A h1 (A 88) n r := by have := OpM.i w1 88 rfl hn.2.1 (by decide); rwa [i88, hvr] at this
  have hmd1 := md w1 rfl rfl
  have fr1 : ∀ I', (∀ j, relI j → j ≠ 600 + a → I' j = I j) → ∀ S', (∀ j, relS j → S' j = S j) → ∀ F', (∀ j, relF j → F' j = F j) → BFr R R I I' S S' F F' a := fun I' h1 S' h2 F' h3 => ⟨fun _ _ => rfl, h1, h2, h3⟩
  have b1 : BFr R R I I1 S S F F a := fr1 _ (fun j hj _ => iot j (by unfold relI at hj; omega)) _ (fun _ _ => rfl) _ (fun _ _ => rfl)
  have r85 : ∀ L' I' h', MW A X R I' S F h' → BFr R R I I' S S F F a → ¬ (0 < r ∧ r < N (130 + k) ∧ Nat.gcd r (N (130 + k)) = 1 ∧ em < N (130 + k) ∧ Nat.gcd em (N (130 + k)) = 1) → XX g MX10_blindsTwo ({ frames := 6, cells := 0, slots := 0, locals := 161 } : Room) Post 0 0 85 L' [] h' := by
    intro L' I' h' w' b' hc
    refine X_iconst (pc := 85) (x := 0) dX10_blindsTwo_85 (by decide) ?_
    refine X_zreturn (pc := 86) dX10_blindsTwo_86 rfl (by first | exact Or.inl rfl | exact Or.inr rfl | assumption | exact zo_if) (Nat.le_of_ble_eq_true rfl) (Nat.le_of_ble_eq_true rfl) ?_
    exact no _ _ _ _ _ w' b' hc
  refine X_aload_n (pc := 37) 1 dX10_blindsTwo_37 rfl rfl ?_
  refine X_getfield (pc := 38) dX10_blindsTwo_38 fg_X10_549_11 (MW.ob w1) mf_88 ?_
  refine X_aload_n (pc := 41) 0 dX10_blindsTwo_41 rfl rfl ?_
  refine X_getfield (pc := 42) dX10_blindsTwo_42 fg_X10_13_12 hmd1 (by first | rfl | assumption) ?_
  refine X_isi (pc := 45) _ dX10_blindsTwo_45 cs_X10_122 rfl (mzW g o88) nX10_isZero (Nat.le_of_ble_eq_true rfl) (Nat.le_of_ble_eq_true rfl) (Nat.le_of_ble_eq_true rfl) (Nat.le_of_ble_eq_true rfl) (fun r2 h2 q2 => ?_)
  obtain ⟨rfl, rfl⟩ := q2
  by_cases e0 : r = 0
  · rw [if_pos e0]
    exact X_if_ne (pc := 48) 85 dX10_blindsTwo_48 (by decide) (fun _ => r85 _ _ _ w1 b1 (fun z => by omega)) (fun z => absurd z (by decide))
  rw [if_neg e0]
  refine X_if_ne (pc := 48) 85 dX10_blindsTwo_48 (by decide) (fun z => absurd rfl z) (fun _ => ?_)
  refine X_aload_n (pc := 51) 1 dX10_blindsTwo_51 rfl rfl ?_
  refine X_getfield (pc := 52) dX10_blindsTwo_52 fg_X10_549_11 (MW.ob w1) mf_88 ?_
  refine X_aload_n (pc := 55) 0 dX10_blindsTwo_55 rfl rfl ?_
  refine X_getfield (pc := 56) dX10_blindsTwo_56 fg_X10_22_12 hmd1 (by first | rfl | assumption) ?_
  refine X_aload_n (pc := 59) 0 dX10_blindsTwo_59 rfl rfl ?_
  refine X_getfield (pc := 60) dX10_blindsTwo_60 fg_X10_13_12 hmd1 (by first | rfl | assumption) ?_
  refine X_isi (pc := 63) _ dX10_blindsTwo_63 cs_X10_26 rfl (mcW g o88 (om w1 (iot _ (by omega)))) nX10_compare (Nat.le_of_ble_eq_true rfl) (Nat.le_of_ble_eq_true rfl) (Nat.le_of_ble_eq_true rfl) (Nat.le_of_ble_eq_true rfl) (fun r3 h3 q3 => ?_)
  obtain ⟨rfl, rfl⟩ := q3
  by_cases e3 : r < N (130 + k)
  rotate_left
  · exact X_if_ge (pc := 66) 85 dX10_blindsTwo_66 (by decide) (fun _ => r85 _ _ _ w1 b1 (fun z => e3 z.2.1)) (fun z => absurd (cmpN_lt0.mp (Int32.not_le.mp z)) e3)
  refine X_if_ge (pc := 66) 85 dX10_blindsTwo_66 (by decide) (fun z => absurd (cmpN_lt0.mpr e3) (Int32.not_lt.mpr z)) (fun _ => ?_)
  refine X_aload_n (pc := 69) 1 dX10_blindsTwo_69 rfl rfl ?_
  refine X_aload_n (pc := 70) 0 dX10_blindsTwo_70 rfl rfl ?_
  refine X_aload_n (pc := 71) 1 dX10_blindsTwo_71 rfl rfl ?_
  refine X_getfield (pc := 72) dX10_blindsTwo_72 fg_X10_549_11 (MW.ob w1) mf_88 ?_
  refine X_aload_n (pc := 75) 1 dX10_blindsTwo_75 rfl rfl ?_
  refine X_getfield (pc := 76) dX10_blindsTwo_76 fg_X10_555_11 (MW.ob w1) mf_90 ?_
  refine X_ivi (pc := 79) _ dX10_blindsTwo_79 cv_X10_161_11 (MW.ob w1) rfl (miI g w1 (moc (fun j a1 a2 => iot j (by omega)) (fun _ _ => rfl)) hn.2.1 hmo hm1 90 rfl o88) nX10_inverse (Nat.le_of_ble_eq_true rfl) (Nat.le_of_ble_eq_true rfl) (Nat.le_of_ble_eq_true rfl) (Nat.le_of_ble_eq_true rfl) (fun r4 h4 q4 => ?_)
  obtain ⟨rfl, fi, -, -, w4⟩ := q4
  have j88 : (up I1 90 fi) 88 = fr := by rw [up_ne (by decide)]; exact i88
  have jot : ∀ j, j ≠ 88 → j ≠ 90 → (up I1 90 fi) j = I j := fun j a1 a2 => by rw [up_ne a2]; exact iot j a1
  generalize up I1 90 fi = I4 at *
  have b4 : BFr R R I I4 S S F F a := fr1 _ (fun j hj _ => jot j (by unfold relI at hj; omega) (by unfold relI at hj; omega)) _ (fun _ _ => rfl) _ (fun _ _ => rfl)
  by_cases e4 : Nat.gcd r (N (130 + k)) = 1
  rotate_left
  · rw [if_neg e4]
    exact X_if_ne (pc := 82) 87 dX10_blindsTwo_82 (by decide) (fun z => absurd rfl z) (fun _ => r85 _ _ _ w4 b4 (fun z => e4 z.2.2.1))
  rw [if_pos e4]
  refine X_if_ne (pc := 82) 87 dX10_blindsTwo_82 (by decide) (fun _ => ?_) (fun z => absurd z (by decide))
  have o88' : OpM A h4 (A 88) n r := by have := OpM.i w4 88 rfl hn.2.1 (by decide); rwa [j88, hvr] at this
  have hmd4 := md w4 rfl rfl
  refine X_aload_n (pc := 87) 1 dX10_blindsTwo_87 rfl rfl ?_
  refine X_getfield (pc := 88) dX10_blindsTwo_88 fg_X10_549_11 (MW.ob w4) mf_88 ?_
  refine X_aload_n (pc := 91) 1 dX10_blindsTwo_91 rfl rfl ?_
  refine X_getfield (pc := 92) dX10_blindsTwo_92 fg_X10_525_11 (MW.ob w4) mf_74 ?_
  refine X_aload_n (pc := 95) 1 dX10_blindsTwo_95 rfl rfl ?_
  refine X_getfield (pc := 96) dX10_blindsTwo_96 fg_X10_640_11 (MW.ob w4) mf_75 ?_
  rw [h75]
  refine X_aaloadA (pc := 99) dX10_blindsTwo_99 (w4.o 74 rfl) ba ?_
  rw [ca]
  refine XX.eqst (st' := [.ref (A (600 + a)), .ref (A 88)]) rfl ?_
  refine X_aload_n (pc := 100) 0 dX10_blindsTwo_100 rfl rfl ?_
  refine X_getfield (pc := 101) dX10_blindsTwo_101 fg_X10_13_12 hmd4 (by first | rfl | assumption) ?_
  refine X_isv (pc := 104) _ dX10_blindsTwo_104 cs_X10_91 rfl (mcpI g w4 (600 + a) ha6 (n := n) hn.2.1 o88') nX10_copy (Nat.le_of_ble_eq_true rfl) (Nat.le_of_ble_eq_true rfl) (Nat.le_of_ble_eq_true rfl) (Nat.le_of_ble_eq_true rfl) (fun h5 q5 => ?_)
  obtain ⟨fb, hfb, -, w5⟩ := q5
  have k6 : (up I4 (600 + a) fb) (600 + a) = fb := up_same _ _ _
  have kot : ∀ j, j ≠ 88 → j ≠ 90 → j ≠ 600 + a → (up I4 (600 + a) fb) j = I j := fun j a1 a2 a3 => by rw [up_ne a3]; exact jot j a1 a2
  generalize up I4 (600 + a) fb = I5 at *
  refine X_aload_n (pc := 107) 1 dX10_blindsTwo_107 rfl rfl ?_
  refine X_iload_n (pc := 108) 2 dX10_blindsTwo_108 rfl rfl ?_
  refine X_aload_n (pc := 109) 1 dX10_blindsTwo_109 rfl rfl ?_
  refine X_getfield (pc := 110) dX10_blindsTwo_110 fg_X10_522_11 (MW.ob w5) mf_73 ?_
  refine X_iload_n (pc := 113) 3 dX10_blindsTwo_113 rfl rfl ?_
  refine X_aload_n (pc := 114) 1 dX10_blindsTwo_114 rfl rfl ?_
  refine X_getfield (pc := 115) dX10_blindsTwo_115 fg_X10_534_11 (MW.ob w5) mf_81 ?_
  refine X_bipush (pc := 118) (x := 64) dX10_blindsTwo_118 (by decide) ?_
  refine X_aload_n (pc := 120) 1 dX10_blindsTwo_120 rfl rfl ?_
  refine X_getfield (pc := 121) dX10_blindsTwo_121 fg_X10_549_11 (MW.ob w5) mf_88 ?_
  refine X_ivv (pc := 124) _ dX10_blindsTwo_124 cv_X10_654_11 (MW.ob w5) rfl (encodes_ok g w5 (key := k) (n := n) (sh := sh) (s := N (160 + k)) (ki := 73) (fr := 98 * a) (ks := 81) (at' := 64) (db := dbN N k) hk6 f542 f552 ⟨hn.1, hn.2.1⟩ hsh (by rw [kot 69 (by decide) (by decide) (by omega)]; exact i69) hs2 (by rw [hbt]; exact hesz) hdb (by omega) rfl (by decide) rfl h73B (by omega) rfl (by decide) rfl (by rw [hT]; exact hTB) (by rw [hT]; omega)) nX10_encodes (Nat.le_of_ble_eq_true rfl) (Nat.le_of_ble_eq_true rfl) (Nat.le_of_ble_eq_true rfl) (Nat.le_of_ble_eq_true rfl) (fun h6 q6 => ?_)
  obtain ⟨S6, fe, w6, fS6, hve⟩ := q6
  rw [hinp, hT, hbt] at hve
  have hem2 : V n fe = em := by
    rw [hve, ← hem]
    unfold emN num
    rw [Nat.zero_add]
  have l88 : (up I5 88 fe) 88 = fe := up_same _ _ _
  have l6 : (up I5 88 fe) (600 + a) = fb := by rw [up_ne (by omega)]; exact k6
  have lot : ∀ j, j ≠ 88 → j ≠ 90 → j ≠ 600 + a → (up I5 88 fe) j = I j := fun j a1 a2 a3 => by rw [up_ne a1]; exact kot j a1 a2 a3
  generalize up I5 88 fe = I6 at *
  have hF6 : ∀ j, relF j → (up F 26 0) j = F j := fun j hj => by
    by_cases e : j = 26
    · subst e; rw [up_same, h26]
    · exact up_ne e
  have hmd6 := md w6 (up_ne (by omega)) (up_ne (by omega))
  have o88e : OpM A h6 (A 88) n em := by have := OpM.i w6 88 rfl hn.2.1 (by decide); rwa [l88, hem2] at this
  have b6 : BFr R R I I6 S S6 F (up F 26 0) a := fr1 _ (fun j hj a3 => lot j (by unfold relI at hj; omega) (by unfold relI at hj; omega) a3) _ (fun j hj => fS6 j (relS_r hj)) _ hF6
  have f756 : (up F 26 0) 75 = nI a := by rw [up_ne (by decide)]; exact h75
  have r161 : ∀ L' I' h', MW A X R I' S6 (up F 26 0) h' → BFr R R I I' S S6 F (up F 26 0) a → ¬ (0 < r ∧ r < N (130 + k) ∧ Nat.gcd r (N (130 + k)) = 1 ∧ em < N (130 + k) ∧ Nat.gcd em (N (130 + k)) = 1) → XX g MX10_blindsTwo ({ frames := 6, cells := 0, slots := 0, locals := 161 } : Room) Post 0 0 161 L' [] h' := by
    intro L' I' h' w' b' hc
    refine X_iconst (pc := 161) (x := 0) dX10_blindsTwo_161 (by decide) ?_
    refine X_zreturn (pc := 162) dX10_blindsTwo_162 rfl (by first | exact Or.inl rfl | exact Or.inr rfl | assumption | exact zo_if) (Nat.le_of_ble_eq_true rfl) (Nat.le_of_ble_eq_true rfl) ?_
    exact no _ _ _ _ _ w' b' hc
  have mo6 := moc (I' := I6) (F' := up F 26 0) (fun j a1 a2 => lot j (by omega) (by omega) (by omega)) (fun j a1 => up_ne (by omega))
  refine X_aload_n (pc := 127) 1 dX10_blindsTwo_127 rfl rfl ?_
  refine X_getfield (pc := 128) dX10_blindsTwo_128 fg_X10_549_11 (MW.ob w6) mf_88 ?_
  refine X_aload_n (pc := 131) 0 dX10_blindsTwo_131 rfl rfl ?_
  refine X_getfield (pc := 132) dX10_blindsTwo_132 fg_X10_22_12 hmd6 (by first | rfl | assumption) ?_
  refine X_aload_n (pc := 135) 0 dX10_blindsTwo_135 rfl rfl ?_
  refine X_getfield (pc := 136) dX10_blindsTwo_136 fg_X10_13_12 hmd6 (by first | rfl | assumption) ?_
  refine X_isi (pc := 139) _ dX10_blindsTwo_139 cs_X10_26 rfl (mcW g o88e (om w6 (lot _ (by omega) (by omega) (by omega)))) nX10_compare (Nat.le_of_ble_eq_true rfl) (Nat.le_of_ble_eq_true rfl) (Nat.le_of_ble_eq_true rfl) (Nat.le_of_ble_eq_true rfl) (fun r7 h7 q7 => ?_)
  obtain ⟨rfl, rfl⟩ := q7
  by_cases e7 : em < N (130 + k)
  rotate_left
  · exact X_if_ge (pc := 142) 161 dX10_blindsTwo_142 (by decide) (fun _ => r161 _ _ _ w6 b6 (fun z => e7 z.2.2.2.1)) (fun z => absurd (cmpN_lt0.mp (Int32.not_le.mp z)) e7)
  refine X_if_ge (pc := 142) 161 dX10_blindsTwo_142 (by decide) (fun z => absurd (cmpN_lt0.mpr e7) (Int32.not_lt.mpr z)) (fun _ => ?_)
  refine X_aload_n (pc := 145) 1 dX10_blindsTwo_145 rfl rfl ?_
  refine X_aload_n (pc := 146) 0 dX10_blindsTwo_146 rfl rfl ?_
  refine X_aload_n (pc := 147) 1 dX10_blindsTwo_147 rfl rfl ?_
  refine X_getfield (pc := 148) dX10_blindsTwo_148 fg_X10_549_11 (MW.ob w6) mf_88 ?_
  refine X_aload_n (pc := 151) 1 dX10_blindsTwo_151 rfl rfl ?_
  refine X_getfield (pc := 152) dX10_blindsTwo_152 fg_X10_555_11 (MW.ob w6) mf_90 ?_
  refine X_ivi (pc := 155) _ dX10_blindsTwo_155 cv_X10_161_11 (MW.ob w6) rfl (miI g w6 mo6 hn.2.1 hmo hm1 90 rfl o88e) nX10_inverse (Nat.le_of_ble_eq_true rfl) (Nat.le_of_ble_eq_true rfl) (Nat.le_of_ble_eq_true rfl) (Nat.le_of_ble_eq_true rfl) (fun r8 h8 q8 => ?_)
  obtain ⟨rfl, fi8, -, -, w8⟩ := q8
  have m88 : (up I6 90 fi8) 88 = fe := by rw [up_ne (by decide)]; exact l88
  have m6 : (up I6 90 fi8) (600 + a) = fb := by rw [up_ne (by omega)]; exact l6
  have mot : ∀ j, j ≠ 88 → j ≠ 90 → j ≠ 600 + a → (up I6 90 fi8) j = I j := fun j a1 a2 a3 => by rw [up_ne a2]; exact lot j a1 a2 a3
  generalize up I6 90 fi8 = I8 at *
  have b8' : BFr R R I I8 S S6 F (up F 26 0) a := fr1 _ (fun j hj a3 => mot j (by unfold relI at hj; omega) (by unfold relI at hj; omega) a3) _ (fun j hj => fS6 j (relS_r hj)) _ hF6
  by_cases e8 : Nat.gcd em (N (130 + k)) = 1
  rotate_left
  · rw [if_neg e8]
    exact X_if_ne (pc := 158) 163 dX10_blindsTwo_158 (by decide) (fun z => absurd rfl z) (fun _ => r161 _ _ _ w8 b8' (fun z => e8 z.2.2.2.2))
  rw [if_pos e8]
  refine X_if_ne (pc := 158) 163 dX10_blindsTwo_158 (by decide) (fun _ => ?_) (fun z => absurd z (by decide))
  have o6 : OpM A h8 (A (600 + a)) n r := by have := OpM.i w8 (600 + a) ha6 hn.2.1 (by decide); rwa [m6, hfb] at this
  have a91 : A (600 + a) ≠ A 91 := w8.ne (by rw [ha6]; decide) (by decide) (by omega)
  have mo8 := moc (I' := I8) (F' := up F 26 0) (fun j a1 a2 => mot j (by omega) (by omega) (by omega)) (fun j a1 => up_ne (by omega))
  refine X_aload_n (pc := 163) 1 dX10_blindsTwo_163 rfl rfl ?_
  refine X_iload_n (pc := 164) 2 dX10_blindsTwo_164 rfl rfl ?_
  refine X_aload_n (pc := 165) 1 dX10_blindsTwo_165 rfl rfl ?_
  refine X_getfield (pc := 166) dX10_blindsTwo_166 fg_X10_525_11 (MW.ob w8) mf_74 ?_
  refine X_aload_n (pc := 169) 1 dX10_blindsTwo_169 rfl rfl ?_
  refine X_getfield (pc := 170) dX10_blindsTwo_170 fg_X10_640_11 (MW.ob w8) mf_75 ?_
  rw [f756]
  refine X_aaloadA (pc := 173) dX10_blindsTwo_173 (w8.o 74 rfl) ba ?_
  rw [ca]
  refine XX.eqst (st' := [.ref (A (600 + a)), .int (nI k), .ref (A 96)]) rfl ?_
  refine X_aload_n (pc := 174) 1 dX10_blindsTwo_174 rfl rfl ?_
  refine X_getfield (pc := 175) dX10_blindsTwo_175 fg_X10_552_11 (MW.ob w8) mf_89 ?_
  refine X_ivv (pc := 178) _ dX10_blindsTwo_178 cv_X10_602_11 (MW.ob w8) rfl (byE_ok g w8 (k := 89) hk6 mo8 hm1 ⟨hn.1, hn.2.1⟩ o6 a91 (by rw [mot 67 (by decide) (by decide) (by omega)]; exact i67) (by omega) rfl) nX10_byE (Nat.le_of_ble_eq_true rfl) (Nat.le_of_ble_eq_true rfl) (Nat.le_of_ble_eq_true rfl) (Nat.le_of_ble_eq_true rfl) (fun h9 q9 => ?_)
  obtain ⟨f9, hv9, w9⟩ := q9
  have o89 : OpM A h9 (A 89) n (r ^ N (140 + k) % N (130 + k)) := by have := OpM.i w9 89 rfl hn.2.1 (by decide); rwa [up_same, hv9] at this
  have o88f : OpM A h9 (A 88) n em := by have := OpM.i w9 88 rfl hn.2.1 (by decide); rwa [up_ne (by decide), m88, hem2] at this
  have mo9 := moc (I' := up I8 89 f9) (F' := up F 26 0) (fun j a1 a2 => by rw [up_ne (by omega)]; exact mot j (by omega) (by omega) (by omega)) (fun j a1 => up_ne (by omega))
  refine X_aload_n (pc := 181) 1 dX10_blindsTwo_181 rfl rfl ?_
  refine X_aload_n (pc := 182) 0 dX10_blindsTwo_182 rfl rfl ?_
  refine X_aload_n (pc := 183) 1 dX10_blindsTwo_183 rfl rfl ?_
  refine X_getfield (pc := 184) dX10_blindsTwo_184 fg_X10_552_11 (MW.ob w9) mf_89 ?_
  refine X_aload_n (pc := 187) 1 dX10_blindsTwo_187 rfl rfl ?_
  refine X_getfield (pc := 188) dX10_blindsTwo_188 fg_X10_549_11 (MW.ob w9) mf_88 ?_
  refine X_aload_n (pc := 191) 1 dX10_blindsTwo_191 rfl rfl ?_
  refine X_getfield (pc := 192) dX10_blindsTwo_192 fg_X10_552_11 (MW.ob w9) mf_89 ?_
  refine X_ivv (pc := 195) _ dX10_blindsTwo_195 cv_X10_102_11 (MW.ob w9) rfl (mtI g w9 mo9 hn.2.1 89 rfl o89 o88f) nX10_times (Nat.le_of_ble_eq_true rfl) (Nat.le_of_ble_eq_true rfl) (Nat.le_of_ble_eq_true rfl) (Nat.le_of_ble_eq_true rfl) (fun h10 q10 => ?_)
  obtain ⟨f10, hv10, w10⟩ := q10
  refine X_iconst (pc := 198) (x := 1) dX10_blindsTwo_198 (by decide) ?_
  refine X_zreturn (pc := 199) dX10_blindsTwo_199 rfl (by first | exact Or.inl rfl | exact Or.inr rfl | assumption | exact zo_if) (Nat.le_of_ble_eq_true rfl) (Nat.le_of_ble_eq_true rfl) ?_
  subst hPost
  refine ⟨1, rfl, R, _, S6, _, w10, fr1 _ (fun j hj a3 => ?_) _ (fun j hj => fS6 j (relS_r hj)) _ hF6, Or.inr ⟨rfl, ⟨by omega, e3, e4, e7, e8⟩, ?_, ?_⟩⟩
  · unfold relI at hj
    rw [up_ne (by omega), up_ne (by omega)]
    exact mot j (by omega) (by omega) a3
  · rw [up_ne (by omega), up_ne (by omega), m6]
    exact hfb
  · rw [up_same, hv10, Nat.mod_mul_mod]
end MBd
