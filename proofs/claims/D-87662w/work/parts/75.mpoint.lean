set_option maxRecDepth 100000
/-! the reference: numbers and points of a message -/
def sub (l : List Int32) (fr n : Nat) : List Int32 := (List.range n).map fun j => l.getD (fr + j) 0
theorem sub_len (l : List Int32) (fr n : Nat) : (sub l fr n).length = n := by unfold sub; rw [List.length_map, List.length_range]
theorem sub_B {l : List Int32} (h : IsB l) (fr n : Nat) : IsB (sub l fr n) := fun x hx => by
  unfold sub at hx
  obtain ⟨a, -, rfl⟩ := List.mem_map.mp hx
  exact h.at' _
def hs0 : List Nat := chars "HashToScalar-"
def hg0 : List Nat := chars "HashToGroup-"
theorem hs0_len : hs0.length = 13 := by decide
theorem hg0_len : hg0.length = 12 := by decide
theorem c7_hs : ∀ j, hs0.getD j 0 < 128 := c7_all (by decide)
theorem c7_hg : ∀ j, hg0.getD j 0 < 128 := c7_all (by decide)
/-- 72 bytes by a modulus -/
def fld (l : List Int32) (fr mv : Nat) : Nat := bsm (fun q => l.getD q 0) (fr + 72) 72 % mv
noncomputable def h2s (msg : List Int32) : Nat := fld (xmd msg 72 (tagB hs0)) 0 qP
noncomputable def h2p (msg : List Int32) : PP := adP (mapS (fp (fld (xmd msg 144 (tagB hg0)) 0 pP))) (mapS (fp (fld (xmd msg 144 (tagB hg0)) 72 pP)))
theorem qP_ltp : qP < pP := by decide +kernel
theorem h2s_lt (msg : List Int32) : h2s msg < qP := Nat.mod_lt _ qP_pos
def HFr (F F' : Nat → Int32) : Prop := F' 26 = 0 ∧ ∀ j, j ≠ 26 → j ≠ 35 → F' j = F j
section MPt
variable {A : Nat → Nat} {X : AH} {R : Nat → Nat} {I : Nat → Nat → Int32} {S : Nat → List Int32} {F : Nat → Int32} {h : AH}
theorem V_qP : V 12 (lim qP) = qP * 2 ^ 0 := by rw [V_lim12 qP_lt, Nat.pow_zero, Nat.mul_one]
theorem V_pP : V 12 (lim pP) = pP * 2 ^ 0 := by rw [V_lim12 pP_lt, Nat.pow_zero, Nat.mul_one]
theorem top_q : 2 ^ 31 ≤ u32 (lim qP (10 + 1)) := by decide +kernel
theorem top_p : 2 ^ 31 ≤ u32 (lim pP (10 + 1)) := by decide +kernel
set_option maxHeartbeats 1000000 in
theorem field_ok (g : GX) (w : MW A X R I S F h) {j k fr mv : Nat} (hj : (j = 0 ∧ mv = pP) ∨ (j = 1 ∧ mv = qP)) {fo : Nat → Int32} (hk : (kdM k).1 ≠ 0) (hk1 : k ≠ 1) (ho : h (A k) = some (Ai false 0 12 fo)) (hfr : fr + 72 ≤ (S 38).length) :
    MT g MX10_field ({ frames := 3, cells := 0, slots := 0, locals := 83 } : Room) [.ref (A 96), .ref (A (500 + j)), .int (nI fr), .ref (A k)] h (RV fun h' => ∃ fw f, V 12 f = fld (S 38) fr mv ∧ h' = hset (hset h (A 1) (Ai false 0 130 fw)) (A k) (Ai false 0 12 f)) := by
  refine MT.of (by decide) (Nat.le_of_ble_eq_true rfl) ?_
  obtain ⟨f38, c38, p38, l38⟩ := w.s 38 rfl
  obtain ⟨fw, c1⟩ := w.j 1 rfl
  have hto : A k ≠ A 1 := w.ne hk (by decide) hk1
  have hb : bsm f38 (fr + 72) 72 = bsm (fun q => (S 38).getD q 0) (fr + 72) 72 := bsm_cg fun q hq => p38 _ (by omega)
  refine X_aload_n (pc := 0) 0 dX10_field_0 rfl rfl ?_
  refine X_getfield (pc := 1) dX10_field_1 fg_X10_349_11 (MW.ob w) mf_38 ?_
  refine X_iload_n (pc := 4) 2 dX10_field_4 rfl rfl ?_
  refine X_bipush (pc := 5) (x := 72) dX10_field_5 (by decide) ?_
  refine X_aload_n (pc := 7) 0 dX10_field_7 rfl rfl ?_
  refine X_getfield (pc := 8) dX10_field_8 fg_X10_36_11 (MW.ob w) mf_1 ?_
  refine X_bipush (pc := 11) (x := 18) dX10_field_11 (by decide) ?_
  refine X_isv (pc := 13) _ dX10_field_13 cs_X10_217 rfl (load_ok g (fr := fr) (many := 72) (n := 18) c38 c1 (by omega) (by decide) (by decide) (by decide) (by decide)) nX10_load (Nat.le_of_ble_eq_true rfl) (Nat.le_of_ble_eq_true rfl) (Nat.le_of_ble_eq_true rfl) (Nat.le_of_ble_eq_true rfl) (fun h1 q1 => ?_)
  obtain ⟨f1, v1, -, rfl⟩ := q1
  have w1 := w.setJ 1 rfl f1
  have ho1 : hset h (A 1) (Ai false 0 130 f1) (A k) = some (Ai false 0 12 fo) := by rw [hset_ne hto]; exact ho
  refine X_aload_n (pc := 16) 0 dX10_field_16 rfl rfl ?_
  refine X_aload_n (pc := 17) 1 dX10_field_17 rfl rfl ?_
  refine X_bipush (pc := 18) (x := 18) dX10_field_18 (by decide) ?_
  refine X_aload_n (pc := 20) 3 dX10_field_20 rfl rfl ?_
  rcases hj with ⟨rfl, rfl⟩ | ⟨rfl, rfl⟩
  · refine X_ivv (pc := 21) _ dX10_field_21 cv_X10_69_11 (MW.ob w1) rfl (mrest_ok g (p := 10) (s := 0) (many := 18) (mv := pP) (MW.ob w1) (w1.o 500 rfl) (w1.o 520 rfl) (hset_self _ _ _) ho1 mf_1 (w.ne (by decide) (by decide) (by decide)) hto (by decide) (by decide) ⟨by decide, by decide⟩ (by decide) (by decide) (by decide) V_pP top_p) nX10_rest (Nat.le_of_ble_eq_true rfl) (Nat.le_of_ble_eq_true rfl) (Nat.le_of_ble_eq_true rfl) (Nat.le_of_ble_eq_true rfl) (fun h2 q2 => ?_)
    obtain ⟨f, fw', -, hv, rfl⟩ := q2
    refine X_return (pc := 24) dX10_field_24 rfl (Nat.le_of_ble_eq_true rfl) (Nat.le_of_ble_eq_true rfl) ?_
    refine ⟨rfl, fw', f, ?_, by rw [hset_hset]⟩
    unfold fld
    rw [hv, v1, hb]
  · refine X_ivv (pc := 21) _ dX10_field_21 cv_X10_69_11 (MW.ob w1) rfl (mrest_ok g (p := 10) (s := 0) (many := 18) (mv := qP) (MW.ob w1) (w1.o 501 rfl) (w1.o 521 rfl) (hset_self _ _ _) ho1 mf_1 (w.ne (by decide) (by decide) (by decide)) hto (by decide) (by decide) ⟨by decide, by decide⟩ (by decide) (by decide) (by decide) V_qP top_q) nX10_rest (Nat.le_of_ble_eq_true rfl) (Nat.le_of_ble_eq_true rfl) (Nat.le_of_ble_eq_true rfl) (Nat.le_of_ble_eq_true rfl) (fun h2 q2 => ?_)
    obtain ⟨f, fw', -, hv, rfl⟩ := q2
    refine X_return (pc := 24) dX10_field_24 rfl (Nat.le_of_ble_eq_true rfl) (Nat.le_of_ble_eq_true rfl) ?_
    refine ⟨rfl, fw', f, ?_, by rw [hset_hset]⟩
    unfold fld
    rw [hv, v1, hb]
theorem toScalar_ok (g : GX) (w : MW A X R I S F h) {k : Nat} (hk : kdM k = (2, 0, 12)) {msg : List Int32} (h32 : S 32 = msg) (h33 : F 33 = nI msg.length) (hB : IsB msg) :
    MT g MX10_toScalar ({ frames := 8, cells := 0, slots := 0, locals := 170 } : Room) [.ref (A 96), .ref (A k)] h (RV fun h' => ∃ S' F', MW A X (up R k (h2s msg)) I S' F' h' ∧ SFr S S' ∧ HFr F F') := by
  refine MT.of (by decide) (Nat.le_of_ble_eq_true rfl) ?_
  have hk0 : (kdM k).1 ≠ 0 := by rw [hk]; decide
  have hk1 : k ≠ 1 := fun e => by subst e; cases hk
  refine X_aload_n (pc := 0) 0 dX10_toScalar_0 rfl rfl ?_
  refine X_ldcwS (pc := 1) (j := 19) dX10_toScalar_1 rfl (fun tx_1 vx_1 ht_1 => ?_)
  refine X_ivv (pc := 4) _ dX10_toScalar_4 cv_X10_354_11 (MW.ob w) rfl (tags_ok g w ht_1 c7_hs (by rw [show (chars "HashToScalar-").length = 13 from hs0_len]; decide)) nX10_tags (Nat.le_of_ble_eq_true rfl) (Nat.le_of_ble_eq_true rfl) (Nat.le_of_ble_eq_true rfl) (Nat.le_of_ble_eq_true rfl) (fun h1 w1 => ?_)
  refine X_aload_n (pc := 7) 0 dX10_toScalar_7 rfl rfl ?_
  refine X_bipush (pc := 8) (x := 72) dX10_toScalar_8 (by decide) ?_
  refine X_ivv (pc := 10) _ dX10_toScalar_10 cv_X10_357_11 (MW.ob w1) rfl (expands_ok g w1 (T := tagB hs0) (msg := msg) (many := 72) (Or.inl rfl) (by rw [up_ne (by decide)]; exact h32) (by rw [up_ne (by decide)]; exact h33) hB (up_same _ _ _) (by rw [up_same, tagB_len]; rfl) (tagB_B _) (by rw [tagB_len, hs0_len]; decide)) nX10_expands (Nat.le_of_ble_eq_true rfl) (Nat.le_of_ble_eq_true rfl) (Nat.le_of_ble_eq_true rfl) (Nat.le_of_ble_eq_true rfl) (fun h2 q2 => ?_)
  obtain ⟨S2, w2', fr2, -, h38⟩ := q2
  have w2 : MW A X R I (up S2 25 []) (up (up F 35 _) 26 (nI 0)) h2 := w2'
  obtain ⟨fo, ho, -⟩ := w2.n2 k hk
  refine X_aload_n (pc := 13) 0 dX10_toScalar_13 rfl rfl ?_
  refine X_aload_n (pc := 14) 0 dX10_toScalar_14 rfl rfl ?_
  refine X_getfield (pc := 15) dX10_toScalar_15 fg_X10_360_11 (MW.ob w2) mf_10 ?_
  refine X_iconst (pc := 18) (x := 0) dX10_toScalar_18 (by decide) ?_
  refine X_aload_n (pc := 19) 1 dX10_toScalar_19 rfl rfl ?_
  refine X_ivv (pc := 20) _ dX10_toScalar_20 cv_X10_363_11 (MW.ob w2) rfl (field_ok g w2 (j := 1) (mv := qP) (fr := 0) (Or.inr ⟨rfl, rfl⟩) hk0 hk1 ho (by rw [up_ne (by decide), h38, xmd_len]; decide)) nX10_field (Nat.le_of_ble_eq_true rfl) (Nat.le_of_ble_eq_true rfl) (Nat.le_of_ble_eq_true rfl) (Nat.le_of_ble_eq_true rfl) (fun h3 q3 => ?_)
  obtain ⟨fw, f, hv, rfl⟩ := q3
  rw [up_ne (by decide), h38] at hv
  refine X_return (pc := 23) dX10_toScalar_23 rfl (Nat.le_of_ble_eq_true rfl) (Nat.le_of_ble_eq_true rfl) ?_
  refine ⟨rfl, _, _, (w2.setJ 1 rfl fw).setN2 k hk hv, ?_, ?_⟩
  · refine SFr.up ?_ rfl _
    intro j hj
    rw [fr2 j hj, up_ne (fun e => by subst e; cases hj)]
  · exact ⟨up_same _ _ _, fun j h1 h2 => by rw [up_ne h1, up_ne h2]⟩
def tScr (j : Nat) : Bool := j == 13 || j == 14 || j == 15 || j == 24 || j == 40 || j == 41 || j == 42 || j == 43 || j == 46 || j == 47 || j == 202 || j == 302 || j == 208 || j == 308
theorem tScr_ne {j k : Nat} (h : tScr j = false) (hk : tScr k = true) : j ≠ k := fun e => by rw [e, hk] at h; cases h
theorem tScr_p2 {j : Nat} (h : tScr j = false) : pScr 2 j = false := by
  unfold tScr at h
  unfold pScr
  simp only [Bool.or_eq_false_iff] at h ⊢
  simp [h]
theorem tScr_p8 {j : Nat} (h : tScr j = false) : pScr 8 j = false := by
  unfold tScr at h
  unfold pScr
  simp only [Bool.or_eq_false_iff] at h ⊢
  simp [h]
theorem tScr_j8 {j : Nat} (h : tScr j = false) : jScr 8 j = false := by
  unfold tScr at h
  unfold jScr
  simp only [Bool.or_eq_false_iff] at h ⊢
  simp [h]
/-- what a message's point may change -/
def hKm (j : Nat) : Bool := hK j || j == 32
def TPost (A : Nat → Nat) (X : AH) (R : Nat → Nat) (I : Nat → Nat → Int32) (S : Nat → List Int32) (F : Nat → Int32) (msg : List Int32) (h' : AH) : Prop :=
  ∃ R' S' F', MW A X R' I S' F' h' ∧ (∀ j, tScr j = false → R' j = R j) ∧ (∀ j, hKm j = false → S' j = S j) ∧ F' 26 = 0 ∧ (∀ j, j ≠ 26 → j ≠ 35 → j ≠ 33 → j ≠ 402 → j ≠ 408 → F' j = F j) ∧ (F' 408 = 0 ∨ F' 408 = 1) ∧ spt R' F' 8 = h2p msg
set_option maxHeartbeats 4000000 in
theorem toPoint_ok (g : GX) (w : MW A X R I S F h) {kb nb at' : Nat} (hkb : kdM kb = (6, 2, nb)) (hnb : nb < 2 ^ 31) (hkn : kb ≠ 32) (hB : IsB (S kb)) (hat : at' + 98 ≤ (S kb).length) (h16 : R 16 = eP) (h44 : fp (R 44) = -3) (h45 : fp (R 45) = zP) (h45' : fp (R 45) = -12) :
    MT g MX10_toPoint ({ frames := 8, cells := 0, slots := 0, locals := 183 } : Room) [.ref (A 96), .ref (A kb), .int (nI at'), .int (nI 98), .ref (A 408)] h (RV (TPost A X R I S F (sub (S kb) at' 98))) := by
  refine MT.of (by decide) (Nat.le_of_ble_eq_true rfl) ?_
  generalize hPost : RV (TPost A X R I S F (sub (S kb) at' 98)) = Post
  have hsd : sub (S kb) at' 98 = (List.range 98).map fun j => (S kb).getD (at' + j) 0 := rfl
  have hml := sub_len (S kb) at' 98
  have hmB := sub_B hB at' 98
  have loop : ∀ m i, i + m = 98 → ∀ h', MW A X R I (up S 32 ((List.range i).map fun j => (S kb).getD (at' + j) 0)) F h' →
      XX g MX10_toPoint ({ frames := 8, cells := 0, slots := 0, locals := 183 } : Room) Post 0 0 3 [(5, .int (nI i)), (0, .ref (A 96)), (1, .ref (A kb)), (2, .int (nI at')), (3, .int (nI 98)), (4, .ref (A 408))] [] h' := by
    intro m
    induction m with
    | zero =>
      intro i hi h' w'
      have e : i = 98 := by omega
      subst e
      rw [← hsd] at w'
      generalize hmsg : sub (S kb) at' 98 = msg at *
      refine X_iload (pc := 3) 0 dX10_toPoint_3 rfl ?_
      refine X_iload_n (pc := 5) 4 dX10_toPoint_5 rfl rfl ?_
      refine X_cge (a := 98) (b := 98) (pc := 6) 28 dX10_toPoint_6 (by decide) (by omega) (by omega) (fun _ => ?_) (fun c => absurd c (by omega))
      refine X_aload_n (pc := 28) 1 dX10_toPoint_28 rfl rfl ?_
      refine X_iload_n (pc := 29) 4 dX10_toPoint_29 rfl rfl ?_
      refine X_putfield (pc := 30) dX10_toPoint_30 fp_X10_331_11 (fun e => by cases e) (MW.ob w') rfl rfl (Nat.le_of_ble_eq_true rfl) ?_
      have w1 := w'.setF33 (v := nI 98)
      generalize hset h' (A 96) (Ob 11 ((mFl A F).set 33 (.int (nI 98)))) = h1 at *
      refine X_aload_n (pc := 33) 1 dX10_toPoint_33 rfl rfl ?_
      refine X_ldcwS (pc := 34) (j := 14) dX10_toPoint_34 rfl (fun tx_34 vx_34 ht_34 => ?_)
      refine X_ivv (pc := 37) _ dX10_toPoint_37 cv_X10_354_11 (MW.ob w1) rfl (tags_ok g w1 ht_34 c7_hg (by rw [show (chars "HashToGroup-").length = 12 from hg0_len]; decide)) nX10_tags (Nat.le_of_ble_eq_true rfl) (Nat.le_of_ble_eq_true rfl) (Nat.le_of_ble_eq_true rfl) (Nat.le_of_ble_eq_true rfl) (fun h2 w2 => ?_)
      refine X_aload_n (pc := 40) 1 dX10_toPoint_40 rfl rfl ?_
      refine X_sipush (pc := 41) (x := 144) dX10_toPoint_41 (by decide) ?_
      refine X_ivv (pc := 44) _ dX10_toPoint_44 cv_X10_357_11 (MW.ob w2) rfl (expands_ok g w2 (T := tagB hg0) (msg := msg) (many := 144) (Or.inr rfl) (by rw [up_ne (by decide), up_same]) (by rw [up_ne (by decide), up_same, hml]) hmB (up_same _ _ _) (by rw [up_same, tagB_len]; rfl) (tagB_B _) (by rw [tagB_len, hg0_len]; decide)) nX10_expands (Nat.le_of_ble_eq_true rfl) (Nat.le_of_ble_eq_true rfl) (Nat.le_of_ble_eq_true rfl) (Nat.le_of_ble_eq_true rfl) (fun h3 q3 => ?_)
      obtain ⟨S3, w3', fr3, -, h38⟩ := q3
      have w3 : MW A X R I (up S3 25 []) (up (up (up F 33 (nI 98)) 35 _) 26 (nI 0)) h3 := w3'
      generalize hS4 : up S3 25 [] = S4 at *
      have s38 : S4 38 = xmd msg 144 (tagB hg0) := by rw [← hS4, up_ne (by decide)]; exact h38
      have fS : ∀ j, hKm j = false → S4 j = S j := fun j hj => by
        have hj1 : hK j = false := (Bool.or_eq_false_iff.mp hj).1
        have hj2 : j ≠ 32 := fun e => by subst e; cases hj
        have hj3 : j ≠ 25 := fun e => by subst e; cases hj
        have hj4 : j ≠ 34 := fun e => by subst e; cases hj
        rw [← hS4, up_ne hj3, fr3 j hj1, up_ne hj4, up_ne hj2]
      have fF : ∀ j, j ≠ 26 → j ≠ 35 → j ≠ 33 → (up (up (up F 33 (nI 98)) 35 (nI (List.length (chars "HashToGroup-") + 20))) 26 (nI 0)) j = F j := fun j a1 a2 a3 => by rw [up_ne a1, up_ne a2, up_ne a3]
      have fF26 : (up (up (up F 33 (nI 98)) 35 (nI (List.length (chars "HashToGroup-") + 20))) 26 (nI 0)) 26 = 0 := up_same _ _ _
      generalize up (up (up F 33 (nI 98)) 35 (nI (List.length (chars "HashToGroup-") + 20))) 26 (nI 0) = F4 at *
      obtain ⟨fo, ho, -⟩ := w3.n 46 rfl
      refine X_aload_n (pc := 47) 1 dX10_toPoint_47 rfl rfl ?_
      refine X_aload_n (pc := 48) 1 dX10_toPoint_48 rfl rfl ?_
      refine X_getfield (pc := 49) dX10_toPoint_49 fg_X10_61_11 (MW.ob w3) mf_9 ?_
      refine X_iconst (pc := 52) (x := 0) dX10_toPoint_52 (by decide) ?_
      refine X_aload_n (pc := 53) 1 dX10_toPoint_53 rfl rfl ?_
      refine X_getfield (pc := 54) dX10_toPoint_54 fg_X10_385_11 (MW.ob w3) mf_46 ?_
      refine X_ivv (pc := 57) _ dX10_toPoint_57 cv_X10_363_11 (MW.ob w3) rfl (field_ok g w3 (j := 0) (k := 46) (mv := pP) (fr := 0) (Or.inl ⟨rfl, rfl⟩) (by decide) (by decide) ho (by rw [s38, xmd_len]; decide)) nX10_field (Nat.le_of_ble_eq_true rfl) (Nat.le_of_ble_eq_true rfl) (Nat.le_of_ble_eq_true rfl) (Nat.le_of_ble_eq_true rfl) (fun h4 q4 => ?_)
      obtain ⟨fw, f, hv, rfl⟩ := q4
      rw [s38] at hv
      have w4 := (w3.setJ 1 rfl fw).setN 46 rfl hv (Nat.mod_lt _ pP_pos)
      generalize hset (hset h3 (A 1) (Ai false 0 130 fw)) (A 46) (Ai false 0 12 f) = h4 at *
      obtain ⟨fo2, ho2, -⟩ := w4.n 47 rfl
      refine X_aload_n (pc := 60) 1 dX10_toPoint_60 rfl rfl ?_
      refine X_aload_n (pc := 61) 1 dX10_toPoint_61 rfl rfl ?_
      refine X_getfield (pc := 62) dX10_toPoint_62 fg_X10_61_11 (MW.ob w4) mf_9 ?_
      refine X_bipush (pc := 65) (x := 72) dX10_toPoint_65 (by decide) ?_
      refine X_aload_n (pc := 67) 1 dX10_toPoint_67 rfl rfl ?_
      refine X_getfield (pc := 68) dX10_toPoint_68 fg_X10_388_11 (MW.ob w4) mf_47 ?_
      refine X_ivv (pc := 71) _ dX10_toPoint_71 cv_X10_363_11 (MW.ob w4) rfl (field_ok g w4 (j := 0) (k := 47) (mv := pP) (fr := 72) (Or.inl ⟨rfl, rfl⟩) (by decide) (by decide) ho2 (by rw [s38, xmd_len]; decide)) nX10_field (Nat.le_of_ble_eq_true rfl) (Nat.le_of_ble_eq_true rfl) (Nat.le_of_ble_eq_true rfl) (Nat.le_of_ble_eq_true rfl) (fun h5 q5 => ?_)
      obtain ⟨fw2, f2, hv2, rfl⟩ := q5
      rw [s38] at hv2
      have w5' := (w4.setJ 1 rfl fw2).setN 47 rfl hv2 (Nat.mod_lt _ pP_pos)
      generalize hset (hset h4 (A 1) (Ai false 0 130 fw2)) (A 47) (Ai false 0 12 f2) = h5 at *
      generalize hx1 : fld (xmd msg 144 (tagB hg0)) 0 pP = x1 at *
      generalize hx2 : fld (xmd msg 144 (tagB hg0)) 72 pP = x2 at *
      have k46 : (up (up R 46 x1) 47 x2) 46 = x1 := by rw [up_ne (by decide), up_same]
      have k47 : (up (up R 46 x1) 47 x2) 47 = x2 := up_same _ _ _
      have kR : ∀ j, tScr j = false → (up (up R 46 x1) 47 x2) j = R j := fun j hj => by rw [up_ne (tScr_ne hj rfl), up_ne (tScr_ne hj rfl)]
      generalize up (up R 46 x1) 47 x2 = R5 at *
      refine X_aload_n (pc := 74) 1 dX10_toPoint_74 rfl rfl ?_
      refine X_aload_n (pc := 75) 1 dX10_toPoint_75 rfl rfl ?_
      refine X_getfield (pc := 76) dX10_toPoint_76 fg_X10_385_11 (MW.ob w5') mf_46 ?_
      refine X_aload_n (pc := 79) 1 dX10_toPoint_79 rfl rfl ?_
      refine X_getfield (pc := 80) dX10_toPoint_80 fg_X10_391_11 (MW.ob w5') mf_39 ?_
      refine X_ivv (pc := 83) _ dX10_toPoint_83 cv_X10_394_11 (MW.ob w5') rfl (map_ok g w5' (k := 46) (t := 2) rfl (by decide) (by rw [kR 16 rfl]; exact h16) (by rw [kR 44 rfl]; exact h44) (by rw [kR 45 rfl]; exact h45) (by rw [kR 45 rfl]; exact h45')) nX10_map (Nat.le_of_ble_eq_true rfl) (Nat.le_of_ble_eq_true rfl) (Nat.le_of_ble_eq_true rfl) (Nat.le_of_ble_eq_true rfl) (fun h6 q6 => ?_)
      obtain ⟨R6, w6, fr6, sp6, lt6⟩ := q6
      rw [k46] at sp6
      refine X_aload_n (pc := 86) 1 dX10_toPoint_86 rfl rfl ?_
      refine X_aload_n (pc := 87) 1 dX10_toPoint_87 rfl rfl ?_
      refine X_getfield (pc := 88) dX10_toPoint_88 fg_X10_388_11 (MW.ob w6) mf_47 ?_
      refine X_aload (pc := 91) 5 dX10_toPoint_91 rfl ?_
      refine X_ivv (pc := 93) _ dX10_toPoint_93 cv_X10_394_11 (MW.ob w6) rfl (map_ok g w6 (k := 47) (t := 8) rfl (by decide) (by rw [fr6 16 rfl, kR 16 rfl]; exact h16) (by rw [fr6 44 rfl, kR 44 rfl]; exact h44) (by rw [fr6 45 rfl, kR 45 rfl]; exact h45) (by rw [fr6 45 rfl, kR 45 rfl]; exact h45')) nX10_map (Nat.le_of_ble_eq_true rfl) (Nat.le_of_ble_eq_true rfl) (Nat.le_of_ble_eq_true rfl) (Nat.le_of_ble_eq_true rfl) (fun h7 q7 => ?_)
      obtain ⟨R7, w7, fr7, sp7, lt7⟩ := q7
      rw [fr6 47 rfl, k47] at sp7
      have sp2 : spt R7 (up (up F4 402 0) 408 0) 2 = mapS (fp x1) := by
        rw [← sp6]
        unfold spt
        rw [fr7 202 rfl, fr7 302 rfl, up_ne (show 400 + 2 ≠ 408 by decide)]
      refine X_aload_n (pc := 96) 1 dX10_toPoint_96 rfl rfl ?_
      refine X_aload_n (pc := 97) 1 dX10_toPoint_97 rfl rfl ?_
      refine X_getfield (pc := 98) dX10_toPoint_98 fg_X10_391_11 (MW.ob w7) mf_39 ?_
      refine X_aload (pc := 101) 5 dX10_toPoint_101 rfl ?_
      refine X_aload (pc := 103) 5 dX10_toPoint_103 rfl ?_
      refine X_ivv (pc := 105) _ dX10_toPoint_105 cv_X10_398_11 (MW.ob w7) rfl (join_ok g w7 (sa := 2) (sb := 8) (t := 8) (by decide) (by decide) (by decide) (w7.lt (k := 202) rfl) lt7 lt7 (Or.inl (by rw [up_ne (show 400 + 2 ≠ 408 by decide), up_same])) (Or.inl (up_same _ _ _))) nX10_join (Nat.le_of_ble_eq_true rfl) (Nat.le_of_ble_eq_true rfl) (Nat.le_of_ble_eq_true rfl) (Nat.le_of_ble_eq_true rfl) (fun h8 q8 => ?_)
      obtain ⟨R8, F8, w8, fr8, ff8, z8, sp8, -⟩ := q8
      subst hPost
      refine X_return (pc := 108) dX10_toPoint_108 rfl (Nat.le_of_ble_eq_true rfl) (Nat.le_of_ble_eq_true rfl) ?_
      refine ⟨rfl, R8, S4, F8, w8, fun j hj => ?_, fS, ?_, fun j a1 a2 a3 a4 a5 => ?_, z8, ?_⟩
      · rw [fr8 j (tScr_j8 hj), fr7 j (tScr_p8 hj), fr6 j (tScr_p2 hj), kR j hj]
      · rw [ff8 26 (by decide), up_ne (by decide), up_ne (by decide)]; exact fF26
      · rw [ff8 j a5, up_ne a5, up_ne a4]; exact fF j a1 a2 a3
      · rw [sp8, sp2, sp7]
        unfold h2p
        rw [hx1, hx2]
    | succ m ih =>
      intro i hi h' w'
      have b2 : vp_in (nI i) 700 := vp_in_nI (by omega) (by omega)
      have ci : (nI i).toNatClampNeg = i := nI_clamp (by omega)
      obtain ⟨fb, cb, pb, lb⟩ := w'.s kb hkb
      obtain ⟨f32, c32, p32, l32⟩ := w'.s 32 rfl
      rw [up_ne hkn] at pb lb
      rw [up_same] at p32
      have b1 : vp_in (nI (at' + i)) nb := vp_in_nI (by omega) (by omega)
      have ca : (nI (at' + i)).toNatClampNeg = at' + i := nI_clamp (by omega)
      have hli : ((List.range i).map fun j => (S kb).getD (at' + j) 0).length = i := by rw [List.length_map, List.length_range]
      refine X_iload (pc := 3) 0 dX10_toPoint_3 rfl ?_
      refine X_iload_n (pc := 5) 4 dX10_toPoint_5 rfl rfl ?_
      refine X_cge (b := 98) (pc := 6) 28 dX10_toPoint_6 (by decide) (by omega) (by omega) (fun c => absurd c (by omega)) (fun _ => ?_)
      refine X_aload_n (pc := 9) 1 dX10_toPoint_9 rfl rfl ?_
      refine X_getfield (pc := 10) dX10_toPoint_10 fg_X10_328_11 (MW.ob w') mf_32 ?_
      refine X_iload (pc := 13) 0 dX10_toPoint_13 rfl ?_
      refine X_aload_n (pc := 15) 2 dX10_toPoint_15 rfl rfl ?_
      refine X_iload_n (pc := 16) 3 dX10_toPoint_16 rfl rfl ?_
      refine X_iload (pc := 17) 0 dX10_toPoint_17 rfl ?_
      refine X_iadd (pc := 19) dX10_toPoint_19 ?_
      rw [nI_add]
      refine X_baload (pc := 20) dX10_toPoint_20 cb b1 ?_
      refine X_bastore (pc := 21) dX10_toPoint_21 c32 b2 ?_
      rw [ci, ca, pb _ (by omega), hB.nar]
      have w2 := w'.setS 32 rfl (PL_snoc (x := (S kb).getD (at' + i) 0) p32) (by rw [List.length_append, hli]; exact (show i + 1 ≤ 700 by omega))
      rw [up_up', hli, ← List.map_singleton (f := fun j => (S kb).getD (at' + j) 0), ← List.map_append, ← List.range_succ] at w2
      refine X_iinc (pc := 22) (L' := [(5, .int (_ + 1)), (0, .ref _), (1, .ref _), (2, .int _), (3, .int _), (4, .ref _)]) 0 dX10_toPoint_22 rfl rfl (Nat.le_of_ble_eq_true rfl) rfl ?_
      refine X_goto (pc := 25) 3 dX10_toPoint_25 (by decide) ?_
      rw [show nI i + 1 = nI (i + 1) from nI_add i 1]
      exact ih (i + 1) (by omega) _ w2
  refine X_iconst (pc := 0) (x := 0) dX10_toPoint_0 (by decide) ?_
  refine X_istore (pc := 1) (L' := [(5, .int _), (0, .ref _), (1, .ref _), (2, .int _), (3, .int _), (4, .ref _)]) dX10_toPoint_1 (Nat.le_of_ble_eq_true rfl) rfl ?_
  exact loop 98 0 (by omega) h (w.cutS 32 rfl)
end MPt
