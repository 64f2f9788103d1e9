set_option maxRecDepth 100000
/-! the reference: tokens of type 2 -/
section MFn
variable {A : Nat → Nat} {X : AH} {R R' : Nat → Nat} {I I' : Nat → Nat → Int32} {S S' : Nat → List Int32} {F F' : Nat → Int32} {h : AH} {N : Nat → Nat} {L : Nat → List Int32}
theorem MS.opn (wf : N 0 ≤ 6 ∧ N 1 ≤ 60) (ms : MS N L R I S F) (wfa : ∀ a, a < N 1 → N (200 + a) < N 0) {i : Nat} (hi : i < N 1) (v : Nat) : MS (up N (300 + i) v) L R (up I 72 (upd (I 72) i (nI v))) S F := by
  obtain ⟨mb, a1, a2, a3, a4, a5, a6, a7, a8, a9, b1, b2, b3, b4, b5, b6, b7, c1, c2⟩ := ms
  refine ⟨?_, ?_, ?_, ?_, ?_, ?_, ?_, ?_, ?_, ?_, ?_, ?_, ?_, ?_, ?_, ?_, ?_, fun k hk => ?_, fun a ha => ?_⟩
  · first | exact mb | exact mb.f (by decide)
  · first | exact a1 | (rw [up_ne (by decide)]; exact a1) | (rw [up_ne (by decide), up_ne (by decide)]; exact a1) | (rw [up_ne (by decide), up_ne (by decide), up_ne (by decide)]; exact a1)
  · first | exact a2 | (rw [up_ne (by decide)]; exact a2) | (rw [up_ne (by decide), up_ne (by decide)]; exact a2) | (rw [up_ne (by decide), up_ne (by decide), up_ne (by decide)]; exact a2)
  · first | exact a3 | (rw [up_ne (by decide)]; exact a3) | (rw [up_ne (by decide), up_ne (by decide)]; exact a3) | (rw [up_ne (by decide), up_ne (by decide), up_ne (by decide)]; exact a3)
  · first | exact a4 | (rw [up_ne (by decide)]; exact a4) | (rw [up_ne (by decide), up_ne (by decide)]; exact a4) | (rw [up_ne (by decide), up_ne (by decide), up_ne (by decide)]; exact a4)
  · first | exact a5 | (rw [up_ne (by decide)]; exact a5) | (rw [up_ne (by decide), up_ne (by decide)]; exact a5) | (rw [up_ne (by decide), up_ne (by decide), up_ne (by decide)]; exact a5)
  · first | exact a6 | (rw [up_ne (by decide)]; exact a6) | (rw [up_ne (by decide), up_ne (by decide)]; exact a6) | (rw [up_ne (by decide), up_ne (by decide), up_ne (by decide)]; exact a6)
  · first | exact a7 | (rw [up_ne (by decide)]; exact a7) | (rw [up_ne (by decide), up_ne (by decide)]; exact a7) | (rw [up_ne (by decide), up_ne (by decide), up_ne (by decide)]; exact a7)
  · first | exact a8 | (rw [up_ne (by decide)]; exact a8) | (rw [up_ne (by decide), up_ne (by decide)]; exact a8) | (rw [up_ne (by decide), up_ne (by decide), up_ne (by decide)]; exact a8)
  · first | exact a9 | (rw [up_ne (by decide)]; exact a9) | (rw [up_ne (by decide), up_ne (by decide)]; exact a9) | (rw [up_ne (by decide), up_ne (by decide), up_ne (by decide)]; exact a9)
  · rw [up_ne (by omega)]; exact b1
  · rw [up_ne (by omega)]; exact b2
  · rw [up_ne (by omega)]; exact b3
  · rw [up_ne (by omega)]; exact b4
  · rw [up_ne (by omega)]; exact b5
  · rw [up_ne (by omega)]; exact b6
  · rw [up_ne (by omega)]; exact b7
  · rw [up_ne (by omega)] at hk
    obtain ⟨k1, k2, k3, k4, k5, k6⟩ := c1 k hk
    have e0 : limN (up N (300 + i) v) k = limN N k := by unfold limN; rw [up_ne (by omega), up_ne (by omega)]
    have iI : ∀ j, j ≠ 72 → (up I 72 (upd (I 72) i (nI v))) j = I j := fun j hj => up_ne hj
    refine ⟨by rw [iI _ (by decide), up_ne (by omega)]; exact k1, by rw [iI _ (by decide), up_ne (by omega)]; exact k2, k3, by rw [iI _ (by decide), up_ne (by omega)]; exact k4, fun t => ?_, fun t => ?_⟩
    · rw [up_ne (by omega)] at t
      obtain ⟨p, q, r⟩ := k5 t
      exact ⟨p, by rw [up_ne (by omega)]; exact q, by rw [iI _ (by omega), up_ne (by omega)]; exact r⟩
    · rw [up_ne (by omega)] at t
      obtain ⟨sh, p1, p2, p3, p4, p5, p6, p7, p8⟩ := k6 t
      refine ⟨sh, p1, ?_, by rw [e0]; exact p3, p4, by rw [e0, up_ne (by omega)]; exact p5, by rw [iI _ (by decide), up_ne (by omega)]; exact p6, by rw [iI _ (by decide), up_ne (by omega)]; exact p7, by rw [e0, iI _ (by omega), up_ne (by omega)]; exact p8⟩
      rw [e0, up_ne (by omega)]
      exact p2.i (by decide)
  · rw [up_ne (by omega)] at ha
    have hq := wfa a ha
    have e0 : ∀ q, q < N 0 → limN (up N (300 + i) v) q = limN N q := fun q hq => by unfold limN; rw [up_ne (by omega), up_ne (by omega)]
    obtain ⟨k1, k2, k3, k4⟩ := c2 a ha
    refine ⟨by rw [up_ne (by decide), up_ne (by omega)]; exact k1, ?_, k3, ?_⟩
    · rw [up_same]
      by_cases e : a = i
      · subst e; rw [upd_at, up_same]
      · rw [up_ne (by omega)]; exact (if_neg e).trans k2
    · rw [up_ne (show 200 + a ≠ 300 + i by omega), e0 _ hq, up_ne (by omega), up_ne (by omega)]
      exact k4
def fz0 : List Nat := chars "Finalize"
theorem fz0_len : fz0.length = 8 := by decide
theorem c7_fz : ∀ j, fz0.getD j 0 < 128 := c7_all (by decide)
set_option maxHeartbeats 1000000 in
theorem output_ok (g : GX) (w : MW A X R I S F h) {kb nb fr s : Nat} (hkb : kdM kb = (6, 2, nb)) (hnb : nb < 2 ^ 31) (h25 : kb ≠ 25) (h56 : kb ≠ 56) (hB : IsB (S kb)) (hfr : fr + 98 ≤ (S kb).length) (hs : s < 31) (so : SpO R F s) :
    MT g MX10_output ({ frames := 6, cells := 0, slots := 0, locals := 128 } : Room) [.ref (A 96), .ref (A kb), .int (nI fr), .ref (A (400 + s))] h (RV fun h' => ∃ S', MW A X R I S' (up F 26 0) h' ∧ (∀ j, j ≠ 25 → j ≠ 27 → j ≠ 56 → S' j = S j) ∧ S' 27 = outB (sub (S kb) fr 98) (spt R F s)) := by
  refine MT.of (by decide) (Nat.le_of_ble_eq_true rfl) ?_
  have hen := en_spt so.1 so.2.1 (w.lt (kd_y hs))
  have hod : outB (sub (S kb) fr 98) (spt R F s) = sha384 ([tb 0, tb 98] ++ sub (S kb) fr 98 ++ [tb 0, tb 49] ++ en (spt R F s) ++ wrd (chars "Finalize")) := rfl
  rw [hod, hen]
  have hil := sub_len (S kb) fr 98
  refine X_aload_n (pc := 0) 0 dX10_output_0 rfl rfl ?_
  refine X_iconst (pc := 1) (x := 0) dX10_output_1 (by decide) ?_
  refine X_putfield (pc := 2) dX10_output_2 fp_X10_243_11 (fun e => by cases e) (MW.ob w) rfl rfl (Nat.le_of_ble_eq_true rfl) ?_
  have w1 := w.cut0
  generalize hset h (A 96) (Ob 11 ((mFl A F).set 26 (.int 0))) = h1 at *
  refine X_aload_n (pc := 5) 0 dX10_output_5 rfl rfl ?_
  refine X_bipush (pc := 6) (x := 98) dX10_output_6 (by decide) ?_
  refine X_ivv (pc := 8) _ dX10_output_8 cv_X10_334_11 (MW.ob w1) rfl (both_ok g w1 (n := 98) (by decide) (by decide)) nX10_both (Nat.le_of_ble_eq_true rfl) (Nat.le_of_ble_eq_true rfl) (Nat.le_of_ble_eq_true rfl) (Nat.le_of_ble_eq_true rfl) (fun h2 w2 => ?_)
  have w2 : SW A X R I S F [tb 0, tb 98] h2 := w2
  refine X_aload_n (pc := 11) 0 dX10_output_11 rfl rfl ?_
  refine X_aload_n (pc := 12) 1 dX10_output_12 rfl rfl ?_
  refine X_iload_n (pc := 13) 2 dX10_output_13 rfl rfl ?_
  refine X_bipush (pc := 14) (x := 98) dX10_output_14 (by decide) ?_
  refine X_ivv (pc := 16) _ dX10_output_16 cv_X10_325_11 (MW.ob w2) rfl (saysK g w2 (kb := kb) (at' := fr) (n := 98) hkb hnb h25 hB hfr (by decide)) nX10_say (Nat.le_of_ble_eq_true rfl) (Nat.le_of_ble_eq_true rfl) (Nat.le_of_ble_eq_true rfl) (Nat.le_of_ble_eq_true rfl) (fun h3 w3 => ?_)
  have l3 : ([tb 0, tb 98] ++ sub (S kb) fr 98).length = 100 := by rw [List.length_append, hil]; rfl
  refine X_aload_n (pc := 19) 0 dX10_output_19 rfl rfl ?_
  refine X_bipush (pc := 20) (x := 49) dX10_output_20 (by decide) ?_
  refine X_ivv (pc := 22) _ dX10_output_22 cv_X10_334_11 (MW.ob w3) rfl (both_ok g w3 (n := 49) (by rw [l3]; decide) (by decide)) nX10_both (Nat.le_of_ble_eq_true rfl) (Nat.le_of_ble_eq_true rfl) (Nat.le_of_ble_eq_true rfl) (Nat.le_of_ble_eq_true rfl) (fun h4 w4 => ?_)
  have w4 : SW A X R I S F ([tb 0, tb 98] ++ sub (S kb) fr 98 ++ [tb 0, tb 49]) h4 := w4
  have l4 : ([tb 0, tb 98] ++ sub (S kb) fr 98 ++ [tb 0, tb 49]).length = 102 := by rw [List.length_append, l3]; rfl
  generalize hq4 : [tb 0, tb 98] ++ sub (S kb) fr 98 ++ [tb 0, tb 49] = q4 at *
  have w4' : MW A X R I (up S 25 q4) (up F 26 (nI q4.length)) h4 := w4
  obtain ⟨f56, c56, -, -⟩ := w4'.s 56 rfl
  refine X_aload_n (pc := 25) 3 dX10_output_25 rfl rfl ?_
  refine X_aload_n (pc := 26) 0 dX10_output_26 rfl rfl ?_
  refine X_getfield (pc := 27) dX10_output_27 fg_X10_402_11 (MW.ob w4') mf_56 ?_
  refine X_iconst (pc := 30) (x := 0) dX10_output_30 (by decide) ?_
  refine X_isv (pc := 31) _ dX10_output_31 cs_X10_405 rfl (bytes_ok g w4' (s := s) (at' := 0) hs c56 (by decide) (by decide)) nX10_bytes (Nat.le_of_ble_eq_true rfl) (Nat.le_of_ble_eq_true rfl) (Nat.le_of_ble_eq_true rfl) (Nat.le_of_ble_eq_true rfl) (fun h5 q5 => ?_)
  subst q5
  have w5' := w4'.encS 56 rfl (by decide) (R (200 + s)) (R (300 + s)) (f := f56)
  rw [up_comm _ _ _ (show 25 ≠ 56 by decide)] at w5'
  have hkl := encB_len (R (200 + s)) (R (300 + s))
  have hkB := encB_B (R (200 + s)) (R (300 + s))
  generalize hset h4 (A 56) _ = h5 at *
  generalize encB (R (200 + s)) (R (300 + s)) = ee at *
  have w5 : SW A X R I (up S 56 ee) F q4 h5 := w5'
  refine X_aload_n (pc := 34) 0 dX10_output_34 rfl rfl ?_
  refine X_aload_n (pc := 35) 0 dX10_output_35 rfl rfl ?_
  refine X_getfield (pc := 36) dX10_output_36 fg_X10_402_11 (MW.ob w5') mf_56 ?_
  refine X_iconst (pc := 39) (x := 0) dX10_output_39 (by decide) ?_
  refine X_bipush (pc := 40) (x := 49) dX10_output_40 (by decide) ?_
  refine X_ivv (pc := 42) _ dX10_output_42 cv_X10_325_11 (MW.ob w5) rfl (saysK g w5 (kb := 56) (at' := 0) (n := 49) rfl (by decide) (by decide) (by rw [up_same]; exact hkB) (by rw [up_same, hkl]; decide) (by rw [l4]; decide)) nX10_say (Nat.le_of_ble_eq_true rfl) (Nat.le_of_ble_eq_true rfl) (Nat.le_of_ble_eq_true rfl) (Nat.le_of_ble_eq_true rfl) (fun h6 w6 => ?_)
  rw [up_same, sub_all hkl] at w6
  have l6 : (q4 ++ ee).length = 151 := by rw [List.length_append, l4, hkl]
  refine X_aload_n (pc := 45) 0 dX10_output_45 rfl rfl ?_
  refine X_ldcwS (pc := 46) (j := 21) dX10_output_46 rfl (fun tx_46 vx_46 ht_46 => ?_)
  refine X_ivv (pc := 49) _ dX10_output_49 cv_X10_262_11 (MW.ob w6) rfl (word_ok g w6 ht_46 c7_fz (by rw [l6]; show 151 + fz0.length ≤ 2600; rw [fz0_len]; decide)) nX10_word (Nat.le_of_ble_eq_true rfl) (Nat.le_of_ble_eq_true rfl) (Nat.le_of_ble_eq_true rfl) (Nat.le_of_ble_eq_true rfl) (fun h7 w7 => ?_)
  refine X_aload_n (pc := 52) 0 dX10_output_52 rfl rfl ?_
  refine X_ivv (pc := 53) _ dX10_output_53 cv_X10_340_11 (MW.ob w7) rfl (h3_ok g w7 (by rw [List.length_append, l6, wrd_len]; show 151 + fz0.length + 144 ≤ 2600; rw [fz0_len]; decide)) nX10_h3 (Nat.le_of_ble_eq_true rfl) (Nat.le_of_ble_eq_true rfl) (Nat.le_of_ble_eq_true rfl) (Nat.le_of_ble_eq_true rfl) (fun h8 w8 => ?_)
  refine X_return (pc := 56) dX10_output_56 rfl (Nat.le_of_ble_eq_true rfl) (Nat.le_of_ble_eq_true rfl) ?_
  have w8 : MW A X R I (up (up (up S 56 ee) 27 (sha384 (q4 ++ ee ++ wrd (chars "Finalize")))) 25 []) (up F 26 0) h8 := w8
  exact ⟨rfl, _, w8, fun j a b c => by rw [up_ne a, up_ne b, up_ne c], by rw [up_ne (by decide), up_same]⟩
theorem isAsking_ok (g : GX) (wf : Wf N L) (w : MW A X R I S F h) (h75 : F 75 = nI (N 1)) (hop : ∀ a, a < N 1 → I 72 a = nI (N (300 + a))) (x : Int32) : MT g MX10_isAsking ({ frames := 0, cells := 0, slots := 0, locals := 0 } : Room) [.ref (A 96), .int x] h (RI fun r h' => h' = h ∧ ((r = 1 ∧ ∃ a, x = nI a ∧ isAsk N a) ∨ (r = 0 ∧ ¬ (0 ≤ x ∧ isAsk N x.toNatClampNeg)))) := by
  refine MT.of (by decide) (Nat.le_of_ble_eq_true rfl) ?_
  have h60 := wf.2.1
  have no : ∀ L', ¬ (0 ≤ x ∧ isAsk N x.toNatClampNeg) → XX g MX10_isAsking ({ frames := 0, cells := 0, slots := 0, locals := 0 } : Room) (RI fun r h' => h' = h ∧ ((r = 1 ∧ ∃ a, x = nI a ∧ isAsk N a) ∨ (r = 0 ∧ ¬ (0 ≤ x ∧ isAsk N x.toNatClampNeg)))) 0 0 25 L' [] h := by
    intro L' hc
    refine X_iconst (pc := 25) (x := 0) dX10_isAsking_25 (by decide) ?_
    refine X_zreturn (pc := 26) dX10_isAsking_26 rfl (by first | exact Or.inl rfl | exact Or.inr rfl | assumption | exact zo_if) (Nat.le_of_ble_eq_true rfl) (Nat.le_of_ble_eq_true rfl) ?_
    exact ⟨0, rfl, rfl, Or.inr ⟨rfl, hc⟩⟩
  refine X_iload_n (pc := 0) 1 dX10_isAsking_0 rfl rfl ?_
  by_cases c1 : x < 0
  · exact X_if_lt (pc := 1) 25 dX10_isAsking_1 (by decide) (fun _ => no _ (fun z => absurd c1 (Int32.not_lt.mpr z.1))) (fun z => absurd c1 z)
  refine X_if_lt (pc := 1) 25 dX10_isAsking_1 (by decide) (fun z => absurd z c1) (fun _ => ?_)
  refine X_iload_n (pc := 4) 1 dX10_isAsking_4 rfl rfl ?_
  refine X_aload_n (pc := 5) 0 dX10_isAsking_5 rfl rfl ?_
  refine X_getfield (pc := 6) dX10_isAsking_6 fg_X10_640_11 (MW.ob w) mf_75 ?_
  rw [h75]
  rcases pk_ix x (show N 1 < 2 ^ 31 by omega) with z | z | ⟨a, ha, rfl⟩
  · exact absurd z c1
  · refine X_icmp_ge (pc := 9) 25 dX10_isAsking_9 (by decide) (fun _ => no _ (fun q => ?_)) (fun q => absurd z q)
    obtain ⟨j, hj, rfl⟩ := nn_ex c1
    have := q.2.1
    rw [nI_clamp hj] at this
    exact absurd z (nI_ge this (by omega))
  refine X_icmp_ge (pc := 9) 25 dX10_isAsking_9 (by decide) (fun z => absurd z (nI_ge ha (by omega))) (fun _ => ?_)
  have ba : vp_in (nI a) 60 := vp_in_nI (by omega) (by decide)
  have ca : (nI a).toNatClampNeg = a := nI_clamp (by omega)
  refine X_aload_n (pc := 12) 0 dX10_isAsking_12 rfl rfl ?_
  refine X_getfield (pc := 13) dX10_isAsking_13 fg_X10_519_11 (MW.ob w) mf_72 ?_
  refine X_iload_n (pc := 16) 1 dX10_isAsking_16 rfl rfl ?_
  refine X_zaload (pc := 17) dX10_isAsking_17 (w.i 72 rfl) ba ?_
  rw [ca, hop a ha]
  rw [ca] at no
  rcases nI_z1 (wf.aa ha).2.1 with ⟨e1, e2⟩ | ⟨e1, e2⟩
  · rw [e2]
    refine X_if_eq (pc := 18) 25 dX10_isAsking_18 (by decide) (fun z => absurd z (by decide)) (fun _ => ?_)
    refine X_iconst (pc := 21) (x := 1) dX10_isAsking_21 (by decide) ?_
    refine X_goto (pc := 22) 26 dX10_isAsking_22 (by decide) ?_
    refine X_zreturn (pc := 26) dX10_isAsking_26 rfl (by first | exact Or.inl rfl | exact Or.inr rfl | assumption | exact zo_if) (Nat.le_of_ble_eq_true rfl) (Nat.le_of_ble_eq_true rfl) ?_
    exact ⟨1, rfl, rfl, Or.inl ⟨rfl, a, rfl, ha, beq_iff_eq.mp e1⟩⟩
  · rw [e2]
    refine X_if_eq (pc := 18) 25 dX10_isAsking_18 (by decide) (fun _ => no _ (fun q => ?_)) (fun z => absurd rfl z)
    have := q.2.2
    rw [this] at e1
    cases e1
set_option maxHeartbeats 8000000 in
theorem endsTwo_ok (g : GX) (wf : Wf N L) (w : MW A X R I S F h) (ms : MS N L R I (up S 81 []) F) {T : List Int32} {a k : Nat} (ha : a < N 1) (hka : N (200 + a) = k) (ht : N (100 + k) ≠ 1) (hT : S 81 = T) (hTl : T.length = N (150 + k)) :
    MT g MX10_endsTwo ({ frames := 7, cells := 0, slots := 0, locals := 191 } : Room) [.ref (A 96), .int (nI a), .int (nI k)] h (RI (MQ3 A X (sEnds2 N L T a))) := by
  refine MT.of (by decide) (Nat.le_of_ble_eq_true rfl) ?_
  obtain ⟨f81, c81, p81, -⟩ := w.s 81 rfl
  rw [hT] at p81
  have hk : k < N 0 := by rw [← hka]; exact wf.ka a ha
  have hk6 : k < 6 := Nat.lt_of_lt_of_le hk wf.1
  have ha60 : a < 60 := Nat.lt_of_lt_of_le ha wf.2.1
  have ko := wf.kk hk
  have km := ms.kk hk
  have ao := wf.aa ha
  have am := ms.aa ha
  obtain ⟨t2, l1, l2, hlim, e1, e2, hs48⟩ := ko.two ht
  obtain ⟨hm1, hmo, hd0, hdm, hesz, hdb, hdb2, hs2, -⟩ := ko.two' ht
  obtain ⟨sh, hsh, mo, f542, f552, hbt, i67, i69, -⟩ := km.2.2.2.2.2 t2
  have i68 : I 68 k = nI (N (150 + k)) := km.2.2.2.1
  have h26 : F 26 = 0 := ms.1.2.2.2.2.2.2
  have hV := mo.V hk6
  have ha6 := kd600 ha60
  have bk : vp_in (nI k) 6 := vp_in_nI hk6 (by decide)
  have ck : (nI k).toNatClampNeg = k := nI_clamp (by omega)
  have ba : vp_in (nI a) 60 := vp_in_nI ha60 (by decide)
  have ca : (nI a).toNatClampNeg = a := nI_clamp (by omega)
  have hn : 0 < limN N k ∧ limN N k ≤ 64 ∧ N (150 + k) ≤ 4 * limN N k := by omega
  have k510 := (kd_m (j := 2 + k) (by omega) (by omega)).2.1
  have hbl : V (limN N k) (I (600 + a)) = N (400 + a) := by have := am.2.2.2; rwa [hka] at this
  have hgcd : Nat.gcd (N (400 + a)) (N (130 + k)) = 1 := by
    rcases ao.2.2.2.2 with z | z
    · rw [hka] at z; exact absurd z.1 ht
    · have := z.2.2.2; rwa [hka] at this
  have h73 : sub (S 73) (98 * a) 98 = L (200 + a) := by have := am.2.2.1; rwa [up_ne (by decide)] at this
  have s73l : (S 73).length = 5880 := by have := ms.2.2.2.2.2.2.2.2.1; rwa [up_ne (by decide)] at this
  have s73B : IsB (S 73) := by have := ms.2.2.2.2.2.2.2.2.2.1; rwa [up_ne (by decide)] at this
  have hsd : sEnds2 N L T a = if T.length ≠ N (150 + N (200 + a)) then (-2, N, L) else cIf (num T 0 (N (150 + N (200 + a))) < N (130 + N (200 + a)) ∧ isSg N (N (200 + a)) (L (200 + a)) (num T 0 (N (150 + N (200 + a))) * invM (N (130 + N (200 + a))) (N (400 + a)) % N (130 + N (200 + a)))) (nI (98 + N (150 + N (200 + a))), up N (300 + a) 0, up L 1 (L (200 + a) ++ byN (num T 0 (N (150 + N (200 + a))) * invM (N (130 + N (200 + a))) (N (400 + a)) % N (130 + N (200 + a))) (N (150 + N (200 + a))))) (-4, N, L) := rfl
  rw [hka, if_neg (fun z => z hTl)] at hsd
  generalize hnn : limN N k = n at *
  generalize hv : num T 0 (N (150 + k)) = v at *
  generalize hiv : invM (N (130 + k)) (N (400 + a)) = iv at *
  generalize hsv : v * iv % N (130 + k) = sv at *
  generalize hPost : RI (MQ3 A X (sEnds2 N L T a)) = Post
  have md : ∀ {I' S' h'}, MW A X R I' S' F h' → h' (A (500 + (2 + k))) = some (Ob 12 [.ref (A (510 + (2 + k))), .ref (A (520 + (2 + k))), .int (nI n), .int (nI sh)]) := by
    intro I' S' h' w'
    have := w'.md (j := 2 + k) (by omega) (by omega)
    rwa [show 540 + (2 + k) = 542 + k by omega, show 550 + (2 + k) = 552 + k by omega, f542, f552] at this
  have moi : ∀ {I'}, (∀ j, 500 ≤ j → j < 600 → I' j = I j) → MoS I' F (2 + k) n (N (130 + k)) := by
    intro I' a1
    rcases mo with ⟨z, -, -⟩ | ⟨z, -, -⟩ | ⟨z1, z2, s, z3, z4, z5, z6, z7, z8, z9⟩
    · omega
    · omega
    · exact Or.inr (Or.inr ⟨z1, z2, s, z3, z4, z5, by rw [a1 _ (by omega) (by omega)]; exact z6, by rw [a1 _ (by omega) (by omega)]; exact z7, by rw [a1 _ (by omega) (by omega)]; exact z8, z9⟩)
  have msi : ∀ I' S', (∀ j, relI j → I' j = I j) → (∀ j, relS j → S' j = S j) → MS N L R I' (up S' 81 []) F := fun I' S' hI hS => ms.cg ⟨wf.1, wf.2.1⟩ (fun _ _ => rfl) hI (fun j hj => by
    by_cases e : j = 81
    · subst e; rw [up_same, up_same]
    · rw [up_ne e, up_ne e]; exact hS j hj) (fun _ _ => rfl)
  have no : ∀ I' S' h', MW A X R I' S' F h' → (∀ j, relI j → I' j = I j) → (∀ j, relS j → S' j = S j) → ¬ (v < N (130 + k) ∧ isSg N k (L (200 + a)) sv) → Post (.returned (some (.int (-4)))) h' := by
    intro I' S' h' w' hI hS hc
    subst hPost
    rw [hsd, cIf_f hc]
    exact ⟨_, rfl, rfl, MRep.of w' (msi I' S' hI hS)⟩
  have hmd := md w
  refine X_aload_n (pc := 0) 0 dX10_endsTwo_0 rfl rfl ?_
  refine X_getfield (pc := 1) dX10_endsTwo_1 fg_X10_503_11 (MW.ob w) mf_66 ?_
  refine X_iload_n (pc := 4) 2 dX10_endsTwo_4 rfl rfl ?_
  refine X_aaload (pc := 5) dX10_endsTwo_5 (w.o 66 rfl) (fun _ => rfl) bk ?_
  rw [ck]
  refine XX.eqst (st' := [.ref (A (500 + (2 + k)))]) (by rw [show 500 + (2 + k) = 502 + k by omega]; rfl) ?_
  refine X_astore_n (pc := 6) (L' := [(3, .ref _), (0, .ref _), (1, .int _), (2, .int _)]) dX10_endsTwo_6 rfl (Nat.le_of_ble_eq_true rfl) rfl ?_
  refine X_aload_n (pc := 7) 1 dX10_endsTwo_7 rfl rfl ?_
  refine X_getfield (pc := 8) dX10_endsTwo_8 fg_X10_534_11 (MW.ob w) mf_81 ?_
  refine X_iconst (pc := 11) (x := 0) dX10_endsTwo_11 (by decide) ?_
  refine X_aload_n (pc := 12) 1 dX10_endsTwo_12 rfl rfl ?_
  refine X_getfield (pc := 13) dX10_endsTwo_13 fg_X10_510_11 (MW.ob w) mf_68 ?_
  refine X_iload_n (pc := 16) 3 dX10_endsTwo_16 rfl rfl ?_
  refine X_iaload (pc := 17) dX10_endsTwo_17 (w.i 68 rfl) bk ?_
  refine X_aload_n (pc := 18) 1 dX10_endsTwo_18 rfl rfl ?_
  refine X_getfield (pc := 19) dX10_endsTwo_19 fg_X10_549_11 (MW.ob w) mf_88 ?_
  refine X_aload_n (pc := 22) 0 dX10_endsTwo_22 rfl rfl ?_
  refine X_getfield (pc := 23) dX10_endsTwo_23 fg_X10_13_12 hmd (by first | rfl | assumption) ?_
  rw [ck, i68]
  refine X_isv (pc := 26) _ dX10_endsTwo_26 cs_X10_217 rfl (load_ok g (fr := 0) (many := N (150 + k)) (n := n) c81 (w.i 88 rfl) (by omega) (by decide) hn.2.1 (by decide) hn.2.2) nX10_load (Nat.le_of_ble_eq_true rfl) (Nat.le_of_ble_eq_true rfl) (Nat.le_of_ble_eq_true rfl) (Nat.le_of_ble_eq_true rfl) (fun h1 q1 => ?_)
  obtain ⟨fr, hfr, -, rfl⟩ := q1
  have hvr : V n fr = v := by rw [hfr, ← hv]; exact bsm_cg fun q hq => p81 _ (by omega)
  have w1 := w.setI 88 rfl fr
  generalize hset h (A 88) (Ai false 0 64 fr) = h1 at *
  have i88 : (up I 88 fr) 88 = fr := up_same _ _ _
  have iot : ∀ j, j ≠ 88 → (up I 88 fr) j = I j := fun j hj => up_ne hj
  generalize up I 88 fr = I1 at *
  have ir1 : ∀ j, relI j → I1 j = I j := fun j hj => iot j (by unfold relI at hj; omega)
  have o88 : OpM A h1 (A 88) n v := by have := OpM.i w1 88 rfl hn.2.1 (by decide); rwa [i88, hvr] at this
  have om : OpM A h1 (A (510 + (2 + k))) n (N (130 + k)) := by have := OpM.i w1 (510 + (2 + k)) k510 hn.2.1 (by decide); rwa [iot _ (by omega), hV] at this
  have hmd1 := md w1
  refine X_aload_n (pc := 29) 1 dX10_endsTwo_29 rfl rfl ?_
  refine X_getfield (pc := 30) dX10_endsTwo_30 fg_X10_549_11 (MW.ob w1) mf_88 ?_
  refine X_aload_n (pc := 33) 0 dX10_endsTwo_33 rfl rfl ?_
  refine X_getfield (pc := 34) dX10_endsTwo_34 fg_X10_22_12 hmd1 (by first | rfl | assumption) ?_
  refine X_aload_n (pc := 37) 0 dX10_endsTwo_37 rfl rfl ?_
  refine X_getfield (pc := 38) dX10_endsTwo_38 fg_X10_13_12 hmd1 (by first | rfl | assumption) ?_
  refine X_isi (pc := 41) _ dX10_endsTwo_41 cs_X10_26 rfl (mcW g o88 om) nX10_compare (Nat.le_of_ble_eq_true rfl) (Nat.le_of_ble_eq_true rfl) (Nat.le_of_ble_eq_true rfl) (Nat.le_of_ble_eq_true rfl) (fun r2 h2 q2 => ?_)
  obtain ⟨rfl, rfl⟩ := q2
  by_cases c1 : v < N (130 + k)
  rotate_left
  · refine X_if_lt (pc := 44) 50 dX10_endsTwo_44 (by decide) (fun z => absurd (cmpN_lt0.mp z) c1) (fun _ => ?_)
    refine X_bipush (pc := 47) (x := (-4)) dX10_endsTwo_47 (by decide) ?_
    refine X_ireturn (pc := 49) dX10_endsTwo_49 rfl (Nat.le_of_ble_eq_true rfl) (Nat.le_of_ble_eq_true rfl) ?_
    exact no I1 S _ w1 ir1 (fun _ _ => rfl) (fun z => c1 z.1)
  refine X_if_lt (pc := 44) 50 dX10_endsTwo_44 (by decide) (fun _ => ?_) (fun z => absurd (cmpN_lt0.mpr c1) z)
  have ob : OpM A h2 (A (600 + a)) n (N (400 + a)) := by have := OpM.i w1 (600 + a) ha6 hn.2.1 (by decide); rwa [iot _ (by omega), hbl] at this
  refine X_aload_n (pc := 50) 1 dX10_endsTwo_50 rfl rfl ?_
  refine X_aload_n (pc := 51) 0 dX10_endsTwo_51 rfl rfl ?_
  refine X_aload_n (pc := 52) 1 dX10_endsTwo_52 rfl rfl ?_
  refine X_getfield (pc := 53) dX10_endsTwo_53 fg_X10_525_11 (MW.ob w1) mf_74 ?_
  refine X_iload_n (pc := 56) 2 dX10_endsTwo_56 rfl rfl ?_
  refine X_aaloadA (pc := 57) dX10_endsTwo_57 (w1.o 74 rfl) ba ?_
  rw [ca]
  refine XX.eqst (st' := [.ref (A (600 + a)), .ref (A (500 + (2 + k))), .ref (A 96)]) rfl ?_
  refine X_aload_n (pc := 58) 1 dX10_endsTwo_58 rfl rfl ?_
  refine X_getfield (pc := 59) dX10_endsTwo_59 fg_X10_552_11 (MW.ob w1) mf_89 ?_
  refine X_ivi (pc := 62) _ dX10_endsTwo_62 cv_X10_161_11 (MW.ob w1) rfl (miI g w1 (moi (fun j a1 a2 => iot j (by omega))) hn.2.1 hmo hm1 89 rfl ob) nX10_inverse (Nat.le_of_ble_eq_true rfl) (Nat.le_of_ble_eq_true rfl) (Nat.le_of_ble_eq_true rfl) (Nat.le_of_ble_eq_true rfl) (fun r3 h3 q3 => ?_)
  obtain ⟨rfl, fi, hfi, -, w3⟩ := q3
  have hfi := hfi hgcd
  rw [hiv] at hfi
  have j88 : (up I1 89 fi) 88 = fr := by rw [up_ne (by decide)]; exact i88
  have j89 : (up I1 89 fi) 89 = fi := up_same _ _ _
  have jot : ∀ j, j ≠ 88 → j ≠ 89 → (up I1 89 fi) j = I j := fun j a1 a2 => by rw [up_ne a2]; exact iot j a1
  generalize up I1 89 fi = I3 at *
  have o88' : OpM A h3 (A 88) n v := by have := OpM.i w3 88 rfl hn.2.1 (by decide); rwa [j88, hvr] at this
  have o89 : OpM A h3 (A 89) n iv := by have := OpM.i w3 89 rfl hn.2.1 (by decide); rwa [j89, hfi] at this
  refine X_istore (pc := 65) (L' := [(4, .int _), (3, .ref _), (0, .ref _), (1, .int _), (2, .int _)]) dX10_endsTwo_65 (Nat.le_of_ble_eq_true rfl) rfl ?_
  refine X_aload_n (pc := 67) 2 dX10_endsTwo_67 rfl rfl ?_
  refine X_aload_n (pc := 68) 1 dX10_endsTwo_68 rfl rfl ?_
  refine X_aload_n (pc := 69) 2 dX10_endsTwo_69 rfl rfl ?_
  refine X_getfield (pc := 70) dX10_endsTwo_70 fg_X10_549_11 (MW.ob w3) mf_88 ?_
  refine X_aload_n (pc := 73) 2 dX10_endsTwo_73 rfl rfl ?_
  refine X_getfield (pc := 74) dX10_endsTwo_74 fg_X10_552_11 (MW.ob w3) mf_89 ?_
  refine X_aload_n (pc := 77) 2 dX10_endsTwo_77 rfl rfl ?_
  refine X_getfield (pc := 78) dX10_endsTwo_78 fg_X10_549_11 (MW.ob w3) mf_88 ?_
  refine X_ivv (pc := 81) _ dX10_endsTwo_81 cv_X10_102_11 (MW.ob w3) rfl (mtI g w3 (moi (fun j a1 a2 => jot j (by omega) (by omega))) hn.2.1 88 rfl o88' o89) nX10_times (Nat.le_of_ble_eq_true rfl) (Nat.le_of_ble_eq_true rfl) (Nat.le_of_ble_eq_true rfl) (Nat.le_of_ble_eq_true rfl) (fun h4 q4 => ?_)
  obtain ⟨fs, hfs, w4⟩ := q4
  rw [hsv] at hfs
  have k88 : (up I3 88 fs) 88 = fs := up_same _ _ _
  have kot : ∀ j, j ≠ 88 → j ≠ 89 → (up I3 88 fs) j = I j := fun j a1 a2 => by rw [up_ne a1]; exact jot j a1 a2
  generalize up I3 88 fs = I4 at *
  have mo4 := moi (I' := I4) (fun j a1 a2 => kot j (by omega) (by omega))
  refine X_aload_n (pc := 84) 2 dX10_endsTwo_84 rfl rfl ?_
  refine X_iload_n (pc := 85) 4 dX10_endsTwo_85 rfl rfl ?_
  refine X_aload_n (pc := 86) 2 dX10_endsTwo_86 rfl rfl ?_
  refine X_getfield (pc := 87) dX10_endsTwo_87 fg_X10_522_11 (MW.ob w4) mf_73 ?_
  refine X_bipush (pc := 90) (x := 98) dX10_endsTwo_90 (by decide) ?_
  refine X_iload_n (pc := 92) 3 dX10_endsTwo_92 rfl rfl ?_
  refine X_imul (pc := 93) dX10_endsTwo_93 ?_
  rw [show (98 : Int32) * nI a = nI (98 * a) from pk_mul 98 a]
  refine X_aload_n (pc := 94) 2 dX10_endsTwo_94 rfl rfl ?_
  refine X_getfield (pc := 95) dX10_endsTwo_95 fg_X10_549_11 (MW.ob w4) mf_88 ?_
  refine X_ivi (pc := 98) _ dX10_endsTwo_98 cv_X10_697_11 (MW.ob w4) rfl (isSigned_ok g w4 h26 (key := k) (n := n) (sh := sh) (s := N (160 + k)) (e := N (140 + k)) (mv := N (130 + k)) (ki := 73) (fr := 98 * a) (db := dbN N k) hk6 mo4 hm1 f542 f552 ⟨hn.1, hn.2.1⟩ hsh (by rw [kot 69 (by decide) (by decide)]; exact i69) hs2 (by rw [kot 67 (by decide) (by decide)]; exact i67) (by omega) (by rw [hbt]; exact hesz) hdb (by omega) rfl (by decide) rfl s73B (by omega)) nX10_isSigned (Nat.le_of_ble_eq_true rfl) (Nat.le_of_ble_eq_true rfl) (Nat.le_of_ble_eq_true rfl) (Nat.le_of_ble_eq_true rfl) (fun r5 h5 q5 => ?_)
  obtain ⟨S5, f5, w5, fS5, hc⟩ := q5
  rw [k88, hfs, h73, hbt] at hc
  have l88 : (up I4 90 f5) 88 = fs := by rw [up_ne (by decide)]; exact k88
  have lot : ∀ j, j ≠ 88 → j ≠ 89 → j ≠ 90 → (up I4 90 f5) j = I j := fun j a1 a2 a3 => by rw [up_ne a3]; exact kot j a1 a2
  generalize up I4 90 f5 = I5 at *
  have ir5 : ∀ j, relI j → I5 j = I j := fun j hj => by unfold relI at hj; exact lot j (by omega) (by omega) (by omega)
  have sr5 : ∀ j, relS j → S5 j = S j := fun j hj => fS5 j (relS_r hj)
  have hisg : isSg N k (L (200 + a)) sv ↔ (sv < N (130 + k) ∧ sgOk (L (200 + a)) (sv ^ N (140 + k) % N (130 + k)) (dbN N k) (N (160 + k)) (clr (bitsN (N (130 + k))))) := Iff.rfl
  rcases hc with ⟨rfl, hc⟩ | ⟨rfl, hc⟩
  rotate_left
  · refine X_if_ne (pc := 101) 107 dX10_endsTwo_101 (by decide) (fun z => absurd rfl z) (fun _ => ?_)
    refine X_bipush (pc := 104) (x := (-4)) dX10_endsTwo_104 (by decide) ?_
    refine X_ireturn (pc := 106) dX10_endsTwo_106 rfl (Nat.le_of_ble_eq_true rfl) (Nat.le_of_ble_eq_true rfl) ?_
    exact no I5 S5 _ w5 ir5 sr5 (fun z => hc (hisg.mp z.2))
  refine X_if_ne (pc := 101) 107 dX10_endsTwo_101 (by decide) (fun _ => ?_) (fun z => absurd z (by decide))
  rw [cIf_t ⟨c1, hisg.mpr hc⟩] at hsd
  have s735 : S5 73 = S 73 := sr5 73 (by unfold relS; omega)
  have hidd : L (200 + a) = (List.range 98).map fun q => (S 73).getD (98 * a + q) 0 := h73.symm
  have k68 : I5 68 = I 68 := ir5 68 (by unfold relI; omega)
  have k72 : I5 72 = I 72 := ir5 72 (by unfold relI; omega)
  have hli98 : (L (200 + a)).length = 98 := ao.2.2.1
  have loop : ∀ m i, i + m = 98 → ∀ h', MW A X R I5 (up S5 83 ((List.range i).map fun q => (S 73).getD (98 * a + q) 0)) F h' →
      XX g MX10_endsTwo ({ frames := 7, cells := 0, slots := 0, locals := 191 } : Room) Post 0 0 110 [(5, .int (nI i)), (4, .int (if Nat.gcd (N (400 + a)) (N (130 + k)) = 1 then 1 else 0)), (3, .ref (A (500 + (2 + k)))), (0, .ref (A 96)), (1, .int (nI a)), (2, .int (nI k))] [] h' := by
    intro m
    induction m with
    | zero =>
      intro i hi h' w'
      have ei : i = 98 := by omega
      subst ei
      rw [← hidd] at w'
      obtain ⟨f83, c83, p83, -⟩ := w'.s 83 rfl
      rw [up_same] at p83
      have c88 : h' (A 88) = some (Ai false 0 64 fs) := by have := w'.i 88 rfl; rwa [l88] at this
      refine X_iload (pc := 110) 0 dX10_endsTwo_110 rfl ?_
      refine X_bipush (pc := 112) (x := 98) dX10_endsTwo_112 (by decide) ?_
      refine X_cge (a := 98) (b := 98) (pc := 114) 142 dX10_endsTwo_114 (by decide) (by omega) (by omega) (fun _ => ?_) (fun z => absurd z (by omega))
      refine X_aload_n (pc := 142) 3 dX10_endsTwo_142 rfl rfl ?_
      refine X_getfield (pc := 143) dX10_endsTwo_143 fg_X10_549_11 (MW.ob w') mf_88 ?_
      refine X_aload_n (pc := 146) 3 dX10_endsTwo_146 rfl rfl ?_
      refine X_getfield (pc := 147) dX10_endsTwo_147 fg_X10_537_11 (MW.ob w') mf_83 ?_
      refine X_bipush (pc := 150) (x := 98) dX10_endsTwo_150 (by decide) ?_
      refine X_aload_n (pc := 152) 3 dX10_endsTwo_152 rfl rfl ?_
      refine X_getfield (pc := 153) dX10_endsTwo_153 fg_X10_510_11 (MW.ob w') mf_68 ?_
      refine X_iload_n (pc := 156) 5 dX10_endsTwo_156 rfl rfl ?_
      refine X_iaload (pc := 157) dX10_endsTwo_157 (w'.i 68 rfl) bk ?_
      rw [ck, k68, i68]
      refine XX.eqst (st' := [.int (nI (N (150 + k))), .int (nI (L (200 + a)).length), .ref (A 83), .ref (A 88)]) (by rw [hli98]; rfl) ?_
      refine X_isv (pc := 158) _ dX10_endsTwo_158 cs_X10_232 rfl (store_ok g (n := n) (fr := (L (200 + a)).length) (many := N (150 + k)) c88 c83 hn.2.1 (by decide) (by omega) (by decide) hn.2.2) nX10_store (Nat.le_of_ble_eq_true rfl) (Nat.le_of_ble_eq_true rfl) (Nat.le_of_ble_eq_true rfl) (Nat.le_of_ble_eq_true rfl) (fun h6 q6 => ?_)
      subst q6
      rw [hfs]
      have w6 := w'.setS 83 rfl (PL_sto (v := sv) (n := N (150 + k)) p83) (by rw [List.length_append, byN_len]; omega)
      rw [up_up'] at w6
      generalize hset h' (A 83) _ = h6 at *
      have hol : (L (200 + a) ++ byN sv (N (150 + k))).length = 98 + N (150 + k) := by rw [List.length_append, byN_len, hli98]
      refine X_aload_n (pc := 161) 3 dX10_endsTwo_161 rfl rfl ?_
      refine X_bipush (pc := 162) (x := 98) dX10_endsTwo_162 (by decide) ?_
      refine X_aload_n (pc := 164) 3 dX10_endsTwo_164 rfl rfl ?_
      refine X_getfield (pc := 165) dX10_endsTwo_165 fg_X10_510_11 (MW.ob w6) mf_68 ?_
      refine X_iload_n (pc := 168) 5 dX10_endsTwo_168 rfl rfl ?_
      refine X_iaload (pc := 169) dX10_endsTwo_169 (w6.i 68 rfl) bk ?_
      refine X_iadd (pc := 170) dX10_endsTwo_170 ?_
      rw [ck, k68, i68, show (98 : Int32) + nI (N (150 + k)) = nI (98 + N (150 + k)) from nI_add 98 _]
      refine X_putfield (pc := 171) dX10_endsTwo_171 fp_X10_606_11 (fun e => by cases e) (MW.ob w6) rfl rfl (Nat.le_of_ble_eq_true rfl) ?_
      have w7 := w6.setF84 (v := nI (98 + N (150 + k)))
      have c72 := w7.i 72 rfl
      refine X_aload_n (pc := 174) 3 dX10_endsTwo_174 rfl rfl ?_
      refine X_getfield (pc := 175) dX10_endsTwo_175 fg_X10_519_11 (MW.ob w7) mf_72 ?_
      refine X_iload_n (pc := 178) 4 dX10_endsTwo_178 rfl rfl ?_
      refine X_iconst (pc := 179) (x := 0) dX10_endsTwo_179 (by decide) ?_
      refine X_zastore (pc := 180) dX10_endsTwo_180 c72 ba ?_
      rw [ca]
      have w8 := w7.setI 72 rfl (upd (I5 72) a 0)
      refine XX.eqh (h' := hset (hset h6 (A 96) (Ob 11 ((mFl A F).set 84 (.int (nI (98 + N (150 + k))))))) (A 72) (Ai false 3 60 (upd (I5 72) a 0))) rfl ?_
      refine X_aload_n (pc := 181) 3 dX10_endsTwo_181 rfl rfl ?_
      refine X_getfield (pc := 182) dX10_endsTwo_182 fg_X10_606_11 (MW.ob w8) mf_84 ?_
      rw [up_same]
      refine X_ireturn (pc := 185) dX10_endsTwo_185 rfl (Nat.le_of_ble_eq_true rfl) (Nat.le_of_ble_eq_true rfl) ?_
      subst hPost
      rw [hsd]
      refine ⟨_, rfl, rfl, MRep.of w8 ?_⟩
      have m2 := ((msi I5 S5 ir5 sr5).opn ⟨wf.1, wf.2.1⟩ wf.ka ha 0).out (by rw [up_ne (by omega), up_ne (by omega)]; exact ⟨wf.1, wf.2.1⟩) (L (200 + a) ++ byN sv (N (150 + k)))
      rw [hol, up_comm _ _ _ (show 81 ≠ 83 by decide)] at m2
      exact m2
    | succ m ih =>
      intro i hi h' w'
      obtain ⟨f73, c73, p73, -⟩ := w'.s 73 rfl
      obtain ⟨f83, c83, p83, -⟩ := w'.s 83 rfl
      rw [up_ne (by decide), s735] at p73
      rw [up_same] at p83
      have hli : ((List.range i).map fun q => (S 73).getD (98 * a + q) 0).length = i := by rw [List.length_map, List.length_range]
      have bi : vp_in (nI i) 2900 := vp_in_nI (by omega) (by omega)
      have ci : (nI i).toNatClampNeg = i := nI_clamp (by omega)
      have b6 : vp_in (nI (98 * a + i)) 5880 := vp_in_nI (by omega) (by omega)
      have c6 : (nI (98 * a + i)).toNatClampNeg = 98 * a + i := nI_clamp (by omega)
      refine X_iload (pc := 110) 0 dX10_endsTwo_110 rfl ?_
      refine X_bipush (pc := 112) (x := 98) dX10_endsTwo_112 (by decide) ?_
      refine X_cge (b := 98) (pc := 114) 142 dX10_endsTwo_114 (by decide) (by omega) (by omega) (fun z => absurd z (by omega)) (fun _ => ?_)
      refine X_aload_n (pc := 117) 3 dX10_endsTwo_117 rfl rfl ?_
      refine X_getfield (pc := 118) dX10_endsTwo_118 fg_X10_537_11 (MW.ob w') mf_83 ?_
      refine X_iload (pc := 121) 0 dX10_endsTwo_121 rfl ?_
      refine X_aload_n (pc := 123) 3 dX10_endsTwo_123 rfl rfl ?_
      refine X_getfield (pc := 124) dX10_endsTwo_124 fg_X10_522_11 (MW.ob w') mf_73 ?_
      refine X_bipush (pc := 127) (x := 98) dX10_endsTwo_127 (by decide) ?_
      refine X_iload_n (pc := 129) 4 dX10_endsTwo_129 rfl rfl ?_
      refine X_imul (pc := 130) dX10_endsTwo_130 ?_
      refine X_iload (pc := 131) 0 dX10_endsTwo_131 rfl ?_
      refine X_iadd (pc := 133) dX10_endsTwo_133 ?_
      rw [show (98 : Int32) * nI a = nI (98 * a) from pk_mul 98 a, nI_add]
      refine X_baload (pc := 134) dX10_endsTwo_134 c73 b6 ?_
      refine X_bastore (pc := 135) dX10_endsTwo_135 c83 bi ?_
      rw [ci, c6, p73 _ (by omega), s73B.nar]
      have w2 := w'.setS 83 rfl (PL_app (x := (S 73).getD (98 * a + i) 0) p83 hli.symm) (by rw [List.length_append, hli]; exact (show i + 1 ≤ 2900 by omega))
      rw [up_up', ← List.map_singleton (f := fun q => (S 73).getD (98 * a + q) 0), ← List.map_append, ← List.range_succ] at w2
      refine X_iinc (pc := 136) (L' := [(5, .int (_ + 1)), (4, .int _), (3, .ref _), (0, .ref _), (1, .int _), (2, .int _)]) 0 dX10_endsTwo_136 rfl rfl (Nat.le_of_ble_eq_true rfl) rfl ?_
      refine X_goto (pc := 139) 110 dX10_endsTwo_139 (by decide) ?_
      rw [show nI i + 1 = nI (i + 1) from nI_add i 1]
      exact ih (i + 1) (by omega) _ w2
  refine X_iconst (pc := 107) (x := 0) dX10_endsTwo_107 (by decide) ?_
  refine X_istore (pc := 108) (L' := [(5, .int _), (4, .int _), (3, .ref _), (0, .ref _), (1, .int _), (2, .int _)]) dX10_endsTwo_108 (Nat.le_of_ble_eq_true rfl) rfl ?_
  exact loop 98 0 (by omega) h5 (w5.cutS 83 rfl)
end MFn
