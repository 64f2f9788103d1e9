set_option maxRecDepth 100000
/-! the reference: roots, the curve's right side, the other root -/
noncomputable def eP : Nat := Classical.choose (p := fun e : Nat => e = (pP + 1) / 4) ⟨_, rfl⟩
theorem eP_def : eP = (pP + 1) / 4 := Classical.choose_spec (p := fun e : Nat => e = (pP + 1) / 4) ⟨_, rfl⟩
theorem eP_lt : eP < 2 ^ 384 := by rw [eP_def]; decide +kernel
theorem eP_rt (v : Nat) : fp (v ^ eP % pP) = rt (fp v) := by rw [fp_mod, fp_pow, rt_def, eP_def]
theorem curve_r {F : Type} [Lean.Grind.CommRing F] (x b : F) : (x * x - 3) * x + b = x * x * x - 3 * x + b := by grind
theorem fp_3' : fp 3 = 3 := by exact fp_3
theorem l3_p : 3 < pP := by decide +kernel
section MR
variable {A : Nat → Nat} {X : AH} {R : Nat → Nat} {I : Nat → Nat → Int32} {S : Nat → List Int32} {F : Nat → Int32} {h : AH}
theorem root_ok (g : GX) (w : MW A X R I S F h) {k s : Nat} (hk : kdM k = (1, 0, 12)) (hs : s < 31) (h16 : R 16 = eP) :
    MT g MX10_root ({ frames := 5, cells := 0, slots := 0, locals := 138 } : Room) [.ref (A 96), .ref (A k), .ref (A (300 + s))] h (RI fun r h' => ∃ R', MW A X R' I S F h' ∧ (∀ j, j ≠ 14 → j ≠ 24 → j ≠ 300 + s → R' j = R j) ∧ fp (R' (300 + s)) = rt (fp (R k)) ∧ r = if rt (fp (R k)) * rt (fp (R k)) = fp (R k) then 1 else 0) := by
  refine MT.of (by decide) (Nat.le_of_ble_eq_true rfl) ?_
  refine X_aload_n (pc := 0) 1 dX10_root_0 rfl rfl ?_
  refine X_aload_n (pc := 1) 0 dX10_root_1 rfl rfl ?_
  refine X_getfield (pc := 2) dX10_root_2 fg_X10_207_11 (MW.ob w) mf_24 ?_
  refine X_bipush (pc := 5) (x := 12) dX10_root_5 (by decide) ?_
  refine X_isv (pc := 7) _ dX10_root_7 cs_X10_91 rfl (mcpP g w 24 rfl (OpP.n w k hk)) nX10_copy (Nat.le_of_ble_eq_true rfl) (Nat.le_of_ble_eq_true rfl) (Nat.le_of_ble_eq_true rfl) (Nat.le_of_ble_eq_true rfl) (fun h1 q1 => ?_)
  obtain ⟨R1, e1, o1, w1⟩ := MW.abs q1
  refine X_aload_n (pc := 10) 0 dX10_root_10 rfl rfl ?_
  refine X_aload_n (pc := 11) 0 dX10_root_11 rfl rfl ?_
  refine X_getfield (pc := 12) dX10_root_12 fg_X10_61_11 (MW.ob w1) mf_9 ?_
  refine X_aload_n (pc := 15) 0 dX10_root_15 rfl rfl ?_
  refine X_getfield (pc := 16) dX10_root_16 fg_X10_207_11 (MW.ob w1) mf_24 ?_
  refine X_aload_n (pc := 19) 0 dX10_root_19 rfl rfl ?_
  refine X_getfield (pc := 20) dX10_root_20 fg_X10_210_11 (MW.ob w1) mf_16 ?_
  refine X_sipush (pc := 23) (x := 384) dX10_root_23 (by decide) ?_
  refine X_aload_n (pc := 26) 2 dX10_root_26 rfl rfl ?_
  obtain ⟨fe, hfe, hfv, -⟩ := w1.n 16 rfl
  obtain ⟨fo, hfo, -, -⟩ := w1.n (300 + s) (kd_y hs)
  rw [o1 16 (by decide), h16] at hfv
  have x1 := w1.sc (k := 16) (by decide) (by decide)
  have x2 := w1.sc (k := 300 + s) (by rw [kd_y hs]; decide) (scr_k (kd_y hs) (by decide))
  refine X_ivv (pc := 27) _ dX10_root_27 cv_X10_213_11 (MW.ob w1) rfl (power_ok g w1 (bits := 384) mo0 one_lt_pP ⟨by decide, by decide⟩ (OpM.n w1 24 rfl) hfe (N := 12) (by decide) (by decide) (by decide) (by decide) hfv eP_lt x1.1 hfo (Nat.le_refl _) (by decide) x2.1) nX10_power (Nat.le_of_ble_eq_true rfl) (Nat.le_of_ble_eq_true rfl) (Nat.le_of_ble_eq_true rfl) (Nat.le_of_ble_eq_true rfl) (fun h2 q2 => ?_)
  obtain ⟨h1', f, w1', ou, hv, -, rfl⟩ := q2
  rw [e1] at hv
  have w2' := w1'.setN (300 + s) (kd_y hs) hv (Nat.mod_lt _ pP_pos)
  obtain ⟨R2, e2, o2, w2⟩ := MW.abs w2'
  generalize hset h1' (A (300 + s)) (Ai false 0 12 f) = h2 at w2
  refine X_aload_n (pc := 30) 0 dX10_root_30 rfl rfl ?_
  refine X_aload_n (pc := 31) 0 dX10_root_31 rfl rfl ?_
  refine X_getfield (pc := 32) dX10_root_32 fg_X10_61_11 (MW.ob w2) mf_9 ?_
  refine X_aload_n (pc := 35) 2 dX10_root_35 rfl rfl ?_
  refine X_aload_n (pc := 36) 2 dX10_root_36 rfl rfl ?_
  refine X_aload_n (pc := 37) 0 dX10_root_37 rfl rfl ?_
  refine X_getfield (pc := 38) dX10_root_38 fg_X10_152_11 (MW.ob w2) mf_14 ?_
  refine X_ivv (pc := 41) _ dX10_root_41 cv_X10_102_11 (MW.ob w2) rfl (mtP g w2 14 rfl (OpP.syv w2 hs e2).1 (OpP.syv w2 hs e2).1) nX10_times (Nat.le_of_ble_eq_true rfl) (Nat.le_of_ble_eq_true rfl) (Nat.le_of_ble_eq_true rfl) (Nat.le_of_ble_eq_true rfl) (fun h3 q3 => ?_)
  obtain ⟨R3, e3, o3, w3⟩ := MW.abs q3
  have e24 : R3 24 = R k := ((o3 24 (by decide)).trans (o2 24 (by omega))).trans e1
  refine X_aload_n (pc := 44) 0 dX10_root_44 rfl rfl ?_
  refine X_getfield (pc := 45) dX10_root_45 fg_X10_152_11 (MW.ob w3) mf_14 ?_
  refine X_aload_n (pc := 48) 0 dX10_root_48 rfl rfl ?_
  refine X_getfield (pc := 49) dX10_root_49 fg_X10_207_11 (MW.ob w3) mf_24 ?_
  refine X_bipush (pc := 52) (x := 12) dX10_root_52 (by decide) ?_
  refine X_isi (pc := 54) _ dX10_root_54 cs_X10_26 rfl (mcW g (OpP.nv w3 14 rfl e3).1 (OpP.nv w3 24 rfl e24).1) nX10_compare (Nat.le_of_ble_eq_true rfl) (Nat.le_of_ble_eq_true rfl) (Nat.le_of_ble_eq_true rfl) (Nat.le_of_ble_eq_true rfl) (fun r4 h4 q4 => ?_)
  obtain ⟨rfl, rfl⟩ := q4
  have fin : ∃ R', MW A X R' I S F h4 ∧ (∀ j, j ≠ 14 → j ≠ 24 → j ≠ 300 + s → R' j = R j) ∧ fp (R' (300 + s)) = rt (fp (R k)) := by
    refine ⟨R3, w3, fun j j1 j2 j3 => ((o3 j j1).trans (o2 j j3)).trans (o1 j j2), ?_⟩
    rw [o3 _ (by omega), e2, eP_rt]
  obtain ⟨R', a1, a2, a3⟩ := fin
  have hiff : cmpN (R k ^ eP % pP * (R k ^ eP % pP) % pP) (R k) = 0 ↔ rt (fp (R k)) * rt (fp (R k)) = fp (R k) := by
    rw [cmpN_eq0, ← eP_rt, ← f_mul]
    exact ⟨fun e => by rw [e], fun e => fp_inj (md_lt _) (w.lt hk) e⟩
  by_cases hq : rt (fp (R k)) * rt (fp (R k)) = fp (R k)
  · refine X_if_ne (pc := 57) 64 dX10_root_57 (by decide) (fun c => absurd (hiff.mpr hq) c) (fun _ => ?_)
    refine X_iconst (pc := 60) (x := 1) dX10_root_60 (by decide) ?_
    refine X_goto (pc := 61) 65 dX10_root_61 (by decide) ?_
    refine X_zreturn (pc := 65) dX10_root_65 rfl (by first | exact Or.inl rfl | exact Or.inr rfl | assumption | exact zo_if) (Nat.le_of_ble_eq_true rfl) (Nat.le_of_ble_eq_true rfl) ?_
    exact ⟨1, rfl, R', a1, a2, a3, by rw [if_pos hq]⟩
  · refine X_if_ne (pc := 57) 64 dX10_root_57 (by decide) (fun _ => ?_) (fun c => absurd (hiff.mp c) hq)
    refine X_iconst (pc := 64) (x := 0) dX10_root_64 (by decide) ?_
    refine X_zreturn (pc := 65) dX10_root_65 rfl (by first | exact Or.inl rfl | exact Or.inr rfl | assumption | exact zo_if) (Nat.le_of_ble_eq_true rfl) (Nat.le_of_ble_eq_true rfl) ?_
    exact ⟨0, rfl, R', a1, a2, a3, by rw [if_neg hq]⟩
theorem curve_ok (g : GX) (w : MW A X R I S F h) {k s : Nat} (hk : kdM k = (1, 0, 12)) (hk2 : k < 100) (hs : s < 31) :
    MT g MX10_curve ({ frames := 4, cells := 0, slots := 0, locals := 112 } : Room) [.ref (A 96), .ref (A (200 + s)), .ref (A k)] h (RV fun h' => ∃ R', MW A X R' I S F h' ∧ (∀ j, j ≠ 14 → j ≠ 15 → j ≠ k → R' j = R j) ∧ fp (R' k) = gx (fp (R (200 + s)))) := by
  refine MT.of (by decide) (Nat.le_of_ble_eq_true rfl) ?_
  refine X_aload_n (pc := 0) 0 dX10_curve_0 rfl rfl ?_
  refine X_aload_n (pc := 1) 0 dX10_curve_1 rfl rfl ?_
  refine X_getfield (pc := 2) dX10_curve_2 fg_X10_61_11 (MW.ob w) mf_9 ?_
  refine X_aload_n (pc := 5) 1 dX10_curve_5 rfl rfl ?_
  refine X_aload_n (pc := 6) 1 dX10_curve_6 rfl rfl ?_
  refine X_aload_n (pc := 7) 0 dX10_curve_7 rfl rfl ?_
  refine X_getfield (pc := 8) dX10_curve_8 fg_X10_165_11 (MW.ob w) mf_15 ?_
  refine X_ivv (pc := 11) _ dX10_curve_11 cv_X10_102_11 (MW.ob w) rfl (mtP g w 15 rfl (OpM.sx w hs) (OpM.sx w hs)) nX10_times (Nat.le_of_ble_eq_true rfl) (Nat.le_of_ble_eq_true rfl) (Nat.le_of_ble_eq_true rfl) (Nat.le_of_ble_eq_true rfl) (fun h1 q1 => ?_)
  obtain ⟨R1, e1, o1, w1⟩ := MW.abs q1
  refine X_iconst (pc := 14) (x := 3) dX10_curve_14 (by decide) ?_
  refine X_aload_n (pc := 15) 0 dX10_curve_15 rfl rfl ?_
  refine X_getfield (pc := 16) dX10_curve_16 fg_X10_152_11 (MW.ob w1) mf_14 ?_
  refine X_bipush (pc := 19) (x := 12) dX10_curve_19 (by decide) ?_
  refine X_isv (pc := 21) _ dX10_curve_21 cs_X10_98 rfl (msmP g w1 14 rfl (v := 3) l3_p) nX10_small (Nat.le_of_ble_eq_true rfl) (Nat.le_of_ble_eq_true rfl) (Nat.le_of_ble_eq_true rfl) (Nat.le_of_ble_eq_true rfl) (fun h2 q2 => ?_)
  obtain ⟨R2, e2, o2, w2⟩ := MW.abs q2
  have m2 := (o2 15 (by decide)).trans e1
  refine X_aload_n (pc := 24) 0 dX10_curve_24 rfl rfl ?_
  refine X_getfield (pc := 25) dX10_curve_25 fg_X10_61_11 (MW.ob w2) mf_9 ?_
  refine X_aload_n (pc := 28) 0 dX10_curve_28 rfl rfl ?_
  refine X_getfield (pc := 29) dX10_curve_29 fg_X10_165_11 (MW.ob w2) mf_15 ?_
  refine X_aload_n (pc := 32) 0 dX10_curve_32 rfl rfl ?_
  refine X_getfield (pc := 33) dX10_curve_33 fg_X10_152_11 (MW.ob w2) mf_14 ?_
  refine X_aload_n (pc := 36) 0 dX10_curve_36 rfl rfl ?_
  refine X_getfield (pc := 37) dX10_curve_37 fg_X10_165_11 (MW.ob w2) mf_15 ?_
  refine X_isv (pc := 40) _ dX10_curve_40 cs_X10_130 rfl (msP g w2 15 rfl (OpP.nv w2 15 rfl m2) (OpP.nv w2 14 rfl e2)) nX10_sub (Nat.le_of_ble_eq_true rfl) (Nat.le_of_ble_eq_true rfl) (Nat.le_of_ble_eq_true rfl) (Nat.le_of_ble_eq_true rfl) (fun h3 q3 => ?_)
  obtain ⟨R3, e3, o3, w3⟩ := MW.abs q3
  have x3 : R3 (200 + s) = R (200 + s) := ((o3 _ (by omega)).trans (o2 _ (by omega))).trans (o1 _ (by omega))
  have ox : OpM A h3 (A (200 + s)) 12 (R (200 + s)) := x3 ▸ OpM.sx w3 hs
  refine X_aload_n (pc := 43) 0 dX10_curve_43 rfl rfl ?_
  refine X_aload_n (pc := 44) 0 dX10_curve_44 rfl rfl ?_
  refine X_getfield (pc := 45) dX10_curve_45 fg_X10_61_11 (MW.ob w3) mf_9 ?_
  refine X_aload_n (pc := 48) 0 dX10_curve_48 rfl rfl ?_
  refine X_getfield (pc := 49) dX10_curve_49 fg_X10_165_11 (MW.ob w3) mf_15 ?_
  refine X_aload_n (pc := 52) 1 dX10_curve_52 rfl rfl ?_
  refine X_aload_n (pc := 53) 2 dX10_curve_53 rfl rfl ?_
  refine X_ivv (pc := 54) _ dX10_curve_54 cv_X10_102_11 (MW.ob w3) rfl (mtP g w3 k hk (OpP.nv w3 15 rfl e3).1 ox) nX10_times (Nat.le_of_ble_eq_true rfl) (Nat.le_of_ble_eq_true rfl) (Nat.le_of_ble_eq_true rfl) (Nat.le_of_ble_eq_true rfl) (fun h4 q4 => ?_)
  obtain ⟨R4, e4, o4, w4⟩ := MW.abs q4
  refine X_aload_n (pc := 57) 0 dX10_curve_57 rfl rfl ?_
  refine X_getfield (pc := 58) dX10_curve_58 fg_X10_61_11 (MW.ob w4) mf_9 ?_
  refine X_aload_n (pc := 61) 2 dX10_curve_61 rfl rfl ?_
  refine X_getstatic (pc := 62) (j := 5) dX10_curve_62 q1947 (fun _ => rfl) rfl (fun st_62 hs_62 => ?_)
  refine X_aload_n (pc := 65) 2 dX10_curve_65 rfl rfl ?_
  refine X_isv (pc := 66) _ dX10_curve_66 cs_X10_155 rfl (maP g w4 k hk (OpP.nv w4 k hk e4) (OpP.B w4 hs_62)) nX10_add (Nat.le_of_ble_eq_true rfl) (Nat.le_of_ble_eq_true rfl) (Nat.le_of_ble_eq_true rfl) (Nat.le_of_ble_eq_true rfl) (fun h5 q5 => ?_)
  obtain ⟨R5, e5, o5, w5⟩ := MW.abs q5
  refine X_return (pc := 69) dX10_curve_69 rfl (Nat.le_of_ble_eq_true rfl) (Nat.le_of_ble_eq_true rfl) ?_
  refine ⟨rfl, R5, w5, fun j j1 j2 j3 => (o5 j j3).trans ((o4 j j3).trans ((o3 j j2).trans ((o2 j j1).trans (o1 j j2)))), ?_⟩
  rw [e5, f_add, f_mul, show u32 (3 : Int32) = 3 from rfl, f_sub l3_p, f_mul, fp_3']
  exact curve_r _ _
theorem turn_ok (g : GX) (w : MW A X R I S F h) {s : Nat} (hs : s < 31) (h0 : R (300 + s) ≠ 0) :
    MT g MX10_turn ({ frames := 2, cells := 0, slots := 0, locals := 46 } : Room) [.ref (A (300 + s))] h (RV fun h' => MW A X (up R (300 + s) (pP - R (300 + s))) I S F h') := by
  refine MT.of (by decide) (Nat.le_of_ble_eq_true rfl) ?_
  obtain ⟨f, hf, hv, hl⟩ := w.n (300 + s) (kd_y hs)
  refine X_getstatic (pc := 0) (j := 3) dX10_turn_0 q1377 (fun _ => rfl) rfl (fun st_0 hs_0 => ?_)
  refine X_aload_n (pc := 3) 0 dX10_turn_3 rfl rfl ?_
  refine X_aload_n (pc := 4) 0 dX10_turn_4 rfl rfl ?_
  refine X_bipush (pc := 5) (x := 12) dX10_turn_5 (by decide) ?_
  refine X_isi (pc := 7) _ dX10_turn_7 cs_X10_30 rfl (mminus_ok g (n := 12) hs_0 hf hf (by decide) (by decide) (by decide) ⟨by decide, by decide, by decide⟩) nX10_minus (Nat.le_of_ble_eq_true rfl) (Nat.le_of_ble_eq_true rfl) (Nat.le_of_ble_eq_true rfl) (Nat.le_of_ble_eq_true rfl) (fun r1 h1 q1 => ?_)
  obtain ⟨f', hr, -, he, rfl⟩ := q1
  have hlt := V_lt 12 f'
  rw [V_tP, hv] at he
  have hp : pP < 2 ^ 384 := pP_lt
  have hv' : V 12 f' = pP - R (300 + s) := by
    rcases hr with rfl | rfl
    · rw [show (0 : Int32).toInt = 0 from rfl] at he
      omega
    · rw [show (-1 : Int32).toInt = -1 from rfl] at he
      omega
  refine X_istore_n (pc := 10) (L' := [(1, .int _), (0, .ref _)]) dX10_turn_10 rfl (Nat.le_of_ble_eq_true rfl) rfl ?_
  refine X_return (pc := 11) dX10_turn_11 rfl (Nat.le_of_ble_eq_true rfl) (Nat.le_of_ble_eq_true rfl) ?_
  exact ⟨rfl, w.setN (300 + s) (kd_y hs) hv' (by omega)⟩
end MR
