set_option maxRecDepth 100000
/-! VeilMint's keys of the second type: masks -/
theorem list_ext0 {a b : List Int32} (hl : a.length = b.length) (h : ∀ j, j < a.length → a.getD j 0 = b.getD j 0) : a = b := by
  apply List.ext_getElem hl
  intro j h1 h2
  have := h j h1
  rw [List.getD_eq_getElem?_getD, List.getD_eq_getElem?_getD, List.getElem?_eq_getElem h1, List.getElem?_eq_getElem h2] at this
  exact this
def layL (d s : List Int32) (dN sN n : Nat) : List Int32 := (List.range d.length).map fun j => if dN ≤ j ∧ j < dN + n then s.getD (sN + (j - dN)) 0 else d.getD j 0
theorem layL_len (d s : List Int32) (dN sN n : Nat) : (layL d s dN sN n).length = d.length := by unfold layL; rw [List.length_map, List.length_range]
theorem layL_at {d s : List Int32} {dN sN n j : Nat} (hj : j < d.length) : (layL d s dN sN n).getD j 0 = if dN ≤ j ∧ j < dN + n then s.getD (sN + (j - dN)) 0 else d.getD j 0 := getD_map_range hj
theorem mixL_B {X o : Nat → Int32} {i size : Nat} (h1 : ∀ j, tb (u32 (X j)) = X j) (h2 : ∀ j, tb (u32 (o j)) = o j) : IsB (mixL X o i size) := fun x hx => by
  unfold mixL at hx
  obtain ⟨j, -, rfl⟩ := List.mem_map.mp hx
  split
  · exact h1 j
  · exact h2 j
theorem mixL_0 {X : Nat → Int32} {l : List Int32} : mixL X (fun j => l.getD j 0) 0 l.length = l := by
  refine list_ext0 (mixL_len _ _ _ _) fun j hj => ?_
  rw [mixL_len] at hj
  rw [mixL_at hj, if_neg (Nat.not_lt_zero j)]
section XSg2
variable {kd : Nat → KD} {A : Nat → Nat} {X : AH} {R : Nat → Nat} {S : Nat → List Int32} {O : Nat → AC} {F : Nat → Int32} {h : AH} {B sz s p mv : Nat} {ng lv : Int32}
/-- the row behind a copy into its middle -/
theorem XW.cpyM (w : XW kd A X R S O F h) {ks kt nt sN dN n : Nat} {f g : Nat → Int32} (hkt : kd kt = (6, 2, nt)) (hf : PL f (S ks)) (hg : PL g (S kt)) (h2 : sN + n ≤ (S ks).length) (h3 : (S kt).length ≤ nt) :
    XW kd A X R (up S kt (layL (S kt) (S ks) dN sN n)) O F (hset h (A kt) (Ai false 2 nt (va_cpy f g sN dN n))) :=
  w.setS kt hkt (fun j hj => by
    rw [layL_len] at hj
    rw [layL_at hj]
    by_cases c : dN ≤ j ∧ j < dN + n
    · rw [pk_cpy_in c.1 c.2, hf _ (by omega), if_pos c]
    · rw [pk_cpy_out (by omega), hg j hj, if_neg c]) (by rw [layL_len]; exact h3)
noncomputable def mskF (E : List Int32) (db j : Nat) : Int32 := tb (u32 (E.getD j 0 ^^^ mskB (sub E db 48) j))
set_option maxHeartbeats 8000000 in
theorem maskX_ok (g : GX) (w : XW kd A X R S O F h) (o : SgK kd A O B sz s p mv ng lv) {E : List Int32} {db : Nat} (hE : S (B + 7) = E) (hBE : IsB E) (hl : db + 48 ≤ E.length) :
    MT g MX15_mask ({ frames := 4, cells := 0, slots := 0, locals := 108 } : Room) [.ref (A B), .ref (A (B + 7)), .int (nI db), .ref (A (B + 7)), .int (nI db)] h
      (RV fun h' => ∃ S' F', (∀ j, j ≠ 8 → j ≠ B + 7 → S' j = S j) ∧ XFr F F' ∧ S' (B + 7) = mixL (mskF E db) (fun j => E.getD j 0) db E.length ∧ XW kd A X R S' O F' h') := by
  refine MT.of (by decide) (Nat.le_of_ble_eq_true rfl) ?_
  have hB := o.b
  obtain ⟨h66, h256, -, -, -, -⟩ := o.nu
  have hEs : E.length ≤ sz := by rw [← hE]; exact (w.s (B + 7) o.co).choose_spec.2.2
  generalize hQ : (RV fun h' => ∃ S' F', (∀ j, j ≠ 8 → j ≠ B + 7 → S' j = S j) ∧ XFr F F' ∧ S' (B + 7) = mixL (mskF E db) (fun j => E.getD j 0) db E.length ∧ XW kd A X R S' O F' h') = Q
  have hmB : ∀ t, IsB (mixL (mskF E db) (fun j => E.getD j 0) t E.length) := fun t => mixL_B (fun j => tb_tb _) (fun j => hBE.at' j)
  have hms : ∀ t, t ≤ db → sub (mixL (mskF E db) (fun j => E.getD j 0) t E.length) db 48 = sub E db 48 := fun t ht => by
    unfold sub
    apply List.map_congr_left
    intro j hj
    have hj2 := List.mem_range.mp hj
    rw [mixL_at (by omega), if_neg (by omega)]
  have loop : ∀ m i, i + m = (db + 47) / 48 → ∀ (S1 : Nat → List Int32) (F1 : Nat → Int32) (h1 : AH), XW kd A X R S1 O F1 h1 → (∀ j, j ≠ 8 → j ≠ B + 7 → S1 j = S j) → XFr F F1 → S1 (B + 7) = mixL (mskF E db) (fun j => E.getD j 0) (min (48 * i) db) E.length →
      XX g MX15_mask ({ frames := 4, cells := 0, slots := 0, locals := 108 } : Room) Q 0 0 3 [(5, .int (nI i)), (0, .ref (A B)), (1, .ref (A (B + 7))), (2, .int (nI db)), (3, .ref (A (B + 7))), (4, .int (nI db))] [] h1 := by
    intro m
    induction m with
    | zero =>
      intro i hi S1 F1 h1 w1 fS fF s7
      refine X_bipush (pc := 3) (x := 48) dX15_mask_3 (by decide) ?_
      refine X_iload (pc := 5) 0 dX15_mask_5 rfl ?_
      refine X_imul (pc := 7) dX15_mask_7 ?_
      refine X_iload (pc := 8) 5 dX15_mask_8 rfl ?_
      rw [show (48 : Int32) * nI i = nI (48 * i) from pk_mul 48 i]
      refine X_icmp_ge (pc := 10) 115 dX15_mask_10 (by decide) (fun _ => ?_) (fun c => absurd (nI_le (a := db) (b := 48 * i) (by omega) (by omega)) c)
      subst hQ
      refine X_return (pc := 115) dX15_mask_115 rfl (Nat.le_of_ble_eq_true rfl) (Nat.le_of_ble_eq_true rfl) ?_
      refine ⟨rfl, S1, F1, fS, fF, ?_, w1⟩
      rw [s7, show min (48 * i) db = db by omega]
    | succ m ih =>
      intro i hi S1 F1 h1 w1 fS fF s7
      have hi6 : i < 6 := by omega
      rw [show min (48 * i) db = 48 * i by omega] at s7
      generalize hmk : sub E db 48 = mk at *
      have mkl : mk.length = 48 := by rw [← hmk]; exact sub_len _ _ _
      have inner : ∀ m5 j, j + m5 = 48 → ∀ (S5 : Nat → List Int32) (F5 : Nat → Int32) (h5 : AH), XW kd A X R S5 O F5 h5 → (∀ j, j ≠ 8 → j ≠ B + 7 → S5 j = S j) → XFr F F5 → S5 8 = mskD mk i → S5 (B + 7) = mixL (mskF E db) (fun j => E.getD j 0) (48 * i + j) E.length → 48 * i + j ≤ db →
          XX g MX15_mask ({ frames := 4, cells := 0, slots := 0, locals := 108 } : Room) Q 0 0 64 [(7, .int (nI j)), (6, .ref (A 8)), (5, .int (nI i)), (0, .ref (A B)), (1, .ref (A (B + 7))), (2, .int (nI db)), (3, .ref (A (B + 7))), (4, .int (nI db))] [] h5 := by
        have done : ∀ j (S5 : Nat → List Int32) (F5 : Nat → Int32) (h5 : AH), XW kd A X R S5 O F5 h5 → (∀ j, j ≠ 8 → j ≠ B + 7 → S5 j = S j) → XFr F F5 → S5 (B + 7) = mixL (mskF E db) (fun j => E.getD j 0) (48 * i + j) E.length → (j = 48 ∨ 48 * i + j = db) → j ≤ 48 → 48 * i + j ≤ db →
            XX g MX15_mask ({ frames := 4, cells := 0, slots := 0, locals := 108 } : Room) Q 0 0 109 [(7, .int (nI j)), (6, .ref (A 8)), (5, .int (nI i)), (0, .ref (A B)), (1, .ref (A (B + 7))), (2, .int (nI db)), (3, .ref (A (B + 7))), (4, .int (nI db))] [] h5 := by
          intro j S5 F5 h5 w5 fS5 fF5 s75 hj hj2 hj3
          refine X_iinc (pc := 109) (L' := [(5, .int (_ + 1)), (7, .int _), (6, .ref _), (0, .ref _), (1, .ref _), (2, .int _), (3, .ref _), (4, .int _)]) 2 dX15_mask_109 rfl rfl (Nat.le_of_ble_eq_true rfl) rfl ?_
          refine X_goto (pc := 112) 3 dX15_mask_112 (by decide) ?_
          refine XX.pick (L' := [(5, .int _), (0, .ref _), (1, .ref _), (2, .int _), (3, .ref _), (4, .int _)]) [0, 3, 4, 5, 6, 7] rfl ?_
          rw [show nI i + 1 = nI (i + 1) from nI_add i 1]
          exact ih (i + 1) (by omega) S5 F5 h5 w5 fS5 fF5 (by rw [s75, show min (48 * (i + 1)) db = 48 * i + j by omega])
        intro m5
        induction m5 with
        | zero =>
          intro j hj S5 F5 h5 w5 fS5 fF5 s85 s75 hle
          have e : j = 48 := by omega
          subst e
          refine X_iload (pc := 64) 0 dX15_mask_64 rfl ?_
          refine X_bipush (pc := 66) (x := 48) dX15_mask_66 (by decide) ?_
          refine X_cge (a := 48) (b := 48) (pc := 68) 109 dX15_mask_68 (by decide) (by omega) (by omega) (fun _ => ?_) (fun c => absurd c (by omega))
          exact done 48 S5 F5 h5 w5 fS5 fF5 s75 (Or.inl rfl) (Nat.le_refl _) hle
        | succ m5 ih5 =>
          intro j hj S5 F5 h5 w5 fS5 fF5 s85 s75 hle
          refine X_iload (pc := 64) 0 dX15_mask_64 rfl ?_
          refine X_bipush (pc := 66) (x := 48) dX15_mask_66 (by decide) ?_
          refine X_cge (b := 48) (pc := 68) 109 dX15_mask_68 (by decide) (by omega) (by omega) (fun c => absurd c (by omega)) (fun _ => ?_)
          refine X_bipush (pc := 71) (x := 48) dX15_mask_71 (by decide) ?_
          refine X_iload (pc := 73) 2 dX15_mask_73 rfl ?_
          refine X_imul (pc := 75) dX15_mask_75 ?_
          refine X_iload (pc := 76) 0 dX15_mask_76 rfl ?_
          refine X_iadd (pc := 78) dX15_mask_78 ?_
          rw [show (48 : Int32) * nI i = nI (48 * i) from pk_mul 48 i, nI_add]
          refine X_iload (pc := 79) 7 dX15_mask_79 rfl ?_
          refine X_cge (pc := 81) 109 dX15_mask_81 (by decide) (by omega) hle (fun e => ?_) (fun c9 => ?_)
          · exact done j S5 F5 h5 w5 fS5 fF5 s75 (Or.inr e) (by omega) hle
          have cj : (nI j).toNatClampNeg = j := nI_clamp (by omega)
          have b1 : vp_in (nI j) 48 := vp_in_nI (by omega) (by omega)
          obtain ⟨f8, c8, p8, -⟩ := w5.s 8 (w5.k 8 (by decide))
          obtain ⟨f7, c7, p7, -⟩ := w5.s (B + 7) o.co
          rw [s85] at p8
          rw [s75] at p7
          have hdl : (mskD mk i).length = 48 := sha384_len _
          have bu : vp_in (nI (48 * i + j)) sz := vp_in_nI (by omega) (by omega)
          have cu : (nI (48 * i + j)).toNatClampNeg = 48 * i + j := nI_clamp (by omega)
          refine X_aload_n (pc := 84) 6 dX15_mask_84 rfl rfl ?_
          refine X_bipush (pc := 85) (x := 48) dX15_mask_85 (by decide) ?_
          refine X_iload (pc := 87) 2 dX15_mask_87 rfl ?_
          refine X_imul (pc := 89) dX15_mask_89 ?_
          refine X_iload (pc := 90) 0 dX15_mask_90 rfl ?_
          refine X_iadd (pc := 92) dX15_mask_92 ?_
          rw [show (48 : Int32) * nI i = nI (48 * i) from pk_mul 48 i, nI_add]
          refine X_dup2_11 (pc := 93) dX15_mask_93 rfl rfl ?_
          refine X_baload (pc := 94) dX15_mask_94 c7 bu ?_
          refine X_aload (pc := 95) 1 dX15_mask_95 rfl ?_
          refine X_iload (pc := 97) 0 dX15_mask_97 rfl ?_
          refine X_baload (pc := 99) dX15_mask_99 c8 b1 ?_
          refine X_ixor (pc := 100) dX15_mask_100 ?_
          refine X_i2b (pc := 101) dX15_mask_101 ?_
          refine X_bastore (pc := 102) dX15_mask_102 c7 bu ?_
          rw [cu, cj, p8 j (by omega), p7 _ (by rw [mixL_len]; omega), mixL_at (by omega), if_neg (Nat.lt_irrefl _), toInt8_low, toInt8_low, tb_tb, ← mskB_at mk (show j < 48 by omega), ← hmk]
          have w6 := w5.setS (B + 7) o.co (PL_set p7 (48 * i + j) (mskF E db (48 * i + j))) (by rw [List.length_set, mixL_len]; exact hEs)
          rw [mixL_set] at w6
          refine X_iinc (pc := 103) (L' := [(7, .int (_ + 1)), (6, .ref _), (5, .int _), (0, .ref _), (1, .ref _), (2, .int _), (3, .ref _), (4, .int _)]) 0 dX15_mask_103 rfl rfl (Nat.le_of_ble_eq_true rfl) rfl ?_
          refine X_goto (pc := 106) 64 dX15_mask_106 (by decide) ?_
          rw [show nI j + 1 = nI (j + 1) from nI_add j 1]
          exact ih5 (j + 1) (by omega) _ F5 _ w6 (fun q a b => by rw [up_ne b]; exact fS5 q a b) fF5 (by rw [up_ne (by omega)]; exact s85) (up_same _ _ _) (by omega)
      refine X_bipush (pc := 3) (x := 48) dX15_mask_3 (by decide) ?_
      refine X_iload (pc := 5) 0 dX15_mask_5 rfl ?_
      refine X_imul (pc := 7) dX15_mask_7 ?_
      refine X_iload (pc := 8) 5 dX15_mask_8 rfl ?_
      rw [show (48 : Int32) * nI i = nI (48 * i) from pk_mul 48 i]
      refine X_icmp_ge (pc := 10) 115 dX15_mask_10 (by decide) (fun c => absurd c (nI_ge (by omega) (by omega))) (fun _ => ?_)
      refine X_aload_n (pc := 13) 1 dX15_mask_13 rfl rfl ?_
      refine X_getfield (pc := 14) dX15_mask_14 fg_X15_9_10 (o.ob w1) (by first | rfl | assumption) ?_
      refine X_ivr (pc := 17) _ dX15_mask_17 cv_X15_91_2 (XW.dL w1) rfl (xbeginL_ok g w1) nX2_begin (Nat.le_of_ble_eq_true rfl) (Nat.le_of_ble_eq_true rfl) (Nat.le_of_ble_eq_true rfl) (Nat.le_of_ble_eq_true rfl) (fun r2 h2 q2 => ?_)
      obtain ⟨rfl, d2⟩ := q2
      have h7l : (S1 (B + 7)).length = E.length := by rw [s7]; exact mixL_len _ _ _ _
      refine X_aload_n (pc := 20) 2 dX15_mask_20 rfl rfl ?_
      refine X_iload_n (pc := 21) 3 dX15_mask_21 rfl rfl ?_
      refine X_bipush (pc := 22) (x := 48) dX15_mask_22 (by decide) ?_
      refine X_ivr (pc := 24) _ dX15_mask_24 cv_X15_97_2 (XW.dL d2.1) rfl (xputsL_ok g d2 (ks := B + 7) (fr := db) (n := 48) o.co (by omega) (by rw [s7]; exact hmB _) (by rw [h7l]; exact hl) (by decide)) nX2_put (Nat.le_of_ble_eq_true rfl) (Nat.le_of_ble_eq_true rfl) (Nat.le_of_ble_eq_true rfl) (Nat.le_of_ble_eq_true rfl) (fun r3 h3 q3 => ?_)
      obtain ⟨rfl, d3⟩ := q3
      rw [s7, hms _ (by omega), List.nil_append, ← hmk] at d3
      rw [hmk] at d3
      have z24 : nI i >>> ((24 : Int32) &&& 31) = nI (i / 2 ^ 24) := pk_shrN (by omega) 24 24 (sl_n 24 (by decide))
      have z16 : nI i >>> ((16 : Int32) &&& 31) = nI (i / 2 ^ 16) := pk_shrN (by omega) 16 16 (sl_n 16 (by decide))
      have z8 : nI i >>> ((8 : Int32) &&& 31) = nI (i / 2 ^ 8) := pk_shrN (by omega) 8 8 (sl_n 8 (by decide))
      refine X_iload (pc := 27) 0 dX15_mask_27 rfl ?_
      refine X_bipush (pc := 29) (x := 24) dX15_mask_29 (by decide) ?_
      refine X_ishr (pc := 31) dX15_mask_31 ?_
      rw [z24]
      refine X_ivr (pc := 32) _ dX15_mask_32 cv_X15_111_2 (XW.dL d3.1) rfl (xputL_ok g d3 _ (by rw [mkl]; decide)) nX2_put_2 (Nat.le_of_ble_eq_true rfl) (Nat.le_of_ble_eq_true rfl) (Nat.le_of_ble_eq_true rfl) (Nat.le_of_ble_eq_true rfl) (fun r4 h4 q4 => ?_)
      obtain ⟨rfl, d4⟩ := q4
      refine X_iload (pc := 35) 0 dX15_mask_35 rfl ?_
      refine X_bipush (pc := 37) (x := 16) dX15_mask_37 (by decide) ?_
      refine X_ishr (pc := 39) dX15_mask_39 ?_
      rw [z16]
      refine X_ivr (pc := 40) _ dX15_mask_40 cv_X15_111_2 (XW.dL d4.1) rfl (xputL_ok g d4 _ (by rw [List.length_append, mkl]; show 48 + 1 + 1 < _; decide)) nX2_put_2 (Nat.le_of_ble_eq_true rfl) (Nat.le_of_ble_eq_true rfl) (Nat.le_of_ble_eq_true rfl) (Nat.le_of_ble_eq_true rfl) (fun r5 h5 q5 => ?_)
      obtain ⟨rfl, d5⟩ := q5
      refine X_iload (pc := 43) 0 dX15_mask_43 rfl ?_
      refine X_bipush (pc := 45) (x := 8) dX15_mask_45 (by decide) ?_
      refine X_ishr (pc := 47) dX15_mask_47 ?_
      rw [z8]
      refine X_ivr (pc := 48) _ dX15_mask_48 cv_X15_111_2 (XW.dL d5.1) rfl (xputL_ok g d5 _ (by rw [List.length_append, List.length_append, mkl]; show 48 + 1 + 1 + 1 < _; decide)) nX2_put_2 (Nat.le_of_ble_eq_true rfl) (Nat.le_of_ble_eq_true rfl) (Nat.le_of_ble_eq_true rfl) (Nat.le_of_ble_eq_true rfl) (fun r6 h6 q6 => ?_)
      obtain ⟨rfl, d6⟩ := q6
      refine X_iload (pc := 51) 0 dX15_mask_51 rfl ?_
      refine X_ivr (pc := 53) _ dX15_mask_53 cv_X15_111_2 (XW.dL d6.1) rfl (xputL_ok g d6 _ (by rw [List.length_append, List.length_append, List.length_append, mkl]; show 48 + 1 + 1 + 1 + 1 < _; decide)) nX2_put_2 (Nat.le_of_ble_eq_true rfl) (Nat.le_of_ble_eq_true rfl) (Nat.le_of_ble_eq_true rfl) (Nat.le_of_ble_eq_true rfl) (fun r7 h7 q7 => ?_)
      obtain ⟨rfl, d7⟩ := q7
      rw [tb_i, tb_i, tb_i, tb_i, show i / 2 ^ 24 = 0 by omega, show i / 2 ^ 16 = 0 by omega] at d7
      have em : mk ++ [tb 0] ++ [tb 0] ++ [tb (i / 2 ^ 8)] ++ [tb i] = mk ++ [tb 0, tb 0] ++ [tb (i / 256), tb i] := by
        simp only [List.append_assoc]
        rfl
      rw [em] at d7
      refine X_ivr (pc := 56) _ dX15_mask_56 cv_X15_103_2 (XW.dL d7.1) rfl (endL_ok g d7 (by rw [List.length_append, List.length_append, mkl]; show 48 + 2 + 2 + 300 < _; decide)) nX2_end (Nat.le_of_ble_eq_true rfl) (Nat.le_of_ble_eq_true rfl) (Nat.le_of_ble_eq_true rfl) (Nat.le_of_ble_eq_true rfl) (fun r8 h8 q8 => ?_)
      obtain ⟨rfl, F8, f8, w8⟩ := q8
      refine X_astore (pc := 59) (L' := [(6, .ref _), (5, .int _), (0, .ref _), (1, .ref _), (2, .int _), (3, .ref _), (4, .int _)]) dX15_mask_59 (Nat.le_of_ble_eq_true rfl) rfl ?_
      refine X_iconst (pc := 61) (x := 0) dX15_mask_61 (by decide) ?_
      refine X_istore (pc := 62) (L' := [(7, .int _), (6, .ref _), (5, .int _), (0, .ref _), (1, .ref _), (2, .int _), (3, .ref _), (4, .int _)]) dX15_mask_62 (Nat.le_of_ble_eq_true rfl) rfl ?_
      refine inner 48 0 (by omega) _ F8 h8 w8 (fun q a b => by rw [up_ne a]; exact fS q a b) (fF.trans f8) (up_same _ _ _) (by rw [up_ne (by omega)]; exact s7) (by omega)
  refine X_iconst (pc := 0) (x := 0) dX15_mask_0 (by decide) ?_
  refine X_istore (pc := 1) (L' := [(5, .int _), (0, .ref _), (1, .ref _), (2, .int _), (3, .ref _), (4, .int _)]) dX15_mask_1 (Nat.le_of_ble_eq_true rfl) rfl ?_
  exact loop ((db + 47) / 48) 0 (by omega) S F h w (fun _ _ _ => rfl) (fun _ _ _ => rfl) (by rw [hE, Nat.mul_zero, Nat.zero_min, mixL_0])
end XSg2
