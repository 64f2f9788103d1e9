set_option maxRecDepth 100000
/-! VeilMint's keys of the second type: the code of an input -/
theorem u32_and (x y : Int32) : u32 (x &&& y) = u32 x &&& u32 y := by
  show (x &&& y).toBitVec.toNat = _
  rw [Int32.toBitVec_and, BitVec.toNat_and]
  rfl
theorem tb_and (x : Int32) (c : Nat) : tb (u32 (x &&& nI c)) = tb (u32 (x &&& tb c)) := by
  rw [← tb_mod (u32 (x &&& nI c)), ← tb_mod (u32 (x &&& tb c)), u32_and, u32_and, show (256 : Nat) = 2 ^ 8 from rfl, Nat.and_mod_two_pow, Nat.and_mod_two_pow]
  have e1 : u32 (nI c) % 2 ^ 8 = c % 256 := by
    show u32 (Int32.ofNat c) % 256 = _
    rw [u32_ofNat]
    omega
  have e2 : u32 (tb c) % 2 ^ 8 = c % 256 := b8_tb c
  rw [e1, e2]
theorem rep_at {n j : Nat} : (List.replicate n (0 : Int32)).getD j 0 = 0 := by
  rw [List.getD_eq_getElem?_getD, List.getElem?_replicate]
  split <;> rfl
theorem enc_eq {inn salt E : List Int32} {db s sz c : Nat} (hi : inn.length = 48) (hd : 0 < db) (hsz : db + 49 ≤ sz) (hl : E.length = sz) (h0 : E.getD 0 0 = tb (u32 (tb (u32 (emV salt db s 0 ^^^ mskB inn 0)) &&& tb c))) (h1 : ∀ j, 0 < j → j < db → E.getD j 0 = tb (u32 (emV salt db s j ^^^ mskB inn j)))
    (h2 : ∀ j, j < 48 → E.getD (db + j) 0 = inn.getD j 0) (h3 : E.getD (db + 48) 0 = tb 188) (h4 : ∀ j, db + 49 ≤ j → j < sz → E.getD j 0 = 0) : E = encL inn salt db s c ++ List.replicate (sz - (db + 49)) 0 := by
  have l1 := emX_len inn salt db s
  have l2 : ((emX inn salt db s).set 0 (tb (u32 ((emX inn salt db s).getD 0 0 &&& tb c)))).length = db := by rw [List.length_set, l1]
  have l3 : (encL inn salt db s c).length = db + 49 := by
    unfold encL
    rw [List.length_append, List.length_append, l2, hi]
    rfl
  have ex : ∀ j, j < db → (emX inn salt db s).getD j 0 = tb (u32 (emV salt db s j ^^^ mskB inn j)) := fun j hj => getD_map_range hj
  refine list_ext0 ?_ fun j hj => ?_
  · rw [List.length_append, l3, List.length_replicate, hl]; omega
  rw [hl] at hj
  by_cases c1 : j < db + 49
  · rw [getD_app_lt (by rw [l3]; exact c1)]
    unfold encL
    by_cases c2 : j < db
    · rw [List.append_assoc, getD_app_lt (by rw [l2]; exact c2), set0_at (by rw [l1]; exact hd)]
      by_cases c3 : j = 0
      · rw [if_pos c3, c3, h0, ex 0 hd]
      · rw [if_neg c3, h1 j (by omega) c2, ex j c2]
    · by_cases c4 : j < db + 48
      · rw [getD_app_lt (by rw [List.length_append, l2, hi]; exact c4), getD_app_ge (by rw [l2]; omega), l2, ← h2 (j - db) (by omega), show db + (j - db) = j by omega]
      · have e : j = db + 48 := by omega
        rw [getD_app_ge (by rw [List.length_append, l2, hi]; omega), List.length_append, l2, hi, e, Nat.sub_self, h3]
        rfl
  · rw [getD_app_ge (by rw [l3]; omega), rep_at, h4 j (by omega) hj]
section XSg3
variable {kd : Nat → KD} {A : Nat → Nat} {X : AH} {R : Nat → Nat} {S : Nat → List Int32} {O : Nat → AC} {F : Nat → Int32} {h : AH} {B sz s p mv : Nat} {ng lv : Int32}
theorem set_at {l : List Int32} {x : Int32} {i j : Nat} (hi : i < l.length) : (l.set i x).getD j 0 = if j = i then x else l.getD j 0 := by
  rw [List.getD_eq_getElem?_getD, List.getElem?_set]
  by_cases e : j = i
  · subst e
    rw [if_pos rfl, if_pos hi, if_pos rfl]
    rfl
  · rw [if_neg (fun z => e z.symm), if_neg e, List.getD_eq_getElem?_getD]
/-- the shift that clears the highest bits -/
theorem SgK.top (o : SgK kd A O B sz s p mv ng lv) : (bitsN mv - 1) ≤ 8 * (dbV mv + 49) ∧ 8 * (dbV mv + 49) - (bitsN mv - 1) < 8 ∧ clr (bitsN mv) = 255 / 2 ^ (8 * (dbV mv + 49) - (bitsN mv - 1)) := by
  obtain ⟨h1, -, -, -, h2, h3⟩ := o.db
  refine ⟨by omega, by omega, ?_⟩
  unfold clr
  rw [h1]
set_option maxHeartbeats 16000000 in
theorem encodeX_ok (g : GX) (w : XW kd A X R S O F h) (o : SgK kd A O B sz s p mv ng lv) {ki ni fr ks ns at' : Nat} (hki : kd ki = (6, 2, ni)) (hni : ni < 2 ^ 20) (hk8 : ki ≠ 8) (hBi : IsB (S ki)) (hli : fr + 98 ≤ (S ki).length) (hks : kd ks = (6, 2, ns)) (hns : ns < 2 ^ 20) (hs8 : ks ≠ 8) (hs7 : ks ≠ B + 7) (hsB : ks ≠ B + 8) (hBs : IsB (S ks)) (hls : at' + s ≤ (S ks).length) :
    MT g MX15_encode ({ frames := 5, cells := 0, slots := 0, locals := 135 } : Room) [.ref (A B), .ref (A ki), .int (nI fr), .ref (A ks), .int (nI at')] h
      (RV fun h' => ∃ S' F', (∀ j, j ≠ 8 → j ≠ B + 7 → j ≠ B + 8 → S' j = S j) ∧ XFr F F' ∧ S' (B + 7) = encL (saltH (sub (S ki) fr 98) (sub (S ks) at' s)) (sub (S ks) at' s) (dbV mv) s (clr (bitsN mv)) ++ List.replicate (sz - (dbV mv + 49)) 0 ∧ XW kd A X R S' O F' h') := by
  refine MT.of (by decide) (Nat.le_of_ble_eq_true rfl) ?_
  have hB := o.b
  obtain ⟨h66, h256, -, -, -, -⟩ := o.nu
  obtain ⟨-, hsz, hsd, hs48, hb2, hb3⟩ := o.db
  obtain ⟨ht1, ht2, ht3⟩ := o.top
  have hns2 : at' + s ≤ ns := Nat.le_trans hls (w.s ks hks).choose_spec.2.2
  generalize hst : sub (S ks) at' s = salt
  generalize hin : saltH (sub (S ki) fr 98) salt = inn
  have hinl : inn.length = 48 := by rw [← hin]; exact sha384_len _
  have hinB : IsB inn := by rw [← hin]; exact sha384_B _
  have hsl : ∀ j, j < s → (S ks).getD (at' + j) 0 = salt.getD j 0 := fun j hj => by rw [← hst, sub_getD hj]
  have hsB2 : IsB salt := by rw [← hst]; exact sub_B hBs _ _
  generalize hc : clr (bitsN mv) = c at *
  generalize hd : dbV mv = db at *
  generalize hQ : (RV fun h' => ∃ S' F', (∀ j, j ≠ 8 → j ≠ B + 7 → j ≠ B + 8 → S' j = S j) ∧ XFr F F' ∧ S' (B + 7) = encL inn salt db s c ++ List.replicate (sz - (db + 49)) 0 ∧ XW kd A X R S' O F' h') = Q
  have sub1 : nI (db + 49) - 48 = nI (db + 1) := by rw [show nI (db + 49) - 48 = nI (db + 49) - nI 48 from rfl, pk_sub (by omega)]; rfl
  have sub1' : nI (db + 1) - 1 = nI db := nI_pred db
  have sub2 : nI db - nI s = nI (db - s) := pk_sub (by omega)
  have sub3 : nI (db - s) - 1 = nI (db - s - 1) := by rw [show db - s = db - s - 1 + 1 by omega, nI_pred, Nat.add_sub_cancel]
  have sub4 : nI (db + 49) - 1 = nI (db + 48) := nI_pred (db + 48)
  have le := lengthX_ok g w o
  rw [hd] at le
  have sa := saltedX_ok g w o hki hni hk8 hBi hli hks hns hs8 hsB hBs hls
  rw [hst, hin] at sa
  refine X_aload_n (pc := 0) 0 dX15_encode_0 rfl rfl ?_
  refine X_ivi (pc := 1) _ dX15_encode_1 cv_X15_112_10 (o.ob w) rfl (le) nX15_length (Nat.le_of_ble_eq_true rfl) (Nat.le_of_ble_eq_true rfl) (Nat.le_of_ble_eq_true rfl) (Nat.le_of_ble_eq_true rfl) (fun r1 h1 q1 => ?_)
  obtain ⟨rfl, rfl⟩ := q1
  refine X_istore (pc := 4) (L' := [(5, .int _), (0, .ref _), (1, .ref _), (2, .int _), (3, .ref _), (4, .int _)]) dX15_encode_4 (Nat.le_of_ble_eq_true rfl) rfl ?_
  refine X_iload (pc := 6) 0 dX15_encode_6 rfl ?_
  refine X_bipush (pc := 8) (x := 48) dX15_encode_8 (by decide) ?_
  refine X_isub (pc := 10) dX15_encode_10 ?_
  rw [sub1]
  refine X_iconst (pc := 11) (x := 1) dX15_encode_11 (by decide) ?_
  refine X_isub (pc := 12) dX15_encode_12 ?_
  rw [sub1']
  refine X_istore (pc := 13) (L' := [(6, .int _), (5, .int _), (0, .ref _), (1, .ref _), (2, .int _), (3, .ref _), (4, .int _)]) dX15_encode_13 (Nat.le_of_ble_eq_true rfl) rfl ?_
  refine X_aload_n (pc := 15) 2 dX15_encode_15 rfl rfl ?_
  refine X_aload_n (pc := 16) 3 dX15_encode_16 rfl rfl ?_
  refine X_iload_n (pc := 17) 4 dX15_encode_17 rfl rfl ?_
  refine X_aload_n (pc := 18) 5 dX15_encode_18 rfl rfl ?_
  refine X_iload (pc := 19) 6 dX15_encode_19 rfl ?_
  refine X_ivr (pc := 21) _ dX15_encode_21 cv_X15_116_10 (o.ob w) rfl (sa) nX15_salted (Nat.le_of_ble_eq_true rfl) (Nat.le_of_ble_eq_true rfl) (Nat.le_of_ble_eq_true rfl) (Nat.le_of_ble_eq_true rfl) (fun r2 h2 q2 => ?_)
  obtain ⟨rfl, S2, F2, fS2, fF2, s82, w2⟩ := q2
  -- behind the zeros
  have tail : ∀ (S3 : Nat → List Int32) (h3 : AH), XW kd A X R S3 O F2 h3 → (∀ j, j ≠ B + 7 → S3 j = S2 j) → S3 (B + 7) = List.replicate sz 0 →
      XX g MX15_encode ({ frames := 5, cells := 0, slots := 0, locals := 135 } : Room) Q 0 0 52 [(8, .int (nI sz)), (7, .ref (A 8)), (6, .int (nI db)), (5, .int (nI (db + 49))), (0, .ref (A B)), (1, .ref (A ki)), (2, .int (nI fr)), (3, .ref (A ks)), (4, .int (nI at'))] [] h3 := by
    intro S3 h3 w3 fS3 s73
    have l73 : (S3 (B + 7)).length = sz := by rw [s73, List.length_replicate]
    have e8 : S3 8 = inn := by rw [fS3 8 (by omega)]; exact s82
    obtain ⟨f8, c8, p8, -⟩ := w3.s 8 (w3.k 8 (by decide))
    obtain ⟨f7, c7, p7, -⟩ := w3.s (B + 7) o.co
    refine X_aload (pc := 52) 1 dX15_encode_52 rfl ?_
    refine X_iconst (pc := 54) (x := 0) dX15_encode_54 (by decide) ?_
    refine X_aload_n (pc := 55) 4 dX15_encode_55 rfl rfl ?_
    refine X_getfield (pc := 56) dX15_encode_56 fg_X15_76_10 (o.ob w3) (by first | rfl | assumption) ?_
    refine X_iload (pc := 59) 2 dX15_encode_59 rfl ?_
    refine X_bipush (pc := 61) (x := 48) dX15_encode_61 (by decide) ?_
    refine X_copyI (pc := 63) (0) (db) (48) dX15_encode_63 q753 (Or.inr rfl) c8 c7 rfl rfl rfl (by omega) (by omega) ⟨by omega, by omega⟩ (Nat.le_of_ble_eq_true rfl) (Nat.le_of_ble_eq_true rfl) ?_
    have w4 := w3.cpyM (ks := 8) (kt := B + 7) (sN := 0) (dN := db) (n := 48) o.co p8 p7 (by rw [e8, hinl]; decide) (by rw [l73]; exact Nat.le_refl _)
    rw [e8, s73] at w4
    generalize hset h3 (A (B + 7)) _ = h4 at w4 ⊢
    have eE : layL (List.replicate sz 0) inn db 0 48 = layL (List.replicate sz 0) inn db 0 48 := rfl
    generalize hE4 : layL (List.replicate sz 0) inn db 0 48 = E4 at w4
    have l4 : E4.length = sz := by rw [← hE4, layL_len, List.length_replicate]
    have v4 : ∀ j, j < sz → E4.getD j 0 = if db ≤ j ∧ j < db + 48 then inn.getD (0 + (j - db)) 0 else 0 := fun j hj => by rw [← hE4, layL_at (by rw [List.length_replicate]; exact hj), rep_at]
    have ek4 : up S3 (B + 7) E4 ks = S ks := by rw [up_ne hs7, fS3 ks hs7, fS2 ks hs8 hsB]
    obtain ⟨fs, cs, ps, -⟩ := w4.s ks hks
    obtain ⟨g7, d7, q7, -⟩ := w4.s (B + 7) o.co
    rw [ek4] at ps
    rw [up_same] at q7
    refine X_aload_n (pc := 66) 7 dX15_encode_66 rfl rfl ?_
    refine X_iload (pc := 67) 8 dX15_encode_67 rfl ?_
    refine X_aload_n (pc := 69) 4 dX15_encode_69 rfl rfl ?_
    refine X_getfield (pc := 70) dX15_encode_70 fg_X15_76_10 (o.ob w4) (by first | rfl | assumption) ?_
    refine X_iload (pc := 73) 2 dX15_encode_73 rfl ?_
    refine X_aload_n (pc := 75) 4 dX15_encode_75 rfl rfl ?_
    refine X_getfield (pc := 76) dX15_encode_76 fg_X15_23_10 (o.ob w4) (by first | rfl | assumption) ?_
    refine X_isub (pc := 79) dX15_encode_79 ?_
    rw [sub2]
    refine X_aload_n (pc := 80) 4 dX15_encode_80 rfl rfl ?_
    refine X_getfield (pc := 81) dX15_encode_81 fg_X15_23_10 (o.ob w4) (by first | rfl | assumption) ?_
    refine X_copyI (pc := 84) (at') (db - s) (s) dX15_encode_84 q753 (Or.inr rfl) cs d7 rfl rfl rfl (by omega) (by omega) ⟨by omega, by omega⟩ (Nat.le_of_ble_eq_true rfl) (Nat.le_of_ble_eq_true rfl) ?_
    have w5 := w4.cpyM (ks := ks) (kt := B + 7) (sN := at') (dN := db - s) (n := s) o.co (by rw [ek4]; exact ps) (by rw [up_same]; exact q7) (by rw [ek4]; exact hls) (by rw [up_same, l4]; exact Nat.le_refl _)
    rw [ek4, up_same, up_up'] at w5
    generalize hset h4 (A (B + 7)) _ = h5 at w5 ⊢
    generalize hE5 : layL E4 (S ks) (db - s) at' s = E5 at w5
    have l5 : E5.length = sz := by rw [← hE5, layL_len, l4]
    have v5 : ∀ j, j < sz → E5.getD j 0 = if db - s ≤ j ∧ j < db - s + s then salt.getD (j - (db - s)) 0 else E4.getD j 0 := fun j hj => by
      rw [← hE5, layL_at (by rw [l4]; exact hj)]
      by_cases z : db - s ≤ j ∧ j < db - s + s
      · rw [if_pos z, if_pos z, hsl _ (by omega)]
      · rw [if_neg z, if_neg z]
    obtain ⟨g5, d5, q5, -⟩ := w5.s (B + 7) o.co
    rw [up_same] at q5
    have bd : vp_in (nI (db - s - 1)) sz := vp_in_nI (by omega) (by omega)
    have cd : (nI (db - s - 1)).toNatClampNeg = db - s - 1 := nI_clamp (by omega)
    have b48 : vp_in (nI (db + 48)) sz := vp_in_nI (by omega) (by omega)
    have c48 : (nI (db + 48)).toNatClampNeg = db + 48 := nI_clamp (by omega)
    refine X_aload_n (pc := 87) 4 dX15_encode_87 rfl rfl ?_
    refine X_getfield (pc := 88) dX15_encode_88 fg_X15_76_10 (o.ob w5) (by first | rfl | assumption) ?_
    refine X_iload (pc := 91) 2 dX15_encode_91 rfl ?_
    refine X_aload_n (pc := 93) 4 dX15_encode_93 rfl rfl ?_
    refine X_getfield (pc := 94) dX15_encode_94 fg_X15_23_10 (o.ob w5) (by first | rfl | assumption) ?_
    refine X_isub (pc := 97) dX15_encode_97 ?_
    rw [sub2]
    refine X_iconst (pc := 98) (x := 1) dX15_encode_98 (by decide) ?_
    refine X_isub (pc := 99) dX15_encode_99 ?_
    rw [sub3]
    refine X_iconst (pc := 100) (x := 1) dX15_encode_100 (by decide) ?_
    refine X_bastore (pc := 101) dX15_encode_101 d5 bd ?_
    rw [cd, show (1 : Int32).toInt8.toInt32 = 1 by decide]
    have w6 := w5.setS (B + 7) o.co (PL_set q5 (db - s - 1) 1) (by rw [List.length_set, l5]; exact Nat.le_refl _)
    rw [up_up'] at w6
    generalize hset h5 (A (B + 7)) _ = h6 at w6 ⊢
    generalize hE6 : E5.set (db - s - 1) 1 = E6 at w6
    have l6 : E6.length = sz := by rw [← hE6, List.length_set, l5]
    have v6 : ∀ j, E6.getD j 0 = if j = db - s - 1 then 1 else E5.getD j 0 := fun j => by rw [← hE6, set_at (by rw [l5]; omega)]
    obtain ⟨g6, d6, q6, -⟩ := w6.s (B + 7) o.co
    rw [up_same] at q6
    refine X_aload_n (pc := 102) 4 dX15_encode_102 rfl rfl ?_
    refine X_getfield (pc := 103) dX15_encode_103 fg_X15_76_10 (o.ob w6) (by first | rfl | assumption) ?_
    refine X_iload (pc := 106) 3 dX15_encode_106 rfl ?_
    refine X_iconst (pc := 108) (x := 1) dX15_encode_108 (by decide) ?_
    refine X_isub (pc := 109) dX15_encode_109 ?_
    rw [sub4]
    refine X_bipush (pc := 110) (x := (-68)) dX15_encode_110 (by decide) ?_
    refine X_bastore (pc := 112) dX15_encode_112 d6 b48 ?_
    rw [c48, show (-68 : Int32).toInt8.toInt32 = tb 188 by decide]
    have w7 := w6.setS (B + 7) o.co (PL_set q6 (db + 48) (tb 188)) (by rw [List.length_set, l6]; exact Nat.le_refl _)
    rw [up_up'] at w7
    generalize hset h6 (A (B + 7)) _ = h7 at w7 ⊢
    generalize hE7 : E6.set (db + 48) (tb 188) = E7 at w7
    have l7 : E7.length = sz := by rw [← hE7, List.length_set, l6]
    have v7 : ∀ j, E7.getD j 0 = if j = db + 48 then tb 188 else E6.getD j 0 := fun j => by rw [← hE7, set_at (by rw [l6]; omega)]
    -- its values
    have a1 : ∀ j, j < db → E7.getD j 0 = emV salt db s j := fun j hj => by
      rw [v7, if_neg (by omega), v6]
      unfold emV
      by_cases z : j = db - s - 1
      · rw [if_pos z, if_neg (by omega), if_pos z]
      · rw [if_neg z, v5 j (by omega)]
        by_cases z2 : j < db - s - 1
        · rw [if_pos z2, if_neg (by omega), v4 j (by omega), if_neg (by omega)]
        · rw [if_neg z2, if_neg z, if_pos (by omega)]
    have a2 : ∀ j, j < 48 → E7.getD (db + j) 0 = inn.getD j 0 := fun j hj => by
      rw [v7, if_neg (by omega), v6, if_neg (by omega), v5 _ (by omega), if_neg (by omega), v4 _ (by omega), if_pos (by omega), Nat.zero_add, Nat.add_sub_cancel_left]
    have a3 : E7.getD (db + 48) 0 = tb 188 := by rw [v7, if_pos rfl]
    have a4 : ∀ j, db + 49 ≤ j → j < sz → E7.getD j 0 = 0 := fun j h1 h2 => by
      rw [v7, if_neg (by omega), v6, if_neg (by omega), v5 _ h2, if_neg (by omega), v4 _ h2, if_neg (by omega)]
    have t00 : tb (u32 (0 : Int32)) = 0 := by decide
    have t11 : tb (u32 (1 : Int32)) = 1 := by decide
    have hB7 : IsB E7 := fun x hx => by
      obtain ⟨j, hj, rfl⟩ := List.getElem_of_mem hx
      have e : E7[j] = E7.getD j 0 := by rw [List.getD_eq_getElem?_getD, List.getElem?_eq_getElem hj]; rfl
      rw [e]
      by_cases z1 : j < db
      · rw [a1 j z1]
        unfold emV
        by_cases z2 : j < db - s - 1
        · rw [if_pos z2]; exact t00
        · rw [if_neg z2]
          by_cases z3 : j = db - s - 1
          · rw [if_pos z3]; exact t11
          · rw [if_neg z3]; exact hsB2.at' _
      · by_cases z4 : j < db + 48
        · rw [show j = db + (j - db) by omega, a2 _ (by omega)]; exact hinB.at' _
        · by_cases z5 : j = db + 48
          · rw [z5, a3]; exact tb_tb _
          · rw [a4 j (by omega) (by omega)]; exact t00
    have hmk : sub E7 db 48 = inn := by
      refine list_ext0 (by rw [sub_len, hinl]) fun j hj => ?_
      rw [sub_len] at hj
      rw [sub_getD hj, a2 j hj]
    refine X_aload_n (pc := 113) 4 dX15_encode_113 rfl rfl ?_
    refine X_aload_n (pc := 114) 4 dX15_encode_114 rfl rfl ?_
    refine X_getfield (pc := 115) dX15_encode_115 fg_X15_76_10 (o.ob w7) (by first | rfl | assumption) ?_
    refine X_iload (pc := 118) 2 dX15_encode_118 rfl ?_
    refine X_aload_n (pc := 120) 4 dX15_encode_120 rfl rfl ?_
    refine X_getfield (pc := 121) dX15_encode_121 fg_X15_76_10 (o.ob w7) (by first | rfl | assumption) ?_
    refine X_iload (pc := 124) 2 dX15_encode_124 rfl ?_
    refine X_ivv (pc := 126) _ dX15_encode_126 cv_X15_120_10 (o.ob w7) rfl (maskX_ok g w7 o (E := E7) (db := db) (up_same _ _ _) hB7 (by omega)) nX15_mask (Nat.le_of_ble_eq_true rfl) (Nat.le_of_ble_eq_true rfl) (Nat.le_of_ble_eq_true rfl) (Nat.le_of_ble_eq_true rfl) (fun h8 q8 => ?_)
    obtain ⟨S8, F8, fS8, fF8, s78, w8⟩ := q8
    rw [l7] at s78
    have x8 : ∀ j, j < sz → (S8 (B + 7)).getD j 0 = if j < db then tb (u32 (E7.getD j 0 ^^^ mskB inn j)) else E7.getD j 0 := fun j hj => by
      rw [s78, mixL_at hj]
      unfold mskF
      rw [hmk]
    have l8 : (S8 (B + 7)).length = sz := by rw [s78]; exact mixL_len _ _ _ _
    obtain ⟨g8, d8, q8, -⟩ := w8.s (B + 7) o.co
    have b0 : vp_in (0 : Int32) sz := vp_in_nI (n := 0) (by omega) (by omega)
    refine X_aload_n (pc := 129) 4 dX15_encode_129 rfl rfl ?_
    refine X_getfield (pc := 130) dX15_encode_130 fg_X15_76_10 (o.ob w8) (by first | rfl | assumption) ?_
    refine X_iconst (pc := 133) (x := 0) dX15_encode_133 (by decide) ?_
    refine X_dup2_11 (pc := 134) dX15_encode_134 rfl rfl ?_
    refine X_baload (pc := 135) dX15_encode_135 d8 b0 ?_
    refine X_sipush (pc := 136) (x := 255) dX15_encode_136 (by decide) ?_
    refine X_bipush (pc := 139) (x := 8) dX15_encode_139 (by decide) ?_
    refine X_iload (pc := 141) 3 dX15_encode_141 rfl ?_
    refine X_imul (pc := 143) dX15_encode_143 ?_
    rw [show (8 : Int32) * nI (db + 49) = nI (8 * (db + 49)) from pk_mul 8 _]
    refine X_aload_n (pc := 144) 4 dX15_encode_144 rfl rfl ?_
    refine X_getfield (pc := 145) dX15_encode_145 fg_X15_88_10 (o.ob w8) (by first | rfl | assumption) ?_
    refine X_isub (pc := 148) dX15_encode_148 ?_
    rw [pk_sub ht1]
    refine X_ishr (pc := 149) dX15_encode_149 ?_
    refine X_iand (pc := 150) dX15_encode_150 ?_
    refine X_i2b (pc := 151) dX15_encode_151 ?_
    rw [show (255 : Int32) >>> (nI (8 * (db + 49) - (bitsN mv - 1)) &&& 31) = nI (255 / 2 ^ (8 * (db + 49) - (bitsN mv - 1))) from pk_shrN (n := 255) (by decide) _ _ (sl_n _ (by omega)), ← ht3]
    refine X_bastore (pc := 152) dX15_encode_152 d8 b0 ?_
    rw [show ((0 : Int32).toNatClampNeg) = 0 from rfl, Int8.toInt8_toInt32, toInt8_low, tb_and, q8 0 (by omega)]
    have w9 := w8.setS (B + 7) o.co (PL_set q8 0 (tb (u32 ((S8 (B + 7)).getD 0 0 &&& tb c)))) (by rw [List.length_set, l8]; exact Nat.le_refl _)
    subst hQ
    refine X_return (pc := 153) dX15_encode_153 rfl (Nat.le_of_ble_eq_true rfl) (Nat.le_of_ble_eq_true rfl) ?_
    refine ⟨rfl, _, F8, fun j n8 n7 nb => ?_, fF2.trans fF8, ?_, w9⟩
    · rw [up_ne n7, fS8 j n8 n7, up_ne n7, fS3 j n7, fS2 j n8 nb]
    · rw [up_same]
      refine enc_eq hinl (by omega) (by omega) (by rw [List.length_set, l8]) ?_ (fun j h1 h2 => ?_) (fun j hj => ?_) ?_ (fun j h1 h2 => ?_)
      · rw [set0_at (by omega), if_pos rfl, x8 0 (by omega), if_pos (by omega), a1 0 (by omega)]
      · rw [set0_at (by omega), if_neg (by omega), x8 j (by omega), if_pos h2, a1 j h2]
      · rw [set0_at (by omega), if_neg (by omega), x8 _ (by omega), if_neg (by omega), a2 j hj]
      · rw [set0_at (by omega), if_neg (by omega), x8 _ (by omega), if_neg (by omega), a3]
      · rw [set0_at (by omega), if_neg (by omega), x8 j h2, if_neg (by omega), a4 j h1 h2]
  have loop : ∀ m i, i + m = sz → ∀ (S3 : Nat → List Int32) (h3 : AH), XW kd A X R S3 O F2 h3 → (∀ j, j ≠ B + 7 → S3 j = S2 j) → S3 (B + 7) = List.replicate i 0 →
      XX g MX15_encode ({ frames := 5, cells := 0, slots := 0, locals := 135 } : Room) Q 0 0 29 [(8, .int (nI i)), (7, .ref (A 8)), (6, .int (nI db)), (5, .int (nI (db + 49))), (0, .ref (A B)), (1, .ref (A ki)), (2, .int (nI fr)), (3, .ref (A ks)), (4, .int (nI at'))] [] h3 := by
    intro m
    induction m with
    | zero =>
      intro i hi S3 h3 w3 fS3 s73
      have e : i = sz := by omega
      subst e
      refine X_iload (pc := 29) 0 dX15_encode_29 rfl ?_
      refine X_aload_n (pc := 31) 4 dX15_encode_31 rfl rfl ?_
      refine X_getfield (pc := 32) dX15_encode_32 fg_X15_19_10 (o.ob w3) (by first | rfl | assumption) ?_
      refine X_cge (pc := 35) 52 dX15_encode_35 (by decide) (by omega) (by omega) (fun _ => ?_) (fun c => absurd c (by omega))
      exact tail S3 h3 w3 fS3 s73
    | succ m ih =>
      intro i hi S3 h3 w3 fS3 s73
      obtain ⟨f7, c7, p7, -⟩ := w3.s (B + 7) o.co
      have bi : vp_in (nI i) sz := vp_in_nI (by omega) (by omega)
      have ci : (nI i).toNatClampNeg = i := nI_clamp (by omega)
      have l7 : (S3 (B + 7)).length = i := by rw [s73, List.length_replicate]
      refine X_iload (pc := 29) 0 dX15_encode_29 rfl ?_
      refine X_aload_n (pc := 31) 4 dX15_encode_31 rfl rfl ?_
      refine X_getfield (pc := 32) dX15_encode_32 fg_X15_19_10 (o.ob w3) (by first | rfl | assumption) ?_
      refine X_cge (pc := 35) 52 dX15_encode_35 (by decide) (by omega) (by omega) (fun c => absurd c (by omega)) (fun _ => ?_)
      refine X_aload_n (pc := 38) 4 dX15_encode_38 rfl rfl ?_
      refine X_getfield (pc := 39) dX15_encode_39 fg_X15_76_10 (o.ob w3) (by first | rfl | assumption) ?_
      refine X_iload (pc := 42) 0 dX15_encode_42 rfl ?_
      refine X_iconst (pc := 44) (x := 0) dX15_encode_44 (by decide) ?_
      refine X_bastore (pc := 45) dX15_encode_45 c7 bi ?_
      rw [ci, show (0 : Int32).toInt8.toInt32 = 0 by decide]
      have w4 := w3.setS (B + 7) o.co (PL_snoc (x := (0 : Int32)) p7) (by rw [List.length_append, l7]; show i + 1 ≤ sz; omega)
      rw [l7, s73, ← List.replicate_succ'] at w4
      refine X_iinc (pc := 46) (L' := [(8, .int (_ + 1)), (7, .ref _), (6, .int _), (5, .int _), (0, .ref _), (1, .ref _), (2, .int _), (3, .ref _), (4, .int _)]) 0 dX15_encode_46 rfl rfl (Nat.le_of_ble_eq_true rfl) rfl ?_
      refine X_goto (pc := 49) 29 dX15_encode_49 (by decide) ?_
      rw [show nI i + 1 = nI (i + 1) from nI_add i 1]
      exact ih (i + 1) (by omega) _ _ w4 (fun j hj => by rw [up_ne hj]; exact fS3 j hj) (up_same _ _ _)
  refine X_astore (pc := 24) (L' := [(7, .ref _), (6, .int _), (5, .int _), (0, .ref _), (1, .ref _), (2, .int _), (3, .ref _), (4, .int _)]) dX15_encode_24 (Nat.le_of_ble_eq_true rfl) rfl ?_
  refine X_iconst (pc := 26) (x := 0) dX15_encode_26 (by decide) ?_
  refine X_istore (pc := 27) (L' := [(8, .int _), (7, .ref _), (6, .int _), (5, .int _), (0, .ref _), (1, .ref _), (2, .int _), (3, .ref _), (4, .int _)]) dX15_encode_27 (Nat.le_of_ble_eq_true rfl) rfl ?_
  exact loop sz 0 (by omega) _ h2 (w2.nilS o.co) (fun j hj => up_ne hj) (up_same _ _ _)
end XSg3
