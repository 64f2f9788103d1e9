set_option maxRecDepth 100000
/-! VeilMint's keys of the second type: whether a number is the code of an input -/
theorem top_ok : ∀ b : Fin 256, ∀ t : Fin 8, ((tb b.val &&& (nI (255 / 2 ^ t.val) ^^^ (-1))) &&& 255 = 0) ↔ b.val / 2 ^ (8 - t.val) = 0 := by decide +kernel
theorem top_of {x : Int32} (hx : tb (u32 x) = x) {t : Nat} (ht : t < 8) : ((x &&& (nI (255 / 2 ^ t) ^^^ (-1))) &&& 255 = 0) ↔ b8 x / 2 ^ (8 - t) = 0 := by
  have := top_ok ⟨b8 x, Nat.mod_lt _ (by decide)⟩ ⟨t, ht⟩
  dsimp only at this
  rw [tb_b8 hx] at this
  exact this
theorem tb_0 {x : Nat} : tb x = 0 ↔ x % 256 = 0 := by
  constructor
  · intro e
    rw [← b8_tb, e]
    rfl
  · intro e
    rw [← tb_mod, e]
    decide
theorem osB_sub {v sz n : Nat} (h : n ≤ sz) : sub (osB v sz) (sz - n) n = osB v n := by
  refine list_ext0 (by rw [sub_len, osB_len]) fun j hj => ?_
  rw [sub_len] at hj
  rw [sub_getD hj, byte_le (by omega), byte_le hj, show sz - 1 - (sz - n + j) = n - 1 - j by omega]
section XSg4
variable {kd : Nat → KD} {A : Nat → Nat} {X : AH} {R : Nat → Nat} {S : Nat → List Int32} {O : Nat → AC} {F : Nat → Int32} {h : AH} {B sz s p mv : Nat} {ng lv : Int32}
set_option maxHeartbeats 16000000 in
theorem isCodeX_ok (g : GX) (w : XW kd A X R S O F h) (o : SgK kd A O B sz s p mv ng lv) {v : Nat} (hv : R (B + 5) = v) (hv2 : v < 256 ^ sz) {ki ni fr : Nat} (hki : kd ki = (6, 2, ni)) (hni : ni < 2 ^ 20) (hk8 : ki ≠ 8) (hk7 : ki ≠ B + 7) (hkb : ki ≠ B + 8) (hBi : IsB (S ki)) (hli : fr + 98 ≤ (S ki).length) :
    MT g MX15_isCode ({ frames := 5, cells := 1, slots := 256, locals := 135 } : Room) [.ref (A B), .ref (A ki), .int (nI fr)] h
      (RI fun r h' => ((r = 1 ∧ sgOk (sub (S ki) fr 98) v (dbV mv) s (clr (bitsN mv))) ∨ (r = 0 ∧ ¬ sgOk (sub (S ki) fr 98) v (dbV mv) s (clr (bitsN mv)))) ∧ ∃ S' F', (∀ j, j ≠ 8 → j ≠ B + 7 → j ≠ B + 8 → S' j = S j) ∧ XFr F F' ∧ XW kd A X R S' O F' h') := by
  refine MT.of (by decide) (Nat.le_of_ble_eq_true rfl) ?_
  have hB := o.b
  obtain ⟨h66, h256, hp, -, -, -⟩ := o.nu
  obtain ⟨-, hsz, hsd, hs48, hb2, hb3⟩ := o.db
  obtain ⟨ht1, ht2, ht3⟩ := o.top
  generalize hin : sub (S ki) fr 98 = inp
  have le := lengthX_ok g w o
  generalize hc : clr (bitsN mv) = c at *
  generalize hd : dbV mv = db at *
  generalize htt : 8 * (db + 49) - (bitsN mv - 1) = t at *
  generalize hcond : sgOk inp v db s c = cond
  generalize hQ : (RI fun r h' => ((r = 1 ∧ cond) ∨ (r = 0 ∧ ¬ cond)) ∧ ∃ S' F', (∀ j, j ≠ 8 → j ≠ B + 7 → j ≠ B + 8 → S' j = S j) ∧ XFr F F' ∧ XW kd A X R S' O F' h') = Q
  have no : ∀ (S' : Nat → List Int32) (F' : Nat → Int32) (h' : AH), XW kd A X R S' O F' h' → (∀ j, j ≠ 8 → j ≠ B + 7 → j ≠ B + 8 → S' j = S j) → XFr F F' → ¬ cond → Q (.returned (some (.int 0))) h' := by
    intro S' F' h' w' fS fF nc
    subst hQ
    exact ⟨0, rfl, Or.inr ⟨rfl, nc⟩, S', F', fS, fF, w'⟩
  have sub1 : nI (db + 49) - 48 = nI (db + 1) := by rw [show nI (db + 49) - 48 = nI (db + 49) - nI 48 from rfl, pk_sub (by omega)]; rfl
  have sub1' : nI (db + 1) - 1 = nI db := nI_pred db
  have sub2 : nI db - nI s = nI (db - s) := pk_sub (by omega)
  have sub3 : nI (db - s) - 1 = nI (db - s - 1) := by rw [show db - s = db - s - 1 + 1 by omega, nI_pred, Nat.add_sub_cancel]
  have sub4 : nI (db + 49) - 1 = nI (db + 48) := nI_pred (db + 48)
  have hol := osB_len v (db + 49)
  have hoB := osB_B v (db + 49)
  have hyl := osY_len v db c
  have hyB := osY_B v db c
  -- the last loop
  have loopD : ∀ (E inn : List Int32) (S' : Nat → List Int32) (F' : Nat → Int32) (h' : AH), XW kd A X R S' O F' h' → (∀ j, j ≠ 8 → j ≠ B + 7 → j ≠ B + 8 → S' j = S j) → XFr F F' → S' (B + 7) = E → S' 8 = inn → inn.length = 48 → E.length = db + 49 → ((∀ j, j < 48 → inn.getD j 0 = E.getD (db + j) 0) ↔ cond) →
      ∀ (a4 : Nat) (r5 : Int32) m i, i + m = 48 → ∀ y : Int32, ((y = 1 ∧ ∀ j, j < i → inn.getD j 0 = E.getD (db + j) 0) ∨ (y = 0 ∧ ¬ ∀ j, j < i → inn.getD j 0 = E.getD (db + j) 0)) →
      XX g MX15_isCode ({ frames := 5, cells := 1, slots := 256, locals := 135 } : Room) Q 1 256 228 [(10, .int (nI i)), (9, .int y), (8, .ref (A 8)), (7, .int (nI t)), (6, .int (nI db)), (5, .int r5), (4, .ref a4), (3, .int (nI (db + 49))), (0, .ref (A B)), (1, .ref (A ki)), (2, .int (nI fr))] [] h' := by
    intro E inn S' F' h' w' fS fF s7 s8 hil hEl hiff a4 r5 m
    induction m with
    | zero =>
      intro i hi y hy
      have ei : i = 48 := by omega
      subst ei
      refine X_iload (pc := 228) 0 dX15_isCode_228 rfl ?_
      refine X_bipush (pc := 230) (x := 48) dX15_isCode_230 (by decide) ?_
      refine X_cge (a := 48) (b := 48) (pc := 232) 271 dX15_isCode_232 (by decide) (by omega) (by omega) (fun _ => ?_) (fun c => absurd c (by omega))
      refine X_iload (pc := 271) 1 dX15_isCode_271 rfl ?_
      rcases hy with ⟨rfl, hy⟩ | ⟨rfl, hy⟩
      · refine X_zreturn (pc := 273) dX15_isCode_273 rfl (by first | exact Or.inl rfl | exact Or.inr rfl | assumption | exact zo_if) (Nat.le_of_ble_eq_true rfl) (Nat.le_of_ble_eq_true rfl) ?_
        subst hQ
        exact ⟨1, rfl, Or.inl ⟨rfl, hiff.mp hy⟩, S', F', fS, fF, w'⟩
      · refine X_zreturn (pc := 273) dX15_isCode_273 rfl (by first | exact Or.inl rfl | exact Or.inr rfl | assumption | exact zo_if) (Nat.le_of_ble_eq_true rfl) (Nat.le_of_ble_eq_true rfl) ?_
        exact no S' F' h' w' fS fF (fun z => hy (hiff.mpr z))
    | succ m ih =>
      intro i hi y hy
      have fin : ∀ y' : Int32, ((y' = 1 ∧ ∀ j, j < i + 1 → inn.getD j 0 = E.getD (db + j) 0) ∨ (y' = 0 ∧ ¬ ∀ j, j < i + 1 → inn.getD j 0 = E.getD (db + j) 0)) →
          XX g MX15_isCode ({ frames := 5, cells := 1, slots := 256, locals := 135 } : Room) Q 1 256 263 [(10, .int (nI i)), (9, .int y), (8, .ref (A 8)), (7, .int (nI t)), (6, .int (nI db)), (5, .int r5), (4, .ref a4), (3, .int (nI (db + 49))), (0, .ref (A B)), (1, .ref (A ki)), (2, .int (nI fr))] [.int y'] h' := by
        intro y' hy'
        refine X_istore (pc := 263) (L' := [(9, .int _), (10, .int _), (8, .ref _), (7, .int _), (6, .int _), (5, .int _), (4, .ref _), (3, .int _), (0, .ref _), (1, .ref _), (2, .int _)]) dX15_isCode_263 (Nat.le_of_ble_eq_true rfl) rfl ?_
        refine X_iinc (pc := 265) (L' := [(10, .int (_ + 1)), (9, .int _), (8, .ref _), (7, .int _), (6, .int _), (5, .int _), (4, .ref _), (3, .int _), (0, .ref _), (1, .ref _), (2, .int _)]) 1 dX15_isCode_265 rfl rfl (Nat.le_of_ble_eq_true rfl) rfl ?_
        refine X_goto (pc := 268) 228 dX15_isCode_268 (by decide) ?_
        rw [show nI i + 1 = nI (i + 1) from nI_add i 1]
        exact ih (i + 1) (by omega) y' hy'
      obtain ⟨f7, c7, p7, -⟩ := w'.s (B + 7) o.co
      obtain ⟨f8, c8, p8, -⟩ := w'.s 8 (w'.k 8 (by decide))
      rw [s7] at p7
      rw [s8] at p8
      have b5 : vp_in (nI (db + i)) sz := vp_in_nI (by omega) (by omega)
      have c5 : (nI (db + i)).toNatClampNeg = db + i := nI_clamp (by omega)
      have b6 : vp_in (nI i) 48 := vp_in_nI (by omega) (by omega)
      have c6 : (nI i).toNatClampNeg = i := nI_clamp (by omega)
      refine X_iload (pc := 228) 0 dX15_isCode_228 rfl ?_
      refine X_bipush (pc := 230) (x := 48) dX15_isCode_230 (by decide) ?_
      refine X_cge (b := 48) (pc := 232) 271 dX15_isCode_232 (by decide) (by omega) (by omega) (fun c => absurd c (by omega)) (fun _ => ?_)
      refine X_iload (pc := 235) 1 dX15_isCode_235 rfl ?_
      rcases hy with ⟨rfl, hy⟩ | ⟨rfl, hy⟩
      · refine X_if_eq (pc := 237) 262 dX15_isCode_237 (by decide) (fun z => absurd z (by decide)) (fun _ => ?_)
        refine X_aload (pc := 240) 2 dX15_isCode_240 rfl ?_
        refine X_iload (pc := 242) 0 dX15_isCode_242 rfl ?_
        refine X_baload (pc := 244) dX15_isCode_244 c8 b6 ?_
        refine X_aload_n (pc := 245) 8 dX15_isCode_245 rfl rfl ?_
        refine X_getfield (pc := 246) dX15_isCode_246 fg_X15_76_10 (o.ob w') (by first | rfl | assumption) ?_
        refine X_iload (pc := 249) 4 dX15_isCode_249 rfl ?_
        refine X_iload (pc := 251) 0 dX15_isCode_251 rfl ?_
        refine X_iadd (pc := 253) dX15_isCode_253 ?_
        rw [nI_add]
        refine X_baload (pc := 254) dX15_isCode_254 c7 b5 ?_
        rw [c5, c6, p7 _ (by omega), p8 _ (by omega)]
        by_cases ce : inn.getD i 0 = E.getD (db + i) 0
        · refine X_icmp_ne (pc := 255) 262 dX15_isCode_255 (by decide) (fun z => absurd ce z) (fun _ => ?_)
          refine X_iconst (pc := 258) (x := 1) dX15_isCode_258 (by decide) ?_
          refine X_goto (pc := 259) 263 dX15_isCode_259 (by decide) ?_
          refine fin 1 (Or.inl ⟨rfl, fun j hj => ?_⟩)
          by_cases ej : j = i
          · rw [ej]; exact ce
          · exact hy j (by omega)
        · refine X_icmp_ne (pc := 255) 262 dX15_isCode_255 (by decide) (fun _ => ?_) (fun z => absurd z ce)
          refine X_iconst (pc := 262) (x := 0) dX15_isCode_262 (by decide) ?_
          exact fin 0 (Or.inr ⟨rfl, fun z => ce (z i (by omega))⟩)
      · refine X_if_eq (pc := 237) 262 dX15_isCode_237 (by decide) (fun _ => ?_) (fun z => absurd rfl z)
        refine X_iconst (pc := 262) (x := 0) dX15_isCode_262 (by decide) ?_
        exact fin 0 (Or.inr ⟨rfl, fun z => hy fun j hj => z j (by omega)⟩)
  -- behind the copy
  have mid : ∀ (S4 : Nat → List Int32) (h4 : AH) (a4 : Nat) (r5 : Int32), v < 256 ^ (db + 49) → XW kd A X R S4 O F h4 → (∀ j, j ≠ 8 → j ≠ B + 7 → j ≠ B + 8 → S4 j = S j) → S4 (B + 7) = osB v (db + 49) →
      XX g MX15_isCode ({ frames := 5, cells := 1, slots := 256, locals := 135 } : Room) Q 1 256 63 [(5, .int r5), (4, .ref a4), (3, .int (nI (db + 49))), (0, .ref (A B)), (1, .ref (A ki)), (2, .int (nI fr))] [] h4 := by
    intro S4 h4 a4 r5 hvs w4 fS4 s74
    generalize hoo : osB v (db + 49) = ol at *
    obtain ⟨f7, c7, p7, -⟩ := w4.s (B + 7) o.co
    rw [s74] at p7
    have b48 : vp_in (nI (db + 48)) sz := vp_in_nI (by omega) (by omega)
    have c48 : (nI (db + 48)).toNatClampNeg = db + 48 := nI_clamp (by omega)
    have b0 : vp_in (0 : Int32) sz := vp_in_nI (n := 0) (by omega) (by omega)
    refine X_iload_n (pc := 63) 2 dX15_isCode_63 rfl rfl ?_
    refine X_bipush (pc := 64) (x := 48) dX15_isCode_64 (by decide) ?_
    refine X_isub (pc := 66) dX15_isCode_66 ?_
    rw [sub1]
    refine X_iconst (pc := 67) (x := 1) dX15_isCode_67 (by decide) ?_
    refine X_isub (pc := 68) dX15_isCode_68 ?_
    rw [sub1']
    refine X_istore (pc := 69) (L' := [(6, .int _), (5, .int _), (4, .ref _), (3, .int _), (0, .ref _), (1, .ref _), (2, .int _)]) dX15_isCode_69 (Nat.le_of_ble_eq_true rfl) rfl ?_
    refine X_bipush (pc := 71) (x := 8) dX15_isCode_71 (by decide) ?_
    refine X_iload_n (pc := 73) 3 dX15_isCode_73 rfl rfl ?_
    refine X_imul (pc := 74) dX15_isCode_74 ?_
    rw [show (8 : Int32) * nI (db + 49) = nI (8 * (db + 49)) from pk_mul 8 _]
    refine X_aload_n (pc := 75) 4 dX15_isCode_75 rfl rfl ?_
    refine X_getfield (pc := 76) dX15_isCode_76 fg_X15_88_10 (o.ob w4) (by first | rfl | assumption) ?_
    refine X_isub (pc := 79) dX15_isCode_79 ?_
    rw [pk_sub ht1, htt]
    refine X_istore (pc := 80) (L' := [(7, .int _), (6, .int _), (5, .int _), (4, .ref _), (3, .int _), (0, .ref _), (1, .ref _), (2, .int _)]) dX15_isCode_80 (Nat.le_of_ble_eq_true rfl) rfl ?_
    refine X_aload_n (pc := 82) 5 dX15_isCode_82 rfl rfl ?_
    refine X_getfield (pc := 83) dX15_isCode_83 fg_X15_76_10 (o.ob w4) (by first | rfl | assumption) ?_
    refine X_iload_n (pc := 86) 4 dX15_isCode_86 rfl rfl ?_
    refine X_iconst (pc := 87) (x := 1) dX15_isCode_87 (by decide) ?_
    refine X_isub (pc := 88) dX15_isCode_88 ?_
    rw [sub4]
    refine X_baload (pc := 89) dX15_isCode_89 c7 b48 ?_
    refine X_bipush (pc := 90) (x := (-68)) dX15_isCode_90 (by decide) ?_
    rw [c48, p7 _ (by omega)]
    by_cases e1 : ol.getD (db + 48) 0 = -68
    · refine X_icmp_ne (pc := 92) 114 dX15_isCode_92 (by decide) (fun z => absurd e1 z) (fun _ => ?_)
      refine X_aload_n (pc := 95) 5 dX15_isCode_95 rfl rfl ?_
      refine X_getfield (pc := 96) dX15_isCode_96 fg_X15_76_10 (o.ob w4) (by first | rfl | assumption) ?_
      refine X_iconst (pc := 99) (x := 0) dX15_isCode_99 (by decide) ?_
      refine X_baload (pc := 100) dX15_isCode_100 c7 b0 ?_
      refine X_sipush (pc := 101) (x := 255) dX15_isCode_101 (by decide) ?_
      refine X_iand (pc := 104) dX15_isCode_104 ?_
      rw [show ((0 : Int32).toNatClampNeg) = 0 from rfl, p7 0 (by omega), pk_and _ (m := 255) 8 rfl]
      refine X_bipush (pc := 105) (x := 8) dX15_isCode_105 (by decide) ?_
      refine X_iload (pc := 107) 0 dX15_isCode_107 rfl ?_
      refine X_isub (pc := 109) dX15_isCode_109 ?_
      rw [show (8 : Int32) - nI t = nI (8 - t) from pk_sub (a := 8) (by omega)]
      refine X_ishr (pc := 110) dX15_isCode_110 ?_
      have hbb : b8 (ol.getD 0 0) < 256 := Nat.mod_lt _ (by decide)
      rw [show nI ((ol.getD 0 0).toBitVec.toNat % 2 ^ 8) >>> (nI (8 - t) &&& 31) = nI (b8 (ol.getD 0 0) / 2 ^ (8 - t)) from pk_shrN (n := b8 (ol.getD 0 0)) (by omega) _ _ (sl_n _ (by omega))]
      have etop := top_of (x := ol.getD 0 0) (hoB.at' 0) ht2
      rw [← ht3] at etop
      by_cases e2 : b8 (ol.getD 0 0) / 2 ^ (8 - t) = 0
      · rw [e2]
        refine X_if_eq (pc := 111) 116 dX15_isCode_111 (by decide) (fun _ => ?_) (fun z => absurd rfl z)
        have e2' := etop.mpr e2
        refine X_aload_n (pc := 116) 5 dX15_isCode_116 rfl rfl ?_
        refine X_aload_n (pc := 117) 5 dX15_isCode_117 rfl rfl ?_
        refine X_getfield (pc := 118) dX15_isCode_118 fg_X15_76_10 (o.ob w4) (by first | rfl | assumption) ?_
        refine X_iload (pc := 121) 1 dX15_isCode_121 rfl ?_
        refine X_aload_n (pc := 123) 5 dX15_isCode_123 rfl rfl ?_
        refine X_getfield (pc := 124) dX15_isCode_124 fg_X15_76_10 (o.ob w4) (by first | rfl | assumption) ?_
        refine X_iload (pc := 127) 1 dX15_isCode_127 rfl ?_
        refine X_ivv (pc := 129) _ dX15_isCode_129 cv_X15_120_10 (o.ob w4) rfl (maskX_ok g w4 o (E := ol) (db := db) s74 hoB (by omega)) nX15_mask (Nat.le_of_ble_eq_true rfl) (Nat.le_of_ble_eq_true rfl) (Nat.le_of_ble_eq_true rfl) (Nat.le_of_ble_eq_true rfl) (fun h5 q5 => ?_)
        obtain ⟨S5, F5, fS5, fF5, s75, w5⟩ := q5
        rw [hol] at s75
        have l75 : (S5 (B + 7)).length = db + 49 := by rw [s75]; exact mixL_len _ _ _ _
        have fS5' : ∀ j, j ≠ 8 → j ≠ B + 7 → j ≠ B + 8 → S5 j = S j := fun j a b d => by rw [fS5 j a b, fS4 j a b d]
        have hsg : cond ↔ ((∀ j, j < db - s - 1 → (osY v db c).getD j 0 = 0) ∧ (osY v db c).getD (db - s - 1) 0 = 1 ∧ saltH inp (sub (osY v db c) (db - s) s) = sub ol db 48) := by
          rw [← hcond]
          unfold sgOk
          rw [hoo]
          exact ⟨fun z => z.2.2.2, fun z => ⟨hvs, e1, e2', z⟩⟩
        have hxd : ∀ j, j < db → (osX v db).getD j 0 = mskF ol db j := fun j hj => by unfold osX mskF; rw [hoo]; exact getD_map_range hj
        have hyd : ∀ j, j < db → (osY v db c).getD j 0 = if j = 0 then tb (u32 (mskF ol db 0 &&& tb c)) else mskF ol db j := fun j hj => by
          show ((osX v db).set 0 (tb (u32 ((osX v db).getD 0 0 &&& tb c)))).getD j 0 = _
          rw [set0_at (by rw [osX_len]; omega), hxd 0 (by omega)]
          by_cases z : j = 0
          · rw [if_pos z, if_pos z]
          · rw [if_neg z, if_neg z, hxd j hj]
        generalize osY v db c = Y at *
        obtain ⟨g5, d5, q5, -⟩ := w5.s (B + 7) o.co
        refine X_aload_n (pc := 132) 5 dX15_isCode_132 rfl rfl ?_
        refine X_getfield (pc := 133) dX15_isCode_133 fg_X15_76_10 (o.ob w5) (by first | rfl | assumption) ?_
        refine X_iconst (pc := 136) (x := 0) dX15_isCode_136 (by decide) ?_
        refine X_dup2_11 (pc := 137) dX15_isCode_137 rfl rfl ?_
        refine X_baload (pc := 138) dX15_isCode_138 d5 b0 ?_
        refine X_sipush (pc := 139) (x := 255) dX15_isCode_139 (by decide) ?_
        refine X_iload (pc := 142) 0 dX15_isCode_142 rfl ?_
        refine X_ishr (pc := 144) dX15_isCode_144 ?_
        rw [show (255 : Int32) >>> (nI t &&& 31) = nI (255 / 2 ^ t) from pk_shrN (n := 255) (by decide) _ _ (sl_n _ (by omega)), ← ht3]
        refine X_iand (pc := 145) dX15_isCode_145 ?_
        refine X_i2b (pc := 146) dX15_isCode_146 ?_
        refine X_bastore (pc := 147) dX15_isCode_147 d5 b0 ?_
        rw [show ((0 : Int32).toNatClampNeg) = 0 from rfl, Int8.toInt8_toInt32, toInt8_low, tb_and, q5 0 (by omega)]
        have w6 := w5.setS (B + 7) o.co (PL_set q5 0 (tb (u32 ((S5 (B + 7)).getD 0 0 &&& tb c)))) (by rw [List.length_set, l75]; omega)
        generalize hset h5 (A (B + 7)) _ = h6 at w6 ⊢
        generalize hE : (S5 (B + 7)).set 0 (tb (u32 ((S5 (B + 7)).getD 0 0 &&& tb c))) = E at w6
        have hEl : E.length = db + 49 := by rw [← hE, List.length_set, l75]
        have x5 : ∀ j, j < db → (S5 (B + 7)).getD j 0 = mskF ol db j := fun j hj => by rw [s75, mixL_at (by omega), if_pos hj]
        have hE1 : ∀ j, j < db → E.getD j 0 = Y.getD j 0 := fun j hj => by
          rw [← hE, set0_at (by omega), hyd j hj, x5 0 (by omega)]
          by_cases z : j = 0
          · rw [if_pos z, if_pos z]
          · rw [if_neg z, if_neg z, x5 j hj]
        have hE2 : ∀ j, j < 49 → E.getD (db + j) 0 = ol.getD (db + j) 0 := fun j hj => by
          rw [← hE, set0_at (by omega), if_neg (by omega), s75, mixL_at (by omega), if_neg (by omega)]
        have hEB : IsB E := fun x hx => by
          obtain ⟨j, hj, rfl⟩ := List.getElem_of_mem hx
          have e : E[j] = E.getD j 0 := by rw [List.getD_eq_getElem?_getD, List.getElem?_eq_getElem hj]; rfl
          rw [e]
          by_cases z : j < db
          · rw [hE1 j z]; exact hyB.at' _
          · rw [show j = db + (j - db) by omega, hE2 _ (by omega)]; exact hoB.at' _
        have fS6 : ∀ j, j ≠ 8 → j ≠ B + 7 → j ≠ B + 8 → up S5 (B + 7) E j = S j := fun j a b d => by rw [up_ne b]; exact fS5' j a b d
        have s76 : up S5 (B + 7) E (B + 7) = E := up_same _ _ _
        have e6k : up S5 (B + 7) E ki = S ki := fS6 ki hk8 hk7 hkb
        generalize up S5 (B + 7) E = S6 at w6 fS6 s76 e6k
        obtain ⟨g6, d6, q6, -⟩ := w6.s (B + 7) o.co
        rw [s76] at q6
        have bd : vp_in (nI (db - s - 1)) sz := vp_in_nI (by omega) (by omega)
        have cd : (nI (db - s - 1)).toNatClampNeg = db - s - 1 := nI_clamp (by omega)
        have loopC : ∀ m i, i + m = db - s - 1 → (∀ j, j < i → Y.getD j 0 = 0) →
            XX g MX15_isCode ({ frames := 5, cells := 1, slots := 256, locals := 135 } : Room) Q 1 256 151 [(8, .int (nI i)), (7, .int (nI t)), (6, .int (nI db)), (5, .int r5), (4, .ref a4), (3, .int (nI (db + 49))), (0, .ref (A B)), (1, .ref (A ki)), (2, .int (nI fr))] [] h6 := by
          intro m
          induction m with
          | zero =>
            intro i hi hz0
            have ei : i = db - s - 1 := by omega
            refine X_iload (pc := 151) 0 dX15_isCode_151 rfl ?_
            refine X_iload (pc := 153) 2 dX15_isCode_153 rfl ?_
            refine X_aload_n (pc := 155) 6 dX15_isCode_155 rfl rfl ?_
            refine X_getfield (pc := 156) dX15_isCode_156 fg_X15_23_10 (o.ob w6) (by first | rfl | assumption) ?_
            refine X_isub (pc := 159) dX15_isCode_159 ?_
            rw [sub2]
            refine X_iconst (pc := 160) (x := 1) dX15_isCode_160 (by decide) ?_
            refine X_isub (pc := 161) dX15_isCode_161 ?_
            rw [sub3]
            refine X_cge (pc := 162) 183 dX15_isCode_162 (by decide) (by omega) (by omega) (fun _ => ?_) (fun z => absurd z (by omega))
            refine X_aload_n (pc := 183) 6 dX15_isCode_183 rfl rfl ?_
            refine X_getfield (pc := 184) dX15_isCode_184 fg_X15_76_10 (o.ob w6) (by first | rfl | assumption) ?_
            refine X_iload (pc := 187) 2 dX15_isCode_187 rfl ?_
            refine X_aload_n (pc := 189) 6 dX15_isCode_189 rfl rfl ?_
            refine X_getfield (pc := 190) dX15_isCode_190 fg_X15_23_10 (o.ob w6) (by first | rfl | assumption) ?_
            refine X_isub (pc := 193) dX15_isCode_193 ?_
            rw [sub2]
            refine X_iconst (pc := 194) (x := 1) dX15_isCode_194 (by decide) ?_
            refine X_isub (pc := 195) dX15_isCode_195 ?_
            rw [sub3]
            refine X_baload (pc := 196) dX15_isCode_196 d6 bd ?_
            refine X_iconst (pc := 197) (x := 1) dX15_isCode_197 (by decide) ?_
            rw [cd, q6 _ (by omega), hE1 _ (by omega)]
            by_cases e3 : Y.getD (db - s - 1) 0 = 1
            · refine X_icmp_eq (pc := 198) 203 dX15_isCode_198 (by decide) (fun _ => ?_) (fun z => absurd e3 z)
              have sa := saltedX_ok g w6 o (ki := ki) (fr := fr) (ks := B + 7) (ns := sz) (at' := db - s) hki hni hk8 (by rw [e6k]; exact hBi) (by rw [e6k]; exact hli) o.co (by omega) (by omega) (by omega) (by rw [s76]; exact hEB) (by rw [s76, hEl]; omega)
              rw [e6k, hin, s76] at sa
              refine X_aload_n (pc := 203) 6 dX15_isCode_203 rfl rfl ?_
              refine X_aload_n (pc := 204) 7 dX15_isCode_204 rfl rfl ?_
              refine X_iload_n (pc := 205) 8 dX15_isCode_205 rfl rfl ?_
              refine X_aload_n (pc := 206) 6 dX15_isCode_206 rfl rfl ?_
              refine X_getfield (pc := 207) dX15_isCode_207 fg_X15_76_10 (o.ob w6) (by first | rfl | assumption) ?_
              refine X_iload (pc := 210) 2 dX15_isCode_210 rfl ?_
              refine X_aload_n (pc := 212) 6 dX15_isCode_212 rfl rfl ?_
              refine X_getfield (pc := 213) dX15_isCode_213 fg_X15_23_10 (o.ob w6) (by first | rfl | assumption) ?_
              refine X_isub (pc := 216) dX15_isCode_216 ?_
              rw [sub2]
              refine X_ivr (pc := 217) _ dX15_isCode_217 cv_X15_116_10 (o.ob w6) rfl (sa) nX15_salted (Nat.le_of_ble_eq_true rfl) (Nat.le_of_ble_eq_true rfl) (Nat.le_of_ble_eq_true rfl) (Nat.le_of_ble_eq_true rfl) (fun r8 h8 q8 => ?_)
              obtain ⟨rfl, S8, F8, fS8, fF8, s88, w8⟩ := q8
              have hsub : sub E (db - s) s = sub Y (db - s) s := by
                unfold sub
                apply List.map_congr_left
                intro j hj
                have hj2 := List.mem_range.mp hj
                rw [hE1 _ (by omega)]
              rw [hsub] at s88
              have s78 : S8 (B + 7) = E := by rw [fS8 _ (by omega) (by omega)]; exact s76
              have hinl : (saltH inp (sub Y (db - s) s)).length = 48 := sha384_len _
              refine X_astore (pc := 220) (L' := [(8, .ref _), (7, .int _), (6, .int _), (5, .int _), (4, .ref _), (3, .int _), (0, .ref _), (1, .ref _), (2, .int _)]) dX15_isCode_220 (Nat.le_of_ble_eq_true rfl) rfl ?_
              refine X_iconst (pc := 222) (x := 1) dX15_isCode_222 (by decide) ?_
              refine X_istore (pc := 223) (L' := [(9, .int _), (8, .ref _), (7, .int _), (6, .int _), (5, .int _), (4, .ref _), (3, .int _), (0, .ref _), (1, .ref _), (2, .int _)]) dX15_isCode_223 (Nat.le_of_ble_eq_true rfl) rfl ?_
              refine X_iconst (pc := 225) (x := 0) dX15_isCode_225 (by decide) ?_
              refine X_istore (pc := 226) (L' := [(10, .int _), (9, .int _), (8, .ref _), (7, .int _), (6, .int _), (5, .int _), (4, .ref _), (3, .int _), (0, .ref _), (1, .ref _), (2, .int _)]) dX15_isCode_226 (Nat.le_of_ble_eq_true rfl) rfl ?_
              refine loopD E _ S8 F8 h8 w8 (fun j a b d => by rw [fS8 j a d]; exact fS6 j a b d) (fF5.trans fF8) s78 s88 hinl hEl ?_ a4 r5 48 0 (by omega) 1 (Or.inl ⟨rfl, fun j hj => absurd hj (Nat.not_lt_zero j)⟩)
              rw [hsg]
              constructor
              · intro z
                refine ⟨fun j hj => hz0 j (by omega), e3, list_ext0 (by rw [hinl, sub_len]) fun j hj => ?_⟩
                rw [hinl] at hj
                rw [z j hj, hE2 j (by omega), sub_getD hj]
              · intro z j hj
                rw [z.2.2, sub_getD hj, hE2 j (by omega)]
            · refine X_icmp_eq (pc := 198) 203 dX15_isCode_198 (by decide) (fun z => absurd z e3) (fun _ => ?_)
              refine X_iconst (pc := 201) (x := 0) dX15_isCode_201 (by decide) ?_
              refine X_zreturn (pc := 202) dX15_isCode_202 rfl (by first | exact Or.inl rfl | exact Or.inr rfl | assumption | exact zo_if) (Nat.le_of_ble_eq_true rfl) (Nat.le_of_ble_eq_true rfl) ?_
              exact no S6 F5 h6 w6 fS6 fF5 (fun z => e3 (hsg.mp z).2.1)
          | succ m ih =>
            intro i hi hz0
            have bi : vp_in (nI i) sz := vp_in_nI (by omega) (by omega)
            have ci : (nI i).toNatClampNeg = i := nI_clamp (by omega)
            refine X_iload (pc := 151) 0 dX15_isCode_151 rfl ?_
            refine X_iload (pc := 153) 2 dX15_isCode_153 rfl ?_
            refine X_aload_n (pc := 155) 6 dX15_isCode_155 rfl rfl ?_
            refine X_getfield (pc := 156) dX15_isCode_156 fg_X15_23_10 (o.ob w6) (by first | rfl | assumption) ?_
            refine X_isub (pc := 159) dX15_isCode_159 ?_
            rw [sub2]
            refine X_iconst (pc := 160) (x := 1) dX15_isCode_160 (by decide) ?_
            refine X_isub (pc := 161) dX15_isCode_161 ?_
            rw [sub3]
            refine X_cge (pc := 162) 183 dX15_isCode_162 (by decide) (by omega) (by omega) (fun z => absurd z (by omega)) (fun _ => ?_)
            refine X_aload_n (pc := 165) 6 dX15_isCode_165 rfl rfl ?_
            refine X_getfield (pc := 166) dX15_isCode_166 fg_X15_76_10 (o.ob w6) (by first | rfl | assumption) ?_
            refine X_iload (pc := 169) 0 dX15_isCode_169 rfl ?_
            refine X_baload (pc := 171) dX15_isCode_171 d6 bi ?_
            rw [ci, q6 _ (by omega), hE1 _ (by omega)]
            by_cases e3 : Y.getD i 0 = 0
            · refine X_if_eq (pc := 172) 177 dX15_isCode_172 (by decide) (fun _ => ?_) (fun z => absurd e3 z)
              refine X_iinc (pc := 177) (L' := [(8, .int (_ + 1)), (7, .int _), (6, .int _), (5, .int _), (4, .ref _), (3, .int _), (0, .ref _), (1, .ref _), (2, .int _)]) 0 dX15_isCode_177 rfl rfl (Nat.le_of_ble_eq_true rfl) rfl ?_
              refine X_goto (pc := 180) 151 dX15_isCode_180 (by decide) ?_
              rw [show nI i + 1 = nI (i + 1) from nI_add i 1]
              refine ih (i + 1) (by omega) fun j hj => ?_
              by_cases ej : j = i
              · rw [ej]; exact e3
              · exact hz0 j (by omega)
            · refine X_if_eq (pc := 172) 177 dX15_isCode_172 (by decide) (fun z => absurd z e3) (fun _ => ?_)
              refine X_iconst (pc := 175) (x := 0) dX15_isCode_175 (by decide) ?_
              refine X_zreturn (pc := 176) dX15_isCode_176 rfl (by first | exact Or.inl rfl | exact Or.inr rfl | assumption | exact zo_if) (Nat.le_of_ble_eq_true rfl) (Nat.le_of_ble_eq_true rfl) ?_
              exact no S6 F5 h6 w6 fS6 fF5 (fun z => e3 ((hsg.mp z).1 i (by omega)))
        refine X_iconst (pc := 148) (x := 0) dX15_isCode_148 (by decide) ?_
        refine X_istore (pc := 149) (L' := [(8, .int _), (7, .int _), (6, .int _), (5, .int _), (4, .ref _), (3, .int _), (0, .ref _), (1, .ref _), (2, .int _)]) dX15_isCode_149 (Nat.le_of_ble_eq_true rfl) rfl ?_
        exact loopC (db - s - 1) 0 (by omega) (fun j hj => absurd hj (Nat.not_lt_zero j))
      · refine X_if_eq (pc := 111) 116 dX15_isCode_111 (by decide) (fun z => absurd z ?_) (fun _ => ?_)
        · intro z
          have := nI_inj' (b := 0) (by have := Nat.div_le_self (b8 (ol.getD 0 0)) (2 ^ (8 - t)); omega) (by decide) z
          exact e2 this
        refine X_iconst (pc := 114) (x := 0) dX15_isCode_114 (by decide) ?_
        refine X_zreturn (pc := 115) dX15_isCode_115 rfl (by first | exact Or.inl rfl | exact Or.inr rfl | assumption | exact zo_if) (Nat.le_of_ble_eq_true rfl) (Nat.le_of_ble_eq_true rfl) ?_
        refine no S4 F h4 w4 fS4 (fun _ _ _ => rfl) (fun z => ?_)
        rw [← hcond] at z
        unfold sgOk at z
        rw [hoo] at z
        exact e2 (etop.mp z.2.2.1)
    · refine X_icmp_ne (pc := 92) 114 dX15_isCode_92 (by decide) (fun _ => ?_) (fun z => absurd z e1)
      refine X_iconst (pc := 114) (x := 0) dX15_isCode_114 (by decide) ?_
      refine X_zreturn (pc := 115) dX15_isCode_115 rfl (by first | exact Or.inl rfl | exact Or.inr rfl | assumption | exact zo_if) (Nat.le_of_ble_eq_true rfl) (Nat.le_of_ble_eq_true rfl) ?_
      refine no S4 F h4 w4 fS4 (fun _ _ _ => rfl) (fun z => ?_)
      rw [← hcond] at z
      unfold sgOk at z
      rw [hoo] at z
      exact e1 z.2.1
  refine XX.know fun rok => ?_
  refine X_aload_n (pc := 0) 0 dX15_isCode_0 rfl rfl ?_
  refine X_ivi (pc := 1) _ dX15_isCode_1 cv_X15_112_10 (o.ob w) rfl (le) nX15_length (Nat.le_of_ble_eq_true rfl) (Nat.le_of_ble_eq_true rfl) (Nat.le_of_ble_eq_true rfl) (Nat.le_of_ble_eq_true rfl) (fun r1 h1 q1 => ?_)
  obtain ⟨rfl, rfl⟩ := q1
  refine X_istore_n (pc := 4) (L' := [(3, .int _), (0, .ref _), (1, .ref _), (2, .int _)]) dX15_isCode_4 rfl (Nat.le_of_ble_eq_true rfl) rfl ?_
  refine X_aload_n (pc := 5) 1 dX15_isCode_5 rfl rfl ?_
  refine X_getfield (pc := 6) dX15_isCode_6 fg_X15_19_10 (o.ob w) (by first | rfl | assumption) ?_
  refine X_new_byte (sz) (pc := 9) dX15_isCode_9 rfl (by omega) (by dsimp only; omega) (by dsimp only; omega) (fun q hq => ?_)
  refine XX.wide (k' := 1) (n' := 256) (by dsimp only; omega) (by dsimp only; omega) ?_
  have gq := rok.no hq
  have w1 := w.fresh hq (Ai false 2 sz fun _ => 0)
  have hXq := w.1.noX hq
  have ap := w.1.apart hq
  obtain ⟨fz, cz, hVz⟩ := w1.n2 (B + 5) o.z
  rw [hv] at hVz
  have cq : hset h1 q (Ai false 2 sz fun _ => 0) q = some (Ai false 2 sz fun _ => 0) := hset_self _ _ _
  refine X_astore (pc := 11) (L' := [(4, .ref _), (3, .int _), (0, .ref _), (1, .ref _), (2, .int _)]) dX15_isCode_11 (Nat.le_of_ble_eq_true rfl) rfl ?_
  refine X_aload_n (pc := 13) 2 dX15_isCode_13 rfl rfl ?_
  refine X_getfield (pc := 14) dX15_isCode_14 fg_X15_63_10 (o.ob w1) (by first | rfl | assumption) ?_
  refine X_aload (pc := 17) 0 dX15_isCode_17 rfl ?_
  refine X_iconst (pc := 19) (x := 0) dX15_isCode_19 (by decide) ?_
  refine X_aload_n (pc := 20) 2 dX15_isCode_20 rfl rfl ?_
  refine X_getfield (pc := 21) dX15_isCode_21 fg_X15_19_10 (o.ob w1) (by first | rfl | assumption) ?_
  refine X_isv (pc := 24) _ dX15_isCode_24 cs_X15_124 rfl (xwrite_ok g (fr := 0) (many := sz) cz cq (by omega) (by omega) (by omega) (by omega)) nX6_write (Nat.le_of_ble_eq_true rfl) (Nat.le_of_ble_eq_true rfl) (Nat.le_of_ble_eq_true rfl) (Nat.le_of_ble_eq_true rfl) (fun h2 q2 => ?_)
  subst q2
  rw [hVz, hset_hset]
  have w2 := w.fresh hq (Ai false 2 sz (stF v 0 sz fun _ => 0))
  have cq2 : hset h1 q (Ai false 2 sz (stF v 0 sz fun _ => 0)) q = some (Ai false 2 sz (stF v 0 sz fun _ => 0)) := hset_self _ _ _
  have pq : PL (stF v 0 sz fun _ => 0) (osB v sz) := fun j hj => by
    rw [osB_len] at hj
    rw [byte_le hj]
    unfold stF
    rw [if_pos (by omega), Nat.zero_add]
  generalize hset h1 q (Ai false 2 sz (stF v 0 sz fun _ => 0)) = h2 at w2 cq2 ⊢
  refine X_aload_n (pc := 27) 2 dX15_isCode_27 rfl rfl ?_
  refine X_getfield (pc := 28) dX15_isCode_28 fg_X15_19_10 (o.ob w2) (by first | rfl | assumption) ?_
  refine X_iload_n (pc := 31) 1 dX15_isCode_31 rfl rfl ?_
  refine X_isub (pc := 32) dX15_isCode_32 ?_
  rw [pk_sub (show db + 49 ≤ sz by omega)]
  generalize hah : sz - (db + 49) = ah
  -- the copy
  have copy : v < 256 ^ (db + 49) → XX g MX15_isCode ({ frames := 5, cells := 1, slots := 256, locals := 135 } : Room) Q 1 256 50 [(5, .int (nI ah)), (4, .ref q), (3, .int (nI (db + 49))), (0, .ref (A B)), (1, .ref (A ki)), (2, .int (nI fr))] [] h2 := by
    intro hvs
    obtain ⟨f7, c7, p7, -⟩ := w2.s (B + 7) o.co
    refine X_aload (pc := 50) 1 dX15_isCode_50 rfl ?_
    refine X_iload (pc := 52) 0 dX15_isCode_52 rfl ?_
    refine X_aload_n (pc := 54) 3 dX15_isCode_54 rfl rfl ?_
    refine X_getfield (pc := 55) dX15_isCode_55 fg_X15_76_10 (o.ob w2) (by first | rfl | assumption) ?_
    refine X_iconst (pc := 58) (x := 0) dX15_isCode_58 (by decide) ?_
    refine X_iload_n (pc := 59) 2 dX15_isCode_59 rfl rfl ?_
    refine X_copyI (pc := 60) (ah) (0) (db + 49) dX15_isCode_60 q753 (Or.inr rfl) cq2 c7 rfl rfl rfl (by omega) (by omega) ⟨by omega, by omega⟩ (Nat.le_of_ble_eq_true rfl) (Nat.le_of_ble_eq_true rfl) ?_
    have w3 := w2.setS (B + 7) o.co (PL_cpy (sN := ah) (dN := 0) (n := db + 49) pq p7 (Nat.zero_le _) (by rw [osB_len]; omega)) (by rw [List.take_zero, List.nil_append, sub_len]; omega)
    rw [List.take_zero, List.nil_append, ← hah, osB_sub (by omega)] at w3
    rw [hah] at w3
    refine XX.del gq ?_
    exact mid _ _ q (nI ah) hvs (w3.forget hXq ap) (fun j _ b _ => up_ne b) (up_same _ _ _)
  by_cases c1 : ah = 1
  · have esz' : sz = db + 50 := by omega
    refine X_istore (pc := 33) (L' := [(5, .int _), (4, .ref _), (3, .int _), (0, .ref _), (1, .ref _), (2, .int _)]) dX15_isCode_33 (Nat.le_of_ble_eq_true rfl) rfl ?_
    refine X_iload (pc := 35) 0 dX15_isCode_35 rfl ?_
    refine X_iconst (pc := 37) (x := 1) dX15_isCode_37 (by decide) ?_
    refine X_icmp_ne (pc := 38) 50 dX15_isCode_38 (by decide) (fun z => absurd (show nI ah = 1 by rw [c1]; rfl) z) (fun _ => ?_)
    have b0 : vp_in (0 : Int32) sz := vp_in_nI (n := 0) (by omega) (by omega)
    refine X_aload (pc := 41) 1 dX15_isCode_41 rfl ?_
    refine X_iconst (pc := 43) (x := 0) dX15_isCode_43 (by decide) ?_
    refine X_baload (pc := 44) dX15_isCode_44 cq2 b0 ?_
    rw [show ((0 : Int32).toNatClampNeg) = 0 from rfl, pq 0 (by rw [osB_len]; omega), byte_le (by omega)]
    have hq1 : v / 256 ^ (db + 49) < 256 := by
      rw [Nat.div_lt_iff_lt_mul (Nat.pow_pos (by decide)), Nat.mul_comm, ← Nat.pow_succ, show (db + 49).succ = sz by omega]
      exact hv2
    rw [show sz - 1 - 0 = db + 49 by omega]
    by_cases c2 : tb (v / 256 ^ (db + 49)) = 0
    · refine X_if_eq (pc := 45) 50 dX15_isCode_45 (by decide) (fun _ => ?_) (fun z => absurd c2 z)
      have z1 := tb_0.mp c2
      rw [Nat.mod_eq_of_lt hq1] at z1
      have hvs : v < 256 ^ (db + 49) := by
        rcases Nat.div_eq_zero_iff.mp z1 with z | z
        · exact absurd z (Nat.ne_of_gt (Nat.pow_pos (by decide)))
        · exact z
      exact copy hvs
    · refine X_if_eq (pc := 45) 50 dX15_isCode_45 (by decide) (fun z => absurd z c2) (fun _ => ?_)
      refine X_iconst (pc := 48) (x := 0) dX15_isCode_48 (by decide) ?_
      refine XX.del gq ?_
      refine X_zreturn (pc := 49) dX15_isCode_49 rfl (by first | exact Or.inl rfl | exact Or.inr rfl | assumption | exact zo_if) (Nat.le_of_ble_eq_true rfl) (Nat.le_of_ble_eq_true rfl) ?_
      refine no S F _ (w2.forget hXq ap) (fun _ _ _ _ => rfl) (fun _ _ _ => rfl) (fun z => c2 ?_)
      rw [← hcond] at z
      rw [Nat.div_eq_of_lt z.1]
      decide
  · have c0 : ah = 0 := by omega
    refine X_istore (pc := 33) (L' := [(5, .int _), (4, .ref _), (3, .int _), (0, .ref _), (1, .ref _), (2, .int _)]) dX15_isCode_33 (Nat.le_of_ble_eq_true rfl) rfl ?_
    refine X_iload (pc := 35) 0 dX15_isCode_35 rfl ?_
    refine X_iconst (pc := 37) (x := 1) dX15_isCode_37 (by decide) ?_
    refine X_icmp_ne (pc := 38) 50 dX15_isCode_38 (by decide) (fun _ => ?_) (fun z => ?_)
    · exact copy (by rw [show db + 49 = sz by omega]; exact hv2)
    · rw [c0] at z
      exact absurd z (by decide)
end XSg4
