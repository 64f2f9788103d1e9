set_option maxRecDepth 100000
/-! VeilMint's keys of the first type: answering -/
theorem bsm_dig (f : Nat → Int32) (hi : Nat) : ∀ n i, i < n → bsm f hi n / 256 ^ i % 256 = b8 (f (hi - 1 - i))
  | 0, i, h => absurd h (Nat.not_lt_zero i)
  | n + 1, i, h => by
    show (bsm f hi n + b8 (f (hi - 1 - n)) * 256 ^ n) / 256 ^ i % 256 = _
    have hp : 0 < 256 ^ i := Nat.pow_pos (by decide)
    by_cases e : i = n
    · subst e
      rw [Nat.add_mul_div_right _ _ hp, Nat.div_eq_of_lt (bsm_lt _ _ _), Nat.zero_add, Nat.mod_eq_of_lt (Nat.mod_lt _ (by decide))]
    · have e2 : b8 (f (hi - 1 - n)) * 256 ^ n = b8 (f (hi - 1 - n)) * 256 ^ (n - i - 1) * 256 * 256 ^ i := by
        rw [Nat.mul_assoc, Nat.mul_assoc, ← Nat.pow_succ', ← Nat.pow_add]
        congr 2
        omega
      rw [e2, Nat.add_mul_div_right _ _ hp, Nat.add_mul_mod_self_right]
      exact bsm_dig f hi n i (by omega)
theorem tb_b8 {x : Int32} (h : tb (u32 x) = x) : tb (b8 x) = x := by
  show tb (u32 x % 256) = x
  rw [tb_mod]
  exact h
theorem IsB.gd {l : List Int32} (h : IsB l) {j : Nat} (hj : j < l.length) : tb (u32 (l.getD j 0)) = l.getD j 0 := by
  have hm : l.getD j 0 ∈ l := by
    rw [List.getD_eq_getElem?_getD, List.getElem?_eq_getElem hj]
    exact List.getElem_mem hj
  exact h _ hm
/-- the bytes of the number that bytes tell -/
theorem byN_num {T : List Int32} {fr n : Nat} (hB : IsB T) (hl : fr + n ≤ T.length) : byN (num T fr n) n = sub T fr n := by
  unfold byN osB sub num
  apply List.map_congr_left
  intro j hj
  have hj2 := List.mem_range.mp hj
  rw [← tb_mod, bsm_dig _ _ n (n - 1 - j) (by omega), show fr + n - 1 - (n - 1 - j) = fr + j by omega, tb_b8 (hB.gd (by omega))]
theorem eltP_some {T : List Int32} {a : Nat} (h : eltP T a ≠ none) : ∃ y : Fp, eltP T a = some (fp (num T (a + 1) 48), y) ∧ num T (a + 1) 48 < pP ∧ T.getD a 0 = tb (2 + y.val % 2) := by
  have hn : bsm (fun j => T.getD (a + j) 0) 49 48 = num T (a + 1) 48 := bsm_cg fun j hj => by
    show T.getD (a + (49 - 1 - j)) 0 = T.getD (a + 1 + 48 - 1 - j) 0
    congr 1
    omega
  have t2 : tb (2 + 0) = 2 := by decide
  have t3 : tb (2 + 1) = 3 := by decide
  have hd : eltP T a = decE fun j => T.getD (a + j) 0 := rfl
  rw [hd] at h ⊢
  unfold decE at h ⊢
  have h00 : (fun j => T.getD (a + j) 0) 0 = T.getD a 0 := rfl
  by_cases c0 : (fun j => T.getD (a + j) 0) 0 = 2 ∨ (fun j => T.getD (a + j) 0) 0 = 3
  · rw [if_pos c0] at h ⊢
    rw [hn] at h ⊢
    by_cases c1 : num T (a + 1) 48 < pP
    · rw [if_pos c1] at h ⊢
      unfold decY at h ⊢
      generalize rt (gx (fp (num T (a + 1) 48))) = y at h ⊢
      by_cases c2 : y * y = gx (fp (num T (a + 1) 48))
      · rw [if_pos c2] at h ⊢
        by_cases c3 : y = 0
        · rw [if_pos c3] at h ⊢
          by_cases c4 : (fun j => T.getD (a + j) 0) 0 = 2
          · rw [if_pos c4]
            refine ⟨y, rfl, c1, ?_⟩
            rw [c3, show (0 : Fp).val % 2 = 0 from rfl, t2, ← h00]
            exact c4
          · rw [if_neg c4] at h
            exact absurd rfl h
        · rw [if_neg c3] at h ⊢
          have hy0 : y.val ≠ 0 := fun z => c3 (fp_ext z)
          by_cases c4 : (y.val % 2 = 0 ↔ (fun j => T.getD (a + j) 0) 0 = 2)
          · rw [if_pos c4]
            refine ⟨y, rfl, c1, ?_⟩
            by_cases c5 : y.val % 2 = 0
            · rw [c5, t2, ← h00]; exact c4.mp c5
            · rw [show y.val % 2 = 1 by omega, t3, ← h00]
              rcases c0 with e | e
              · exact absurd (c4.mpr e) c5
              · exact e
          · rw [if_neg c4]
            refine ⟨-y, rfl, c1, ?_⟩
            have hp := neg_par hy0 (fp_lt y)
            rw [fp_negv c3]
            by_cases c5 : y.val % 2 = 0
            · rw [show (pP - y.val) % 2 = 1 by omega, t3, ← h00]
              rcases c0 with e | e
              · exact absurd ⟨fun _ => e, fun _ => c5⟩ c4
              · exact e
            · rw [show (pP - y.val) % 2 = 0 by omega, t2, ← h00]
              rcases c0 with e | e
              · exact e
              · exact absurd ⟨fun z => absurd z c5, fun z => absurd (z.symm.trans e) (by decide)⟩ c4
      · rw [if_neg c2] at h
        exact absurd rfl h
    · rw [if_neg c1] at h
      exact absurd rfl h
  · rw [if_neg c0] at h
    exact absurd rfl h
theorem en_elt {T : List Int32} {a : Nat} (hB : IsB T) (hl : a + 49 ≤ T.length) (h : eltP T a ≠ none) : en (eltP T a) = sub T a 49 := by
  obtain ⟨y, e, h1, h2⟩ := eltP_some h
  rw [e]
  show encB (fp (num T (a + 1) 48)).val y.val = _
  rw [encB_cons, fp_val_lt h1, byN_num hB (by omega), ← h2]
  unfold sub
  rw [show (49 : Nat) = 48 + 1 from rfl, List.range_succ_eq_map, List.map_cons, List.map_map]
  show T.getD a 0 :: _ = T.getD (a + 0) 0 :: _
  congr 1
theorem catE_l {P : Nat → PP} : ∀ n, (∀ i, i < n → P i ≠ none) → (catE P n).length = 49 * n
  | 0, _ => rfl
  | n + 1, h => by
    show (catE P n ++ en (P n)).length = _
    rw [List.length_append, catE_l n (fun i hi => h i (by omega)), en_l49 (h n (by omega))]
    omega
theorem catE_at {P : Nat → PP} : ∀ n i, i < n → (∀ j, j < n → P j ≠ none) → ∀ t, sub (catE P n ++ t) (49 * i) 49 = en (P i)
  | 0, i, h, _, _ => absurd h (Nat.not_lt_zero i)
  | n + 1, i, h, hP, t => by
    show sub (catE P n ++ en (P n) ++ t) (49 * i) 49 = _
    rw [List.append_assoc]
    by_cases e : i = n
    · subst e
      exact sub_mid (catE_l i (fun j hj => hP j (by omega))) (en_l49 (hP i (by omega)))
    · exact catE_at n i (by omega) (fun j hj => hP j (by omega)) _
theorem catE_Bx {P : Nat → PP} : ∀ n, IsB (catE P n)
  | 0 => fun x hx => by cases hx
  | n + 1 => (catE_Bx n).app (en_B' _)
theorem cpt_cgx {d d' : Nat → Nat} {P : Nat → PP} : ∀ n, (∀ i, i < n → d i = d' i) → cpt d P n = cpt d' P n
  | 0, _ => rfl
  | n + 1, h => by
    show adP _ _ = adP _ _
    rw [cpt_cgx n (fun i hi => h i (by omega)), h n (by omega)]
theorem cpt_mul {d : Nat → Nat} {P : Nat → PP} (s : Nat) (hP : ∀ i, OnP (P i)) : ∀ n, mP s (cpt d P n) = cpt d (fun i => mP s (P i)) n
  | 0 => mP_none s
  | n + 1 => by
    show mP s (adP (cpt d P n) (mP (d n) (P n))) = adP _ (mP (d n) (mP s (P n)))
    rw [mP_ad (cpt_on fun i _ => hP i) (mP_on (hP n) _), cpt_mul s hP n, mP_swap (hP n)]
/-- what a key of the first type answers -/
noncomputable def givB (T : List Int32) (sk many : Nat) : Option (List Int32) :=
  cIf ((∃ i, i < many ∧ eltP T (3 + 49 * i) = none) ∨ num T (3 + 49 * many) 48 = 0 ∨ qP ≤ num T (3 + 49 * many) 48 ∨ (∃ i, i < many ∧ mP sk (eltP T (3 + 49 * i)) = none)) none
  (match prv (mP sk GP) (cpt (cD (en (mP sk GP)) (fun i => eltP T (3 + 49 * i)) (fun i => mP sk (eltP T (3 + 49 * i)))) (fun i => eltP T (3 + 49 * i)) many)
      (cpt (cD (en (mP sk GP)) (fun i => eltP T (3 + 49 * i)) (fun i => mP sk (eltP T (3 + 49 * i)))) (fun i => mP sk (eltP T (3 + 49 * i))) many) (num T (3 + 49 * many) 48) with
    | none => none
    | some c => some (catE (fun i => mP sk (eltP T (3 + 49 * i))) many ++ byN c 48 ++ byN (sbN qP (num T (3 + 49 * many) 48) (c * sk % qP)) 48))
theorem mgm_half {m n c s : Nat} (hm : m % 2 = 1) : mgm m n ((c * 2 ^ (32 * n) % m) * s) = c * s % m := by
  refine (mgm_eq hm (Nat.mod_lt _ (by omega)) ?_).symm
  rw [Nat.mod_mul_mod, Nat.mod_mul_mod]
  congr 1
  generalize 2 ^ (32 * n) = W
  grind
section XOb6
variable {kd : Nat → KD} {A : Nat → Nat} {X : AH} {R : Nat → Nat} {S : Nat → List Int32} {O : Nat → AC} {F : Nat → Int32} {h : AH} {B : Nat} {lv : Int32}
theorem gxM_ok : gxM = gxN * 2 ^ (32 * 12) % pP := by decide +kernel
theorem gyM_ok : gyM = gyN * 2 ^ (32 * 12) % pP := by decide +kernel
theorem XB.base {R : Nat → Nat} (b : XB R) : PtV R 60 GP := by
  obtain ⟨-, -, -, -, b5, b6, b7⟩ := b
  unfold PtV
  rw [show R (60 + 1) = gxM from b5, show R (60 + 2) = gyM from b6, show R (60 + 3) = oneP from b7, oneP_v, gxM_ok, gyM_ok, vm_in, vm_in]
  exact Jc_one
set_option maxHeartbeats 16000000 in
theorem issuesX_ok (g : GX) (w : XW kd A X R S O F h) (o : ObK kd A O B lv) (xb : XB R) {many : Nat} (hm : many ≤ 8) (hBT : IsB (S 56)) (hlT : 3 + 49 * many + 48 ≤ (S 56).length) (hsk : R (B + 2) < qP) (hel : S (B + 6) = en (mP (R (B + 2)) GP)) (heN : mP (R (B + 2)) GP ≠ none) (h58 : S 58 = []) :
    MT g MX14_issues ({ frames := 10, cells := 24, slots := 1536, locals := 225 } : Room) [.ref (A B), .ref (A 56), .int 3, .int (nI many), .ref (A 58)] h
      (TW (A 50) (RV fun h' => ∃ l, givB (S 56) (R (B + 2)) many = some l ∧ ∃ R' S' F', FrO B R R' S S' F F' ∧ S' 58 = l ∧ XW kd A X R' S' O F' h')
        (fun h' => givB (S 56) (R (B + 2)) many = none ∧ BadO kd A X R S O F B h')) := by
  refine MT.of (by decide) (Nat.le_of_ble_eq_true rfl) ?_
  have hB := o.b
  have l56 : (S 56).length ≤ 1200 := (w.s 56 (w.k 56 (by decide))).choose_spec.2.2
  generalize hT : S 56 = T at *
  generalize hs : R (B + 2) = sk at *
  generalize hG : givB T sk many = G
  generalize hQ : TW (A 50) _ _ = Q
  have gbad : ((∃ i, i < many ∧ eltP T (3 + 49 * i) = none) ∨ num T (3 + 49 * many) 48 = 0 ∨ qP ≤ num T (3 + 49 * many) 48 ∨ (∃ i, i < many ∧ mP sk (eltP T (3 + 49 * i)) = none)) → G = none := fun z => by
    rw [← hG]
    unfold givB
    rw [cIf_t z]
  have hel' : (S (B + 6)).length = 49 := by rw [hel]; exact en_l49 heN
  have hBe : IsB (S (B + 6)) := by rw [hel]; exact en_B' _
  have thr : ∀ (k n pc : Nat) (L : List (Nat × Value)) (h' : AH), k ≤ 24 → n ≤ 1536 → G = none → BadO kd A X R S O F B h' → XT g MX14_issues ({ frames := 10, cells := 24, slots := 1536, locals := 225 } : Room) Q k n pc L (A 50) h' := fun k n pc L h' hk hn hg hb => XT_out (fun _ hq => absurd hq List.not_mem_nil) hk hn (by rw [← hQ]; exact Or.inr ⟨rfl, hg, hb⟩)
  -- behind the loop
  have tail : ∀ (R1 : Nat → Nat) (S1 : Nat → List Int32) (F1 : Nat → Int32) (h1 : AH), XW kd A X R1 S1 O F1 h1 → FrO B R R1 S S1 F F1 → (∀ i, i < many → eltP T (3 + 49 * i) ≠ none) → (∀ i, i < many → mP sk (eltP T (3 + 49 * i)) ≠ none) → S1 58 = catE (fun i => mP sk (eltP T (3 + 49 * i))) many →
      XX g MX14_issues ({ frames := 10, cells := 24, slots := 1536, locals := 225 } : Room) Q 8 512 65 [(5, .int (nI many)), (0, .ref (A B)), (1, .ref (A 56)), (2, .int 3), (3, .int (nI many)), (4, .ref (A 58))] [] h1 := by
    intro R1 S1 F1 h1 w1 fr1 hP1 hP2 s58
    have e56 : S1 56 = T := by rw [fr1.2.1 56 (by unfold obS; simp only [Bool.or_eq_false_iff, decide_eq_false_iff_not, beq_eq_false_iff_ne]; exact ⟨hX56, by decide, by omega, by omega⟩)]; exact hT
    have e6 : S1 (B + 6) = S (B + 6) := fr1.2.1 _ (by unfold obS; simp only [Bool.or_eq_false_iff, decide_eq_false_iff_not, beq_eq_false_iff_ne]; exact ⟨hX_f (by omega), by omega, by omega, by omega⟩)
    have e2 : R1 (B + 2) = sk := by rw [fr1.1 _ (by unfold obR; simp only [Bool.or_eq_false_iff, decide_eq_false_iff_not]; omega)]; exact hs
    refine X_aload_n (pc := 65) 1 dX14_issues_65 rfl rfl ?_
    refine X_aload_n (pc := 66) 2 dX14_issues_66 rfl rfl ?_
    refine X_iload_n (pc := 67) 3 dX14_issues_67 rfl rfl ?_
    refine X_bipush (pc := 68) (x := 49) dX14_issues_68 (by decide) ?_
    refine X_iload_n (pc := 70) 4 dX14_issues_70 rfl rfl ?_
    refine X_imul (pc := 71) dX14_issues_71 ?_
    rw [show (49 : Int32) * nI many = nI (49 * many) from pk_mul 49 many]
    refine X_iadd (pc := 72) dX14_issues_72 ?_
    rw [show (3 : Int32) + nI (49 * many) = nI (3 + 49 * many) from nI_add 3 _]
    refine X_aload_n (pc := 73) 1 dX14_issues_73 rfl rfl ?_
    refine X_getfield (pc := 74) dX14_issues_74 fg_X14_15_9 (o.ob w1) (by first | rfl | assumption) ?_
    have is2 := isSecX_ok g w1 o (B + 3) o.sc (kb := 56) (nb := 1200) (fr := 3 + 49 * many) (w1.k 56 (by decide)) (by decide) (by rw [e56]; omega)
    rw [e56] at is2
    generalize hu : num T (3 + 49 * many) 48 = u at *
    refine X_ivi (pc := 77) _ dX14_issues_77 cv_X14_66_9 (o.ob w1) rfl (is2) nX14_isSecret (Nat.le_of_ble_eq_true rfl) (Nat.le_of_ble_eq_true rfl) (Nat.le_of_ble_eq_true rfl) (Nat.le_of_ble_eq_true rfl) (fun r2 h2 q2 => ?_)
    obtain ⟨er, q2⟩ := q2
    obtain ⟨R2, eu2, o2, w2⟩ := XW.ab q2
    have fr2 : FrO B R R2 S S1 F F1 := ⟨fun j hj => by have a := obR_ne hj; rw [o2 j (by omega), fr1.1 j hj], fr1.2.1, fr1.2.2⟩
    by_cases cu : 0 < u ∧ u < qP
    · rw [if_pos cu] at er
      subst er
      refine X_if_ne (pc := 80) 93 dX14_issues_80 (by decide) (fun _ => ?_) (fun c => absurd c (by decide))
      have xb2 : XB R2 := xb.ob hB fr2.1
      have lc : (S1 58).length = 49 * many := by rw [s58]; exact catE_l many hP2
      refine X_aload_n (pc := 93) 1 dX14_issues_93 rfl rfl ?_
      refine X_aload_n (pc := 94) 2 dX14_issues_94 rfl rfl ?_
      refine X_iload_n (pc := 95) 3 dX14_issues_95 rfl rfl ?_
      refine X_aload (pc := 96) 5 dX14_issues_96 rfl ?_
      refine X_iconst (pc := 98) (x := 0) dX14_issues_98 (by decide) ?_
      refine X_iload_n (pc := 99) 4 dX14_issues_99 rfl rfl ?_
      refine X_iconst (pc := 100) (x := 1) dX14_issues_100 (by decide) ?_
      have cm3 := compositesX_ok g w2 o xb2 (kb := 56) (nb := 1200) (at' := 3) (ke := 58) (ne := 1200) (fr := 0) (many := many) (kn := 1) (Or.inr rfl) (w2.k 56 (by decide)) (by decide) (by unfold cmS; simp only [Bool.or_eq_false_iff, beq_eq_false_iff_ne]; exact ⟨hX56, by omega⟩) (w2.k 58 (by decide)) (by decide) (by unfold cmS; simp only [Bool.or_eq_false_iff, beq_eq_false_iff_ne]; exact ⟨hX58, by omega⟩) (by rw [e56]; exact hBT) (by rw [s58]; exact catE_Bx _) (by rw [e56]; omega) (by rw [lc]; omega) hm (by rw [e6]; exact hel') (by rw [e6]; exact hBe) (fun i hi => by rw [e56]; exact hP1 i hi) (fun z => absurd z (by decide))
      rw [e56, e6, if_pos rfl, o2 _ (by omega), e2] at cm3
      refine X_ivv (pc := 101) _ dX14_issues_101 cv_X14_178_9 (o.ob w2) rfl (cm3) nX14_composites (Nat.le_of_ble_eq_true rfl) (Nat.le_of_ble_eq_true rfl) (Nat.le_of_ble_eq_true rfl) (Nat.le_of_ble_eq_true rfl) (fun h3 q3 => ?_)
      obtain ⟨R3, S3, F3, r3, s3, f3, vC, vE, w3⟩ := q3
      have hdd : ∀ i, i < many → dXl (S (B + 6)) T (S1 58) 3 0 i = cD (en (mP sk GP)) (fun i => eltP T (3 + 49 * i)) (fun i => mP sk (eltP T (3 + 49 * i))) i := fun i hi => by
        unfold dXl cD
        have := catE_at many i hi hP2 []
        rw [List.append_nil] at this
        rw [hel, ← en_elt hBT (by omega) (hP1 i hi), s58, Nat.zero_add, this]
      rw [cpt_cgx many hdd] at vC vE
      have onQ : ∀ i, OnP ((fun i => eltP T (3 + 49 * i)) i) := fun i => eltP_on _ _
      generalize hC : cpt (cD (en (mP sk GP)) (fun i => eltP T (3 + 49 * i)) (fun i => mP sk (eltP T (3 + 49 * i)))) (fun i => eltP T (3 + 49 * i)) many = C at *
      have hZ : cpt (cD (en (mP sk GP)) (fun i => eltP T (3 + 49 * i)) (fun i => mP sk (eltP T (3 + 49 * i)))) (fun i => mP sk (eltP T (3 + 49 * i))) many = mP sk C := by rw [← hC, cpt_mul sk onQ]
      have onC : OnP C := by rw [← hC]; exact cpt_on fun i _ => eltP_on _ _
      have hGe : G = match prv (mP sk GP) C (mP sk C) u with | none => none | some c => some (catE (fun i => mP sk (eltP T (3 + 49 * i))) many ++ byN c 48 ++ byN (sbN qP u (c * sk % qP)) 48) := by
        rw [← hG]
        unfold givB
        rw [cIf_f, hC, hZ, hu]
        rintro (⟨i, hi, z⟩ | z | z | ⟨i, hi, z⟩)
        · exact hP1 i hi z
        · omega
        · omega
        · exact hP2 i hi z
      have xb3 : XB R3 := xb2.fr fun j hj => r3 j (cmR_f (by omega))
      have eu3 : R3 (B + 3) = u := by rw [r3 _ (cmR_f (by omega))]; exact eu2
      have ok3 : OpE kd A X R3 S3 O F3 (tmS (B + 22)) (A (B + 3)) 12 u := by
        rw [← eu3]
        exact OpE.g (mv := qP) (St.q o.sc) (tmS_f (ecS_f (by omega) (by omega) (by omega) (by omega)) (by omega))
      refine X_aload_n (pc := 104) 1 dX14_issues_104 rfl rfl ?_
      refine X_getfield (pc := 105) dX14_issues_105 fg_X14_58_9 (o.ob w3) (by first | rfl | assumption) ?_
      refine X_aload_n (pc := 108) 1 dX14_issues_108 rfl rfl ?_
      refine X_getfield (pc := 109) dX14_issues_109 fg_X14_15_9 (o.ob w3) (by first | rfl | assumption) ?_
      refine X_aload_n (pc := 112) 1 dX14_issues_112 rfl rfl ?_
      refine X_getfield (pc := 113) dX14_issues_113 fg_X14_58_9 (o.ob w3) (by first | rfl | assumption) ?_
      refine X_getfield (pc := 116) dX14_issues_116 fg_X14_76_3 (XW.cv w3) (by first | rfl | assumption) ?_
      refine X_aload_n (pc := 119) 1 dX14_issues_119 rfl rfl ?_
      refine X_getfield (pc := 120) dX14_issues_120 fg_X14_52_9 (o.ob w3) (by first | rfl | assumption) ?_
      refine X_ivv (pc := 123) _ dX14_issues_123 cv_X14_81_3 (XW.cv w3) rfl (times_ok g w3 (P := B + 22) (Q := 60) o.wk (XW.pt60 w3) (by omega) (by decide) (by omega) (by omega) xb3 ok3 GP_on xb3.base) nX5_times (Nat.le_of_ble_eq_true rfl) (Nat.le_of_ble_eq_true rfl) (Nat.le_of_ble_eq_true rfl) (Nat.le_of_ble_eq_true rfl) (fun h4 q4 => ?_)
      obtain ⟨R4, r4, vW, w4⟩ := q4
      have xb4 : XB R4 := xb3.fr fun j hj => r4 j (tmS_f (ecS_f (by omega) (by omega) (by omega) (by omega)) (by omega))
      have eu4 : R4 (B + 3) = u := by rw [r4 _ (tmS_f (ecS_f (by omega) (by omega) (by omega) (by omega)) (by omega))]; exact eu3
      have ok4 : OpE kd A X R4 S3 O F3 (tmS (B + 26)) (A (B + 3)) 12 u := by
        rw [← eu4]
        exact OpE.g (mv := qP) (St.q o.sc) (tmS_f (ecS_f (by omega) (by omega) (by omega) (by omega)) (by omega))
      have vC4 := vC.tm (by omega) (by omega) r4
      have vE4 := vE.tm (by omega) (by omega) r4
      refine X_aload_n (pc := 126) 1 dX14_issues_126 rfl rfl ?_
      refine X_getfield (pc := 127) dX14_issues_127 fg_X14_58_9 (o.ob w4) (by first | rfl | assumption) ?_
      refine X_aload_n (pc := 130) 1 dX14_issues_130 rfl rfl ?_
      refine X_getfield (pc := 131) dX14_issues_131 fg_X14_15_9 (o.ob w4) (by first | rfl | assumption) ?_
      refine X_aload_n (pc := 134) 1 dX14_issues_134 rfl rfl ?_
      refine X_getfield (pc := 135) dX14_issues_135 fg_X14_46_9 (o.ob w4) (by first | rfl | assumption) ?_
      refine X_aload_n (pc := 138) 1 dX14_issues_138 rfl rfl ?_
      refine X_getfield (pc := 139) dX14_issues_139 fg_X14_55_9 (o.ob w4) (by first | rfl | assumption) ?_
      refine X_ivv (pc := 142) _ dX14_issues_142 cv_X14_81_3 (XW.cv w4) rfl (times_ok g w4 (P := B + 26) (Q := B + 14) o.mo o.co (by omega) (by omega) (by omega) (by omega) xb4 ok4 onC vC4) nX5_times (Nat.le_of_ble_eq_true rfl) (Nat.le_of_ble_eq_true rfl) (Nat.le_of_ble_eq_true rfl) (Nat.le_of_ble_eq_true rfl) (fun h5 q5 => ?_)
      obtain ⟨R5, r5, vM, w5⟩ := q5
      have vC5 := vC4.tm (by omega) (by omega) r5
      have vE5 := vE4.tm (by omega) (by omega) r5
      have vW5 := vW.tm (by omega) (by omega) r5
      have e6' : S3 (B + 6) = en (mP sk GP) := by rw [s3 _ (by unfold cmS; simp only [Bool.or_eq_false_iff, beq_eq_false_iff_ne]; exact ⟨hX_f (by omega), by omega⟩), e6]; exact hel
      have fr5 : FrO B R R5 S S3 F F3 := by
        refine ⟨fun j hj => ?_, fun j hj => ?_, fun j a b c => ?_⟩
        · have a := obR_ne hj
          rw [r5 j (tmS_f (ecS_f (by omega) (by omega) (by omega) (by omega)) (by omega)), r4 j (tmS_f (ecS_f (by omega) (by omega) (by omega) (by omega)) (by omega)), r3 j (cmR_f (by omega)), fr2.1 j hj]
        · have a := obS_ne hj
          rw [s3 j (by unfold cmS; simp only [Bool.or_eq_false_iff, beq_eq_false_iff_ne]; exact ⟨a.1, by omega⟩), fr1.2.1 j hj]
        · rw [f3 j a b, fr1.2.2 j a b c]
      have eu5 : R5 (B + 3) = u := by rw [r5 _ (tmS_f (ecS_f (by omega) (by omega) (by omega) (by omega)) (by omega))]; exact eu4
      have es5 : R5 (B + 2) = sk := by rw [fr5.1 _ (by unfold obR; simp only [Bool.or_eq_false_iff, decide_eq_false_iff_not]; omega)]; exact hs
      have s358 : S3 58 = S1 58 := s3 58 (by unfold cmS; simp only [Bool.or_eq_false_iff, beq_eq_false_iff_ne]; exact ⟨hX58, by omega⟩)
      refine X_aload_n (pc := 145) 1 dX14_issues_145 rfl rfl ?_
      refine X_aload_n (pc := 146) 1 dX14_issues_146 rfl rfl ?_
      refine X_getfield (pc := 147) dX14_issues_147 fg_X14_52_9 (o.ob w5) (by first | rfl | assumption) ?_
      refine X_aload_n (pc := 150) 1 dX14_issues_150 rfl rfl ?_
      refine X_getfield (pc := 151) dX14_issues_151 fg_X14_55_9 (o.ob w5) (by first | rfl | assumption) ?_
      refine X_aload_n (pc := 154) 1 dX14_issues_154 rfl rfl ?_
      refine X_getfield (pc := 155) dX14_issues_155 fg_X14_18_9 (o.ob w5) (by first | rfl | assumption) ?_
      have ch6 := challengeX_ok g w5 o (PT := B + 22) (PU := B + 26) o.wk o.mo (by omega) (by omega) (B + 4) o.su (by rw [e6']; exact en_l49 heN) (by rw [e6']; exact en_B' _) vC5 vE5 vW5 vM
      rw [e6'] at ch6
      have prvN : ¬ (C ≠ none ∧ mP sk C ≠ none ∧ mP u GP ≠ none ∧ mP u C ≠ none) → G = none := fun z => by
        rw [hGe]
        unfold prv
        rw [if_pos]
        by_cases c1 : C = none
        · exact Or.inl c1
        · by_cases c2 : mP sk C = none
          · exact Or.inr (Or.inl c2)
          · by_cases c3 : mP u GP = none
            · exact Or.inr (Or.inr (Or.inl c3))
            · by_cases c4 : mP u C = none
              · exact Or.inr (Or.inr (Or.inr c4))
              · exact absurd ⟨c1, c2, c3, c4⟩ z
      refine X_ivvT (pc := 158) _ dX14_issues_158 cv_X14_182_9 (o.ob w5) rfl (ch6) nX14_challenge (Nat.le_of_ble_eq_true rfl) (Nat.le_of_ble_eq_true rfl) (Nat.le_of_ble_eq_true rfl) (Nat.le_of_ble_eq_true rfl) (fun h6 q6 => ?_) (fun hx qx => thr _ _ _ _ _ (by decide) (by decide) (prvN qx.1) (by obtain ⟨-, R', S', F', a1, a2, a3, a4, a5⟩ := qx; exact ⟨R', S', F', fr5.trans ⟨fun j hj => a1 j (cvS_f (obR_ne hj).1), fun j hj => a2 j (by unfold chS; simp only [Bool.or_eq_false_iff, beq_eq_false_iff_ne]; have a := obS_ne hj; exact ⟨a.1, by omega⟩), a3⟩, a4, a5⟩))
      obtain ⟨⟨c1, c2, c3, c4⟩, R6, S6, F6, r6, s6, f6, ec, w6⟩ := q6
      rw [show h2s (chmsg (en (mP sk GP)) (en C) (en (mP sk C)) (en (mP u GP)) (en (mP u C))) = chal (mP sk GP) C (mP sk C) (mP u GP) (mP u C) from rfl] at ec
      have hGs : G = some (catE (fun i => mP sk (eltP T (3 + 49 * i))) many ++ byN (chal (mP sk GP) C (mP sk C) (mP u GP) (mP u C)) 48 ++ byN (sbN qP u (chal (mP sk GP) C (mP sk C) (mP u GP) (mP u C) * sk % qP)) 48) := by
        rw [hGe]
        unfold prv
        rw [if_neg]
        rintro (z | z | z | z)
        · exact c1 z
        · exact c2 z
        · exact c3 z
        · exact c4 z
      generalize chal (mP sk GP) C (mP sk C) (mP u GP) (mP u C) = cc at *
      have chf : ∀ j, cvS j = false → j ≠ B + 4 → R6 j = R5 j := fun j a b => r6 j (by unfold chR; simp only [Bool.or_eq_false_iff, beq_eq_false_iff_ne]; exact ⟨a, b⟩)
      have eu6 : R6 (B + 3) = u := by rw [chf _ (cvS_f (by omega)) (by omega)]; exact eu5
      have es6 : R6 (B + 2) = sk := by rw [chf _ (cvS_f (by omega)) (by omega)]; exact es5
      have fr6 : FrO B R R6 S S6 F F6 := fr5.trans ⟨fun j hj => by have a := obR_ne hj; exact chf j (cvS_f (by omega)) (by omega), fun j hj => s6 j (by unfold chS; simp only [Bool.or_eq_false_iff, beq_eq_false_iff_ne]; have a := obS_ne hj; exact ⟨a.1, by omega⟩), fun j a b _ => f6 j a b⟩
      have op6 := OpX.n2 w6 (B + 4) o.su
      rw [ec] at op6
      refine X_aload_n (pc := 161) 1 dX14_issues_161 rfl rfl ?_
      refine X_getfield (pc := 162) dX14_issues_162 fg_X14_58_9 (o.ob w6) (by first | rfl | assumption) ?_
      refine X_getfield (pc := 165) dX14_issues_165 fg_X14_89_3 (XW.cv w6) (by first | rfl | assumption) ?_
      refine X_astore (pc := 168) (L' := [(5, .ref _), (0, .ref _), (1, .ref _), (2, .int _), (3, .int _), (4, .ref _)]) dX14_issues_168 (Nat.le_of_ble_eq_true rfl) rfl ?_
      refine X_aload (pc := 170) 0 dX14_issues_170 rfl ?_
      refine X_aload_n (pc := 172) 1 dX14_issues_172 rfl rfl ?_
      refine X_getfield (pc := 173) dX14_issues_173 fg_X14_18_9 (o.ob w6) (by first | rfl | assumption) ?_
      refine X_aload_n (pc := 176) 1 dX14_issues_176 rfl rfl ?_
      refine X_getfield (pc := 177) dX14_issues_177 fg_X14_21_9 (o.ob w6) (by first | rfl | assumption) ?_
      refine X_ivv (pc := 180) _ dX14_issues_180 cv_X14_186_4 (MoK.ob (XW.mq w6) w6) rfl (xinW g w6 w6.mq (B + 5) (St.q o.ot) op6) nX6_in (Nat.le_of_ble_eq_true rfl) (Nat.le_of_ble_eq_true rfl) (Nat.le_of_ble_eq_true rfl) (Nat.le_of_ble_eq_true rfl) (fun h7 q7 => ?_)
      obtain ⟨R7, e7, o7, w7⟩ := XW.ab q7
      have op7 := OpX.n2 w7 (B + 5) o.ot
      rw [e7] at op7
      have ops7 := OpX.n2 w7 (B + 2) o.se
      rw [o7 _ (by omega), es6] at ops7
      refine X_aload (pc := 183) 0 dX14_issues_183 rfl ?_
      refine X_aload_n (pc := 185) 1 dX14_issues_185 rfl rfl ?_
      refine X_getfield (pc := 186) dX14_issues_186 fg_X14_21_9 (o.ob w7) (by first | rfl | assumption) ?_
      refine X_aload_n (pc := 189) 1 dX14_issues_189 rfl rfl ?_
      refine X_getfield (pc := 190) dX14_issues_190 fg_X14_9_9 (o.ob w7) (by first | rfl | assumption) ?_
      refine X_aload_n (pc := 193) 1 dX14_issues_193 rfl rfl ?_
      refine X_getfield (pc := 194) dX14_issues_194 fg_X14_21_9 (o.ob w7) (by first | rfl | assumption) ?_
      refine X_ivv (pc := 197) _ dX14_issues_197 cv_X14_190_4 (MoK.ob (XW.mq w7) w7) rfl (xmulW g w7 w7.mq (B + 5) (St.q o.ot) op7 ops7 hsk) nX6_mul (Nat.le_of_ble_eq_true rfl) (Nat.le_of_ble_eq_true rfl) (Nat.le_of_ble_eq_true rfl) (Nat.le_of_ble_eq_true rfl) (fun h8 q8 => ?_)
      rw [mgm_half qP_odd] at q8
      obtain ⟨R8, e8, o8, w8⟩ := XW.ab q8
      have op8 := OpX.n2 w8 (B + 5) o.ot
      rw [e8] at op8
      have ops8 := OpX.n2 w8 (B + 3) o.sc
      rw [o8 _ (by omega), o7 _ (by omega), eu6] at ops8
      refine X_aload (pc := 200) 0 dX14_issues_200 rfl ?_
      refine X_aload_n (pc := 202) 1 dX14_issues_202 rfl rfl ?_
      refine X_getfield (pc := 203) dX14_issues_203 fg_X14_15_9 (o.ob w8) (by first | rfl | assumption) ?_
      refine X_aload_n (pc := 206) 1 dX14_issues_206 rfl rfl ?_
      refine X_getfield (pc := 207) dX14_issues_207 fg_X14_21_9 (o.ob w8) (by first | rfl | assumption) ?_
      refine X_aload_n (pc := 210) 1 dX14_issues_210 rfl rfl ?_
      refine X_getfield (pc := 211) dX14_issues_211 fg_X14_21_9 (o.ob w8) (by first | rfl | assumption) ?_
      refine X_ivv (pc := 214) _ dX14_issues_214 cv_X14_194_4 (MoK.ob (XW.mq w8) w8) rfl (xsubW g w8 w8.mq (B + 5) (St.q o.ot) ops8 op8 cu.2 (Nat.mod_lt _ qP_pos)) nX6_sub (Nat.le_of_ble_eq_true rfl) (Nat.le_of_ble_eq_true rfl) (Nat.le_of_ble_eq_true rfl) (Nat.le_of_ble_eq_true rfl) (fun h9 q9 => ?_)
      obtain ⟨R9, e9, o9, w9⟩ := XW.ab q9
      have f9 : ∀ j, j ≠ B + 5 → R9 j = R6 j := fun j hj => by rw [o9 j hj, o8 j hj, o7 j hj]
      have s658 : S6 58 = catE (fun i => mP sk (eltP T (3 + 49 * i))) many := by rw [s6 58 (by unfold chS; simp only [Bool.or_eq_false_iff, beq_eq_false_iff_ne]; exact ⟨hX58, by omega⟩), s358]; exact s58
      have lc6 : (S6 58).length = 49 * many := by rw [s658]; exact catE_l many hP2
      have op9 := OpX.n2 w9 (B + 4) o.su
      rw [f9 _ (by omega), ec] at op9
      refine X_aload_n (pc := 217) 1 dX14_issues_217 rfl rfl ?_
      refine X_getfield (pc := 218) dX14_issues_218 fg_X14_18_9 (o.ob w9) (by first | rfl | assumption) ?_
      refine X_aload (pc := 221) 5 dX14_issues_221 rfl ?_
      refine X_bipush (pc := 223) (x := 49) dX14_issues_223 (by decide) ?_
      refine X_iload_n (pc := 225) 4 dX14_issues_225 rfl rfl ?_
      refine X_imul (pc := 226) dX14_issues_226 ?_
      rw [show (49 : Int32) * nI many = nI (49 * many) from pk_mul 49 many, ← lc6]
      refine X_bipush (pc := 227) (x := 48) dX14_issues_227 (by decide) ?_
      refine X_isv (pc := 229) _ dX14_issues_229 cs_X14_197 rfl (xwriteA g w9 op9 (kt := 58) (nt := 1200) (many := 48) (w9.k 58 (by decide)) (by decide) (by decide) (by rw [lc6]; omega) (by decide)) nX6_write (Nat.le_of_ble_eq_true rfl) (Nat.le_of_ble_eq_true rfl) (Nat.le_of_ble_eq_true rfl) (Nat.le_of_ble_eq_true rfl) (fun h10 w10 => ?_)
      have op10 := OpX.n2 w10 (B + 5) o.ot
      rw [e9] at op10
      have lc10 : (up S6 58 (S6 58 ++ byN cc 48) 58).length = 49 * many + 48 := by rw [up_same, List.length_append, lc6]; unfold byN osB; rw [List.length_map, List.length_range]
      refine X_aload_n (pc := 232) 1 dX14_issues_232 rfl rfl ?_
      refine X_getfield (pc := 233) dX14_issues_233 fg_X14_21_9 (o.ob w10) (by first | rfl | assumption) ?_
      refine X_aload (pc := 236) 5 dX14_issues_236 rfl ?_
      refine X_bipush (pc := 238) (x := 49) dX14_issues_238 (by decide) ?_
      refine X_iload_n (pc := 240) 4 dX14_issues_240 rfl rfl ?_
      refine X_imul (pc := 241) dX14_issues_241 ?_
      rw [show (49 : Int32) * nI many = nI (49 * many) from pk_mul 49 many]
      refine X_bipush (pc := 242) (x := 48) dX14_issues_242 (by decide) ?_
      refine X_iadd (pc := 244) dX14_issues_244 ?_
      rw [show nI (49 * many) + 48 = nI (49 * many + 48) from nI_add _ 48, ← lc10]
      refine X_bipush (pc := 245) (x := 48) dX14_issues_245 (by decide) ?_
      refine X_isv (pc := 247) _ dX14_issues_247 cs_X14_197 rfl (xwriteA g w10 op10 (kt := 58) (nt := 1200) (many := 48) (w10.k 58 (by decide)) (by decide) (by decide) (by rw [lc10]; omega) (by decide)) nX6_write (Nat.le_of_ble_eq_true rfl) (Nat.le_of_ble_eq_true rfl) (Nat.le_of_ble_eq_true rfl) (Nat.le_of_ble_eq_true rfl) (fun h11 w11 => ?_)
      rw [up_same, up_up', s658] at w11
      subst hQ
      refine X_return (pc := 250) dX14_issues_250 rfl (Nat.le_of_ble_eq_true rfl) (Nat.le_of_ble_eq_true rfl) ?_
      refine Or.inl ⟨rfl, _, hGs, R9, _, F6, ⟨fun j hj => ?_, fun j hj => ?_, fr6.2.2⟩, up_same _ _ _, w11⟩
      · have a := obR_ne hj
        rw [f9 j (by omega), fr6.1 j hj]
      · have a := obS_ne hj
        rw [up_ne a.2.1, fr6.2.1 j hj]
    · rw [if_neg cu] at er
      subst er
      refine X_if_ne (pc := 80) 93 dX14_issues_80 (by decide) (fun c => absurd rfl c) (fun _ => ?_)
      refine X_aload_n (pc := 83) 1 dX14_issues_83 rfl rfl ?_
      refine X_getfield (pc := 84) dX14_issues_84 fg_X14_62_9 (o.ob w2) (by first | rfl | assumption) ?_
      refine X_bipush (pc := 87) (x := (-4)) dX14_issues_87 (by decide) ?_
      refine X_ivr (pc := 89) _ dX14_issues_89 cv_X14_70_6 (XW.rf w2) rfl (as_ok g w2 (-4)) nX8_as (Nat.le_of_ble_eq_true rfl) (Nat.le_of_ble_eq_true rfl) (Nat.le_of_ble_eq_true rfl) (Nat.le_of_ble_eq_true rfl) (fun r3 h3 q3 => ?_)
      obtain ⟨rfl, w3⟩ := q3
      refine X_athrow (pc := 92) dX14_issues_92 rfl (Nat.le_of_ble_eq_true rfl) (Nat.le_of_ble_eq_true rfl) ?_
      rw [← hQ]
      refine Or.inr ⟨rfl, gbad ?_, R2, S1, _, fr2.why (-4), up_same _ _ _, w3⟩
      by_cases z : u = 0
      · exact Or.inr (Or.inl z)
      · exact Or.inr (Or.inr (Or.inl (by omega)))
  have loop : ∀ m i, i + m = many → ∀ (R1 : Nat → Nat) (S1 : Nat → List Int32) (h1 : AH), XW kd A X R1 S1 O F h1 → FrO B R R1 S S1 F F → (∀ j, j < i → eltP T (3 + 49 * j) ≠ none) → (∀ j, j < i → mP sk (eltP T (3 + 49 * j)) ≠ none) → S1 58 = catE (fun i => mP sk (eltP T (3 + 49 * i))) i →
      XX g MX14_issues ({ frames := 10, cells := 24, slots := 1536, locals := 225 } : Room) Q i (64 * i) 3 [(5, .int (nI i)), (0, .ref (A B)), (1, .ref (A 56)), (2, .int 3), (3, .int (nI many)), (4, .ref (A 58))] [] h1 := by
    intro m
    induction m with
    | zero =>
      intro i hi R1 S1 h1 w1 fr1 hP1 hP2 s58
      have e : i = many := by omega
      subst e
      refine X_iload (pc := 3) 0 dX14_issues_3 rfl ?_
      refine X_iload_n (pc := 5) 4 dX14_issues_5 rfl rfl ?_
      refine X_cge (pc := 6) 65 dX14_issues_6 (by decide) (by omega) (by omega) (fun _ => ?_) (fun c => absurd c (by omega))
      exact XX.wide (k' := 8) (n' := 512) (by omega) (by omega) (tail R1 S1 F h1 w1 fr1 hP1 hP2 s58)
    | succ m ih =>
      intro i hi R1 S1 h1 w1 fr1 hP1 hP2 s58
      have e56 : S1 56 = T := by rw [fr1.2.1 56 (by unfold obS; simp only [Bool.or_eq_false_iff, decide_eq_false_iff_not, beq_eq_false_iff_ne]; exact ⟨hX56, by decide, by omega, by omega⟩)]; exact hT
      have xb1 : XB R1 := xb.ob hB fr1.1
      have lc : (S1 58).length = 49 * i := by rw [s58]; exact catE_l i hP2
      refine X_iload (pc := 3) 0 dX14_issues_3 rfl ?_
      refine X_iload_n (pc := 5) 4 dX14_issues_5 rfl rfl ?_
      refine X_cge (pc := 6) 65 dX14_issues_6 (by decide) (by omega) (by omega) (fun c => absurd c (by omega)) (fun _ => ?_)
      refine X_aload_n (pc := 9) 1 dX14_issues_9 rfl rfl ?_
      refine X_aload_n (pc := 10) 2 dX14_issues_10 rfl rfl ?_
      refine X_iload_n (pc := 11) 3 dX14_issues_11 rfl rfl ?_
      refine X_bipush (pc := 12) (x := 49) dX14_issues_12 (by decide) ?_
      refine X_iload (pc := 14) 0 dX14_issues_14 rfl ?_
      refine X_imul (pc := 16) dX14_issues_16 ?_
      rw [show (49 : Int32) * nI i = nI (49 * i) from pk_mul 49 i]
      refine X_iadd (pc := 17) dX14_issues_17 ?_
      rw [show (3 : Int32) + nI (49 * i) = nI (3 + 49 * i) from nI_add 3 _]
      refine X_aload_n (pc := 18) 1 dX14_issues_18 rfl rfl ?_
      refine X_getfield (pc := 19) dX14_issues_19 fg_X14_42_9 (o.ob w1) (by first | rfl | assumption) ?_
      have rd2 := readO_ok g w1 o (P := B + 10) (kb := 56) (nb := 1200) (at' := 3 + 49 * i) o.pt (by omega) xb1 (w1.k 56 (by decide)) (by decide) (by rw [e56]; omega)
      rw [e56] at rd2
      refine X_ivvT (pc := 22) _ dX14_issues_22 cv_X14_170_9 (o.ob w1) rfl (rd2) nX14_read (Nat.le_of_ble_eq_true rfl) (Nat.le_of_ble_eq_true rfl) (by dsimp only; omega) (by dsimp only; omega) (fun h2 q2 => ?_) (fun hx qx => thr _ _ _ _ _ (by dsimp only; omega) (by dsimp only; omega) (gbad (Or.inl ⟨i, by omega, qx.1⟩)) (by obtain ⟨-, R', a1, a2⟩ := qx; exact ⟨R', S1, _, (fr1.trans ⟨fun j hj => a1 j (by have a := obR_ne hj; exact ecS_f (by omega) (by omega) (by omega) (by omega)), fun _ _ => rfl, fun _ _ _ _ => rfl⟩).why (-4), up_same _ _ _, a2⟩))
      obtain ⟨n1, R2, r2, v2, w2⟩ := q2
      have fr2 : FrO B R R2 S S1 F F := fr1.trans ⟨fun j hj => r2 j (by have a := obR_ne hj; exact ecS_f (by omega) (by omega) (by omega) (by omega)), fun _ _ => rfl, fun _ _ _ _ => rfl⟩
      have xb2 : XB R2 := xb.ob hB fr2.1
      have e2 : R2 (B + 2) = sk := by rw [fr2.1 _ (by unfold obR; simp only [Bool.or_eq_false_iff, decide_eq_false_iff_not]; omega)]; exact hs
      have ok2 : OpE kd A X R2 S1 O F (tmS (B + 22)) (A (B + 2)) 12 sk := by
        rw [← e2]
        exact OpE.g (mv := qP) (St.q o.se) (tmS_f (ecS_f (by omega) (by omega) (by omega) (by omega)) (by omega))
      refine X_aload_n (pc := 25) 1 dX14_issues_25 rfl rfl ?_
      refine X_getfield (pc := 26) dX14_issues_26 fg_X14_58_9 (o.ob w2) (by first | rfl | assumption) ?_
      refine X_aload_n (pc := 29) 1 dX14_issues_29 rfl rfl ?_
      refine X_getfield (pc := 30) dX14_issues_30 fg_X14_9_9 (o.ob w2) (by first | rfl | assumption) ?_
      refine X_aload_n (pc := 33) 1 dX14_issues_33 rfl rfl ?_
      refine X_getfield (pc := 34) dX14_issues_34 fg_X14_42_9 (o.ob w2) (by first | rfl | assumption) ?_
      refine X_aload_n (pc := 37) 1 dX14_issues_37 rfl rfl ?_
      refine X_getfield (pc := 38) dX14_issues_38 fg_X14_52_9 (o.ob w2) (by first | rfl | assumption) ?_
      refine X_ivv (pc := 41) _ dX14_issues_41 cv_X14_81_3 (XW.cv w2) rfl (times_ok g w2 (P := B + 22) (Q := B + 10) o.wk o.pt (by omega) (by omega) (by omega) (by omega) xb2 ok2 (eltP_on _ _) v2) nX5_times (Nat.le_of_ble_eq_true rfl) (Nat.le_of_ble_eq_true rfl) (by dsimp only; omega) (by dsimp only; omega) (fun h3 q3 => ?_)
      obtain ⟨R3, r3, v3, w3⟩ := q3
      have fr3 : FrO B R R3 S S1 F F := fr2.trans ⟨fun j hj => r3 j (by have a := obR_ne hj; exact tmS_f (ecS_f (by omega) (by omega) (by omega) (by omega)) (by omega)), fun _ _ => rfl, fun _ _ _ _ => rfl⟩
      refine X_aload_n (pc := 44) 1 dX14_issues_44 rfl rfl ?_
      refine X_aload_n (pc := 45) 1 dX14_issues_45 rfl rfl ?_
      refine X_getfield (pc := 46) dX14_issues_46 fg_X14_52_9 (o.ob w3) (by first | rfl | assumption) ?_
      refine X_aload (pc := 49) 5 dX14_issues_49 rfl ?_
      refine X_bipush (pc := 51) (x := 49) dX14_issues_51 (by decide) ?_
      refine X_iload (pc := 53) 0 dX14_issues_53 rfl ?_
      refine X_imul (pc := 55) dX14_issues_55 ?_
      rw [show (49 : Int32) * nI i = nI (49 * i) from pk_mul 49 i, ← lc]
      refine X_ivvT (pc := 56) _ dX14_issues_56 cv_X14_129_9 (o.ob w3) rfl (writeO_ok g w3 o (P := B + 22) (kt := 58) (nt := 1200) o.wk (by omega) (w3.k 58 (by decide)) (by decide) (by rw [lc]; omega) v3) nX14_write (Nat.le_of_ble_eq_true rfl) (Nat.le_of_ble_eq_true rfl) (by dsimp only; omega) (by dsimp only; omega) (fun h4 q4 => ?_) (fun hx qx => thr _ _ _ _ _ (by dsimp only; omega) (by dsimp only; omega) (gbad (Or.inr (Or.inr (Or.inr ⟨i, by omega, qx.1⟩)))) (by obtain ⟨-, R', a1, a2⟩ := qx; exact ⟨R', S1, _, (fr3.trans ⟨fun j hj => a1 j (cvS_f (obR_ne hj).1), fun _ _ => rfl, fun _ _ _ _ => rfl⟩).why (-4), up_same _ _ _, a2⟩))
      obtain ⟨n2, R4, r4, w4⟩ := q4
      refine X_iinc (pc := 59) (L' := [(5, .int (_ + 1)), (0, .ref _), (1, .ref _), (2, .int _), (3, .int _), (4, .ref _)]) 0 dX14_issues_59 rfl rfl (Nat.le_of_ble_eq_true rfl) rfl ?_
      refine X_goto (pc := 62) 3 dX14_issues_62 (by decide) ?_
      rw [show nI i + 1 = nI (i + 1) from nI_add i 1]
      refine XX.wide (k' := i + 1) (n' := 64 * (i + 1)) (by dsimp only; omega) (by dsimp only; omega) ?_
      refine ih (i + 1) (by omega) R4 _ h4 w4 (fr3.trans ⟨fun j hj => r4 j (cvS_f (obR_ne hj).1), fun j hj => up_ne (obS_ne hj).2.1, fun _ _ _ _ => rfl⟩) (fun j hj => ?_) (fun j hj => ?_) ?_
      · by_cases ej : j = i
        · rw [ej]; exact n1
        · exact hP1 j (by omega)
      · by_cases ej : j = i
        · rw [ej]; exact n2
        · exact hP2 j (by omega)
      · rw [up_same, s58]
        rfl
  refine X_iconst (pc := 0) (x := 0) dX14_issues_0 (by decide) ?_
  refine X_istore (pc := 1) (L' := [(5, .int _), (0, .ref _), (1, .ref _), (2, .int _), (3, .int _), (4, .ref _)]) dX14_issues_1 (Nat.le_of_ble_eq_true rfl) rfl ?_
  exact loop many 0 (by omega) R S h w (FrO.refl B R S F) (fun j hj => absurd hj (Nat.not_lt_zero j)) (fun j hj => absurd hj (Nat.not_lt_zero j)) h58
end XOb6
