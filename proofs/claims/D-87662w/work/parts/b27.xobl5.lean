set_option maxRecDepth 100000
/-! VeilMint's keys of the first type: the composites -/
noncomputable def dXl (ek La Le : List Int32) (at' fr i : Nat) : Nat := h2s (cmsg (seedB ek) (sub La (at' + 49 * i) 49) (sub Le (fr + 49 * i) 49) i)
theorem seed_w : wrd (chars "Seed-OPRFV1-") ++ [tb 1] ++ wrd (chars "-P384-SHA384") = tagB sd0 := by decide
theorem eltP_on (T : List Int32) (i : Nat) : OnP (eltP T i) := decE_on _
def cmR (B j : Nat) : Bool := decide (16 ≤ j ∧ j ≤ 23) || (decide (65 ≤ j ∧ j ≤ 71) || (j == B + 4 || decide (B + 10 ≤ j ∧ j ≤ B + 25)))
theorem cmR_ne {B j : Nat} (h : cmR B j = false) : ¬ (16 ≤ j ∧ j ≤ 23) ∧ ¬ (65 ≤ j ∧ j ≤ 71) ∧ j ≠ B + 4 ∧ ¬ (B + 10 ≤ j ∧ j ≤ B + 25) := by
  unfold cmR at h
  simp only [Bool.or_eq_false_iff, decide_eq_false_iff_not, beq_eq_false_iff_ne] at h
  exact h
theorem cmR_f {B j : Nat} (h : ¬ (16 ≤ j ∧ j ≤ 23) ∧ ¬ (65 ≤ j ∧ j ≤ 71) ∧ j ≠ B + 4 ∧ ¬ (B + 10 ≤ j ∧ j ≤ B + 25)) : cmR B j = false := by
  unfold cmR
  simp only [Bool.or_eq_false_iff, decide_eq_false_iff_not, beq_eq_false_iff_ne]
  exact h
def cmS (B j : Nat) : Bool := hX j || j == B + 7
theorem cmS_ne {B j : Nat} (h : cmS B j = false) : hX j = false ∧ j ≠ B + 7 := by
  unfold cmS at h
  simp only [Bool.or_eq_false_iff, beq_eq_false_iff_ne] at h
  exact h
theorem PtV.ec {R R' : Nat → Nat} {P Q : Nat} {D : PP} (hv : PtV R P D) (hP : 60 ≤ P) (hPQ : P + 4 ≤ Q ∨ Q + 4 ≤ P) (h : ∀ j, ecS Q j = false → R' j = R j) : PtV R' P D := by
  unfold PtV
  rw [h _ (ecS_f (by omega) (by omega) (by omega) (by omega)), h _ (ecS_f (by omega) (by omega) (by omega) (by omega)), h _ (ecS_f (by omega) (by omega) (by omega) (by omega))]
  exact hv
theorem PtV.tm {R R' : Nat → Nat} {P Q : Nat} {D : PP} (hv : PtV R P D) (hP : P = 60 ∨ 68 ≤ P) (hPQ : P + 4 ≤ Q ∨ Q + 4 ≤ P) (h : ∀ j, tmS Q j = false → R' j = R j) : PtV R' P D := by
  unfold PtV
  rw [h _ (tmS_f (ecS_f (by omega) (by omega) (by omega) (by omega)) (by omega)), h _ (tmS_f (ecS_f (by omega) (by omega) (by omega) (by omega)) (by omega)), h _ (tmS_f (ecS_f (by omega) (by omega) (by omega) (by omega)) (by omega))]
  exact hv
section XOb5
variable {kd : Nat → KD} {A : Nat → Nat} {X : AH} {R : Nat → Nat} {S : Nat → List Int32} {O : Nat → AC} {F : Nat → Int32} {h : AH} {B : Nat} {lv : Int32}
theorem PtV.zero {R : Nat → Nat} {P : Nat} : PtV (up R (P + 3) 0) P none := by
  show vm (up R (P + 3) 0 (P + 3)) = 0
  rw [up_same]
  exact vm_z
set_option maxHeartbeats 16000000 in
theorem compositesX_ok (g : GX) (w : XW kd A X R S O F h) (o : ObK kd A O B lv) (xb : XB R) {kb nb at' ke ne fr many : Nat} {kn : Int32} (hkn : kn = 0 ∨ kn = 1) (hkb : kd kb = (6, 2, nb)) (hnb : nb < 2 ^ 20) (hbS : cmS B kb = false) (hke : kd ke = (6, 2, ne)) (hne : ne < 2 ^ 20) (heS : cmS B ke = false)
    (hBb : IsB (S kb)) (hBe' : IsB (S ke)) (hlb : at' + 49 * many ≤ (S kb).length) (hle : fr + 49 * many ≤ (S ke).length) (hm : many ≤ 8) (hel : (S (B + 6)).length = 49) (hBe : IsB (S (B + 6)))
    (hA : ∀ i, i < many → eltP (S kb) (at' + 49 * i) ≠ none) (hE : kn = 0 → ∀ i, i < many → eltP (S ke) (fr + 49 * i) ≠ none) :
    MT g MX14_composites ({ frames := 9, cells := 16, slots := 1024, locals := 196 } : Room) [.ref (A B), .ref (A kb), .int (nI at'), .ref (A ke), .int (nI fr), .int (nI many), .int kn] h
      (RV fun h' => ∃ R' S' F', (∀ j, cmR B j = false → R' j = R j) ∧ (∀ j, cmS B j = false → S' j = S j) ∧ XFr F F' ∧ PtV R' (B + 14) (cpt (dXl (S (B + 6)) (S kb) (S ke) at' fr) (fun i => eltP (S kb) (at' + 49 * i)) many) ∧
        PtV R' (B + 18) (if kn = 1 then mP (R (B + 2)) (cpt (dXl (S (B + 6)) (S kb) (S ke) at' fr) (fun i => eltP (S kb) (at' + 49 * i)) many) else cpt (dXl (S (B + 6)) (S kb) (S ke) at' fr) (fun i => eltP (S ke) (fr + 49 * i)) many) ∧ XW kd A X R' S' O F' h') := by
  refine MT.of (by decide) (Nat.le_of_ble_eq_true rfl) ?_
  have hB := o.b
  have zl : zer128.length = 128 := List.length_replicate
  generalize hQ : (RV fun h' => _) = Q
  generalize hd : dXl (S (B + 6)) (S kb) (S ke) at' fr = dd at *
  have lb1 : (S kb).length ≤ nb := (w.s kb hkb).choose_spec.2.2
  have le1 : (S ke).length ≤ ne := (w.s ke hke).choose_spec.2.2
  have hb8 : kb ≠ 8 ∧ kb ≠ 24 ∧ kb ≠ 25 ∧ kb ≠ 26 := by
    have := (cmS_ne hbS).1
    unfold hX at this
    simp only [Bool.or_eq_false_iff, beq_eq_false_iff_ne] at this
    exact this
  have he8 : ke ≠ 8 ∧ ke ≠ 24 ∧ ke ≠ 25 ∧ ke ≠ 26 := by
    have := (cmS_ne heS).1
    unfold hX at this
    simp only [Bool.or_eq_false_iff, beq_eq_false_iff_ne] at this
    exact this
  -- the end
  have fin : ∀ (R1 : Nat → Nat) (S1 : Nat → List Int32) (F1 : Nat → Int32) (h1 : AH), XW kd A X R1 S1 O F1 h1 → (∀ j, cmR B j = false → R1 j = R j) → (∀ j, cmS B j = false → S1 j = S j) → XFr F F1 → PtV R1 (B + 14) (cpt dd (fun i => eltP (S kb) (at' + 49 * i)) many) →
      (kn = 0 → PtV R1 (B + 18) (cpt dd (fun i => eltP (S ke) (fr + 49 * i)) many)) →
      XX g MX14_composites ({ frames := 9, cells := 16, slots := 1024, locals := 196 } : Room) Q (2 * many) (128 * many) 289 [(8, .int (nI many)), (7, .ref (A 6)), (0, .ref (A B)), (1, .ref (A kb)), (2, .int (nI at')), (3, .ref (A ke)), (4, .int (nI fr)), (5, .int (nI many)), (6, .int kn)] [] h1 := by
    intro R1 S1 F1 h1 w1 r1 s1 f1 vC vE
    refine X_iload (pc := 289) 8 dX14_composites_289 rfl ?_
    rcases hkn with rfl | rfl
    · refine X_if_eq (pc := 291) 313 dX14_composites_291 (by decide) (fun _ => ?_) (fun c => absurd rfl c)
      subst hQ
      refine X_return (pc := 313) dX14_composites_313 rfl (by dsimp only; omega) (by dsimp only; omega) ?_
      refine ⟨rfl, R1, S1, F1, r1, s1, f1, vC, ?_, w1⟩
      rw [if_neg (by decide)]
      exact vE rfl
    · refine X_if_eq (pc := 291) 313 dX14_composites_291 (by decide) (fun c => absurd c (by decide)) (fun _ => ?_)
      have xb1 : XB R1 := xb.fr fun j hj => r1 j (cmR_f (by omega))
      have e2 : R1 (B + 2) = R (B + 2) := r1 _ (cmR_f (by omega))
      have ok1 : OpE kd A X R1 S1 O F1 (tmS (B + 18)) (A (B + 2)) 12 (R (B + 2)) := by
        rw [← e2]
        exact OpE.g (mv := qP) (St.q o.se) (tmS_f (ecS_f (by omega) (by omega) (by omega) (by omega)) (by omega))
      refine X_aload_n (pc := 294) 2 dX14_composites_294 rfl rfl ?_
      refine X_getfield (pc := 295) dX14_composites_295 fg_X14_58_9 (o.ob w1) (by first | rfl | assumption) ?_
      refine X_aload_n (pc := 298) 2 dX14_composites_298 rfl rfl ?_
      refine X_getfield (pc := 299) dX14_composites_299 fg_X14_9_9 (o.ob w1) (by first | rfl | assumption) ?_
      refine X_aload_n (pc := 302) 2 dX14_composites_302 rfl rfl ?_
      refine X_getfield (pc := 303) dX14_composites_303 fg_X14_46_9 (o.ob w1) (by first | rfl | assumption) ?_
      refine X_aload_n (pc := 306) 2 dX14_composites_306 rfl rfl ?_
      refine X_getfield (pc := 307) dX14_composites_307 fg_X14_49_9 (o.ob w1) (by first | rfl | assumption) ?_
      refine X_ivv (pc := 310) _ dX14_composites_310 cv_X14_81_3 (XW.cv w1) rfl (times_ok g w1 (P := B + 18) (Q := B + 14) o.ev o.co (by omega) (by omega) (by omega) (by omega) xb1 ok1 (cpt_on fun i hi => eltP_on _ _) vC) nX5_times (Nat.le_of_ble_eq_true rfl) (Nat.le_of_ble_eq_true rfl) (by dsimp only; omega) (by dsimp only; omega) (fun h2 q2 => ?_)
      obtain ⟨R2, r2, v2, w2⟩ := q2
      subst hQ
      refine X_return (pc := 313) dX14_composites_313 rfl (by dsimp only; omega) (by dsimp only; omega) ?_
      refine ⟨rfl, R2, S1, F1, fun j hj => ?_, s1, f1, vC.tm (by omega) (by omega) r2, ?_, w2⟩
      · have a := cmR_ne hj
        rw [r2 j (tmS_f (ecS_f (by omega) (by omega) (by omega) (by omega)) (by omega)), r1 j hj]
      · rw [if_pos rfl]
        exact v2
  have loop : ∀ m i, i + m = many → ∀ (R1 : Nat → Nat) (S1 : Nat → List Int32) (F1 : Nat → Int32) (h1 : AH), XW kd A X R1 S1 O F1 h1 → (∀ j, cmR B j = false → R1 j = R j) → (∀ j, cmS B j = false → S1 j = S j) → XFr F F1 → S1 (B + 7) = seedB (S (B + 6)) → PtV R1 (B + 14) (cpt dd (fun i => eltP (S kb) (at' + 49 * i)) i) →
      (kn = 0 → PtV R1 (B + 18) (cpt dd (fun i => eltP (S ke) (fr + 49 * i)) i)) →
      XX g MX14_composites ({ frames := 9, cells := 16, slots := 1024, locals := 196 } : Room) Q (2 * i) (128 * i) 82 [(8, .int (nI i)), (7, .ref (A 6)), (0, .ref (A B)), (1, .ref (A kb)), (2, .int (nI at')), (3, .ref (A ke)), (4, .int (nI fr)), (5, .int (nI many)), (6, .int kn)] [] h1 := by
    intro m
    induction m with
    | zero =>
      intro i hi R1 S1 F1 h1 w1 r1 s1 f1 sd vC vE
      have e : i = many := by omega
      subst e
      refine X_iload (pc := 82) 0 dX14_composites_82 rfl ?_
      refine X_iload (pc := 84) 7 dX14_composites_84 rfl ?_
      refine X_cge (pc := 86) 289 dX14_composites_86 (by decide) (by omega) (by omega) (fun _ => ?_) (fun c => absurd c (by omega))
      exact fin R1 S1 F1 h1 w1 r1 s1 f1 vC vE
    | succ m ih =>
      intro i hi R1 S1 F1 h1 w1 r1 s1 f1 sd vC vE
      have e9 : (chars "Composite").length = 9 := by decide
      have hsl : (S1 (B + 7)).length = 48 := by rw [sd]; exact sha384_len _
      have hsB : IsB (S1 (B + 7)) := by rw [sd]; exact sha384_B _
      have skb : S1 kb = S kb := s1 kb hbS
      have ske : S1 ke = S ke := s1 ke heS
      refine X_iload (pc := 82) 0 dX14_composites_82 rfl ?_
      refine X_iload (pc := 84) 7 dX14_composites_84 rfl ?_
      refine X_cge (pc := 86) 289 dX14_composites_86 (by decide) (by omega) (by omega) (fun c => absurd c (by omega)) (fun _ => ?_)
      refine X_aload_n (pc := 89) 2 dX14_composites_89 rfl rfl ?_
      refine X_getfield (pc := 90) dX14_composites_90 fg_X14_58_9 (o.ob w1) (by first | rfl | assumption) ?_
      refine X_ivr (pc := 93) _ dX14_composites_93 cv_X14_109_3 (XW.cv w1) rfl (beginX_ok g w1) nX5_begin (Nat.le_of_ble_eq_true rfl) (Nat.le_of_ble_eq_true rfl) (by dsimp only; omega) (by dsimp only; omega) (fun r2 h2 q2 => ?_)
      obtain ⟨rfl, d2⟩ := q2
      refine X_astore (pc := 96) (L' := [(9, .ref _), (8, .int _), (7, .ref _), (0, .ref _), (1, .ref _), (2, .int _), (3, .ref _), (4, .int _), (5, .int _), (6, .int _)]) dX14_composites_96 (Nat.le_of_ble_eq_true rfl) rfl ?_
      refine X_aload (pc := 98) 0 dX14_composites_98 rfl ?_
      refine X_bipush (pc := 100) (x := 48) dX14_composites_100 (by decide) ?_
      refine X_ivr (pc := 102) _ dX14_composites_102 cv_X14_144_2 (XW.dL d2.1) rfl (xtwoL_ok g d2 (n := 48) (by decide) (by rw [zl]; decide)) nX2_two (Nat.le_of_ble_eq_true rfl) (Nat.le_of_ble_eq_true rfl) (by dsimp only; omega) (by dsimp only; omega) (fun r3 h3 q3 => ?_)
      obtain ⟨rfl, d3⟩ := q3
      have l3 : (zer128 ++ [tb (48 / 256), tb 48]).length = 130 := by rw [List.length_append, zl]; rfl
      refine X_aload_n (pc := 105) 3 dX14_composites_105 rfl rfl ?_
      refine X_getfield (pc := 106) dX14_composites_106 fg_X14_28_9 (o.ob d3.1) (by first | rfl | assumption) ?_
      refine X_iconst (pc := 109) (x := 0) dX14_composites_109 (by decide) ?_
      refine X_bipush (pc := 110) (x := 48) dX14_composites_110 (by decide) ?_
      refine X_ivr (pc := 112) _ dX14_composites_112 cv_X14_113_2 (XW.dL d3.1) rfl (xputsL_ok g d3 (ks := B + 7) (fr := 0) (n := 48) o.sd (by decide) hsB (by rw [hsl]; decide) (by rw [l3]; decide)) nX2_put (Nat.le_of_ble_eq_true rfl) (Nat.le_of_ble_eq_true rfl) (by dsimp only; omega) (by dsimp only; omega) (fun r4 h4 q4 => ?_)
      obtain ⟨rfl, d4⟩ := q4
      rw [sub_all hsl, sd] at d4
      have l4 : (zer128 ++ [tb (48 / 256), tb 48] ++ seedB (S (B + 6))).length = 178 := by rw [List.length_append, l3, ← sd, hsl]
      refine X_iload (pc := 115) 1 dX14_composites_115 rfl ?_
      refine X_ivr (pc := 117) _ dX14_composites_117 cv_X14_144_2 (XW.dL d4.1) rfl (xtwoL_ok g d4 (n := i) (by omega) (by rw [l4]; decide)) nX2_two (Nat.le_of_ble_eq_true rfl) (Nat.le_of_ble_eq_true rfl) (by dsimp only; omega) (by dsimp only; omega) (fun r5 h5 q5 => ?_)
      obtain ⟨rfl, d5⟩ := q5
      have l5 : (zer128 ++ [tb (48 / 256), tb 48] ++ seedB (S (B + 6)) ++ [tb (i / 256), tb i]).length = 180 := by rw [List.length_append, l4]; rfl
      refine X_bipush (pc := 120) (x := 49) dX14_composites_120 (by decide) ?_
      refine X_ivr (pc := 122) _ dX14_composites_122 cv_X14_144_2 (XW.dL d5.1) rfl (xtwoL_ok g d5 (n := 49) (by decide) (by rw [l5]; decide)) nX2_two (Nat.le_of_ble_eq_true rfl) (Nat.le_of_ble_eq_true rfl) (by dsimp only; omega) (by dsimp only; omega) (fun r6 h6 q6 => ?_)
      obtain ⟨rfl, d6⟩ := q6
      have l6 : (zer128 ++ [tb (48 / 256), tb 48] ++ seedB (S (B + 6)) ++ [tb (i / 256), tb i] ++ [tb (49 / 256), tb 49]).length = 182 := by rw [List.length_append, l5]; rfl
      refine X_aload_n (pc := 125) 4 dX14_composites_125 rfl rfl ?_
      refine X_iload_n (pc := 126) 5 dX14_composites_126 rfl rfl ?_
      refine X_bipush (pc := 127) (x := 49) dX14_composites_127 (by decide) ?_
      refine X_iload (pc := 129) 1 dX14_composites_129 rfl ?_
      refine X_imul (pc := 131) dX14_composites_131 ?_
      rw [show (49 : Int32) * nI i = nI (49 * i) from pk_mul 49 i]
      refine X_iadd (pc := 132) dX14_composites_132 ?_
      rw [nI_add]
      refine X_bipush (pc := 133) (x := 49) dX14_composites_133 (by decide) ?_
      refine X_ivr (pc := 135) _ dX14_composites_135 cv_X14_113_2 (XW.dL d6.1) rfl (xputsL_ok g d6 (ks := kb) (fr := at' + 49 * i) (n := 49) hkb (by omega) (by rw [skb]; exact hBb) (by rw [skb]; omega) (by rw [l6]; decide)) nX2_put (Nat.le_of_ble_eq_true rfl) (Nat.le_of_ble_eq_true rfl) (by dsimp only; omega) (by dsimp only; omega) (fun r7 h7 q7 => ?_)
      obtain ⟨rfl, d7⟩ := q7
      rw [skb] at d7
      have l7 : (zer128 ++ [tb (48 / 256), tb 48] ++ seedB (S (B + 6)) ++ [tb (i / 256), tb i] ++ [tb (49 / 256), tb 49] ++ sub (S kb) (at' + 49 * i) 49).length = 231 := by rw [List.length_append, l6, sub_len]
      refine X_bipush (pc := 138) (x := 49) dX14_composites_138 (by decide) ?_
      refine X_ivr (pc := 140) _ dX14_composites_140 cv_X14_144_2 (XW.dL d7.1) rfl (xtwoL_ok g d7 (n := 49) (by decide) (by rw [l7]; decide)) nX2_two (Nat.le_of_ble_eq_true rfl) (Nat.le_of_ble_eq_true rfl) (by dsimp only; omega) (by dsimp only; omega) (fun r8 h8 q8 => ?_)
      obtain ⟨rfl, d8⟩ := q8
      have l8 : (zer128 ++ [tb (48 / 256), tb 48] ++ seedB (S (B + 6)) ++ [tb (i / 256), tb i] ++ [tb (49 / 256), tb 49] ++ sub (S kb) (at' + 49 * i) 49 ++ [tb (49 / 256), tb 49]).length = 233 := by rw [List.length_append, l7]; rfl
      refine X_aload_n (pc := 143) 6 dX14_composites_143 rfl rfl ?_
      refine X_iload (pc := 144) 7 dX14_composites_144 rfl ?_
      refine X_bipush (pc := 146) (x := 49) dX14_composites_146 (by decide) ?_
      refine X_iload (pc := 148) 1 dX14_composites_148 rfl ?_
      refine X_imul (pc := 150) dX14_composites_150 ?_
      rw [show (49 : Int32) * nI i = nI (49 * i) from pk_mul 49 i]
      refine X_iadd (pc := 151) dX14_composites_151 ?_
      rw [nI_add]
      refine X_bipush (pc := 152) (x := 49) dX14_composites_152 (by decide) ?_
      refine X_ivr (pc := 154) _ dX14_composites_154 cv_X14_113_2 (XW.dL d8.1) rfl (xputsL_ok g d8 (ks := ke) (fr := fr + 49 * i) (n := 49) hke (by omega) (by rw [ske]; exact hBe') (by rw [ske]; omega) (by rw [l8]; decide)) nX2_put (Nat.le_of_ble_eq_true rfl) (Nat.le_of_ble_eq_true rfl) (by dsimp only; omega) (by dsimp only; omega) (fun r9 h9 q9 => ?_)
      obtain ⟨rfl, d9⟩ := q9
      rw [ske] at d9
      have l9 : (zer128 ++ [tb (48 / 256), tb 48] ++ seedB (S (B + 6)) ++ [tb (i / 256), tb i] ++ [tb (49 / 256), tb 49] ++ sub (S kb) (at' + 49 * i) 49 ++ [tb (49 / 256), tb 49] ++ sub (S ke) (fr + 49 * i) 49).length = 282 := by rw [List.length_append, l8, sub_len]
      refine X_ldcS (pc := 157) (j := 10) dX14_composites_157 rfl (fun tx_157 vx_157 ht_157 => ?_)
      refine X_ivr (pc := 159) _ dX14_composites_159 cv_X14_150_2 (XW.dL d9.1) rfl (wordL_ok g d9 ht_157 (c7_all (by decide)) (by rw [l9]; decide)) nX2_word (Nat.le_of_ble_eq_true rfl) (Nat.le_of_ble_eq_true rfl) (by dsimp only; omega) (by dsimp only; omega) (fun r10 h10 q10 => ?_)
      obtain ⟨rfl, d10⟩ := q10
      have eM : zer128 ++ [tb (48 / 256), tb 48] ++ seedB (S (B + 6)) ++ [tb (i / 256), tb i] ++ [tb (49 / 256), tb 49] ++ sub (S kb) (at' + 49 * i) 49 ++ [tb (49 / 256), tb 49] ++ sub (S ke) (fr + 49 * i) 49 ++ wrd (chars "Composite") = zer128 ++ cmsg (seedB (S (B + 6))) (sub (S kb) (at' + 49 * i) 49) (sub (S ke) (fr + 49 * i) 49) i := by
        unfold cmsg
        rw [show i / 256 = 0 by omega]
        simp only [List.append_assoc]
        rfl
      rw [eM] at d10
      have lM : (cmsg (seedB (S (B + 6))) (sub (S kb) (at' + 49 * i) 49) (sub (S ke) (fr + 49 * i) 49) i).length ≤ 200 := by
        have := congrArg List.length eM
        rw [List.length_append, l9, List.length_append, zl, wrd_len, e9] at this
        omega
      refine X_pop (pc := 162) dX14_composites_162 rfl ?_
      refine X_aload_n (pc := 163) 3 dX14_composites_163 rfl rfl ?_
      refine X_getfield (pc := 164) dX14_composites_164 fg_X14_58_9 (o.ob d10.1) (by first | rfl | assumption) ?_
      refine X_aload_n (pc := 167) 3 dX14_composites_167 rfl rfl ?_
      refine X_getfield (pc := 168) dX14_composites_168 fg_X14_18_9 (o.ob d10.1) (by first | rfl | assumption) ?_
      refine X_ivv (pc := 171) _ dX14_composites_171 cv_X14_167_3 (XW.cv d10.1) rfl (scalarX_ok g d10 (B + 4) o.su (by omega)) nX5_scalar (Nat.le_of_ble_eq_true rfl) (Nat.le_of_ble_eq_true rfl) (by dsimp only; omega) (by dsimp only; omega) (fun h11 q11 => ?_)
      obtain ⟨S2, F2, s2, f2, w11⟩ := q11
      rw [show h2s (cmsg (seedB (S (B + 6))) (sub (S kb) (at' + 49 * i) 49) (sub (S ke) (fr + 49 * i) 49) i) = dd i by rw [← hd]; rfl] at w11
      obtain ⟨R2, e2, o2, w2⟩ := XW.ab w11
      have r2 : ∀ j, cmR B j = false → R2 j = R j := fun j hj => by
        have a := cmR_ne hj
        rw [o2 j (by omega), r1 j hj]
      have xb2 : XB R2 := xb.fr fun j hj => r2 j (cmR_f (by omega))
      have kb2 : S2 kb = S kb := by rw [s2 kb (cmS_ne hbS).1, skb]
      have ke2 : S2 ke = S ke := by rw [s2 ke (cmS_ne heS).1, ske]
      have hs2 : ∀ j, cmS B j = false → S2 j = S j := fun j hj => by rw [s2 j (cmS_ne hj).1, s1 j hj]
      have sd2 : S2 (B + 7) = seedB (S (B + 6)) := by rw [s2 _ (hX_f (by omega))]; exact sd
      have vC2 : PtV R2 (B + 14) (cpt dd (fun i => eltP (S kb) (at' + 49 * i)) i) := by
        unfold PtV
        rw [o2 _ (by omega), o2 _ (by omega), o2 _ (by omega)]
        exact vC
      have vE2 : kn = 0 → PtV R2 (B + 18) (cpt dd (fun i => eltP (S ke) (fr + 49 * i)) i) := fun z => by
        unfold PtV
        rw [o2 _ (by omega), o2 _ (by omega), o2 _ (by omega)]
        exact vE z
      refine X_aload_n (pc := 174) 3 dX14_composites_174 rfl rfl ?_
      refine X_aload_n (pc := 175) 4 dX14_composites_175 rfl rfl ?_
      refine X_iload_n (pc := 176) 5 dX14_composites_176 rfl rfl ?_
      refine X_bipush (pc := 177) (x := 49) dX14_composites_177 (by decide) ?_
      refine X_iload (pc := 179) 1 dX14_composites_179 rfl ?_
      refine X_imul (pc := 181) dX14_composites_181 ?_
      rw [show (49 : Int32) * nI i = nI (49 * i) from pk_mul 49 i]
      refine X_iadd (pc := 182) dX14_composites_182 ?_
      rw [nI_add]
      refine X_aload_n (pc := 183) 3 dX14_composites_183 rfl rfl ?_
      refine X_getfield (pc := 184) dX14_composites_184 fg_X14_42_9 (o.ob w2) (by first | rfl | assumption) ?_
      have rd3 := readO_ok g w2 o (P := B + 10) (kb := kb) (nb := nb) (at' := at' + 49 * i) o.pt (by omega) xb2 hkb (by omega) (by rw [kb2]; omega)
      rw [kb2] at rd3
      refine X_ivvT (pc := 187) _ dX14_composites_187 cv_X14_170_9 (o.ob w2) rfl (rd3) nX14_read (Nat.le_of_ble_eq_true rfl) (Nat.le_of_ble_eq_true rfl) (by dsimp only; omega) (by dsimp only; omega) (fun h3 q3 => ?_) (fun hx qx => absurd qx.1 (hA i (by omega)))
      obtain ⟨-, R3, r3, v3, w3⟩ := q3
      have r3' : ∀ j, cmR B j = false → R3 j = R j := fun j hj => by
        have a := cmR_ne hj
        rw [r3 j (ecS_f (by omega) (by omega) (by omega) (by omega)), r2 j hj]
      have xb3 : XB R3 := xb.fr fun j hj => r3' j (cmR_f (by omega))
      have e3 : R3 (B + 4) = dd i := by rw [r3 _ (ecS_f (by omega) (by omega) (by omega) (by omega))]; exact e2
      have ok3 : OpE kd A X R3 S2 O F2 (tmS (B + 22)) (A (B + 4)) 12 (dd i) := by
        rw [← e3]
        exact OpE.g (mv := qP) (St.q o.su) (tmS_f (ecS_f (by omega) (by omega) (by omega) (by omega)) (by omega))
      have vC3 := vC2.ec (by omega) (by omega) r3
      refine X_aload_n (pc := 190) 3 dX14_composites_190 rfl rfl ?_
      refine X_getfield (pc := 191) dX14_composites_191 fg_X14_58_9 (o.ob w3) (by first | rfl | assumption) ?_
      refine X_aload_n (pc := 194) 3 dX14_composites_194 rfl rfl ?_
      refine X_getfield (pc := 195) dX14_composites_195 fg_X14_18_9 (o.ob w3) (by first | rfl | assumption) ?_
      refine X_aload_n (pc := 198) 3 dX14_composites_198 rfl rfl ?_
      refine X_getfield (pc := 199) dX14_composites_199 fg_X14_42_9 (o.ob w3) (by first | rfl | assumption) ?_
      refine X_aload_n (pc := 202) 3 dX14_composites_202 rfl rfl ?_
      refine X_getfield (pc := 203) dX14_composites_203 fg_X14_52_9 (o.ob w3) (by first | rfl | assumption) ?_
      refine X_ivv (pc := 206) _ dX14_composites_206 cv_X14_81_3 (XW.cv w3) rfl (times_ok g w3 (P := B + 22) (Q := B + 10) o.wk o.pt (by omega) (by omega) (by omega) (by omega) xb3 ok3 (eltP_on _ _) v3) nX5_times (Nat.le_of_ble_eq_true rfl) (Nat.le_of_ble_eq_true rfl) (by dsimp only; omega) (by dsimp only; omega) (fun h4 q4 => ?_)
      obtain ⟨R4, r4, v4, w4⟩ := q4
      have r4' : ∀ j, cmR B j = false → R4 j = R j := fun j hj => by
        have a := cmR_ne hj
        rw [r4 j (tmS_f (ecS_f (by omega) (by omega) (by omega) (by omega)) (by omega)), r3' j hj]
      have xb4 : XB R4 := xb.fr fun j hj => r4' j (cmR_f (by omega))
      have vC4 := vC3.tm (by omega) (by omega) r4
      have e4 : R4 (B + 4) = dd i := by rw [r4 _ (tmS_f (ecS_f (by omega) (by omega) (by omega) (by omega)) (by omega))]; exact e3
      refine X_aload_n (pc := 209) 3 dX14_composites_209 rfl rfl ?_
      refine X_getfield (pc := 210) dX14_composites_210 fg_X14_58_9 (o.ob w4) (by first | rfl | assumption) ?_
      refine X_aload_n (pc := 213) 3 dX14_composites_213 rfl rfl ?_
      refine X_getfield (pc := 214) dX14_composites_214 fg_X14_46_9 (o.ob w4) (by first | rfl | assumption) ?_
      refine X_aload_n (pc := 217) 3 dX14_composites_217 rfl rfl ?_
      refine X_getfield (pc := 218) dX14_composites_218 fg_X14_52_9 (o.ob w4) (by first | rfl | assumption) ?_
      refine X_ivv (pc := 221) _ dX14_composites_221 cv_X14_172_3 (XW.cv w4) rfl (add_ok g w4 (P := B + 14) (Q := B + 22) o.co o.wk (by omega) (by omega) (by omega) xb4 (by omega) (cpt_on fun i hi => eltP_on _ _) (mP_on (eltP_on _ _) _) vC4 v4) nX5_add (Nat.le_of_ble_eq_true rfl) (Nat.le_of_ble_eq_true rfl) (by dsimp only; omega) (by dsimp only; omega) (fun h5 q5 => ?_)
      obtain ⟨R5, r5, v5, w5⟩ := q5
      have r5' : ∀ j, cmR B j = false → R5 j = R j := fun j hj => by
        have a := cmR_ne hj
        rw [r5 j (ecS_f (by omega) (by omega) (by omega) (by omega)), r4' j hj]
      have xb5 : XB R5 := xb.fr fun j hj => r5' j (cmR_f (by omega))
      have e5 : R5 (B + 4) = dd i := by rw [r5 _ (ecS_f (by omega) (by omega) (by omega) (by omega))]; exact e4
      have f5 : XFr F F2 := f1.trans f2
      refine X_iload (pc := 224) 9 dX14_composites_224 rfl ?_
      rcases hkn with hk0 | hk1
      · have vE5 := (((vE2 hk0).ec (by omega) (by omega) r3).tm (by omega) (by omega) r4).ec (by omega) (by omega) r5
        rw [hk0]
        refine X_if_eq (pc := 226) 232 dX14_composites_226 (by decide) (fun _ => ?_) (fun c => absurd rfl c)
        refine X_aload_n (pc := 232) 3 dX14_composites_232 rfl rfl ?_
        refine X_aload_n (pc := 233) 6 dX14_composites_233 rfl rfl ?_
        refine X_iload (pc := 234) 7 dX14_composites_234 rfl ?_
        refine X_bipush (pc := 236) (x := 49) dX14_composites_236 (by decide) ?_
        refine X_iload (pc := 238) 1 dX14_composites_238 rfl ?_
        refine X_imul (pc := 240) dX14_composites_240 ?_
        rw [show (49 : Int32) * nI i = nI (49 * i) from pk_mul 49 i]
        refine X_iadd (pc := 241) dX14_composites_241 ?_
        rw [nI_add]
        refine X_aload_n (pc := 242) 3 dX14_composites_242 rfl rfl ?_
        refine X_getfield (pc := 243) dX14_composites_243 fg_X14_42_9 (o.ob w5) (by first | rfl | assumption) ?_
        have rd6 := readO_ok g w5 o (P := B + 10) (kb := ke) (nb := ne) (at' := fr + 49 * i) o.pt (by omega) xb5 hke (by omega) (by rw [ke2]; omega)
        rw [ke2] at rd6
        refine X_ivvT (pc := 246) _ dX14_composites_246 cv_X14_170_9 (o.ob w5) rfl (rd6) nX14_read (Nat.le_of_ble_eq_true rfl) (Nat.le_of_ble_eq_true rfl) (by dsimp only; omega) (by dsimp only; omega) (fun h6 q6 => ?_) (fun hx qx => absurd qx.1 (hE hk0 i (by omega)))
        obtain ⟨-, R6, r6, v6, w6⟩ := q6
        have r6' : ∀ j, cmR B j = false → R6 j = R j := fun j hj => by
          have a := cmR_ne hj
          rw [r6 j (ecS_f (by omega) (by omega) (by omega) (by omega)), r5' j hj]
        have xb6 : XB R6 := xb.fr fun j hj => r6' j (cmR_f (by omega))
        have e6 : R6 (B + 4) = dd i := by rw [r6 _ (ecS_f (by omega) (by omega) (by omega) (by omega))]; exact e5
        have ok6 : OpE kd A X R6 S2 O F2 (tmS (B + 22)) (A (B + 4)) 12 (dd i) := by
          rw [← e6]
          exact OpE.g (mv := qP) (St.q o.su) (tmS_f (ecS_f (by omega) (by omega) (by omega) (by omega)) (by omega))
        refine X_aload_n (pc := 249) 3 dX14_composites_249 rfl rfl ?_
        refine X_getfield (pc := 250) dX14_composites_250 fg_X14_58_9 (o.ob w6) (by first | rfl | assumption) ?_
        refine X_aload_n (pc := 253) 3 dX14_composites_253 rfl rfl ?_
        refine X_getfield (pc := 254) dX14_composites_254 fg_X14_18_9 (o.ob w6) (by first | rfl | assumption) ?_
        refine X_aload_n (pc := 257) 3 dX14_composites_257 rfl rfl ?_
        refine X_getfield (pc := 258) dX14_composites_258 fg_X14_42_9 (o.ob w6) (by first | rfl | assumption) ?_
        refine X_aload_n (pc := 261) 3 dX14_composites_261 rfl rfl ?_
        refine X_getfield (pc := 262) dX14_composites_262 fg_X14_52_9 (o.ob w6) (by first | rfl | assumption) ?_
        refine X_ivv (pc := 265) _ dX14_composites_265 cv_X14_81_3 (XW.cv w6) rfl (times_ok g w6 (P := B + 22) (Q := B + 10) o.wk o.pt (by omega) (by omega) (by omega) (by omega) xb6 ok6 (eltP_on _ _) v6) nX5_times (Nat.le_of_ble_eq_true rfl) (Nat.le_of_ble_eq_true rfl) (by dsimp only; omega) (by dsimp only; omega) (fun h7 q7 => ?_)
        obtain ⟨R7, r7, v7, w7⟩ := q7
        have r7' : ∀ j, cmR B j = false → R7 j = R j := fun j hj => by
          have a := cmR_ne hj
          rw [r7 j (tmS_f (ecS_f (by omega) (by omega) (by omega) (by omega)) (by omega)), r6' j hj]
        have xb7 : XB R7 := xb.fr fun j hj => r7' j (cmR_f (by omega))
        have vE7 := (vE5.ec (by omega) (by omega) r6).tm (by omega) (by omega) r7
        refine X_aload_n (pc := 268) 3 dX14_composites_268 rfl rfl ?_
        refine X_getfield (pc := 269) dX14_composites_269 fg_X14_58_9 (o.ob w7) (by first | rfl | assumption) ?_
        refine X_aload_n (pc := 272) 3 dX14_composites_272 rfl rfl ?_
        refine X_getfield (pc := 273) dX14_composites_273 fg_X14_49_9 (o.ob w7) (by first | rfl | assumption) ?_
        refine X_aload_n (pc := 276) 3 dX14_composites_276 rfl rfl ?_
        refine X_getfield (pc := 277) dX14_composites_277 fg_X14_52_9 (o.ob w7) (by first | rfl | assumption) ?_
        refine X_ivv (pc := 280) _ dX14_composites_280 cv_X14_172_3 (XW.cv w7) rfl (add_ok g w7 (P := B + 18) (Q := B + 22) o.ev o.wk (by omega) (by omega) (by omega) xb7 (by omega) (cpt_on fun i hi => eltP_on _ _) (mP_on (eltP_on _ _) _) vE7 v7) nX5_add (Nat.le_of_ble_eq_true rfl) (Nat.le_of_ble_eq_true rfl) (by dsimp only; omega) (by dsimp only; omega) (fun h8 q8 => ?_)
        obtain ⟨R8, r8, v8, w8⟩ := q8
        refine X_iinc (pc := 283) (L' := [(8, .int (_ + 1)), (9, .ref _), (7, .ref _), (0, .ref _), (1, .ref _), (2, .int _), (3, .ref _), (4, .int _), (5, .int _), (6, .int _)]) 1 dX14_composites_283 rfl rfl (Nat.le_of_ble_eq_true rfl) rfl ?_
        refine X_goto (pc := 286) 82 dX14_composites_286 (by decide) ?_
        rw [show nI i + 1 = nI (i + 1) from nI_add i 1]
        refine XX.pick (L' := [(8, .int _), (7, .ref _), (0, .ref _), (1, .ref _), (2, .int _), (3, .ref _), (4, .int _), (5, .int _), (6, .int _)]) [0, 2, 3, 4, 5, 6, 7, 8, 9] rfl ?_
        refine XX.wide (k' := 2 * (i + 1)) (n' := 128 * (i + 1)) (by dsimp only; omega) (by dsimp only; omega) ?_
        have ih2 := ih (i + 1) (by omega) R8 S2 F2 h8 w8 (fun j hj => ?_) hs2 f5 sd2 (((v5.ec (by omega) (by omega) r6).tm (by omega) (by omega) r7).ec (by omega) (by omega) r8) (fun _ => v8)
        · rw [hk0] at ih2
          exact ih2
        · have a := cmR_ne hj
          rw [r8 j (ecS_f (by omega) (by omega) (by omega) (by omega)), r7' j hj]
      · have ih2 := ih (i + 1) (by omega) R5 S2 F2 h5 w5 r5' hs2 f5 sd2 v5 (fun z => absurd (z.symm.trans hk1) (by decide))
        rw [hk1] at ih2 ⊢
        refine X_if_eq (pc := 226) 232 dX14_composites_226 (by decide) (fun c => absurd c (by decide)) (fun _ => ?_)
        refine X_goto (pc := 229) 283 dX14_composites_229 (by decide) ?_
        refine X_iinc (pc := 283) (L' := [(8, .int (_ + 1)), (9, .ref _), (7, .ref _), (0, .ref _), (1, .ref _), (2, .int _), (3, .ref _), (4, .int _), (5, .int _), (6, .int _)]) 1 dX14_composites_283 rfl rfl (Nat.le_of_ble_eq_true rfl) rfl ?_
        refine X_goto (pc := 286) 82 dX14_composites_286 (by decide) ?_
        rw [show nI i + 1 = nI (i + 1) from nI_add i 1]
        refine XX.pick (L' := [(8, .int _), (7, .ref _), (0, .ref _), (1, .ref _), (2, .int _), (3, .ref _), (4, .int _), (5, .int _), (6, .int _)]) [0, 2, 3, 4, 5, 6, 7, 8, 9] rfl ?_
        exact XX.wide (k' := 2 * (i + 1)) (n' := 128 * (i + 1)) (by dsimp only; omega) (by dsimp only; omega) ih2
  have e12 : (chars "Seed-OPRFV1-").length = 12 := by decide
  have e13 : (chars "-P384-SHA384").length = 12 := by decide
  refine X_aload_n (pc := 0) 0 dX14_composites_0 rfl rfl ?_
  refine X_getfield (pc := 1) dX14_composites_1 fg_X14_58_9 (o.ob w) (by first | rfl | assumption) ?_
  refine X_getfield (pc := 4) dX14_composites_4 fg_X14_137_3 (XW.cv w) (by first | rfl | assumption) ?_
  refine X_ivr (pc := 7) _ dX14_composites_7 cv_X14_141_2 (XW.dL w) rfl (xbeginL_ok g w) nX2_begin (Nat.le_of_ble_eq_true rfl) (Nat.le_of_ble_eq_true rfl) (Nat.le_of_ble_eq_true rfl) (Nat.le_of_ble_eq_true rfl) (fun r1 h1 q1 => ?_)
  obtain ⟨rfl, d1⟩ := q1
  refine X_astore (pc := 10) (L' := [(7, .ref _), (0, .ref _), (1, .ref _), (2, .int _), (3, .ref _), (4, .int _), (5, .int _), (6, .int _)]) dX14_composites_10 (Nat.le_of_ble_eq_true rfl) rfl ?_
  refine X_aload (pc := 12) 0 dX14_composites_12 rfl ?_
  refine X_bipush (pc := 14) (x := 49) dX14_composites_14 (by decide) ?_
  refine X_ivr (pc := 16) _ dX14_composites_16 cv_X14_144_2 (XW.dL d1.1) rfl (xtwoL_ok g d1 (n := 49) (by decide) (by decide)) nX2_two (Nat.le_of_ble_eq_true rfl) (Nat.le_of_ble_eq_true rfl) (Nat.le_of_ble_eq_true rfl) (Nat.le_of_ble_eq_true rfl) (fun r2 h2 q2 => ?_)
  obtain ⟨rfl, d2⟩ := q2
  refine X_aload_n (pc := 19) 1 dX14_composites_19 rfl rfl ?_
  refine X_getfield (pc := 20) dX14_composites_20 fg_X14_24_9 (o.ob d2.1) (by first | rfl | assumption) ?_
  refine X_iconst (pc := 23) (x := 0) dX14_composites_23 (by decide) ?_
  refine X_bipush (pc := 24) (x := 49) dX14_composites_24 (by decide) ?_
  refine X_ivr (pc := 26) _ dX14_composites_26 cv_X14_113_2 (XW.dL d2.1) rfl (xputsL_ok g d2 (ks := B + 6) (fr := 0) (n := 49) o.el (by decide) hBe (by rw [hel]; decide) (by show (2 : Nat) + 49 + 1 < _; decide)) nX2_put (Nat.le_of_ble_eq_true rfl) (Nat.le_of_ble_eq_true rfl) (Nat.le_of_ble_eq_true rfl) (Nat.le_of_ble_eq_true rfl) (fun r3 h3 q3 => ?_)
  obtain ⟨rfl, d3⟩ := q3
  rw [sub_all hel] at d3
  have l3 : ([] ++ [tb (49 / 256), tb 49] ++ S (B + 6)).length = 51 := by rw [List.length_append, hel]; rfl
  refine X_bipush (pc := 29) (x := 25) dX14_composites_29 (by decide) ?_
  refine X_ivr (pc := 31) _ dX14_composites_31 cv_X14_144_2 (XW.dL d3.1) rfl (xtwoL_ok g d3 (n := 25) (by decide) (by rw [l3]; decide)) nX2_two (Nat.le_of_ble_eq_true rfl) (Nat.le_of_ble_eq_true rfl) (Nat.le_of_ble_eq_true rfl) (Nat.le_of_ble_eq_true rfl) (fun r4 h4 q4 => ?_)
  obtain ⟨rfl, d4⟩ := q4
  have l4 : ([] ++ [tb (49 / 256), tb 49] ++ S (B + 6) ++ [tb (25 / 256), tb 25]).length = 53 := by rw [List.length_append, l3]; rfl
  refine X_ldcS (pc := 34) (j := 8) dX14_composites_34 rfl (fun tx_34 vx_34 ht_34 => ?_)
  refine X_ivr (pc := 36) _ dX14_composites_36 cv_X14_150_2 (XW.dL d4.1) rfl (wordL_ok g d4 ht_34 (c7_all (by decide)) (by rw [l4]; decide)) nX2_word (Nat.le_of_ble_eq_true rfl) (Nat.le_of_ble_eq_true rfl) (Nat.le_of_ble_eq_true rfl) (Nat.le_of_ble_eq_true rfl) (fun r5 h5 q5 => ?_)
  obtain ⟨rfl, d5⟩ := q5
  have l5 : ([] ++ [tb (49 / 256), tb 49] ++ S (B + 6) ++ [tb (25 / 256), tb 25] ++ wrd (chars "Seed-OPRFV1-")).length = 65 := by rw [List.length_append, l4, wrd_len, e12]
  refine X_iconst (pc := 39) (x := 1) dX14_composites_39 (by decide) ?_
  refine X_ivr (pc := 40) _ dX14_composites_40 cv_X14_154_2 (XW.dL d5.1) rfl (xputL_ok g d5 1 (by rw [l5]; decide)) nX2_put_2 (Nat.le_of_ble_eq_true rfl) (Nat.le_of_ble_eq_true rfl) (Nat.le_of_ble_eq_true rfl) (Nat.le_of_ble_eq_true rfl) (fun r6 h6 q6 => ?_)
  obtain ⟨rfl, d6⟩ := q6
  have l6 : ([] ++ [tb (49 / 256), tb 49] ++ S (B + 6) ++ [tb (25 / 256), tb 25] ++ wrd (chars "Seed-OPRFV1-") ++ [(1 : Int32).toInt8.toInt32]).length = 66 := by rw [List.length_append, l5]; rfl
  refine X_ldcS (pc := 43) (j := 9) dX14_composites_43 rfl (fun tx_43 vx_43 ht_43 => ?_)
  refine X_ivr (pc := 45) _ dX14_composites_45 cv_X14_150_2 (XW.dL d6.1) rfl (wordL_ok g d6 ht_43 (c7_all (by decide)) (by rw [l6]; decide)) nX2_word (Nat.le_of_ble_eq_true rfl) (Nat.le_of_ble_eq_true rfl) (Nat.le_of_ble_eq_true rfl) (Nat.le_of_ble_eq_true rfl) (fun r7 h7 q7 => ?_)
  obtain ⟨rfl, d7⟩ := q7
  have l7 : ([] ++ [tb (49 / 256), tb 49] ++ S (B + 6) ++ [tb (25 / 256), tb 25] ++ wrd (chars "Seed-OPRFV1-") ++ [(1 : Int32).toInt8.toInt32] ++ wrd (chars "-P384-SHA384")).length = 78 := by rw [List.length_append, l6, wrd_len, e13]
  refine X_pop (pc := 48) dX14_composites_48 rfl ?_
  refine X_aload (pc := 49) 0 dX14_composites_49 rfl ?_
  refine X_ivr (pc := 51) _ dX14_composites_51 cv_X14_158_2 (XW.dL d7.1) rfl (endL_ok g d7 (by rw [l7]; decide)) nX2_end (Nat.le_of_ble_eq_true rfl) (Nat.le_of_ble_eq_true rfl) (Nat.le_of_ble_eq_true rfl) (Nat.le_of_ble_eq_true rfl) (fun r8 h8 q8 => ?_)
  obtain ⟨rfl, F8, f8, w8⟩ := q8
  have es : sha384 ([] ++ [tb (49 / 256), tb 49] ++ S (B + 6) ++ [tb (25 / 256), tb 25] ++ wrd (chars "Seed-OPRFV1-") ++ [(1 : Int32).toInt8.toInt32] ++ wrd (chars "-P384-SHA384")) = seedB (S (B + 6)) := by
    unfold seedB
    rw [← seed_w]
    congr 1
    simp only [List.append_assoc]
    rfl
  rw [es] at w8
  have hol : (seedB (S (B + 6))).length = 48 := sha384_len _
  obtain ⟨g8, c8, p8, -⟩ := w8.s 8 (w8.k 8 (by decide))
  obtain ⟨ft, ct, pt, lt⟩ := w8.s (B + 7) o.sd
  refine X_iconst (pc := 54) (x := 0) dX14_composites_54 (by decide) ?_
  refine X_aload_n (pc := 55) 1 dX14_composites_55 rfl rfl ?_
  refine X_getfield (pc := 56) dX14_composites_56 fg_X14_28_9 (o.ob w8) (by first | rfl | assumption) ?_
  refine X_iconst (pc := 59) (x := 0) dX14_composites_59 (by decide) ?_
  refine X_bipush (pc := 60) (x := 48) dX14_composites_60 (by decide) ?_
  refine X_copyI (pc := 62) (0) (0) (48) dX14_composites_62 q810 (Or.inr rfl) c8 ct rfl rfl rfl (by omega) (by omega) ⟨by omega, by omega⟩ (Nat.le_of_ble_eq_true rfl) (Nat.le_of_ble_eq_true rfl) ?_
  have w9 := w8.cpy (ks := 8) (ns := 48) (sN := 0) (dN := 0) (n := 48) o.sd p8 pt (Nat.zero_le _) (by rw [up_same, hol]; decide) (by decide)
  rw [up_same, List.take_zero, List.nil_append, sub_all hol] at w9
  generalize hset h8 (A (B + 7)) (Ai false 2 48 (va_cpy g8 ft 0 0 48)) = h9 at w9
  refine X_aload_n (pc := 65) 1 dX14_composites_65 rfl rfl ?_
  refine X_getfield (pc := 66) dX14_composites_66 fg_X14_46_9 (o.ob w9) (by first | rfl | assumption) ?_
  refine X_ivv (pc := 69) _ dX14_composites_69 cv_X14_162_5 (PtK.c o.co w9) rfl (vanish_ok g w9 (P := B + 14) o.co) nX7_vanish (Nat.le_of_ble_eq_true rfl) (Nat.le_of_ble_eq_true rfl) (Nat.le_of_ble_eq_true rfl) (Nat.le_of_ble_eq_true rfl) (fun h10 w10 => ?_)
  refine X_aload_n (pc := 72) 1 dX14_composites_72 rfl rfl ?_
  refine X_getfield (pc := 73) dX14_composites_73 fg_X14_49_9 (o.ob w10) (by first | rfl | assumption) ?_
  refine X_ivv (pc := 76) _ dX14_composites_76 cv_X14_162_5 (PtK.c o.ev w10) rfl (vanish_ok g w10 (P := B + 18) o.ev) nX7_vanish (Nat.le_of_ble_eq_true rfl) (Nat.le_of_ble_eq_true rfl) (Nat.le_of_ble_eq_true rfl) (Nat.le_of_ble_eq_true rfl) (fun h11 w11 => ?_)
  refine X_iconst (pc := 79) (x := 0) dX14_composites_79 (by decide) ?_
  refine X_istore (pc := 80) (L' := [(8, .int _), (7, .ref _), (0, .ref _), (1, .ref _), (2, .int _), (3, .ref _), (4, .int _), (5, .int _), (6, .int _)]) dX14_composites_80 (Nat.le_of_ble_eq_true rfl) rfl ?_
  refine loop many 0 (by omega) _ _ F8 h11 w11 (fun j hj => ?_) (fun j hj => ?_) f8 (up_same _ _ _) ?_ (fun _ => PtV.zero)
  · have a := cmR_ne hj
    rw [up_ne (by omega), up_ne (by omega)]
  · have a := cmS_ne hj
    have h8' : j ≠ 8 := fun z => by rw [z] at a; exact absurd a.1 (by decide)
    rw [up_ne a.2, up_ne h8']
  · show vm (up (up R (B + 14 + 3) 0) (B + 18 + 3) 0 (B + 14 + 3)) = 0
    rw [up_ne (by omega), up_same]
    exact vm_z
end XOb5
