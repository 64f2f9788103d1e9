set_option maxRecDepth 100000
/-! the reference: giving -/
theorem catE_len {P : Nat → PP} {n : Nat} (h : ∀ i, i < n → (en (P i)).length = 49) : (catE P n).length = 49 * n := by
  induction n with
  | zero => rfl
  | succ n ih =>
    show (catE P n ++ en (P n)).length = _
    rw [List.length_append, ih (fun i hi => h i (by omega)), h n (by omega)]
    omega
theorem eScr_off {i j : Nat} (hi : i < 8) (h : (200 ≤ j ∧ j < 300 ∧ j ≠ 209 + i) ∨ (300 ≤ j ∧ j ≠ 309 + i)) : eScr (9 + i) j = false := by
  simp only [eScr, Bool.or_eq_false_iff, beq_eq_false_iff_ne, ne_eq]
  omega
theorem mScr_off {i j : Nat} (hi : i < 8) (h : (202 ≤ j ∧ j < 300 ∧ j ≠ 217 + i) ∨ (302 ≤ j ∧ j ≠ 317 + i)) : mScr (17 + i) j = false := by
  simp only [mScr, Bool.or_eq_false_iff, beq_eq_false_iff_ne, ne_eq]
  omega
theorem relR_e {i j : Nat} (hi : i < 8) (h : relR j) : eScr (9 + i) j = false := by
  unfold relR at h
  simp only [eScr, Bool.or_eq_false_iff, beq_eq_false_iff_ne, ne_eq]
  omega
theorem relR_m17 {i j : Nat} (hi : i < 8) (h : relR j) : mScr (17 + i) j = false := by
  unfold relR at h
  simp only [mScr, Bool.or_eq_false_iff, beq_eq_false_iff_ne, ne_eq]
  omega
theorem relR_pv {j : Nat} (h : relR j) : pvR j = false := by
  unfold relR at h
  simp only [pvR, cScr, Bool.or_eq_false_iff, beq_eq_false_iff_ne, ne_eq]
  omega
theorem relF_pv {j : Nat} (h : relF j) (h26 : j ≠ 26) : pvF j = false := by
  unfold relF at h
  simp only [pvF, cF, Bool.or_eq_false_iff, beq_eq_false_iff_ne, ne_eq]
  omega
theorem relS_c {j : Nat} (h : relS j) : cK j = false := by
  unfold relS at h
  simp only [cK, hKm, hK, Bool.or_eq_false_iff, beq_eq_false_iff_ne, ne_eq]
  omega
theorem kd2 {i : Nat} (hi : i < 8) : kdM (200 + (9 + i)) = (2, 0, 12) ∧ kdM (200 + (17 + i)) = (2, 0, 12) := by
  obtain rfl | rfl | rfl | rfl | rfl | rfl | rfl | rfl : i = 0 ∨ i = 1 ∨ i = 2 ∨ i = 3 ∨ i = 4 ∨ i = 5 ∨ i = 6 ∨ i = 7 := by omega
  all_goals exact ⟨rfl, rfl⟩
section MGv
variable {A : Nat → Nat} {X : AH} {R R' : Nat → Nat} {I I' : Nat → Nat → Int32} {S S' : Nat → List Int32} {F F' : Nat → Int32} {h : AH} {N : Nat → Nat} {L : Nat → List Int32}
theorem en_len {s : Nat} (w : MW A X R I S F h) (hs : s < 31) (so : SpO R F s) : (en (spt R F s)).length = 49 := by rw [en_spt so.1 so.2.1 (w.lt (kd_y hs))]; exact encB_len _ _
set_option maxHeartbeats 16000000 in
theorem gives_ok (g : GX) (wf : Wf N L) (w : MW A X R I S F h) (ms : MS N L R I (up S 81 []) F) {T : List Int32} {k many : Nat} (hk : k < N 0) (ht : N (100 + k) = 1) (hT : S 81 = T) (hm : many ≤ 8) (hTl : T.length = 3 + 49 * many + 48) :
    MT g MX10_gives ({ frames := 11, cells := 0, slots := 0, locals := 237 } : Room) [.ref (A 96), .int (nI k), .int (nI many)] h (RI (MQ3 A X (sGives N L T k many))) := by
  refine MT.of (by decide) (Nat.le_of_ble_eq_true rfl) ?_
  have hk6 : k < 6 := Nat.lt_of_lt_of_le hk wf.1
  have ko := wf.kk hk
  have km := ms.kk hk
  obtain ⟨soK, spK, iV⟩ := km.2.2.2.2.1 ht
  have hsk : 0 < N (120 + k) ∧ N (120 + k) < qP := by
    rcases ko.2.2.2 with z | z
    · exact ⟨z.2.1, z.2.2.1⟩
    · exact absurd (z.1.symm.trans ht) (by decide)
  obtain ⟨m1, m2, m3, m4, mG, mG0, m7⟩ := ms.1
  have hbk : vp_in (nI k) 6 := vp_in_nI hk6 (by decide)
  have ck : (nI k).toNatClampNeg = k := nI_clamp (by omega)
  have hsd : sGives N L T k many = cIf ((∃ i, i < many ∧ eltP T (3 + 49 * i) = none) ∨ num T (3 + 49 * many) 48 = 0 ∨ qP ≤ num T (3 + 49 * many) 48 ∨ (∃ i, i < many ∧ mP (N (120 + k)) (eltP T (3 + 49 * i)) = none)) (-4, N, L)
      (match prv (mP (N (120 + k)) GP) (cpt (cD (en (mP (N (120 + k)) GP)) (fun i => eltP T (3 + 49 * i)) (fun i => mP (N (120 + k)) (eltP T (3 + 49 * i)))) (fun i => eltP T (3 + 49 * i)) many)
      (cpt (cD (en (mP (N (120 + k)) GP)) (fun i => eltP T (3 + 49 * i)) (fun i => mP (N (120 + k)) (eltP T (3 + 49 * i)))) (fun i => mP (N (120 + k)) (eltP T (3 + 49 * i))) many) (num T (3 + 49 * many) 48) with
    | none => (-4, N, L)
    | some c => (nI (49 * many + 96), N, up L 1 (catE (fun i => mP (N (120 + k)) (eltP T (3 + 49 * i))) many ++ byN c 48 ++ byN (sbN qP (num T (3 + 49 * many) 48) (c * N (120 + k) % qP)) 48))) := rfl
  generalize hsk0 : N (120 + k) = sk at *
  generalize hrr : num T (3 + 49 * many) 48 = r at *
  generalize hPost : RI (MQ3 A X (sGives N L T k many)) = Post
  have msr : ∀ R' S' F', (∀ j, relR j → R' j = R j) → (∀ j, relS j → S' j = S j) → (∀ j, relF j → F' j = F j) → MS N L R' I (up S' 81 []) F' := fun R' S' F' a b c => ms.cg ⟨wf.1, wf.2.1⟩ a (fun _ _ => rfl) (fun j hj => by
    by_cases e : j = 81
    · subst e; rw [up_same, up_same]
    · rw [up_ne e, up_ne e]; exact b j hj) c
  have no : ∀ R' S' F' h', MW A X R' I S' F' h' → (∀ j, relR j → R' j = R j) → (∀ j, relS j → S' j = S j) → (∀ j, relF j → F' j = F j) → ((∃ i, i < many ∧ eltP T (3 + 49 * i) = none) ∨ r = 0 ∨ qP ≤ r ∨ (∃ i, i < many ∧ mP sk (eltP T (3 + 49 * i)) = none)) → Post (.returned (some (.int (-4)))) h' := by
    intro R' S' F' h' w' a b c hc
    subst hPost
    rw [hsd, cIf_t hc]
    exact ⟨_, rfl, rfl, MRep.of w' (msr R' S' F' a b c)⟩
  -- behind the elements
  have tail : ∀ R1 F1 h1 (y : Int32), MW A X R1 I S F1 h1 → (∀ j, relR j → R1 j = R j) → (∀ j, relF j → F1 j = F j) → ((y = 1 ∧ ∀ j, j < many → SpO R1 F1 (9 + j) ∧ spt R1 F1 (9 + j) = eltP T (3 + 49 * j)) ∨ (y = 0 ∧ ∃ j, j < many ∧ eltP T (3 + 49 * j) = none)) → ∀ x : Int32,
      XX g MX10_gives ({ frames := 11, cells := 0, slots := 0, locals := 237 } : Room) Post 0 0 44 [(4, .int x), (3, .int y), (0, .ref (A 96)), (1, .int (nI k)), (2, .int (nI many))] [] h1 := by
    intro R1 F1 h1 y w1 fR1 fF1 hy x
    obtain ⟨f81, c81, p81, -⟩ := w1.s 81 rfl
    rw [hT] at p81
    obtain ⟨f94, c94, -⟩ := w1.n2 94 rfl
    refine X_aload_n (pc := 44) 2 dX10_gives_44 rfl rfl ?_
    refine X_getfield (pc := 45) dX10_gives_45 fg_X10_534_11 (MW.ob w1) mf_81 ?_
    refine X_iconst (pc := 48) (x := 3) dX10_gives_48 (by decide) ?_
    refine X_bipush (pc := 49) (x := 49) dX10_gives_49 (by decide) ?_
    refine X_iload_n (pc := 51) 4 dX10_gives_51 rfl rfl ?_
    refine X_imul (pc := 52) dX10_gives_52 ?_
    refine X_iadd (pc := 53) dX10_gives_53 ?_
    rw [show (49 : Int32) * nI many = nI (49 * many) from pk_mul 49 many, show (3 : Int32) + nI (49 * many) = nI (3 + 49 * many) from nI_add 3 _]
    refine X_bipush (pc := 54) (x := 48) dX10_gives_54 (by decide) ?_
    refine X_aload_n (pc := 56) 2 dX10_gives_56 rfl rfl ?_
    refine X_getfield (pc := 57) dX10_gives_57 fg_X10_567_11 (MW.ob w1) mf_94 ?_
    refine X_bipush (pc := 60) (x := 12) dX10_gives_60 (by decide) ?_
    refine X_isv (pc := 62) _ dX10_gives_62 cs_X10_217 rfl (load_ok g (fr := 3 + 49 * many) (many := 48) (n := 12) c81 c94 (by omega) (by decide) (by decide) (by decide) (by decide)) nX10_load (Nat.le_of_ble_eq_true rfl) (Nat.le_of_ble_eq_true rfl) (Nat.le_of_ble_eq_true rfl) (Nat.le_of_ble_eq_true rfl) (fun h2 q2 => ?_)
    obtain ⟨f1, hv, -, rfl⟩ := q2
    have hvn : bsm f81 (3 + 49 * many + 48) 48 = r := by rw [← hrr]; exact bsm_cg fun q hq => p81 _ (by omega)
    rw [hvn] at hv
    have w2 := w1.setN2 94 rfl hv
    generalize hset h1 (A 94) (Ai false 0 12 f1) = h2 at *
    have k94 : (up R1 94 r) 94 = r := up_same _ _ _
    have rot : ∀ j, j ≠ 94 → (up R1 94 r) j = R1 j := fun j hj => up_ne hj
    generalize up R1 94 r = R2 at *
    have fR2 : ∀ j, relR j → R2 j = R j := fun j hj => by rw [rot j (by unfold relR at hj; omega)]; exact fR1 j hj
    have o94 : OpM A h2 (A 94) 12 r := by have := OpM.n2 w2 94 rfl; rwa [k94] at this
    have r79 : ∀ L', ((∃ i, i < many ∧ eltP T (3 + 49 * i) = none) ∨ r = 0 ∨ qP ≤ r) → XX g MX10_gives ({ frames := 11, cells := 0, slots := 0, locals := 237 } : Room) Post 0 0 79 L' [] h2 := by
      intro L' hc
      refine X_bipush (pc := 79) (x := (-4)) dX10_gives_79 (by decide) ?_
      refine X_ireturn (pc := 81) dX10_gives_81 rfl (Nat.le_of_ble_eq_true rfl) (Nat.le_of_ble_eq_true rfl) ?_
      exact no R2 S F1 h2 w2 fR2 (fun _ _ => rfl) fF1 (hc.elim Or.inl fun z => Or.inr (z.elim Or.inl fun z => Or.inr (Or.inl z)))
    refine X_iload_n (pc := 65) 1 dX10_gives_65 rfl rfl ?_
    rcases hy with ⟨rfl, hel⟩ | ⟨rfl, hel⟩
    rotate_left
    · exact X_if_eq (pc := 66) 79 dX10_gives_66 (by decide) (fun _ => r79 _ (Or.inl hel)) (fun z => absurd rfl z)
    refine X_if_eq (pc := 66) 79 dX10_gives_66 (by decide) (fun z => absurd z (by decide)) (fun _ => ?_)
    have hel2 : ∀ j, j < many → SpO R2 F1 (9 + j) ∧ spt R2 F1 (9 + j) = eltP T (3 + 49 * j) := fun j hj => by
      obtain ⟨⟨a, b, c⟩, d⟩ := hel j hj
      have e : spt R2 F1 (9 + j) = spt R1 F1 (9 + j) := spt_cg (rot _ (by omega)) (rot _ (by omega)) rfl
      exact ⟨⟨a, by rw [rot _ (by omega)]; exact b, by rw [e]; exact c⟩, by rw [e]; exact d⟩
    refine X_aload_n (pc := 69) 2 dX10_gives_69 rfl rfl ?_
    refine X_getfield (pc := 70) dX10_gives_70 fg_X10_567_11 (MW.ob w2) mf_94 ?_
    refine X_isi (pc := 73) _ dX10_gives_73 cs_X10_622 rfl (isSec_ok g w2 o94) nX10_isSecret (Nat.le_of_ble_eq_true rfl) (Nat.le_of_ble_eq_true rfl) (Nat.le_of_ble_eq_true rfl) (Nat.le_of_ble_eq_true rfl) (fun r3 h3 q3 => ?_)
    obtain ⟨rfl, rfl⟩ := q3
    by_cases c2 : r ≠ 0 ∧ r < qP
    rotate_left
    · rw [if_neg c2]
      exact X_if_ne (pc := 76) 82 dX10_gives_76 (by decide) (fun z => absurd rfl z) (fun _ => r79 _ (Or.inr (by omega)))
    rw [if_pos c2]
    refine X_if_ne (pc := 76) 82 dX10_gives_76 (by decide) (fun _ => ?_) (fun z => absurd z (by decide))
    -- the points given
    have loop4 : ∀ (R5 : Nat → Nat) (S5 : Nat → List Int32) (F5 : Nat → Int32) (c : Nat), (∀ j, relR j → R5 j = R j) → (∀ j, relS j → S5 j = S j) → (∀ j, relF j → F5 j = F j) → (∀ j, j < many → SpO R5 F5 (17 + j) ∧ spt R5 F5 (17 + j) = mP sk (eltP T (3 + 49 * j))) → R5 58 = c → R5 59 = sbN qP r (c * sk % qP) →
        sGives N L T k many = (nI (49 * many + 96), N, up L 1 (catE (fun i => mP sk (eltP T (3 + 49 * i))) many ++ byN c 48 ++ byN (sbN qP r (c * sk % qP)) 48)) →
        ∀ m i, i + m = many → ∀ h', MW A X R5 I (up S5 83 (catE (fun i => mP sk (eltP T (3 + 49 * i))) i)) F5 h' →
        XX g MX10_gives ({ frames := 11, cells := 0, slots := 0, locals := 237 } : Room) Post 0 0 171 [(4, .int (nI i)), (3, .int 1), (0, .ref (A 96)), (1, .int (nI k)), (2, .int (nI many))] [] h' := by
      intro R5 S5 F5 c fR5 fS5 fF5 hg5 k58 k59 hsp m
      have lenE : ∀ (h' : AH) {S' : Nat → List Int32}, MW A X R5 I S' F5 h' → ∀ i, i ≤ many → (catE (fun i => mP sk (eltP T (3 + 49 * i))) i).length = 49 * i := fun h' S' w' i hi => catE_len fun j hj => by
        rw [← (hg5 j (by omega)).2]
        exact en_len w' (by omega) (hg5 j (by omega)).1
      induction m with
      | zero =>
        intro i hi h' w'
        have ei : i = many := by omega
        subst ei
        have hcl := lenE h' w' i (Nat.le_refl _)
        obtain ⟨f83, c83, p83, -⟩ := w'.s 83 rfl
        rw [up_same] at p83
        obtain ⟨f58, c58, v58⟩ := w'.n2 58 rfl
        rw [k58] at v58
        generalize hcat : catE (fun j => mP sk (eltP T (3 + 49 * j))) i = ct at *
        refine X_iload (pc := 171) 0 dX10_gives_171 rfl ?_
        refine X_iload_n (pc := 173) 4 dX10_gives_173 rfl rfl ?_
        refine X_cge (pc := 174) 202 dX10_gives_174 (by decide) (by omega) (by omega) (fun _ => ?_) (fun z => absurd z (by omega))
        refine X_aload_n (pc := 202) 2 dX10_gives_202 rfl rfl ?_
        refine X_getfield (pc := 203) dX10_gives_203 fg_X10_468_11 (MW.ob w') mf_58 ?_
        refine X_aload_n (pc := 206) 2 dX10_gives_206 rfl rfl ?_
        refine X_getfield (pc := 207) dX10_gives_207 fg_X10_537_11 (MW.ob w') mf_83 ?_
        refine X_bipush (pc := 210) (x := 49) dX10_gives_210 (by decide) ?_
        refine X_iload_n (pc := 212) 4 dX10_gives_212 rfl rfl ?_
        refine X_imul (pc := 213) dX10_gives_213 ?_
        rw [show (49 : Int32) * nI i = nI (49 * i) from pk_mul 49 i, ← hcl]
        refine X_bipush (pc := 214) (x := 48) dX10_gives_214 (by decide) ?_
        refine X_isv (pc := 216) _ dX10_gives_216 cs_X10_232 rfl (store_ok g (n := 12) (fr := ct.length) (many := 48) c58 c83 (by decide) (by decide) (by omega) (by decide) (by decide)) nX10_store (Nat.le_of_ble_eq_true rfl) (Nat.le_of_ble_eq_true rfl) (Nat.le_of_ble_eq_true rfl) (Nat.le_of_ble_eq_true rfl) (fun h6 q6 => ?_)
        subst q6
        rw [v58]
        have w6 := w'.setS 83 rfl (PL_sto (v := c) (n := 48) p83) (by rw [List.length_append, byN_len, hcl]; omega)
        rw [up_up'] at w6
        have p6 := PL_sto (v := c) (n := 48) p83
        have d6 := hset_self h' (A 83) (Ai false 2 2900 (stF c ct.length 48 f83))
        generalize hset h' (A 83) (Ai false 2 2900 (stF c ct.length 48 f83)) = h6 at *
        generalize stF c ct.length 48 f83 = u6 at *
        have hcl2 : (ct ++ byN c 48).length = 49 * i + 48 := by rw [List.length_append, byN_len, hcl]
        obtain ⟨f59, c59, v59⟩ := w6.n2 59 rfl
        rw [k59] at v59
        refine X_aload_n (pc := 219) 2 dX10_gives_219 rfl rfl ?_
        refine X_getfield (pc := 220) dX10_gives_220 fg_X10_479_11 (MW.ob w6) mf_59 ?_
        refine X_aload_n (pc := 223) 2 dX10_gives_223 rfl rfl ?_
        refine X_getfield (pc := 224) dX10_gives_224 fg_X10_537_11 (MW.ob w6) mf_83 ?_
        refine X_bipush (pc := 227) (x := 49) dX10_gives_227 (by decide) ?_
        refine X_iload_n (pc := 229) 4 dX10_gives_229 rfl rfl ?_
        refine X_imul (pc := 230) dX10_gives_230 ?_
        refine X_bipush (pc := 231) (x := 48) dX10_gives_231 (by decide) ?_
        refine X_iadd (pc := 233) dX10_gives_233 ?_
        rw [show (49 : Int32) * nI i = nI (49 * i) from pk_mul 49 i, show nI (49 * i) + 48 = nI (49 * i + 48) from nI_add _ 48, ← hcl2]
        refine X_bipush (pc := 234) (x := 48) dX10_gives_234 (by decide) ?_
        refine X_isv (pc := 236) _ dX10_gives_236 cs_X10_232 rfl (store_ok g (n := 12) (fr := (ct ++ byN c 48).length) (many := 48) c59 d6 (by decide) (by decide) (by omega) (by decide) (by decide)) nX10_store (Nat.le_of_ble_eq_true rfl) (Nat.le_of_ble_eq_true rfl) (Nat.le_of_ble_eq_true rfl) (Nat.le_of_ble_eq_true rfl) (fun h7 q7 => ?_)
        subst q7
        rw [v59]
        have w7 := w6.setS 83 rfl (PL_sto (v := sbN qP r (c * sk % qP)) (n := 48) p6) (by rw [List.length_append, byN_len, hcl2]; omega)
        rw [up_up'] at w7
        generalize hset h6 (A 83) _ = h7 at *
        have hcl3 : (ct ++ byN c 48 ++ byN (sbN qP r (c * sk % qP)) 48).length = 49 * i + 96 := by rw [List.length_append, byN_len, hcl2]
        refine X_aload_n (pc := 239) 2 dX10_gives_239 rfl rfl ?_
        refine X_bipush (pc := 240) (x := 49) dX10_gives_240 (by decide) ?_
        refine X_iload_n (pc := 242) 4 dX10_gives_242 rfl rfl ?_
        refine X_imul (pc := 243) dX10_gives_243 ?_
        refine X_bipush (pc := 244) (x := 96) dX10_gives_244 (by decide) ?_
        refine X_iadd (pc := 246) dX10_gives_246 ?_
        rw [show (49 : Int32) * nI i = nI (49 * i) from pk_mul 49 i, show nI (49 * i) + 96 = nI (49 * i + 96) from nI_add _ 96]
        refine X_putfield (pc := 247) dX10_gives_247 fp_X10_606_11 (fun e => by cases e) (MW.ob w7) rfl rfl (Nat.le_of_ble_eq_true rfl) ?_
        have w8 := w7.setF84 (v := nI (49 * i + 96))
        refine X_aload_n (pc := 250) 2 dX10_gives_250 rfl rfl ?_
        refine X_getfield (pc := 251) dX10_gives_251 fg_X10_606_11 (MW.ob w8) mf_84 ?_
        rw [up_same]
        refine X_ireturn (pc := 254) dX10_gives_254 rfl (Nat.le_of_ble_eq_true rfl) (Nat.le_of_ble_eq_true rfl) ?_
        subst hPost
        rw [hsp]
        refine ⟨_, rfl, rfl, MRep.of w8 ?_⟩
        have mo := (msr R5 S5 F5 fR5 fS5 fF5).out ⟨wf.1, wf.2.1⟩ (ct ++ byN c 48 ++ byN (sbN qP r (c * sk % qP)) 48)
        rw [hcl3, up_comm _ _ _ (show 81 ≠ 83 by decide)] at mo
        exact mo
      | succ m ih =>
        intro i hi h' w'
        have hcl := lenE h' w' i (by omega)
        obtain ⟨f83, c83, p83, -⟩ := w'.s 83 rfl
        rw [up_same] at p83
        obtain ⟨so, sp⟩ := hg5 i (by omega)
        have bi : vp_in (nI i) 8 := vp_in_nI (by omega) (by omega)
        have ci : (nI i).toNatClampNeg = i := nI_clamp (by omega)
        have hen : en (mP sk (eltP T (3 + 49 * i))) = encB (R5 (200 + (17 + i))) (R5 (300 + (17 + i))) := by rw [← sp]; exact en_spt so.1 so.2.1 (w'.lt (kd_y (by omega)))
        refine X_iload (pc := 171) 0 dX10_gives_171 rfl ?_
        refine X_iload_n (pc := 173) 4 dX10_gives_173 rfl rfl ?_
        refine X_cge (pc := 174) 202 dX10_gives_174 (by decide) (by omega) (by omega) (fun z => absurd z (by omega)) (fun _ => ?_)
        refine X_aload_n (pc := 177) 2 dX10_gives_177 rfl rfl ?_
        refine X_getfield (pc := 178) dX10_gives_178 fg_X10_429_11 (MW.ob w') mf_49 ?_
        refine X_iload (pc := 181) 0 dX10_gives_181 rfl ?_
        refine X_aaload (pc := 183) dX10_gives_183 (w'.o 49 rfl) (fun _ => rfl) bi ?_
        rw [ci]
        refine XX.eqst (st' := [.ref (A (400 + (17 + i)))]) (by rw [show 400 + (17 + i) = 417 + i by omega]; rfl) ?_
        refine X_aload_n (pc := 184) 2 dX10_gives_184 rfl rfl ?_
        refine X_getfield (pc := 185) dX10_gives_185 fg_X10_537_11 (MW.ob w') mf_83 ?_
        refine X_bipush (pc := 188) (x := 49) dX10_gives_188 (by decide) ?_
        refine X_iload (pc := 190) 0 dX10_gives_190 rfl ?_
        refine X_imul (pc := 192) dX10_gives_192 ?_
        rw [show (49 : Int32) * nI i = nI (49 * i) from pk_mul 49 i, ← hcl]
        refine X_isv (pc := 193) _ dX10_gives_193 cs_X10_405 rfl (bytes_ok g w' (s := 17 + i) (at' := (catE (fun i => mP sk (eltP T (3 + 49 * i))) i).length) (by omega) c83 (by omega) (by decide)) nX10_bytes (Nat.le_of_ble_eq_true rfl) (Nat.le_of_ble_eq_true rfl) (Nat.le_of_ble_eq_true rfl) (Nat.le_of_ble_eq_true rfl) (fun h6 q6 => ?_)
        subst q6
        have w6 := w'.setS 83 rfl (PL_enc (x := R5 (200 + (17 + i))) (y := R5 (300 + (17 + i))) p83) (by rw [List.length_append, encB_len, hcl]; omega)
        rw [up_up', ← hen] at w6
        refine X_iinc (pc := 196) (L' := [(4, .int (_ + 1)), (3, .int _), (0, .ref _), (1, .int _), (2, .int _)]) 0 dX10_gives_196 rfl rfl (Nat.le_of_ble_eq_true rfl) rfl ?_
        refine X_goto (pc := 199) 171 dX10_gives_199 (by decide) ?_
        rw [show nI i + 1 = nI (i + 1) from nI_add i 1]
        exact ih (i + 1) (by omega) _ w6
    -- none may be missing
    have loop3 : ∀ (R4 : Nat → Nat) (F4 : Nat → Int32) (h4 : AH), MW A X R4 I S F4 h4 → (∀ j, relR j → R4 j = R j) → (∀ j, relF j → F4 j = F j) → R4 94 = r → (∀ j, j < many → SpO R4 F4 (9 + j) ∧ spt R4 F4 (9 + j) = eltP T (3 + 49 * j)) → (∀ j, j < many → spt R4 F4 (17 + j) = mP sk (eltP T (3 + 49 * j)) ∧ (F4 (400 + (17 + j)) = 0 → R4 (200 + (17 + j)) < pP)) →
        ∀ m i, i + m = many → (∀ j, j < i → F4 (400 + (17 + j)) = 0) → XX g MX10_gives ({ frames := 11, cells := 0, slots := 0, locals := 237 } : Room) Post 0 0 124 [(4, .int (nI i)), (3, .int 1), (0, .ref (A 96)), (1, .int (nI k)), (2, .int (nI many))] [] h4 := by
      intro R4 F4 h4 w4 fR4 fF4 k94' ha4 hg4 m
      induction m with
      | zero =>
        intro i hi hz
        have ei : i = many := by omega
        subst ei
        have hg4' : ∀ j, j < i → SpO R4 F4 (17 + j) := fun j hj => ⟨hz j hj, (hg4 j hj).2 (hz j hj), by rw [(hg4 j hj).1]; exact mP_on (decE_on _) _⟩
        have soK4 : SpO R4 F4 (25 + k) ∧ spt R4 F4 (25 + k) = mP sk GP := by
          have e : spt R4 F4 (25 + k) = spt R F (25 + k) := spt_cg (fR4 _ (by unfold relR; omega)) (fR4 _ (by unfold relR; omega)) (fF4 _ (by unfold relF; omega))
          exact ⟨⟨by rw [fF4 _ (by unfold relF; omega)]; exact soK.1, by rw [fR4 _ (by unfold relR; omega)]; exact soK.2.1, by rw [e]; exact soK.2.2⟩, by rw [e]; exact spK⟩
        have sG : spt R4 F4 0 = GP := by rw [← mG]; exact spt_cg (fR4 200 (by unfold relR; omega)) (fR4 300 (by unfold relR; omega)) (fF4 400 (by unfold relF; omega))
        have fG0 : F4 400 = 0 := by rw [fF4 400 (by unfold relF; omega)]; exact mG0
        have hcc : ¬ ((∃ j, j < i ∧ eltP T (3 + 49 * j) = none) ∨ r = 0 ∨ qP ≤ r ∨ (∃ j, j < i ∧ mP sk (eltP T (3 + 49 * j)) = none)) := by
          intro z
          rcases z with ⟨j, hj, z⟩ | z | z | ⟨j, hj, z⟩
          · rw [← (ha4 j hj).2] at z
            exact spt_so (ha4 j hj).1.1 z
          · exact c2.1 z
          · omega
          · rw [← (hg4 j hj).1] at z
            exact spt_so (hz j hj) z
        have hsd2 := hsd
        rw [cIf_f hcc] at hsd2
        refine X_iload (pc := 124) 0 dX10_gives_124 rfl ?_
        refine X_iload_n (pc := 126) 4 dX10_gives_126 rfl rfl ?_
        refine X_cge (pc := 127) 152 dX10_gives_127 (by decide) (by omega) (by omega) (fun _ => ?_) (fun z => absurd z (by omega))
        refine X_aload_n (pc := 152) 2 dX10_gives_152 rfl rfl ?_
        refine X_iload_n (pc := 153) 3 dX10_gives_153 rfl rfl ?_
        refine X_iload_n (pc := 154) 4 dX10_gives_154 rfl rfl ?_
        refine X_aload_n (pc := 155) 2 dX10_gives_155 rfl rfl ?_
        refine X_getfield (pc := 156) dX10_gives_156 fg_X10_567_11 (MW.ob w4) mf_94 ?_
        refine X_ivi (pc := 159) _ dX10_gives_159 cv_X10_674_11 (MW.ob w4) rfl (proves_ok g w4 (key := k) (many := i) hk6 hm soK4.1 (fun j hj => (ha4 j hj).1) hg4' sG fG0 (by rw [k94']; exact c2.2)) nX10_proves (Nat.le_of_ble_eq_true rfl) (Nat.le_of_ble_eq_true rfl) (Nat.le_of_ble_eq_true rfl) (Nat.le_of_ble_eq_true rfl) (fun r5 h5 q5 => ?_)
        obtain ⟨R5, S5, F5, ⟨w5, fR5, fS5, fF5, f265⟩, hp⟩ := q5
        rw [soK4.2, k94', iV] at hp
        have ec1 : cpt (cD (en (mP sk GP)) (fun j => spt R4 F4 (9 + j)) (fun j => spt R4 F4 (17 + j))) (fun j => spt R4 F4 (9 + j)) i = cpt (cD (en (mP sk GP)) (fun j => eltP T (3 + 49 * j)) (fun j => mP sk (eltP T (3 + 49 * j)))) (fun j => eltP T (3 + 49 * j)) i := cpt_cg (fun j hj => cD_cg (ha4 j hj).2 (hg4 j hj).1) (fun j hj => (ha4 j hj).2)
        have ec2 : cpt (cD (en (mP sk GP)) (fun j => spt R4 F4 (9 + j)) (fun j => spt R4 F4 (17 + j))) (fun j => spt R4 F4 (17 + j)) i = cpt (cD (en (mP sk GP)) (fun j => eltP T (3 + 49 * j)) (fun j => mP sk (eltP T (3 + 49 * j)))) (fun j => mP sk (eltP T (3 + 49 * j))) i := cpt_cg (fun j hj => cD_cg (ha4 j hj).2 (hg4 j hj).1) (fun j hj => (hg4 j hj).1)
        rw [ec1, ec2] at hp
        have gR5 : ∀ j, relR j → R5 j = R j := fun j hj => by rw [fR5 j (relR_pv hj)]; exact fR4 j hj
        have gS5 : ∀ j, relS j → S5 j = S j := fun j hj => fS5 j (relS_c hj)
        have gF5 : ∀ j, relF j → F5 j = F j := fun j hj => by
          by_cases e : j = 26
          · subst e; rw [f265, m7]
          · rw [fF5 j (relF_pv hj e)]; exact fF4 j hj
        generalize hpv : prv (mP sk GP) (cpt (cD (en (mP sk GP)) (fun j => eltP T (3 + 49 * j)) (fun j => mP sk (eltP T (3 + 49 * j)))) (fun j => eltP T (3 + 49 * j)) i) (cpt (cD (en (mP sk GP)) (fun j => eltP T (3 + 49 * j)) (fun j => mP sk (eltP T (3 + 49 * j)))) (fun j => mP sk (eltP T (3 + 49 * j))) i) r = pv at *
        cases pv with
        | none =>
          have hp : r5 = 0 := hp
          rw [hp]
          refine X_if_ne (pc := 162) 168 dX10_gives_162 (by decide) (fun z => absurd rfl z) (fun _ => ?_)
          refine X_bipush (pc := 165) (x := (-4)) dX10_gives_165 (by decide) ?_
          refine X_ireturn (pc := 167) dX10_gives_167 rfl (Nat.le_of_ble_eq_true rfl) (Nat.le_of_ble_eq_true rfl) ?_
          subst hPost
          rw [hsd2]
          exact ⟨_, rfl, rfl, MRep.of w5 (msr R5 S5 F5 gR5 gS5 gF5)⟩
        | some c =>
          obtain ⟨rfl, e58, e59⟩ : r5 = 1 ∧ R5 58 = c ∧ R5 59 = sbN qP r (c * sk % qP) := hp
          refine X_if_ne (pc := 162) 168 dX10_gives_162 (by decide) (fun _ => ?_) (fun z => absurd z (by decide))
          have hg5 : ∀ j, j < i → SpO R5 F5 (17 + j) ∧ spt R5 F5 (17 + j) = mP sk (eltP T (3 + 49 * j)) := fun j hj => by
            have e : spt R5 F5 (17 + j) = spt R4 F4 (17 + j) := spt_cg (fR5 _ (pvR_hi (by omega))) (fR5 _ (pvR_hi (by omega))) (fF5 _ (pvF_hi (by omega)))
            obtain ⟨a, b, cc⟩ := hg4' j hj
            exact ⟨⟨by rw [fF5 _ (pvF_hi (by omega))]; exact a, by rw [fR5 _ (pvR_hi (by omega))]; exact b, by rw [e]; exact cc⟩, by rw [e]; exact (hg4 j hj).1⟩
          refine X_iconst (pc := 168) (x := 0) dX10_gives_168 (by decide) ?_
          refine X_istore (pc := 169) (L' := [(4, .int _), (3, .int _), (0, .ref _), (1, .int _), (2, .int _)]) dX10_gives_169 (Nat.le_of_ble_eq_true rfl) rfl ?_
          exact loop4 R5 S5 F5 c gR5 gS5 gF5 hg5 e58 e59 hsd2 i 0 (by omega) h5 (w5.cutS 83 rfl)
      | succ m ih =>
        intro i hi hz
        have bi : vp_in (nI i) 8 := vp_in_nI (by omega) (by omega)
        have ci : (nI i).toNatClampNeg = i := nI_clamp (by omega)
        refine X_iload (pc := 124) 0 dX10_gives_124 rfl ?_
        refine X_iload_n (pc := 126) 4 dX10_gives_126 rfl rfl ?_
        refine X_cge (pc := 127) 152 dX10_gives_127 (by decide) (by omega) (by omega) (fun z => absurd z (by omega)) (fun _ => ?_)
        refine X_aload_n (pc := 130) 2 dX10_gives_130 rfl rfl ?_
        refine X_getfield (pc := 131) dX10_gives_131 fg_X10_429_11 (MW.ob w4) mf_49 ?_
        refine X_iload (pc := 134) 0 dX10_gives_134 rfl ?_
        refine X_aaload (pc := 136) dX10_gives_136 (w4.o 49 rfl) (fun _ => rfl) bi ?_
        rw [ci]
        refine XX.eqst (st' := [.ref (A (400 + (17 + i)))]) (by rw [show 400 + (17 + i) = 417 + i by omega]; rfl) ?_
        refine X_getfield (pc := 137) dX10_gives_137 fg_X10_136_13 (w4.sp (17 + i) (by omega)) (by first | rfl | assumption) ?_
        by_cases cz : F4 (400 + (17 + i)) = 0
        · refine X_if_eq (pc := 140) 146 dX10_gives_140 (by decide) (fun _ => ?_) (fun z => absurd cz z)
          refine X_iinc (pc := 146) (L' := [(4, .int (_ + 1)), (3, .int _), (0, .ref _), (1, .int _), (2, .int _)]) 0 dX10_gives_146 rfl rfl (Nat.le_of_ble_eq_true rfl) rfl ?_
          refine X_goto (pc := 149) 124 dX10_gives_149 (by decide) ?_
          rw [show nI i + 1 = nI (i + 1) from nI_add i 1]
          refine ih (i + 1) (by omega) (fun j hj => ?_)
          by_cases e : j = i
          · rw [e]; exact cz
          · exact hz j (by omega)
        · refine X_if_eq (pc := 140) 146 dX10_gives_140 (by decide) (fun z => absurd z cz) (fun _ => ?_)
          refine X_bipush (pc := 143) (x := (-4)) dX10_gives_143 (by decide) ?_
          refine X_ireturn (pc := 145) dX10_gives_145 rfl (Nat.le_of_ble_eq_true rfl) (Nat.le_of_ble_eq_true rfl) ?_
          exact no R4 S F4 h4 w4 fR4 (fun _ _ => rfl) fF4 (Or.inr (Or.inr (Or.inr ⟨i, by omega, by rw [← (hg4 i (by omega)).1]; exact spt_no cz⟩)))
    have loop2 : ∀ m i, i + m = many → ∀ R4 F4 h4, MW A X R4 I S F4 h4 → (∀ j, relR j → R4 j = R j) → (∀ j, relF j → F4 j = F j) → R4 94 = r → (∀ j, j < many → SpO R4 F4 (9 + j) ∧ spt R4 F4 (9 + j) = eltP T (3 + 49 * j)) → (∀ j, j < i → spt R4 F4 (17 + j) = mP sk (eltP T (3 + 49 * j)) ∧ (F4 (400 + (17 + j)) = 0 → R4 (200 + (17 + j)) < pP)) →
        XX g MX10_gives ({ frames := 11, cells := 0, slots := 0, locals := 237 } : Room) Post 0 0 85 [(4, .int (nI i)), (3, .int 1), (0, .ref (A 96)), (1, .int (nI k)), (2, .int (nI many))] [] h4 := by
      intro m
      induction m with
      | zero =>
        intro i hi R4 F4 h4 w4 fR4 fF4 k94' ha4 hg4
        have ei : i = many := by omega
        subst ei
        refine X_iload (pc := 85) 0 dX10_gives_85 rfl ?_
        refine X_iload_n (pc := 87) 4 dX10_gives_87 rfl rfl ?_
        refine X_cge (pc := 88) 121 dX10_gives_88 (by decide) (by omega) (by omega) (fun _ => ?_) (fun z => absurd z (by omega))
        refine X_iconst (pc := 121) (x := 0) dX10_gives_121 (by decide) ?_
        refine X_istore (pc := 122) (L' := [(4, .int _), (3, .int _), (0, .ref _), (1, .int _), (2, .int _)]) dX10_gives_122 (Nat.le_of_ble_eq_true rfl) rfl ?_
        exact loop3 R4 F4 h4 w4 fR4 fF4 k94' ha4 hg4 i 0 (by omega) (fun j hj => absurd hj (by omega))
      | succ m ih =>
        intro i hi R4 F4 h4 w4 fR4 fF4 k94' ha4 hg4
        have bi : vp_in (nI i) 8 := vp_in_nI (by omega) (by omega)
        have ci : (nI i).toNatClampNeg = i := nI_clamp (by omega)
        obtain ⟨so, sp⟩ := ha4 i (by omega)
        refine X_iload (pc := 85) 0 dX10_gives_85 rfl ?_
        refine X_iload_n (pc := 87) 4 dX10_gives_87 rfl rfl ?_
        refine X_cge (pc := 88) 121 dX10_gives_88 (by decide) (by omega) (by omega) (fun z => absurd z (by omega)) (fun _ => ?_)
        refine X_aload_n (pc := 91) 2 dX10_gives_91 rfl rfl ?_
        refine X_aload_n (pc := 92) 2 dX10_gives_92 rfl rfl ?_
        refine X_getfield (pc := 93) dX10_gives_93 fg_X10_475_11 (MW.ob w4) mf_64 ?_
        refine X_iload_n (pc := 96) 3 dX10_gives_96 rfl rfl ?_
        refine X_aaloadA (pc := 97) dX10_gives_97 (w4.o 64 rfl) hbk ?_
        rw [ck]
        refine XX.eqst (st' := [.ref (A (530 + k)), .ref (A 96)]) rfl ?_
        refine X_aload_n (pc := 98) 2 dX10_gives_98 rfl rfl ?_
        refine X_getfield (pc := 99) dX10_gives_99 fg_X10_422_11 (MW.ob w4) mf_48 ?_
        refine X_iload (pc := 102) 0 dX10_gives_102 rfl ?_
        refine X_aaload (pc := 104) dX10_gives_104 (w4.o 48 rfl) (fun _ => rfl) bi ?_
        rw [ci]
        refine XX.eqst (st' := [.ref (A (400 + (9 + i))), .ref (A (530 + k)), .ref (A 96)]) (by rw [show 400 + (9 + i) = 409 + i by omega]; rfl) ?_
        refine X_aload_n (pc := 105) 2 dX10_gives_105 rfl rfl ?_
        refine X_getfield (pc := 106) dX10_gives_106 fg_X10_429_11 (MW.ob w4) mf_49 ?_
        refine X_iload (pc := 109) 0 dX10_gives_109 rfl ?_
        refine X_aaload (pc := 111) dX10_gives_111 (w4.o 49 rfl) (fun _ => rfl) bi ?_
        rw [ci]
        refine XX.eqst (st' := [.ref (A (400 + (17 + i))), .ref (A (400 + (9 + i))), .ref (A (530 + k)), .ref (A 96)]) (by rw [show 400 + (17 + i) = 417 + i by omega]; rfl) ?_
        refine X_ivv (pc := 112) _ dX10_gives_112 cv_X10_446_11 (MW.ob w4) rfl (mul_ok g w4 (sa := 9 + i) (t := 17 + i) (ak := A (530 + k)) (kv := sk) (by omega) (by omega) so.2.1 (Or.inl so.1) so.2.2 (Nat.lt_trans hsk.2 qP_2) (fun {R2 F2 h2} w2 _ => by have := OpM.i w2 (530 + k) (kd530 hk6) (n := 12) (by decide) (by decide); rwa [iV] at this)) nX10_multiply (Nat.le_of_ble_eq_true rfl) (Nat.le_of_ble_eq_true rfl) (Nat.le_of_ble_eq_true rfl) (Nat.le_of_ble_eq_true rfl) (fun h5 q5 => ?_)
        obtain ⟨R5, F5, w5, fR5, fF5, z5, -, sp5, lt5⟩ := q5
        rw [sp] at sp5
        refine X_iinc (pc := 115) (L' := [(4, .int (_ + 1)), (3, .int _), (0, .ref _), (1, .int _), (2, .int _)]) 0 dX10_gives_115 rfl rfl (Nat.le_of_ble_eq_true rfl) rfl ?_
        refine X_goto (pc := 118) 85 dX10_gives_118 (by decide) ?_
        rw [show nI i + 1 = nI (i + 1) from nI_add i 1]
        refine ih (i + 1) (by omega) R5 F5 h5 w5 (fun j hj => ?_) (fun j hj => ?_) ?_ (fun j hj => ?_) (fun j hj => ?_)
        · rw [fR5 j (relR_m17 (by omega) hj)]; exact fR4 j hj
        · have := fF4 j hj
          unfold relF at hj
          rw [fF5 j (by omega) (by omega)]
          exact this
        · rw [fR5 94 (by simp only [mScr, Bool.or_eq_false_iff, beq_eq_false_iff_ne, ne_eq]; omega)]; exact k94'
        · obtain ⟨⟨a, b, c⟩, d⟩ := ha4 j hj
          have e : spt R5 F5 (9 + j) = spt R4 F4 (9 + j) := spt_cg (fR5 _ (mScr_off (by omega) (by omega))) (fR5 _ (mScr_off (by omega) (by omega))) (fF5 _ (by omega) (by omega))
          exact ⟨⟨by rw [fF5 _ (by omega) (by omega)]; exact a, by rw [fR5 _ (mScr_off (by omega) (by omega))]; exact b, by rw [e]; exact c⟩, by rw [e]; exact d⟩
        · by_cases ej : j = i
          · rw [ej]; exact ⟨sp5, lt5⟩
          · obtain ⟨a, b⟩ := hg4 j (by omega)
            have e : spt R5 F5 (17 + j) = spt R4 F4 (17 + j) := spt_cg (fR5 _ (mScr_off (by omega) (by omega))) (fR5 _ (mScr_off (by omega) (by omega))) (fF5 _ (by omega) (by omega))
            exact ⟨by rw [e]; exact a, fun z => by rw [fF5 _ (by omega) (by omega)] at z; rw [fR5 _ (mScr_off (by omega) (by omega))]; exact b z⟩
    refine X_iconst (pc := 82) (x := 0) dX10_gives_82 (by decide) ?_
    refine X_istore (pc := 83) (L' := [(4, .int _), (3, .int _), (0, .ref _), (1, .int _), (2, .int _)]) dX10_gives_83 (Nat.le_of_ble_eq_true rfl) rfl ?_
    exact loop2 many 0 (by omega) R2 F1 h3 w2 fR2 fF1 k94 hel2 (fun j hj => absurd hj (by omega))
  have loop1 : ∀ m i, i + m = many → ∀ R1 F1 h1 (y : Int32), MW A X R1 I S F1 h1 → (∀ j, relR j → R1 j = R j) → (∀ j, relF j → F1 j = F j) → ((y = 1 ∧ ∀ j, j < i → SpO R1 F1 (9 + j) ∧ spt R1 F1 (9 + j) = eltP T (3 + 49 * j)) ∨ (y = 0 ∧ ∃ j, j < i ∧ eltP T (3 + 49 * j) = none)) →
      XX g MX10_gives ({ frames := 11, cells := 0, slots := 0, locals := 237 } : Room) Post 0 0 5 [(4, .int (nI i)), (3, .int y), (0, .ref (A 96)), (1, .int (nI k)), (2, .int (nI many))] [] h1 := by
    intro m
    induction m with
    | zero =>
      intro i hi R1 F1 h1 y w1 fR1 fF1 hy
      have ei : i = many := by omega
      subst ei
      refine X_iload (pc := 5) 0 dX10_gives_5 rfl ?_
      refine X_iload_n (pc := 7) 4 dX10_gives_7 rfl rfl ?_
      refine X_cge (pc := 8) 44 dX10_gives_8 (by decide) (by omega) (by omega) (fun _ => ?_) (fun z => absurd z (by omega))
      exact tail R1 F1 h1 y w1 fR1 fF1 hy _
    | succ m ih =>
      intro i hi R1 F1 h1 y w1 fR1 fF1 hy
      have bi : vp_in (nI i) 8 := vp_in_nI (by omega) (by omega)
      have ci : (nI i).toNatClampNeg = i := nI_clamp (by omega)
      refine X_iload (pc := 5) 0 dX10_gives_5 rfl ?_
      refine X_iload_n (pc := 7) 4 dX10_gives_7 rfl rfl ?_
      refine X_cge (pc := 8) 44 dX10_gives_8 (by decide) (by omega) (by omega) (fun z => absurd z (by omega)) (fun _ => ?_)
      refine X_iload_n (pc := 11) 1 dX10_gives_11 rfl rfl ?_
      rcases hy with ⟨rfl, hel⟩ | ⟨rfl, j0, hj0, hel⟩
      rotate_left
      · exact X_if_eq (pc := 12) 44 dX10_gives_12 (by decide) (fun _ => tail R1 F1 h1 0 w1 fR1 fF1 (Or.inr ⟨rfl, j0, by omega, hel⟩) _) (fun z => absurd rfl z)
      refine X_if_eq (pc := 12) 44 dX10_gives_12 (by decide) (fun z => absurd z (by decide)) (fun _ => ?_)
      refine X_aload_n (pc := 15) 2 dX10_gives_15 rfl rfl ?_
      refine X_aload_n (pc := 16) 2 dX10_gives_16 rfl rfl ?_
      refine X_getfield (pc := 17) dX10_gives_17 fg_X10_534_11 (MW.ob w1) mf_81 ?_
      refine X_iconst (pc := 20) (x := 3) dX10_gives_20 (by decide) ?_
      refine X_bipush (pc := 21) (x := 49) dX10_gives_21 (by decide) ?_
      refine X_iload (pc := 23) 0 dX10_gives_23 rfl ?_
      refine X_imul (pc := 25) dX10_gives_25 ?_
      refine X_iadd (pc := 26) dX10_gives_26 ?_
      rw [show (49 : Int32) * nI i = nI (49 * i) from pk_mul 49 i, show (3 : Int32) + nI (49 * i) = nI (3 + 49 * i) from nI_add 3 _]
      refine X_aload_n (pc := 27) 2 dX10_gives_27 rfl rfl ?_
      refine X_getfield (pc := 28) dX10_gives_28 fg_X10_422_11 (MW.ob w1) mf_48 ?_
      refine X_iload (pc := 31) 0 dX10_gives_31 rfl ?_
      refine X_aaload (pc := 33) dX10_gives_33 (w1.o 48 rfl) (fun _ => rfl) bi ?_
      rw [ci]
      refine XX.eqst (st' := [.ref (A (400 + (9 + i))), .int (nI (3 + 49 * i)), .ref (A 81), .ref (A 96)]) (by rw [show 400 + (9 + i) = 409 + i by omega]; rfl) ?_
      refine X_ivi (pc := 34) _ dX10_gives_34 cv_X10_670_11 (MW.ob w1) rfl (elem_ok g w1 (b := A 81) (at' := 3 + 49 * i) (t := 9 + i) (l := fun j => T.getD (3 + 49 * i + j) 0) (by omega) (kd2 (by omega)).1 (by rw [fR1 16 (by unfold relR; omega)]; exact m1) (fun {R' F' h'} w' => by have := MW.byAt w' 81 rfl (by decide) (fr := 3 + 49 * i) (m := 49) (by rw [hT]; omega); rwa [hT] at this)) nX10_element (Nat.le_of_ble_eq_true rfl) (Nat.le_of_ble_eq_true rfl) (Nat.le_of_ble_eq_true rfl) (Nat.le_of_ble_eq_true rfl) (fun r2 h2 q2 => ?_)
      obtain ⟨R2, F2, w2, fR2, fF2, -, hc⟩ := q2
      have gR2 : ∀ j, relR j → R2 j = R j := fun j hj => by rw [fR2 j (relR_e (by omega) hj)]; exact fR1 j hj
      have gF2 : ∀ j, relF j → F2 j = F j := fun j hj => by
        have := fF1 j hj
        unfold relF at hj
        rw [fF2 j (by omega)]
        exact this
      refine X_istore_n (pc := 37) (L' := [(3, .int _), (4, .int _), (0, .ref _), (1, .int _), (2, .int _)]) dX10_gives_37 rfl (Nat.le_of_ble_eq_true rfl) rfl ?_
      refine X_iinc (pc := 38) (L' := [(4, .int (_ + 1)), (3, .int _), (0, .ref _), (1, .int _), (2, .int _)]) 1 dX10_gives_38 rfl rfl (Nat.le_of_ble_eq_true rfl) rfl ?_
      refine X_goto (pc := 41) 5 dX10_gives_41 (by decide) ?_
      rw [show nI i + 1 = nI (i + 1) from nI_add i 1]
      refine ih (i + 1) (by omega) R2 F2 h2 r2 w2 gR2 gF2 ?_
      rcases hc with ⟨rfl, hn⟩ | ⟨rfl, P, hP, sp, z0, lt⟩
      · exact Or.inr ⟨rfl, i, by omega, hn⟩
      · refine Or.inl ⟨rfl, fun j hj => ?_⟩
        by_cases ej : j = i
        · rw [ej]
          have e2 : spt R2 F2 (9 + i) = eltP T (3 + 49 * i) := sp.trans hP.symm
          exact ⟨⟨z0, lt, by rw [e2]; exact decE_on _⟩, e2⟩
        · obtain ⟨⟨a, b, c⟩, d⟩ := hel j (by omega)
          have e : spt R2 F2 (9 + j) = spt R1 F1 (9 + j) := spt_cg (fR2 _ (eScr_off (by omega) (by omega))) (fR2 _ (eScr_off (by omega) (by omega))) (fF2 _ (by omega))
          exact ⟨⟨by rw [fF2 _ (by omega)]; exact a, by rw [fR2 _ (eScr_off (by omega) (by omega))]; exact b, by rw [e]; exact c⟩, by rw [e]; exact d⟩
  refine X_iconst (pc := 0) (x := 1) dX10_gives_0 (by decide) ?_
  refine X_istore_n (pc := 1) (L' := [(3, .int _), (0, .ref _), (1, .int _), (2, .int _)]) dX10_gives_1 rfl (Nat.le_of_ble_eq_true rfl) rfl ?_
  refine X_iconst (pc := 2) (x := 0) dX10_gives_2 (by decide) ?_
  refine X_istore (pc := 3) (L' := [(4, .int _), (3, .int _), (0, .ref _), (1, .int _), (2, .int _)]) dX10_gives_3 (Nat.le_of_ble_eq_true rfl) rfl ?_
  exact loop1 many 0 (by omega) R F h 1 w (fun _ _ => rfl) (fun _ _ => rfl) (Or.inl ⟨rfl, fun j hj => absurd hj (by omega)⟩)
set_option maxHeartbeats 1000000 in
theorem issuec_ok (g : GX) (wf : Wf N L) (m : MRep N L A X h) : MT g MX10_issue ({ frames := 12, cells := 0, slots := 0, locals := 261 } : Room) [.ref (A 96)] h (RI (MQ3 A X (sIssue N L))) := by
  obtain ⟨R, I, S, F, w, ms⟩ := m
  refine MT.of (by decide) (Nat.le_of_ble_eq_true rfl) ?_
  have ms1 := ms.use wf
  have hl0 : (L 0).length ≤ 1200 := wf.2.2.2.2.2.2.2.1
  have s81 : S 81 = L 0 := ms.2.1
  have f82 : F 82 = nI (L 0).length := ms.2.2.1
  have esq : sIssue N L = if (L 0).length < 3 ∨ (L 0).getD 0 0 ≠ 0 ∨ ((L 0).getD 1 0 ≠ 1 ∧ (L 0).getD 1 0 ≠ 2) then (-2, up N 6 0, up L 0 []) else sIssued (up N 6 0) (up L 0 []) (L 0) 1 := rfl
  refine X_aload_n (pc := 0) 0 dX10_issue_0 rfl rfl ?_
  refine X_ivi (pc := 1) _ dX10_issue_1 cv_X10_612_11 (MW.ob w) rfl (used_ok g w) nX10_used (Nat.le_of_ble_eq_true rfl) (Nat.le_of_ble_eq_true rfl) (Nat.le_of_ble_eq_true rfl) (Nat.le_of_ble_eq_true rfl) (fun r1 h1 q1 => ?_)
  obtain ⟨rfl, w1⟩ := q1
  rw [f82]
  have wf1' := wf.use
  generalize hF1 : up (up F 0 0) 82 0 = F1 at *
  generalize hT : L 0 = T at *
  generalize hN1 : up N 6 0 = N1 at *
  generalize hL1 : up L 0 [] = L1 at *
  generalize hPost : RI (MQ3 A X (sIssue N L)) = Post
  have ref : ∀ L', (T.length < 3 ∨ T.getD 0 0 ≠ 0 ∨ (T.getD 1 0 ≠ 1 ∧ T.getD 1 0 ≠ 2)) → XX g MX10_issue ({ frames := 12, cells := 0, slots := 0, locals := 261 } : Room) Post 0 0 26 L' [] h1 := by
    intro L' hc
    refine X_bipush (pc := 26) (x := (-2)) dX10_issue_26 (by decide) ?_
    refine X_ireturn (pc := 28) dX10_issue_28 rfl (Nat.le_of_ble_eq_true rfl) (Nat.le_of_ble_eq_true rfl) ?_
    subst hPost
    rw [esq, if_pos hc]
    exact ⟨_, rfl, rfl, MRep.of w1 ms1⟩
  refine X_istore_n (pc := 4) (L' := [(1, .int _), (0, .ref _)]) dX10_issue_4 rfl (Nat.le_of_ble_eq_true rfl) rfl ?_
  refine X_iload_n (pc := 5) 0 dX10_issue_5 rfl rfl ?_
  refine X_iconst (pc := 6) (x := 3) dX10_issue_6 (by decide) ?_
  by_cases c0 : T.length < 3
  · exact X_icmp_lt (pc := 7) 26 dX10_issue_7 (by decide) (fun _ => ref _ (Or.inl c0)) (fun z => absurd (nI_lt (b := 3) c0 (by decide)) z)
  refine X_icmp_lt (pc := 7) 26 dX10_issue_7 (by decide) (fun z => absurd ((nI_ltI (b := 3) (by omega) (by decide)).mp z) c0) (fun _ => ?_)
  have main : T.getD 0 0 = 0 → (T.getD 1 0 = 1 ∨ T.getD 1 0 = 2) → XX g MX10_issue ({ frames := 12, cells := 0, slots := 0, locals := 261 } : Room) Post 0 0 29 [(1, .int (nI T.length)), (0, .ref (A 96))] [] h1 := by
    intro hz ht
    have es2 : sIssue N L = sIssued N1 L1 T 1 := by
      rw [esq, if_neg]
      intro z
      rcases z with z | z | ⟨z1, z2⟩
      · exact c0 z
      · exact z hz
      · exact ht.elim z1 z2
    have esd : sIssued N1 L1 T 1 = match low (keyP N1 L1 (T.getD 1 0) (T.getD 2 0)) (N1 0) with
      | none => (-3, N1, L1)
      | some k => if N1 (100 + k) = 1 then (if T.length ≠ 3 + 49 * 1 + 48 then (-2, N1, L1) else sGives N1 L1 T k 1) else (if T.length ≠ 3 + N1 (150 + k) then (-2, N1, L1) else sSigns N1 L1 T k) := rfl
    rw [es2, esd] at hPost
    clear es2 esd esq ref
    obtain ⟨f81, c81, p81, -⟩ := w1.s 81 rfl
    rw [s81] at p81
    have v1 : vp_in (1 : Int32) 1208 := vp_in_nI (n := 1) (by decide) (by decide)
    have v2 : vp_in (2 : Int32) 1208 := vp_in_nI (n := 2) (by decide) (by decide)
    refine X_aload_n (pc := 29) 1 dX10_issue_29 rfl rfl ?_
    refine X_aload_n (pc := 30) 1 dX10_issue_30 rfl rfl ?_
    refine X_getfield (pc := 31) dX10_issue_31 fg_X10_534_11 (MW.ob w1) mf_81 ?_
    refine X_iconst (pc := 34) (x := 1) dX10_issue_34 (by decide) ?_
    refine X_baload (pc := 35) dX10_issue_35 c81 v1 ?_
    refine X_aload_n (pc := 36) 1 dX10_issue_36 rfl rfl ?_
    refine X_getfield (pc := 37) dX10_issue_37 fg_X10_534_11 (MW.ob w1) mf_81 ?_
    refine X_iconst (pc := 40) (x := 2) dX10_issue_40 (by decide) ?_
    refine X_baload (pc := 41) dX10_issue_41 c81 v2 ?_
    rw [show ((1 : Int32).toNatClampNeg) = 1 from rfl, show ((2 : Int32).toNatClampNeg) = 2 from rfl, p81 1 (by omega), p81 2 (by omega)]
    refine X_ivi (pc := 42) _ dX10_issue_42 cv_X10_661_11 (MW.ob w1) rfl (keyOf_ok g wf1' w1 ms1 (T.getD 1 0) (T.getD 2 0)) nX10_keyOf (Nat.le_of_ble_eq_true rfl) (Nat.le_of_ble_eq_true rfl) (Nat.le_of_ble_eq_true rfl) (Nat.le_of_ble_eq_true rfl) (fun r2 h2 q2 => ?_)
    obtain ⟨rfl, hq⟩ := q2
    rcases hq with ⟨hlo, rfl⟩ | ⟨k, hlo, rfl, hk⟩
    · rw [hlo] at hPost
      refine X_istore_n (pc := 45) (L' := [(2, .int _), (1, .int _), (0, .ref _)]) dX10_issue_45 rfl (Nat.le_of_ble_eq_true rfl) rfl ?_
      refine X_iload_n (pc := 46) 0 dX10_issue_46 rfl rfl ?_
      refine X_if_ge (pc := 47) 53 dX10_issue_47 (by decide) (fun z => absurd z (by decide)) (fun _ => ?_)
      refine X_bipush (pc := 50) (x := (-3)) dX10_issue_50 (by decide) ?_
      refine X_ireturn (pc := 52) dX10_issue_52 rfl (Nat.le_of_ble_eq_true rfl) (Nat.le_of_ble_eq_true rfl) ?_
      subst hPost
      exact ⟨_, rfl, rfl, MRep.of w1 ms1⟩
    · rw [hlo] at hPost
      have hk6 : k < 6 := Nat.lt_of_lt_of_le hk wf1'.1
      have km := ms1.kk hk
      have ko := wf1'.kk hk
      have bk : vp_in (nI k) 6 := vp_in_nI hk6 (by decide)
      have ck : (nI k).toNatClampNeg = k := nI_clamp (by omega)
      have ht12 : N1 (100 + k) = 1 ∨ N1 (100 + k) = 2 := ko.2.2.2.elim (fun z => Or.inl z.1) (fun z => Or.inr z.1)
      refine X_istore_n (pc := 45) (L' := [(2, .int _), (1, .int _), (0, .ref _)]) dX10_issue_45 rfl (Nat.le_of_ble_eq_true rfl) rfl ?_
      refine X_iload_n (pc := 46) 0 dX10_issue_46 rfl rfl ?_
      refine X_if_ge (pc := 47) 53 dX10_issue_47 (by decide) (fun _ => ?_) (fun z => absurd (nI_pos' (by omega)) z)
      refine X_iload_n (pc := 53) 1 dX10_issue_53 rfl rfl ?_
      refine X_iconst (pc := 54) (x := 3) dX10_issue_54 (by decide) ?_
      refine X_aload_n (pc := 55) 2 dX10_issue_55 rfl rfl ?_
      refine X_getfield (pc := 56) dX10_issue_56 fg_X10_492_11 (MW.ob w1) mf_61 ?_
      refine X_iload_n (pc := 59) 0 dX10_issue_59 rfl rfl ?_
      refine X_iaload (pc := 60) dX10_issue_60 (w1.i 61 rfl) bk ?_
      refine X_iconst (pc := 61) (x := 1) dX10_issue_61 (by decide) ?_
      rw [ck, km.1]
      by_cases t1 : N1 (100 + k) = 1
      · have hPost : RI (MQ3 A X (if T.length ≠ 3 + 49 * 1 + 48 then (-2, N1, L1) else sGives N1 L1 T k 1)) = Post := by rw [← hPost]; show _ = RI (MQ3 A X (if N1 (100 + k) = 1 then _ else _)); rw [if_pos t1]
        refine X_icmp_ne (pc := 62) 70 dX10_issue_62 (by decide) (fun z => absurd (by rw [t1]; rfl) z) (fun _ => ?_)
        refine X_bipush (pc := 65) (x := 97) dX10_issue_65 (by decide) ?_
        refine X_goto (pc := 67) 76 dX10_issue_67 (by decide) ?_
        refine X_iadd (pc := 76) dX10_issue_76 ?_
        by_cases c5 : T.length = 3 + 49 * 1 + 48
        · rw [if_neg (fun z => z c5)] at hPost
          refine X_icmp_eq (pc := 77) 83 dX10_issue_77 (by decide) (fun _ => ?_) (fun z => absurd (by rw [c5]; rfl) z)
          refine X_aload_n (pc := 83) 2 dX10_issue_83 rfl rfl ?_
          refine X_getfield (pc := 84) dX10_issue_84 fg_X10_492_11 (MW.ob w1) mf_61 ?_
          refine X_iload_n (pc := 87) 0 dX10_issue_87 rfl rfl ?_
          refine X_iaload (pc := 88) dX10_issue_88 (w1.i 61 rfl) bk ?_
          refine X_iconst (pc := 89) (x := 1) dX10_issue_89 (by decide) ?_
          rw [ck, km.1]
          refine X_icmp_ne (pc := 90) 102 dX10_issue_90 (by decide) (fun z => absurd (by rw [t1]; rfl) z) (fun _ => ?_)
          refine X_aload_n (pc := 93) 2 dX10_issue_93 rfl rfl ?_
          refine X_iload_n (pc := 94) 0 dX10_issue_94 rfl rfl ?_
          refine X_iconst (pc := 95) (x := 1) dX10_issue_95 (by decide) ?_
          refine X_ivi (pc := 96) _ dX10_issue_96 cv_X10_664_11 (MW.ob w1) rfl (gives_ok g wf1' w1 ms1 (many := 1) hk t1 s81 (by decide) c5) nX10_gives (Nat.le_of_ble_eq_true rfl) (Nat.le_of_ble_eq_true rfl) (Nat.le_of_ble_eq_true rfl) (Nat.le_of_ble_eq_true rfl) (fun r3 h3 q3 => ?_)
          refine X_goto (pc := 99) 107 dX10_issue_99 (by decide) ?_
          refine X_ireturn (pc := 107) dX10_issue_107 rfl (Nat.le_of_ble_eq_true rfl) (Nat.le_of_ble_eq_true rfl) ?_
          subst hPost
          exact ⟨_, rfl, q3⟩
        · rw [if_pos c5] at hPost
          refine X_icmp_eq (pc := 77) 83 dX10_issue_77 (by decide) (fun z => absurd (nI_inj' (b := 100) (by omega) (by decide) z) c5) (fun _ => ?_)
          refine X_bipush (pc := 80) (x := (-2)) dX10_issue_80 (by decide) ?_
          refine X_ireturn (pc := 82) dX10_issue_82 rfl (Nat.le_of_ble_eq_true rfl) (Nat.le_of_ble_eq_true rfl) ?_
          subst hPost
          exact ⟨_, rfl, rfl, MRep.of w1 ms1⟩
      · have hPost : RI (MQ3 A X (if T.length ≠ 3 + N1 (150 + k) then (-2, N1, L1) else sSigns N1 L1 T k)) = Post := by rw [← hPost]; show _ = RI (MQ3 A X (if N1 (100 + k) = 1 then _ else _)); rw [if_neg t1]
        have t2 : N1 (100 + k) = 2 := by omega
        obtain ⟨-, l1, l2, -⟩ := ko.two t1
        refine X_icmp_ne (pc := 62) 70 dX10_issue_62 (by decide) (fun _ => ?_) (fun z => absurd z (by rw [t2]; decide))
        refine X_aload_n (pc := 70) 2 dX10_issue_70 rfl rfl ?_
        refine X_getfield (pc := 71) dX10_issue_71 fg_X10_510_11 (MW.ob w1) mf_68 ?_
        refine X_iload_n (pc := 74) 0 dX10_issue_74 rfl rfl ?_
        refine X_iaload (pc := 75) dX10_issue_75 (w1.i 68 rfl) bk ?_
        refine X_iadd (pc := 76) dX10_issue_76 ?_
        rw [ck, km.2.2.2.1, show (3 : Int32) + nI (N1 (150 + k)) = nI (3 + N1 (150 + k)) from nI_add 3 _]
        by_cases c5 : T.length = 3 + N1 (150 + k)
        · rw [if_neg (fun z => z c5)] at hPost
          refine X_icmp_eq (pc := 77) 83 dX10_issue_77 (by decide) (fun _ => ?_) (fun z => absurd (by rw [c5]) z)
          refine X_aload_n (pc := 83) 2 dX10_issue_83 rfl rfl ?_
          refine X_getfield (pc := 84) dX10_issue_84 fg_X10_492_11 (MW.ob w1) mf_61 ?_
          refine X_iload_n (pc := 87) 0 dX10_issue_87 rfl rfl ?_
          refine X_iaload (pc := 88) dX10_issue_88 (w1.i 61 rfl) bk ?_
          refine X_iconst (pc := 89) (x := 1) dX10_issue_89 (by decide) ?_
          rw [ck, km.1]
          refine X_icmp_ne (pc := 90) 102 dX10_issue_90 (by decide) (fun _ => ?_) (fun z => absurd z (by rw [t2]; decide))
          refine X_aload_n (pc := 102) 2 dX10_issue_102 rfl rfl ?_
          refine X_iload_n (pc := 103) 0 dX10_issue_103 rfl rfl ?_
          refine X_ivi (pc := 104) _ dX10_issue_104 cv_X10_667_11 (MW.ob w1) rfl (signs_ok g wf1' w1 ms1 hk t1 s81 c5) nX10_signs (Nat.le_of_ble_eq_true rfl) (Nat.le_of_ble_eq_true rfl) (Nat.le_of_ble_eq_true rfl) (Nat.le_of_ble_eq_true rfl) (fun r3 h3 q3 => ?_)
          refine X_ireturn (pc := 107) dX10_issue_107 rfl (Nat.le_of_ble_eq_true rfl) (Nat.le_of_ble_eq_true rfl) ?_
          subst hPost
          exact ⟨_, rfl, q3⟩
        · rw [if_pos c5] at hPost
          refine X_icmp_eq (pc := 77) 83 dX10_issue_77 (by decide) (fun z => absurd (nI_inj' (by omega) (by omega) z) c5) (fun _ => ?_)
          refine X_bipush (pc := 80) (x := (-2)) dX10_issue_80 (by decide) ?_
          refine X_ireturn (pc := 82) dX10_issue_82 rfl (Nat.le_of_ble_eq_true rfl) (Nat.le_of_ble_eq_true rfl) ?_
          subst hPost
          exact ⟨_, rfl, rfl, MRep.of w1 ms1⟩
  refine X_aload_n (pc := 10) 1 dX10_issue_10 rfl rfl ?_
  refine X_iconst (pc := 11) (x := 1) dX10_issue_11 (by decide) ?_
  refine X_ivi (pc := 12) _ dX10_issue_12 cv_X10_658_11 (MW.ob w1) rfl (isType_ok g w1 s81 (by omega) 1) nX10_isType (Nat.le_of_ble_eq_true rfl) (Nat.le_of_ble_eq_true rfl) (Nat.le_of_ble_eq_true rfl) (Nat.le_of_ble_eq_true rfl) (fun r2 h2 q2 => ?_)
  obtain ⟨rfl, hq⟩ := q2
  rcases hq with ⟨rfl, hz, h1t⟩ | ⟨rfl, hno⟩
  · exact X_if_ne (pc := 15) 29 dX10_issue_15 (by decide) (fun _ => main hz (Or.inl h1t)) (fun z => absurd z (by decide))
  refine X_if_ne (pc := 15) 29 dX10_issue_15 (by decide) (fun z => absurd rfl z) (fun _ => ?_)
  refine X_aload_n (pc := 18) 1 dX10_issue_18 rfl rfl ?_
  refine X_iconst (pc := 19) (x := 2) dX10_issue_19 (by decide) ?_
  refine X_ivi (pc := 20) _ dX10_issue_20 cv_X10_658_11 (MW.ob w1) rfl (isType_ok g w1 s81 (by omega) 2) nX10_isType (Nat.le_of_ble_eq_true rfl) (Nat.le_of_ble_eq_true rfl) (Nat.le_of_ble_eq_true rfl) (Nat.le_of_ble_eq_true rfl) (fun r3 h3 q3 => ?_)
  obtain ⟨rfl, hq⟩ := q3
  rcases hq with ⟨rfl, hz, h1t⟩ | ⟨rfl, hno2⟩
  · exact X_if_ne (pc := 23) 29 dX10_issue_23 (by decide) (fun _ => main hz (Or.inr h1t)) (fun z => absurd z (by decide))
  refine X_if_ne (pc := 23) 29 dX10_issue_23 (by decide) (fun z => absurd rfl z) (fun _ => ref _ ?_)
  by_cases hz : T.getD 0 0 = 0
  · exact Or.inr (Or.inr ⟨fun z => hno ⟨hz, z⟩, fun z => hno2 ⟨hz, z⟩⟩)
  · exact Or.inr (Or.inl hz)
set_option maxHeartbeats 1000000 in
theorem issueManyc_ok (g : GX) (wf : Wf N L) (m : MRep N L A X h) (mn : Int32) : MT g MX10_issueMany ({ frames := 12, cells := 0, slots := 0, locals := 261 } : Room) [.ref (A 96), .int mn] h (RI (MQ3 A X (sIssueMany N L mn))) := by
  obtain ⟨R, I, S, F, w, ms⟩ := m
  refine MT.of (by decide) (Nat.le_of_ble_eq_true rfl) ?_
  have ms1 := ms.use wf
  have hl0 : (L 0).length ≤ 1200 := wf.2.2.2.2.2.2.2.1
  have s81 : S 81 = L 0 := ms.2.1
  have f82 : F 82 = nI (L 0).length := ms.2.2.1
  have esq : sIssueMany N L mn = if mn < 1 ∨ 8 < mn ∨ (L 0).length < 3 ∨ (L 0).getD 0 0 ≠ 0 ∨ (L 0).getD 1 0 ≠ 1 then (-2, up N 6 0, up L 0 []) else sIssued (up N 6 0) (up L 0 []) (L 0) mn.toNatClampNeg := rfl
  refine X_aload_n (pc := 0) 0 dX10_issueMany_0 rfl rfl ?_
  refine X_ivi (pc := 1) _ dX10_issueMany_1 cv_X10_612_11 (MW.ob w) rfl (used_ok g w) nX10_used (Nat.le_of_ble_eq_true rfl) (Nat.le_of_ble_eq_true rfl) (Nat.le_of_ble_eq_true rfl) (Nat.le_of_ble_eq_true rfl) (fun r1 h1 q1 => ?_)
  obtain ⟨rfl, w1⟩ := q1
  rw [f82]
  have wf1' := wf.use
  generalize hF1 : up (up F 0 0) 82 0 = F1 at *
  generalize hT : L 0 = T at *
  generalize hN1 : up N 6 0 = N1 at *
  generalize hL1 : up L 0 [] = L1 at *
  generalize hPost : RI (MQ3 A X (sIssueMany N L mn)) = Post
  have ref : ∀ L', (mn < 1 ∨ 8 < mn ∨ T.length < 3 ∨ T.getD 0 0 ≠ 0 ∨ T.getD 1 0 ≠ 1) → XX g MX10_issueMany ({ frames := 12, cells := 0, slots := 0, locals := 261 } : Room) Post 0 0 29 L' [] h1 := by
    intro L' hc
    refine X_bipush (pc := 29) (x := (-2)) dX10_issueMany_29 (by decide) ?_
    refine X_ireturn (pc := 31) dX10_issueMany_31 rfl (Nat.le_of_ble_eq_true rfl) (Nat.le_of_ble_eq_true rfl) ?_
    subst hPost
    rw [esq, if_pos hc]
    exact ⟨_, rfl, rfl, MRep.of w1 ms1⟩
  refine X_istore_n (pc := 4) (L' := [(2, .int _), (0, .ref _), (1, .int _)]) dX10_issueMany_4 rfl (Nat.le_of_ble_eq_true rfl) rfl ?_
  refine X_iload_n (pc := 5) 2 dX10_issueMany_5 rfl rfl ?_
  refine X_iconst (pc := 6) (x := 1) dX10_issueMany_6 (by decide) ?_
  by_cases a1 : mn < 1
  · exact X_icmp_lt (pc := 7) 29 dX10_issueMany_7 (by decide) (fun _ => ref _ (Or.inl a1)) (fun z => absurd a1 z)
  refine X_icmp_lt (pc := 7) 29 dX10_issueMany_7 (by decide) (fun z => absurd z a1) (fun _ => ?_)
  refine X_iload_n (pc := 10) 2 dX10_issueMany_10 rfl rfl ?_
  refine X_bipush (pc := 11) (x := 8) dX10_issueMany_11 (by decide) ?_
  by_cases a2 : 8 < mn
  · exact X_icmp_gt (pc := 13) 29 dX10_issueMany_13 (by decide) (fun _ => ref _ (Or.inr (Or.inl a2))) (fun z => absurd a2 z)
  refine X_icmp_gt (pc := 13) 29 dX10_issueMany_13 (by decide) (fun z => absurd z a2) (fun _ => ?_)
  obtain ⟨many, hm0, hm8, rfl⟩ : ∃ j, 1 ≤ j ∧ j ≤ 8 ∧ mn = nI j := by
    rcases pk_ix mn (show 9 < 2 ^ 31 by decide) with z | z | ⟨j, hj, rfl⟩
    · exact absurd (Int32.lt_trans z (by decide)) a1
    · exact absurd (Int32.lt_of_lt_of_le (by decide) z) a2
    · refine ⟨j, ?_, by omega, rfl⟩
      apply Nat.le_of_not_lt
      intro z
      have : j = 0 := by omega
      subst this
      exact a1 (by decide)
  have cmn : (nI many).toNatClampNeg = many := nI_clamp (by omega)
  rw [cmn] at esq
  refine X_iload_n (pc := 16) 0 dX10_issueMany_16 rfl rfl ?_
  refine X_iconst (pc := 17) (x := 3) dX10_issueMany_17 (by decide) ?_
  by_cases c0 : T.length < 3
  · exact X_icmp_lt (pc := 18) 29 dX10_issueMany_18 (by decide) (fun _ => ref _ (Or.inr (Or.inr (Or.inl c0)))) (fun z => absurd (nI_lt (b := 3) c0 (by decide)) z)
  refine X_icmp_lt (pc := 18) 29 dX10_issueMany_18 (by decide) (fun z => absurd ((nI_ltI (b := 3) (by omega) (by decide)).mp z) c0) (fun _ => ?_)
  refine X_aload_n (pc := 21) 1 dX10_issueMany_21 rfl rfl ?_
  refine X_iconst (pc := 22) (x := 1) dX10_issueMany_22 (by decide) ?_
  refine X_ivi (pc := 23) _ dX10_issueMany_23 cv_X10_658_11 (MW.ob w1) rfl (isType_ok g w1 s81 (by omega) 1) nX10_isType (Nat.le_of_ble_eq_true rfl) (Nat.le_of_ble_eq_true rfl) (Nat.le_of_ble_eq_true rfl) (Nat.le_of_ble_eq_true rfl) (fun r2 h2 q2 => ?_)
  obtain ⟨rfl, hq⟩ := q2
  rcases hq with ⟨rfl, hz, h1t⟩ | ⟨rfl, hno⟩
  rotate_left
  · refine X_if_ne (pc := 26) 32 dX10_issueMany_26 (by decide) (fun z => absurd rfl z) (fun _ => ref _ ?_)
    by_cases hz : T.getD 0 0 = 0
    · exact Or.inr (Or.inr (Or.inr (Or.inr fun z => hno ⟨hz, z⟩)))
    · exact Or.inr (Or.inr (Or.inr (Or.inl hz)))
  refine X_if_ne (pc := 26) 32 dX10_issueMany_26 (by decide) (fun _ => ?_) (fun z => absurd z (by decide))
  have es2 : sIssueMany N L (nI many) = sIssued N1 L1 T many := by
    rw [esq, if_neg]
    intro z
    rcases z with z | z | z | z | z
    · exact a1 z
    · exact a2 z
    · exact c0 z
    · exact z hz
    · exact z h1t
  have esd : sIssued N1 L1 T many = match low (keyP N1 L1 (T.getD 1 0) (T.getD 2 0)) (N1 0) with
      | none => (-3, N1, L1)
      | some k => if N1 (100 + k) = 1 then (if T.length ≠ 3 + 49 * many + 48 then (-2, N1, L1) else sGives N1 L1 T k many) else (if T.length ≠ 3 + N1 (150 + k) then (-2, N1, L1) else sSigns N1 L1 T k) := rfl
  rw [es2, esd] at hPost
  clear es2 esd esq ref
  obtain ⟨f81, c81, p81, -⟩ := w1.s 81 rfl
  rw [s81] at p81
  have v2 : vp_in (2 : Int32) 1208 := vp_in_nI (n := 2) (by decide) (by decide)
  refine X_aload_n (pc := 32) 1 dX10_issueMany_32 rfl rfl ?_
  refine X_iconst (pc := 33) (x := 1) dX10_issueMany_33 (by decide) ?_
  refine X_aload_n (pc := 34) 1 dX10_issueMany_34 rfl rfl ?_
  refine X_getfield (pc := 35) dX10_issueMany_35 fg_X10_534_11 (MW.ob w1) mf_81 ?_
  refine X_iconst (pc := 38) (x := 2) dX10_issueMany_38 (by decide) ?_
  refine X_baload (pc := 39) dX10_issueMany_39 c81 v2 ?_
  rw [show ((2 : Int32).toNatClampNeg) = 2 from rfl, p81 2 (by omega)]
  refine X_ivi (pc := 40) _ dX10_issueMany_40 cv_X10_661_11 (MW.ob w1) rfl (keyOf_ok g wf1' w1 ms1 1 (T.getD 2 0)) nX10_keyOf (Nat.le_of_ble_eq_true rfl) (Nat.le_of_ble_eq_true rfl) (Nat.le_of_ble_eq_true rfl) (Nat.le_of_ble_eq_true rfl) (fun r3 h3 q3 => ?_)
  rw [h1t] at hPost
  obtain ⟨rfl, hq⟩ := q3
  rcases hq with ⟨hlo, rfl⟩ | ⟨k, hlo, rfl, hk⟩
  · rw [hlo] at hPost
    refine X_istore_n (pc := 43) (L' := [(3, .int _), (2, .int _), (0, .ref _), (1, .int _)]) dX10_issueMany_43 rfl (Nat.le_of_ble_eq_true rfl) rfl ?_
    refine X_iload_n (pc := 44) 0 dX10_issueMany_44 rfl rfl ?_
    refine X_if_ge (pc := 45) 51 dX10_issueMany_45 (by decide) (fun z => absurd z (by decide)) (fun _ => ?_)
    refine X_bipush (pc := 48) (x := (-3)) dX10_issueMany_48 (by decide) ?_
    refine X_ireturn (pc := 50) dX10_issueMany_50 rfl (Nat.le_of_ble_eq_true rfl) (Nat.le_of_ble_eq_true rfl) ?_
    subst hPost
    exact ⟨_, rfl, rfl, MRep.of w1 ms1⟩
  · rw [hlo] at hPost
    have hk6 : k < 6 := Nat.lt_of_lt_of_le hk wf1'.1
    have ko := wf1'.kk hk
    have t1 : N1 (100 + k) = 1 := by
      have hp := (low_some hlo).2.1
      unfold keyP at hp
      rw [Bool.and_eq_true, Bool.and_eq_true, beq_iff_eq, beq_iff_eq] at hp
      rcases ko.2.2.2 with z | z
      · exact z.1
      · have := hp.1.2
        rw [z.1] at this
        exact absurd this (by decide)
    have hPost : RI (MQ3 A X (if T.length ≠ 3 + 49 * many + 48 then (-2, N1, L1) else sGives N1 L1 T k many)) = Post := by rw [← hPost]; show _ = RI (MQ3 A X (if N1 (100 + k) = 1 then _ else _)); rw [if_pos t1]
    refine X_istore_n (pc := 43) (L' := [(3, .int _), (2, .int _), (0, .ref _), (1, .int _)]) dX10_issueMany_43 rfl (Nat.le_of_ble_eq_true rfl) rfl ?_
    refine X_iload_n (pc := 44) 0 dX10_issueMany_44 rfl rfl ?_
    refine X_if_ge (pc := 45) 51 dX10_issueMany_45 (by decide) (fun _ => ?_) (fun z => absurd (nI_pos' (by omega)) z)
    refine X_iload_n (pc := 51) 1 dX10_issueMany_51 rfl rfl ?_
    refine X_iconst (pc := 52) (x := 3) dX10_issueMany_52 (by decide) ?_
    refine X_bipush (pc := 53) (x := 49) dX10_issueMany_53 (by decide) ?_
    refine X_iload_n (pc := 55) 3 dX10_issueMany_55 rfl rfl ?_
    refine X_imul (pc := 56) dX10_issueMany_56 ?_
    refine X_iadd (pc := 57) dX10_issueMany_57 ?_
    refine X_bipush (pc := 58) (x := 48) dX10_issueMany_58 (by decide) ?_
    refine X_iadd (pc := 60) dX10_issueMany_60 ?_
    rw [show (49 : Int32) * nI many = nI (49 * many) from pk_mul 49 many, show (3 : Int32) + nI (49 * many) = nI (3 + 49 * many) from nI_add 3 _, show nI (3 + 49 * many) + 48 = nI (3 + 49 * many + 48) from nI_add _ 48]
    by_cases c5 : T.length = 3 + 49 * many + 48
    · rw [if_neg (fun z => z c5)] at hPost
      refine X_icmp_eq (pc := 61) 67 dX10_issueMany_61 (by decide) (fun _ => ?_) (fun z => absurd (by rw [c5]) z)
      refine X_aload_n (pc := 67) 2 dX10_issueMany_67 rfl rfl ?_
      refine X_iload_n (pc := 68) 0 dX10_issueMany_68 rfl rfl ?_
      refine X_iload_n (pc := 69) 3 dX10_issueMany_69 rfl rfl ?_
      refine X_ivi (pc := 70) _ dX10_issueMany_70 cv_X10_664_11 (MW.ob w1) rfl (gives_ok g wf1' w1 ms1 (many := many) hk t1 s81 hm8 c5) nX10_gives (Nat.le_of_ble_eq_true rfl) (Nat.le_of_ble_eq_true rfl) (Nat.le_of_ble_eq_true rfl) (Nat.le_of_ble_eq_true rfl) (fun r4 h4 q4 => ?_)
      refine X_ireturn (pc := 73) dX10_issueMany_73 rfl (Nat.le_of_ble_eq_true rfl) (Nat.le_of_ble_eq_true rfl) ?_
      subst hPost
      exact ⟨_, rfl, q4⟩
    · rw [if_pos c5] at hPost
      refine X_icmp_eq (pc := 61) 67 dX10_issueMany_61 (by decide) (fun z => absurd (nI_inj' (by omega) (by omega) z) c5) (fun _ => ?_)
      refine X_bipush (pc := 64) (x := (-2)) dX10_issueMany_64 (by decide) ?_
      refine X_ireturn (pc := 66) dX10_issueMany_66 rfl (Nat.le_of_ble_eq_true rfl) (Nat.le_of_ble_eq_true rfl) ?_
      subst hPost
      exact ⟨_, rfl, rfl, MRep.of w1 ms1⟩
end MGv
