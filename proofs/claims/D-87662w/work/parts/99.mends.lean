set_option maxRecDepth 100000
/-! the reference: tokens of type 1 -/
theorem shut_ne {N : Nat → Nat} {a n j : Nat} (h : j < 300 + a ∨ 300 + a + n ≤ j) : shut N a n j = N j := by
  induction n with
  | zero => rfl
  | succ n ih =>
    show up (shut N a n) (300 + (a + n)) 0 j = N j
    rw [up_ne (by omega)]
    exact ih (by omega)
/-- the outputs one by one -/
noncomputable def catO (f : Nat → List Int32) : Nat → List Int32
  | 0 => []
  | n + 1 => catO f n ++ f n
theorem catO_len {f : Nat → List Int32} {c n : Nat} (h : ∀ i, i < n → (f i).length = c) : (catO f n).length = c * n := by
  induction n with
  | zero => rfl
  | succ n ih =>
    show (catO f n ++ f n).length = _
    rw [List.length_append, ih (fun i hi => h i (by omega)), h n (by omega), Nat.mul_succ]
theorem catO_at {f : Nat → List Int32} {n : Nat} (h : ∀ i, i < n → (f i).length = 48) {i j : Nat} (hi : i < n) (hj : j < 48) : (catO f n).getD (48 * i + j) 0 = (f i).getD j 0 := by
  induction n with
  | zero => omega
  | succ n ih =>
    have hl := catO_len (n := n) (fun i hi => h i (by omega))
    show (catO f n ++ f n).getD (48 * i + j) 0 = _
    by_cases e : i = n
    · subst e
      rw [getD_app_ge (by omega), hl]
      congr 1
      omega
    · rw [getD_app_lt (by omega)]
      exact ih (fun i hi => h i (by omega)) (by omega)
theorem catO_B {f : Nat → List Int32} {n : Nat} (h : ∀ i, IsB (f i)) : IsB (catO f n) := by
  induction n with
  | zero => intro x hx; cases hx
  | succ n ih => exact ih.app (h n)
theorem eScr_off2 {i j : Nat} (hi : i < 8) (h : (200 ≤ j ∧ j < 300 ∧ j ≠ 217 + i) ∨ (300 ≤ j ∧ j ≠ 317 + i) ∨ j = 16) : eScr (17 + i) j = false := by
  simp only [eScr, Bool.or_eq_false_iff, beq_eq_false_iff_ne, ne_eq]
  omega
theorem mScr_off9 {i j : Nat} (hi : i < 8) (h : (202 ≤ j ∧ j < 300 ∧ j ≠ 209 + i) ∨ (302 ≤ j ∧ j ≠ 309 + i)) : mScr (9 + i) j = false := by
  simp only [mScr, Bool.or_eq_false_iff, beq_eq_false_iff_ne, ne_eq]
  omega
theorem relR_e2 {i j : Nat} (hi : i < 8) (h : relR j) : eScr (17 + i) j = false := by
  unfold relR at h
  simp only [eScr, Bool.or_eq_false_iff, beq_eq_false_iff_ne, ne_eq]
  omega
theorem relR_m9 {i j : Nat} (hi : i < 8) (h : relR j) : mScr (9 + i) j = false := by
  unfold relR at h
  simp only [mScr, Bool.or_eq_false_iff, beq_eq_false_iff_ne, ne_eq]
  omega
theorem tScr_hi {j : Nat} (h : (209 ≤ j ∧ j < 300) ∨ 309 ≤ j) : tScr j = false := by
  simp only [tScr, Bool.or_eq_false_iff, beq_eq_false_iff_ne, ne_eq]
  omega
section MEd
variable {A : Nat → Nat} {X : AH} {R R' : Nat → Nat} {I I' : Nat → Nat → Int32} {S S' : Nat → List Int32} {F F' : Nat → Int32} {h : AH} {N : Nat → Nat} {L : Nat → List Int32}
set_option maxHeartbeats 32000000 in
theorem ends_cok (g : GX) (wf : Wf N L) (w : MW A X R I S F h) (ms : MS N L R I (up S 81 []) F) {T : List Int32} {a k many : Nat} (hT : S 81 = T) (hTl0 : T.length ≤ 1200) (hm1 : 1 ≤ many) (hm : many ≤ 8) (hask : ∀ i, i < many → a + i < N 1) (hsame : ∀ i, i < many → N (200 + (a + i)) = k) (ht : N (100 + k) = 1) :
    MT g MX10_ends ({ frames := 11, cells := 0, slots := 0, locals := 236 } : Room) [.ref (A 96), .int (nI a), .int (nI many), .int (nI T.length)] h (RI (MQ3 A X (sEnds N L T a many))) := by
  refine MT.of (by decide) (Nat.le_of_ble_eq_true rfl) ?_
  have h60 := wf.2.1
  have hka : N (200 + a) = k := hsame 0 (by omega)
  have hk : k < N 0 := by rw [← hka]; exact wf.ka a (hask 0 (by omega))
  have hk6 : k < 6 := Nat.lt_of_lt_of_le hk wf.1
  have ko := wf.kk hk
  have km := ms.kk hk
  obtain ⟨soK, spK, iV⟩ := km.2.2.2.2.1 ht
  obtain ⟨m1, m2, m3, m4, mG, mG0, m7⟩ := ms.1
  have s73l : (S 73).length = 5880 := by have := ms.2.2.2.2.2.2.2.2.1; rwa [up_ne (by decide)] at this
  have s73B : IsB (S 73) := by have := ms.2.2.2.2.2.2.2.2.2.1; rwa [up_ne (by decide)] at this
  have hlim : limN N k = 12 := by unfold limN; rw [if_pos ht]
  have af : ∀ i, i < many → sub (S 73) (98 * (a + i)) 98 = L (200 + (a + i)) ∧ V 12 (I (600 + (a + i))) = N (400 + (a + i)) ∧ 0 < N (400 + (a + i)) ∧ N (400 + (a + i)) < qP ∧ h2p (L (200 + (a + i))) ≠ none ∧ mP (N (400 + (a + i))) (h2p (L (200 + (a + i)))) ≠ none ∧ (L (200 + (a + i))).length = 98 := by
    intro i hi
    have am := ms.aa (hask i hi)
    have ao := wf.aa (hask i hi)
    have h1 := am.2.2.1
    have h2 := am.2.2.2
    rw [up_ne (by decide)] at h1
    rw [hsame i hi, hlim] at h2
    rcases ao.2.2.2.2 with z | z
    · exact ⟨h1, h2, z.2.1, z.2.2.1, z.2.2.2.1, z.2.2.2.2, ao.2.2.1⟩
    · rw [hsame i hi] at z
      exact absurd (z.1.symm.trans ht) (by decide)
  have hbk : vp_in (nI k) 6 := vp_in_nI hk6 (by decide)
  have ck : (nI k).toNatClampNeg = k := nI_clamp (by omega)
  have ha60 : a < 60 := by have := hask 0 (by omega); omega
  have ba : vp_in (nI a) 60 := vp_in_nI ha60 (by decide)
  have ca : (nI a).toNatClampNeg = a := nI_clamp (by omega)
  have i71 : I 71 a = nI k := by have := (ms.aa (hask 0 (by omega))).1; rwa [Nat.add_zero, hka] at this
  have hsd : sEnds N L T a many = if T.length ≠ 49 * many + 96 then (-2, N, L) else cIf ((∃ i, i < many ∧ eltP T (49 * i) = none) ∨ qP ≤ num T (49 * many) 48 ∨ qP ≤ num T (49 * many + 48) 48 ∨
    ¬ isp (mP (N (120 + N (200 + a))) GP) (cpt (cD (en (mP (N (120 + N (200 + a))) GP)) (fun i => mP (N (400 + (a + i))) (h2p (L (200 + (a + i))))) (fun i => eltP T (49 * i))) (fun i => mP (N (400 + (a + i))) (h2p (L (200 + (a + i))))) many)
      (cpt (cD (en (mP (N (120 + N (200 + a))) GP)) (fun i => mP (N (400 + (a + i))) (h2p (L (200 + (a + i))))) (fun i => eltP T (49 * i))) (fun i => eltP T (49 * i)) many) (num T (49 * many) 48) (num T (49 * many + 48) 48) ∨
    (∃ i, i < many ∧ tokP N T a i = none)) (-4, N, L) (nI (146 * many), shut N a many, up L 1 (catT N L T a many)) := rfl
  rw [hka] at hsd
  generalize hPost : RI (MQ3 A X (sEnds N L T a many)) = Post
  refine X_aload_n (pc := 0) 0 dX10_ends_0 rfl rfl ?_
  refine X_getfield (pc := 1) dX10_ends_1 fg_X10_516_11 (MW.ob w) mf_71 ?_
  refine X_iload_n (pc := 4) 1 dX10_ends_4 rfl rfl ?_
  refine X_iaload (pc := 5) dX10_ends_5 (w.i 71 rfl) ba ?_
  rw [ca, i71]
  refine X_istore (pc := 6) (L' := [(4, .int _), (0, .ref _), (1, .int _), (2, .int _), (3, .int _)]) dX10_ends_6 (Nat.le_of_ble_eq_true rfl) rfl ?_
  refine X_iload_n (pc := 8) 4 dX10_ends_8 rfl rfl ?_
  refine X_bipush (pc := 9) (x := 49) dX10_ends_9 (by decide) ?_
  refine X_iload_n (pc := 11) 3 dX10_ends_11 rfl rfl ?_
  refine X_imul (pc := 12) dX10_ends_12 ?_
  refine X_bipush (pc := 13) (x := 96) dX10_ends_13 (by decide) ?_
  refine X_iadd (pc := 15) dX10_ends_15 ?_
  rw [show (49 : Int32) * nI many = nI (49 * many) from pk_mul 49 many, show nI (49 * many) + 96 = nI (49 * many + 96) from nI_add _ 96]
  by_cases hTl : T.length = 49 * many + 96
  rotate_left
  · refine X_icmp_eq (pc := 16) 22 dX10_ends_16 (by decide) (fun z => absurd (nI_inj' (by omega) (by omega) z) hTl) (fun _ => ?_)
    refine X_bipush (pc := 19) (x := (-2)) dX10_ends_19 (by decide) ?_
    refine X_ireturn (pc := 21) dX10_ends_21 rfl (Nat.le_of_ble_eq_true rfl) (Nat.le_of_ble_eq_true rfl) ?_
    subst hPost
    rw [hsd, if_pos hTl]
    exact ⟨_, rfl, rfl, MRep.of w ms⟩
  refine X_icmp_eq (pc := 16) 22 dX10_ends_16 (by decide) (fun _ => ?_) (fun z => absurd (by rw [hTl]) z)
  rw [if_neg (fun z => z hTl)] at hsd
  generalize hcv : num T (49 * many) 48 = cv at *
  generalize hsv : num T (49 * many + 48) 48 = sv at *
  have msr : ∀ R' S' F', (∀ j, relR j → R' j = R j) → (∀ j, relS j → S' j = S j) → (∀ j, relF j → F' j = F j) → MS N L R' I (up S' 81 []) F' := fun R' S' F' a b c => ms.cg ⟨wf.1, wf.2.1⟩ a (fun _ _ => rfl) (fun j hj => by
    by_cases e : j = 81
    · subst e; rw [up_same, up_same]
    · rw [up_ne e, up_ne e]; exact b j hj) c
  generalize hcond : ((∃ i, i < many ∧ eltP T (49 * i) = none) ∨ qP ≤ cv ∨ qP ≤ sv ∨
    ¬ isp (mP (N (120 + k)) GP) (cpt (cD (en (mP (N (120 + k)) GP)) (fun i => mP (N (400 + (a + i))) (h2p (L (200 + (a + i))))) (fun i => eltP T (49 * i))) (fun i => mP (N (400 + (a + i))) (h2p (L (200 + (a + i))))) many)
      (cpt (cD (en (mP (N (120 + k)) GP)) (fun i => mP (N (400 + (a + i))) (h2p (L (200 + (a + i))))) (fun i => eltP T (49 * i))) (fun i => eltP T (49 * i)) many) cv sv ∨
    (∃ i, i < many ∧ tokP N T a i = none)) = cond at hsd
  have no : ∀ R' S' F' h', MW A X R' I S' F' h' → (∀ j, relR j → R' j = R j) → (∀ j, relS j → S' j = S j) → (∀ j, relF j → F' j = F j) → cond → Post (.returned (some (.int (-4)))) h' := by
    intro R' S' F' h' w' a b c hc
    subst hPost
    rw [hsd, cIf_t hc]
    exact ⟨_, rfl, rfl, MRep.of w' (msr R' S' F' a b c)⟩
  have tokl : ∀ i, i < many → ∀ P, (outB (L (200 + (a + i))) P).length = 48 := fun i _ P => sha384_len _
  obtain ⟨of, hof⟩ : ∃ of : Nat → List Int32, of = fun i => outB (L (200 + (a + i))) (tokP N T a i) := ⟨_, rfl⟩
  have ofl : ∀ i, (of i).length = 48 := fun i => by rw [hof]; exact sha384_len _
  have ofB : ∀ i, IsB (of i) := fun i => by rw [hof]; exact sha384_B _
  have hctd : ∀ n, catT N L T a (n + 1) = catT N L T a n ++ L (200 + (a + n)) ++ of n := fun n => by rw [hof]; rfl
  have hctl : ∀ n, n ≤ many → (catT N L T a n).length = 146 * n := by
    intro n
    induction n with
    | zero => intro _; rfl
    | succ n ih =>
      intro hn
      rw [hctd, List.length_append, List.length_append, ih (by omega), ofl, (af n (by omega)).2.2.2.2.2.2]
      omega
  -- what goes out is laid
  have loop4 : ∀ (R5 : Nat → Nat) (S5 : Nat → List Int32) (F5 : Nat → Int32), (∀ j, relR j → R5 j = R j) → (∀ j, relS j → S5 j = S j) → (∀ j, relF j → F5 j = F j) → S5 95 = catO of many → ¬ cond →
      ∀ m i, i + m = many → ∀ I5 h', MW A X R5 I5 (up S5 83 (catT N L T a i)) F5 h' → MS (shut N a i) L R5 I5 (up S5 81 []) F5 → ∀ (L' : List (Nat × Value)), L' = [(4, .int (nI k)), (0, .ref (A 96)), (1, .int (nI a)), (2, .int (nI many)), (3, .int (nI T.length))] →
      XX g MX10_ends ({ frames := 11, cells := 0, slots := 0, locals := 236 } : Room) Post 0 0 338 ((5, .int (nI i)) :: L') [] h' := by
    intro R5 S5 F5 fR5 fS5 fF5 s95 hnc m
    have s735 : S5 73 = S 73 := fS5 73 (by unfold relS; omega)
    have hOl : (catO of many).length = 48 * many := catO_len fun i _ => ofl i
    have hOB : IsB (catO of many) := catO_B ofB
    induction m with
    | zero =>
      intro i hi I5 h' w' ms5 L' hL
      subst hL
      have ei : i = many := by omega
      subst ei
      refine X_iload (pc := 338) 0 dX10_ends_338 rfl ?_
      refine X_iload_n (pc := 340) 4 dX10_ends_340 rfl rfl ?_
      refine X_cge (pc := 341) 451 dX10_ends_341 (by decide) (by omega) (by omega) (fun _ => ?_) (fun z => absurd z (by omega))
      refine X_aload_n (pc := 451) 2 dX10_ends_451 rfl rfl ?_
      refine X_sipush (pc := 452) (x := 146) dX10_ends_452 (by decide) ?_
      refine X_iload_n (pc := 455) 4 dX10_ends_455 rfl rfl ?_
      refine X_imul (pc := 456) dX10_ends_456 ?_
      rw [show (146 : Int32) * nI i = nI (146 * i) from pk_mul 146 i]
      refine X_putfield (pc := 457) dX10_ends_457 fp_X10_606_11 (fun e => by cases e) (MW.ob w') rfl rfl (Nat.le_of_ble_eq_true rfl) ?_
      have w2 := w'.setF84 (v := nI (146 * i))
      refine X_aload_n (pc := 460) 2 dX10_ends_460 rfl rfl ?_
      refine X_getfield (pc := 461) dX10_ends_461 fg_X10_606_11 (MW.ob w2) mf_84 ?_
      rw [up_same]
      refine X_ireturn (pc := 464) dX10_ends_464 rfl (Nat.le_of_ble_eq_true rfl) (Nat.le_of_ble_eq_true rfl) ?_
      subst hPost
      rw [hsd, cIf_f hnc]
      refine ⟨_, rfl, rfl, MRep.of w2 ?_⟩
      have mo := ms5.out (by rw [shut_ne (by omega), shut_ne (by omega)]; exact ⟨wf.1, wf.2.1⟩) (catT N L T a i)
      rw [hctl i (Nat.le_refl _), up_comm _ _ _ (show 81 ≠ 83 by decide)] at mo
      exact mo
    | succ m ih =>
      intro i hi I5 h' w' ms5 L' hL
      subst hL
      have hid : ∀ q, q < 98 → (S 73).getD (98 * (a + i) + q) 0 = (L (200 + (a + i))).getD q 0 := fun q hq => by
        rw [← (af i (by omega)).1]
        unfold sub
        rw [getD_map_range hq]
      have hil := (af i (by omega)).2.2.2.2.2.2
      have hcl := hctl i (by omega)
      have hai := hask i (by omega)
      have inner2 : ∀ m q, q + m = 48 → ∀ h2, MW A X R5 I5 (up S5 83 (catT N L T a i ++ L (200 + (a + i)) ++ (List.range q).map fun z => (of i).getD z 0)) F5 h2 →
          XX g MX10_ends ({ frames := 11, cells := 0, slots := 0, locals := 236 } : Room) Post 0 0 392 [(6, .int (nI q)), (5, .int (nI i)), (4, .int (nI k)), (0, .ref (A 96)), (1, .int (nI a)), (2, .int (nI many)), (3, .int (nI T.length))] [] h2 := by
        intro m2
        induction m2 with
        | zero =>
          intro q hq h2 w2
          have eq : q = 48 := by omega
          subst eq
          rw [map_getD (ofl i), ← hctd] at w2
          have b72 : vp_in (nI (a + i)) 60 := vp_in_nI (by omega) (by decide)
          have c72 : (nI (a + i)).toNatClampNeg = a + i := nI_clamp (by omega)
          refine X_iload (pc := 392) 0 dX10_ends_392 rfl ?_
          refine X_bipush (pc := 394) (x := 48) dX10_ends_394 (by decide) ?_
          refine X_cge (a := 48) (b := 48) (pc := 396) 435 dX10_ends_396 (by decide) (by omega) (by omega) (fun _ => ?_) (fun z => absurd z (by omega))
          refine X_aload_n (pc := 435) 3 dX10_ends_435 rfl rfl ?_
          refine X_getfield (pc := 436) dX10_ends_436 fg_X10_519_11 (MW.ob w2) mf_72 ?_
          refine X_iload_n (pc := 439) 4 dX10_ends_439 rfl rfl ?_
          refine X_iload (pc := 440) 1 dX10_ends_440 rfl ?_
          refine X_iadd (pc := 442) dX10_ends_442 ?_
          rw [nI_add]
          refine X_iconst (pc := 443) (x := 0) dX10_ends_443 (by decide) ?_
          refine X_zastore (pc := 444) dX10_ends_444 (w2.i 72 rfl) b72 ?_
          rw [c72]
          have w3 := w2.setI 72 rfl (upd (I5 72) (a + i) (nI 0))
          refine XX.eqh (h' := hset h2 (A 72) (Ai false 3 60 (upd (I5 72) (a + i) (nI 0)))) rfl ?_
          have ms6 := ms5.opn (by rw [shut_ne (by omega), shut_ne (by omega)]; exact ⟨wf.1, wf.2.1⟩) (fun b hb => by rw [shut_ne (by omega)] at hb; rw [shut_ne (by omega), shut_ne (by omega)]; exact wf.ka b hb) (i := a + i) (by rw [shut_ne (by omega)]; exact hai) 0
          refine X_iinc (pc := 445) (L' := [(5, .int (_ + 1)), (6, .int _), (4, .int _), (0, .ref _), (1, .int _), (2, .int _), (3, .int _)]) 1 dX10_ends_445 rfl rfl (Nat.le_of_ble_eq_true rfl) rfl ?_
          refine X_goto (pc := 448) 338 dX10_ends_448 (by decide) ?_
          refine XX.pick (L' := [(5, .int _), (4, .int _), (0, .ref _), (1, .int _), (2, .int _), (3, .int _)]) [0, 2, 3, 4, 5, 6] rfl ?_
          rw [show nI i + 1 = nI (i + 1) from nI_add i 1]
          exact ih (i + 1) (by omega) _ _ w3 ms6 _ rfl
        | succ m2 ih2 =>
          intro q hq h2 w2
          obtain ⟨f95, c95, p95, -⟩ := w2.s 95 rfl
          obtain ⟨f83, c83, p83, -⟩ := w2.s 83 rfl
          rw [up_ne (by decide), s95] at p95
          rw [up_same] at p83
          have hli : (catT N L T a i ++ L (200 + (a + i)) ++ (List.range q).map fun z => (of i).getD z 0).length = 146 * i + 98 + q := by rw [List.length_append, List.length_append, hcl, hil, List.length_map, List.length_range]
          have bo : vp_in (nI (146 * i + 98 + q)) 2900 := vp_in_nI (by omega) (by omega)
          have co : (nI (146 * i + 98 + q)).toNatClampNeg = 146 * i + 98 + q := nI_clamp (by omega)
          have b9 : vp_in (nI (48 * i + q)) 384 := vp_in_nI (by omega) (by omega)
          have c9 : (nI (48 * i + q)).toNatClampNeg = 48 * i + q := nI_clamp (by omega)
          refine X_iload (pc := 392) 0 dX10_ends_392 rfl ?_
          refine X_bipush (pc := 394) (x := 48) dX10_ends_394 (by decide) ?_
          refine X_cge (b := 48) (pc := 396) 435 dX10_ends_396 (by decide) (by omega) (by omega) (fun z => absurd z (by omega)) (fun _ => ?_)
          refine X_aload_n (pc := 399) 3 dX10_ends_399 rfl rfl ?_
          refine X_getfield (pc := 400) dX10_ends_400 fg_X10_537_11 (MW.ob w2) mf_83 ?_
          refine X_sipush (pc := 403) (x := 146) dX10_ends_403 (by decide) ?_
          refine X_iload (pc := 406) 1 dX10_ends_406 rfl ?_
          refine X_imul (pc := 408) dX10_ends_408 ?_
          refine X_bipush (pc := 409) (x := 98) dX10_ends_409 (by decide) ?_
          refine X_iadd (pc := 411) dX10_ends_411 ?_
          refine X_iload (pc := 412) 0 dX10_ends_412 rfl ?_
          refine X_iadd (pc := 414) dX10_ends_414 ?_
          rw [show (146 : Int32) * nI i = nI (146 * i) from pk_mul 146 i, show nI (146 * i) + 98 = nI (146 * i + 98) from nI_add _ 98, nI_add]
          refine X_aload_n (pc := 415) 3 dX10_ends_415 rfl rfl ?_
          refine X_getfield (pc := 416) dX10_ends_416 fg_X10_570_11 (MW.ob w2) mf_95 ?_
          refine X_bipush (pc := 419) (x := 48) dX10_ends_419 (by decide) ?_
          refine X_iload (pc := 421) 1 dX10_ends_421 rfl ?_
          refine X_imul (pc := 423) dX10_ends_423 ?_
          refine X_iload (pc := 424) 0 dX10_ends_424 rfl ?_
          refine X_iadd (pc := 426) dX10_ends_426 ?_
          rw [show (48 : Int32) * nI i = nI (48 * i) from pk_mul 48 i, nI_add]
          refine X_baload (pc := 427) dX10_ends_427 c95 b9 ?_
          refine X_bastore (pc := 428) dX10_ends_428 c83 bo ?_
          rw [co, c9, p95 _ (by omega), hOB.nar, catO_at (fun i _ => ofl i) (by omega) (by omega)]
          have w3 := w2.setS 83 rfl (PL_app (x := (of i).getD q 0) p83 hli.symm) (by rw [List.length_append, hli]; exact (show 146 * i + 98 + q + 1 ≤ 2900 by omega))
          rw [up_up', List.append_assoc _ (List.map _ _), ← List.map_singleton (f := fun z => (of i).getD z 0), ← List.map_append, ← List.range_succ] at w3
          refine X_iinc (pc := 429) (L' := [(6, .int (_ + 1)), (5, .int _), (4, .int _), (0, .ref _), (1, .int _), (2, .int _), (3, .int _)]) 0 dX10_ends_429 rfl rfl (Nat.le_of_ble_eq_true rfl) rfl ?_
          refine X_goto (pc := 432) 392 dX10_ends_432 (by decide) ?_
          rw [show nI q + 1 = nI (q + 1) from nI_add q 1]
          exact ih2 (q + 1) (by omega) _ w3
      have inner1 : ∀ m q, q + m = 98 → ∀ h2, MW A X R5 I5 (up S5 83 (catT N L T a i ++ (List.range q).map fun z => (L (200 + (a + i))).getD z 0)) F5 h2 →
          XX g MX10_ends ({ frames := 11, cells := 0, slots := 0, locals := 236 } : Room) Post 0 0 347 [(6, .int (nI q)), (5, .int (nI i)), (4, .int (nI k)), (0, .ref (A 96)), (1, .int (nI a)), (2, .int (nI many)), (3, .int (nI T.length))] [] h2 := by
        intro m2
        induction m2 with
        | zero =>
          intro q hq h2 w2
          have eq : q = 98 := by omega
          subst eq
          rw [map_getD hil] at w2
          refine X_iload (pc := 347) 0 dX10_ends_347 rfl ?_
          refine X_bipush (pc := 349) (x := 98) dX10_ends_349 (by decide) ?_
          refine X_cge (a := 98) (b := 98) (pc := 351) 389 dX10_ends_351 (by decide) (by omega) (by omega) (fun _ => ?_) (fun z => absurd z (by omega))
          refine X_iconst (pc := 389) (x := 0) dX10_ends_389 (by decide) ?_
          refine X_istore (pc := 390) (L' := [(6, .int _), (5, .int _), (4, .int _), (0, .ref _), (1, .int _), (2, .int _), (3, .int _)]) dX10_ends_390 (Nat.le_of_ble_eq_true rfl) rfl ?_
          exact inner2 48 0 (by omega) h2 (by rw [List.range_zero, List.map_nil, List.append_nil]; exact w2)
        | succ m2 ih2 =>
          intro q hq h2 w2
          obtain ⟨f73, c73, p73, -⟩ := w2.s 73 rfl
          obtain ⟨f83, c83, p83, -⟩ := w2.s 83 rfl
          rw [up_ne (by decide), s735] at p73
          rw [up_same] at p83
          have hli : (catT N L T a i ++ (List.range q).map fun z => (L (200 + (a + i))).getD z 0).length = 146 * i + q := by rw [List.length_append, hcl, List.length_map, List.length_range]
          have bo : vp_in (nI (146 * i + q)) 2900 := vp_in_nI (by omega) (by omega)
          have co : (nI (146 * i + q)).toNatClampNeg = 146 * i + q := nI_clamp (by omega)
          have b9 : vp_in (nI (98 * (a + i) + q)) 5880 := vp_in_nI (by omega) (by omega)
          have c9 : (nI (98 * (a + i) + q)).toNatClampNeg = 98 * (a + i) + q := nI_clamp (by omega)
          refine X_iload (pc := 347) 0 dX10_ends_347 rfl ?_
          refine X_bipush (pc := 349) (x := 98) dX10_ends_349 (by decide) ?_
          refine X_cge (b := 98) (pc := 351) 389 dX10_ends_351 (by decide) (by omega) (by omega) (fun z => absurd z (by omega)) (fun _ => ?_)
          refine X_aload_n (pc := 354) 3 dX10_ends_354 rfl rfl ?_
          refine X_getfield (pc := 355) dX10_ends_355 fg_X10_537_11 (MW.ob w2) mf_83 ?_
          refine X_sipush (pc := 358) (x := 146) dX10_ends_358 (by decide) ?_
          refine X_iload (pc := 361) 1 dX10_ends_361 rfl ?_
          refine X_imul (pc := 363) dX10_ends_363 ?_
          refine X_iload (pc := 364) 0 dX10_ends_364 rfl ?_
          refine X_iadd (pc := 366) dX10_ends_366 ?_
          rw [show (146 : Int32) * nI i = nI (146 * i) from pk_mul 146 i, nI_add]
          refine X_aload_n (pc := 367) 3 dX10_ends_367 rfl rfl ?_
          refine X_getfield (pc := 368) dX10_ends_368 fg_X10_522_11 (MW.ob w2) mf_73 ?_
          refine X_bipush (pc := 371) (x := 98) dX10_ends_371 (by decide) ?_
          refine X_iload_n (pc := 373) 4 dX10_ends_373 rfl rfl ?_
          refine X_iload (pc := 374) 1 dX10_ends_374 rfl ?_
          refine X_iadd (pc := 376) dX10_ends_376 ?_
          refine X_imul (pc := 377) dX10_ends_377 ?_
          refine X_iload (pc := 378) 0 dX10_ends_378 rfl ?_
          refine X_iadd (pc := 380) dX10_ends_380 ?_
          rw [nI_add a i, show (98 : Int32) * nI (a + i) = nI (98 * (a + i)) from pk_mul 98 _, nI_add]
          refine X_baload (pc := 381) dX10_ends_381 c73 b9 ?_
          refine X_bastore (pc := 382) dX10_ends_382 c83 bo ?_
          rw [co, c9, p73 _ (by omega), s73B.nar, hid q (by omega)]
          have w3 := w2.setS 83 rfl (PL_app (x := (L (200 + (a + i))).getD q 0) p83 hli.symm) (by rw [List.length_append, hli]; exact (show 146 * i + q + 1 ≤ 2900 by omega))
          rw [up_up', List.append_assoc, ← List.map_singleton (f := fun z => (L (200 + (a + i))).getD z 0), ← List.map_append, ← List.range_succ] at w3
          refine X_iinc (pc := 383) (L' := [(6, .int (_ + 1)), (5, .int _), (4, .int _), (0, .ref _), (1, .int _), (2, .int _), (3, .int _)]) 0 dX10_ends_383 rfl rfl (Nat.le_of_ble_eq_true rfl) rfl ?_
          refine X_goto (pc := 386) 347 dX10_ends_386 (by decide) ?_
          rw [show nI q + 1 = nI (q + 1) from nI_add q 1]
          exact ih2 (q + 1) (by omega) _ w3
      refine X_iload (pc := 338) 0 dX10_ends_338 rfl ?_
      refine X_iload_n (pc := 340) 4 dX10_ends_340 rfl rfl ?_
      refine X_cge (pc := 341) 451 dX10_ends_341 (by decide) (by omega) (by omega) (fun z => absurd z (by omega)) (fun _ => ?_)
      refine X_iconst (pc := 344) (x := 0) dX10_ends_344 (by decide) ?_
      refine X_istore (pc := 345) (L' := [(6, .int _), (5, .int _), (4, .int _), (0, .ref _), (1, .int _), (2, .int _), (3, .int _)]) dX10_ends_345 (Nat.le_of_ble_eq_true rfl) rfl ?_
      exact inner1 98 0 (by omega) h' (by rw [List.range_zero, List.map_nil, List.append_nil]; exact w')
  -- the outputs
  have loop3 : (∀ i, i < many → eltP T (49 * i) ≠ none) → ¬ (qP ≤ cv ∨ qP ≤ sv ∨ ¬ isp (mP (N (120 + k)) GP) (cpt (cD (en (mP (N (120 + k)) GP)) (fun i => mP (N (400 + (a + i))) (h2p (L (200 + (a + i))))) (fun i => eltP T (49 * i))) (fun i => mP (N (400 + (a + i))) (h2p (L (200 + (a + i))))) many) (cpt (cD (en (mP (N (120 + k)) GP)) (fun i => mP (N (400 + (a + i))) (h2p (L (200 + (a + i))))) (fun i => eltP T (49 * i))) (fun i => eltP T (49 * i)) many) cv sv) →
      ∀ m i, i + m = many → ∀ R5 S5 F5 h', MW A X R5 I (up S5 95 (catO of i)) F5 h' → (∀ j, relR j → R5 j = R j) → (∀ j, relS j → S5 j = S j) → (∀ j, relF j → F5 j = F j) → (∀ j, j < many → SpO R5 F5 (17 + j) ∧ spt R5 F5 (17 + j) = eltP T (49 * j)) → (∀ j, j < i → tokP N T a j ≠ none) →
      ∀ (L' : List (Nat × Value)), L' = [(4, .int (nI k)), (0, .ref (A 96)), (1, .int (nI a)), (2, .int (nI many)), (3, .int (nI T.length))] → XX g MX10_ends ({ frames := 11, cells := 0, slots := 0, locals := 236 } : Room) Post 0 0 213 ((5, .int (nI i)) :: L') [] h' := by
    intro helt hnc m
    induction m with
    | zero =>
      intro i hi R5 S5 F5 h' w' fR5 fS5 fF5 hg5 htok L' hL
      subst hL
      have ei : i = many := by omega
      subst ei
      refine X_iload (pc := 213) 0 dX10_ends_213 rfl ?_
      refine X_iload_n (pc := 215) 4 dX10_ends_215 rfl rfl ?_
      refine X_cge (pc := 216) 335 dX10_ends_216 (by decide) (by omega) (by omega) (fun _ => ?_) (fun z => absurd z (by omega))
      refine X_iconst (pc := 335) (x := 0) dX10_ends_335 (by decide) ?_
      refine X_istore (pc := 336) (L' := [(5, .int _), (4, .int _), (0, .ref _), (1, .int _), (2, .int _), (3, .int _)]) dX10_ends_336 (Nat.le_of_ble_eq_true rfl) rfl ?_
      have fS5' : ∀ j, relS j → (up S5 95 (catO of i)) j = S j := fun j hj => by rw [up_ne (by unfold relS at hj; omega)]; exact fS5 j hj
      refine loop4 R5 (up S5 95 (catO of i)) F5 fR5 fS5' fF5 (up_same _ _ _) ?_ i 0 (by omega) I h' (w'.cutS 83 rfl) (msr R5 _ F5 fR5 fS5' fF5) _ rfl
      rw [← hcond]
      intro z
      rcases z with ⟨j, hj, z⟩ | z | z | z | ⟨j, hj, z⟩
      · exact helt j hj z
      · exact hnc (Or.inl z)
      · exact hnc (Or.inr (Or.inl z))
      · exact hnc (Or.inr (Or.inr z))
      · exact htok j hj z
    | succ m ih =>
      intro i hi R5 S5 F5 h' w' fR5 fS5 fF5 hg5 htok L' hL
      subst hL
      obtain ⟨q1, q2, q3, q4, q5, q6, q7⟩ := af i (by omega)
      have hai := hask i (by omega)
      have b6 : vp_in (nI (a + i)) 60 := vp_in_nI (by omega) (by decide)
      have c6 : (nI (a + i)).toNatClampNeg = a + i := nI_clamp (by omega)
      have bi : vp_in (nI i) 8 := vp_in_nI (by omega) (by omega)
      have ci : (nI i).toNatClampNeg = i := nI_clamp (by omega)
      have k6 := kd600 (a := a + i) (by omega)
      have ob : OpM A h' (A (600 + (a + i))) 12 (N (400 + (a + i))) := by have := OpM.i w' (600 + (a + i)) k6 (n := 12) (by decide) (by decide); rwa [q2] at this
      refine X_iload (pc := 213) 0 dX10_ends_213 rfl ?_
      refine X_iload_n (pc := 215) 4 dX10_ends_215 rfl rfl ?_
      refine X_cge (pc := 216) 335 dX10_ends_216 (by decide) (by omega) (by omega) (fun z => absurd z (by omega)) (fun _ => ?_)
      refine X_aload_n (pc := 219) 2 dX10_ends_219 rfl rfl ?_
      refine X_aload_n (pc := 220) 2 dX10_ends_220 rfl rfl ?_
      refine X_getfield (pc := 221) dX10_ends_221 fg_X10_360_11 (MW.ob w') mf_10 ?_
      refine X_aload_n (pc := 224) 2 dX10_ends_224 rfl rfl ?_
      refine X_getfield (pc := 225) dX10_ends_225 fg_X10_525_11 (MW.ob w') mf_74 ?_
      refine X_iload_n (pc := 228) 3 dX10_ends_228 rfl rfl ?_
      refine X_iload (pc := 229) 0 dX10_ends_229 rfl ?_
      refine X_iadd (pc := 231) dX10_ends_231 ?_
      rw [nI_add]
      refine X_aaloadA (pc := 232) dX10_ends_232 (w'.o 74 rfl) b6 ?_
      rw [c6]
      refine XX.eqst (st' := [.ref (A (600 + (a + i))), .ref (A 501), .ref (A 96)]) rfl ?_
      refine X_aload_n (pc := 233) 2 dX10_ends_233 rfl rfl ?_
      refine X_getfield (pc := 234) dX10_ends_234 fg_X10_437_11 (MW.ob w') mf_57 ?_
      refine X_ivi (pc := 237) _ dX10_ends_237 cv_X10_161_11 (MW.ob w') rfl (miQ g w' 57 rfl ob (by omega) q4) nX10_inverse (Nat.le_of_ble_eq_true rfl) (Nat.le_of_ble_eq_true rfl) (Nat.le_of_ble_eq_true rfl) (Nat.le_of_ble_eq_true rfl) (fun r2 h2 z2 => ?_)
      obtain ⟨rfl, w2⟩ := z2
      have k57 : (up R5 57 (invM qP (N (400 + (a + i))))) 57 = invM qP (N (400 + (a + i))) := up_same _ _ _
      have kot : ∀ j, j ≠ 57 → (up R5 57 (invM qP (N (400 + (a + i))))) j = R5 j := fun j hj => up_ne hj
      have htd : tokP N T a i = mP (invM qP (N (400 + (a + i)))) (eltP T (49 * i)) := rfl
      generalize invM qP (N (400 + (a + i))) = iv at *
      generalize up R5 57 iv = R6 at *
      have ivl : iv < 2 ^ 384 := by
        obtain ⟨f, -, hf⟩ := w2.n2 57 rfl
        rw [← k57, ← hf]
        exact V_lt 12 f
      have hg6 : ∀ j, j < many → SpO R6 F5 (17 + j) ∧ spt R6 F5 (17 + j) = eltP T (49 * j) := fun j hj => by
        obtain ⟨⟨x, y, z⟩, d⟩ := hg5 j hj
        have e : spt R6 F5 (17 + j) = spt R5 F5 (17 + j) := spt_cg (kot _ (by omega)) (kot _ (by omega)) rfl
        exact ⟨⟨x, by rw [kot _ (by omega)]; exact y, by rw [e]; exact z⟩, by rw [e]; exact d⟩
      obtain ⟨so, sp⟩ := hg6 i (by omega)
      refine X_istore (pc := 240) (L' := [(6, .int _), (5, .int _), (4, .int _), (0, .ref _), (1, .int _), (2, .int _), (3, .int _)]) dX10_ends_240 (Nat.le_of_ble_eq_true rfl) rfl ?_
      refine X_aload_n (pc := 242) 3 dX10_ends_242 rfl rfl ?_
      refine X_aload_n (pc := 243) 3 dX10_ends_243 rfl rfl ?_
      refine X_getfield (pc := 244) dX10_ends_244 fg_X10_437_11 (MW.ob w2) mf_57 ?_
      refine X_aload_n (pc := 247) 3 dX10_ends_247 rfl rfl ?_
      refine X_getfield (pc := 248) dX10_ends_248 fg_X10_429_11 (MW.ob w2) mf_49 ?_
      refine X_iload (pc := 251) 1 dX10_ends_251 rfl ?_
      refine X_aaload (pc := 253) dX10_ends_253 (w2.o 49 rfl) (fun _ => rfl) bi ?_
      rw [ci]
      refine XX.eqst (st' := [.ref (A (400 + (17 + i))), .ref (A 57), .ref (A 96)]) (by rw [show 400 + (17 + i) = 417 + i by omega]; rfl) ?_
      refine X_aload_n (pc := 254) 3 dX10_ends_254 rfl rfl ?_
      refine X_getfield (pc := 255) dX10_ends_255 fg_X10_564_11 (MW.ob w2) mf_93 ?_
      refine X_ivv (pc := 258) _ dX10_ends_258 cv_X10_446_11 (MW.ob w2) rfl (mul_ok g w2 (sa := 17 + i) (t := 8) (ak := A 57) (kv := iv) (by omega) (by decide) so.2.1 (Or.inl so.1) so.2.2 ivl (fun {R9 F9 h9} w9 o9 => by have := OpM.n2 w9 57 rfl; rw [o9 57 rfl, k57] at this; exact this)) nX10_multiply (Nat.le_of_ble_eq_true rfl) (Nat.le_of_ble_eq_true rfl) (Nat.le_of_ble_eq_true rfl) (Nat.le_of_ble_eq_true rfl) (fun h3 z3 => ?_)
      obtain ⟨R7, F7, w7, fR7, fF7, z7, -, sp7, -⟩ := z3
      rw [sp, ← htd] at sp7
      have gR7 : ∀ j, relR j → R7 j = R j := fun j hj => by
        rw [fR7 j (relR_m8 hj), kot j (by unfold relR at hj; omega)]; exact fR5 j hj
      have gF7 : ∀ j, relF j → F7 j = F j := fun j hj => by
        have := fF5 j hj
        unfold relF at hj
        rw [fF7 j (by omega) (by omega)]
        exact this
      have hg7 : ∀ j, j < many → SpO R7 F7 (17 + j) ∧ spt R7 F7 (17 + j) = eltP T (49 * j) := fun j hj => by
        obtain ⟨⟨x, y, z⟩, d⟩ := hg6 j hj
        have m8 : ∀ q, ((209 ≤ q ∧ q < 300) ∨ 309 ≤ q) → mScr 8 q = false := fun q hq => by
          simp only [mScr, Bool.or_eq_false_iff, beq_eq_false_iff_ne, ne_eq]
          omega
        have e : spt R7 F7 (17 + j) = spt R6 F5 (17 + j) := spt_cg (fR7 _ (m8 _ (by omega))) (fR7 _ (m8 _ (by omega))) (fF7 _ (by omega) (by omega))
        exact ⟨⟨by rw [fF7 _ (by omega) (by omega)]; exact x, by rw [fR7 _ (m8 _ (by omega))]; exact y, by rw [e]; exact z⟩, by rw [e]; exact d⟩
      have fS5' : ∀ j, relS j → (up S5 95 (catO of i)) j = S j := fun j hj => by rw [up_ne (by unfold relS at hj; omega)]; exact fS5 j hj
      refine X_aload_n (pc := 261) 3 dX10_ends_261 rfl rfl ?_
      refine X_getfield (pc := 262) dX10_ends_262 fg_X10_564_11 (MW.ob w7) mf_93 ?_
      refine X_getfield (pc := 265) dX10_ends_265 fg_X10_136_13 (w7.sp 8 (by decide)) (by first | rfl | assumption) ?_
      by_cases c8 : F7 (400 + 8) = 0
      rotate_left
      · refine X_if_eq (pc := 268) 274 dX10_ends_268 (by decide) (fun z => absurd z c8) (fun _ => ?_)
        refine X_bipush (pc := 271) (x := (-4)) dX10_ends_271 (by decide) ?_
        refine X_ireturn (pc := 273) dX10_ends_273 rfl (Nat.le_of_ble_eq_true rfl) (Nat.le_of_ble_eq_true rfl) ?_
        refine no R7 _ F7 h3 w7 gR7 fS5' gF7 ?_
        rw [← hcond]
        exact Or.inr (Or.inr (Or.inr (Or.inr ⟨i, by omega, sp7.symm.trans (spt_no c8)⟩)))
      refine X_if_eq (pc := 268) 274 dX10_ends_268 (by decide) (fun _ => ?_) (fun z => absurd c8 z)
      have so8 : SpO R7 F7 8 := ⟨c8, w7.lt (k := 208) rfl, by rw [sp7, htd]; exact mP_on (decE_on _) _⟩
      have s73' : (up S5 95 (catO of i)) 73 = S 73 := fS5' 73 (by unfold relS; omega)
      refine X_aload_n (pc := 274) 3 dX10_ends_274 rfl rfl ?_
      refine X_aload_n (pc := 275) 3 dX10_ends_275 rfl rfl ?_
      refine X_getfield (pc := 276) dX10_ends_276 fg_X10_522_11 (MW.ob w7) mf_73 ?_
      refine X_bipush (pc := 279) (x := 98) dX10_ends_279 (by decide) ?_
      refine X_iload_n (pc := 281) 4 dX10_ends_281 rfl rfl ?_
      refine X_iload (pc := 282) 1 dX10_ends_282 rfl ?_
      refine X_iadd (pc := 284) dX10_ends_284 ?_
      refine X_imul (pc := 285) dX10_ends_285 ?_
      rw [nI_add, show (98 : Int32) * nI (a + i) = nI (98 * (a + i)) from pk_mul 98 _]
      refine X_aload_n (pc := 286) 3 dX10_ends_286 rfl rfl ?_
      refine X_getfield (pc := 287) dX10_ends_287 fg_X10_564_11 (MW.ob w7) mf_93 ?_
      refine X_ivv (pc := 290) _ dX10_ends_290 cv_X10_693_11 (MW.ob w7) rfl (output_ok g w7 (kb := 73) (nb := 5880) (fr := 98 * (a + i)) (s := 8) rfl (by decide) (by decide) (by decide) (by rw [s73']; exact s73B) (by rw [s73']; omega) (by decide) so8) nX10_output (Nat.le_of_ble_eq_true rfl) (Nat.le_of_ble_eq_true rfl) (Nat.le_of_ble_eq_true rfl) (Nat.le_of_ble_eq_true rfl) (fun h8 z8 => ?_)
      obtain ⟨S8, w8, fS8, s27⟩ := z8
      rw [s73', q1, sp7, show outB (L (200 + (a + i))) (tokP N T a i) = of i by rw [hof]] at s27
      have s958 : S8 95 = catO of i := by rw [fS8 95 (by decide) (by decide) (by decide), up_same]
      have hcl : (catO of i).length = 48 * i := catO_len fun j _ => ofl j
      have gS8 : ∀ j, relS j → S8 j = S j := fun j hj => by
        have := fS5' j hj
        unfold relS at hj
        rw [fS8 j (by omega) (by omega) (by omega)]
        exact this
      have gF8 : ∀ j, relF j → (up F7 26 0) j = F j := fun j hj => by
        by_cases e : j = 26
        · subst e; rw [up_same, m7]
        · rw [up_ne e]; exact gF7 j hj
      have hg8 : ∀ j, j < many → SpO R7 (up F7 26 0) (17 + j) ∧ spt R7 (up F7 26 0) (17 + j) = eltP T (49 * j) := fun j hj => by
        obtain ⟨⟨x, y, z⟩, d⟩ := hg7 j hj
        have e : spt R7 (up F7 26 0) (17 + j) = spt R7 F7 (17 + j) := spt_cg rfl rfl (up_ne (by omega))
        exact ⟨⟨by rw [up_ne (by omega)]; exact x, y, by rw [e]; exact z⟩, by rw [e]; exact d⟩
      have inner : ∀ m q, q + m = 48 → ∀ h9, MW A X R7 I (up S8 95 (catO of i ++ (List.range q).map fun z => (of i).getD z 0)) (up F7 26 0) h9 →
          XX g MX10_ends ({ frames := 11, cells := 0, slots := 0, locals := 236 } : Room) Post 0 0 296 [(7, .int (nI q)), (6, .int 1), (5, .int (nI i)), (4, .int (nI k)), (0, .ref (A 96)), (1, .int (nI a)), (2, .int (nI many)), (3, .int (nI T.length))] [] h9 := by
        intro mm
        induction mm with
        | zero =>
          intro q hq h9 w9
          have eq : q = 48 := by omega
          subst eq
          rw [map_getD (ofl i)] at w9
          refine X_iload (pc := 296) 0 dX10_ends_296 rfl ?_
          refine X_bipush (pc := 298) (x := 48) dX10_ends_298 (by decide) ?_
          refine X_cge (a := 48) (b := 48) (pc := 300) 329 dX10_ends_300 (by decide) (by omega) (by omega) (fun _ => ?_) (fun z => absurd z (by omega))
          refine X_iinc (pc := 329) (L' := [(5, .int (_ + 1)), (7, .int _), (6, .int _), (4, .int _), (0, .ref _), (1, .int _), (2, .int _), (3, .int _)]) 2 dX10_ends_329 rfl rfl (Nat.le_of_ble_eq_true rfl) rfl ?_
          refine X_goto (pc := 332) 213 dX10_ends_332 (by decide) ?_
          refine XX.pick (L' := [(5, .int _), (4, .int _), (0, .ref _), (1, .int _), (2, .int _), (3, .int _)]) [0, 3, 4, 5, 6, 7] rfl ?_
          rw [show nI i + 1 = nI (i + 1) from nI_add i 1]
          refine ih (i + 1) (by omega) R7 S8 (up F7 26 0) h9 w9 gR7 gS8 gF8 hg8 (fun j hj => ?_) _ rfl
          by_cases e : j = i
          · rw [e, ← sp7]; exact spt_so c8
          · exact htok j (by omega)
        | succ mm ih2 =>
          intro q hq h9 w9
          obtain ⟨f95, c95, p95, -⟩ := w9.s 95 rfl
          obtain ⟨f27, c27, p27, -⟩ := w9.s 27 rfl
          rw [up_same] at p95
          rw [up_ne (by decide), s27] at p27
          have hli : (catO of i ++ (List.range q).map fun z => (of i).getD z 0).length = 48 * i + q := by rw [List.length_append, hcl, List.length_map, List.length_range]
          have bo : vp_in (nI (48 * i + q)) 384 := vp_in_nI (by omega) (by omega)
          have co : (nI (48 * i + q)).toNatClampNeg = 48 * i + q := nI_clamp (by omega)
          have b9 : vp_in (nI q) 48 := vp_in_nI (by omega) (by omega)
          have c9 : (nI q).toNatClampNeg = q := nI_clamp (by omega)
          refine X_iload (pc := 296) 0 dX10_ends_296 rfl ?_
          refine X_bipush (pc := 298) (x := 48) dX10_ends_298 (by decide) ?_
          refine X_cge (b := 48) (pc := 300) 329 dX10_ends_300 (by decide) (by omega) (by omega) (fun z => absurd z (by omega)) (fun _ => ?_)
          refine X_aload_n (pc := 303) 4 dX10_ends_303 rfl rfl ?_
          refine X_getfield (pc := 304) dX10_ends_304 fg_X10_570_11 (MW.ob w9) mf_95 ?_
          refine X_bipush (pc := 307) (x := 48) dX10_ends_307 (by decide) ?_
          refine X_iload (pc := 309) 2 dX10_ends_309 rfl ?_
          refine X_imul (pc := 311) dX10_ends_311 ?_
          refine X_iload (pc := 312) 0 dX10_ends_312 rfl ?_
          refine X_iadd (pc := 314) dX10_ends_314 ?_
          rw [show (48 : Int32) * nI i = nI (48 * i) from pk_mul 48 i, nI_add]
          refine X_aload_n (pc := 315) 4 dX10_ends_315 rfl rfl ?_
          refine X_getfield (pc := 316) dX10_ends_316 fg_X10_283_11 (MW.ob w9) mf_27 ?_
          refine X_iload (pc := 319) 0 dX10_ends_319 rfl ?_
          refine X_baload (pc := 321) dX10_ends_321 c27 b9 ?_
          refine X_bastore (pc := 322) dX10_ends_322 c95 bo ?_
          rw [co, c9, p27 _ (by rw [ofl]; omega), (ofB i).nar]
          have w10 := w9.setS 95 rfl (PL_app (x := (of i).getD q 0) p95 hli.symm) (by rw [List.length_append, hli]; exact (show 48 * i + q + 1 ≤ 384 by omega))
          rw [up_up', List.append_assoc, ← List.map_singleton (f := fun z => (of i).getD z 0), ← List.map_append, ← List.range_succ] at w10
          refine X_iinc (pc := 323) (L' := [(7, .int (_ + 1)), (6, .int _), (5, .int _), (4, .int _), (0, .ref _), (1, .int _), (2, .int _), (3, .int _)]) 0 dX10_ends_323 rfl rfl (Nat.le_of_ble_eq_true rfl) rfl ?_
          refine X_goto (pc := 326) 296 dX10_ends_326 (by decide) ?_
          rw [show nI q + 1 = nI (q + 1) from nI_add q 1]
          exact ih2 (q + 1) (by omega) _ w10
      refine X_iconst (pc := 293) (x := 0) dX10_ends_293 (by decide) ?_
      refine X_istore (pc := 294) (L' := [(7, .int _), (6, .int _), (5, .int _), (4, .int _), (0, .ref _), (1, .int _), (2, .int _), (3, .int _)]) dX10_ends_294 (Nat.le_of_ble_eq_true rfl) rfl ?_
      refine inner 48 0 (by omega) h8 ?_
      rw [List.range_zero, List.map_nil, List.append_nil, ← s958, up_id]
      exact w8
  -- the points asked
  have loop2 : (∀ i, i < many → eltP T (49 * i) ≠ none) → cv < qP → sv < qP → ∀ m i, i + m = many → ∀ R5 S5 F5 h', MW A X R5 I S5 F5 h' → (∀ j, relR j → R5 j = R j) → (∀ j, relS j → S5 j = S j) → (∀ j, relF j → F5 j = F j) → R5 58 = cv → R5 59 = sv →
      (∀ j, j < many → SpO R5 F5 (17 + j) ∧ spt R5 F5 (17 + j) = eltP T (49 * j)) → (∀ j, j < i → SpO R5 F5 (9 + j) ∧ spt R5 F5 (9 + j) = mP (N (400 + (a + j))) (h2p (L (200 + (a + j))))) →
      XX g MX10_ends ({ frames := 11, cells := 0, slots := 0, locals := 236 } : Room) Post 0 0 140 [(5, .int (nI i)), (4, .int (nI k)), (0, .ref (A 96)), (1, .int (nI a)), (2, .int (nI many)), (3, .int (nI T.length))] [] h' := by
    intro helt hcq hsq m
    induction m with
    | zero =>
      intro i hi R5 S5 F5 h' w' fR5 fS5 fF5 e58 e59 hg5 ha5
      have ei : i = many := by omega
      subst ei
      have soK4 : SpO R5 F5 (25 + k) ∧ spt R5 F5 (25 + k) = mP (N (120 + k)) GP := by
        have e : spt R5 F5 (25 + k) = spt R F (25 + k) := spt_cg (fR5 _ (by unfold relR; omega)) (fR5 _ (by unfold relR; omega)) (fF5 _ (by unfold relF; omega))
        exact ⟨⟨by rw [fF5 _ (by unfold relF; omega)]; exact soK.1, by rw [fR5 _ (by unfold relR; omega)]; exact soK.2.1, by rw [e]; exact soK.2.2⟩, by rw [e]; exact spK⟩
      have sG : spt R5 F5 0 = GP := by rw [← mG]; exact spt_cg (fR5 200 (by unfold relR; omega)) (fR5 300 (by unfold relR; omega)) (fF5 400 (by unfold relF; omega))
      have fG0 : F5 400 = 0 := by rw [fF5 400 (by unfold relF; omega)]; exact mG0
      refine X_iload (pc := 140) 0 dX10_ends_140 rfl ?_
      refine X_iload_n (pc := 142) 4 dX10_ends_142 rfl rfl ?_
      refine X_cge (pc := 143) 197 dX10_ends_143 (by decide) (by omega) (by omega) (fun _ => ?_) (fun z => absurd z (by omega))
      refine X_aload_n (pc := 197) 2 dX10_ends_197 rfl rfl ?_
      refine X_iload (pc := 198) 1 dX10_ends_198 rfl ?_
      refine X_iload_n (pc := 200) 4 dX10_ends_200 rfl rfl ?_
      refine X_ivi (pc := 201) _ dX10_ends_201 cv_X10_690_11 (MW.ob w') rfl (isProved_ok g w' (key := k) (many := i) hk6 hm soK4.1 (fun j hj => (ha5 j hj).1) (fun j hj => (hg5 j hj).1) sG fG0 (by rw [e58]; exact hcq) (by rw [e59]; exact hsq)) nX10_isProved (Nat.le_of_ble_eq_true rfl) (Nat.le_of_ble_eq_true rfl) (Nat.le_of_ble_eq_true rfl) (Nat.le_of_ble_eq_true rfl) (fun r6 h6 z6 => ?_)
      obtain ⟨R6, S6, F6, ⟨w6, fR6, fS6, fF6, f266⟩, -, -, hp⟩ := z6
      rw [soK4.2, e58, e59] at hp
      have ec1 : cpt (cD (en (mP (N (120 + k)) GP)) (fun j => spt R5 F5 (9 + j)) (fun j => spt R5 F5 (17 + j))) (fun j => spt R5 F5 (9 + j)) i = cpt (cD (en (mP (N (120 + k)) GP)) (fun j => mP (N (400 + (a + j))) (h2p (L (200 + (a + j))))) (fun j => eltP T (49 * j))) (fun j => mP (N (400 + (a + j))) (h2p (L (200 + (a + j))))) i := cpt_cg (fun j hj => cD_cg (ha5 j hj).2 (hg5 j hj).2) (fun j hj => (ha5 j hj).2)
      have ec2 : cpt (cD (en (mP (N (120 + k)) GP)) (fun j => spt R5 F5 (9 + j)) (fun j => spt R5 F5 (17 + j))) (fun j => spt R5 F5 (17 + j)) i = cpt (cD (en (mP (N (120 + k)) GP)) (fun j => mP (N (400 + (a + j))) (h2p (L (200 + (a + j))))) (fun j => eltP T (49 * j))) (fun j => eltP T (49 * j)) i := cpt_cg (fun j hj => cD_cg (ha5 j hj).2 (hg5 j hj).2) (fun j hj => (hg5 j hj).2)
      rw [ec1, ec2] at hp
      have gR6 : ∀ j, relR j → R6 j = R j := fun j hj => by rw [fR6 j (relR_pv hj)]; exact fR5 j hj
      have gS6 : ∀ j, relS j → S6 j = S j := fun j hj => by rw [fS6 j (relS_c hj)]; exact fS5 j hj
      have gF6 : ∀ j, relF j → F6 j = F j := fun j hj => by
        by_cases e : j = 26
        · subst e; rw [f266, m7]
        · rw [fF6 j (relF_pv hj e)]; exact fF5 j hj
      rcases hp with ⟨rfl, hp⟩ | ⟨rfl, hp⟩
      · refine X_if_ne (pc := 204) 210 dX10_ends_204 (by decide) (fun z => absurd rfl z) (fun _ => ?_)
        refine X_bipush (pc := 207) (x := (-4)) dX10_ends_207 (by decide) ?_
        refine X_ireturn (pc := 209) dX10_ends_209 rfl (Nat.le_of_ble_eq_true rfl) (Nat.le_of_ble_eq_true rfl) ?_
        refine no R6 S6 F6 h6 w6 gR6 gS6 gF6 ?_
        rw [← hcond]
        exact Or.inr (Or.inr (Or.inr (Or.inl hp)))
      · refine X_if_ne (pc := 204) 210 dX10_ends_204 (by decide) (fun _ => ?_) (fun z => absurd z (by decide))
        have hg6 : ∀ j, j < i → SpO R6 F6 (17 + j) ∧ spt R6 F6 (17 + j) = eltP T (49 * j) := fun j hj => by
          obtain ⟨⟨x, y, z⟩, d⟩ := hg5 j hj
          have e : spt R6 F6 (17 + j) = spt R5 F5 (17 + j) := spt_cg (fR6 _ (pvR_hi (by omega))) (fR6 _ (pvR_hi (by omega))) (fF6 _ (pvF_hi (by omega)))
          exact ⟨⟨by rw [fF6 _ (pvF_hi (by omega))]; exact x, by rw [fR6 _ (pvR_hi (by omega))]; exact y, by rw [e]; exact z⟩, by rw [e]; exact d⟩
        refine X_iconst (pc := 210) (x := 0) dX10_ends_210 (by decide) ?_
        refine X_istore (pc := 211) (L' := [(5, .int _), (4, .int _), (0, .ref _), (1, .int _), (2, .int _), (3, .int _)]) dX10_ends_211 (Nat.le_of_ble_eq_true rfl) rfl ?_
        exact loop3 helt (fun z => z.elim (fun z => by omega) fun z => z.elim (fun z => by omega) fun z => z hp) i 0 (by omega) R6 S6 F6 h6 (w6.cutS 95 rfl) gR6 gS6 gF6 hg6 (fun j hj => absurd hj (by omega)) _ rfl
    | succ m ih =>
      intro i hi R5 S5 F5 h' w' fR5 fS5 fF5 e58 e59 hg5 ha5
      obtain ⟨q1, q2, q3, q4, q5, q6, q7⟩ := af i (by omega)
      have hai := hask i (by omega)
      have b6 : vp_in (nI (a + i)) 60 := vp_in_nI (by omega) (by decide)
      have c6 : (nI (a + i)).toNatClampNeg = a + i := nI_clamp (by omega)
      have bi : vp_in (nI i) 8 := vp_in_nI (by omega) (by omega)
      have ci : (nI i).toNatClampNeg = i := nI_clamp (by omega)
      have k6 := kd600 (a := a + i) (by omega)
      have s735 : S5 73 = S 73 := fS5 73 (by unfold relS; omega)
      refine X_iload (pc := 140) 0 dX10_ends_140 rfl ?_
      refine X_iload_n (pc := 142) 4 dX10_ends_142 rfl rfl ?_
      refine X_cge (pc := 143) 197 dX10_ends_143 (by decide) (by omega) (by omega) (fun z => absurd z (by omega)) (fun _ => ?_)
      refine X_aload_n (pc := 146) 2 dX10_ends_146 rfl rfl ?_
      refine X_aload_n (pc := 147) 2 dX10_ends_147 rfl rfl ?_
      refine X_getfield (pc := 148) dX10_ends_148 fg_X10_522_11 (MW.ob w') mf_73 ?_
      refine X_bipush (pc := 151) (x := 98) dX10_ends_151 (by decide) ?_
      refine X_iload_n (pc := 153) 3 dX10_ends_153 rfl rfl ?_
      refine X_iload (pc := 154) 0 dX10_ends_154 rfl ?_
      refine X_iadd (pc := 156) dX10_ends_156 ?_
      refine X_imul (pc := 157) dX10_ends_157 ?_
      rw [nI_add, show (98 : Int32) * nI (a + i) = nI (98 * (a + i)) from pk_mul 98 _]
      refine X_bipush (pc := 158) (x := 98) dX10_ends_158 (by decide) ?_
      refine X_aload_n (pc := 160) 2 dX10_ends_160 rfl rfl ?_
      refine X_getfield (pc := 161) dX10_ends_161 fg_X10_564_11 (MW.ob w') mf_93 ?_
      refine X_ivv (pc := 164) _ dX10_ends_164 cv_X10_650_11 (MW.ob w') rfl (toPoint_ok g w' (kb := 73) (nb := 5880) (at' := 98 * (a + i)) rfl (by decide) (by decide) (by rw [s735]; exact s73B) (by rw [s735]; omega) (by rw [fR5 16 (by unfold relR; omega)]; exact m1) (by rw [fR5 44 (by unfold relR; omega)]; exact m2) (by rw [fR5 45 (by unfold relR; omega)]; exact m3) (by rw [fR5 45 (by unfold relR; omega)]; exact m4)) nX10_toPoint (Nat.le_of_ble_eq_true rfl) (Nat.le_of_ble_eq_true rfl) (Nat.le_of_ble_eq_true rfl) (Nat.le_of_ble_eq_true rfl) (fun h2 z2 => ?_)
      obtain ⟨R6, S6, F6, w6, fR6, fS6, f266, fF6, z6, sp6⟩ := z2
      rw [s735, q1] at sp6
      have z60 : F6 (400 + 8) = 0 := by
        rcases z6 with z | z
        · exact z
        · exact absurd (sp6.symm.trans (spt_no (by show ¬ F6 408 = 0; rw [z]; decide))) q5
      refine X_aload_n (pc := 167) 2 dX10_ends_167 rfl rfl ?_
      refine X_aload_n (pc := 168) 2 dX10_ends_168 rfl rfl ?_
      refine X_getfield (pc := 169) dX10_ends_169 fg_X10_525_11 (MW.ob w6) mf_74 ?_
      refine X_iload_n (pc := 172) 3 dX10_ends_172 rfl rfl ?_
      refine X_iload (pc := 173) 0 dX10_ends_173 rfl ?_
      refine X_iadd (pc := 175) dX10_ends_175 ?_
      rw [nI_add]
      refine X_aaloadA (pc := 176) dX10_ends_176 (w6.o 74 rfl) b6 ?_
      rw [c6]
      refine XX.eqst (st' := [.ref (A (600 + (a + i))), .ref (A 96)]) rfl ?_
      refine X_aload_n (pc := 177) 2 dX10_ends_177 rfl rfl ?_
      refine X_getfield (pc := 178) dX10_ends_178 fg_X10_564_11 (MW.ob w6) mf_93 ?_
      refine X_aload_n (pc := 181) 2 dX10_ends_181 rfl rfl ?_
      refine X_getfield (pc := 182) dX10_ends_182 fg_X10_422_11 (MW.ob w6) mf_48 ?_
      refine X_iload (pc := 185) 0 dX10_ends_185 rfl ?_
      refine X_aaload (pc := 187) dX10_ends_187 (w6.o 48 rfl) (fun _ => rfl) bi ?_
      rw [ci]
      refine XX.eqst (st' := [.ref (A (400 + (9 + i))), .ref (A (400 + 8)), .ref (A (600 + (a + i))), .ref (A 96)]) (by rw [show 400 + (9 + i) = 409 + i by omega]; rfl) ?_
      refine X_ivv (pc := 188) _ dX10_ends_188 cv_X10_446_11 (MW.ob w6) rfl (mul_ok g w6 (sa := 8) (t := 9 + i) (ak := A (600 + (a + i))) (kv := N (400 + (a + i))) (by decide) (by omega) (w6.lt (k := 208) rfl) (Or.inl z60) (by rw [sp6]; exact h2p_on _) (Nat.lt_trans q4 qP_2) (fun {R9 F9 h9} w9 _ => by have := OpM.i w9 (600 + (a + i)) k6 (n := 12) (by decide) (by decide); rwa [q2] at this)) nX10_multiply (Nat.le_of_ble_eq_true rfl) (Nat.le_of_ble_eq_true rfl) (Nat.le_of_ble_eq_true rfl) (Nat.le_of_ble_eq_true rfl) (fun h3 z3 => ?_)
      obtain ⟨R7, F7, w7, fR7, fF7, z7, -, sp7, lt7⟩ := z3
      rw [sp6] at sp7
      have z70 : F7 (400 + (9 + i)) = 0 := by
        rcases z7 with z | z
        · exact z
        · exact absurd (sp7.symm.trans (spt_no (by rw [z]; decide))) q6
      have gR7 : ∀ j, relR j → R7 j = R j := fun j hj => by rw [fR7 j (relR_m9 (by omega) hj), fR6 j (relR_t hj)]; exact fR5 j hj
      have gS7 : ∀ j, relS j → S6 j = S j := fun j hj => by rw [fS6 j (relS_h hj)]; exact fS5 j hj
      have gF7 : ∀ j, relF j → F7 j = F j := fun j hj => by
        have := fF5 j hj
        have hj' := hj
        unfold relF at hj
        rw [fF7 j (by omega) (by omega)]
        by_cases e : j = 26
        · subst e; rw [f266, m7]
        · rw [fF6 j e (by omega) (by omega) (by omega) (by omega)]
          exact this
      refine X_iinc (pc := 191) (L' := [(5, .int (_ + 1)), (4, .int _), (0, .ref _), (1, .int _), (2, .int _), (3, .int _)]) 0 dX10_ends_191 rfl rfl (Nat.le_of_ble_eq_true rfl) rfl ?_
      refine X_goto (pc := 194) 140 dX10_ends_194 (by decide) ?_
      rw [show nI i + 1 = nI (i + 1) from nI_add i 1]
      refine ih (i + 1) (by omega) R7 S6 F7 h3 w7 gR7 gS7 gF7 ?_ ?_ (fun j hj => ?_) (fun j hj => ?_)
      · rw [fR7 58 (by simp only [mScr, Bool.or_eq_false_iff, beq_eq_false_iff_ne, ne_eq]; omega), fR6 58 rfl]; exact e58
      · rw [fR7 59 (by simp only [mScr, Bool.or_eq_false_iff, beq_eq_false_iff_ne, ne_eq]; omega), fR6 59 rfl]; exact e59
      · obtain ⟨⟨x, y, z⟩, d⟩ := hg5 j hj
        have e1 : R7 (200 + (17 + j)) = R5 (200 + (17 + j)) := by rw [fR7 _ (mScr_off9 (by omega) (by omega)), fR6 _ (tScr_hi (by omega))]
        have e2 : R7 (300 + (17 + j)) = R5 (300 + (17 + j)) := by rw [fR7 _ (mScr_off9 (by omega) (by omega)), fR6 _ (tScr_hi (by omega))]
        have e3 : F7 (400 + (17 + j)) = F5 (400 + (17 + j)) := by rw [fF7 _ (by omega) (by omega), fF6 _ (by omega) (by omega) (by omega) (by omega) (by omega)]
        have e : spt R7 F7 (17 + j) = spt R5 F5 (17 + j) := spt_cg e1 e2 e3
        exact ⟨⟨by rw [e3]; exact x, by rw [e1]; exact y, by rw [e]; exact z⟩, by rw [e]; exact d⟩
      · by_cases ej : j = i
        · rw [ej]
          exact ⟨⟨z70, lt7 z70, by rw [sp7]; exact mP_on (h2p_on _) _⟩, sp7⟩
        · obtain ⟨⟨x, y, z⟩, d⟩ := ha5 j (by omega)
          have e1 : R7 (200 + (9 + j)) = R5 (200 + (9 + j)) := by rw [fR7 _ (mScr_off9 (by omega) (by omega)), fR6 _ (tScr_hi (by omega))]
          have e2 : R7 (300 + (9 + j)) = R5 (300 + (9 + j)) := by rw [fR7 _ (mScr_off9 (by omega) (by omega)), fR6 _ (tScr_hi (by omega))]
          have e3 : F7 (400 + (9 + j)) = F5 (400 + (9 + j)) := by rw [fF7 _ (by omega) (by omega), fF6 _ (by omega) (by omega) (by omega) (by omega) (by omega)]
          have e : spt R7 F7 (9 + j) = spt R5 F5 (9 + j) := spt_cg e1 e2 e3
          exact ⟨⟨by rw [e3]; exact x, by rw [e1]; exact y, by rw [e]; exact z⟩, by rw [e]; exact d⟩
  -- the points given
  have loop1 : ∀ m i, i + m = many → ∀ R1 F1 h1, MW A X R1 I S F1 h1 → (∀ j, relR j → R1 j = R j) → (∀ j, relF j → F1 j = F j) → (∀ j, j < i → SpO R1 F1 (17 + j) ∧ spt R1 F1 (17 + j) = eltP T (49 * j)) →
      XX g MX10_ends ({ frames := 11, cells := 0, slots := 0, locals := 236 } : Room) Post 0 0 25 [(5, .int (nI i)), (4, .int (nI k)), (0, .ref (A 96)), (1, .int (nI a)), (2, .int (nI many)), (3, .int (nI T.length))] [] h1 := by
    intro m
    induction m with
    | zero =>
      intro i hi R1 F1 h1 w1 fR1 fF1 hg1
      have ei : i = many := by omega
      subst ei
      have helt : ∀ j, j < i → eltP T (49 * j) ≠ none := fun j hj => by rw [← (hg1 j hj).2]; exact spt_so (hg1 j hj).1.1
      obtain ⟨f81, c81, p81, -⟩ := w1.s 81 rfl
      rw [hT] at p81
      obtain ⟨f58, c58, -⟩ := w1.n2 58 rfl
      refine X_iload (pc := 25) 0 dX10_ends_25 rfl ?_
      refine X_iload_n (pc := 27) 4 dX10_ends_27 rfl rfl ?_
      refine X_cge (pc := 28) 63 dX10_ends_28 (by decide) (by omega) (by omega) (fun _ => ?_) (fun z => absurd z (by omega))
      refine X_aload_n (pc := 63) 2 dX10_ends_63 rfl rfl ?_
      refine X_getfield (pc := 64) dX10_ends_64 fg_X10_534_11 (MW.ob w1) mf_81 ?_
      refine X_bipush (pc := 67) (x := 49) dX10_ends_67 (by decide) ?_
      refine X_iload_n (pc := 69) 4 dX10_ends_69 rfl rfl ?_
      refine X_imul (pc := 70) dX10_ends_70 ?_
      rw [show (49 : Int32) * nI i = nI (49 * i) from pk_mul 49 i]
      refine X_bipush (pc := 71) (x := 48) dX10_ends_71 (by decide) ?_
      refine X_aload_n (pc := 73) 2 dX10_ends_73 rfl rfl ?_
      refine X_getfield (pc := 74) dX10_ends_74 fg_X10_468_11 (MW.ob w1) mf_58 ?_
      refine X_bipush (pc := 77) (x := 12) dX10_ends_77 (by decide) ?_
      refine X_isv (pc := 79) _ dX10_ends_79 cs_X10_217 rfl (load_ok g (fr := 49 * i) (many := 48) (n := 12) c81 c58 (by omega) (by decide) (by decide) (by decide) (by decide)) nX10_load (Nat.le_of_ble_eq_true rfl) (Nat.le_of_ble_eq_true rfl) (Nat.le_of_ble_eq_true rfl) (Nat.le_of_ble_eq_true rfl) (fun h2 z2 => ?_)
      obtain ⟨f1, hv1, -, rfl⟩ := z2
      have hvc : bsm f81 (49 * i + 48) 48 = cv := by rw [← hcv]; exact bsm_cg fun q hq => p81 _ (by omega)
      rw [hvc] at hv1
      have w2 := w1.setN2 58 rfl hv1
      have c81' : (hset h1 (A 58) (Ai false 0 12 f1)) (A 81) = some (Ai false 2 1208 f81) := by rw [hset_ne (w1.ne (by decide) (by decide) (by decide))]; exact c81
      generalize hset h1 (A 58) (Ai false 0 12 f1) = h2 at *
      obtain ⟨f59, c59, -⟩ := w2.n2 59 rfl
      refine X_aload_n (pc := 82) 2 dX10_ends_82 rfl rfl ?_
      refine X_getfield (pc := 83) dX10_ends_83 fg_X10_534_11 (MW.ob w2) mf_81 ?_
      refine X_bipush (pc := 86) (x := 49) dX10_ends_86 (by decide) ?_
      refine X_iload_n (pc := 88) 4 dX10_ends_88 rfl rfl ?_
      refine X_imul (pc := 89) dX10_ends_89 ?_
      refine X_bipush (pc := 90) (x := 48) dX10_ends_90 (by decide) ?_
      refine X_iadd (pc := 92) dX10_ends_92 ?_
      rw [show (49 : Int32) * nI i = nI (49 * i) from pk_mul 49 i, show nI (49 * i) + 48 = nI (49 * i + 48) from nI_add _ 48]
      refine X_bipush (pc := 93) (x := 48) dX10_ends_93 (by decide) ?_
      refine X_aload_n (pc := 95) 2 dX10_ends_95 rfl rfl ?_
      refine X_getfield (pc := 96) dX10_ends_96 fg_X10_479_11 (MW.ob w2) mf_59 ?_
      refine X_bipush (pc := 99) (x := 12) dX10_ends_99 (by decide) ?_
      refine X_isv (pc := 101) _ dX10_ends_101 cs_X10_217 rfl (load_ok g (fr := 49 * i + 48) (many := 48) (n := 12) c81' c59 (by omega) (by decide) (by decide) (by decide) (by decide)) nX10_load (Nat.le_of_ble_eq_true rfl) (Nat.le_of_ble_eq_true rfl) (Nat.le_of_ble_eq_true rfl) (Nat.le_of_ble_eq_true rfl) (fun h3 z3 => ?_)
      obtain ⟨f2, hv2, -, rfl⟩ := z3
      have hvs : bsm f81 (49 * i + 48 + 48) 48 = sv := by rw [← hsv]; exact bsm_cg fun q hq => p81 _ (by omega)
      rw [hvs] at hv2
      have w3 := w2.setN2 59 rfl hv2
      generalize hset h2 (A 59) (Ai false 0 12 f2) = h3 at *
      have k58 : (up (up R1 58 cv) 59 sv) 58 = cv := by rw [up_ne (by decide), up_same]
      have k59 : (up (up R1 58 cv) 59 sv) 59 = sv := up_same _ _ _
      have kot : ∀ j, j ≠ 58 → j ≠ 59 → (up (up R1 58 cv) 59 sv) j = R1 j := fun j x y => by rw [up_ne y, up_ne x]
      generalize up (up R1 58 cv) 59 sv = R3 at *
      have gR3 : ∀ j, relR j → R3 j = R j := fun j hj => by rw [kot j (by unfold relR at hj; omega) (by unfold relR at hj; omega)]; exact fR1 j hj
      have hg3 : ∀ j, j < i → SpO R3 F1 (17 + j) ∧ spt R3 F1 (17 + j) = eltP T (49 * j) := fun j hj => by
        obtain ⟨⟨x, y, z⟩, d⟩ := hg1 j hj
        have e : spt R3 F1 (17 + j) = spt R1 F1 (17 + j) := spt_cg (kot _ (by omega) (by omega)) (kot _ (by omega) (by omega)) rfl
        exact ⟨⟨x, by rw [kot _ (by omega) (by omega)]; exact y, by rw [e]; exact z⟩, by rw [e]; exact d⟩
      have o58 : OpM A h3 (A 58) 12 cv := by have := OpM.n2 w3 58 rfl; rwa [k58] at this
      have o59 : OpM A h3 (A 59) 12 sv := by have := OpM.n2 w3 59 rfl; rwa [k59] at this
      have r134 : ∀ L', (qP ≤ cv ∨ qP ≤ sv) → XX g MX10_ends ({ frames := 11, cells := 0, slots := 0, locals := 236 } : Room) Post 0 0 134 L' [] h3 := by
        intro L' hc
        refine X_bipush (pc := 134) (x := (-4)) dX10_ends_134 (by decide) ?_
        refine X_ireturn (pc := 136) dX10_ends_136 rfl (Nat.le_of_ble_eq_true rfl) (Nat.le_of_ble_eq_true rfl) ?_
        refine no R3 S F1 h3 w3 gR3 (fun _ _ => rfl) fF1 ?_
        rw [← hcond]
        exact Or.inr (hc.elim Or.inl fun z => Or.inr (Or.inl z))
      refine X_aload_n (pc := 104) 2 dX10_ends_104 rfl rfl ?_
      refine X_getfield (pc := 105) dX10_ends_105 fg_X10_468_11 (MW.ob w3) mf_58 ?_
      refine X_getstatic (pc := 108) (j := 4) dX10_ends_108 q1384 (fun _ => rfl) rfl (fun st_108 hs_108 => ?_)
      refine X_bipush (pc := 111) (x := 12) dX10_ends_111 (by decide) ?_
      have oq : OpM A h3 st_108 12 qP := V_tQ ▸ OpM.st w3 hs_108 (by decide)
      refine X_isi (pc := 113) _ dX10_ends_113 cs_X10_26 rfl (mcW g (n := 12) o58 oq) nX10_compare (Nat.le_of_ble_eq_true rfl) (Nat.le_of_ble_eq_true rfl) (Nat.le_of_ble_eq_true rfl) (Nat.le_of_ble_eq_true rfl) (fun r4 h4 z4 => ?_)
      obtain ⟨rfl, rfl⟩ := z4
      by_cases e1 : cv < qP
      rotate_left
      · exact X_if_ge (pc := 116) 134 dX10_ends_116 (by decide) (fun _ => r134 _ (Or.inl (by omega))) (fun z => absurd (cmpN_lt0.mp (Int32.not_le.mp z)) e1)
      refine X_if_ge (pc := 116) 134 dX10_ends_116 (by decide) (fun z => absurd (cmpN_lt0.mpr e1) (Int32.not_lt.mpr z)) (fun _ => ?_)
      refine X_aload_n (pc := 119) 2 dX10_ends_119 rfl rfl ?_
      refine X_getfield (pc := 120) dX10_ends_120 fg_X10_479_11 (MW.ob w3) mf_59 ?_
      refine X_getstatic (pc := 123) (j := 4) dX10_ends_123 q1384 (fun _ => rfl) rfl (fun st_123 hs_123 => ?_)
      refine X_bipush (pc := 126) (x := 12) dX10_ends_126 (by decide) ?_
      have oq2 : OpM A h4 st_123 12 qP := V_tQ ▸ OpM.st w3 hs_123 (by decide)
      refine X_isi (pc := 128) _ dX10_ends_128 cs_X10_26 rfl (mcW g (n := 12) o59 oq2) nX10_compare (Nat.le_of_ble_eq_true rfl) (Nat.le_of_ble_eq_true rfl) (Nat.le_of_ble_eq_true rfl) (Nat.le_of_ble_eq_true rfl) (fun r5 h5 z5 => ?_)
      obtain ⟨rfl, rfl⟩ := z5
      by_cases e2 : sv < qP
      rotate_left
      · exact X_if_lt (pc := 131) 137 dX10_ends_131 (by decide) (fun z => absurd (cmpN_lt0.mp z) e2) (fun _ => r134 _ (Or.inr (by omega)))
      refine X_if_lt (pc := 131) 137 dX10_ends_131 (by decide) (fun _ => ?_) (fun z => absurd (cmpN_lt0.mpr e2) z)
      refine X_iconst (pc := 137) (x := 0) dX10_ends_137 (by decide) ?_
      refine X_istore (pc := 138) (L' := [(5, .int _), (4, .int _), (0, .ref _), (1, .int _), (2, .int _), (3, .int _)]) dX10_ends_138 (Nat.le_of_ble_eq_true rfl) rfl ?_
      exact loop2 helt e1 e2 i 0 (by omega) R3 S F1 h5 w3 gR3 (fun _ _ => rfl) fF1 k58 k59 hg3 (fun j hj => absurd hj (by omega))
    | succ m ih =>
      intro i hi R1 F1 h1 w1 fR1 fF1 hg1
      have bi : vp_in (nI i) 8 := vp_in_nI (by omega) (by omega)
      have ci : (nI i).toNatClampNeg = i := nI_clamp (by omega)
      refine X_iload (pc := 25) 0 dX10_ends_25 rfl ?_
      refine X_iload_n (pc := 27) 4 dX10_ends_27 rfl rfl ?_
      refine X_cge (pc := 28) 63 dX10_ends_28 (by decide) (by omega) (by omega) (fun z => absurd z (by omega)) (fun _ => ?_)
      refine X_aload_n (pc := 31) 2 dX10_ends_31 rfl rfl ?_
      refine X_aload_n (pc := 32) 2 dX10_ends_32 rfl rfl ?_
      refine X_getfield (pc := 33) dX10_ends_33 fg_X10_534_11 (MW.ob w1) mf_81 ?_
      refine X_bipush (pc := 36) (x := 49) dX10_ends_36 (by decide) ?_
      refine X_iload (pc := 38) 0 dX10_ends_38 rfl ?_
      refine X_imul (pc := 40) dX10_ends_40 ?_
      rw [show (49 : Int32) * nI i = nI (49 * i) from pk_mul 49 i]
      refine X_aload_n (pc := 41) 2 dX10_ends_41 rfl rfl ?_
      refine X_getfield (pc := 42) dX10_ends_42 fg_X10_429_11 (MW.ob w1) mf_49 ?_
      refine X_iload (pc := 45) 0 dX10_ends_45 rfl ?_
      refine X_aaload (pc := 47) dX10_ends_47 (w1.o 49 rfl) (fun _ => rfl) bi ?_
      rw [ci]
      refine XX.eqst (st' := [.ref (A (400 + (17 + i))), .int (nI (49 * i)), .ref (A 81), .ref (A 96)]) (by rw [show 400 + (17 + i) = 417 + i by omega]; rfl) ?_
      refine X_ivi (pc := 48) _ dX10_ends_48 cv_X10_670_11 (MW.ob w1) rfl (elem_ok g w1 (b := A 81) (at' := 49 * i) (t := 17 + i) (l := fun j => T.getD (49 * i + j) 0) (by omega) (kd2 (by omega)).2 (by rw [fR1 16 (by unfold relR; omega)]; exact m1) (fun {R' F' h'} w' => by have := MW.byAt w' 81 rfl (by decide) (fr := 49 * i) (m := 49) (by rw [hT]; omega); rwa [hT] at this)) nX10_element (Nat.le_of_ble_eq_true rfl) (Nat.le_of_ble_eq_true rfl) (Nat.le_of_ble_eq_true rfl) (Nat.le_of_ble_eq_true rfl) (fun r2 h2 z2 => ?_)
      obtain ⟨R2, F2, w2, fR2, fF2, -, hc⟩ := z2
      have gR2 : ∀ j, relR j → R2 j = R j := fun j hj => by rw [fR2 j (relR_e2 (by omega) hj)]; exact fR1 j hj
      have gF2 : ∀ j, relF j → F2 j = F j := fun j hj => by
        have := fF1 j hj
        unfold relF at hj
        rw [fF2 j (by omega)]
        exact this
      rcases hc with ⟨rfl, hn⟩ | ⟨rfl, P, hP, sp, z0, lt⟩
      · refine X_if_ne (pc := 51) 57 dX10_ends_51 (by decide) (fun z => absurd rfl z) (fun _ => ?_)
        refine X_bipush (pc := 54) (x := (-4)) dX10_ends_54 (by decide) ?_
        refine X_ireturn (pc := 56) dX10_ends_56 rfl (Nat.le_of_ble_eq_true rfl) (Nat.le_of_ble_eq_true rfl) ?_
        refine no R2 S F2 h2 w2 gR2 (fun _ _ => rfl) gF2 ?_
        rw [← hcond]
        exact Or.inl ⟨i, by omega, hn⟩
      · refine X_if_ne (pc := 51) 57 dX10_ends_51 (by decide) (fun _ => ?_) (fun z => absurd z (by decide))
        refine X_iinc (pc := 57) (L' := [(5, .int (_ + 1)), (4, .int _), (0, .ref _), (1, .int _), (2, .int _), (3, .int _)]) 0 dX10_ends_57 rfl rfl (Nat.le_of_ble_eq_true rfl) rfl ?_
        refine X_goto (pc := 60) 25 dX10_ends_60 (by decide) ?_
        rw [show nI i + 1 = nI (i + 1) from nI_add i 1]
        refine ih (i + 1) (by omega) R2 F2 h2 w2 gR2 gF2 (fun j hj => ?_)
        by_cases ej : j = i
        · rw [ej]
          have e2 : spt R2 F2 (17 + i) = eltP T (49 * i) := sp.trans hP.symm
          exact ⟨⟨z0, lt, by rw [e2]; exact decE_on _⟩, e2⟩
        · obtain ⟨⟨x, y, z⟩, d⟩ := hg1 j (by omega)
          have e : spt R2 F2 (17 + j) = spt R1 F1 (17 + j) := spt_cg (fR2 _ (eScr_off2 (by omega) (by omega))) (fR2 _ (eScr_off2 (by omega) (by omega))) (fF2 _ (by omega))
          exact ⟨⟨by rw [fF2 _ (by omega)]; exact x, by rw [fR2 _ (eScr_off2 (by omega) (by omega))]; exact y, by rw [e]; exact z⟩, by rw [e]; exact d⟩
  refine X_iconst (pc := 22) (x := 0) dX10_ends_22 (by decide) ?_
  refine X_istore (pc := 23) (L' := [(5, .int _), (4, .int _), (0, .ref _), (1, .int _), (2, .int _), (3, .int _)]) dX10_ends_23 (Nat.le_of_ble_eq_true rfl) rfl ?_
  exact loop1 many 0 (by omega) R F h w (fun _ _ => rfl) (fun _ _ => rfl) (fun j hj => absurd hj (by omega))
end MEd
