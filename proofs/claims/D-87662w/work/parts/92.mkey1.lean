set_option maxRecDepth 100000
/-! the reference: keys of type 1 -/
section MK1
variable {A : Nat → Nat} {X : AH} {R R' : Nat → Nat} {I I' : Nat → Nat → Int32} {S S' : Nat → List Int32} {F F' : Nat → Int32} {h : AH} {N : Nat → Nat} {L : Nat → List Int32}
theorem Wf.use (wf : Wf N L) : Wf (up N 6 0) (up L 0 []) := by
  obtain ⟨a0, a1, a2, a3, a4, a5, a6, b0, b1, b2, c0, c1, c2, d1, d2⟩ := wf
  refine ⟨?_, ?_, ?_, ?_, ?_, ?_, ?_, ?_, ?_, ?_, ?_, ?_, ?_, fun k hk => ?_, fun a ha => ?_⟩
  · rw [up_ne (by decide)]; exact a0
  · rw [up_ne (by decide)]; exact a1
  · rw [up_ne (by decide)]; exact a2
  · rw [up_ne (by decide)]; exact a3
  · rw [up_ne (by decide)]; exact a4
  · rw [up_ne (by decide)]; exact a5
  · rw [up_same]; decide
  · rw [up_same]; decide
  · rw [up_ne (by decide)]; exact b1
  · rw [up_ne (by decide)]; exact b2
  · rw [up_same]; intro x hx; cases hx
  · rw [up_ne (by decide)]; exact c1
  · rw [up_ne (by decide)]; exact c2
  · rw [up_ne (by decide)] at hk
    have := d1 k hk
    unfold KOk at this ⊢
    rw [up_ne (by omega), up_ne (by omega), up_ne (by omega), up_ne (by omega), up_ne (by omega), up_ne (by omega), up_ne (by omega), up_ne (by omega)]
    exact this
  · rw [up_ne (by decide)] at ha
    have := d2 a ha
    unfold AOk at this ⊢
    rw [up_ne (show 200 + a ≠ 6 by omega), up_ne (show 0 ≠ 6 by decide), up_ne (show 300 + a ≠ 6 by omega), up_ne (show 200 + a ≠ 0 by omega), up_ne (show 400 + a ≠ 6 by omega), up_ne (show 100 + N (200 + a) ≠ 6 by omega), up_ne (show 130 + N (200 + a) ≠ 6 by omega)]
    exact this
theorem newK_ne {t d m e len s j : Nat} (h0 : j ≠ 0) (h1 : j ≠ 100 + N 0) (h2 : j ≠ 110 + N 0) (h3 : j ≠ 120 + N 0) (h4 : j ≠ 130 + N 0) (h5 : j ≠ 140 + N 0) (h6 : j ≠ 150 + N 0) (h7 : j ≠ 160 + N 0) : newK N t d m e len s j = N j := by
  unfold newK
  rw [up_ne h0, up_ne h7, up_ne h6, up_ne h5, up_ne h4, up_ne h3, up_ne h2, up_ne h1]
theorem newK_0 {t d m e len s : Nat} : newK N t d m e len s 0 = N 0 + 1 := up_same _ _ _
theorem newK_at {t d m e len s : Nat} : newK N t d m e len s (100 + N 0) = t ∧ newK N t d m e len s (110 + N 0) = 1 ∧ newK N t d m e len s (120 + N 0) = d ∧ newK N t d m e len s (130 + N 0) = m ∧ newK N t d m e len s (140 + N 0) = e ∧ newK N t d m e len s (150 + N 0) = len ∧ newK N t d m e len s (160 + N 0) = s := by
  unfold newK
  refine ⟨?_, ?_, ?_, ?_, ?_, ?_, ?_⟩
  · rw [up_ne (by omega), up_ne (by omega), up_ne (by omega), up_ne (by omega), up_ne (by omega), up_ne (by omega), up_ne (by omega), up_same]
  · rw [up_ne (by omega), up_ne (by omega), up_ne (by omega), up_ne (by omega), up_ne (by omega), up_ne (by omega), up_same]
  · rw [up_ne (by omega), up_ne (by omega), up_ne (by omega), up_ne (by omega), up_ne (by omega), up_same]
  · rw [up_ne (by omega), up_ne (by omega), up_ne (by omega), up_ne (by omega), up_same]
  · rw [up_ne (by omega), up_ne (by omega), up_ne (by omega), up_same]
  · rw [up_ne (by omega), up_ne (by omega), up_same]
  · rw [up_ne (by omega), up_same]
theorem MS.addk (wf : Wf N L) (hn : N 0 < 6) (ms : MS N L R I S F) {t d m e len s : Nat} {id : List Int32} (hidB : IsB id)
    (hR : ∀ j, relR j → j ≠ 225 + N 0 → j ≠ 325 + N 0 → R' j = R j)
    (hI : ∀ j, relI j → j ≠ 61 → j ≠ 62 → j ≠ 67 → j ≠ 68 → j ≠ 69 → j ≠ 530 + N 0 → j ≠ 512 + N 0 → j ≠ 522 + N 0 → I' j = I j)
    (hI2 : ∀ j, (j = 61 ∨ j = 62 ∨ j = 67 ∨ j = 68 ∨ j = 69) → ∀ i, i ≠ N 0 → I' j i = I j i)
    (hS : ∀ j, relS j → j ≠ 63 → S' j = S j) (hS63 : S' 63 = lay (S 63) (32 * N 0) id 32)
    (hF : ∀ j, relF j → j ≠ 70 → j ≠ 425 + N 0 → j ≠ 542 + N 0 → j ≠ 552 + N 0 → F' j = F j) (hF70 : F' 70 = nI (N 0 + 1))
    (hk : KM (newK N t d m e len s) (up L (100 + N 0) id) R' I' S' F' (N 0)) : MS (newK N t d m e len s) (up L (100 + N 0) id) R' I' S' F' := by
  obtain ⟨mb, a1, a2, a3, a4, a5, a6, a7, a8, a9, b1, b2, b3, b4, b5, b6, b7, c1, c2⟩ := ms
  unfold relR at hR
  unfold relI at hI
  unfold relS at hS
  unfold relF at hF
  have nk : ∀ j, j ≠ 0 → j < 100 → newK N t d m e len s j = N j := fun j h1 h2 => newK_ne h1 (by omega) (by omega) (by omega) (by omega) (by omega) (by omega) (by omega)
  have nk2 : ∀ j, 200 ≤ j → newK N t d m e len s j = N j := fun j h2 => newK_ne (by omega) (by omega) (by omega) (by omega) (by omega) (by omega) (by omega) (by omega)
  have nk3 : ∀ b k, (b = 100 ∨ b = 110 ∨ b = 120 ∨ b = 130 ∨ b = 140 ∨ b = 150 ∨ b = 160) → k < N 0 → newK N t d m e len s (b + k) = N (b + k) := fun b k hb hk => newK_ne (by omega) (by omega) (by omega) (by omega) (by omega) (by omega) (by omega) (by omega)
  have lk : ∀ k, k < N 0 → limN (newK N t d m e len s) k = limN N k := fun k hk => by unfold limN; rw [nk3 100 k (by omega) hk, nk3 150 k (by omega) hk]
  refine ⟨?_, ?_, ?_, ?_, ?_, ?_, ?_, ?_, ?_, ?_, ?_, ?_, ?_, ?_, ?_, ?_, ?_, fun k hk' => ?_, fun a ha => ?_⟩
  · obtain ⟨m1, m2, m3, m4, m5, m6, m7⟩ := mb
    refine ⟨by rw [hR 16 (by omega) (by omega) (by omega)]; exact m1, by rw [hR 44 (by omega) (by omega) (by omega)]; exact m2, by rw [hR 45 (by omega) (by omega) (by omega)]; exact m3, by rw [hR 45 (by omega) (by omega) (by omega)]; exact m4, ?_, by rw [hF 400 (by omega) (by omega) (by omega) (by omega) (by omega)]; exact m6, by rw [hF 26 (by omega) (by omega) (by omega) (by omega) (by omega)]; exact m7⟩
    rw [← m5]
    exact spt_cg (hR 200 (by omega) (by omega) (by omega)) (hR 300 (by omega) (by omega) (by omega)) (hF 400 (by omega) (by omega) (by omega) (by omega) (by omega))
  · rw [hS 81 (by omega) (by omega), up_ne (by omega)]; exact a1
  · rw [hF 82 (by omega) (by omega) (by omega) (by omega) (by omega), up_ne (by omega)]; exact a2
  · rw [hS 83 (by omega) (by omega), up_ne (by omega)]; exact a3
  · rw [hF 84 (by omega) (by omega) (by omega) (by omega) (by omega), up_ne (by omega)]; exact a4
  · rw [hS 76 (by omega) (by omega), up_ne (by omega)]; exact a5
  · rw [hS63, lay_len]; exact a6
  · rw [hS63]; exact lay_B a7 hidB
  · rw [hS 73 (by omega) (by omega)]; exact a8
  · rw [hS 73 (by omega) (by omega)]; exact a9
  · rw [hF70, newK_0]
  · rw [hF 75 (by omega) (by omega) (by omega) (by omega) (by omega), nk 1 (by omega) (by omega)]; exact b2
  · rw [hF 77 (by omega) (by omega) (by omega) (by omega) (by omega), nk 2 (by omega) (by omega)]; exact b3
  · rw [hF 78 (by omega) (by omega) (by omega) (by omega) (by omega), nk 3 (by omega) (by omega)]; exact b4
  · rw [hF 79 (by omega) (by omega) (by omega) (by omega) (by omega), nk 4 (by omega) (by omega)]; exact b5
  · rw [hF 80 (by omega) (by omega) (by omega) (by omega) (by omega), nk 5 (by omega) (by omega)]; exact b6
  · rw [hF 0 (by omega) (by omega) (by omega) (by omega) (by omega), nk 6 (by omega) (by omega)]; exact b7
  · rw [newK_0] at hk'
    by_cases ek : k = N 0
    · rw [ek]; exact hk
    have hkl : k < N 0 := by omega
    obtain ⟨k1, k2, k3, k4, k5, k6⟩ := c1 k hkl
    have es : spt R' F' (25 + k) = spt R F (25 + k) := spt_cg (hR _ (by omega) (by omega) (by omega)) (hR _ (by omega) (by omega) (by omega)) (hF _ (by omega) (by omega) (by omega) (by omega) (by omega))
    refine ⟨?_, ?_, ?_, ?_, fun t1 => ?_, fun t1 => ?_⟩
    · rw [hI2 61 (by omega) k ek, nk3 100 k (by omega) hkl]; exact k1
    · rw [hI2 62 (by omega) k ek, nk3 110 k (by omega) hkl]; exact k2
    · rw [hS63, up_ne (by omega), lay_off (by omega) (by omega)]; exact k3
    · rw [hI2 68 (by omega) k ek, nk3 150 k (by omega) hkl]; exact k4
    · rw [nk3 100 k (by omega) hkl] at t1
      obtain ⟨⟨p1, p2, p3⟩, q, r⟩ := k5 t1
      exact ⟨⟨by rw [hF _ (by omega) (by omega) (by omega) (by omega) (by omega)]; exact p1, by rw [hR _ (by omega) (by omega) (by omega)]; exact p2, by rw [es]; exact p3⟩, by rw [es, nk3 120 k (by omega) hkl]; exact q, by rw [hI _ (by omega) (by omega) (by omega) (by omega) (by omega) (by omega) (by omega) (by omega) (by omega), nk3 120 k (by omega) hkl]; exact r⟩
    · rw [nk3 100 k (by omega) hkl] at t1
      obtain ⟨sh, p1, p2, p3, p4, p5, p6, p7, p8⟩ := k6 t1
      refine ⟨sh, p1, ?_, by rw [lk k hkl, hF _ (by omega) (by omega) (by omega) (by omega) (by omega)]; exact p3, by rw [hF _ (by omega) (by omega) (by omega) (by omega) (by omega)]; exact p4, by rw [lk k hkl, nk3 130 k (by omega) hkl]; exact p5, by rw [hI2 67 (by omega) k ek, nk3 140 k (by omega) hkl]; exact p6, by rw [hI2 69 (by omega) k ek, nk3 160 k (by omega) hkl]; exact p7, by rw [lk k hkl, hI _ (by omega) (by omega) (by omega) (by omega) (by omega) (by omega) (by omega) (by omega) (by omega), nk3 120 k (by omega) hkl]; exact p8⟩
      rw [lk k hkl, nk3 130 k (by omega) hkl]
      rcases p2 with ⟨z, -, -⟩ | ⟨z, -, -⟩ | ⟨z1, z2, s', z3, z4, z5, z6, z7, z8, z9⟩
      · omega
      · omega
      · refine Or.inr (Or.inr ⟨z1, z2, s', z3, by rw [hF _ (by omega) (by omega) (by omega) (by omega) (by omega)]; exact z4, by rw [hF _ (by omega) (by omega) (by omega) (by omega) (by omega)]; exact z5, ?_, ?_, ?_, z9⟩)
        · rw [hI (510 + (2 + k)) (by omega) (by omega) (by omega) (by omega) (by omega) (by omega) (by omega) (by omega) (by omega)]; exact z6
        · rw [hI (520 + (2 + k)) (by omega) (by omega) (by omega) (by omega) (by omega) (by omega) (by omega) (by omega) (by omega)]; exact z7
        · rw [hI (520 + (2 + k)) (by omega) (by omega) (by omega) (by omega) (by omega) (by omega) (by omega) (by omega) (by omega)]; exact z8
  · rw [nk 1 (by omega) (by omega)] at ha
    have h60 := wf.2.1
    have hq := wf.ka a ha
    obtain ⟨k1, k2, k3, k4⟩ := c2 a ha
    have i1 : ∀ j, (j = 71 ∨ j = 72 ∨ (600 ≤ j ∧ j < 660)) → I' j = I j := fun j hj => hI j (by omega) (by omega) (by omega) (by omega) (by omega) (by omega) (by omega) (by omega) (by omega)
    refine ⟨by rw [i1 71 (by omega), nk2 _ (by omega)]; exact k1, by rw [i1 72 (by omega), nk2 _ (by omega)]; exact k2, by rw [hS 73 (by omega) (by omega), up_ne (by omega)]; exact k3, ?_⟩
    rw [nk2 (200 + a) (by omega), lk _ hq, i1 _ (by omega), nk2 (400 + a) (by omega)]
    exact k4
theorem kd530 {k : Nat} (hk : k < 6) : kdM (530 + k) = (3, 0, 64) := by
  obtain rfl | rfl | rfl | rfl | rfl | rfl : k = 0 ∨ k = 1 ∨ k = 2 ∨ k = 3 ∨ k = 4 ∨ k = 5 := by omega
  all_goals rfl
theorem cut81 {T : List Int32} (hT : S 81 = T) {j : Nat} (hj : j ≠ 81) : (up S 81 []) j = S j := up_ne hj
set_option maxHeartbeats 4000000 in
theorem keyOne_ok (g : GX) (wf : Wf N L) (w : MW A X R I S F h) (ms : MS N L R I (up S 81 []) F) {T : List Int32} (hT : S 81 = T) (hTl : T.length ≤ 1200) :
    MT g MX10_keyOne ({ frames := 7, cells := 0, slots := 0, locals := 177 } : Room) [.ref (A 96), .int (nI T.length)] h (RI (MQ3 A X (if T.length = 48 ∧ 0 < num T 0 48 ∧ num T 0 48 < qP then addK N L 1 (num T 0 48) 0 0 48 0 else (-2, N, L)))) := by
  refine MT.of (by decide) (Nat.le_of_ble_eq_true rfl) ?_
  obtain ⟨f81, c81, p81, -⟩ := w.s 81 rfl
  obtain ⟨f57, c57, -⟩ := w.n2 57 rfl
  rw [hT] at p81
  have s63 : (S 63).length = 192 := by have := ms.2.2.2.2.2.2.1; rwa [up_ne (by decide)] at this
  refine X_aload_n (pc := 0) 0 dX10_keyOne_0 rfl rfl ?_
  refine X_getfield (pc := 1) dX10_keyOne_1 fg_X10_534_11 (MW.ob w) mf_81 ?_
  refine X_iconst (pc := 4) (x := 0) dX10_keyOne_4 (by decide) ?_
  refine X_bipush (pc := 5) (x := 48) dX10_keyOne_5 (by decide) ?_
  refine X_aload_n (pc := 7) 0 dX10_keyOne_7 rfl rfl ?_
  refine X_getfield (pc := 8) dX10_keyOne_8 fg_X10_437_11 (MW.ob w) mf_57 ?_
  refine X_bipush (pc := 11) (x := 12) dX10_keyOne_11 (by decide) ?_
  refine X_isv (pc := 13) _ dX10_keyOne_13 cs_X10_217 rfl (load_ok g (fr := 0) (many := 48) (n := 12) c81 c57 (by decide) (by decide) (by decide) (by decide) (by decide)) nX10_load (Nat.le_of_ble_eq_true rfl) (Nat.le_of_ble_eq_true rfl) (Nat.le_of_ble_eq_true rfl) (Nat.le_of_ble_eq_true rfl) (fun h1 q1 => ?_)
  obtain ⟨f1, hv, -, rfl⟩ := q1
  have w1 := w.setN2 57 rfl hv
  generalize hset h (A 57) (Ai false 0 12 f1) = h1 at *
  generalize hvv : bsm f81 (0 + 48) 48 = v at *
  have ms1 : MS N L (up R 57 v) I (up S 81 []) F := ms.cg ⟨wf.1, wf.2.1⟩ (fun j hj => up_ne (by unfold relR at hj; omega)) (fun _ _ => rfl) (fun _ _ => rfl) (fun _ _ => rfl)
  have hnum : T.length = 48 → v = num T 0 48 := fun hl => by
    rw [← hvv]
    exact bsm_cg fun q hq => p81 _ (by omega)
  have ref : ¬ (T.length = 48 ∧ 0 < num T 0 48 ∧ num T 0 48 < qP) → XX g MX10_keyOne ({ frames := 7, cells := 0, slots := 0, locals := 177 } : Room) (RI (MQ3 A X (if T.length = 48 ∧ 0 < num T 0 48 ∧ num T 0 48 < qP then addK N L 1 (num T 0 48) 0 0 48 0 else (-2, N, L)))) 0 0 32 [(0, .ref (A 96)), (1, .int (nI T.length))] [] h1 := by
    intro hc
    rw [if_neg hc]
    refine X_bipush (pc := 32) (x := (-2)) dX10_keyOne_32 (by decide) ?_
    refine X_ireturn (pc := 34) dX10_keyOne_34 rfl (Nat.le_of_ble_eq_true rfl) (Nat.le_of_ble_eq_true rfl) ?_
    exact ⟨_, rfl, rfl, MRep.of w1 ms1⟩
  refine X_iload_n (pc := 16) 1 dX10_keyOne_16 rfl rfl ?_
  refine X_bipush (pc := 17) (x := 48) dX10_keyOne_17 (by decide) ?_
  by_cases c1 : T.length = 48
  · refine X_icmp_ne (pc := 19) 32 dX10_keyOne_19 (by decide) (fun z => absurd (by rw [c1]; rfl) z) (fun _ => ?_)
    have hvn := hnum c1
    rw [← hvn]
    rw [← hvn] at ref
    have o57 : OpM A h1 (A 57) 12 v := by have := OpM.n2 w1 57 rfl; rwa [up_same] at this
    refine X_aload_n (pc := 22) 0 dX10_keyOne_22 rfl rfl ?_
    refine X_getfield (pc := 23) dX10_keyOne_23 fg_X10_437_11 (MW.ob w1) mf_57 ?_
    refine X_isi (pc := 26) _ dX10_keyOne_26 cs_X10_622 rfl (isSec_ok g w1 o57) nX10_isSecret (Nat.le_of_ble_eq_true rfl) (Nat.le_of_ble_eq_true rfl) (Nat.le_of_ble_eq_true rfl) (Nat.le_of_ble_eq_true rfl) (fun r2 h2 q2 => ?_)
    obtain ⟨rfl, rfl⟩ := q2
    by_cases c2 : v ≠ 0 ∧ v < qP
    · rw [if_pos c2]
      refine X_if_ne (pc := 29) 35 dX10_keyOne_29 (by decide) (fun _ => ?_) (fun z => absurd z (by decide))
      rw [if_pos ⟨c1, Nat.pos_of_ne_zero c2.1, c2.2⟩]
      have f70 : F 70 = nI (N 0) := ms.f70
      have h6 := wf.1
      refine X_aload_n (pc := 35) 0 dX10_keyOne_35 rfl rfl ?_
      refine X_getfield (pc := 36) dX10_keyOne_36 fg_X10_626_11 (MW.ob w1) mf_70 ?_
      refine X_bipush (pc := 39) (x := 6) dX10_keyOne_39 (by decide) ?_
      rw [f70]
      by_cases c3 : N 0 = 6
      · refine X_icmp_ne (pc := 41) 47 dX10_keyOne_41 (by decide) (fun z => absurd (by rw [c3]; rfl) z) (fun _ => ?_)
        have es : addK N L 1 v 0 0 48 0 = (-6, N, L) := if_pos c3
        rw [es]
        refine X_bipush (pc := 44) (x := (-6)) dX10_keyOne_44 (by decide) ?_
        refine X_ireturn (pc := 46) dX10_keyOne_46 rfl (Nat.le_of_ble_eq_true rfl) (Nat.le_of_ble_eq_true rfl) ?_
        exact ⟨_, rfl, rfl, MRep.of w1 ms1⟩
      · refine X_icmp_ne (pc := 41) 47 dX10_keyOne_41 (by decide) (fun _ => ?_) (fun z => absurd (nI_inj' (b := 6) (by omega) (by decide) z) c3)
        have es : addK N L 1 v 0 0 48 0 = (nI (N 0), newK N 1 v 0 0 48 0, up L (100 + N 0) (sha256 (keyB (newK N 1 v 0 0 48 0) (N 0)))) := if_neg c3
        rw [es]
        have hn6 : N 0 < 6 := by omega
        generalize hk0 : N 0 = k at *
        have bk : vp_in (nI k) 6 := vp_in_nI (by omega) (by omega)
        have ck : (nI k).toNatClampNeg = k := nI_clamp (by omega)
        refine X_aload_n (pc := 47) 0 dX10_keyOne_47 rfl rfl ?_
        refine X_getfield (pc := 48) dX10_keyOne_48 fg_X10_437_11 (MW.ob w1) mf_57 ?_
        refine X_aload_n (pc := 51) 0 dX10_keyOne_51 rfl rfl ?_
        refine X_getfield (pc := 52) dX10_keyOne_52 fg_X10_475_11 (MW.ob w1) mf_64 ?_
        refine X_aload_n (pc := 55) 0 dX10_keyOne_55 rfl rfl ?_
        refine X_getfield (pc := 56) dX10_keyOne_56 fg_X10_626_11 (MW.ob w1) mf_70 ?_
        rw [f70]
        refine X_aaloadA (pc := 59) dX10_keyOne_59 (w1.o 64 rfl) bk ?_
        rw [ck]
        refine XX.eqst (st' := [.ref (A (530 + k)), .ref (A 57)]) rfl ?_
        refine X_bipush (pc := 60) (x := 12) dX10_keyOne_60 (by decide) ?_
        refine X_isv (pc := 62) _ dX10_keyOne_62 cs_X10_91 rfl (mcpI g w1 (530 + k) (kd530 hn6) (n := 12) (by decide) o57) nX10_copy (Nat.le_of_ble_eq_true rfl) (Nat.le_of_ble_eq_true rfl) (Nat.le_of_ble_eq_true rfl) (Nat.le_of_ble_eq_true rfl) (fun h3 q3 => ?_)
        obtain ⟨fs, hfs, -, w3⟩ := q3
        refine X_aload_n (pc := 65) 0 dX10_keyOne_65 rfl rfl ?_
        refine X_aload_n (pc := 66) 0 dX10_keyOne_66 rfl rfl ?_
        refine X_getfield (pc := 67) dX10_keyOne_67 fg_X10_437_11 (MW.ob w3) mf_57 ?_
        refine X_aload_n (pc := 70) 0 dX10_keyOne_70 rfl rfl ?_
        refine X_getfield (pc := 71) dX10_keyOne_71 fg_X10_465_11 (MW.ob w3) mf_11 ?_
        refine X_aload_n (pc := 74) 0 dX10_keyOne_74 rfl rfl ?_
        refine X_getfield (pc := 75) dX10_keyOne_75 fg_X10_458_11 (MW.ob w3) mf_65 ?_
        refine X_aload_n (pc := 78) 0 dX10_keyOne_78 rfl rfl ?_
        refine X_getfield (pc := 79) dX10_keyOne_79 fg_X10_626_11 (MW.ob w3) mf_70 ?_
        rw [f70]
        refine X_aaload (pc := 82) dX10_keyOne_82 (w3.o 65 rfl) (fun _ => rfl) bk ?_
        rw [ck]
        refine XX.eqst (st' := [.ref (A (400 + (25 + k))), .ref (A 400), .ref (A 57), .ref (A 96)]) (by rw [show 400 + (25 + k) = 425 + k by omega]; rfl) ?_
        obtain ⟨mG1, mG2, mG3, mG4, hG, hG0, h26⟩ := ms1.1
        have k57 : (up R 57 v) 57 = v := up_same _ _ _
        refine X_ivv (pc := 83) _ dX10_keyOne_83 cv_X10_446_11 (MW.ob w3) rfl (mul_ok g w3 (sa := 0) (t := 25 + k) (ak := A 57) (kv := v) (by decide) (by omega) (w3.lt (k := 200) rfl) (Or.inl hG0) (by rw [hG]; exact GP_on) (Nat.lt_trans c2.2 qP_2) (fun {R2 F2 h2} w2 o2 => by have := OpM.n2 w2 57 rfl; rw [o2 57 (by unfold mScr; simp; omega), k57] at this; exact this)) nX10_multiply (Nat.le_of_ble_eq_true rfl) (Nat.le_of_ble_eq_true rfl) (Nat.le_of_ble_eq_true rfl) (Nat.le_of_ble_eq_true rfl) (fun h4 q4 => ?_)
        obtain ⟨R4, F4, w4, fr4, ff4, z4, -, sp4, lt4⟩ := q4
        rw [hG] at sp4
        have hne : mP v GP ≠ none := k_G (Nat.pos_of_ne_zero c2.1) c2.2
        have z40 : F4 (400 + (25 + k)) = 0 := by
          rcases z4 with z | z
          · exact z
          · exact absurd (sp4.symm.trans (spt_no (by rw [z]; decide))) hne
        have so4 : SpO R4 F4 (25 + k) := ⟨z40, lt4 z40, by rw [sp4]; exact mP_on GP_on v⟩
        have f704 : F4 70 = nI k := by rw [ff4 70 (by decide) (by omega)]; exact f70
        have i68 : (up I (530 + k) fs) 68 = I 68 := up_ne (by omega)
        have c68 := w4.i 68 rfl
        rw [i68] at c68
        refine X_aload_n (pc := 86) 0 dX10_keyOne_86 rfl rfl ?_
        refine X_getfield (pc := 87) dX10_keyOne_87 fg_X10_510_11 (MW.ob w4) mf_68 ?_
        refine X_aload_n (pc := 90) 0 dX10_keyOne_90 rfl rfl ?_
        refine X_getfield (pc := 91) dX10_keyOne_91 fg_X10_626_11 (MW.ob w4) mf_70 ?_
        rw [f704]
        refine X_bipush (pc := 94) (x := 48) dX10_keyOne_94 (by decide) ?_
        refine X_iastore (pc := 96) dX10_keyOne_96 c68 bk ?_
        rw [ck]
        have w5 := w4.setI 68 rfl (upd (I 68) k 48)
        generalize hset h4 (A 68) (Ai false 0 6 (upd (I 68) k 48)) = h5 at *
        obtain ⟨kb, hkb⟩ : ∃ kb, kb = encB (R4 (200 + (25 + k))) (R4 (300 + (25 + k))) := ⟨_, rfl⟩
        have i61 : (up (up I (530 + k) fs) 68 (upd (I 68) k 48)) 61 = I 61 := by rw [up_ne (by decide), up_ne (by omega)]
        have i62 : (up (up I (530 + k) fs) 68 (upd (I 68) k 48)) 62 = I 62 := by rw [up_ne (by decide), up_ne (by omega)]
        refine X_aload_n (pc := 97) 0 dX10_keyOne_97 rfl rfl ?_
        refine X_iconst (pc := 98) (x := 1) dX10_keyOne_98 (by decide) ?_
        refine X_ivi (pc := 99) _ dX10_keyOne_99 cv_X10_629_11 (MW.ob w5) rfl (comes_ok g w5 (k := k) (t := 1) (kb := kb) hn6 f704 s63 (Or.inl ⟨by rw [up_same, upd_at]; rfl, hkb⟩)) nX10_comes (Nat.le_of_ble_eq_true rfl) (Nat.le_of_ble_eq_true rfl) (Nat.le_of_ble_eq_true rfl) (Nat.le_of_ble_eq_true rfl) (fun r6 h6' q6 => ?_)
        obtain ⟨rfl, S6, w6, fS6, s636⟩ := q6
        rw [i61, i62] at w6
        obtain ⟨n1, n2, n3, n4, n5, n6, n7⟩ := newK_at (N := N) (t := 1) (d := v) (m := 0) (e := 0) (len := 48) (s := 0)
        rw [hk0] at n1 n2 n3 n4 n5 n6 n7
        have hid : keyB (newK N 1 v 0 0 48 0) k = kb := by
          unfold keyB pubB
          rw [if_pos n1, if_pos n1, n3, hkb, ← sp4, en_spt so4.1 so4.2.1 (w4.lt (kd_y (by omega)))]
        rw [hid]
        refine X_ireturn (pc := 102) dX10_keyOne_102 rfl (Nat.le_of_ble_eq_true rfl) (Nat.le_of_ble_eq_true rfl) ?_
        refine ⟨_, rfl, rfl, MRep.of w6 ?_⟩
        rw [← hk0]
        refine MS.addk wf (by omega) ms1 (sha256_B _) (fun j hj a b => ?_) (fun j hj b1 b2 b3 b4 b5 b6 b7 b8 => ?_) (fun j hj i hi => ?_) (fun j hj a => ?_) ?_ (fun j hj b1 b2 b3 b4 => ?_) ?_ ?_
        · unfold relR at hj
          rw [hk0] at a b
          rw [fr4 j (by unfold mScr; simp; omega)]
        · rw [up_ne b2, up_ne b1, up_ne b4, up_ne b6]
        · rcases hj with rfl | rfl | rfl | rfl | rfl
          · rw [up_ne (by decide), up_same]; exact if_neg hi
          · rw [up_same]; exact if_neg hi
          · rw [up_ne (by decide), up_ne (by decide), up_ne (by decide), up_ne (by omega)]
          · rw [up_ne (by decide), up_ne (by decide), up_same]; exact if_neg hi
          · rw [up_ne (by decide), up_ne (by decide), up_ne (by decide), up_ne (by omega)]
        · unfold relS at hj
          by_cases e : j = 81
          · subst e; rw [up_same, up_same]
          · rw [up_ne e, up_ne e, fS6 j (by unfold iK; simp; omega)]
        · rw [up_ne (by decide), up_ne (by decide), s636, hk0]
        · unfold relF at hj
          rw [hk0] at b2
          rw [up_ne b1]
          by_cases e : j = 26
          · subst e; rw [up_same, h26]
          · rw [up_ne e, ff4 j (by omega) (by omega)]
        · rw [up_same, hk0]
        · rw [hk0]
          refine ⟨?_, ?_, ?_, ?_, fun _ => ⟨?_, ?_, ?_⟩, fun t2 => absurd (n1.symm.trans t2) (by decide)⟩
          · rw [up_ne (by decide), up_same, upd_at, n1]
          · rw [up_same, upd_at, n2]; rfl
          · rw [up_ne (by decide), s636, up_same]; exact lay_sub (by omega) (sha256_len _)
          · rw [up_ne (by decide), up_ne (by decide), up_same, upd_at, n6]; rfl
          · have e0 : ∀ q, (up (up F4 26 0) 70 (nI (k + 1))) (400 + q) = F4 (400 + q) := fun q => by rw [up_ne (by omega), up_ne (by omega)]
            refine ⟨by rw [e0]; exact so4.1, so4.2.1, ?_⟩
            rw [show spt R4 (up (up F4 26 0) 70 (nI (k + 1))) (25 + k) = spt R4 F4 (25 + k) from spt_cg rfl rfl (e0 _)]
            exact so4.2.2
          · rw [show spt R4 (up (up F4 26 0) 70 (nI (k + 1))) (25 + k) = spt R4 F4 (25 + k) from spt_cg rfl rfl (by rw [up_ne (by omega), up_ne (by omega)]), sp4, n3]
          · rw [up_ne (by omega), up_ne (by omega), up_ne (by omega), up_same, hfs, n3]
    · rw [if_neg c2]
      refine X_if_ne (pc := 29) 35 dX10_keyOne_29 (by decide) (fun z => absurd rfl z) (fun _ => ref (fun z => c2 ⟨by omega, z.2.2⟩))
  · exact X_icmp_ne (pc := 19) 32 dX10_keyOne_19 (by decide) (fun _ => ref (fun z => c1 z.1)) (fun z => absurd (nI_inj' (b := 48) (by omega) (by decide) z) c1)
end MK1
