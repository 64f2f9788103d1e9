set_option maxRecDepth 100000
/-! the reference: counts, looks, digests -/
section MC4
variable {A : Nat → Nat} {X : AH} {R R' : Nat → Nat} {I I' : Nat → Nat → Int32} {S S' : Nat → List Int32} {F F' : Nat → Int32} {h : AH} {N : Nat → Nat} {L : Nat → List Int32}
theorem nI_z1 {n : Nat} (h : n ≤ 1) : ((n == 1) = true ∧ nI n = 1) ∨ ((n == 1) = false ∧ nI n = 0) := by
  obtain rfl | rfl : n = 0 ∨ n = 1 := by omega
  · exact Or.inr ⟨rfl, rfl⟩
  · exact Or.inl ⟨rfl, rfl⟩
set_option maxHeartbeats 2000000 in
theorem countc_ok (g : GX) (wf : Wf N L) (m : MRep N L A X h) (i : Int32) : MT g MX10_count ({ frames := 3, cells := 0, slots := 0, locals := 64 } : Room) [.ref (A 96), .int i] h (RI (MQ3 A X (sCount N L i))) := by
  obtain ⟨R, I, S, F, w, ms⟩ := m
  refine MT.of (by decide) (Nat.le_of_ble_eq_true rfl) ?_
  have ms1 := ms.thr ⟨wf.1, wf.2.1⟩ 0
  have hd : S 76 = L 2 := ms.2.2.2.2.2.1
  have hl : (L 2).length = 4096 := wf.2.2.2.2.2.2.2.2.2.1
  have h5 : N 5 ≤ 1 := wf.2.2.2.2.2.1
  have f70 : (up F 0 0) 70 = nI (N 0) := by rw [up_ne (by decide)]; exact ms.f70
  have f75 : (up F 0 0) 75 = nI (N 1) := by rw [up_ne (by decide)]; exact ms.f75
  have f77 : (up F 0 0) 77 = nI (N 2) := by rw [up_ne (by decide)]; exact ms.2.2.2.2.2.2.2.2.2.2.2.2.1
  have f78 : (up F 0 0) 78 = nI (N 3) - 1 := by rw [up_ne (by decide)]; exact ms.2.2.2.2.2.2.2.2.2.2.2.2.2.1
  have f79 : (up F 0 0) 79 = nI (N 4) := by rw [up_ne (by decide)]; exact ms.2.2.2.2.2.2.2.2.2.2.2.2.2.2.1
  have f80 : (up F 0 0) 80 = nI (N 5) := by rw [up_ne (by decide)]; exact ms.2.2.2.2.2.2.2.2.2.2.2.2.2.2.2.1
  have f82 : (up F 0 0) 82 = nI (L 0).length := by rw [up_ne (by decide)]; exact ms.2.2.1
  refine X_aload_n (pc := 0) 0 dX10_count_0 rfl rfl ?_
  refine X_iconst (pc := 1) (x := 0) dX10_count_1 (by decide) ?_
  refine X_putfield (pc := 2) dX10_count_2 fp_X10_1_11 (fun e => by cases e) (MW.ob w) rfl rfl (Nat.le_of_ble_eq_true rfl) ?_
  have w1 := w.setF0 (v := 0)
  generalize hset h (A 96) (Ob 11 ((mFl A F).set 0 (.int 0))) = h1 at *
  have fin : ∀ x : Int32, x = (sCount N L i).1 → RI (MQ3 A X (sCount N L i)) (.returned (some (.int x))) h1 := fun x hx => ⟨x, rfl, hx, _, _, _, _, w1, ms1⟩
  generalize hPost : RI (MQ3 A X (sCount N L i)) = Post at *
  refine X_iconst (pc := 5) (x := 0) dX10_count_5 (by decide) ?_
  refine X_istore_n (pc := 6) (L' := [(2, .int _), (0, .ref _), (1, .int _)]) dX10_count_6 rfl (Nat.le_of_ble_eq_true rfl) rfl ?_
  refine X_iload_n (pc := 7) 2 dX10_count_7 rfl rfl ?_
  rcases pk_ix i (show 10 < 2 ^ 31 by decide) with z | z | ⟨j, hj, rfl⟩
  · refine X_tableOut (pc := 8) 193 dX10_count_8 (Or.inl (Int32.lt_iff_toInt_lt.mp z)) (by decide) ?_
    refine X_iconst (pc := 193) (x := (-1)) dX10_count_193 (by decide) ?_
    refine X_ireturn (pc := 194) dX10_count_194 rfl (Nat.le_of_ble_eq_true rfl) (Nat.le_of_ble_eq_true rfl) ?_
    refine fin _ ?_
    have ne : ∀ q : Int32, ¬ q < 0 → i ≠ q := fun q hq e => hq (e ▸ z)
    unfold sCount
    rw [if_neg (ne 0 (by decide)), if_neg (ne 1 (by decide)), if_neg (ne 2 (by decide)), if_neg (ne 3 (by decide)), if_neg (ne 4 (by decide)), if_neg (ne 5 (by decide)), if_neg (ne 6 (by decide)), if_neg (ne 7 (by decide)), if_neg (ne 8 (by decide)), if_neg (ne 9 (by decide))]
  · refine X_tableOut (pc := 8) 193 dX10_count_8 (Or.inr (Int.lt_of_lt_of_le (by decide) (Int32.le_iff_toInt_le.mp z))) (by decide) ?_
    refine X_iconst (pc := 193) (x := (-1)) dX10_count_193 (by decide) ?_
    refine X_ireturn (pc := 194) dX10_count_194 rfl (Nat.le_of_ble_eq_true rfl) (Nat.le_of_ble_eq_true rfl) ?_
    refine fin _ ?_
    have ne : ∀ q : Int32, ¬ nI 10 ≤ q → i ≠ q := fun q hq e => hq (e ▸ z)
    unfold sCount
    rw [if_neg (ne 0 (by decide)), if_neg (ne 1 (by decide)), if_neg (ne 2 (by decide)), if_neg (ne 3 (by decide)), if_neg (ne 4 (by decide)), if_neg (ne 5 (by decide)), if_neg (ne 6 (by decide)), if_neg (ne 7 (by decide)), if_neg (ne 8 (by decide)), if_neg (ne 9 (by decide))]
  · obtain rfl | rfl | rfl | rfl | rfl | rfl | rfl | rfl | rfl | rfl : j = 0 ∨ j = 1 ∨ j = 2 ∨ j = 3 ∨ j = 4 ∨ j = 5 ∨ j = 6 ∨ j = 7 ∨ j = 8 ∨ j = 9 := by omega
    · refine X_tableIn (pc := 8) 64 dX10_count_8 (by decide) (by decide) rfl (by decide) ?_
      refine X_aload_n (pc := 64) 1 dX10_count_64 rfl rfl ?_
      refine X_getfield (pc := 65) dX10_count_65 fg_X10_626_11 (MW.ob w1) mf_70 ?_
      refine X_ireturn (pc := 68) dX10_count_68 rfl (Nat.le_of_ble_eq_true rfl) (Nat.le_of_ble_eq_true rfl) ?_
      exact fin _ (by rw [f70]; rfl)
    · refine X_tableIn (pc := 8) 69 dX10_count_8 (by decide) (by decide) rfl (by decide) ?_
      have loop : ∀ m q, q + m = N 0 → XX g MX10_count ({ frames := 3, cells := 0, slots := 0, locals := 64 } : Room) Post 0 0 71 [(3, .int (nI q)), (2, .int (nI (cntN (fun k => N (110 + k) == 1) q))), (0, .ref (A 96)), (1, .int (nI 1))] [] h1 := by
        intro m
        induction m with
        | zero =>
          intro q hq
          have e : q = N 0 := by omega
          subst e
          refine X_iload_n (pc := 71) 0 dX10_count_71 rfl rfl ?_
          refine X_aload_n (pc := 72) 2 dX10_count_72 rfl rfl ?_
          refine X_getfield (pc := 73) dX10_count_73 fg_X10_626_11 (MW.ob w1) mf_70 ?_
          rw [f70]
          refine X_cge (pc := 76) 102 dX10_count_76 (by decide) (by have := wf.1; omega) (by omega) (fun _ => ?_) (fun z => absurd z (by omega))
          refine X_iload_n (pc := 102) 1 dX10_count_102 rfl rfl ?_
          refine X_ireturn (pc := 103) dX10_count_103 rfl (Nat.le_of_ble_eq_true rfl) (Nat.le_of_ble_eq_true rfl) ?_
          exact fin _ rfl
        | succ m ih =>
          intro q hq
          have ih := ih (q + 1) (by omega)
          have hq6 : q < 6 := by have := wf.1; omega
          have hc : cntN (fun k => N (110 + k) == 1) (q + 1) = cntN (fun k => N (110 + k) == 1) q + (if N (110 + q) == 1 then 1 else 0) := rfl
          rw [hc] at ih
          have bq : vp_in (nI q) 6 := vp_in_nI hq6 (by omega)
          have cq : (nI q).toNatClampNeg = q := nI_clamp (by omega)
          refine X_iload_n (pc := 71) 0 dX10_count_71 rfl rfl ?_
          refine X_aload_n (pc := 72) 2 dX10_count_72 rfl rfl ?_
          refine X_getfield (pc := 73) dX10_count_73 fg_X10_626_11 (MW.ob w1) mf_70 ?_
          rw [f70]
          refine X_cge (pc := 76) 102 dX10_count_76 (by decide) (by have := wf.1; omega) (by omega) (fun z => absurd z (by omega)) (fun _ => ?_)
          refine X_iload_n (pc := 79) 1 dX10_count_79 rfl rfl ?_
          refine X_aload_n (pc := 80) 2 dX10_count_80 rfl rfl ?_
          refine X_getfield (pc := 81) dX10_count_81 fg_X10_495_11 (MW.ob w1) mf_62 ?_
          refine X_iload_n (pc := 84) 0 dX10_count_84 rfl rfl ?_
          refine X_zaload (pc := 85) dX10_count_85 (w1.i 62 rfl) bq ?_
          rw [cq, (ms.kk (show q < N 0 by omega)).2.1]
          rcases nI_z1 (wf.kk (show q < N 0 by omega)).1 with ⟨e1, e2⟩ | ⟨e1, e2⟩
          · rw [e1] at ih
            rw [e2]
            refine X_if_eq (pc := 86) 93 dX10_count_86 (by decide) (fun z => absurd z (by decide)) (fun _ => ?_)
            refine X_iconst (pc := 89) (x := 1) dX10_count_89 (by decide) ?_
            refine X_goto (pc := 90) 94 dX10_count_90 (by decide) ?_
            refine X_iadd (pc := 94) dX10_count_94 ?_
            refine X_istore_n (pc := 95) (L' := [(2, .int _), (3, .int _), (0, .ref _), (1, .int _)]) dX10_count_95 rfl (Nat.le_of_ble_eq_true rfl) rfl ?_
            refine X_iinc (pc := 96) (L' := [(3, .int (_ + 1)), (2, .int _), (0, .ref _), (1, .int _)]) 1 dX10_count_96 rfl rfl (Nat.le_of_ble_eq_true rfl) rfl ?_
            refine X_goto (pc := 99) 71 dX10_count_99 (by decide) ?_
            refine XX.pick (L' := [(3, .int _), (2, .int _), (0, .ref _), (1, .int _)]) [0, 1, 2, 3] rfl ?_
            rw [show nI q + 1 = nI (q + 1) from nI_add q 1, show nI (cntN (fun k => N (110 + k) == 1) q) + 1 = nI (cntN (fun k => N (110 + k) == 1) q + 1) from nI_add _ 1]
            exact ih
          · rw [e1] at ih
            rw [e2]
            refine X_if_eq (pc := 86) 93 dX10_count_86 (by decide) (fun _ => ?_) (fun z => absurd rfl z)
            refine X_iconst (pc := 93) (x := 0) dX10_count_93 (by decide) ?_
            refine X_iadd (pc := 94) dX10_count_94 ?_
            refine X_istore_n (pc := 95) (L' := [(2, .int _), (3, .int _), (0, .ref _), (1, .int _)]) dX10_count_95 rfl (Nat.le_of_ble_eq_true rfl) rfl ?_
            refine X_iinc (pc := 96) (L' := [(3, .int (_ + 1)), (2, .int _), (0, .ref _), (1, .int _)]) 1 dX10_count_96 rfl rfl (Nat.le_of_ble_eq_true rfl) rfl ?_
            refine X_goto (pc := 99) 71 dX10_count_99 (by decide) ?_
            refine XX.pick (L' := [(3, .int _), (2, .int _), (0, .ref _), (1, .int _)]) [0, 1, 2, 3] rfl ?_
            rw [show nI q + 1 = nI (q + 1) from nI_add q 1, show nI (cntN (fun k => N (110 + k) == 1) q) + 0 = nI (cntN (fun k => N (110 + k) == 1) q + 0) from nI_add _ 0]
            exact ih
      refine X_iconst (pc := 69) (x := 0) dX10_count_69 (by decide) ?_
      refine X_istore_n (pc := 70) (L' := [(3, .int _), (2, .int _), (0, .ref _), (1, .int _)]) dX10_count_70 rfl (Nat.le_of_ble_eq_true rfl) rfl ?_
      exact loop (N 0) 0 (by omega)
    · refine X_tableIn (pc := 8) 104 dX10_count_8 (by decide) (by decide) rfl (by decide) ?_
      refine X_aload_n (pc := 104) 1 dX10_count_104 rfl rfl ?_
      refine X_getfield (pc := 105) dX10_count_105 fg_X10_640_11 (MW.ob w1) mf_75 ?_
      refine X_ireturn (pc := 108) dX10_count_108 rfl (Nat.le_of_ble_eq_true rfl) (Nat.le_of_ble_eq_true rfl) ?_
      exact fin _ (by rw [f75]; rfl)
    · refine X_tableIn (pc := 8) 109 dX10_count_8 (by decide) (by decide) rfl (by decide) ?_
      have loop : ∀ m q, q + m = N 1 → XX g MX10_count ({ frames := 3, cells := 0, slots := 0, locals := 64 } : Room) Post 0 0 111 [(3, .int (nI q)), (2, .int (nI (cntN (fun k => N (300 + k) == 1) q))), (0, .ref (A 96)), (1, .int (nI 3))] [] h1 := by
        intro m
        induction m with
        | zero =>
          intro q hq
          have e : q = N 1 := by omega
          subst e
          refine X_iload_n (pc := 111) 0 dX10_count_111 rfl rfl ?_
          refine X_aload_n (pc := 112) 2 dX10_count_112 rfl rfl ?_
          refine X_getfield (pc := 113) dX10_count_113 fg_X10_640_11 (MW.ob w1) mf_75 ?_
          rw [f75]
          refine X_cge (pc := 116) 142 dX10_count_116 (by decide) (by have := wf.2.1; omega) (by omega) (fun _ => ?_) (fun z => absurd z (by omega))
          refine X_iload_n (pc := 142) 1 dX10_count_142 rfl rfl ?_
          refine X_ireturn (pc := 143) dX10_count_143 rfl (Nat.le_of_ble_eq_true rfl) (Nat.le_of_ble_eq_true rfl) ?_
          exact fin _ rfl
        | succ m ih =>
          intro q hq
          have ih := ih (q + 1) (by omega)
          have hq6 : q < 60 := by have := wf.2.1; omega
          have hc : cntN (fun k => N (300 + k) == 1) (q + 1) = cntN (fun k => N (300 + k) == 1) q + (if N (300 + q) == 1 then 1 else 0) := rfl
          rw [hc] at ih
          have bq : vp_in (nI q) 60 := vp_in_nI hq6 (by omega)
          have cq : (nI q).toNatClampNeg = q := nI_clamp (by omega)
          refine X_iload_n (pc := 111) 0 dX10_count_111 rfl rfl ?_
          refine X_aload_n (pc := 112) 2 dX10_count_112 rfl rfl ?_
          refine X_getfield (pc := 113) dX10_count_113 fg_X10_640_11 (MW.ob w1) mf_75 ?_
          rw [f75]
          refine X_cge (pc := 116) 142 dX10_count_116 (by decide) (by have := wf.2.1; omega) (by omega) (fun z => absurd z (by omega)) (fun _ => ?_)
          refine X_iload_n (pc := 119) 1 dX10_count_119 rfl rfl ?_
          refine X_aload_n (pc := 120) 2 dX10_count_120 rfl rfl ?_
          refine X_getfield (pc := 121) dX10_count_121 fg_X10_519_11 (MW.ob w1) mf_72 ?_
          refine X_iload_n (pc := 124) 0 dX10_count_124 rfl rfl ?_
          refine X_zaload (pc := 125) dX10_count_125 (w1.i 72 rfl) bq ?_
          rw [cq, (ms.aa (show q < N 1 by omega)).2.1]
          rcases nI_z1 (wf.aa (show q < N 1 by omega)).2.1 with ⟨e1, e2⟩ | ⟨e1, e2⟩
          · rw [e1] at ih
            rw [e2]
            refine X_if_eq (pc := 126) 133 dX10_count_126 (by decide) (fun z => absurd z (by decide)) (fun _ => ?_)
            refine X_iconst (pc := 129) (x := 1) dX10_count_129 (by decide) ?_
            refine X_goto (pc := 130) 134 dX10_count_130 (by decide) ?_
            refine X_iadd (pc := 134) dX10_count_134 ?_
            refine X_istore_n (pc := 135) (L' := [(2, .int _), (3, .int _), (0, .ref _), (1, .int _)]) dX10_count_135 rfl (Nat.le_of_ble_eq_true rfl) rfl ?_
            refine X_iinc (pc := 136) (L' := [(3, .int (_ + 1)), (2, .int _), (0, .ref _), (1, .int _)]) 1 dX10_count_136 rfl rfl (Nat.le_of_ble_eq_true rfl) rfl ?_
            refine X_goto (pc := 139) 111 dX10_count_139 (by decide) ?_
            refine XX.pick (L' := [(3, .int _), (2, .int _), (0, .ref _), (1, .int _)]) [0, 1, 2, 3] rfl ?_
            rw [show nI q + 1 = nI (q + 1) from nI_add q 1, show nI (cntN (fun k => N (300 + k) == 1) q) + 1 = nI (cntN (fun k => N (300 + k) == 1) q + 1) from nI_add _ 1]
            exact ih
          · rw [e1] at ih
            rw [e2]
            refine X_if_eq (pc := 126) 133 dX10_count_126 (by decide) (fun _ => ?_) (fun z => absurd rfl z)
            refine X_iconst (pc := 133) (x := 0) dX10_count_133 (by decide) ?_
            refine X_iadd (pc := 134) dX10_count_134 ?_
            refine X_istore_n (pc := 135) (L' := [(2, .int _), (3, .int _), (0, .ref _), (1, .int _)]) dX10_count_135 rfl (Nat.le_of_ble_eq_true rfl) rfl ?_
            refine X_iinc (pc := 136) (L' := [(3, .int (_ + 1)), (2, .int _), (0, .ref _), (1, .int _)]) 1 dX10_count_136 rfl rfl (Nat.le_of_ble_eq_true rfl) rfl ?_
            refine X_goto (pc := 139) 111 dX10_count_139 (by decide) ?_
            refine XX.pick (L' := [(3, .int _), (2, .int _), (0, .ref _), (1, .int _)]) [0, 1, 2, 3] rfl ?_
            rw [show nI q + 1 = nI (q + 1) from nI_add q 1, show nI (cntN (fun k => N (300 + k) == 1) q) + 0 = nI (cntN (fun k => N (300 + k) == 1) q + 0) from nI_add _ 0]
            exact ih
      refine X_iconst (pc := 109) (x := 0) dX10_count_109 (by decide) ?_
      refine X_istore_n (pc := 110) (L' := [(3, .int _), (2, .int _), (0, .ref _), (1, .int _)]) dX10_count_110 rfl (Nat.le_of_ble_eq_true rfl) rfl ?_
      exact loop (N 1) 0 (by omega)
    · refine X_tableIn (pc := 8) 144 dX10_count_8 (by decide) (by decide) rfl (by decide) ?_
      refine X_aload_n (pc := 144) 1 dX10_count_144 rfl rfl ?_
      refine X_ivi (pc := 145) _ dX10_count_145 cv_X10_724_11 (MW.ob w1) rfl (spent_ok g w1 hd hl) nX10_spent (Nat.le_of_ble_eq_true rfl) (Nat.le_of_ble_eq_true rfl) (Nat.le_of_ble_eq_true rfl) (Nat.le_of_ble_eq_true rfl) (fun r1 h2 q1 => ?_)
      obtain ⟨rfl, rfl⟩ := q1
      refine X_ireturn (pc := 148) dX10_count_148 rfl (Nat.le_of_ble_eq_true rfl) (Nat.le_of_ble_eq_true rfl) ?_
      exact fin _ rfl
    · refine X_tableIn (pc := 8) 149 dX10_count_8 (by decide) (by decide) rfl (by decide) ?_
      refine X_aload_n (pc := 149) 1 dX10_count_149 rfl rfl ?_
      refine X_getfield (pc := 150) dX10_count_150 fg_X10_718_11 (MW.ob w1) mf_77 ?_
      refine X_ireturn (pc := 153) dX10_count_153 rfl (Nat.le_of_ble_eq_true rfl) (Nat.le_of_ble_eq_true rfl) ?_
      exact fin _ (by rw [f77]; rfl)
    · refine X_tableIn (pc := 8) 154 dX10_count_8 (by decide) (by decide) rfl (by decide) ?_
      refine X_aload_n (pc := 154) 1 dX10_count_154 rfl rfl ?_
      refine X_getfield (pc := 155) dX10_count_155 fg_X10_704_11 (MW.ob w1) mf_80 ?_
      rw [f80]
      obtain e5 | e5 : N 5 = 0 ∨ N 5 = 1 := by omega
      · refine X_if_eq (pc := 158) 165 dX10_count_158 (by decide) (fun _ => ?_) (fun z => absurd (by rw [e5]; rfl) z)
        refine X_iconst (pc := 165) (x := 0) dX10_count_165 (by decide) ?_
        refine X_ireturn (pc := 166) dX10_count_166 rfl (Nat.le_of_ble_eq_true rfl) (Nat.le_of_ble_eq_true rfl) ?_
        exact fin _ (by show 0 = nI (N 5); rw [e5]; rfl)
      · refine X_if_eq (pc := 158) 165 dX10_count_158 (by decide) (fun z => absurd z (by rw [e5]; decide)) (fun _ => ?_)
        refine X_iconst (pc := 161) (x := 1) dX10_count_161 (by decide) ?_
        refine X_goto (pc := 162) 166 dX10_count_162 (by decide) ?_
        refine X_ireturn (pc := 166) dX10_count_166 rfl (Nat.le_of_ble_eq_true rfl) (Nat.le_of_ble_eq_true rfl) ?_
        exact fin _ (by show 1 = nI (N 5); rw [e5]; rfl)
    · refine X_tableIn (pc := 8) 167 dX10_count_8 (by decide) (by decide) rfl (by decide) ?_
      refine X_aload_n (pc := 167) 1 dX10_count_167 rfl rfl ?_
      refine X_getfield (pc := 168) dX10_count_168 fg_X10_704_11 (MW.ob w1) mf_80 ?_
      rw [f80]
      obtain e5 | e5 : N 5 = 0 ∨ N 5 = 1 := by omega
      · refine X_if_eq (pc := 171) 178 dX10_count_171 (by decide) (fun _ => ?_) (fun z => absurd (by rw [e5]; rfl) z)
        refine X_aload_n (pc := 178) 1 dX10_count_178 rfl rfl ?_
        refine X_getfield (pc := 179) dX10_count_179 fg_X10_531_11 (MW.ob w1) mf_78 ?_
        rw [f78]
        refine X_ireturn (pc := 182) dX10_count_182 rfl (Nat.le_of_ble_eq_true rfl) (Nat.le_of_ble_eq_true rfl) ?_
        exact fin _ (by show _ = if N 5 = 0 then nI (N 3) - 1 else 0; rw [if_pos e5])
      · refine X_if_eq (pc := 171) 178 dX10_count_171 (by decide) (fun z => absurd z (by rw [e5]; decide)) (fun _ => ?_)
        refine X_iconst (pc := 174) (x := 0) dX10_count_174 (by decide) ?_
        refine X_goto (pc := 175) 182 dX10_count_175 (by decide) ?_
        refine X_ireturn (pc := 182) dX10_count_182 rfl (Nat.le_of_ble_eq_true rfl) (Nat.le_of_ble_eq_true rfl) ?_
        exact fin _ (by show _ = if N 5 = 0 then nI (N 3) - 1 else 0; rw [if_neg (by omega)])
    · refine X_tableIn (pc := 8) 183 dX10_count_8 (by decide) (by decide) rfl (by decide) ?_
      refine X_aload_n (pc := 183) 1 dX10_count_183 rfl rfl ?_
      refine X_getfield (pc := 184) dX10_count_184 fg_X10_582_11 (MW.ob w1) mf_82 ?_
      refine X_ireturn (pc := 187) dX10_count_187 rfl (Nat.le_of_ble_eq_true rfl) (Nat.le_of_ble_eq_true rfl) ?_
      exact fin _ (by rw [f82]; rfl)
    · refine X_tableIn (pc := 8) 188 dX10_count_8 (by decide) (by decide) rfl (by decide) ?_
      refine X_aload_n (pc := 188) 1 dX10_count_188 rfl rfl ?_
      refine X_getfield (pc := 189) dX10_count_189 fg_X10_721_11 (MW.ob w1) mf_79 ?_
      refine X_ireturn (pc := 192) dX10_count_192 rfl (Nat.le_of_ble_eq_true rfl) (Nat.le_of_ble_eq_true rfl) ?_
      exact fin _ (by rw [f79]; rfl)
/-- what stands behind a call that has used the tape -/
theorem MRep.of (w : MW A X R I S F h) (ms : MS N L R I (up S 81 []) F) : MRep N L A X h := ⟨_, _, _, _, w.cutS 81 rfl, ms⟩
theorem MS.use (wf : Wf N L) (ms : MS N L R I S F) : MS (up N 6 0) (up L 0 []) R I (up S 81 []) (up (up F 0 0) 82 0) := (ms.thr ⟨wf.1, wf.2.1⟩ 0).tape (wf1 wf (by decide)) []
set_option maxHeartbeats 1000000 in
theorem digestc_ok (g : GX) (wf : Wf N L) (m : MRep N L A X h) : MT g MX10_digest ({ frames := 3, cells := 0, slots := 0, locals := 74 } : Room) [.ref (A 96)] h (RI (MQ3 A X (sDigest N L))) := by
  obtain ⟨R, I, S, F, w, ms⟩ := m
  refine MT.of (by decide) (Nat.le_of_ble_eq_true rfl) ?_
  have ms1 := ms.use wf
  have hl0 : (L 0).length ≤ 1200 := wf.2.2.2.2.2.2.2.1
  have hB0 : IsB (L 0) := wf.2.2.2.2.2.2.2.2.2.2.1
  have s81 : S 81 = L 0 := ms.2.1
  have f82 : F 82 = nI (L 0).length := ms.2.2.1
  generalize hPost : RI (MQ3 A X (sDigest N L)) = Post
  refine X_aload_n (pc := 0) 0 dX10_digest_0 rfl rfl ?_
  refine X_ivi (pc := 1) _ dX10_digest_1 cv_X10_612_11 (MW.ob w) rfl (used_ok g w) nX10_used (Nat.le_of_ble_eq_true rfl) (Nat.le_of_ble_eq_true rfl) (Nat.le_of_ble_eq_true rfl) (Nat.le_of_ble_eq_true rfl) (fun r1 h1 q1 => ?_)
  obtain ⟨rfl, w1⟩ := q1
  rw [f82]
  have f26 : (up (up F 0 0) 82 0) 26 = 0 := ms1.1.2.2.2.2.2.2
  generalize up (up F 0 0) 82 0 = F1 at *
  refine X_istore_n (pc := 4) (L' := [(1, .int _), (0, .ref _)]) dX10_digest_4 rfl (Nat.le_of_ble_eq_true rfl) rfl ?_
  refine X_aload_n (pc := 5) 1 dX10_digest_5 rfl rfl ?_
  refine X_iconst (pc := 6) (x := 0) dX10_digest_6 (by decide) ?_
  refine X_putfield (pc := 7) dX10_digest_7 fp_X10_243_11 (fun e => by cases e) (MW.ob w1) rfl rfl (Nat.le_of_ble_eq_true rfl) ?_
  have w2 := w1.cut0
  generalize hset h1 (A 96) (Ob 11 ((mFl A F1).set 26 (.int 0))) = h2 at *
  have w2' : MW A X R I (up S 25 []) (up F1 26 (nI 0)) h2 := w2
  refine X_aload_n (pc := 10) 1 dX10_digest_10 rfl rfl ?_
  refine X_aload_n (pc := 11) 1 dX10_digest_11 rfl rfl ?_
  refine X_getfield (pc := 12) dX10_digest_12 fg_X10_534_11 (MW.ob w2') mf_81 ?_
  refine X_iconst (pc := 15) (x := 0) dX10_digest_15 (by decide) ?_
  refine X_iload_n (pc := 16) 0 dX10_digest_16 rfl rfl ?_
  refine X_ivv (pc := 17) _ dX10_digest_17 cv_X10_325_11 (MW.ob w2) rfl (saysK g w2 (kb := 81) (at' := 0) (n := (L 0).length) rfl (by decide) (by decide) (by rw [s81]; exact hB0) (by rw [s81]; omega) (by show 0 + _ ≤ 2600; omega)) nX10_say (Nat.le_of_ble_eq_true rfl) (Nat.le_of_ble_eq_true rfl) (Nat.le_of_ble_eq_true rfl) (Nat.le_of_ble_eq_true rfl) (fun h3 w3 => ?_)
  rw [s81, sub_all rfl] at w3
  refine X_aload_n (pc := 20) 1 dX10_digest_20 rfl rfl ?_
  refine X_ivv (pc := 21) _ dX10_digest_21 cv_X10_609_11 (MW.ob w3) rfl (h2_ok g w3 (by show (L 0).length + 72 ≤ 2600; omega)) nX10_h2 (Nat.le_of_ble_eq_true rfl) (Nat.le_of_ble_eq_true rfl) (Nat.le_of_ble_eq_true rfl) (Nat.le_of_ble_eq_true rfl) (fun h4 w4' => ?_)
  have w4 : MW A X R I (up (up S 27 (sha256 (L 0))) 25 []) (up F1 26 0) h4 := w4'
  have hdB := sha256_B (L 0)
  have hdl := sha256_len (L 0)
  have hsd : sDigest N L = (32, up N 6 0, up (up L 0 []) 1 (sha256 (L 0))) := rfl
  generalize hd : sha256 (L 0) = d at *
  have t27 : (up (up S 27 d) 25 []) 27 = d := by rw [up_ne (by decide), up_same]
  have ms2 : MS (up N 6 0) (up L 0 []) R I (up (up (up S 27 d) 25 []) 81 []) (up F1 26 0) := by
    refine ms1.cg (wf1 wf (by decide)) (fun _ _ => rfl) (fun _ _ => rfl) (fun j hj => ?_) (fun j hj => ?_)
    · by_cases e : j = 81
      · subst e; rw [up_same, up_same]
      · rw [up_ne e, up_ne e, up_ne (by unfold relS at hj; omega), up_ne (by unfold relS at hj; omega)]
    · by_cases e : j = 26
      · subst e; rw [up_same, f26]
      · rw [up_ne e]
  have cont : ∀ h', MW A X R I (up (up (up S 27 d) 25 []) 83 d) (up F1 26 0) h' → XX g MX10_digest ({ frames := 3, cells := 0, slots := 0, locals := 74 } : Room) Post 0 0 50 [(2, .int (nI 32)), (1, .int (nI (L 0).length)), (0, .ref (A 96))] [] h' := by
    intro h5 w5
    refine X_aload_n (pc := 50) 2 dX10_digest_50 rfl rfl ?_
    refine X_bipush (pc := 51) (x := 32) dX10_digest_51 (by decide) ?_
    refine X_putfield (pc := 53) dX10_digest_53 fp_X10_606_11 (fun e => by cases e) (MW.ob w5) rfl rfl (Nat.le_of_ble_eq_true rfl) ?_
    have w6 := w5.setF84 (v := 32)
    refine X_bipush (pc := 56) (x := 32) dX10_digest_56 (by decide) ?_
    refine X_ireturn (pc := 58) dX10_digest_58 rfl (Nat.le_of_ble_eq_true rfl) (Nat.le_of_ble_eq_true rfl) ?_
    subst hPost
    rw [hsd]
    have ms3 := ms2.out (wf1 wf (by decide)) d
    rw [hdl, up_comm _ _ _ (show 81 ≠ 83 by decide)] at ms3
    exact ⟨_, rfl, rfl, MRep.of w6 ms3⟩
  have loop1 : ∀ m i, i + m = 32 → ∀ h', MW A X R I (up (up (up S 27 d) 25 []) 83 ((List.range i).map fun j => (d).getD j 0)) (up F1 26 0) h' →
      XX g MX10_digest ({ frames := 3, cells := 0, slots := 0, locals := 74 } : Room) Post 0 0 26 [(2, .int (nI i)), (1, .int (nI (L 0).length)), (0, .ref (A 96))] [] h' := by
    intro m
    induction m with
    | zero =>
      intro i hi h' w'
      have e : i = 32 := by omega
      subst e
      rw [map_getD hdl] at w'
      refine X_iload_n (pc := 26) 0 dX10_digest_26 rfl rfl ?_
      refine X_bipush (pc := 27) (x := 32) dX10_digest_27 (by decide) ?_
      refine X_cge (a := 32) (b := 32) (pc := 29) 50 dX10_digest_29 (by decide) (by omega) (by omega) (fun _ => ?_) (fun c => absurd c (by omega))
      exact cont h' w'
    | succ m ih =>
      intro i hi h' w'
      have ci : (nI i).toNatClampNeg = i := nI_clamp (by omega)
      have b1 : vp_in (nI i) 2900 := vp_in_nI (by omega) (by omega)
      have b2 : vp_in (nI i) 48 := vp_in_nI (by omega) (by omega)
      obtain ⟨f27, c27, p27, -⟩ := w'.s 27 rfl
      obtain ⟨f55, c55, p55, -⟩ := w'.s 83 rfl
      rw [up_ne (by decide), t27] at p27
      rw [up_same] at p55
      have hli : ((List.range i).map fun j => (d).getD j 0).length = i := by rw [List.length_map, List.length_range]
      refine X_iload_n (pc := 26) 0 dX10_digest_26 rfl rfl ?_
      refine X_bipush (pc := 27) (x := 32) dX10_digest_27 (by decide) ?_
      refine X_cge (b := 32) (pc := 29) 50 dX10_digest_29 (by decide) (by omega) (by omega) (fun c => absurd c (by omega)) (fun _ => ?_)
      refine X_aload_n (pc := 32) 2 dX10_digest_32 rfl rfl ?_
      refine X_getfield (pc := 33) dX10_digest_33 fg_X10_537_11 (MW.ob w') mf_83 ?_
      refine X_iload_n (pc := 36) 0 dX10_digest_36 rfl rfl ?_
      refine X_aload_n (pc := 37) 2 dX10_digest_37 rfl rfl ?_
      refine X_getfield (pc := 38) dX10_digest_38 fg_X10_283_11 (MW.ob w') mf_27 ?_
      refine X_iload_n (pc := 41) 0 dX10_digest_41 rfl rfl ?_
      refine X_baload (pc := 42) dX10_digest_42 c27 b2 ?_
      refine X_bastore (pc := 43) dX10_digest_43 c55 b1 ?_
      rw [ci, p27 i (by have := hdl; omega), (hdB).nar]
      have w2 := w'.setS 83 rfl (PL_snoc (x := (d).getD i 0) p55) (by rw [List.length_append, hli]; exact (show i + 1 ≤ 2900 by omega))
      rw [up_up', hli, ← List.map_singleton (f := fun j => (d).getD j 0), ← List.map_append, ← List.range_succ] at w2
      refine X_iinc (pc := 44) (L' := [(2, .int (_ + 1)), (1, .int _), (0, .ref _)]) 0 dX10_digest_44 rfl rfl (Nat.le_of_ble_eq_true rfl) rfl ?_
      refine X_goto (pc := 47) 26 dX10_digest_47 (by decide) ?_
      rw [show nI i + 1 = nI (i + 1) from nI_add i 1]
      exact ih (i + 1) (by omega) _ w2
  refine X_iconst (pc := 24) (x := 0) dX10_digest_24 (by decide) ?_
  refine X_istore_n (pc := 25) (L' := [(2, .int _), (1, .int _), (0, .ref _)]) dX10_digest_25 rfl (Nat.le_of_ble_eq_true rfl) rfl ?_
  exact loop1 32 0 (by omega) h4 (w4.cutS 83 rfl)
end MC4
