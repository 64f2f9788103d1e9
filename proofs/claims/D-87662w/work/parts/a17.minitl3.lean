set_option maxRecDepth 100000
/-! the reference's constructor: publics and moduli -/
section PIl3
variable {g : GX} {Q : Outcome → AH → Prop} {A A0 : Nat → Nat} {P P0 : Nat → AC} {X h : AH} {a0 : Nat}
set_option maxHeartbeats 4000000 in
theorem initL2 (kk : ∀ A P h', PI pd2 A P 132 X h' → A 96 = a0 → (P 65 = Ar 6 6 (fR A 425 6) ∧ P 66 = Ar 7 6 (fR A 502 6)) → (∀ k, k ≠ 96 → k ≠ 65 → k ≠ 66 → P k = P0 k) → (∀ k, KI 120 k → A k = A0 k) → XX g MX10_init ({ frames := 2, cells := 256, slots := 26510, locals := 46 } : Room) Q 256 26510 870 [(1, .int 6), (0, .ref a0)] [] h') :
    ∀ m i, i + m = 6 → ∀ A P h, PI pd2 A P (120 + 2 * i) X h → A 96 = a0 → P 65 = Ar 6 6 (fR A 425 i) → P 66 = Ar 7 6 (fR A 502 i) → (∀ k, k ≠ 96 → k ≠ 65 → k ≠ 66 → P k = P0 k) → (∀ k, KI 120 k → A k = A0 k) →
      XX g MX10_init ({ frames := 2, cells := 256, slots := 26510, locals := 46 } : Room) Q (220 + 6 * i) (25556 + 159 * i) 832 [(1, .int (nI i)), (0, .ref a0)] [] h := by
  intro m
  induction m with
  | zero =>
    intro i hi A P h w ha p65 p66 pk ak
    have ei : i = 6 := by omega
    subst ei
    refine X_iload_n (pc := 832) 0 dX10_init_832 rfl rfl ?_
    refine X_bipush (pc := 833) (x := 6) dX10_init_833 (by decide) ?_
    refine X_cge (a := 6) (b := 6) (pc := 835) 870 dX10_init_835 (by decide) (by omega) (by omega) (fun _ => ?_) (fun z => absurd z (by omega))
    exact kk A P h w ha ⟨p65, p66⟩ pk ak
  | succ m ih =>
    intro i hi A P h w ha p65 p66 pk ak
    have hi8 : i < 6 := by omega
    obtain ⟨s1, s2⟩ := sf25 i hi8
    have bi : vp_in (nI i) 6 := vp_in_nI hi8 (by decide)
    have ci : (nI i).toNatClampNeg = i := nI_clamp (by omega)
    have k65 : ∀ d, 100 ≤ d → KI d 65 := fun d hd => ⟨by decide, Nat.lt_of_lt_of_le (show ownF 65 < 100 by decide) hd⟩
    have k66 : ∀ d, 100 ≤ d → KI d 66 := fun d hd => ⟨by decide, Nat.lt_of_lt_of_le (show ownF 66 < 100 by decide) hd⟩
    have k100 : ∀ d k, 120 ≤ d → KI 120 k → KI d k := fun d k hd hk => ⟨hk.1, Nat.lt_of_lt_of_le hk.2 hd⟩
    have cO := w.ob ha (by omega)
    refine X_iload_n (pc := 832) 0 dX10_init_832 rfl rfl ?_
    refine X_bipush (pc := 833) (x := 6) dX10_init_833 (by decide) ?_
    refine X_cge (b := 6) (pc := 835) 870 dX10_init_835 (by decide) (by omega) (by omega) (fun z => absurd z (by omega)) (fun _ => ?_)
    refine X_aload_n (pc := 838) 1 dX10_init_838 rfl rfl ?_
    refine X_getfield (pc := 839) dX10_init_839 fg_X10_458_11 cO mf_65 ?_
    refine X_iload_n (pc := 842) 0 dX10_init_842 rfl rfl ?_
    refine X_new tyX12 (ci := 13) (fs := [.null, .null, .int 0]) (pc := 843) dX10_init_843 rfl in_X12 tyX12_ok q1354 q1355 q118 dfX12 (show 220 + 6 * i + 1 ≤ 256 by omega) (show 25556 + 159 * i + 3 ≤ 26510 by omega) (fun b hb => ?_)
    refine X_dup (pc := 846) dX10_init_846 rfl ?_
    refine X_iqv (pc := 847) _ dX10_init_847 cin_X10_491 rfl (spotInit_ok g (hset_self _ _ _)) nX12_init (Nat.le_of_ble_eq_true rfl) (Nat.le_of_ble_eq_true rfl) (show 220 + 6 * i + 1 + 2 ≤ 256 by omega) (show 25556 + 159 * i + 3 + 24 ≤ 26510 by omega) (fun h2 q2 => ?_)
    obtain ⟨x, y, hx, hy, exy, rfl⟩ := q2
    obtain ⟨A1, P1, w1, e1, e2, e3, e4⟩ := w.spotL (s := 25 + i) (by omega) s1 (by omega) hb hx hy exy
    clear hb hx hy exy
    generalize hset (hset (hset (hset h b _) x _) y _) b _ = h1 at w1 ⊢
    have c65 := w1.c (k65 _ (by omega)) rfl
    rw [e4 65 (by decide), p65, e3 65 (k65 _ (by omega))] at c65
    have cb := w1.2.1 (400 + (25 + i)) (KI_sp (by omega) (by omega))
    rw [e2] at cb
    have cb : h1 b = some (Ob 13 _) := cb.trans (by
      unfold cel
      rw [if_neg (by
        have : pd2 (400 + (25 + i)) = false := by
          unfold pd2
          simp only [Bool.or_eq_false_iff, beq_eq_false_iff_ne, ne_eq]
          omega
        rw [this]; decide)]
      unfold dO
      rw [if_pos (by omega)])
    refine X_aastore (pc := 850) (D := (RX12, TX12, 3)) dX10_init_850 c65 (fun _ => rfl) cb rfl bi ?_
    rw [ci]
    have aj1 : ∀ j, j < i → A1 (425 + j) = A (425 + j) := fun j hj => by
      rw [show 425 + j = 400 + (25 + j) by omega]
      exact e3 _ (KI_sp (by omega) (by rw [(sf25 j (by omega)).1]; omega))
    have aj2 : ∀ j, j < i → A1 (502 + j) = A (502 + j) := fun j hj => by
      rw [show 502 + j = 500 + (2 + j) by omega]
      exact e3 _ (KI_md (by omega) (by rw [(sf25 j (by omega)).2]; omega))
    have ef : va_up (fR A 425 i) i (some b) = fR A1 425 (i + 1) := by rw [← e2, show 400 + (25 + i) = 425 + i by omega]; exact fR_s aj1
    rw [ef]
    have w2 := w1.setP (k65 _ (by omega)) rfl (by decide) (Ar 6 6 (fR A1 425 (i + 1)))
    rw [e3 65 (k65 _ (by omega))] at w2
    have p65b : (up P1 65 (Ar 6 6 (fR A1 425 (i + 1)))) 65 = Ar 6 6 (fR A1 425 (i + 1)) := up_same _ _ _
    have p66b : (up P1 65 (Ar 6 6 (fR A1 425 (i + 1)))) 66 = Ar 7 6 (fR A1 502 i) := by rw [up_ne (by decide), e4 66 (by decide), p66, fR_cg aj2]
    have pkb : ∀ k, k ≠ 96 → k ≠ 65 → k ≠ 66 → (up P1 65 (Ar 6 6 (fR A1 425 (i + 1)))) k = P0 k := fun k a b' c => by rw [up_ne b', e4 k a]; exact pk k a b' c
    have akb : ∀ k, KI 120 k → A1 k = A0 k := fun k hk => (e3 k (k100 _ k (by omega) hk)).trans (ak k hk)
    have hab : A1 96 = a0 := e1.trans ha
    generalize up P1 65 (Ar 6 6 (fR A1 425 (i + 1))) = P2 at *
    generalize hset h1 (A 65) _ = h2 at w2 ⊢
    clear e1 e2 e3 e4 aj1 aj2 ef c65 cb w1 w pk ak p65 p66 cO ha
    have cO := w2.ob hab (by omega)
    refine X_aload_n (pc := 851) 1 dX10_init_851 rfl rfl ?_
    refine X_getfield (pc := 852) dX10_init_852 fg_X10_503_11 cO mf_66 ?_
    refine X_iload_n (pc := 855) 0 dX10_init_855 rfl rfl ?_
    refine X_new tyX11 (ci := 12) (fs := [.null, .null, .int 0, .int 0]) (pc := 856) dX10_init_856 rfl in_X11 tyX11_ok q1331 q1332 q117 dfX11 (show 220 + 6 * i + 1 + 2 + 1 ≤ 256 by omega) (show 25556 + 159 * i + 3 + 24 + 4 ≤ 26510 by omega) (fun b hb => ?_)
    refine X_dup (pc := 859) dX10_init_859 rfl ?_
    refine X_iqv (pc := 860) _ dX10_init_860 cin_X10_490 rfl (modInit_ok g (hset_self _ _ _)) nX11_init (Nat.le_of_ble_eq_true rfl) (Nat.le_of_ble_eq_true rfl) (show 220 + 6 * i + 1 + 2 + 1 + 2 ≤ 256 by omega) (show 25556 + 159 * i + 3 + 24 + 4 + 128 ≤ 26510 by omega) (fun h3 q3 => ?_)
    obtain ⟨x, y, hx, hy, exy, rfl⟩ := q3
    obtain ⟨A2, P3, w3, e1, e2, e3, e4⟩ := w2.moduL (s := 2 + i) (by omega) (by rw [s2]; omega) (by omega) hb hx hy exy
    clear hb hx hy exy
    generalize hset (hset (hset (hset h2 b _) x _) y _) b _ = h3 at w3 ⊢
    have c66 := w3.c (k66 _ (by omega)) rfl
    rw [e4 66 (by decide), p66b, e3 66 (k66 _ (by omega))] at c66
    have cb := w3.2.1 (500 + (2 + i)) (KI_md (by omega) (by omega))
    rw [e2] at cb
    have cb : h3 b = some (Ob 12 _) := cb.trans (by
      unfold cel
      rw [if_neg (by
        have : pd2 (500 + (2 + i)) = false := by
          unfold pd2
          simp only [Bool.or_eq_false_iff, beq_eq_false_iff_ne, ne_eq]
          omega
        rw [this]; decide)]
      unfold dO
      rw [if_neg (by omega), if_pos (by omega)])
    refine X_aastore (pc := 863) (D := (RX11, TX11, 4)) dX10_init_863 c66 (fun _ => rfl) cb rfl bi ?_
    rw [ci]
    have aj1 : ∀ j, j < i + 1 → A2 (425 + j) = A1 (425 + j) := fun j hj => by
      rw [show 425 + j = 400 + (25 + j) by omega]
      exact e3 _ (KI_sp (by omega) (by rw [(sf25 j (by omega)).1]; omega))
    have aj2 : ∀ j, j < i → A2 (502 + j) = A1 (502 + j) := fun j hj => by
      rw [show 502 + j = 500 + (2 + j) by omega]
      exact e3 _ (KI_md (by omega) (by rw [(sf25 j (by omega)).2]; omega))
    have ef : va_up (fR A1 502 i) i (some b) = fR A2 502 (i + 1) := by rw [← e2, show 500 + (2 + i) = 502 + i by omega]; exact fR_s aj2
    rw [ef]
    have w4 := w3.setP (k66 _ (by omega)) rfl (by decide) (Ar 7 6 (fR A2 502 (i + 1)))
    rw [e3 66 (k66 _ (by omega))] at w4
    refine X_iinc (pc := 864) (L' := [(1, .int (_ + 1)), (0, .ref _)]) 0 dX10_init_864 rfl rfl (Nat.le_of_ble_eq_true rfl) rfl ?_
    refine X_goto (pc := 867) 832 dX10_init_867 (by decide) ?_
    rw [show nI i + 1 = nI (i + 1) from nI_add i 1]
    have ih := ih (i + 1) (by omega) A2 _ _ w4 (e1.trans hab) (by rw [up_ne (by decide), e4 65 (by decide), p65b, fR_cg aj1]) (up_same _ _ _) (fun k a b' c => by rw [up_ne c, e4 k a]; exact pkb k a b' c) (fun k hk => (e3 k (k100 _ k (by omega) hk)).trans (akb k hk))
    rw [show 220 + 6 * (i + 1) = 220 + 6 * i + 1 + 2 + 1 + 2 by omega, show 25556 + 159 * (i + 1) = 25556 + 159 * i + 3 + 24 + 4 + 128 by omega] at ih
    exact ih
end PIl3
