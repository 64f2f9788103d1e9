set_option maxRecDepth 100000
/-! the reference's constructor: asked and given -/
section PIl2
variable {g : GX} {Q : Outcome → AH → Prop} {A A0 : Nat → Nat} {P P0 : Nat → AC} {X h : AH} {a0 : Nat}
/-- an array of references of which i are there -/
def fR (A : Nat → Nat) (k i : Nat) : Nat → Option Nat := fun j => if j < i then some (A (k + j)) else none
theorem fR_s {A A' : Nat → Nat} {k i : Nat} (h : ∀ j, j < i → A' (k + j) = A (k + j)) : va_up (fR A k i) i (some (A' (k + i))) = fR A' k (i + 1) := by
  funext j
  show (if j = i then some (A' (k + i)) else fR A k i j) = _
  unfold fR
  by_cases e : j = i
  · rw [if_pos e, if_pos (by omega), e]
  · rw [if_neg e]
    by_cases c : j < i
    · rw [if_pos c, if_pos (by omega), h j c]
    · rw [if_neg c, if_neg (by omega)]
theorem fR_cg {A A' : Nat → Nat} {k i : Nat} (h : ∀ j, j < i → A' (k + j) = A (k + j)) : fR A' k i = fR A k i := by
  funext j
  unfold fR
  by_cases c : j < i
  · rw [if_pos c, if_pos c, h j c]
  · rw [if_neg c, if_neg c]
theorem fR_0 (A : Nat → Nat) (k : Nat) : fR A k 0 = fun _ => none := funext fun j => if_neg (by omega)
theorem KI_sp {d s : Nat} (hs : s < 31) (h : sfO s < d) : KI d (400 + s) := ⟨(kdM_spot hs).2.2, by rw [(own_x hs).2.2]; exact h⟩
theorem KI_md {d s : Nat} (hs : s < 8) (h : mfO s < d) : KI d (500 + s) := ⟨(kdM_mod hs).1, by rw [(own_m hs).1]; exact h⟩
theorem sf9 : ∀ i, i < 8 → sfO (9 + i) = 100 + 2 * i ∧ sfO (17 + i) = 101 + 2 * i := by decide +kernel
theorem sf25 : ∀ i, i < 6 → sfO (25 + i) = 120 + 2 * i ∧ mfO (2 + i) = 121 + 2 * i := by decide +kernel
set_option maxHeartbeats 4000000 in
theorem initL1 (kk : ∀ A P h', PI pd2 A P 116 X h' → A 96 = a0 → (P 48 = Ar 6 8 (fR A 409 8) ∧ P 49 = Ar 6 8 (fR A 417 8)) → (∀ k, k ≠ 96 → k ≠ 48 → k ≠ 49 → P k = P0 k) → (∀ k, KI 100 k → A k = A0 k) → XX g MX10_init ({ frames := 2, cells := 256, slots := 26510, locals := 46 } : Room) Q 220 25556 830 [(1, .int 8), (0, .ref a0)] [] h') :
    ∀ m i, i + m = 8 → ∀ A P h, PI pd2 A P (100 + 2 * i) X h → A 96 = a0 → P 48 = Ar 6 8 (fR A 409 i) → P 49 = Ar 6 8 (fR A 417 i) → (∀ k, k ≠ 96 → k ≠ 48 → k ≠ 49 → P k = P0 k) → (∀ k, KI 100 k → A k = A0 k) →
      XX g MX10_init ({ frames := 2, cells := 256, slots := 26510, locals := 46 } : Room) Q (172 + 6 * i) (25124 + 54 * i) 792 [(1, .int (nI i)), (0, .ref a0)] [] h := by
  intro m
  induction m with
  | zero =>
    intro i hi A P h w ha p48 p49 pk ak
    have ei : i = 8 := by omega
    subst ei
    refine X_iload_n (pc := 792) 0 dX10_init_792 rfl rfl ?_
    refine X_bipush (pc := 793) (x := 8) dX10_init_793 (by decide) ?_
    refine X_cge (a := 8) (b := 8) (pc := 795) 830 dX10_init_795 (by decide) (by omega) (by omega) (fun _ => ?_) (fun z => absurd z (by omega))
    exact kk A P h w ha ⟨p48, p49⟩ pk ak
  | succ m ih =>
    intro i hi A P h w ha p48 p49 pk ak
    have hi8 : i < 8 := by omega
    obtain ⟨s1, s2⟩ := sf9 i hi8
    have bi : vp_in (nI i) 8 := vp_in_nI hi8 (by decide)
    have ci : (nI i).toNatClampNeg = i := nI_clamp (by omega)
    have k48 : ∀ d, 100 ≤ d → KI d 48 := fun d hd => ⟨by decide, Nat.lt_of_lt_of_le (show ownF 48 < 100 by decide) hd⟩
    have k49 : ∀ d, 100 ≤ d → KI d 49 := fun d hd => ⟨by decide, Nat.lt_of_lt_of_le (show ownF 49 < 100 by decide) hd⟩
    have k100 : ∀ d k, 100 ≤ d → KI 100 k → KI d k := fun d k hd hk => ⟨hk.1, Nat.lt_of_lt_of_le hk.2 hd⟩
    have cO := w.ob ha (by omega)
    refine X_iload_n (pc := 792) 0 dX10_init_792 rfl rfl ?_
    refine X_bipush (pc := 793) (x := 8) dX10_init_793 (by decide) ?_
    refine X_cge (b := 8) (pc := 795) 830 dX10_init_795 (by decide) (by omega) (by omega) (fun z => absurd z (by omega)) (fun _ => ?_)
    refine X_aload_n (pc := 798) 1 dX10_init_798 rfl rfl ?_
    refine X_getfield (pc := 799) dX10_init_799 fg_X10_422_11 cO mf_48 ?_
    refine X_iload_n (pc := 802) 0 dX10_init_802 rfl rfl ?_
    refine X_new tyX12 (ci := 13) (fs := [.null, .null, .int 0]) (pc := 803) dX10_init_803 rfl in_X12 tyX12_ok q1354 q1355 q118 dfX12 (show 172 + 6 * i + 1 ≤ 256 by omega) (show 25124 + 54 * i + 3 ≤ 26510 by omega) (fun b hb => ?_)
    refine X_dup (pc := 806) dX10_init_806 rfl ?_
    refine X_iqv (pc := 807) _ dX10_init_807 cin_X10_491 rfl (spotInit_ok g (hset_self _ _ _)) nX12_init (Nat.le_of_ble_eq_true rfl) (Nat.le_of_ble_eq_true rfl) (show 172 + 6 * i + 1 + 2 ≤ 256 by omega) (show 25124 + 54 * i + 3 + 24 ≤ 26510 by omega) (fun h2 q2 => ?_)
    obtain ⟨x, y, hx, hy, exy, rfl⟩ := q2
    obtain ⟨A1, P1, w1, e1, e2, e3, e4⟩ := w.spotL (s := 9 + i) (by omega) s1 (by omega) hb hx hy exy
    clear hb hx hy exy
    generalize hset (hset (hset (hset h b _) x _) y _) b _ = h1 at w1 ⊢
    have c48 := w1.c (k48 _ (by omega)) rfl
    rw [e4 48 (by decide), p48, e3 48 (k48 _ (by omega))] at c48
    have cb := w1.2.1 (400 + (9 + i)) (KI_sp (by omega) (by omega))
    rw [e2] at cb
    have cb : h1 b = some (Ob 13 _) := cb.trans (by
      unfold cel
      rw [if_neg (by
        have : pd2 (400 + (9 + i)) = false := by
          unfold pd2
          simp only [Bool.or_eq_false_iff, beq_eq_false_iff_ne, ne_eq]
          omega
        rw [this]; decide)]
      unfold dO
      rw [if_pos (by omega)])
    refine X_aastore (pc := 810) (D := (RX12, TX12, 3)) dX10_init_810 c48 (fun _ => rfl) cb rfl bi ?_
    rw [ci]
    have aj1 : ∀ j, j < i → A1 (409 + j) = A (409 + j) := fun j hj => by
      rw [show 409 + j = 400 + (9 + j) by omega]
      exact e3 _ (KI_sp (by omega) (by rw [(sf9 j (by omega)).1]; omega))
    have aj2 : ∀ j, j < i → A1 (417 + j) = A (417 + j) := fun j hj => by
      rw [show 417 + j = 400 + (17 + j) by omega]
      exact e3 _ (KI_sp (by omega) (by rw [(sf9 j (by omega)).2]; omega))
    have ef : va_up (fR A 409 i) i (some b) = fR A1 409 (i + 1) := by rw [← e2, show 400 + (9 + i) = 409 + i by omega]; exact fR_s aj1
    rw [ef]
    have w2 := w1.setP (k48 _ (by omega)) rfl (by decide) (Ar 6 8 (fR A1 409 (i + 1)))
    rw [e3 48 (k48 _ (by omega))] at w2
    have p48b : (up P1 48 (Ar 6 8 (fR A1 409 (i + 1)))) 48 = Ar 6 8 (fR A1 409 (i + 1)) := up_same _ _ _
    have p49b : (up P1 48 (Ar 6 8 (fR A1 409 (i + 1)))) 49 = Ar 6 8 (fR A1 417 i) := by rw [up_ne (by decide), e4 49 (by decide), p49, fR_cg aj2]
    have pkb : ∀ k, k ≠ 96 → k ≠ 48 → k ≠ 49 → (up P1 48 (Ar 6 8 (fR A1 409 (i + 1)))) k = P0 k := fun k a b' c => by rw [up_ne b', e4 k a]; exact pk k a b' c
    have akb : ∀ k, KI 100 k → A1 k = A0 k := fun k hk => (e3 k (k100 _ k (by omega) hk)).trans (ak k hk)
    have hab : A1 96 = a0 := e1.trans ha
    generalize up P1 48 (Ar 6 8 (fR A1 409 (i + 1))) = P2 at *
    generalize hset h1 (A 48) _ = h2 at w2 ⊢
    clear e1 e2 e3 e4 aj1 aj2 ef c48 cb w1 w pk ak p48 p49 cO ha
    have cO := w2.ob hab (by omega)
    refine X_aload_n (pc := 811) 1 dX10_init_811 rfl rfl ?_
    refine X_getfield (pc := 812) dX10_init_812 fg_X10_429_11 cO mf_49 ?_
    refine X_iload_n (pc := 815) 0 dX10_init_815 rfl rfl ?_
    refine X_new tyX12 (ci := 13) (fs := [.null, .null, .int 0]) (pc := 816) dX10_init_816 rfl in_X12 tyX12_ok q1354 q1355 q118 dfX12 (show 172 + 6 * i + 1 + 2 + 1 ≤ 256 by omega) (show 25124 + 54 * i + 3 + 24 + 3 ≤ 26510 by omega) (fun b hb => ?_)
    refine X_dup (pc := 819) dX10_init_819 rfl ?_
    refine X_iqv (pc := 820) _ dX10_init_820 cin_X10_491 rfl (spotInit_ok g (hset_self _ _ _)) nX12_init (Nat.le_of_ble_eq_true rfl) (Nat.le_of_ble_eq_true rfl) (show 172 + 6 * i + 1 + 2 + 1 + 2 ≤ 256 by omega) (show 25124 + 54 * i + 3 + 24 + 3 + 24 ≤ 26510 by omega) (fun h3 q3 => ?_)
    obtain ⟨x, y, hx, hy, exy, rfl⟩ := q3
    obtain ⟨A2, P3, w3, e1, e2, e3, e4⟩ := w2.spotL (s := 17 + i) (by omega) (by rw [s2]; omega) (by omega) hb hx hy exy
    clear hb hx hy exy
    generalize hset (hset (hset (hset h2 b _) x _) y _) b _ = h3 at w3 ⊢
    have c49 := w3.c (k49 _ (by omega)) rfl
    rw [e4 49 (by decide), p49b, e3 49 (k49 _ (by omega))] at c49
    have cb := w3.2.1 (400 + (17 + i)) (KI_sp (by omega) (by omega))
    rw [e2] at cb
    have cb : h3 b = some (Ob 13 _) := cb.trans (by
      unfold cel
      rw [if_neg (by
        have : pd2 (400 + (17 + i)) = false := by
          unfold pd2
          simp only [Bool.or_eq_false_iff, beq_eq_false_iff_ne, ne_eq]
          omega
        rw [this]; decide)]
      unfold dO
      rw [if_pos (by omega)])
    refine X_aastore (pc := 823) (D := (RX12, TX12, 3)) dX10_init_823 c49 (fun _ => rfl) cb rfl bi ?_
    rw [ci]
    have aj1 : ∀ j, j < i + 1 → A2 (409 + j) = A1 (409 + j) := fun j hj => by
      rw [show 409 + j = 400 + (9 + j) by omega]
      exact e3 _ (KI_sp (by omega) (by rw [(sf9 j (by omega)).1]; omega))
    have aj2 : ∀ j, j < i → A2 (417 + j) = A1 (417 + j) := fun j hj => by
      rw [show 417 + j = 400 + (17 + j) by omega]
      exact e3 _ (KI_sp (by omega) (by rw [(sf9 j (by omega)).2]; omega))
    have ef : va_up (fR A1 417 i) i (some b) = fR A2 417 (i + 1) := by rw [← e2, show 400 + (17 + i) = 417 + i by omega]; exact fR_s aj2
    rw [ef]
    have w4 := w3.setP (k49 _ (by omega)) rfl (by decide) (Ar 6 8 (fR A2 417 (i + 1)))
    rw [e3 49 (k49 _ (by omega))] at w4
    refine X_iinc (pc := 824) (L' := [(1, .int (_ + 1)), (0, .ref _)]) 0 dX10_init_824 rfl rfl (Nat.le_of_ble_eq_true rfl) rfl ?_
    refine X_goto (pc := 827) 792 dX10_init_827 (by decide) ?_
    rw [show nI i + 1 = nI (i + 1) from nI_add i 1]
    have ih := ih (i + 1) (by omega) A2 _ _ w4 (e1.trans hab) (by rw [up_ne (by decide), e4 48 (by decide), p48b, fR_cg aj1]) (up_same _ _ _) (fun k a b' c => by rw [up_ne c, e4 k a]; exact pkb k a b' c) (fun k hk => (e3 k (k100 _ k (by omega) hk)).trans (akb k hk))
    rw [show 172 + 6 * (i + 1) = 172 + 6 * i + 1 + 2 + 1 + 2 by omega, show 25124 + 54 * (i + 1) = 25124 + 54 * i + 3 + 24 + 3 + 24 by omega] at ih
    exact ih
end PIl2
