set_option maxRecDepth 100000
/-! the reference's constructor: the two moduli and the base point -/
def pd2 (k : Nat) : Bool := k == 96 || k == 500 || k == 501 || k == 510 || k == 511 || k == 520 || k == 521 || k == 200 || k == 300 || k == 48 || k == 49 || k == 65 || k == 66
abbrev gP (j : Nat) : Int32 := tP.getD j 0
abbrev gQ (j : Nat) : Int32 := tQ.getD j 0
abbrev gGX (j : Nat) : Int32 := tGX.getD j 0
abbrev gGY (j : Nat) : Int32 := tGY.getD j 0
theorem hMod_hset {h : AH} {b m hi : Nat} {fm fh : Nat → Int32} {n s : Int32} : hMod h b m hi fm fh n s = hset (hset (hset h hi (Ai false 0 64 fh)) m (Ai false 0 64 fm)) b (Ob 12 [.ref m, .ref hi, .int n, .int s]) := by
  funext q
  unfold hMod hset
  rfl
section PIm
variable {pd : Nat → Bool} {A : Nat → Nat} {P : Nat → AC} {d : Nat} {X h : AH} {a0 : Nat}
theorem PI.pend (w : PI pd0 A P d X h) : PI pd2 A (fun k => if k = 96 then P 96 else dO A k) d X h := by
  refine ⟨w.1, fun k hk => ?_, w.2.2.1, (if_pos rfl).trans w.2.2.2.1, rfl⟩
  rw [w.2.1 k hk]
  congr 1
  unfold cel
  by_cases e : k = 96
  · subst e
    rfl
  · rw [if_neg (by show ¬ (pd0 k = true); unfold pd0; rw [beq_iff_eq]; exact e)]
    by_cases c : pd2 k = true
    · rw [if_pos c]
      exact (if_neg e).symm
    · rw [if_neg c]
theorem PI.setP (w : PI pd A P d X h) {k : Nat} (hk : KI d k) (hp : pd k = true) (h96 : k ≠ 96) (c : AC) : PI pd A (up P k c) d X (hset h (A k) c) := by
  refine ⟨w.1, fun j hj => ?_, fun a ha => ?_, by rw [up_ne (fun e => h96 e.symm)]; exact w.2.2.2.1, w.2.2.2.2⟩
  · by_cases e : j = k
    · subst e
      rw [hset_self]
      unfold cel
      rw [if_pos hp, up_same]
    · rw [hset_ne (fun z => e (w.1 j k hj hk z)), w.2.1 j hj]
      unfold cel
      rw [up_ne e]
  · rw [hset_ne (fun z => ha k hk z.symm)]
    exact w.2.2.1 a ha
theorem PI.c (w : PI pd A P d X h) {k : Nat} (hk : KI d k) (hp : pd k = true) : h (A k) = some (P k) := by
  rw [w.2.1 k hk]
  unfold cel
  rw [if_pos hp]
theorem PI.ob (w : PI pd A P d X h) (ha : A 96 = a0) (hd : 96 ≤ d) : h a0 = some (Ob 11 (mFl A F00)) := by
  rw [← ha, w.a96 (by omega), gFl_big hd, gFl_m]
/-- a modulus has been told -/
theorem PI.md (w : PI pd A P d X h) {j : Nat} (hj : j < 8) (k1 : KI d (500 + j)) (k2 : KI d (510 + j)) (k3 : KI d (520 + j)) (p1 : pd (500 + j) = true) (p2 : pd (510 + j) = true) (p3 : pd (520 + j) = true) (fm fh : Nat → Int32) (n s : Int32) :
    PI pd A (up (up (up P (520 + j) (Ai false 0 64 fh)) (510 + j) (Ai false 0 64 fm)) (500 + j) (Ob 12 [.ref (A (510 + j)), .ref (A (520 + j)), .int n, .int s])) d X (hMod h (A (500 + j)) (A (510 + j)) (A (520 + j)) fm fh n s) := by
  rw [hMod_hset]
  exact ((w.setP k3 p3 (by omega) _).setP k2 p2 (by omega) _).setP k1 p1 (by omega) _
variable {g : GX} {Q : Outcome → AH → Prop}
set_option maxHeartbeats 4000000 in
theorem initM (w : PI pd0 A P 96 X h) (ha : A 96 = a0) (kk : ∀ P h', PI pd2 A P 96 X h' → (P 500 = Ob 12 [.ref (A 510), .ref (A 520), .int 12, .int 0] ∧ P 510 = Ai false 0 64 (lo12 gP 12) ∧ P 520 = Ai false 0 64 (hi12 gP 0) ∧ P 501 = Ob 12 [.ref (A 511), .ref (A 521), .int 12, .int 0] ∧ P 511 = Ai false 0 64 (lo12 gQ 12) ∧ P 521 = Ai false 0 64 (hi12 gQ 0) ∧
      P 200 = Ai false 0 12 (cpN 12 gGX fun _ => 0) ∧ P 300 = Ai false 0 12 (cpN 12 gGY fun _ => 0) ∧ P 48 = Ar 6 8 (fun _ => none) ∧ P 49 = Ar 6 8 (fun _ => none) ∧ P 65 = Ar 6 6 (fun _ => none) ∧ P 66 = Ar 7 6 (fun _ => none)) →
      XX g MX10_init ({ frames := 2, cells := 256, slots := 26510, locals := 46 } : Room) Q 172 25124 790 [(0, .ref a0)] [] h') : XX g MX10_init ({ frames := 2, cells := 256, slots := 26510, locals := 46 } : Room) Q 172 25124 736 [(0, .ref a0)] [] h := by
  have w1 := w.pend
  obtain ⟨P1, hP1⟩ : ∃ P1 : Nat → AC, P1 = fun k => if k = 96 then P 96 else dO A k := ⟨_, rfl⟩
  rw [← hP1] at w1
  have f500 : P1 500 = Ob 12 [.ref (A 510), .ref (A 520), .int 0, .int 0] := by rw [hP1]; rfl
  have f501 : P1 501 = Ob 12 [.ref (A 511), .ref (A 521), .int 0, .int 0] := by rw [hP1]; rfl
  have f510 : P1 510 = Ai false 0 64 (fun _ => 0) := by rw [hP1]; rfl
  have f511 : P1 511 = Ai false 0 64 (fun _ => 0) := by rw [hP1]; rfl
  have f520 : P1 520 = Ai false 0 64 (fun _ => 0) := by rw [hP1]; rfl
  have f521 : P1 521 = Ai false 0 64 (fun _ => 0) := by rw [hP1]; rfl
  have f200 : P1 200 = Ai false 0 12 (fun _ => 0) := by rw [hP1]; rfl
  have f300 : P1 300 = Ai false 0 12 (fun _ => 0) := by rw [hP1]; rfl
  have f48 : P1 48 = Ar 6 8 (fun _ => none) := by rw [hP1]; rfl
  have f49 : P1 49 = Ar 6 8 (fun _ => none) := by rw [hP1]; rfl
  have f65 : P1 65 = Ar 6 6 (fun _ => none) := by rw [hP1]; rfl
  have f66 : P1 66 = Ar 7 6 (fun _ => none) := by rw [hP1]; rfl
  clear hP1
  have cO := w1.ob ha (by decide)
  have k500 : KI 96 500 := ⟨by decide, by decide⟩
  have k501 : KI 96 501 := ⟨by decide, by decide⟩
  have k510 : KI 96 510 := ⟨by decide, by decide⟩
  have k511 : KI 96 511 := ⟨by decide, by decide⟩
  have k520 : KI 96 520 := ⟨by decide, by decide⟩
  have k521 : KI 96 521 := ⟨by decide, by decide⟩
  have k200 : KI 96 200 := ⟨by decide, by decide⟩
  have k300 : KI 96 300 := ⟨by decide, by decide⟩
  have k400 : KI 96 400 := ⟨by decide, by decide⟩
  refine X_aload_n (pc := 736) 0 dX10_init_736 rfl rfl ?_
  refine X_getfield (pc := 737) dX10_init_737 fg_X10_61_11 cO mf_9 ?_
  refine X_getstatic (pc := 740) (j := 3) dX10_init_740 q1377 (fun _ => rfl) rfl (fun st_740 hs_740 => ?_)
  refine X_bipush (pc := 743) (x := 12) dX10_init_743 (by decide) ?_
  have c500 := w1.c k500 rfl
  rw [f500] at c500
  have c510 := w1.c k510 rfl
  rw [f510] at c510
  have c520 := w1.c k520 rfl
  rw [f520] at c520
  refine X_ivv (pc := 745) _ dX10_init_745 cv_X10_573_12 c500 rfl (modIs0 g (fa := gP) c500 c510 c520 (fun e => absurd (w1.1 _ _ k520 k510 e) (by decide)) hs_740 rfl) nX11_is (Nat.le_of_ble_eq_true rfl) (Nat.le_of_ble_eq_true rfl) (Nat.le_of_ble_eq_true rfl) (Nat.le_of_ble_eq_true rfl) (fun h2 q2 => ?_)
  subst q2
  have w2 := w1.md (j := 0) (by decide) k500 k510 k520 rfl rfl rfl (lo12 gP 12) (hi12 gP 0) 12 0
  obtain ⟨P2, hP2⟩ : ∃ P2 : Nat → AC, P2 = up (up (up P1 (520 + 0) (Ai false 0 64 (hi12 gP 0))) (510 + 0) (Ai false 0 64 (lo12 gP 12))) (500 + 0) (Ob 12 [.ref (A (510 + 0)), .ref (A (520 + 0)), .int 12, .int 0]) := ⟨_, rfl⟩
  rw [← hP2] at w2
  have o2 : ∀ k, k ≠ 520 → k ≠ 510 → k ≠ 500 → P2 k = P1 k := fun k a b c => by rw [hP2, up_ne c, up_ne b, up_ne a]
  have g500 : P2 500 = Ob 12 [.ref (A 510), .ref (A 520), .int 12, .int 0] := by rw [hP2]; exact up_same _ _ _
  have g510 : P2 510 = Ai false 0 64 (lo12 gP 12) := by rw [hP2, up_ne (by decide)]; exact up_same _ _ _
  have g520 : P2 520 = Ai false 0 64 (hi12 gP 0) := by rw [hP2, up_ne (by decide), up_ne (by decide)]; exact up_same _ _ _
  clear hP2
  generalize hMod h _ _ _ _ _ _ _ = h2 at w2 ⊢
  have cO2 := w2.ob ha (by decide)
  refine X_aload_n (pc := 748) 0 dX10_init_748 rfl rfl ?_
  refine X_getfield (pc := 749) dX10_init_749 fg_X10_360_11 cO2 mf_10 ?_
  refine X_getstatic (pc := 752) (j := 4) dX10_init_752 q1384 (fun _ => rfl) rfl (fun st_752 hs_752 => ?_)
  refine X_bipush (pc := 755) (x := 12) dX10_init_755 (by decide) ?_
  have c501 := w2.c k501 rfl
  rw [o2 501 (by decide) (by decide) (by decide), f501] at c501
  have c511 := w2.c k511 rfl
  rw [o2 511 (by decide) (by decide) (by decide), f511] at c511
  have c521 := w2.c k521 rfl
  rw [o2 521 (by decide) (by decide) (by decide), f521] at c521
  refine X_ivv (pc := 757) _ dX10_init_757 cv_X10_573_12 c501 rfl (modIs0 g (fa := gQ) c501 c511 c521 (fun e => absurd (w2.1 _ _ k521 k511 e) (by decide)) hs_752 rfl) nX11_is (Nat.le_of_ble_eq_true rfl) (Nat.le_of_ble_eq_true rfl) (Nat.le_of_ble_eq_true rfl) (Nat.le_of_ble_eq_true rfl) (fun h3 q3 => ?_)
  subst q3
  have w3 := w2.md (j := 1) (by decide) k501 k511 k521 rfl rfl rfl (lo12 gQ 12) (hi12 gQ 0) 12 0
  obtain ⟨P3, hP3⟩ : ∃ P3 : Nat → AC, P3 = up (up (up P2 (520 + 1) (Ai false 0 64 (hi12 gQ 0))) (510 + 1) (Ai false 0 64 (lo12 gQ 12))) (500 + 1) (Ob 12 [.ref (A (510 + 1)), .ref (A (520 + 1)), .int 12, .int 0]) := ⟨_, rfl⟩
  rw [← hP3] at w3
  have o3 : ∀ k, k ≠ 521 → k ≠ 511 → k ≠ 501 → P3 k = P2 k := fun k a b c => by rw [hP3, up_ne c, up_ne b, up_ne a]
  have g501 : P3 501 = Ob 12 [.ref (A 511), .ref (A 521), .int 12, .int 0] := by rw [hP3]; exact up_same _ _ _
  have g511 : P3 511 = Ai false 0 64 (lo12 gQ 12) := by rw [hP3, up_ne (by decide)]; exact up_same _ _ _
  have g521 : P3 521 = Ai false 0 64 (hi12 gQ 0) := by rw [hP3, up_ne (by decide), up_ne (by decide)]; exact up_same _ _ _
  clear hP3
  generalize hMod h2 _ _ _ _ _ _ _ = h3 at w3 ⊢
  have cO3 := w3.ob ha (by decide)
  have c400 : h3 (A 400) = some (Ob 13 [.ref (A 200), .ref (A 300), .int 0]) := w3.2.1 400 k400
  have c200 := w3.c k200 rfl
  rw [o3 200 (by decide) (by decide) (by decide), o2 200 (by decide) (by decide) (by decide), f200] at c200
  refine X_getstatic (pc := 760) (j := 6) dX10_init_760 q1386 (fun _ => rfl) rfl (fun st_760 hs_760 => ?_)
  refine X_aload_n (pc := 763) 0 dX10_init_763 rfl rfl ?_
  refine X_getfield (pc := 764) dX10_init_764 fg_X10_465_11 cO3 mf_11 ?_
  refine X_getfield (pc := 767) dX10_init_767 fg_X10_146_13 c400 (by first | rfl | assumption) ?_
  refine X_bipush (pc := 770) (x := 12) dX10_init_770 (by decide) ?_
  refine X_isv (pc := 772) _ dX10_init_772 cs_X10_91 rfl (mcopy_ok g (n := 12) hs_760 c200 (by decide) (by decide) ⟨by decide, by decide⟩) nX10_copy (Nat.le_of_ble_eq_true rfl) (Nat.le_of_ble_eq_true rfl) (Nat.le_of_ble_eq_true rfl) (Nat.le_of_ble_eq_true rfl) (fun h4 q4 => ?_)
  subst q4
  have w4 := w3.setP k200 rfl (by decide) (Ai false 0 12 (cpN 12 gGX fun _ => 0))
  have g200 : (up P3 200 (Ai false 0 12 (cpN 12 gGX fun _ => 0))) 200 = Ai false 0 12 (cpN 12 gGX fun _ => 0) := up_same _ _ _
  have o4 : ∀ k, k ≠ 200 → (up P3 200 (Ai false 0 12 (cpN 12 gGX fun _ => 0))) k = P3 k := fun k hk => up_ne hk
  generalize up P3 200 (Ai false 0 12 (cpN 12 gGX fun _ => 0)) = P4 at *
  generalize hset h3 (A 200) _ = h4 at w4 ⊢
  have cO4 := w4.ob ha (by decide)
  have c400 : h4 (A 400) = some (Ob 13 [.ref (A 200), .ref (A 300), .int 0]) := w4.2.1 400 k400
  have c300 := w4.c k300 rfl
  rw [o4 300 (by decide), o3 300 (by decide) (by decide) (by decide), o2 300 (by decide) (by decide) (by decide), f300] at c300
  refine X_getstatic (pc := 775) (j := 7) dX10_init_775 q1391 (fun _ => rfl) rfl (fun st_775 hs_775 => ?_)
  refine X_aload_n (pc := 778) 0 dX10_init_778 rfl rfl ?_
  refine X_getfield (pc := 779) dX10_init_779 fg_X10_465_11 cO4 mf_11 ?_
  refine X_getfield (pc := 782) dX10_init_782 fg_X10_149_13 c400 (by first | rfl | assumption) ?_
  refine X_bipush (pc := 785) (x := 12) dX10_init_785 (by decide) ?_
  refine X_isv (pc := 787) _ dX10_init_787 cs_X10_91 rfl (mcopy_ok g (n := 12) hs_775 c300 (by decide) (by decide) ⟨by decide, by decide⟩) nX10_copy (Nat.le_of_ble_eq_true rfl) (Nat.le_of_ble_eq_true rfl) (Nat.le_of_ble_eq_true rfl) (Nat.le_of_ble_eq_true rfl) (fun h5 q5 => ?_)
  subst q5
  have w5 := w4.setP k300 rfl (by decide) (Ai false 0 12 (cpN 12 gGY fun _ => 0))
  have o5 : ∀ k, k ≠ 300 → (up P4 300 (Ai false 0 12 (cpN 12 gGY fun _ => 0))) k = P4 k := fun k hk => up_ne hk
  have oo : ∀ k, k ≠ 300 → k ≠ 200 → k ≠ 521 → k ≠ 511 → k ≠ 501 → (up P4 300 (Ai false 0 12 (cpN 12 gGY fun _ => 0))) k = P2 k := fun k a b c d e => by rw [o5 k a, o4 k b, o3 k c d e]
  have o6 : ∀ k, k < 100 → (up P4 300 (Ai false 0 12 (cpN 12 gGY fun _ => 0))) k = P1 k := fun k a => by rw [oo k (by omega) (by omega) (by omega) (by omega) (by omega), o2 k (by omega) (by omega) (by omega)]
  have oq : ∀ k, k ≠ 300 → k ≠ 200 → (up P4 300 (Ai false 0 12 (cpN 12 gGY fun _ => 0))) k = P3 k := fun k a b => by rw [o5 k a, o4 k b]
  refine kk _ _ w5 ⟨?_, ?_, ?_, ?_, ?_, ?_, ?_, up_same _ _ _, ?_, ?_, ?_, ?_⟩
  · rw [oo 500 (by decide) (by decide) (by decide) (by decide) (by decide)]; exact g500
  · rw [oo 510 (by decide) (by decide) (by decide) (by decide) (by decide)]; exact g510
  · rw [oo 520 (by decide) (by decide) (by decide) (by decide) (by decide)]; exact g520
  · rw [oq 501 (by decide) (by decide)]; exact g501
  · rw [oq 511 (by decide) (by decide)]; exact g511
  · rw [oq 521 (by decide) (by decide)]; exact g521
  · rw [o5 200 (by decide)]; exact g200
  · rw [o6 48 (by decide)]; exact f48
  · rw [o6 49 (by decide)]; exact f49
  · rw [o6 65 (by decide)]; exact f65
  · rw [o6 66 (by decide)]; exact f66
end PIm
