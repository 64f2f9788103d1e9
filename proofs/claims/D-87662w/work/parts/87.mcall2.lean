set_option maxRecDepth 100000
/-! the reference: the tape; changes of single things -/
section MC2
variable {A : Nat → Nat} {X : AH} {R R' : Nat → Nat} {I I' : Nat → Nat → Int32} {S S' : Nat → List Int32} {F F' : Nat → Int32} {h : AH} {N : Nat → Nat} {L : Nat → List Int32}
theorem MoS.i {j n mv i : Nat} {f : Nat → Int32} (hi : i < 500) (m : MoS I F j n mv) : MoS (up I i f) F j n mv := by
  rcases m with z | z | ⟨z1, z2, s, z3, z4, z5, z6, z7, z8, z9⟩
  · exact Or.inl z
  · exact Or.inr (Or.inl z)
  · exact Or.inr (Or.inr ⟨z1, z2, s, z3, z4, z5, by rw [up_ne (by omega)]; exact z6, by rw [up_ne (by omega)]; exact z7, by rw [up_ne (by omega)]; exact z8, z9⟩)
theorem ltL {a b : Nat} (ha : a < 2 ^ 63) (hb : b < 2 ^ 63) : lN a < lN b ↔ a < b := by
  rw [Int64.lt_iff_toInt_lt, toInt_u64, toInt_u64, u64_lN (by omega), u64_lN (by omega), if_pos ha, if_pos hb]
  omega
theorem cmpL_gt {a b : Nat} (ha : a < 2 ^ 63) (hb : b < 2 ^ 63) : 0 < lg_cmp (lN a) (lN b) ↔ b < a := by
  unfold lg_cmp
  by_cases c : b < a
  · rw [if_pos (show lN a > lN b from (ltL hb ha).mpr c)]
    exact ⟨fun _ => c, fun _ => by decide⟩
  · rw [if_neg (show ¬ lN a > lN b from fun z => c ((ltL hb ha).mp z))]
    refine ⟨fun z => ?_, fun z => absurd z c⟩
    split at z
    · exact absurd z (by decide)
    · exact absurd z (by decide)
theorem MS.wri (wf : N 0 ≤ 6 ∧ N 1 ≤ 60) (ms : MS N L R I S F) (v : Nat) : MS (up N 2 v) L R I S (up F 77 (nI v)) := by
  obtain ⟨mb, a1, a2, a3, a4, a5, a6, a7, a8, a9, b1, b2, b3, b4, b5, b6, b7, c1, c2⟩ := ms
  refine ⟨?_, ?_, ?_, ?_, ?_, ?_, ?_, ?_, ?_, ?_, ?_, ?_, ?_, ?_, ?_, ?_, ?_, fun k hk => ?_, fun a ha => ?_⟩
  · first | exact mb | exact mb.f (by decide)
  · first | exact a1 | (rw [up_ne (by decide)]; exact a1) | (rw [up_ne (by decide), up_ne (by decide)]; exact a1) | (rw [up_ne (by decide), up_ne (by decide), up_ne (by decide)]; exact a1)
  · first | exact a2 | (rw [up_ne (by decide)]; exact a2) | (rw [up_ne (by decide), up_ne (by decide)]; exact a2) | (rw [up_ne (by decide), up_ne (by decide), up_ne (by decide)]; exact a2)
  · first | exact a3 | (rw [up_ne (by decide)]; exact a3) | (rw [up_ne (by decide), up_ne (by decide)]; exact a3) | (rw [up_ne (by decide), up_ne (by decide), up_ne (by decide)]; exact a3)
  · first | exact a4 | (rw [up_ne (by decide)]; exact a4) | (rw [up_ne (by decide), up_ne (by decide)]; exact a4) | (rw [up_ne (by decide), up_ne (by decide), up_ne (by decide)]; exact a4)
  · first | exact a5 | (rw [up_ne (by decide)]; exact a5) | (rw [up_ne (by decide), up_ne (by decide)]; exact a5) | (rw [up_ne (by decide), up_ne (by decide), up_ne (by decide)]; exact a5)
  · first | exact a6 | (rw [up_ne (by decide)]; exact a6) | (rw [up_ne (by decide), up_ne (by decide)]; exact a6) | (rw [up_ne (by decide), up_ne (by decide), up_ne (by decide)]; exact a6)
  · first | exact a7 | (rw [up_ne (by decide)]; exact a7) | (rw [up_ne (by decide), up_ne (by decide)]; exact a7) | (rw [up_ne (by decide), up_ne (by decide), up_ne (by decide)]; exact a7)
  · first | exact a8 | (rw [up_ne (by decide)]; exact a8) | (rw [up_ne (by decide), up_ne (by decide)]; exact a8) | (rw [up_ne (by decide), up_ne (by decide), up_ne (by decide)]; exact a8)
  · first | exact a9 | (rw [up_ne (by decide)]; exact a9) | (rw [up_ne (by decide), up_ne (by decide)]; exact a9) | (rw [up_ne (by decide), up_ne (by decide), up_ne (by decide)]; exact a9)
  · first | exact b1 | (rw [up_ne (by decide)]; exact b1) | (rw [up_ne (by decide), up_ne (by decide)]; exact b1) | (rw [up_ne (by decide), up_ne (by decide), up_ne (by decide)]; exact b1)
  · first | exact b2 | (rw [up_ne (by decide)]; exact b2) | (rw [up_ne (by decide), up_ne (by decide)]; exact b2) | (rw [up_ne (by decide), up_ne (by decide), up_ne (by decide)]; exact b2)
  · rw [up_same, up_same]
  · first | exact b4 | (rw [up_ne (by decide)]; exact b4) | (rw [up_ne (by decide), up_ne (by decide)]; exact b4) | (rw [up_ne (by decide), up_ne (by decide), up_ne (by decide)]; exact b4)
  · first | exact b5 | (rw [up_ne (by decide)]; exact b5) | (rw [up_ne (by decide), up_ne (by decide)]; exact b5) | (rw [up_ne (by decide), up_ne (by decide), up_ne (by decide)]; exact b5)
  · first | exact b6 | (rw [up_ne (by decide)]; exact b6) | (rw [up_ne (by decide), up_ne (by decide)]; exact b6) | (rw [up_ne (by decide), up_ne (by decide), up_ne (by decide)]; exact b6)
  · first | exact b7 | (rw [up_ne (by decide)]; exact b7) | (rw [up_ne (by decide), up_ne (by decide)]; exact b7) | (rw [up_ne (by decide), up_ne (by decide), up_ne (by decide)]; exact b7)
  · rw [up_ne (by decide)] at hk
    exact ((c1 k hk).f (by decide) (by omega)).n (by decide)
  · rw [up_ne (by decide)] at ha
    exact (c2 a ha).n (by decide)
theorem MS.red (wf : N 0 ≤ 6 ∧ N 1 ≤ 60) (ms : MS N L R I S F) (v : Nat) : MS (up N 4 v) L R I S (up F 79 (nI v)) := by
  obtain ⟨mb, a1, a2, a3, a4, a5, a6, a7, a8, a9, b1, b2, b3, b4, b5, b6, b7, c1, c2⟩ := ms
  refine ⟨?_, ?_, ?_, ?_, ?_, ?_, ?_, ?_, ?_, ?_, ?_, ?_, ?_, ?_, ?_, ?_, ?_, fun k hk => ?_, fun a ha => ?_⟩
  · first | exact mb | exact mb.f (by decide)
  · first | exact a1 | (rw [up_ne (by decide)]; exact a1) | (rw [up_ne (by decide), up_ne (by decide)]; exact a1) | (rw [up_ne (by decide), up_ne (by decide), up_ne (by decide)]; exact a1)
  · first | exact a2 | (rw [up_ne (by decide)]; exact a2) | (rw [up_ne (by decide), up_ne (by decide)]; exact a2) | (rw [up_ne (by decide), up_ne (by decide), up_ne (by decide)]; exact a2)
  · first | exact a3 | (rw [up_ne (by decide)]; exact a3) | (rw [up_ne (by decide), up_ne (by decide)]; exact a3) | (rw [up_ne (by decide), up_ne (by decide), up_ne (by decide)]; exact a3)
  · first | exact a4 | (rw [up_ne (by decide)]; exact a4) | (rw [up_ne (by decide), up_ne (by decide)]; exact a4) | (rw [up_ne (by decide), up_ne (by decide), up_ne (by decide)]; exact a4)
  · first | exact a5 | (rw [up_ne (by decide)]; exact a5) | (rw [up_ne (by decide), up_ne (by decide)]; exact a5) | (rw [up_ne (by decide), up_ne (by decide), up_ne (by decide)]; exact a5)
  · first | exact a6 | (rw [up_ne (by decide)]; exact a6) | (rw [up_ne (by decide), up_ne (by decide)]; exact a6) | (rw [up_ne (by decide), up_ne (by decide), up_ne (by decide)]; exact a6)
  · first | exact a7 | (rw [up_ne (by decide)]; exact a7) | (rw [up_ne (by decide), up_ne (by decide)]; exact a7) | (rw [up_ne (by decide), up_ne (by decide), up_ne (by decide)]; exact a7)
  · first | exact a8 | (rw [up_ne (by decide)]; exact a8) | (rw [up_ne (by decide), up_ne (by decide)]; exact a8) | (rw [up_ne (by decide), up_ne (by decide), up_ne (by decide)]; exact a8)
  · first | exact a9 | (rw [up_ne (by decide)]; exact a9) | (rw [up_ne (by decide), up_ne (by decide)]; exact a9) | (rw [up_ne (by decide), up_ne (by decide), up_ne (by decide)]; exact a9)
  · first | exact b1 | (rw [up_ne (by decide)]; exact b1) | (rw [up_ne (by decide), up_ne (by decide)]; exact b1) | (rw [up_ne (by decide), up_ne (by decide), up_ne (by decide)]; exact b1)
  · first | exact b2 | (rw [up_ne (by decide)]; exact b2) | (rw [up_ne (by decide), up_ne (by decide)]; exact b2) | (rw [up_ne (by decide), up_ne (by decide), up_ne (by decide)]; exact b2)
  · first | exact b3 | (rw [up_ne (by decide)]; exact b3) | (rw [up_ne (by decide), up_ne (by decide)]; exact b3) | (rw [up_ne (by decide), up_ne (by decide), up_ne (by decide)]; exact b3)
  · first | exact b4 | (rw [up_ne (by decide)]; exact b4) | (rw [up_ne (by decide), up_ne (by decide)]; exact b4) | (rw [up_ne (by decide), up_ne (by decide), up_ne (by decide)]; exact b4)
  · rw [up_same, up_same]
  · first | exact b6 | (rw [up_ne (by decide)]; exact b6) | (rw [up_ne (by decide), up_ne (by decide)]; exact b6) | (rw [up_ne (by decide), up_ne (by decide), up_ne (by decide)]; exact b6)
  · first | exact b7 | (rw [up_ne (by decide)]; exact b7) | (rw [up_ne (by decide), up_ne (by decide)]; exact b7) | (rw [up_ne (by decide), up_ne (by decide), up_ne (by decide)]; exact b7)
  · rw [up_ne (by decide)] at hk
    exact ((c1 k hk).f (by decide) (by omega)).n (by decide)
  · rw [up_ne (by decide)] at ha
    exact (c2 a ha).n (by decide)
theorem MS.dwn (wf : N 0 ≤ 6 ∧ N 1 ≤ 60) (ms : MS N L R I S F) (v : Nat) : MS (up N 5 v) L R I S (up F 80 (nI v)) := by
  obtain ⟨mb, a1, a2, a3, a4, a5, a6, a7, a8, a9, b1, b2, b3, b4, b5, b6, b7, c1, c2⟩ := ms
  refine ⟨?_, ?_, ?_, ?_, ?_, ?_, ?_, ?_, ?_, ?_, ?_, ?_, ?_, ?_, ?_, ?_, ?_, fun k hk => ?_, fun a ha => ?_⟩
  · first | exact mb | exact mb.f (by decide)
  · first | exact a1 | (rw [up_ne (by decide)]; exact a1) | (rw [up_ne (by decide), up_ne (by decide)]; exact a1) | (rw [up_ne (by decide), up_ne (by decide), up_ne (by decide)]; exact a1)
  · first | exact a2 | (rw [up_ne (by decide)]; exact a2) | (rw [up_ne (by decide), up_ne (by decide)]; exact a2) | (rw [up_ne (by decide), up_ne (by decide), up_ne (by decide)]; exact a2)
  · first | exact a3 | (rw [up_ne (by decide)]; exact a3) | (rw [up_ne (by decide), up_ne (by decide)]; exact a3) | (rw [up_ne (by decide), up_ne (by decide), up_ne (by decide)]; exact a3)
  · first | exact a4 | (rw [up_ne (by decide)]; exact a4) | (rw [up_ne (by decide), up_ne (by decide)]; exact a4) | (rw [up_ne (by decide), up_ne (by decide), up_ne (by decide)]; exact a4)
  · first | exact a5 | (rw [up_ne (by decide)]; exact a5) | (rw [up_ne (by decide), up_ne (by decide)]; exact a5) | (rw [up_ne (by decide), up_ne (by decide), up_ne (by decide)]; exact a5)
  · first | exact a6 | (rw [up_ne (by decide)]; exact a6) | (rw [up_ne (by decide), up_ne (by decide)]; exact a6) | (rw [up_ne (by decide), up_ne (by decide), up_ne (by decide)]; exact a6)
  · first | exact a7 | (rw [up_ne (by decide)]; exact a7) | (rw [up_ne (by decide), up_ne (by decide)]; exact a7) | (rw [up_ne (by decide), up_ne (by decide), up_ne (by decide)]; exact a7)
  · first | exact a8 | (rw [up_ne (by decide)]; exact a8) | (rw [up_ne (by decide), up_ne (by decide)]; exact a8) | (rw [up_ne (by decide), up_ne (by decide), up_ne (by decide)]; exact a8)
  · first | exact a9 | (rw [up_ne (by decide)]; exact a9) | (rw [up_ne (by decide), up_ne (by decide)]; exact a9) | (rw [up_ne (by decide), up_ne (by decide), up_ne (by decide)]; exact a9)
  · first | exact b1 | (rw [up_ne (by decide)]; exact b1) | (rw [up_ne (by decide), up_ne (by decide)]; exact b1) | (rw [up_ne (by decide), up_ne (by decide), up_ne (by decide)]; exact b1)
  · first | exact b2 | (rw [up_ne (by decide)]; exact b2) | (rw [up_ne (by decide), up_ne (by decide)]; exact b2) | (rw [up_ne (by decide), up_ne (by decide), up_ne (by decide)]; exact b2)
  · first | exact b3 | (rw [up_ne (by decide)]; exact b3) | (rw [up_ne (by decide), up_ne (by decide)]; exact b3) | (rw [up_ne (by decide), up_ne (by decide), up_ne (by decide)]; exact b3)
  · first | exact b4 | (rw [up_ne (by decide)]; exact b4) | (rw [up_ne (by decide), up_ne (by decide)]; exact b4) | (rw [up_ne (by decide), up_ne (by decide), up_ne (by decide)]; exact b4)
  · first | exact b5 | (rw [up_ne (by decide)]; exact b5) | (rw [up_ne (by decide), up_ne (by decide)]; exact b5) | (rw [up_ne (by decide), up_ne (by decide), up_ne (by decide)]; exact b5)
  · rw [up_same, up_same]
  · first | exact b7 | (rw [up_ne (by decide)]; exact b7) | (rw [up_ne (by decide), up_ne (by decide)]; exact b7) | (rw [up_ne (by decide), up_ne (by decide), up_ne (by decide)]; exact b7)
  · rw [up_ne (by decide)] at hk
    exact ((c1 k hk).f (by decide) (by omega)).n (by decide)
  · rw [up_ne (by decide)] at ha
    exact (c2 a ha).n (by decide)
theorem MS.fus (wf : N 0 ≤ 6 ∧ N 1 ≤ 60) (ms : MS N L R I S F) (v : Nat) : MS (up N 3 v) L R I S (up F 78 (nI v - 1)) := by
  obtain ⟨mb, a1, a2, a3, a4, a5, a6, a7, a8, a9, b1, b2, b3, b4, b5, b6, b7, c1, c2⟩ := ms
  refine ⟨?_, ?_, ?_, ?_, ?_, ?_, ?_, ?_, ?_, ?_, ?_, ?_, ?_, ?_, ?_, ?_, ?_, fun k hk => ?_, fun a ha => ?_⟩
  · first | exact mb | exact mb.f (by decide)
  · first | exact a1 | (rw [up_ne (by decide)]; exact a1) | (rw [up_ne (by decide), up_ne (by decide)]; exact a1) | (rw [up_ne (by decide), up_ne (by decide), up_ne (by decide)]; exact a1)
  · first | exact a2 | (rw [up_ne (by decide)]; exact a2) | (rw [up_ne (by decide), up_ne (by decide)]; exact a2) | (rw [up_ne (by decide), up_ne (by decide), up_ne (by decide)]; exact a2)
  · first | exact a3 | (rw [up_ne (by decide)]; exact a3) | (rw [up_ne (by decide), up_ne (by decide)]; exact a3) | (rw [up_ne (by decide), up_ne (by decide), up_ne (by decide)]; exact a3)
  · first | exact a4 | (rw [up_ne (by decide)]; exact a4) | (rw [up_ne (by decide), up_ne (by decide)]; exact a4) | (rw [up_ne (by decide), up_ne (by decide), up_ne (by decide)]; exact a4)
  · first | exact a5 | (rw [up_ne (by decide)]; exact a5) | (rw [up_ne (by decide), up_ne (by decide)]; exact a5) | (rw [up_ne (by decide), up_ne (by decide), up_ne (by decide)]; exact a5)
  · first | exact a6 | (rw [up_ne (by decide)]; exact a6) | (rw [up_ne (by decide), up_ne (by decide)]; exact a6) | (rw [up_ne (by decide), up_ne (by decide), up_ne (by decide)]; exact a6)
  · first | exact a7 | (rw [up_ne (by decide)]; exact a7) | (rw [up_ne (by decide), up_ne (by decide)]; exact a7) | (rw [up_ne (by decide), up_ne (by decide), up_ne (by decide)]; exact a7)
  · first | exact a8 | (rw [up_ne (by decide)]; exact a8) | (rw [up_ne (by decide), up_ne (by decide)]; exact a8) | (rw [up_ne (by decide), up_ne (by decide), up_ne (by decide)]; exact a8)
  · first | exact a9 | (rw [up_ne (by decide)]; exact a9) | (rw [up_ne (by decide), up_ne (by decide)]; exact a9) | (rw [up_ne (by decide), up_ne (by decide), up_ne (by decide)]; exact a9)
  · first | exact b1 | (rw [up_ne (by decide)]; exact b1) | (rw [up_ne (by decide), up_ne (by decide)]; exact b1) | (rw [up_ne (by decide), up_ne (by decide), up_ne (by decide)]; exact b1)
  · first | exact b2 | (rw [up_ne (by decide)]; exact b2) | (rw [up_ne (by decide), up_ne (by decide)]; exact b2) | (rw [up_ne (by decide), up_ne (by decide), up_ne (by decide)]; exact b2)
  · first | exact b3 | (rw [up_ne (by decide)]; exact b3) | (rw [up_ne (by decide), up_ne (by decide)]; exact b3) | (rw [up_ne (by decide), up_ne (by decide), up_ne (by decide)]; exact b3)
  · rw [up_same, up_same]
  · first | exact b5 | (rw [up_ne (by decide)]; exact b5) | (rw [up_ne (by decide), up_ne (by decide)]; exact b5) | (rw [up_ne (by decide), up_ne (by decide), up_ne (by decide)]; exact b5)
  · first | exact b6 | (rw [up_ne (by decide)]; exact b6) | (rw [up_ne (by decide), up_ne (by decide)]; exact b6) | (rw [up_ne (by decide), up_ne (by decide), up_ne (by decide)]; exact b6)
  · first | exact b7 | (rw [up_ne (by decide)]; exact b7) | (rw [up_ne (by decide), up_ne (by decide)]; exact b7) | (rw [up_ne (by decide), up_ne (by decide), up_ne (by decide)]; exact b7)
  · rw [up_ne (by decide)] at hk
    exact ((c1 k hk).f (by decide) (by omega)).n (by decide)
  · rw [up_ne (by decide)] at ha
    exact (c2 a ha).n (by decide)
theorem MS.dsk (wf : N 0 ≤ 6 ∧ N 1 ≤ 60) (ms : MS N L R I S F) (d : List Int32) : MS N (up L 2 d) R I (up S 76 d) F := by
  obtain ⟨mb, a1, a2, a3, a4, a5, a6, a7, a8, a9, b1, b2, b3, b4, b5, b6, b7, c1, c2⟩ := ms
  refine ⟨?_, ?_, ?_, ?_, ?_, ?_, ?_, ?_, ?_, ?_, ?_, ?_, ?_, ?_, ?_, ?_, ?_, fun k hk => ?_, fun a ha => ?_⟩
  · first | exact mb | exact mb.f (by decide)
  · first | exact a1 | (rw [up_ne (by decide)]; exact a1) | (rw [up_ne (by decide), up_ne (by decide)]; exact a1) | (rw [up_ne (by decide), up_ne (by decide), up_ne (by decide)]; exact a1)
  · first | exact a2 | (rw [up_ne (by decide)]; exact a2) | (rw [up_ne (by decide), up_ne (by decide)]; exact a2) | (rw [up_ne (by decide), up_ne (by decide), up_ne (by decide)]; exact a2)
  · first | exact a3 | (rw [up_ne (by decide)]; exact a3) | (rw [up_ne (by decide), up_ne (by decide)]; exact a3) | (rw [up_ne (by decide), up_ne (by decide), up_ne (by decide)]; exact a3)
  · first | exact a4 | (rw [up_ne (by decide)]; exact a4) | (rw [up_ne (by decide), up_ne (by decide)]; exact a4) | (rw [up_ne (by decide), up_ne (by decide), up_ne (by decide)]; exact a4)
  · rw [up_same, up_same]
  · first | exact a6 | (rw [up_ne (by decide)]; exact a6) | (rw [up_ne (by decide), up_ne (by decide)]; exact a6) | (rw [up_ne (by decide), up_ne (by decide), up_ne (by decide)]; exact a6)
  · first | exact a7 | (rw [up_ne (by decide)]; exact a7) | (rw [up_ne (by decide), up_ne (by decide)]; exact a7) | (rw [up_ne (by decide), up_ne (by decide), up_ne (by decide)]; exact a7)
  · first | exact a8 | (rw [up_ne (by decide)]; exact a8) | (rw [up_ne (by decide), up_ne (by decide)]; exact a8) | (rw [up_ne (by decide), up_ne (by decide), up_ne (by decide)]; exact a8)
  · first | exact a9 | (rw [up_ne (by decide)]; exact a9) | (rw [up_ne (by decide), up_ne (by decide)]; exact a9) | (rw [up_ne (by decide), up_ne (by decide), up_ne (by decide)]; exact a9)
  · first | exact b1 | (rw [up_ne (by decide)]; exact b1) | (rw [up_ne (by decide), up_ne (by decide)]; exact b1) | (rw [up_ne (by decide), up_ne (by decide), up_ne (by decide)]; exact b1)
  · first | exact b2 | (rw [up_ne (by decide)]; exact b2) | (rw [up_ne (by decide), up_ne (by decide)]; exact b2) | (rw [up_ne (by decide), up_ne (by decide), up_ne (by decide)]; exact b2)
  · first | exact b3 | (rw [up_ne (by decide)]; exact b3) | (rw [up_ne (by decide), up_ne (by decide)]; exact b3) | (rw [up_ne (by decide), up_ne (by decide), up_ne (by decide)]; exact b3)
  · first | exact b4 | (rw [up_ne (by decide)]; exact b4) | (rw [up_ne (by decide), up_ne (by decide)]; exact b4) | (rw [up_ne (by decide), up_ne (by decide), up_ne (by decide)]; exact b4)
  · first | exact b5 | (rw [up_ne (by decide)]; exact b5) | (rw [up_ne (by decide), up_ne (by decide)]; exact b5) | (rw [up_ne (by decide), up_ne (by decide), up_ne (by decide)]; exact b5)
  · first | exact b6 | (rw [up_ne (by decide)]; exact b6) | (rw [up_ne (by decide), up_ne (by decide)]; exact b6) | (rw [up_ne (by decide), up_ne (by decide), up_ne (by decide)]; exact b6)
  · first | exact b7 | (rw [up_ne (by decide)]; exact b7) | (rw [up_ne (by decide), up_ne (by decide)]; exact b7) | (rw [up_ne (by decide), up_ne (by decide), up_ne (by decide)]; exact b7)
  · have := c1 k hk
    unfold KM at this ⊢
    rw [up_ne (by decide), up_ne (by omega)]
    exact this
  · have := c2 a ha
    unfold AM at this ⊢
    rw [up_ne (by decide), up_ne (by omega)]
    exact this
theorem MS.liv (wf : N 0 ≤ 6 ∧ N 1 ≤ 60) (wfa : ∀ a, a < N 1 → N (200 + a) < N 0) (ms : MS N L R I S F) {i : Nat} (hi : i < N 0) (v : Nat) : MS (up N (110 + i) v) L R (up I 62 (upd (I 62) i (nI v))) S F := by
  obtain ⟨mb, a1, a2, a3, a4, a5, a6, a7, a8, a9, b1, b2, b3, b4, b5, b6, b7, c1, c2⟩ := ms
  refine ⟨?_, ?_, ?_, ?_, ?_, ?_, ?_, ?_, ?_, ?_, ?_, ?_, ?_, ?_, ?_, ?_, ?_, fun k hk => ?_, fun a ha => ?_⟩
  · first | exact mb | exact mb.f (by decide)
  · first | exact a1 | (rw [up_ne (by decide)]; exact a1) | (rw [up_ne (by decide), up_ne (by decide)]; exact a1) | (rw [up_ne (by decide), up_ne (by decide), up_ne (by decide)]; exact a1)
  · first | exact a2 | (rw [up_ne (by decide)]; exact a2) | (rw [up_ne (by decide), up_ne (by decide)]; exact a2) | (rw [up_ne (by decide), up_ne (by decide), up_ne (by decide)]; exact a2)
  · first | exact a3 | (rw [up_ne (by decide)]; exact a3) | (rw [up_ne (by decide), up_ne (by decide)]; exact a3) | (rw [up_ne (by decide), up_ne (by decide), up_ne (by decide)]; exact a3)
  · first | exact a4 | (rw [up_ne (by decide)]; exact a4) | (rw [up_ne (by decide), up_ne (by decide)]; exact a4) | (rw [up_ne (by decide), up_ne (by decide), up_ne (by decide)]; exact a4)
  · first | exact a5 | (rw [up_ne (by decide)]; exact a5) | (rw [up_ne (by decide), up_ne (by decide)]; exact a5) | (rw [up_ne (by decide), up_ne (by decide), up_ne (by decide)]; exact a5)
  · first | exact a6 | (rw [up_ne (by decide)]; exact a6) | (rw [up_ne (by decide), up_ne (by decide)]; exact a6) | (rw [up_ne (by decide), up_ne (by decide), up_ne (by decide)]; exact a6)
  · first | exact a7 | (rw [up_ne (by decide)]; exact a7) | (rw [up_ne (by decide), up_ne (by decide)]; exact a7) | (rw [up_ne (by decide), up_ne (by decide), up_ne (by decide)]; exact a7)
  · first | exact a8 | (rw [up_ne (by decide)]; exact a8) | (rw [up_ne (by decide), up_ne (by decide)]; exact a8) | (rw [up_ne (by decide), up_ne (by decide), up_ne (by decide)]; exact a8)
  · first | exact a9 | (rw [up_ne (by decide)]; exact a9) | (rw [up_ne (by decide), up_ne (by decide)]; exact a9) | (rw [up_ne (by decide), up_ne (by decide), up_ne (by decide)]; exact a9)
  · rw [up_ne (by omega)]; exact b1
  · rw [up_ne (by omega)]; exact b2
  · rw [up_ne (by omega)]; exact b3
  · rw [up_ne (by omega)]; exact b4
  · rw [up_ne (by omega)]; exact b5
  · rw [up_ne (by omega)]; exact b6
  · rw [up_ne (by omega)]; exact b7
  · rw [up_ne (by omega)] at hk
    obtain ⟨k1, k2, k3, k4, k5, k6⟩ := c1 k hk
    have e0 : limN (up N (110 + i) v) k = limN N k := by unfold limN; rw [up_ne (by omega), up_ne (by omega)]
    have iI : ∀ j, j ≠ 62 → (up I 62 (upd (I 62) i (nI v))) j = I j := fun j hj => up_ne hj
    refine ⟨?_, ?_, k3, ?_, fun t => ?_, fun t => ?_⟩
    · rw [iI _ (by decide), up_ne (by omega)]; exact k1
    · rw [up_same]
      by_cases e : k = i
      · subst e; rw [upd_at, up_same]
      · rw [up_ne (by omega)]; exact (if_neg e).trans k2
    · rw [iI _ (by decide), up_ne (by omega)]; exact k4
    · rw [up_ne (by omega)] at t
      obtain ⟨p, q, r⟩ := k5 t
      exact ⟨p, by rw [up_ne (by omega)]; exact q, by rw [iI _ (by omega), up_ne (by omega)]; exact r⟩
    · rw [up_ne (by omega)] at t
      obtain ⟨sh, p1, p2, p3, p4, p5, p6, p7, p8⟩ := k6 t
      refine ⟨sh, p1, ?_, by rw [e0]; exact p3, p4, by rw [e0, up_ne (by omega)]; exact p5, by rw [iI _ (by decide), up_ne (by omega)]; exact p6, by rw [iI _ (by decide), up_ne (by omega)]; exact p7, by rw [e0, iI _ (by omega), up_ne (by omega)]; exact p8⟩
      rw [e0, up_ne (by omega)]
      exact p2.i (by decide)
  · rw [up_ne (by omega)] at ha
    obtain ⟨k1, k2, k3, k4⟩ := c2 a ha
    have hq := wfa a ha
    have e0 : ∀ q, q < N 0 → limN (up N (110 + i) v) q = limN N q := fun q hq => by unfold limN; rw [up_ne (by omega), up_ne (by omega)]
    have iI : ∀ j, j ≠ 62 → (up I 62 (upd (I 62) i (nI v))) j = I j := fun j hj => up_ne hj
    refine ⟨by rw [iI _ (by decide), up_ne (by omega)]; exact k1, by rw [iI _ (by decide), up_ne (by omega)]; exact k2, k3, ?_⟩
    rw [up_ne (show 200 + a ≠ 110 + i by omega), e0 _ hq, iI _ (by omega), up_ne (by omega)]
    exact k4
theorem nn_ex {x : Int32} (h : ¬ x < 0) : ∃ j, j < 2 ^ 31 ∧ x = nI j := by
  refine ⟨u32 x, ?_, (ofNat_u32 x).symm⟩
  apply Nat.lt_of_not_le
  intro c
  apply h
  rw [Int32.lt_iff_toInt_lt, toInt_u32, if_neg (by omega)]
  have := u32_lt x
  have z : (0 : Int32).toInt = 0 := rfl
  omega
theorem wf1 (wf : Wf N L) {i v : Nat} (hi : i ≠ 0 ∧ i ≠ 1) : (up N i v) 0 ≤ 6 ∧ (up N i v) 1 ≤ 60 := ⟨by rw [up_ne (fun e => hi.1 e.symm)]; exact wf.1, by rw [up_ne (fun e => hi.2 e.symm)]; exact wf.2.1⟩
theorem PL_app {f : Nat → Int32} {l : List Int32} {x : Int32} {i : Nat} (h : PL f l) (hi : i = l.length) : PL (upd f i x) (l ++ [x]) := by subst hi; exact PL_snoc h
set_option maxHeartbeats 4000000 in
theorem feedc_ok (g : GX) (wf : Wf N L) (m : MRep N L A X h) (a b c d e : Int32) : MT g MX10_feed ({ frames := 0, cells := 0, slots := 0, locals := 0 } : Room) [.ref (A 96), .int a, .int b, .int c, .int d, .int e] h (RI (MQ3 A X (sFeed N L fun j => if j = 0 then a else if j = 1 then b else if j = 2 then c else if j = 3 then d else e))) := by
  obtain ⟨R, I, S, F, w, ms⟩ := m
  refine MT.of (by decide) (Nat.le_of_ble_eq_true rfl) ?_
  generalize hv : (fun j : Nat => if j = 0 then a else if j = 1 then b else if j = 2 then c else if j = 3 then d else e) = v
  have ms1 := ms.thr ⟨wf.1, wf.2.1⟩ 0
  have hl0 : (L 0).length ≤ 1200 := wf.2.2.2.2.2.2.2.1
  have a1 := ms1.2.1
  have a2 : (up F 0 0) 82 = nI (L 0).length := ms1.2.2.1
  refine X_aload_n (pc := 0) 0 dX10_feed_0 rfl rfl ?_
  refine X_iconst (pc := 1) (x := 0) dX10_feed_1 (by decide) ?_
  refine X_putfield (pc := 2) dX10_feed_2 fp_X10_1_11 (fun e => by cases e) (MW.ob w) rfl rfl (Nat.le_of_ble_eq_true rfl) ?_
  have w1 := w.setF0 (v := 0)
  generalize hset h (A 96) (Ob 11 ((mFl A F).set 0 (.int 0))) = h1 at *
  generalize hF1 : up F 0 0 = F1 at *
  have ms1 : MS (up N 6 0) L R I S F1 := by rw [← hF1]; exact ms1
  refine X_aload_n (pc := 5) 0 dX10_feed_5 rfl rfl ?_
  refine X_getfield (pc := 6) dX10_feed_6 fg_X10_582_11 (MW.ob w1) mf_82 ?_
  refine X_bipush (pc := 9) (x := 20) dX10_feed_9 (by decide) ?_
  refine X_iadd (pc := 11) dX10_feed_11 ?_
  rw [a2, show nI (L 0).length + 20 = nI ((L 0).length + 20) from nI_add _ 20]
  refine X_sipush (pc := 12) (x := 1200) dX10_feed_12 (by decide) ?_
  by_cases c1 : 1200 < (L 0).length + 20
  · refine X_icmp_le (pc := 15) 20 dX10_feed_15 (by decide) (fun z => absurd z (nI_ge (b := (L 0).length + 20) (a := 1200) c1 (by omega))) (fun _ => ?_)
    refine X_iconst (pc := 18) (x := (-1)) dX10_feed_18 (by decide) ?_
    refine X_ireturn (pc := 19) dX10_feed_19 rfl (Nat.le_of_ble_eq_true rfl) (Nat.le_of_ble_eq_true rfl) ?_
    have es : sFeed N L v = (-1, up N 6 0, L) := if_pos c1
    rw [es]
    exact ⟨_, rfl, rfl, _, _, _, _, w1, ms1⟩
  · refine X_icmp_le (pc := 15) 20 dX10_feed_15 (by decide) (fun _ => ?_) (fun z => absurd (nI_le (a := (L 0).length + 20) (b := 1200) (by omega) (by decide)) z)
    have es : sFeed N L v = (nI ((L 0).length + 20), up N 6 0, up L 0 (L 0 ++ b20 v)) := if_neg c1
    have hbd : b20 v = (List.range 20).map fun k => (v (k / 4) >>> (nI (24 - 8 * (k % 4)) &&& 31)).toInt8.toInt32 := rfl
    generalize hPost : (RI (MQ3 A X (sFeed N L v))) = Post
    obtain ⟨f92, c92⟩ := w1.j 92 rfl
    have v0 : vp_in (0 : Int32) 5 := vp_in_nI (n := 0) (by decide) (by decide)
    have v1 : vp_in (1 : Int32) 5 := vp_in_nI (n := 1) (by decide) (by decide)
    have v2 : vp_in (2 : Int32) 5 := vp_in_nI (n := 2) (by decide) (by decide)
    have v3 : vp_in (3 : Int32) 5 := vp_in_nI (n := 3) (by decide) (by decide)
    have v4 : vp_in (4 : Int32) 5 := vp_in_nI (n := 4) (by decide) (by decide)
    have g0 := w1.setJ 92 rfl (upd f92 0 a)
    have g1 := w1.setJ 92 rfl (upd (upd f92 0 a) 1 b)
    have g2 := w1.setJ 92 rfl (upd (upd (upd f92 0 a) 1 b) 2 c)
    have g3 := w1.setJ 92 rfl (upd (upd (upd (upd f92 0 a) 1 b) 2 c) 3 d)
    have g4 := w1.setJ 92 rfl (upd (upd (upd (upd (upd f92 0 a) 1 b) 2 c) 3 d) 4 e)
    refine X_aload_n (pc := 20) 0 dX10_feed_20 rfl rfl ?_
    refine X_getfield (pc := 21) dX10_feed_21 fg_X10_561_11 (MW.ob w1) mf_92 ?_
    refine X_iconst (pc := 24) (x := 0) dX10_feed_24 (by decide) ?_
    refine X_iload_n (pc := 25) 1 dX10_feed_25 rfl rfl ?_
    refine X_iastore (pc := 26) dX10_feed_26 c92 v0 ?_
    refine XX.eqh (h' := hset h1 (A 92) (Ai false 0 5 (upd f92 0 a))) rfl ?_
    refine X_aload_n (pc := 27) 0 dX10_feed_27 rfl rfl ?_
    refine X_getfield (pc := 28) dX10_feed_28 fg_X10_561_11 (MW.ob g0) mf_92 ?_
    refine X_iconst (pc := 31) (x := 1) dX10_feed_31 (by decide) ?_
    refine X_iload_n (pc := 32) 2 dX10_feed_32 rfl rfl ?_
    refine X_iastore (pc := 33) dX10_feed_33 (hset_self _ _ _) v1 ?_
    refine XX.eqh (h' := hset h1 (A 92) (Ai false 0 5 (upd (upd f92 0 a) 1 b))) (by rw [hset_hset] <;> rfl) ?_
    refine X_aload_n (pc := 34) 0 dX10_feed_34 rfl rfl ?_
    refine X_getfield (pc := 35) dX10_feed_35 fg_X10_561_11 (MW.ob g1) mf_92 ?_
    refine X_iconst (pc := 38) (x := 2) dX10_feed_38 (by decide) ?_
    refine X_iload_n (pc := 39) 3 dX10_feed_39 rfl rfl ?_
    refine X_iastore (pc := 40) dX10_feed_40 (hset_self _ _ _) v2 ?_
    refine XX.eqh (h' := hset h1 (A 92) (Ai false 0 5 (upd (upd (upd f92 0 a) 1 b) 2 c))) (by rw [hset_hset] <;> rfl) ?_
    refine X_aload_n (pc := 41) 0 dX10_feed_41 rfl rfl ?_
    refine X_getfield (pc := 42) dX10_feed_42 fg_X10_561_11 (MW.ob g2) mf_92 ?_
    refine X_iconst (pc := 45) (x := 3) dX10_feed_45 (by decide) ?_
    refine X_iload (pc := 46) 4 dX10_feed_46 rfl ?_
    refine X_iastore (pc := 48) dX10_feed_48 (hset_self _ _ _) v3 ?_
    refine XX.eqh (h' := hset h1 (A 92) (Ai false 0 5 (upd (upd (upd (upd f92 0 a) 1 b) 2 c) 3 d))) (by rw [hset_hset] <;> rfl) ?_
    refine X_aload_n (pc := 49) 0 dX10_feed_49 rfl rfl ?_
    refine X_getfield (pc := 50) dX10_feed_50 fg_X10_561_11 (MW.ob g3) mf_92 ?_
    refine X_iconst (pc := 53) (x := 4) dX10_feed_53 (by decide) ?_
    refine X_iload (pc := 54) 5 dX10_feed_54 rfl ?_
    refine X_iastore (pc := 56) dX10_feed_56 (hset_self _ _ _) v4 ?_
    refine XX.eqh (h' := hset h1 (A 92) (Ai false 0 5 (upd (upd (upd (upd (upd f92 0 a) 1 b) 2 c) 3 d) 4 e))) (by rw [hset_hset] <;> rfl) ?_
    have c9 := hset_self h1 (A 92) (Ai false 0 5 (upd (upd (upd (upd (upd f92 0 a) 1 b) 2 c) 3 d) 4 e))
    generalize hset h1 (A 92) (Ai false 0 5 (upd (upd (upd (upd (upd f92 0 a) 1 b) 2 c) 3 d) 4 e)) = h2 at *
    have hfv : ∀ j, j < 5 → (upd (upd (upd (upd (upd f92 0 a) 1 b) 2 c) 3 d) 4 e) j = v j := by
      intro j hj
      obtain rfl | rfl | rfl | rfl | rfl : j = 0 ∨ j = 1 ∨ j = 2 ∨ j = 3 ∨ j = 4 := by omega
      all_goals (rw [← hv]; rfl)
    generalize upd (upd (upd (upd (upd f92 0 a) 1 b) 2 c) 3 d) 4 e = fv at *
    have loop : ∀ m i, i + m = 20 → ∀ h', MW A X R I (up S 81 (L 0 ++ (List.range i).map fun k => (v (k / 4) >>> (nI (24 - 8 * (k % 4)) &&& 31)).toInt8.toInt32)) F1 h' → h' (A 92) = some (Ai false 0 5 fv) →
        XX g MX10_feed ({ frames := 0, cells := 0, slots := 0, locals := 0 } : Room) Post 0 0 60 [(6, .int (nI i)), (0, .ref (A 96)), (1, .int a), (2, .int b), (3, .int c), (4, .int d), (5, .int e)] [] h' := by
      intro m
      induction m with
      | zero =>
        intro i hi h' w' c'
        have ei : i = 20 := by omega
        subst ei
        rw [← hbd] at w'
        refine X_iload (pc := 60) 0 dX10_feed_60 rfl ?_
        refine X_bipush (pc := 62) (x := 20) dX10_feed_62 (by decide) ?_
        refine X_cge (a := 20) (b := 20) (pc := 64) 106 dX10_feed_64 (by decide) (by omega) (by omega) (fun _ => ?_) (fun z => absurd z (by omega))
        refine X_aload_n (pc := 106) 1 dX10_feed_106 rfl rfl ?_
        refine X_dup (pc := 107) dX10_feed_107 rfl ?_
        refine X_getfield (pc := 108) dX10_feed_108 fg_X10_582_11 (MW.ob w') mf_82 ?_
        refine X_bipush (pc := 111) (x := 20) dX10_feed_111 (by decide) ?_
        refine X_iadd (pc := 113) dX10_feed_113 ?_
        rw [a2, show nI (L 0).length + 20 = nI ((L 0).length + 20) from nI_add _ 20]
        refine X_putfield (pc := 114) dX10_feed_114 fp_X10_582_11 (fun e => by cases e) (MW.ob w') rfl rfl (Nat.le_of_ble_eq_true rfl) ?_
        have w2 := w'.setF82 (v := nI ((L 0).length + 20))
        refine X_aload_n (pc := 117) 1 dX10_feed_117 rfl rfl ?_
        refine X_getfield (pc := 118) dX10_feed_118 fg_X10_582_11 (MW.ob w2) mf_82 ?_
        rw [up_same]
        refine X_ireturn (pc := 121) dX10_feed_121 rfl (Nat.le_of_ble_eq_true rfl) (Nat.le_of_ble_eq_true rfl) ?_
        subst hPost
        rw [es]
        have ms2 := ms1.tape (wf1 wf (by decide)) (L 0 ++ b20 v)
        rw [List.length_append, show (b20 v).length = 20 from by rw [hbd, List.length_map, List.length_range]] at ms2
        exact ⟨_, rfl, rfl, _, _, _, _, w2, ms2⟩
      | succ m ih =>
        intro i hi h' w' c'
        have hne : A 92 ≠ A 81 := w'.ne (by decide) (by decide) (by decide)
        obtain ⟨f81, c81, p81, -⟩ := w'.s 81 rfl
        rw [up_same] at p81
        have hli : (L 0 ++ (List.range i).map fun k => (v (k / 4) >>> (nI (24 - 8 * (k % 4)) &&& 31)).toInt8.toInt32).length = (L 0).length + i := by rw [List.length_append, List.length_map, List.length_range]
        have bi : vp_in (nI ((L 0).length + i)) 1208 := vp_in_nI (by omega) (by omega)
        have ci : (nI ((L 0).length + i)).toNatClampNeg = (L 0).length + i := nI_clamp (by omega)
        have b4 : vp_in (nI (i / 4)) 5 := vp_in_nI (by omega) (by omega)
        have c4 : (nI (i / 4)).toNatClampNeg = i / 4 := nI_clamp (by omega)
        refine X_iload (pc := 60) 0 dX10_feed_60 rfl ?_
        refine X_bipush (pc := 62) (x := 20) dX10_feed_62 (by decide) ?_
        refine X_cge (b := 20) (pc := 64) 106 dX10_feed_64 (by decide) (by omega) (by omega) (fun z => absurd z (by omega)) (fun _ => ?_)
        refine X_aload_n (pc := 67) 1 dX10_feed_67 rfl rfl ?_
        refine X_getfield (pc := 68) dX10_feed_68 fg_X10_534_11 (MW.ob w') mf_81 ?_
        refine X_aload_n (pc := 71) 1 dX10_feed_71 rfl rfl ?_
        refine X_getfield (pc := 72) dX10_feed_72 fg_X10_582_11 (MW.ob w') mf_82 ?_
        refine X_iload (pc := 75) 0 dX10_feed_75 rfl ?_
        refine X_iadd (pc := 77) dX10_feed_77 ?_
        rw [a2, nI_add]
        refine X_aload_n (pc := 78) 1 dX10_feed_78 rfl rfl ?_
        refine X_getfield (pc := 79) dX10_feed_79 fg_X10_561_11 (MW.ob w') mf_92 ?_
        refine X_iload (pc := 82) 0 dX10_feed_82 rfl ?_
        refine X_iconst (pc := 84) (x := 4) dX10_feed_84 (by decide) ?_
        refine X_idiv (pc := 85) dX10_feed_85 (show ¬ (4 : Int32) = 0 by decide) ?_
        rw [show nI i / 4 = nI (i / 4) from pk_div (d := 4) (by omega) (by decide) (by decide)]
        refine X_iaload (pc := 86) dX10_feed_86 c' b4 ?_
        refine X_bipush (pc := 87) (x := 24) dX10_feed_87 (by decide) ?_
        refine X_bipush (pc := 89) (x := 8) dX10_feed_89 (by decide) ?_
        refine X_iload (pc := 91) 0 dX10_feed_91 rfl ?_
        refine X_iconst (pc := 93) (x := 4) dX10_feed_93 (by decide) ?_
        refine X_irem (pc := 94) dX10_feed_94 (show ¬ (4 : Int32) = 0 by decide) ?_
        rw [c4, hfv _ (by omega), show nI i - nI i / 4 * 4 = nI (i % 4) from pk_rem (d := 4) (by omega) (by decide) (by decide)]
        refine X_imul (pc := 95) dX10_feed_95 ?_
        refine X_isub (pc := 96) dX10_feed_96 ?_
        rw [show (8 : Int32) * nI (i % 4) = nI (8 * (i % 4)) from pk_mul 8 _, show (24 : Int32) - nI (8 * (i % 4)) = nI (24 - 8 * (i % 4)) from pk_sub (a := 24) (by omega)]
        refine X_ishr (pc := 97) dX10_feed_97 ?_
        refine X_i2b (pc := 98) dX10_feed_98 ?_
        refine X_bastore (pc := 99) dX10_feed_99 c81 bi ?_
        rw [ci, Int8.toInt8_toInt32]
        have w2 := w'.setS 81 rfl (PL_app (x := (v (i / 4) >>> (nI (24 - 8 * (i % 4)) &&& 31)).toInt8.toInt32) p81 hli.symm) (by rw [List.length_append, hli]; exact (show (L 0).length + i + 1 ≤ 1208 by omega))
        rw [up_up', List.append_assoc, ← List.map_singleton (f := fun k => (v (k / 4) >>> (nI (24 - 8 * (k % 4)) &&& 31)).toInt8.toInt32), ← List.map_append, ← List.range_succ] at w2
        refine X_iinc (pc := 100) (L' := [(6, .int (_ + 1)), (0, .ref _), (1, .int _), (2, .int _), (3, .int _), (4, .int _), (5, .int _)]) 0 dX10_feed_100 rfl rfl (Nat.le_of_ble_eq_true rfl) rfl ?_
        refine X_goto (pc := 103) 60 dX10_feed_103 (by decide) ?_
        rw [show nI i + 1 = nI (i + 1) from nI_add i 1]
        exact ih (i + 1) (by omega) _ w2 (by rw [hset_ne hne]; exact c')
    refine X_iconst (pc := 57) (x := 0) dX10_feed_57 (by decide) ?_
    refine X_istore (pc := 58) (L' := [(6, .int _), (0, .ref _), (1, .int _), (2, .int _), (3, .int _), (4, .int _), (5, .int _)]) dX10_feed_58 (Nat.le_of_ble_eq_true rfl) rfl ?_
    refine loop 20 0 (by omega) h2 ?_ c9
    rw [List.range_zero, List.map_nil, List.append_nil, ← a1, up_id]
    exact g4
set_option maxHeartbeats 2000000 in
theorem againc_ok (g : GX) (wf : Wf N L) (m : MRep N L A X h) (fr mn : Int32) : MT g MX10_again ({ frames := 0, cells := 0, slots := 0, locals := 0 } : Room) [.ref (A 96), .int fr, .int mn] h (RI (MQ3 A X (sAgain N L fr mn))) := by
  obtain ⟨R, I, S, F, w, ms⟩ := m
  refine MT.of (by decide) (Nat.le_of_ble_eq_true rfl) ?_
  have ms1 := ms.thr ⟨wf.1, wf.2.1⟩ 0
  have hl0 : (L 0).length ≤ 1200 := wf.2.2.2.2.2.2.2.1
  have hl1 : (L 1).length ≤ 1200 := wf.2.2.2.2.2.2.2.2.1
  have hB1 : IsB (L 1) := wf.2.2.2.2.2.2.2.2.2.2.2.1
  have a1 := ms1.2.1
  have a2 : (up F 0 0) 82 = nI (L 0).length := ms1.2.2.1
  have a3 := ms1.2.2.2.1
  have a4 : (up F 0 0) 84 = nI (L 1).length := ms1.2.2.2.2.1
  generalize hPost : (RI (MQ3 A X (sAgain N L fr mn))) = Post
  refine X_aload_n (pc := 0) 0 dX10_again_0 rfl rfl ?_
  refine X_iconst (pc := 1) (x := 0) dX10_again_1 (by decide) ?_
  refine X_putfield (pc := 2) dX10_again_2 fp_X10_1_11 (fun e => by cases e) (MW.ob w) rfl rfl (Nat.le_of_ble_eq_true rfl) ?_
  have w1 := w.setF0 (v := 0)
  generalize hset h (A 96) (Ob 11 ((mFl A F).set 0 (.int 0))) = h1 at *
  generalize hF1 : up F 0 0 = F1 at *
  have ms1 : MS (up N 6 0) L R I S F1 := by rw [← hF1]; exact ms1
  have no : (fr < 0 ∨ mn < 0 ∨ (L 1).length < fr.toNatClampNeg + mn.toNatClampNeg ∨ 1200 < (L 0).length + mn.toNatClampNeg) → XX g MX10_again ({ frames := 0, cells := 0, slots := 0, locals := 0 } : Room) Post 0 0 39 [(0, .ref (A 96)), (1, .int fr), (2, .int mn)] [] h1 := by
    intro hc
    refine X_iconst (pc := 39) (x := (-1)) dX10_again_39 (by decide) ?_
    refine X_ireturn (pc := 40) dX10_again_40 rfl (Nat.le_of_ble_eq_true rfl) (Nat.le_of_ble_eq_true rfl) ?_
    subst hPost
    have e : sAgain N L fr mn = (-1, up N 6 0, L) := if_pos hc
    rw [e]
    exact ⟨_, rfl, rfl, _, _, _, _, w1, ms1⟩
  refine X_iload_n (pc := 5) 1 dX10_again_5 rfl rfl ?_
  by_cases c1 : fr < 0
  · exact X_if_lt (pc := 6) 39 dX10_again_6 (by decide) (fun _ => no (Or.inl c1)) (fun z => absurd c1 z)
  refine X_if_lt (pc := 6) 39 dX10_again_6 (by decide) (fun z => absurd z c1) (fun _ => ?_)
  refine X_iload_n (pc := 9) 2 dX10_again_9 rfl rfl ?_
  by_cases c2 : mn < 0
  · exact X_if_lt (pc := 10) 39 dX10_again_10 (by decide) (fun _ => no (Or.inr (Or.inl c2))) (fun z => absurd c2 z)
  refine X_if_lt (pc := 10) 39 dX10_again_10 (by decide) (fun z => absurd z c2) (fun _ => ?_)
  obtain ⟨x, hx, rfl⟩ := nn_ex c1
  obtain ⟨y, hy, rfl⟩ := nn_ex c2
  have cx : (nI x).toNatClampNeg = x := nI_clamp hx
  have cy : (nI y).toNatClampNeg = y := nI_clamp hy
  refine X_iload_n (pc := 13) 1 dX10_again_13 rfl rfl ?_
  refine X_i2l (pc := 14) dX10_again_14 ?_
  refine X_iload_n (pc := 15) 2 dX10_again_15 rfl rfl ?_
  refine X_i2l (pc := 16) dX10_again_16 ?_
  rw [nI_l hx, nI_l hy]
  refine X_ladd (pc := 17) dX10_again_17 ?_
  refine X_aload_n (pc := 18) 0 dX10_again_18 rfl rfl ?_
  refine X_getfield (pc := 19) dX10_again_19 fg_X10_606_11 (MW.ob w1) mf_84 ?_
  rw [a4]
  refine X_i2l (pc := 22) dX10_again_22 ?_
  rw [nI_l (by omega), lN_add]
  refine X_lcmp (pc := 23) dX10_again_23 ?_
  have hcmp : 0 < lg_cmp (lN (x + y)) (lN (L 1).length) ↔ (L 1).length < x + y := cmpL_gt (by omega) (by omega)
  by_cases c3 : (L 1).length < x + y
  · exact X_if_gt (pc := 24) 39 dX10_again_24 (by decide) (fun _ => no (Or.inr (Or.inr (Or.inl (by rw [cx, cy]; exact c3))))) (fun z => absurd (hcmp.mpr c3) z)
  have hng : ¬ (0 : Int32) < lg_cmp (lN (x + y)) (lN (L 1).length) := fun z => c3 (hcmp.mp z)
  refine X_if_gt (pc := 24) 39 dX10_again_24 (by decide) (fun z => absurd z hng) (fun _ => ?_)
  refine X_aload_n (pc := 27) 0 dX10_again_27 rfl rfl ?_
  refine X_getfield (pc := 28) dX10_again_28 fg_X10_582_11 (MW.ob w1) mf_82 ?_
  refine X_iload_n (pc := 31) 2 dX10_again_31 rfl rfl ?_
  refine X_iadd (pc := 32) dX10_again_32 ?_
  rw [a2, nI_add]
  refine X_sipush (pc := 33) (x := 1200) dX10_again_33 (by decide) ?_
  by_cases c4 : 1200 < (L 0).length + y
  · exact X_icmp_le (pc := 36) 41 dX10_again_36 (by decide) (fun z => absurd z (nI_ge (a := 1200) c4 (by omega))) (fun _ => no (Or.inr (Or.inr (Or.inr (by rw [cy]; exact c4)))))
  refine X_icmp_le (pc := 36) 41 dX10_again_36 (by decide) (fun _ => ?_) (fun z => absurd (nI_le (b := 1200) (by omega) (by decide)) z)
  have es : sAgain N L (nI x) (nI y) = (nI ((L 0).length + y), up N 6 0, up L 0 (L 0 ++ sub (L 1) x y)) := by
    unfold sAgain
    rw [if_neg, cx, cy]
    rw [cx, cy]
    exact fun z => z.elim c1 fun z => z.elim c2 fun z => z.elim c3 c4
  have loop : ∀ m i, i + m = y → ∀ h', MW A X R I (up S 81 (L 0 ++ (List.range i).map fun k => (L 1).getD (x + k) 0)) F1 h' →
      XX g MX10_again ({ frames := 0, cells := 0, slots := 0, locals := 0 } : Room) Post 0 0 43 [(3, .int (nI i)), (0, .ref (A 96)), (1, .int (nI x)), (2, .int (nI y))] [] h' := by
    intro m
    induction m with
    | zero =>
      intro i hi h' w'
      have ei : i = y := by omega
      subst ei
      refine X_iload_n (pc := 43) 0 dX10_again_43 rfl rfl ?_
      refine X_iload_n (pc := 44) 3 dX10_again_44 rfl rfl ?_
      refine X_cge (pc := 45) 73 dX10_again_45 (by decide) (by omega) (by omega) (fun _ => ?_) (fun z => absurd z (by omega))
      refine X_aload_n (pc := 73) 1 dX10_again_73 rfl rfl ?_
      refine X_dup (pc := 74) dX10_again_74 rfl ?_
      refine X_getfield (pc := 75) dX10_again_75 fg_X10_582_11 (MW.ob w') mf_82 ?_
      refine X_iload_n (pc := 78) 3 dX10_again_78 rfl rfl ?_
      refine X_iadd (pc := 79) dX10_again_79 ?_
      rw [a2, nI_add]
      refine X_putfield (pc := 80) dX10_again_80 fp_X10_582_11 (fun e => by cases e) (MW.ob w') rfl rfl (Nat.le_of_ble_eq_true rfl) ?_
      have w2 := w'.setF82 (v := nI ((L 0).length + i))
      refine X_aload_n (pc := 83) 1 dX10_again_83 rfl rfl ?_
      refine X_getfield (pc := 84) dX10_again_84 fg_X10_582_11 (MW.ob w2) mf_82 ?_
      rw [up_same]
      refine X_ireturn (pc := 87) dX10_again_87 rfl (Nat.le_of_ble_eq_true rfl) (Nat.le_of_ble_eq_true rfl) ?_
      subst hPost
      rw [es]
      have ms2 := ms1.tape (wf1 wf (by decide)) (L 0 ++ sub (L 1) x i)
      rw [List.length_append, sub_len] at ms2
      exact ⟨_, rfl, rfl, _, _, _, _, w2, ms2⟩
    | succ m ih =>
      intro i hi h' w'
      obtain ⟨f81, c81, p81, -⟩ := w'.s 81 rfl
      obtain ⟨f83, c83, p83, -⟩ := w'.s 83 rfl
      rw [up_same] at p81
      rw [up_ne (by decide), a3] at p83
      have hli : (L 0 ++ (List.range i).map fun k => (L 1).getD (x + k) 0).length = (L 0).length + i := by rw [List.length_append, List.length_map, List.length_range]
      have bi : vp_in (nI ((L 0).length + i)) 1208 := vp_in_nI (by omega) (by omega)
      have ci : (nI ((L 0).length + i)).toNatClampNeg = (L 0).length + i := nI_clamp (by omega)
      have b4 : vp_in (nI (x + i)) 2900 := vp_in_nI (by omega) (by omega)
      have c5 : (nI (x + i)).toNatClampNeg = x + i := nI_clamp (by omega)
      refine X_iload_n (pc := 43) 0 dX10_again_43 rfl rfl ?_
      refine X_iload_n (pc := 44) 3 dX10_again_44 rfl rfl ?_
      refine X_cge (pc := 45) 73 dX10_again_45 (by decide) (by omega) (by omega) (fun z => absurd z (by omega)) (fun _ => ?_)
      refine X_aload_n (pc := 48) 1 dX10_again_48 rfl rfl ?_
      refine X_getfield (pc := 49) dX10_again_49 fg_X10_534_11 (MW.ob w') mf_81 ?_
      refine X_aload_n (pc := 52) 1 dX10_again_52 rfl rfl ?_
      refine X_getfield (pc := 53) dX10_again_53 fg_X10_582_11 (MW.ob w') mf_82 ?_
      refine X_iload_n (pc := 56) 0 dX10_again_56 rfl rfl ?_
      refine X_iadd (pc := 57) dX10_again_57 ?_
      rw [a2, nI_add]
      refine X_aload_n (pc := 58) 1 dX10_again_58 rfl rfl ?_
      refine X_getfield (pc := 59) dX10_again_59 fg_X10_537_11 (MW.ob w') mf_83 ?_
      refine X_iload_n (pc := 62) 2 dX10_again_62 rfl rfl ?_
      refine X_iload_n (pc := 63) 0 dX10_again_63 rfl rfl ?_
      refine X_iadd (pc := 64) dX10_again_64 ?_
      rw [nI_add]
      refine X_baload (pc := 65) dX10_again_65 c83 b4 ?_
      refine X_bastore (pc := 66) dX10_again_66 c81 bi ?_
      rw [ci, c5, p83 _ (by omega), hB1.nar]
      have w2 := w'.setS 81 rfl (PL_app (x := (L 1).getD (x + i) 0) p81 hli.symm) (by rw [List.length_append, hli]; exact (show (L 0).length + i + 1 ≤ 1208 by omega))
      rw [up_up', List.append_assoc, ← List.map_singleton (f := fun k => (L 1).getD (x + k) 0), ← List.map_append, ← List.range_succ] at w2
      refine X_iinc (pc := 67) (L' := [(3, .int (_ + 1)), (0, .ref _), (1, .int _), (2, .int _)]) 0 dX10_again_67 rfl rfl (Nat.le_of_ble_eq_true rfl) rfl ?_
      refine X_goto (pc := 70) 43 dX10_again_70 (by decide) ?_
      rw [show nI i + 1 = nI (i + 1) from nI_add i 1]
      exact ih (i + 1) (by omega) _ w2
  refine X_iconst (pc := 41) (x := 0) dX10_again_41 (by decide) ?_
  refine X_istore_n (pc := 42) (L' := [(3, .int _), (0, .ref _), (1, .int _), (2, .int _)]) dX10_again_42 rfl (Nat.le_of_ble_eq_true rfl) rfl ?_
  refine loop y 0 (by omega) h1 ?_
  rw [List.range_zero, List.map_nil, List.append_nil, ← a1, up_id]
  exact w1
end MC2
