set_option maxRecDepth 100000
/-! the reference: asking -/
section MRq
variable {A : Nat → Nat} {X : AH} {R R' : Nat → Nat} {I I' : Nat → Nat → Int32} {S S' : Nat → List Int32} {F F' : Nat → Int32} {h : AH} {N : Nat → Nat} {L : Nat → List Int32}
theorem MS.inp (wf : N 0 ≤ 6 ∧ N 1 ≤ 60) (ms : MS N L R I S F) (inp : List Int32) (hB : IsB inp) (h60 : N 1 < 60) (i : Nat) (hi : i ≤ 98) : MS N L R I (up S 73 (lay (S 73) (98 * N 1) inp i)) F := by
  obtain ⟨mb, a1, a2, a3, a4, a5, a6, a7, a8, a9, b1, b2, b3, b4, b5, b6, b7, c1, c2⟩ := ms
  refine ⟨?_, ?_, ?_, ?_, ?_, ?_, ?_, ?_, ?_, ?_, ?_, ?_, ?_, ?_, ?_, ?_, ?_, fun k hk => ?_, fun a ha => ?_⟩
  · first | exact mb | exact mb.f (by decide)
  · first | exact a1 | (rw [up_ne (by decide)]; exact a1) | (rw [up_ne (by decide), up_ne (by decide)]; exact a1) | (rw [up_ne (by decide), up_ne (by decide), up_ne (by decide)]; exact a1)
  · first | exact a2 | (rw [up_ne (by decide)]; exact a2) | (rw [up_ne (by decide), up_ne (by decide)]; exact a2) | (rw [up_ne (by decide), up_ne (by decide), up_ne (by decide)]; exact a2)
  · first | exact a3 | (rw [up_ne (by decide)]; exact a3) | (rw [up_ne (by decide), up_ne (by decide)]; exact a3) | (rw [up_ne (by decide), up_ne (by decide), up_ne (by decide)]; exact a3)
  · first | exact a4 | (rw [up_ne (by decide)]; exact a4) | (rw [up_ne (by decide), up_ne (by decide)]; exact a4) | (rw [up_ne (by decide), up_ne (by decide), up_ne (by decide)]; exact a4)
  · first | exact a5 | (rw [up_ne (by decide)]; exact a5) | (rw [up_ne (by decide), up_ne (by decide)]; exact a5) | (rw [up_ne (by decide), up_ne (by decide), up_ne (by decide)]; exact a5)
  · first | exact a6 | (rw [up_ne (by decide)]; exact a6) | (rw [up_ne (by decide), up_ne (by decide)]; exact a6) | (rw [up_ne (by decide), up_ne (by decide), up_ne (by decide)]; exact a6)
  · first | exact a7 | (rw [up_ne (by decide)]; exact a7) | (rw [up_ne (by decide), up_ne (by decide)]; exact a7) | (rw [up_ne (by decide), up_ne (by decide), up_ne (by decide)]; exact a7)
  · rw [up_same, lay_len]; exact a8
  · rw [up_same]; exact lay_B a9 hB
  · first | exact b1 | (rw [up_ne (by decide)]; exact b1) | (rw [up_ne (by decide), up_ne (by decide)]; exact b1) | (rw [up_ne (by decide), up_ne (by decide), up_ne (by decide)]; exact b1)
  · first | exact b2 | (rw [up_ne (by decide)]; exact b2) | (rw [up_ne (by decide), up_ne (by decide)]; exact b2) | (rw [up_ne (by decide), up_ne (by decide), up_ne (by decide)]; exact b2)
  · first | exact b3 | (rw [up_ne (by decide)]; exact b3) | (rw [up_ne (by decide), up_ne (by decide)]; exact b3) | (rw [up_ne (by decide), up_ne (by decide), up_ne (by decide)]; exact b3)
  · first | exact b4 | (rw [up_ne (by decide)]; exact b4) | (rw [up_ne (by decide), up_ne (by decide)]; exact b4) | (rw [up_ne (by decide), up_ne (by decide), up_ne (by decide)]; exact b4)
  · first | exact b5 | (rw [up_ne (by decide)]; exact b5) | (rw [up_ne (by decide), up_ne (by decide)]; exact b5) | (rw [up_ne (by decide), up_ne (by decide), up_ne (by decide)]; exact b5)
  · first | exact b6 | (rw [up_ne (by decide)]; exact b6) | (rw [up_ne (by decide), up_ne (by decide)]; exact b6) | (rw [up_ne (by decide), up_ne (by decide), up_ne (by decide)]; exact b6)
  · first | exact b7 | (rw [up_ne (by decide)]; exact b7) | (rw [up_ne (by decide), up_ne (by decide)]; exact b7) | (rw [up_ne (by decide), up_ne (by decide), up_ne (by decide)]; exact b7)
  · have := c1 k hk
    unfold KM at this ⊢
    rw [up_ne (by decide)]
    exact this
  · obtain ⟨k1, k2, k3, k4⟩ := c2 a ha
    refine ⟨k1, k2, ?_, k4⟩
    rw [up_same, lay_off (by omega) (by omega)]
    exact k3
theorem MS.i6 (wf : N 0 ≤ 6 ∧ N 1 ≤ 60) (ms : MS N L R I S F) {q : Nat} (hq : N 1 ≤ q) (f : Nat → Int32) : MS N L R (up I (600 + q) f) S F := by
  obtain ⟨mb, a1, a2, a3, a4, a5, a6, a7, a8, a9, b1, b2, b3, b4, b5, b6, b7, c1, c2⟩ := ms
  refine ⟨?_, ?_, ?_, ?_, ?_, ?_, ?_, ?_, ?_, ?_, ?_, ?_, ?_, ?_, ?_, ?_, ?_, fun k hk => ?_, fun a ha => ?_⟩
  · first | exact mb | exact mb.f (by decide)
  · first | exact a1 | (rw [up_ne (by decide)]; exact a1) | (rw [up_ne (by decide), up_ne (by decide)]; exact a1) | (rw [up_ne (by decide), up_ne (by decide), up_ne (by decide)]; exact a1)
  · first | exact a2 | (rw [up_ne (by decide)]; exact a2) | (rw [up_ne (by decide), up_ne (by decide)]; exact a2) | (rw [up_ne (by decide), up_ne (by decide), up_ne (by decide)]; exact a2)
  · first | exact a3 | (rw [up_ne (by decide)]; exact a3) | (rw [up_ne (by decide), up_ne (by decide)]; exact a3) | (rw [up_ne (by decide), up_ne (by decide), up_ne (by decide)]; exact a3)
  · first | exact a4 | (rw [up_ne (by decide)]; exact a4) | (rw [up_ne (by decide), up_ne (by decide)]; exact a4) | (rw [up_ne (by decide), up_ne (by decide), up_ne (by decide)]; exact a4)
  · first | exact a5 | (rw [up_ne (by decide)]; exact a5) | (rw [up_ne (by decide), up_ne (by decide)]; exact a5) | (rw [up_ne (by decide), up_ne (by decide), up_ne (by decide)]; exact a5)
  · first | exact a6 | (rw [up_ne (by decide)]; exact a6) | (rw [up_ne (by decide), up_ne (by decide)]; exact a6) | (rw [up_ne (by decide), up_ne (by decide), up_ne (by decide)]; exact a6)
  · first | exact a7 | (rw [up_ne (by decide)]; exact a7) | (rw [up_ne (by decide), up_ne (by decide)]; exact a7) | (rw [up_ne (by decide), up_ne (by decide), up_ne (by decide)]; exact a7)
  · first | exact a8 | (rw [up_ne (by decide)]; exact a8) | (rw [up_ne (by decide), up_ne (by decide)]; exact a8) | (rw [up_ne (by decide), up_ne (by decide), up_ne (by decide)]; exact a8)
  · first | exact a9 | (rw [up_ne (by decide)]; exact a9) | (rw [up_ne (by decide), up_ne (by decide)]; exact a9) | (rw [up_ne (by decide), up_ne (by decide), up_ne (by decide)]; exact a9)
  · first | exact b1 | (rw [up_ne (by decide)]; exact b1) | (rw [up_ne (by decide), up_ne (by decide)]; exact b1) | (rw [up_ne (by decide), up_ne (by decide), up_ne (by decide)]; exact b1)
  · first | exact b2 | (rw [up_ne (by decide)]; exact b2) | (rw [up_ne (by decide), up_ne (by decide)]; exact b2) | (rw [up_ne (by decide), up_ne (by decide), up_ne (by decide)]; exact b2)
  · first | exact b3 | (rw [up_ne (by decide)]; exact b3) | (rw [up_ne (by decide), up_ne (by decide)]; exact b3) | (rw [up_ne (by decide), up_ne (by decide), up_ne (by decide)]; exact b3)
  · first | exact b4 | (rw [up_ne (by decide)]; exact b4) | (rw [up_ne (by decide), up_ne (by decide)]; exact b4) | (rw [up_ne (by decide), up_ne (by decide), up_ne (by decide)]; exact b4)
  · first | exact b5 | (rw [up_ne (by decide)]; exact b5) | (rw [up_ne (by decide), up_ne (by decide)]; exact b5) | (rw [up_ne (by decide), up_ne (by decide), up_ne (by decide)]; exact b5)
  · first | exact b6 | (rw [up_ne (by decide)]; exact b6) | (rw [up_ne (by decide), up_ne (by decide)]; exact b6) | (rw [up_ne (by decide), up_ne (by decide), up_ne (by decide)]; exact b6)
  · first | exact b7 | (rw [up_ne (by decide)]; exact b7) | (rw [up_ne (by decide), up_ne (by decide)]; exact b7) | (rw [up_ne (by decide), up_ne (by decide), up_ne (by decide)]; exact b7)
  · obtain ⟨k1, k2, k3, k4, k5, k6⟩ := c1 k hk
    have iI : ∀ j, j < 600 → (up I (600 + q) f) j = I j := fun j hj => up_ne (by omega)
    refine ⟨by rw [iI _ (by decide)]; exact k1, by rw [iI _ (by decide)]; exact k2, k3, by rw [iI _ (by decide)]; exact k4, fun t => ?_, fun t => ?_⟩
    · obtain ⟨p, q, r⟩ := k5 t
      exact ⟨p, q, by rw [iI _ (by omega)]; exact r⟩
    · obtain ⟨sh, p1, p2, p3, p4, p5, p6, p7, p8⟩ := k6 t
      refine ⟨sh, p1, ?_, p3, p4, p5, by rw [iI _ (by decide)]; exact p6, by rw [iI _ (by decide)]; exact p7, by rw [iI _ (by omega)]; exact p8⟩
      rcases p2 with ⟨z, -, -⟩ | ⟨z, -, -⟩ | ⟨z1, z2, s, z3, z4, z5, z6, z7, z8, z9⟩
      · omega
      · omega
      · exact Or.inr (Or.inr ⟨z1, z2, s, z3, z4, z5, by rw [iI _ (by omega)]; exact z6, by rw [iI _ (by omega)]; exact z7, by rw [iI _ (by omega)]; exact z8, z9⟩)
  · obtain ⟨k1, k2, k3, k4⟩ := c2 a ha
    exact ⟨by rw [up_ne (by omega)]; exact k1, by rw [up_ne (by omega)]; exact k2, k3, by rw [up_ne (by omega)]; exact k4⟩
theorem MS.adda (wf : N 0 ≤ 6 ∧ N 1 ≤ 60) (ms : MS N L R I S F) (wf2 : Wf N L) (h60 : N 1 < 60) {q b : Nat} {inp : List Int32} (hq : q < N 0) (hin : sub (S 73) (98 * N 1) 98 = inp) (hb : V (limN N q) (I (600 + N 1)) = b) : MS (up (up (up (up N (200 + N 1) q) (300 + N 1) 1) (400 + N 1) b) 1 (N 1 + 1)) (up L (200 + N 1) inp) R (up (up I 71 (upd (I 71) (N 1) (nI q))) 72 (upd (I 72) (N 1) 1)) S (up F 75 (nI (N 1 + 1))) := by
  obtain ⟨mb, a1, a2, a3, a4, a5, a6, a7, a8, a9, b1, b2, b3, b4, b5, b6, b7, c1, c2⟩ := ms
  refine ⟨?_, ?_, ?_, ?_, ?_, ?_, ?_, ?_, ?_, ?_, ?_, ?_, ?_, ?_, ?_, ?_, ?_, fun k hk => ?_, fun a ha => ?_⟩
  · first | exact mb | exact mb.f (by decide)
  · rw [up_ne (by omega)]; exact a1
  · rw [up_ne (by decide), up_ne (by omega)]; exact a2
  · rw [up_ne (by omega)]; exact a3
  · rw [up_ne (by decide), up_ne (by omega)]; exact a4
  · rw [up_ne (by omega)]; exact a5
  · first | exact a6 | (rw [up_ne (by decide)]; exact a6) | (rw [up_ne (by decide), up_ne (by decide)]; exact a6) | (rw [up_ne (by decide), up_ne (by decide), up_ne (by decide)]; exact a6)
  · first | exact a7 | (rw [up_ne (by decide)]; exact a7) | (rw [up_ne (by decide), up_ne (by decide)]; exact a7) | (rw [up_ne (by decide), up_ne (by decide), up_ne (by decide)]; exact a7)
  · first | exact a8 | (rw [up_ne (by decide)]; exact a8) | (rw [up_ne (by decide), up_ne (by decide)]; exact a8) | (rw [up_ne (by decide), up_ne (by decide), up_ne (by decide)]; exact a8)
  · first | exact a9 | (rw [up_ne (by decide)]; exact a9) | (rw [up_ne (by decide), up_ne (by decide)]; exact a9) | (rw [up_ne (by decide), up_ne (by decide), up_ne (by decide)]; exact a9)
  · rw [up_ne (by decide), up_ne (by decide), up_ne (by omega), up_ne (by omega), up_ne (by omega)]; exact b1
  · rw [up_same, up_same]
  · rw [up_ne (by decide), up_ne (by decide), up_ne (by omega), up_ne (by omega), up_ne (by omega)]; exact b3
  · rw [up_ne (by decide), up_ne (by decide), up_ne (by omega), up_ne (by omega), up_ne (by omega)]; exact b4
  · rw [up_ne (by decide), up_ne (by decide), up_ne (by omega), up_ne (by omega), up_ne (by omega)]; exact b5
  · rw [up_ne (by decide), up_ne (by decide), up_ne (by omega), up_ne (by omega), up_ne (by omega)]; exact b6
  · rw [up_ne (by decide), up_ne (by decide), up_ne (by omega), up_ne (by omega), up_ne (by omega)]; exact b7
  · have hk6 : k < 6 := by rw [up_ne (by decide), up_ne (by omega), up_ne (by omega), up_ne (by omega)] at hk; omega
    rw [up_ne (by decide), up_ne (by omega), up_ne (by omega), up_ne (by omega)] at hk
    have nk : ∀ j, j < 200 → j ≠ 1 → (up (up (up (up N (200 + N 1) q) (300 + N 1) 1) (400 + N 1) b) 1 (N 1 + 1)) j = N j := fun j h1 h2 => by rw [up_ne h2, up_ne (by omega), up_ne (by omega), up_ne (by omega)]
    have lk : limN (up (up (up (up N (200 + N 1) q) (300 + N 1) 1) (400 + N 1) b) 1 (N 1 + 1)) k = limN N k := by unfold limN; rw [nk _ (by omega) (by omega), nk _ (by omega) (by omega)]
    have iI : ∀ j, j ≠ 71 → j ≠ 72 → (up (up I 71 (upd (I 71) (N 1) (nI q))) 72 (upd (I 72) (N 1) 1)) j = I j := fun j h1 h2 => by rw [up_ne h2, up_ne h1]
    obtain ⟨k1, k2, k3, k4, k5, k6⟩ := (c1 k hk).f (i := 75) (v := nI (N 1 + 1)) (by decide) hk6
    refine ⟨by rw [iI _ (by decide) (by decide), nk _ (by omega) (by omega)]; exact k1, by rw [iI _ (by decide) (by decide), nk _ (by omega) (by omega)]; exact k2, by rw [up_ne (by omega)]; exact k3, by rw [iI _ (by decide) (by decide), nk _ (by omega) (by omega)]; exact k4, fun t => ?_, fun t => ?_⟩
    · rw [nk _ (by omega) (by omega)] at t
      obtain ⟨p, q, r⟩ := k5 t
      exact ⟨p, by rw [nk _ (by omega) (by omega)]; exact q, by rw [iI _ (by omega) (by omega), nk _ (by omega) (by omega)]; exact r⟩
    · rw [nk _ (by omega) (by omega)] at t
      obtain ⟨sh, p1, p2, p3, p4, p5, p6, p7, p8⟩ := k6 t
      refine ⟨sh, p1, ?_, by rw [lk]; exact p3, p4, by rw [lk, nk _ (by omega) (by omega)]; exact p5, by rw [iI _ (by decide) (by decide), nk _ (by omega) (by omega)]; exact p6, by rw [iI _ (by decide) (by decide), nk _ (by omega) (by omega)]; exact p7, by rw [lk, iI _ (by omega) (by omega), nk _ (by omega) (by omega)]; exact p8⟩
      rw [lk, nk _ (by omega) (by omega)]
      exact (p2.i (by decide)).i (by decide)
  · rw [up_same] at ha
    have nk : ∀ j, j < 200 → j ≠ 1 → (up (up (up (up N (200 + N 1) q) (300 + N 1) 1) (400 + N 1) b) 1 (N 1 + 1)) j = N j := fun j h1 h2 => by rw [up_ne h2, up_ne (by omega), up_ne (by omega), up_ne (by omega)]
    have lk : ∀ k, k < N 0 → limN (up (up (up (up N (200 + N 1) q) (300 + N 1) 1) (400 + N 1) b) 1 (N 1 + 1)) k = limN N k := fun k hk => by unfold limN; rw [nk _ (by omega) (by omega), nk _ (by omega) (by omega)]
    have nk2 : ∀ a, a < N 1 → ∀ B, (B = 200 ∨ B = 300 ∨ B = 400) → (up (up (up (up N (200 + N 1) q) (300 + N 1) 1) (400 + N 1) b) 1 (N 1 + 1)) (B + a) = N (B + a) := fun a ha B hB => by rw [up_ne (by omega), up_ne (by omega), up_ne (by omega), up_ne (by omega)]
    by_cases ea : a = N 1
    · subst ea
      have e2 : (up (up (up (up N (200 + N 1) q) (300 + N 1) 1) (400 + N 1) b) 1 (N 1 + 1)) (200 + N 1) = q := by rw [up_ne (by omega), up_ne (by omega), up_ne (by omega), up_same]
      have e3 : (up (up (up (up N (200 + N 1) q) (300 + N 1) 1) (400 + N 1) b) 1 (N 1 + 1)) (300 + N 1) = 1 := by rw [up_ne (by omega), up_ne (by omega), up_same]
      have e4 : (up (up (up (up N (200 + N 1) q) (300 + N 1) 1) (400 + N 1) b) 1 (N 1 + 1)) (400 + N 1) = b := by rw [up_ne (by omega), up_same]
      refine ⟨by rw [up_ne (by decide), up_same, upd_at, e2], by rw [up_same, upd_at, e3]; rfl, by rw [up_same]; exact hin, ?_⟩
      rw [e2, lk q hq, up_ne (by omega), up_ne (by omega), e4]
      exact hb
    · have hal : a < N 1 := by omega
      have hka := wf2.ka a hal
      obtain ⟨k1, k2, k3, k4⟩ := c2 a hal
      refine ⟨?_, ?_, by rw [up_ne (by omega)]; exact k3, ?_⟩
      · rw [up_ne (by decide), up_same, nk2 a hal 200 (by omega)]; exact (if_neg ea).trans k1
      · rw [up_same, nk2 a hal 300 (by omega)]; exact (if_neg ea).trans k2
      · rw [nk2 a hal 200 (by omega), lk _ hka, up_ne (by omega), up_ne (by omega), nk2 a hal 400 (by omega)]
        exact k4
theorem MS.bfr (wf : N 0 ≤ 6 ∧ N 1 ≤ 60) (ms : MS N L R I S F) {a : Nat} (ha : N 1 ≤ a) (b : BFr R R' I I' S S' F F' a) : MS N L R' I' S' F' := by
  have m1 := ms.i6 wf ha (I' (600 + a))
  refine m1.cg wf b.1 (fun j hj => ?_) b.2.2.1 b.2.2.2
  by_cases e : j = 600 + a
  · rw [e, up_same]
  · rw [up_ne e]; exact b.2.1 j hj e
theorem PL_enc {f : Nat → Int32} {l : List Int32} {x y : Nat} (h : PL f l) : PL (encF x y l.length f) (l ++ encB x y) := by
  intro j hj
  rw [List.length_append, encB_len] at hj
  by_cases c : j < l.length
  · rw [getD_app_lt c, ← h j c]
    unfold encF
    rw [if_neg (by omega)]
    unfold stF
    rw [if_neg (by omega)]
  · rw [List.getD_eq_getElem?_getD, List.getElem?_append_right (by omega), ← List.getD_eq_getElem?_getD]
    unfold encB
    rw [getD_map_range (by omega)]
    exact encF_cg (by omega) (by omega)
theorem PL_sto {f : Nat → Int32} {l : List Int32} {v n : Nat} (h : PL f l) : PL (stF v l.length n f) (l ++ byN v n) := by
  intro j hj
  rw [List.length_append, byN_len] at hj
  unfold stF
  by_cases c : j < l.length
  · rw [getD_app_lt c, ← h j c, if_neg (by omega)]
  · rw [if_pos (by omega), List.getD_eq_getElem?_getD, List.getElem?_append_right (by omega), ← List.getD_eq_getElem?_getD]
    unfold byN
    rw [byte_le (by omega)]
    congr 3
    omega
theorem getD_app_ge {a b : List Int32} {j : Nat} (h : a.length ≤ j) : (a ++ b).getD j 0 = b.getD (j - a.length) 0 := by
  rw [List.getD_eq_getElem?_getD, List.getD_eq_getElem?_getD, List.getElem?_append_right h]
theorem inpB_len (T : List Int32) (k : Nat) (h : (L (100 + k)).length = 32) : (inpB N L T k).length = 98 := by
  unfold inpB
  rw [List.length_append, List.length_append, sub_len, h]
  rfl
theorem inpB_T (T : List Int32) (k i : Nat) (hi : i < 64) : (inpB N L T k).getD (2 + i) 0 = T.getD i 0 := by
  unfold inpB
  rw [List.append_assoc, getD_app_ge (by show 2 ≤ 2 + i; omega), getD_app_lt (by rw [sub_len]; show 2 + i - 2 < 64; omega)]
  unfold sub
  rw [show 2 + i - [tb 0, tb (N (100 + k))].length = i from by show 2 + i - 2 = i; omega, getD_map_range hi, Nat.zero_add]
theorem inpB_id (T : List Int32) (k i : Nat) : (inpB N L T k).getD (66 + i) 0 = (L (100 + k)).getD i 0 := by
  have hl : ([tb 0, tb (N (100 + k))] ++ sub T 0 64).length = 66 := by rw [List.length_append, sub_len]; rfl
  unfold inpB
  rw [getD_app_ge (by rw [hl]; omega), hl, Nat.add_sub_cancel_left]
theorem inpB_B {T : List Int32} {k : Nat} (hT : IsB T) (hk : IsB (L (100 + k))) : IsB (inpB N L T k) := (((IsB.one 0).app (IsB.one _)).app (sub_B hT 0 64)).app hk
set_option maxHeartbeats 16000000 in
theorem requestc_ok (g : GX) (wf : Wf N L) (m : MRep N L A X h) (kx : Int32) : MT g MX10_request ({ frames := 10, cells := 0, slots := 0, locals := 229 } : Room) [.ref (A 96), .int kx] h (RI (MQ3 A X (sRequest N L kx))) := by
  obtain ⟨R, I, S, F, w, ms⟩ := m
  refine MT.of (by decide) (Nat.le_of_ble_eq_true rfl) ?_
  have ms1 := ms.use wf
  have hl0 : (L 0).length ≤ 1200 := wf.2.2.2.2.2.2.2.1
  have hB0 : IsB (L 0) := wf.2.2.2.2.2.2.2.2.2.2.1
  have s81 : S 81 = L 0 := ms.2.1
  have f82 : F 82 = nI (L 0).length := ms.2.2.1
  have esq : sRequest N L kx = if noK N kx ∨ N (110 + kx.toNatClampNeg) = 0 then (-3, up N 6 0, up L 0 []) else sReq (up N 6 0) (up L 0 []) (L 0) kx.toNatClampNeg := rfl
  refine X_aload_n (pc := 0) 0 dX10_request_0 rfl rfl ?_
  refine X_ivi (pc := 1) _ dX10_request_1 cv_X10_612_11 (MW.ob w) rfl (used_ok g w) nX10_used (Nat.le_of_ble_eq_true rfl) (Nat.le_of_ble_eq_true rfl) (Nat.le_of_ble_eq_true rfl) (Nat.le_of_ble_eq_true rfl) (fun r1 h1 q1 => ?_)
  obtain ⟨rfl, w1⟩ := q1
  rw [f82]
  have wf1' := wf.use
  have hnk : noK N kx ↔ noK (up N 6 0) kx := by unfold noK; rw [up_ne (by decide)]
  have hn110 : ∀ j, (up N 6 0) (100 + j) = N (100 + j) := fun j => up_ne (by omega)
  generalize hF1 : up (up F 0 0) 82 0 = F1 at *
  generalize hT : L 0 = T at *
  generalize hN1 : up N 6 0 = N1 at *
  generalize hL1 : up L 0 [] = L1 at *
  have f70 := ms1.f70
  have f75 := ms1.f75
  generalize hPost : RI (MQ3 A X (sRequest N L kx)) = Post
  have r22 : ∀ L', (noK N kx ∨ N (110 + kx.toNatClampNeg) = 0) → XX g MX10_request ({ frames := 10, cells := 0, slots := 0, locals := 229 } : Room) Post 0 0 22 L' [] h1 := by
    intro L' hc
    refine X_bipush (pc := 22) (x := (-3)) dX10_request_22 (by decide) ?_
    refine X_ireturn (pc := 24) dX10_request_24 rfl (Nat.le_of_ble_eq_true rfl) (Nat.le_of_ble_eq_true rfl) ?_
    subst hPost
    rw [esq, if_pos hc]
    exact ⟨_, rfl, rfl, MRep.of w1 ms1⟩
  refine X_istore_n (pc := 4) (L' := [(2, .int _), (0, .ref _), (1, .int _)]) dX10_request_4 rfl (Nat.le_of_ble_eq_true rfl) rfl ?_
  refine X_aload_n (pc := 5) 1 dX10_request_5 rfl rfl ?_
  refine X_iload_n (pc := 6) 2 dX10_request_6 rfl rfl ?_
  refine X_ivi (pc := 7) _ dX10_request_7 cv_X10_636_11 (MW.ob w1) rfl (noKey_ok g w1 f70 kx) nX10_noKey (Nat.le_of_ble_eq_true rfl) (Nat.le_of_ble_eq_true rfl) (Nat.le_of_ble_eq_true rfl) (Nat.le_of_ble_eq_true rfl) (fun r2 h2 q2 => ?_)
  obtain ⟨rfl, rfl⟩ := q2
  by_cases c1 : noK N1 kx
  · rw [if_pos c1]
    exact X_if_ne (pc := 10) 22 dX10_request_10 (by decide) (fun _ => r22 _ (Or.inl (hnk.mpr c1))) (fun z => absurd z (by decide))
  rw [if_neg c1]
  refine X_if_ne (pc := 10) 22 dX10_request_10 (by decide) (fun z => absurd rfl z) (fun _ => ?_)
  obtain ⟨k, hk, rfl⟩ := noK_ex wf1'.1 c1
  have hk6 : k < 6 := Nat.lt_of_lt_of_le hk wf1'.1
  have bk : vp_in (nI k) 6 := vp_in_nI hk6 (by decide)
  have ck : (nI k).toNatClampNeg = k := nI_clamp (by omega)
  have km := ms1.kk hk
  have ko := wf1'.kk hk
  rw [ck] at esq r22
  rw [show (110 : Nat) + k = 100 + (10 + k) by omega, ← hn110, show 100 + (10 + k) = 110 + k by omega] at esq r22
  have hnk' : ¬ noK N (nI k) := fun z => c1 (hnk.mp z)
  refine X_aload_n (pc := 13) 1 dX10_request_13 rfl rfl ?_
  refine X_getfield (pc := 14) dX10_request_14 fg_X10_495_11 (MW.ob w1) mf_62 ?_
  refine X_iload_n (pc := 17) 2 dX10_request_17 rfl rfl ?_
  refine X_zaload (pc := 18) dX10_request_18 (w1.i 62 rfl) bk ?_
  rw [ck, km.2.1]
  by_cases c2 : N1 (110 + k) = 0
  · rw [c2]
    exact X_if_ne (pc := 19) 25 dX10_request_19 (by decide) (fun z => absurd rfl z) (fun _ => r22 _ (Or.inr c2))
  refine X_if_ne (pc := 19) 25 dX10_request_19 (by decide) (fun _ => ?_) (fun z => absurd ((nI_b ko.1).mp z) c2)
  have esq2 : sRequest N L (nI k) = sReq N1 L1 T k := by rw [esq, if_neg (fun z => z.elim hnk' c2)]
  rw [esq2] at hPost
  clear esq esq2 r22
  have i61 : I 61 k = nI (N1 (100 + k)) := km.1
  have i68 : I 68 k = nI (N1 (150 + k)) := km.2.2.2.1
  have hid : sub (S 63) (32 * k) 32 = L1 (100 + k) := by have := km.2.2.1; rwa [up_ne (by decide)] at this
  have s63l : (S 63).length = 192 := by have := ms1.2.2.2.2.2.2.1; rwa [up_ne (by decide)] at this
  have s63B : IsB (S 63) := by have := ms1.2.2.2.2.2.2.2.1; rwa [up_ne (by decide)] at this
  have s73l : (S 73).length = 5880 := by have := ms1.2.2.2.2.2.2.2.2.1; rwa [up_ne (by decide)] at this
  have s73B : IsB (S 73) := by have := ms1.2.2.2.2.2.2.2.2.2.1; rwa [up_ne (by decide)] at this
  have hida : ∀ i, i < 32 → (S 63).getD (32 * k + i) 0 = (L1 (100 + k)).getD i 0 := fun i hi => by
    rw [← hid]
    unfold sub
    rw [getD_map_range hi]
  have ht12 : N1 (100 + k) = 1 ∨ N1 (100 + k) = 2 := ko.2.2.2.elim (fun z => Or.inl z.1) (fun z => Or.inr z.1)
  have hinB := inpB_B (N := N1) (L := L1) (T := T) (k := k) hB0 ko.2.2.1
  have hinl := inpB_len (N := N1) (L := L1) T k ko.2.1
  have hin0 : (inpB N1 L1 T k).getD 0 0 = tb 0 := rfl
  have hin1 : (inpB N1 L1 T k).getD 1 0 = tb (N1 (100 + k)) := rfl
  have hinT := fun i hi => inpB_T (N := N1) (L := L1) T k i hi
  have hinI := fun i => inpB_id (N := N1) (L := L1) T k i
  obtain ⟨size, hsize⟩ : ∃ z, z = if N1 (100 + k) = 1 then 48 else N1 (160 + k) + N1 (150 + k) := ⟨_, rfl⟩
  have hsz : size ≤ 304 := by
    by_cases t1 : N1 (100 + k) = 1
    · rw [hsize, if_pos t1]; decide
    · obtain ⟨-, -, z2, -, -, -, z3⟩ := ko.two t1
      rw [hsize, if_neg t1]
      omega
  have main : XX g MX10_request ({ frames := 10, cells := 0, slots := 0, locals := 229 } : Room) Post 0 0 53 [(2, .int (nI T.length)), (0, .ref (A 96)), (1, .int (nI k))] [.int (nI size)] h2 := by
    have esr : sReq N1 L1 T k = if T.length ≠ 64 + (if N1 (100 + k) = 1 then 48 else N1 (160 + k) + N1 (150 + k)) then (-2, N1, L1) else if N1 1 = 60 then (-6, N1, L1) else if N1 (100 + k) = 1 then cIf (0 < num T 64 48 ∧ num T 64 48 < qP ∧ h2p (inpB N1 L1 T k) ≠ none ∧ mP (num T 64 48) (h2p (inpB N1 L1 T k)) ≠ none) (addA N1 L1 k (num T 64 48) (inpB N1 L1 T k) (headB N1 L1 k ++ en (mP (num T 64 48) (h2p (inpB N1 L1 T k))))) (-4, N1, L1) else cIf (0 < num T (64 + N1 (160 + k)) (N1 (150 + k)) ∧ num T (64 + N1 (160 + k)) (N1 (150 + k)) < N1 (130 + k) ∧ Nat.gcd (num T (64 + N1 (160 + k)) (N1 (150 + k))) (N1 (130 + k)) = 1 ∧ emN N1 k (inpB N1 L1 T k) (sub T 64 (N1 (160 + k))) < N1 (130 + k) ∧ Nat.gcd (emN N1 k (inpB N1 L1 T k) (sub T 64 (N1 (160 + k)))) (N1 (130 + k)) = 1) (addA N1 L1 k (num T (64 + N1 (160 + k)) (N1 (150 + k))) (inpB N1 L1 T k) (headB N1 L1 k ++ byN (num T (64 + N1 (160 + k)) (N1 (150 + k)) ^ N1 (140 + k) * emN N1 k (inpB N1 L1 T k) (sub T 64 (N1 (160 + k))) % N1 (130 + k)) (N1 (150 + k)))) (-4, N1, L1) := rfl
    rw [← hsize] at esr
    refine X_istore_n (pc := 53) (L' := [(3, .int _), (2, .int _), (0, .ref _), (1, .int _)]) dX10_request_53 rfl (Nat.le_of_ble_eq_true rfl) rfl ?_
    refine X_iload_n (pc := 54) 1 dX10_request_54 rfl rfl ?_
    refine X_bipush (pc := 55) (x := 64) dX10_request_55 (by decide) ?_
    refine X_iload_n (pc := 57) 0 dX10_request_57 rfl rfl ?_
    refine X_iadd (pc := 58) dX10_request_58 ?_
    rw [show (64 : Int32) + nI size = nI (64 + size) from nI_add 64 size]
    by_cases c3 : T.length = 64 + size
    rotate_left
    · refine X_icmp_eq (pc := 59) 65 dX10_request_59 (by decide) (fun z => absurd (nI_inj' (by omega) (by omega) z) c3) (fun _ => ?_)
      rw [if_pos c3] at esr
      refine X_bipush (pc := 62) (x := (-2)) dX10_request_62 (by decide) ?_
      refine X_ireturn (pc := 64) dX10_request_64 rfl (Nat.le_of_ble_eq_true rfl) (Nat.le_of_ble_eq_true rfl) ?_
      subst hPost
      rw [esr]
      exact ⟨_, rfl, rfl, MRep.of w1 ms1⟩
    refine X_icmp_eq (pc := 59) 65 dX10_request_59 (by decide) (fun _ => ?_) (fun z => absurd (by rw [c3]) z)
    rw [if_neg (fun z => z c3)] at esr
    refine X_aload_n (pc := 65) 2 dX10_request_65 rfl rfl ?_
    refine X_getfield (pc := 66) dX10_request_66 fg_X10_640_11 (MW.ob w1) mf_75 ?_
    refine X_bipush (pc := 69) (x := 60) dX10_request_69 (by decide) ?_
    rw [f75]
    have h60 := wf1'.2.1
    by_cases c4 : N1 1 = 60
    · refine X_icmp_ne (pc := 71) 77 dX10_request_71 (by decide) (fun z => absurd (by rw [c4]; rfl) z) (fun _ => ?_)
      rw [if_pos c4] at esr
      refine X_bipush (pc := 74) (x := (-6)) dX10_request_74 (by decide) ?_
      refine X_ireturn (pc := 76) dX10_request_76 rfl (Nat.le_of_ble_eq_true rfl) (Nat.le_of_ble_eq_true rfl) ?_
      subst hPost
      rw [esr]
      exact ⟨_, rfl, rfl, MRep.of w1 ms1⟩
    refine X_icmp_ne (pc := 71) 77 dX10_request_71 (by decide) (fun _ => ?_) (fun z => absurd (nI_inj' (b := 60) (by omega) (by decide) z) c4)
    rw [if_neg c4] at esr
    rw [esr] at hPost
    clear esr
    have ha60 : N1 1 < 60 := by omega
    generalize hinp : inpB N1 L1 T k = inp at *
    refine X_bipush (pc := 77) (x := 98) dX10_request_77 (by decide) ?_
    refine X_aload_n (pc := 79) 2 dX10_request_79 rfl rfl ?_
    refine X_getfield (pc := 80) dX10_request_80 fg_X10_640_11 (MW.ob w1) mf_75 ?_
    refine X_imul (pc := 83) dX10_request_83 ?_
    rw [f75, show (98 : Int32) * nI (N1 1) = nI (98 * N1 1) from pk_mul 98 _]
    generalize hav : N1 1 = a at *
    -- behind the blinding
    have fin : ∀ (b : Nat) (o tl : List Int32) (R' : Nat → Nat) (I' : Nat → Nat → Int32) (S' : Nat → List Int32) (F' : Nat → Int32) (h' : AH), MW A X R' I' (up S' 83 o) (up F' 84 (nI o.length)) h' → MS N1 L1 R' I' (up S' 81 []) F' → sub (S' 73) (98 * a) 98 = inp → V (limN N1 k) (I' (600 + a)) = b → RI (MQ3 A X (addA N1 L1 k b inp o)) = Post →
        XX g MX10_request ({ frames := 10, cells := 0, slots := 0, locals := 229 } : Room) Post 0 0 321 [(5, .int 1), (4, .int (nI (98 * a))), (3, .int (nI size)), (2, .int (nI T.length)), (0, .ref (A 96)), (1, .int (nI k))] [] h' := by
      intro b o tl R' I' S' F' h' w' ms' h73 hV hPost'
      have f75' : (up F' 84 (nI o.length)) 75 = nI a := by rw [up_ne (by decide)]; have := ms'.f75; rwa [hav] at this
      have ba : vp_in (nI a) 60 := vp_in_nI ha60 (by decide)
      have ca : (nI a).toNatClampNeg = a := nI_clamp (by omega)
      refine X_aload_n (pc := 321) 4 dX10_request_321 rfl rfl ?_
      refine X_getfield (pc := 322) dX10_request_322 fg_X10_516_11 (MW.ob w') mf_71 ?_
      refine X_aload_n (pc := 325) 4 dX10_request_325 rfl rfl ?_
      refine X_getfield (pc := 326) dX10_request_326 fg_X10_640_11 (MW.ob w') mf_75 ?_
      rw [f75']
      refine X_iload_n (pc := 329) 5 dX10_request_329 rfl rfl ?_
      refine X_iastore (pc := 330) dX10_request_330 (w'.i 71 rfl) ba ?_
      rw [ca]
      have w2 := w'.setI 71 rfl (upd (I' 71) a (nI k))
      generalize hset h' (A 71) (Ai false 0 60 (upd (I' 71) a (nI k))) = g2 at *
      have c72 := w2.i 72 rfl
      rw [up_ne (by decide)] at c72
      refine X_aload_n (pc := 331) 4 dX10_request_331 rfl rfl ?_
      refine X_getfield (pc := 332) dX10_request_332 fg_X10_519_11 (MW.ob w2) mf_72 ?_
      refine X_aload_n (pc := 335) 4 dX10_request_335 rfl rfl ?_
      refine X_getfield (pc := 336) dX10_request_336 fg_X10_640_11 (MW.ob w2) mf_75 ?_
      rw [f75']
      refine X_iconst (pc := 339) (x := 1) dX10_request_339 (by decide) ?_
      refine X_zastore (pc := 340) dX10_request_340 c72 ba ?_
      rw [ca]
      have w3 := w2.setI 72 rfl (upd (I' 72) a 1)
      refine XX.eqh (h' := hset g2 (A 72) (Ai false 3 60 (upd (I' 72) a 1))) rfl ?_
      generalize hset g2 (A 72) (Ai false 3 60 (upd (I' 72) a 1)) = g3 at *
      refine X_aload_n (pc := 341) 4 dX10_request_341 rfl rfl ?_
      refine X_dup (pc := 342) dX10_request_342 rfl ?_
      refine X_getfield (pc := 343) dX10_request_343 fg_X10_640_11 (MW.ob w3) mf_75 ?_
      refine X_iconst (pc := 346) (x := 1) dX10_request_346 (by decide) ?_
      refine X_iadd (pc := 347) dX10_request_347 ?_
      rw [f75', show nI a + 1 = nI (a + 1) from nI_add a 1]
      refine X_putfield (pc := 348) dX10_request_348 fp_X10_640_11 (fun e => by cases e) (MW.ob w3) rfl rfl (Nat.le_of_ble_eq_true rfl) ?_
      have w4 := w3.setF75 (v := nI (a + 1))
      refine X_aload_n (pc := 351) 4 dX10_request_351 rfl rfl ?_
      refine X_getfield (pc := 352) dX10_request_352 fg_X10_640_11 (MW.ob w4) mf_75 ?_
      refine X_iconst (pc := 355) (x := 1) dX10_request_355 (by decide) ?_
      refine X_isub (pc := 356) dX10_request_356 ?_
      rw [up_same, nI_pred]
      refine X_ireturn (pc := 357) dX10_request_357 rfl (Nat.le_of_ble_eq_true rfl) (Nat.le_of_ble_eq_true rfl) ?_
      subst hPost'
      have ea : addA N1 L1 k b inp o = (nI (N1 1), up (up (up (up N1 (200 + N1 1) k) (300 + N1 1) 1) (400 + N1 1) b) 1 (N1 1 + 1), up (up L1 (200 + N1 1) inp) 1 o) := rfl
      rw [ea]
      refine ⟨_, rfl, by rw [hav], MRep.of w4 ?_⟩
      have wfo : Wf N1 (up L1 1 o) → True := fun _ => trivial
      have m2 := (ms'.adda ⟨wf1'.1, by omega⟩ wf1' (by omega) (q := k) (b := b) (inp := inp) hk (by rw [hav, up_ne (by decide)]; exact h73) (by rw [hav]; exact hV)).out (by rw [up_same, up_ne (by decide), up_ne (by omega), up_ne (by omega), up_ne (by omega)]; exact ⟨wf1'.1, by omega⟩) o
      rw [hav] at m2 ⊢
      rw [up_comm F' _ _ (show 84 ≠ 75 by decide), up_comm S' _ _ (show 83 ≠ 81 by decide)]
      exact m2
    have neg : ∀ (R' : Nat → Nat) (I' : Nat → Nat → Int32) (S' : Nat → List Int32) (F' : Nat → Int32) (h' : AH) (L' : List (Nat × Value)), MW A X R' I' S' F' h' → MS N1 L1 R' I' (up S' 81 []) F' → RI (MQ3 A X (-4, N1, L1)) = Post → XX g MX10_request ({ frames := 10, cells := 0, slots := 0, locals := 229 } : Room) Post 0 0 219 L' [] h' := by
      intro R' I' S' F' h' L' w' ms' hP
      refine X_bipush (pc := 219) (x := (-4)) dX10_request_219 (by decide) ?_
      refine X_ireturn (pc := 221) dX10_request_221 rfl (Nat.le_of_ble_eq_true rfl) (Nat.le_of_ble_eq_true rfl) ?_
      subst hP
      exact ⟨_, rfl, rfl, MRep.of w' ms'⟩
    -- the heads of what goes out
    have outs3 : ∀ (R' : Nat → Nat) (I' : Nat → Nat → Int32) (S' : Nat → List Int32) (F' : Nat → Int32) (h' : AH), MW A X R' I' S' F' h' → I' 61 = I 61 → S' 63 = S 63 → (∀ h'', MW A X R' I' (up S' 83 (headB N1 L1 k)) F' h'' → XX g MX10_request ({ frames := 10, cells := 0, slots := 0, locals := 229 } : Room) Post 0 0 267 [(5, .int 1), (4, .int (nI (98 * a))), (3, .int (nI size)), (2, .int (nI T.length)), (0, .ref (A 96)), (1, .int (nI k))] [.int 1, .int (nI (N1 (100 + k)))] h'') →
        XX g MX10_request ({ frames := 10, cells := 0, slots := 0, locals := 229 } : Room) Post 0 0 222 [(5, .int 1), (4, .int (nI (98 * a))), (3, .int (nI size)), (2, .int (nI T.length)), (0, .ref (A 96)), (1, .int (nI k))] [] h' := by
      intro R' I' S' F' h' w0 e61 e63 cont
      have w' := w0.cutS 83 rfl
      obtain ⟨f83, c83, p83, -⟩ := w'.s 83 rfl
      rw [up_same] at p83
      have v0 : vp_in (0 : Int32) 2900 := vp_in_nI (n := 0) (by decide) (by decide)
      have v1 : vp_in (1 : Int32) 2900 := vp_in_nI (n := 1) (by decide) (by decide)
      have v2 : vp_in (2 : Int32) 2900 := vp_in_nI (n := 2) (by decide) (by decide)
      refine X_aload_n (pc := 222) 4 dX10_request_222 rfl rfl ?_
      refine X_getfield (pc := 223) dX10_request_223 fg_X10_537_11 (MW.ob w') mf_83 ?_
      refine X_iconst (pc := 226) (x := 0) dX10_request_226 (by decide) ?_
      refine X_iconst (pc := 227) (x := 0) dX10_request_227 (by decide) ?_
      refine X_bastore (pc := 228) dX10_request_228 c83 v0 ?_
      have w2 := w'.setS 83 rfl (PL_app (x := tb 0) (i := 0) p83 rfl) (by decide)
      rw [up_up'] at w2
      have d1 := hset_self h' (A 83) (Ai false 2 2900 (upd f83 0 (tb 0)))
      have p1 : PL (upd f83 0 (tb 0)) [tb 0] := PL_app (x := tb 0) (i := 0) p83 rfl
      refine XX.eqh (h' := hset h' (A 83) (Ai false 2 2900 (upd f83 0 (tb 0)))) rfl ?_
      generalize hset h' (A 83) (Ai false 2 2900 (upd f83 0 (tb 0))) = g1 at *
      generalize upd f83 0 (tb 0) = u1 at *
      have c61 := w2.i 61 rfl
      rw [e61] at c61
      refine X_aload_n (pc := 229) 4 dX10_request_229 rfl rfl ?_
      refine X_getfield (pc := 230) dX10_request_230 fg_X10_537_11 (MW.ob w2) mf_83 ?_
      refine X_iconst (pc := 233) (x := 1) dX10_request_233 (by decide) ?_
      refine X_aload_n (pc := 234) 4 dX10_request_234 rfl rfl ?_
      refine X_getfield (pc := 235) dX10_request_235 fg_X10_492_11 (MW.ob w2) mf_61 ?_
      refine X_iload_n (pc := 238) 5 dX10_request_238 rfl rfl ?_
      refine X_iaload (pc := 239) dX10_request_239 c61 bk ?_
      rw [ck, i61]
      refine X_i2b (pc := 240) dX10_request_240 ?_
      refine X_bastore (pc := 241) dX10_request_241 d1 v1 ?_
      rw [show ((1 : Int32).toNatClampNeg) = 1 from rfl, Int8.toInt8_toInt32, toInt8_low, tb_u]
      have w3 := w2.setS 83 rfl (PL_app (x := tb (N1 (100 + k))) (i := 1) p1 rfl) (show 2 ≤ 2900 by decide)
      rw [up_up'] at w3
      have d2 := hset_self g1 (A 83) (Ai false 2 2900 (upd u1 1 (tb (N1 (100 + k)))))
      have p2 : PL (upd u1 1 (tb (N1 (100 + k)))) [tb 0, tb (N1 (100 + k))] := PL_app (x := tb (N1 (100 + k))) (i := 1) p1 rfl
      generalize hset g1 (A 83) (Ai false 2 2900 (upd u1 1 (tb (N1 (100 + k))))) = g2 at *
      generalize upd u1 1 (tb (N1 (100 + k))) = u2 at *
      obtain ⟨f63, c63, p63, -⟩ := w3.s 63 rfl
      rw [up_ne (by decide), e63] at p63
      have b6 : vp_in (nI (32 * k + 31)) 192 := vp_in_nI (by omega) (by omega)
      have c6 : (nI (32 * k + 31)).toNatClampNeg = 32 * k + 31 := nI_clamp (by omega)
      refine X_aload_n (pc := 242) 4 dX10_request_242 rfl rfl ?_
      refine X_getfield (pc := 243) dX10_request_243 fg_X10_537_11 (MW.ob w3) mf_83 ?_
      refine X_iconst (pc := 246) (x := 2) dX10_request_246 (by decide) ?_
      refine X_aload_n (pc := 247) 4 dX10_request_247 rfl rfl ?_
      refine X_getfield (pc := 248) dX10_request_248 fg_X10_499_11 (MW.ob w3) mf_63 ?_
      refine X_bipush (pc := 251) (x := 32) dX10_request_251 (by decide) ?_
      refine X_iload_n (pc := 253) 5 dX10_request_253 rfl rfl ?_
      refine X_imul (pc := 254) dX10_request_254 ?_
      refine X_bipush (pc := 255) (x := 31) dX10_request_255 (by decide) ?_
      refine X_iadd (pc := 257) dX10_request_257 ?_
      rw [show (32 : Int32) * nI k = nI (32 * k) from pk_mul 32 k, show nI (32 * k) + 31 = nI (32 * k + 31) from nI_add _ 31]
      refine X_baload (pc := 258) dX10_request_258 c63 b6 ?_
      refine X_bastore (pc := 259) dX10_request_259 d2 v2 ?_
      rw [c6, p63 _ (by omega), s63B.nar, show ((2 : Int32).toNatClampNeg) = 2 from rfl, hida 31 (by decide)]
      have w4 := w3.setS 83 rfl (PL_app (x := (L1 (100 + k)).getD 31 0) (i := 2) p2 rfl) (show 3 ≤ 2900 by decide)
      rw [up_up'] at w4
      generalize hset g2 (A 83) (Ai false 2 2900 (upd u2 2 ((L1 (100 + k)).getD 31 0))) = g3 at *
      have c61' := w4.i 61 rfl
      rw [e61] at c61'
      refine X_aload_n (pc := 260) 4 dX10_request_260 rfl rfl ?_
      refine X_getfield (pc := 261) dX10_request_261 fg_X10_492_11 (MW.ob w4) mf_61 ?_
      refine X_iload_n (pc := 264) 5 dX10_request_264 rfl rfl ?_
      refine X_iaload (pc := 265) dX10_request_265 c61' bk ?_
      refine X_iconst (pc := 266) (x := 1) dX10_request_266 (by decide) ?_
      rw [ck, i61]
      exact cont g3 w4
    -- when the input is laid
    have laid : ∀ h', MW A X R I (up S 73 (lay (S 73) (98 * a) inp 98)) F1 h' → XX g MX10_request ({ frames := 10, cells := 0, slots := 0, locals := 229 } : Room) Post 0 0 186 [(5, .int (nI 32)), (4, .int (nI (98 * a))), (3, .int (nI size)), (2, .int (nI T.length)), (0, .ref (A 96)), (1, .int (nI k))] [] h' := by
      intro h3 w3
      have ms3' := ms1.inp ⟨wf1'.1, by omega⟩ inp hinB (by omega) 98 (Nat.le_refl _)
      rw [up_ne (by decide), hav, up_comm S _ _ (show 81 ≠ 73 by decide)] at ms3'
      have t81 : (up S 73 (lay (S 73) (98 * a) inp 98)) 81 = T := by rw [up_ne (by decide)]; exact s81
      have t73 : (up S 73 (lay (S 73) (98 * a) inp 98)) 73 = lay (S 73) (98 * a) inp 98 := up_same _ _ _
      have t63 : (up S 73 (lay (S 73) (98 * a) inp 98)) 63 = S 63 := up_ne (by decide)
      generalize up S 73 (lay (S 73) (98 * a) inp 98) = S3 at *
      have q73l : (S3 73).length = 5880 := by rw [t73, lay_len]; exact s73l
      have q73B : IsB (S3 73) := by rw [t73]; exact lay_B s73B hinB
      have q73 : sub (S3 73) (98 * a) 98 = inp := by rw [t73]; exact lay_sub (by omega) hinl
      refine X_aload_n (pc := 186) 4 dX10_request_186 rfl rfl ?_
      refine X_getfield (pc := 187) dX10_request_187 fg_X10_492_11 (MW.ob w3) mf_61 ?_
      refine X_iload_n (pc := 190) 5 dX10_request_190 rfl rfl ?_
      refine X_iaload (pc := 191) dX10_request_191 (w3.i 61 rfl) bk ?_
      refine X_iconst (pc := 192) (x := 1) dX10_request_192 (by decide) ?_
      rw [ck, i61]
      by_cases t1 : N1 (100 + k) = 1
      · refine X_icmp_ne (pc := 193) 205 dX10_request_193 (by decide) (fun z => absurd (by rw [t1]; rfl) z) (fun _ => ?_)
        rw [if_pos t1] at hPost hsize
        have hlm : limN N1 k = 12 := by unfold limN; rw [if_pos t1]
        refine X_aload_n (pc := 196) 4 dX10_request_196 rfl rfl ?_
        refine X_iload (pc := 197) 1 dX10_request_197 rfl ?_
        refine X_ivi (pc := 199) _ dX10_request_199 cv_X10_643_11 (MW.ob w3) rfl (blindsOne_ok g w3 ms3'.1 (T := T) (inp := inp) (a := a) t81 (by omega) ha60 f75 q73l q73B q73) nX10_blindsOne (Nat.le_of_ble_eq_true rfl) (Nat.le_of_ble_eq_true rfl) (Nat.le_of_ble_eq_true rfl) (Nat.le_of_ble_eq_true rfl) (fun r4 h4 q4 => ?_)
        obtain ⟨R4, I4, S4, F4, w4, fr4, hc⟩ := q4
        have ms4 : MS N1 L1 R4 I4 (up S4 81 []) F4 := by
          refine ms3'.bfr ⟨wf1'.1, by omega⟩ (a := a) (by omega) ⟨fr4.1, fr4.2.1, fun j hj => ?_, fr4.2.2.2⟩
          by_cases e : j = 81
          · subst e; rw [up_same, up_same]
          · rw [up_ne e, up_ne e]; exact fr4.2.2.1 j hj
        refine X_goto (pc := 202) 212 dX10_request_202 (by decide) ?_
        refine X_istore (pc := 212) (L' := [(5, .int _), (4, .int _), (3, .int _), (2, .int _), (0, .ref _), (1, .int _)]) dX10_request_212 (Nat.le_of_ble_eq_true rfl) rfl ?_
        refine X_iload (pc := 214) 0 dX10_request_214 rfl ?_
        rcases hc with ⟨rfl, hc⟩ | ⟨rfl, hc, hVb, f408, sp8⟩
        · rw [cIf_f hc] at hPost
          exact X_if_ne (pc := 216) 222 dX10_request_216 (by decide) (fun z => absurd rfl z) (fun _ => neg _ _ _ _ _ _ w4 ms4 hPost)
        · rw [cIf_t hc] at hPost
          refine X_if_ne (pc := 216) 222 dX10_request_216 (by decide) (fun _ => ?_) (fun z => absurd z (by decide))
          have k73 : S4 73 = S3 73 := fr4.2.2.1 73 (by unfold relS; omega)
          refine outs3 _ _ _ _ _ w4 (fr4.2.1 61 (by unfold relI; omega) (by omega)) (by rw [fr4.2.2.1 63 (by unfold relS; omega)]; exact t63) (fun h5 w5 => ?_)
          refine X_icmp_ne (pc := 267) 291 dX10_request_267 (by decide) (fun z => absurd (by rw [t1]; rfl) z) (fun _ => ?_)
          obtain ⟨f83, c83, p83, -⟩ := w5.s 83 rfl
          rw [up_same] at p83
          refine X_aload_n (pc := 270) 4 dX10_request_270 rfl rfl ?_
          refine X_getfield (pc := 271) dX10_request_271 fg_X10_564_11 (MW.ob w5) mf_93 ?_
          refine X_aload_n (pc := 274) 4 dX10_request_274 rfl rfl ?_
          refine X_getfield (pc := 275) dX10_request_275 fg_X10_537_11 (MW.ob w5) mf_83 ?_
          refine X_iconst (pc := 278) (x := 3) dX10_request_278 (by decide) ?_
          refine X_isv (pc := 279) _ dX10_request_279 cs_X10_405 rfl (bytes_ok g w5 (s := 8) (at' := 3) (by decide) c83 (by decide) (by decide)) nX10_bytes (Nat.le_of_ble_eq_true rfl) (Nat.le_of_ble_eq_true rfl) (Nat.le_of_ble_eq_true rfl) (Nat.le_of_ble_eq_true rfl) (fun h6 q6 => ?_)
          subst q6
          have hen : en (mP (num T 64 48) (h2p inp)) = encB (R4 208) (R4 308) := by rw [← sp8]; exact en_spt f408 (w4.lt (k := 208) rfl) (w4.lt (k := 308) rfl)
          have w6 := w5.setS 83 rfl (PL_enc (x := R4 208) (y := R4 308) p83) (by rw [List.length_append, encB_len]; show 3 + 49 ≤ 2900; decide)
          rw [up_up', ← hen] at w6
          refine XX.eqh (h' := hset h5 (A 83) (Ai false 2 2900 (encF (R4 208) (R4 308) (headB N1 L1 k).length f83))) rfl ?_
          generalize hset h5 (A 83) (Ai false 2 2900 (encF (R4 208) (R4 308) (headB N1 L1 k).length f83)) = h6 at *
          refine X_aload_n (pc := 282) 4 dX10_request_282 rfl rfl ?_
          refine X_bipush (pc := 283) (x := 52) dX10_request_283 (by decide) ?_
          refine X_putfield (pc := 285) dX10_request_285 fp_X10_606_11 (fun e => by cases e) (MW.ob w6) rfl rfl (Nat.le_of_ble_eq_true rfl) ?_
          have w7 := w6.setF84 (v := 52)
          refine X_goto (pc := 288) 321 dX10_request_288 (by decide) ?_
          refine fin (num T 64 48) (headB N1 L1 k ++ en (mP (num T 64 48) (h2p inp))) [] R4 I4 S4 F4 _ ?_ ms4 (by rw [k73]; exact q73) (by rw [hlm]; exact hVb) hPost
          rw [show nI (headB N1 L1 k ++ en (mP (num T 64 48) (h2p inp))).length = 52 by rw [hen, List.length_append, encB_len]; rfl]
          exact w7
      · have t2 : N1 (100 + k) = 2 := by omega
        refine X_icmp_ne (pc := 193) 205 dX10_request_193 (by decide) (fun _ => ?_) (fun z => absurd z (by rw [t2]; decide))
        rw [if_neg t1] at hPost hsize
        obtain ⟨-, z1, z2, hlm, -, -, -⟩ := ko.two t1
        refine X_aload_n (pc := 205) 4 dX10_request_205 rfl rfl ?_
        refine X_iload_n (pc := 206) 5 dX10_request_206 rfl rfl ?_
        refine X_iload (pc := 207) 1 dX10_request_207 rfl ?_
        refine X_ivi (pc := 209) _ dX10_request_209 cv_X10_646_11 (MW.ob w3) rfl (blindsTwo_ok g wf1' w3 ms3' (T := T) (inp := inp) (a := a) (k := k) hk t1 t81 hB0 (by omega) ha60 f75 q73l q73B q73) nX10_blindsTwo (Nat.le_of_ble_eq_true rfl) (Nat.le_of_ble_eq_true rfl) (Nat.le_of_ble_eq_true rfl) (Nat.le_of_ble_eq_true rfl) (fun r4 h4 q4 => ?_)
        obtain ⟨R4, I4, S4, F4, w4, fr4, hc⟩ := q4
        have ms4 : MS N1 L1 R4 I4 (up S4 81 []) F4 := by
          refine ms3'.bfr ⟨wf1'.1, by omega⟩ (a := a) (by omega) ⟨fr4.1, fr4.2.1, fun j hj => ?_, fr4.2.2.2⟩
          by_cases e : j = 81
          · subst e; rw [up_same, up_same]
          · rw [up_ne e, up_ne e]; exact fr4.2.2.1 j hj
        refine X_istore (pc := 212) (L' := [(5, .int _), (4, .int _), (3, .int _), (2, .int _), (0, .ref _), (1, .int _)]) dX10_request_212 (Nat.le_of_ble_eq_true rfl) rfl ?_
        refine X_iload (pc := 214) 0 dX10_request_214 rfl ?_
        rcases hc with ⟨rfl, hc⟩ | ⟨rfl, hc, hVb, hV89⟩
        · rw [cIf_f hc] at hPost
          exact X_if_ne (pc := 216) 222 dX10_request_216 (by decide) (fun z => absurd rfl z) (fun _ => neg _ _ _ _ _ _ w4 ms4 hPost)
        · rw [cIf_t hc] at hPost
          refine X_if_ne (pc := 216) 222 dX10_request_216 (by decide) (fun _ => ?_) (fun z => absurd z (by decide))
          have k73 : S4 73 = S3 73 := fr4.2.2.1 73 (by unfold relS; omega)
          have k68 : I4 68 = I 68 := fr4.2.1 68 (by unfold relI; omega) (by omega)
          refine outs3 _ _ _ _ _ w4 (fr4.2.1 61 (by unfold relI; omega) (by omega)) (by rw [fr4.2.2.1 63 (by unfold relS; omega)]; exact t63) (fun h5 w5 => ?_)
          refine X_icmp_ne (pc := 267) 291 dX10_request_267 (by decide) (fun _ => ?_) (fun z => absurd z (by rw [t2]; decide))
          obtain ⟨f83, c83, p83, -⟩ := w5.s 83 rfl
          rw [up_same] at p83
          generalize hvv : num T (64 + N1 (160 + k)) (N1 (150 + k)) ^ N1 (140 + k) * emN N1 k inp (sub T 64 (N1 (160 + k))) % N1 (130 + k) = v at *
          generalize hlv : N1 (150 + k) = len at *
          refine X_aload_n (pc := 291) 4 dX10_request_291 rfl rfl ?_
          refine X_getfield (pc := 292) dX10_request_292 fg_X10_552_11 (MW.ob w5) mf_89 ?_
          refine X_aload_n (pc := 295) 4 dX10_request_295 rfl rfl ?_
          refine X_getfield (pc := 296) dX10_request_296 fg_X10_537_11 (MW.ob w5) mf_83 ?_
          refine X_iconst (pc := 299) (x := 3) dX10_request_299 (by decide) ?_
          refine X_aload_n (pc := 300) 4 dX10_request_300 rfl rfl ?_
          refine X_getfield (pc := 301) dX10_request_301 fg_X10_510_11 (MW.ob w5) mf_68 ?_
          refine X_iload_n (pc := 304) 5 dX10_request_304 rfl rfl ?_
          refine X_iaload (pc := 305) dX10_request_305 (w5.i 68 rfl) bk ?_
          rw [ck, k68, i68]
          refine X_isv (pc := 306) _ dX10_request_306 cs_X10_232 rfl (store_ok g (n := limN N1 k) (fr := 3) (many := len) (w5.i 89 rfl) c83 (by omega) (by decide) (by omega) (by decide) (by omega)) nX10_store (Nat.le_of_ble_eq_true rfl) (Nat.le_of_ble_eq_true rfl) (Nat.le_of_ble_eq_true rfl) (Nat.le_of_ble_eq_true rfl) (fun h6 q6 => ?_)
          subst q6
          rw [hV89]
          have w6 := w5.setS 83 rfl (PL_sto (v := v) (n := len) p83) (by rw [List.length_append, byN_len]; show 3 + len ≤ 2900; omega)
          rw [up_up'] at w6
          refine XX.eqh (h' := hset h5 (A 83) (Ai false 2 2900 (stF v (headB N1 L1 k).length len f83))) rfl ?_
          generalize hset h5 (A 83) (Ai false 2 2900 (stF v (headB N1 L1 k).length len f83)) = h6 at *
          refine X_aload_n (pc := 309) 4 dX10_request_309 rfl rfl ?_
          refine X_iconst (pc := 310) (x := 3) dX10_request_310 (by decide) ?_
          refine X_aload_n (pc := 311) 4 dX10_request_311 rfl rfl ?_
          refine X_getfield (pc := 312) dX10_request_312 fg_X10_510_11 (MW.ob w6) mf_68 ?_
          refine X_iload_n (pc := 315) 5 dX10_request_315 rfl rfl ?_
          refine X_iaload (pc := 316) dX10_request_316 (w6.i 68 rfl) bk ?_
          refine X_iadd (pc := 317) dX10_request_317 ?_
          rw [ck, k68, i68, show (3 : Int32) + nI len = nI (3 + len) from nI_add 3 len]
          refine X_putfield (pc := 318) dX10_request_318 fp_X10_606_11 (fun e => by cases e) (MW.ob w6) rfl rfl (Nat.le_of_ble_eq_true rfl) ?_
          have w7 := w6.setF84 (v := nI (3 + len))
          refine fin _ (headB N1 L1 k ++ byN v len) [] R4 I4 S4 F4 _ ?_ ms4 (by rw [k73]; exact q73) hVb hPost
          rw [show (headB N1 L1 k ++ byN v len).length = 3 + len by rw [List.length_append, byN_len]; rfl]
          exact w7
    have lm : ∀ i, (lay (S 73) (98 * a) inp i).length = 5880 := fun i => by rw [lay_len]; exact s73l
    have loopB : ∀ m i, i + m = 32 → ∀ h', MW A X R I (up S 73 (lay (S 73) (98 * a) inp (66 + i))) F1 h' → XX g MX10_request ({ frames := 10, cells := 0, slots := 0, locals := 229 } : Room) Post 0 0 148 [(5, .int (nI i)), (4, .int (nI (98 * a))), (3, .int (nI size)), (2, .int (nI T.length)), (0, .ref (A 96)), (1, .int (nI k))] [] h' := by
      intro m
      induction m with
      | zero =>
        intro i hi h' w'
        have e : i = 32 := by omega
        subst e
        refine X_iload (pc := 148) 0 dX10_request_148 rfl ?_
        refine X_bipush (pc := 150) (x := 32) dX10_request_150 (by decide) ?_
        refine X_cge (a := 32) (b := 32) (pc := 152) 186 dX10_request_152 (by decide) (by omega) (by omega) (fun _ => ?_) (fun z => absurd z (by omega))
        exact laid h' w'
      | succ m ih =>
        intro i hi h' w'
        obtain ⟨f63, c63, p63, -⟩ := w'.s 63 rfl
        obtain ⟨f73, c73, p73, -⟩ := w'.s 73 rfl
        rw [up_ne (by decide)] at p63
        rw [up_same] at p73
        have bi : vp_in (nI (98 * a + (66 + i))) 5880 := vp_in_nI (by omega) (by omega)
        have ci : (nI (98 * a + (66 + i))).toNatClampNeg = 98 * a + (66 + i) := nI_clamp (by omega)
        have b6 : vp_in (nI (32 * k + i)) 192 := vp_in_nI (by omega) (by omega)
        have c6 : (nI (32 * k + i)).toNatClampNeg = 32 * k + i := nI_clamp (by omega)
        refine X_iload (pc := 148) 0 dX10_request_148 rfl ?_
        refine X_bipush (pc := 150) (x := 32) dX10_request_150 (by decide) ?_
        refine X_cge (b := 32) (pc := 152) 186 dX10_request_152 (by decide) (by omega) (by omega) (fun z => absurd z (by omega)) (fun _ => ?_)
        refine X_aload_n (pc := 155) 4 dX10_request_155 rfl rfl ?_
        refine X_getfield (pc := 156) dX10_request_156 fg_X10_522_11 (MW.ob w') mf_73 ?_
        refine X_iload (pc := 159) 1 dX10_request_159 rfl ?_
        refine X_bipush (pc := 161) (x := 66) dX10_request_161 (by decide) ?_
        refine X_iadd (pc := 163) dX10_request_163 ?_
        refine X_iload (pc := 164) 0 dX10_request_164 rfl ?_
        refine X_iadd (pc := 166) dX10_request_166 ?_
        rw [show nI (98 * a) + 66 = nI (98 * a + 66) from nI_add _ 66, nI_add, Nat.add_assoc]
        refine X_aload_n (pc := 167) 4 dX10_request_167 rfl rfl ?_
        refine X_getfield (pc := 168) dX10_request_168 fg_X10_499_11 (MW.ob w') mf_63 ?_
        refine X_bipush (pc := 171) (x := 32) dX10_request_171 (by decide) ?_
        refine X_iload_n (pc := 173) 5 dX10_request_173 rfl rfl ?_
        refine X_imul (pc := 174) dX10_request_174 ?_
        refine X_iload (pc := 175) 0 dX10_request_175 rfl ?_
        refine X_iadd (pc := 177) dX10_request_177 ?_
        rw [show (32 : Int32) * nI k = nI (32 * k) from pk_mul 32 k, nI_add]
        refine X_baload (pc := 178) dX10_request_178 c63 b6 ?_
        refine X_bastore (pc := 179) dX10_request_179 c73 bi ?_
        rw [ci, c6, p63 _ (by omega), s63B.nar, hida i (by omega), ← hinI i]
        have w2 := w'.setS 73 rfl (PL_set p73 (98 * a + (66 + i)) (inp.getD (66 + i) 0)) (by rw [List.length_set, lm]; decide)
        rw [up_up', lay_set] at w2
        refine X_iinc (pc := 180) (L' := [(5, .int (_ + 1)), (4, .int _), (3, .int _), (2, .int _), (0, .ref _), (1, .int _)]) 0 dX10_request_180 rfl rfl (Nat.le_of_ble_eq_true rfl) rfl ?_
        refine X_goto (pc := 183) 148 dX10_request_183 (by decide) ?_
        rw [show nI i + 1 = nI (i + 1) from nI_add i 1]
        exact ih (i + 1) (by omega) _ w2
    have loopA : ∀ m i, i + m = 64 → ∀ h', MW A X R I (up S 73 (lay (S 73) (98 * a) inp (2 + i))) F1 h' → XX g MX10_request ({ frames := 10, cells := 0, slots := 0, locals := 229 } : Room) Post 0 0 113 [(5, .int (nI i)), (4, .int (nI (98 * a))), (3, .int (nI size)), (2, .int (nI T.length)), (0, .ref (A 96)), (1, .int (nI k))] [] h' := by
      intro m
      induction m with
      | zero =>
        intro i hi h' w'
        have e : i = 64 := by omega
        subst e
        refine X_iload (pc := 113) 0 dX10_request_113 rfl ?_
        refine X_bipush (pc := 115) (x := 64) dX10_request_115 (by decide) ?_
        refine X_cge (a := 64) (b := 64) (pc := 117) 145 dX10_request_117 (by decide) (by omega) (by omega) (fun _ => ?_) (fun z => absurd z (by omega))
        refine X_iconst (pc := 145) (x := 0) dX10_request_145 (by decide) ?_
        refine X_istore (pc := 146) (L' := [(5, .int _), (4, .int _), (3, .int _), (2, .int _), (0, .ref _), (1, .int _)]) dX10_request_146 (Nat.le_of_ble_eq_true rfl) rfl ?_
        exact loopB 32 0 (by omega) h' w'
      | succ m ih =>
        intro i hi h' w'
        obtain ⟨f81, c81, p81, -⟩ := w'.s 81 rfl
        obtain ⟨f73, c73, p73, -⟩ := w'.s 73 rfl
        rw [up_ne (by decide), s81] at p81
        rw [up_same] at p73
        have bi : vp_in (nI (98 * a + (2 + i))) 5880 := vp_in_nI (by omega) (by omega)
        have ci : (nI (98 * a + (2 + i))).toNatClampNeg = 98 * a + (2 + i) := nI_clamp (by omega)
        have b6 : vp_in (nI i) 1208 := vp_in_nI (by omega) (by omega)
        have c6 : (nI i).toNatClampNeg = i := nI_clamp (by omega)
        refine X_iload (pc := 113) 0 dX10_request_113 rfl ?_
        refine X_bipush (pc := 115) (x := 64) dX10_request_115 (by decide) ?_
        refine X_cge (b := 64) (pc := 117) 145 dX10_request_117 (by decide) (by omega) (by omega) (fun z => absurd z (by omega)) (fun _ => ?_)
        refine X_aload_n (pc := 120) 4 dX10_request_120 rfl rfl ?_
        refine X_getfield (pc := 121) dX10_request_121 fg_X10_522_11 (MW.ob w') mf_73 ?_
        refine X_iload (pc := 124) 1 dX10_request_124 rfl ?_
        refine X_iconst (pc := 126) (x := 2) dX10_request_126 (by decide) ?_
        refine X_iadd (pc := 127) dX10_request_127 ?_
        refine X_iload (pc := 128) 0 dX10_request_128 rfl ?_
        refine X_iadd (pc := 130) dX10_request_130 ?_
        rw [show nI (98 * a) + 2 = nI (98 * a + 2) from nI_add _ 2, nI_add, Nat.add_assoc]
        refine X_aload_n (pc := 131) 4 dX10_request_131 rfl rfl ?_
        refine X_getfield (pc := 132) dX10_request_132 fg_X10_534_11 (MW.ob w') mf_81 ?_
        refine X_iload (pc := 135) 0 dX10_request_135 rfl ?_
        refine X_baload (pc := 137) dX10_request_137 c81 b6 ?_
        refine X_bastore (pc := 138) dX10_request_138 c73 bi ?_
        rw [ci, c6, p81 _ (by omega), hB0.nar, ← hinT i (by omega)]
        have w2 := w'.setS 73 rfl (PL_set p73 (98 * a + (2 + i)) (inp.getD (2 + i) 0)) (by rw [List.length_set, lm]; decide)
        rw [up_up', lay_set] at w2
        refine X_iinc (pc := 139) (L' := [(5, .int (_ + 1)), (4, .int _), (3, .int _), (2, .int _), (0, .ref _), (1, .int _)]) 0 dX10_request_139 rfl rfl (Nat.le_of_ble_eq_true rfl) rfl ?_
        refine X_goto (pc := 142) 113 dX10_request_142 (by decide) ?_
        rw [show nI i + 1 = nI (i + 1) from nI_add i 1]
        exact ih (i + 1) (by omega) _ w2
    obtain ⟨f73, c73, p73, -⟩ := w1.s 73 rfl
    have b0 : vp_in (nI (98 * a)) 5880 := vp_in_nI (by omega) (by omega)
    have c0 : (nI (98 * a)).toNatClampNeg = 98 * a + 0 := nI_clamp (by omega)
    have b1 : vp_in (nI (98 * a + 1)) 5880 := vp_in_nI (by omega) (by omega)
    have c1' : (nI (98 * a + 1)).toNatClampNeg = 98 * a + 1 := nI_clamp (by omega)
    have p0 : PL f73 (lay (S 73) (98 * a) inp 0) := by rw [lay_0]; exact p73
    refine X_istore (pc := 84) (L' := [(4, .int _), (3, .int _), (2, .int _), (0, .ref _), (1, .int _)]) dX10_request_84 (Nat.le_of_ble_eq_true rfl) rfl ?_
    refine X_aload_n (pc := 86) 3 dX10_request_86 rfl rfl ?_
    refine X_getfield (pc := 87) dX10_request_87 fg_X10_522_11 (MW.ob w1) mf_73 ?_
    refine X_iload (pc := 90) 0 dX10_request_90 rfl ?_
    refine X_iconst (pc := 92) (x := 0) dX10_request_92 (by decide) ?_
    refine X_bastore (pc := 93) dX10_request_93 c73 b0 ?_
    rw [c0]
    have w4 := w1.setS 73 rfl (PL_set p0 (98 * a + 0) (inp.getD 0 0)) (by rw [List.length_set, lm]; decide)
    have p1 := PL_set p0 (98 * a + 0) (inp.getD 0 0)
    rw [lay_set] at w4 p1
    rw [hin0] at w4 p1
    refine XX.eqh (h' := hset h2 (A 73) (Ai false 2 5880 (upd f73 (98 * a + 0) (tb 0)))) rfl ?_
    have d1 := hset_self h2 (A 73) (Ai false 2 5880 (upd f73 (98 * a + 0) (tb 0)))
    generalize hset h2 (A 73) (Ai false 2 5880 (upd f73 (98 * a + 0) (tb 0))) = h4 at *
    generalize upd f73 (98 * a + 0) (tb 0) = u1 at *
    refine X_aload_n (pc := 94) 3 dX10_request_94 rfl rfl ?_
    refine X_getfield (pc := 95) dX10_request_95 fg_X10_522_11 (MW.ob w4) mf_73 ?_
    refine X_iload (pc := 98) 0 dX10_request_98 rfl ?_
    refine X_iconst (pc := 100) (x := 1) dX10_request_100 (by decide) ?_
    refine X_iadd (pc := 101) dX10_request_101 ?_
    refine X_aload_n (pc := 102) 3 dX10_request_102 rfl rfl ?_
    refine X_getfield (pc := 103) dX10_request_103 fg_X10_492_11 (MW.ob w4) mf_61 ?_
    refine X_iload_n (pc := 106) 4 dX10_request_106 rfl rfl ?_
    refine X_iaload (pc := 107) dX10_request_107 (w4.i 61 rfl) bk ?_
    rw [ck, i61, show nI (98 * a) + 1 = nI (98 * a + 1) from nI_add _ 1]
    refine X_i2b (pc := 108) dX10_request_108 ?_
    refine X_bastore (pc := 109) dX10_request_109 d1 b1 ?_
    rw [c1', Int8.toInt8_toInt32, toInt8_low, tb_u, ← hin1]
    have w5 := w4.setS 73 rfl (PL_set p1 (98 * a + 1) (inp.getD 1 0)) (by rw [List.length_set, lm]; decide)
    rw [up_up', show (0 : Nat) + 1 = 1 from rfl, lay_set] at w5
    refine X_iconst (pc := 110) (x := 0) dX10_request_110 (by decide) ?_
    refine X_istore (pc := 111) (L' := [(5, .int _), (4, .int _), (3, .int _), (2, .int _), (0, .ref _), (1, .int _)]) dX10_request_111 (Nat.le_of_ble_eq_true rfl) rfl ?_
    exact loopA 64 0 (by omega) _ w5
  refine X_aload_n (pc := 25) 1 dX10_request_25 rfl rfl ?_
  refine X_getfield (pc := 26) dX10_request_26 fg_X10_492_11 (MW.ob w1) mf_61 ?_
  refine X_iload_n (pc := 29) 2 dX10_request_29 rfl rfl ?_
  refine X_iaload (pc := 30) dX10_request_30 (w1.i 61 rfl) bk ?_
  refine X_iconst (pc := 31) (x := 1) dX10_request_31 (by decide) ?_
  rw [ck, i61]
  by_cases t1 : N1 (100 + k) = 1
  · refine X_icmp_ne (pc := 32) 40 dX10_request_32 (by decide) (fun z => absurd (by rw [t1]; rfl) z) (fun _ => ?_)
    rw [if_pos t1] at hsize
    refine X_bipush (pc := 35) (x := 48) dX10_request_35 (by decide) ?_
    refine X_goto (pc := 37) 53 dX10_request_37 (by decide) ?_
    rw [hsize] at main
    exact main
  · have t2 : N1 (100 + k) = 2 := by omega
    refine X_icmp_ne (pc := 32) 40 dX10_request_32 (by decide) (fun _ => ?_) (fun z => absurd z (by rw [t2]; decide))
    rw [if_neg t1] at hsize
    obtain ⟨sh, -, -, -, -, -, -, i69, -⟩ := km.2.2.2.2.2 t2
    refine X_aload_n (pc := 40) 1 dX10_request_40 rfl rfl ?_
    refine X_getfield (pc := 41) dX10_request_41 fg_X10_513_11 (MW.ob w1) mf_69 ?_
    refine X_iload_n (pc := 44) 2 dX10_request_44 rfl rfl ?_
    refine X_iaload (pc := 45) dX10_request_45 (w1.i 69 rfl) bk ?_
    refine X_aload_n (pc := 46) 1 dX10_request_46 rfl rfl ?_
    refine X_getfield (pc := 47) dX10_request_47 fg_X10_510_11 (MW.ob w1) mf_68 ?_
    refine X_iload_n (pc := 50) 2 dX10_request_50 rfl rfl ?_
    refine X_iaload (pc := 51) dX10_request_51 (w1.i 68 rfl) bk ?_
    refine X_iadd (pc := 52) dX10_request_52 ?_
    rw [ck, i69, i68, nI_add, ← hsize]
    exact main
end MRq
