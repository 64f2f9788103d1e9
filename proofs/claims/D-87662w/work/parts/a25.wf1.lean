set_option maxRecDepth 100000
/-! every call keeps what the state lives by: single things -/
section WF1
variable {N N' : Nat → Nat} {L L' : Nat → List Int32}
/-- keys and askings look at numbers from 100 on, at rows from 100 on -/
theorem KOk.cg {k : Nat} (hN : ∀ j, 100 ≤ j → N' j = N j) (hL : ∀ j, 100 ≤ j → L' j = L j) (h : KOk N L k) : KOk N' L' k := by
  unfold KOk at h ⊢
  rw [hN (110 + k) (by omega), hN (100 + k) (by omega), hN (120 + k) (by omega), hN (130 + k) (by omega), hN (140 + k) (by omega), hN (150 + k) (by omega), hN (160 + k) (by omega), hL (100 + k) (by omega)]
  exact h
theorem AOk.cg {a : Nat} (hN : ∀ j, 100 ≤ j → N' j = N j) (h0 : N' 0 = N 0) (hL : ∀ j, 100 ≤ j → L' j = L j) (h : AOk N L a) : AOk N' L' a := by
  unfold AOk at h ⊢
  rw [hN (200 + a) (by omega), hN (300 + a) (by omega), hN (400 + a) (by omega), h0, hN (100 + N (200 + a)) (by omega), hN (130 + N (200 + a)) (by omega), hL (200 + a) (by omega)]
  exact h
theorem Wf.cg (wf : Wf N L) (h0 : N' 0 = N 0) (h1 : N' 1 = N 1) (hN : ∀ j, 100 ≤ j → N' j = N j) (hL : ∀ j, 100 ≤ j → L' j = L j) (a2 : N' 2 < 2 ^ 30) (a3 : N' 3 ≤ 1001) (a4 : N' 4 < 2 ^ 30) (a5 : N' 5 ≤ 1) (a6 : N' 6 ≤ 1)
    (b0 : (L' 0).length ≤ 1200) (b1 : (L' 1).length ≤ 1200) (b2 : (L' 2).length = 4096) (c0 : IsB (L' 0)) (c1 : IsB (L' 1)) (c2 : IsB (L' 2)) : Wf N' L' :=
  ⟨by rw [h0]; exact wf.1, by rw [h1]; exact wf.2.1, a2, a3, a4, a5, a6, b0, b1, b2, c0, c1, c2, fun k hk => (wf.2.2.2.2.2.2.2.2.2.2.2.2.2.1 k (by rw [h0] at hk; exact hk)).cg hN hL, fun a ha => (wf.2.2.2.2.2.2.2.2.2.2.2.2.2.2 a (by rw [h1] at ha; exact ha)).cg hN h0 hL⟩
theorem Wf.n6 (wf : Wf N L) {t : Nat} (ht : t ≤ 1) : Wf (up N 6 t) L := by
  obtain ⟨a0, a1, a2, a3, a4, a5, a6, b0, b1, b2, c0, c1, c2, -, -⟩ := id wf
  exact wf.cg (up_ne (by decide)) (up_ne (by decide)) (fun j hj => up_ne (by omega)) (fun _ _ => rfl) (by rw [up_ne (by decide)]; exact a2) (by rw [up_ne (by decide)]; exact a3) (by rw [up_ne (by decide)]; exact a4) (by rw [up_ne (by decide)]; exact a5) (by rw [up_same]; exact ht) b0 b1 b2 c0 c1 c2
theorem Wf.l0 (wf : Wf N L) {T : List Int32} (h1 : T.length ≤ 1200) (h2 : IsB T) : Wf N (up L 0 T) := by
  obtain ⟨a0, a1, a2, a3, a4, a5, a6, b0, b1, b2, c0, c1, c2, -, -⟩ := id wf
  exact wf.cg rfl rfl (fun _ _ => rfl) (fun j hj => up_ne (by omega)) a2 a3 a4 a5 a6 (by rw [up_same]; exact h1) (by rw [up_ne (by decide)]; exact b1) (by rw [up_ne (by decide)]; exact b2) (by rw [up_same]; exact h2) (by rw [up_ne (by decide)]; exact c1) (by rw [up_ne (by decide)]; exact c2)
theorem Wf.l1 (wf : Wf N L) {T : List Int32} (h1 : T.length ≤ 1200) (h2 : IsB T) : Wf N (up L 1 T) := by
  obtain ⟨a0, a1, a2, a3, a4, a5, a6, b0, b1, b2, c0, c1, c2, -, -⟩ := id wf
  exact wf.cg rfl rfl (fun _ _ => rfl) (fun j hj => up_ne (by omega)) a2 a3 a4 a5 a6 (by rw [up_ne (by decide)]; exact b0) (by rw [up_same]; exact h1) (by rw [up_ne (by decide)]; exact b2) (by rw [up_ne (by decide)]; exact c0) (by rw [up_same]; exact h2) (by rw [up_ne (by decide)]; exact c2)
end WF1
