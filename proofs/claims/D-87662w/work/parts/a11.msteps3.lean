set_option maxRecDepth 100000
/-! the constructor's steps, as its walk takes them -/
def pd0 (k : Nat) : Bool := k == 96
theorem dfX12 : ∀ j, j < 3 → defaultValue (tyX12 j) = vp_V [.null, .null, .int 0] j := by
  intro j hj
  obtain rfl | rfl | rfl : j = 0 ∨ j = 1 ∨ j = 2 := by omega
  · rfl
  · rfl
  · rfl
theorem dfX11 : ∀ j, j < 4 → defaultValue (tyX11 j) = vp_V [.null, .null, .int 0, .int 0] j := by
  intro j hj
  obtain rfl | rfl | rfl | rfl : j = 0 ∨ j = 1 ∨ j = 2 ∨ j = 3 := by omega
  · rfl
  · rfl
  · rfl
  · rfl
section PIw
variable {A A' : Nat → Nat} {P P' : Nat → AC} {d : Nat} {X h h' : AH} {a0 : Nat}
theorem PI.at0 (w : PI pd0 A P d X h) (ha : A 96 = a0) (h0 : 0 < d) : h a0 = some (Ob 11 (gFl A d)) := by rw [← ha]; exact w.a96 h0
theorem PI.oneW (w : PI pd0 A P d X h) {c0 : AC} (ha : A 96 = a0) (h0 : 0 < d) (hd : d < 96) (hs : spB d = false) (hfk : fkL.getD d none = some d) (hpd : pd0 d = false) (hkd : (kdM d).1 ≠ 0) (hc : ∀ A, dO A d = c0) {q : Nat} (hq : h q = none) :
    hset h q c0 a0 = some (Ob 11 (gFl A d)) ∧ ∃ A' P', PI pd0 A' P' (d + 1) X (hset (hset h q c0) a0 (Ob 11 ((gFl A d).set d (.ref q)))) ∧ A' 96 = a0 := by
  have hz := w.at0 ha h0
  obtain ⟨A', P', w', e⟩ := w.one h0 hd hs hfk hpd hkd hc hq
  rw [ha] at w' e
  exact ⟨by rw [hset_ne (fun z => by rw [← z, hz] at hq; cases hq)]; exact hz, A', P', w', e⟩
theorem PI.spotW (w : PI pd0 A P d X h) (ha : A 96 = a0) {s : Nat} (hs : s < 31) (hd : sfO s = d) (h96 : d < 96) (hfk : fkL.getD d none = some (400 + s)) (p1 : pd0 (200 + s) = false) (p2 : pd0 (300 + s) = false) (p3 : pd0 (400 + s) = false) {b x y : Nat} (hb : h b = none) (hx : hset h b (Ob 13 [.null, .null, .int 0]) x = none) (hy : hset h b (Ob 13 [.null, .null, .int 0]) y = none) (exy : x ≠ y) :
    hset (hset (hset (hset h b (Ob 13 [.null, .null, .int 0])) x (Ai false 0 12 fun _ => 0)) y (Ai false 0 12 fun _ => 0)) b (Ob 13 [.ref x, .ref y, .int 0]) a0 = some (Ob 11 (gFl A d)) ∧
    ∃ A' P', PI pd0 A' P' (d + 1) X (hset (hset (hset (hset (hset h b (Ob 13 [.null, .null, .int 0])) x (Ai false 0 12 fun _ => 0)) y (Ai false 0 12 fun _ => 0)) b (Ob 13 [.ref x, .ref y, .int 0])) a0 (Ob 11 ((gFl A d).set d (.ref b)))) ∧ A' 96 = a0 := by
  have hz := w.at0 ha (by rw [← hd]; exact (sfO_g s hs).2.2)
  obtain ⟨A', P', w', e⟩ := w.spot hs hd h96 hfk p1 p2 p3 hb hx hy exy
  rw [ha] at w' e
  have e1 : a0 ≠ b := fun z => by rw [← z, hz] at hb; cases hb
  have hz' : hset h b (Ob 13 [.null, .null, .int 0]) a0 = some (Ob 11 (gFl A d)) := by rw [hset_ne e1]; exact hz
  refine ⟨?_, A', P', w', e⟩
  rw [hset_ne e1, hset_ne (fun z => by rw [← z, hz'] at hy; cases hy), hset_ne (fun z => by rw [← z, hz'] at hx; cases hx)]
  exact hz'
theorem PI.moduW (w : PI pd0 A P d X h) (ha : A 96 = a0) {s : Nat} (hs : s < 8) (hd : mfO s = d) (h96 : d < 96) (hfk : fkL.getD d none = some (500 + s)) (p1 : pd0 (510 + s) = false) (p2 : pd0 (520 + s) = false) (p3 : pd0 (500 + s) = false) {b x y : Nat} (hb : h b = none) (hx : hset h b (Ob 12 [.null, .null, .int 0, .int 0]) x = none) (hy : hset h b (Ob 12 [.null, .null, .int 0, .int 0]) y = none) (exy : x ≠ y) :
    hset (hset (hset (hset h b (Ob 12 [.null, .null, .int 0, .int 0])) x (Ai false 0 64 fun _ => 0)) y (Ai false 0 64 fun _ => 0)) b (Ob 12 [.ref x, .ref y, .int 0, .int 0]) a0 = some (Ob 11 (gFl A d)) ∧
    ∃ A' P', PI pd0 A' P' (d + 1) X (hset (hset (hset (hset (hset h b (Ob 12 [.null, .null, .int 0, .int 0])) x (Ai false 0 64 fun _ => 0)) y (Ai false 0 64 fun _ => 0)) b (Ob 12 [.ref x, .ref y, .int 0, .int 0])) a0 (Ob 11 ((gFl A d).set d (.ref b)))) ∧ A' 96 = a0 := by
  have hz := w.at0 ha (by rw [← hd]; exact (mfO_g s hs).2.2)
  obtain ⟨A', P', w', e⟩ := w.modu hs hd h96 hfk p1 p2 p3 hb hx hy exy
  rw [ha] at w' e
  have e1 : a0 ≠ b := fun z => by rw [← z, hz] at hb; cases hb
  have hz' : hset h b (Ob 12 [.null, .null, .int 0, .int 0]) a0 = some (Ob 11 (gFl A d)) := by rw [hset_ne e1]; exact hz
  refine ⟨?_, A', P', w', e⟩
  rw [hset_ne e1, hset_ne (fun z => by rw [← z, hz'] at hy; cases hy), hset_ne (fun z => by rw [← z, hz'] at hx; cases hx)]
  exact hz'
theorem PI.gridW (w : PI pd0 A P d X h) (ha : A 96 = a0) (h96 : d < 96) {N b : Nat} (hdN : (d = 64 ∧ N = 6 ∧ b = 530) ∨ (d = 74 ∧ N = 60 ∧ b = 600)) (hp : ∀ k, k = d ∨ (b ≤ k ∧ k < b + N) → pd0 k = false) {q : Nat} (hq : ∀ a, q ≤ a → h a = none) :
    hgrid h q N a0 = some (Ob 11 (gFl A d)) ∧ ∃ A' P', PI pd0 A' P' (d + 1) X (hset (hgrid h q N) a0 (Ob 11 ((gFl A d).set d (.ref q)))) ∧ A' 96 = a0 := by
  have hz := w.at0 ha (by omega)
  obtain ⟨A', P', w', e⟩ := w.grid h96 hdN hp hq
  rw [ha] at w' e
  have hlt : a0 < q := by
    apply Nat.lt_of_not_le
    intro z
    have := hq _ z
    rw [hz] at this
    cases this
  refine ⟨?_, A', P', w', e⟩
  unfold hgrid
  rw [if_neg (by omega), hrows_out (Or.inl hlt)]
  exact hz
end PIw
