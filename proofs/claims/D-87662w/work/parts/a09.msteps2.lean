set_option maxRecDepth 100000
/-! the constructor's steps: objects with two arrays; arrays of arrays -/
section PIu
variable {pd : Nat → Bool} {A A' : Nat → Nat} {P P' : Nat → AC} {d : Nat} {X h h' : AH}
theorem PI.three (w : PI pd A P d X h) (h0 : 0 < d) {kb kx ky : Nat} (hall : ∀ k, (kdM k).1 ≠ 0 → ownF k = d → k = kx ∨ k = ky ∨ k = kb) (ob : ownF kb = d) (ox : ownF kx = d) (oy : ownF ky = d) (nb : (kdM kb).1 ≠ 0) (nx : (kdM kx).1 ≠ 0) (ny : (kdM ky).1 ≠ 0)
    (dxy : kx ≠ ky) (dxb : kx ≠ kb) (dyb : ky ≠ kb) (pb : pd kb = false) (px : pd kx = false) (py : pd ky = false) {b x y : Nat} (hb : h b = none) (hx : h x = none) (hy : h y = none) (exy : x ≠ y) (exb : x ≠ b) (eyb : y ≠ b)
    {Z : AC} {O : Nat → Nat → AC} (zx : ∀ A, dO A kx = Z) (zy : ∀ A, dO A ky = Z) (zO : ∀ A, dO A kb = O (A kx) (A ky)) {fl : List Value} (hfl : fl = gFl (up (up (up A kx x) ky y) kb b) (d + 1)) :
    ∃ A' P', PI pd A' P' (d + 1) X (hset (hset (hset (hset h x Z) y Z) b (O x y)) (A 96) (Ob 11 fl)) ∧ A' 96 = A 96 ∧ A' kb = b ∧ (∀ k, KI d k → A' k = A k) ∧ ∀ k, k ≠ 96 → P' k = P k := by
  have no96 : ∀ q, h q = none → q ≠ A 96 := fun q hq e => by rw [e, w.a96 h0] at hq; cases hq
  have ne : ∀ k, KI d k → k ≠ kx ∧ k ≠ ky ∧ k ≠ kb := fun k hk => ⟨fun e => by have := hk.2; rw [e, ox] at this; omega, fun e => by have := hk.2; rw [e, oy] at this; omega, fun e => by have := hk.2; rw [e, ob] at this; omega⟩
  have k96 : KI d 96 := ⟨by decide, h0⟩
  obtain ⟨A1, hA1⟩ : ∃ A1, A1 = up (up (up A kx x) ky y) kb b := ⟨_, rfl⟩
  rw [← hA1] at hfl
  have ab : A1 kb = b := by rw [hA1, up_same]
  have ay : A1 ky = y := by rw [hA1, up_ne dyb, up_same]
  have ax : A1 kx = x := by rw [hA1, up_ne dxb, up_ne dxy, up_same]
  have keep : ∀ k, KI d k → A1 k = A k := fun k hk => by
    obtain ⟨n1, n2, n3⟩ := ne k hk
    rw [hA1, up_ne n3, up_ne n2, up_ne n1]
  refine ⟨A1, up P 96 (Ob 11 (gFl A1 (d + 1))), w.ext h0 keep (fun k _ hk => up_ne hk) (fun k hk ho => ?_) (fun k k' hk hk' ho ho' e => ?_) (up_same _ _ _) ?_ (fun a ha hn => ?_), keep 96 k96, ab, keep, fun k hk => up_ne hk⟩
  · rcases hall k hk ho with rfl | rfl | rfl
    · rw [ax]
      refine ⟨hx, ?_⟩
      rw [hset_ne (no96 x hx), hset_ne exb, hset_ne exy, hset_self]
      unfold cel
      rw [if_neg (by rw [px]; decide), zx]
    · rw [ay]
      refine ⟨hy, ?_⟩
      rw [hset_ne (no96 y hy), hset_ne eyb, hset_self]
      unfold cel
      rw [if_neg (by rw [py]; decide), zy]
    · rw [ab]
      refine ⟨hb, ?_⟩
      rw [hset_ne (no96 b hb), hset_self]
      unfold cel
      rw [if_neg (by rw [pb]; decide), zO, ax, ay]
  · rcases hall k hk ho with rfl | rfl | rfl
    · rcases hall k' hk' ho' with rfl | rfl | rfl
      · rfl
      · rw [ax, ay] at e; exact absurd e exy
      · rw [ax, ab] at e; exact absurd e exb
    · rcases hall k' hk' ho' with rfl | rfl | rfl
      · rw [ax, ay] at e; exact absurd e.symm exy
      · rfl
      · rw [ay, ab] at e; exact absurd e eyb
    · rcases hall k' hk' ho' with rfl | rfl | rfl
      · rw [ax, ab] at e; exact absurd e.symm exb
      · rw [ay, ab] at e; exact absurd e.symm eyb
      · rfl
  · rw [hset_self, up_same, hfl]
  · have n1 := hn kx nx ox
    have n2 := hn ky ny oy
    have n3 := hn kb nb ob
    rw [ax] at n1
    rw [ay] at n2
    rw [ab] at n3
    rw [hset_ne ha, hset_ne (fun e => n3 e.symm), hset_ne (fun e => n2 e.symm), hset_ne (fun e => n1 e.symm)]
/-- a field with a new spot -/
theorem PI.spot (w : PI pd A P d X h) {s : Nat} (hs : s < 31) (hd : sfO s = d) (h96 : d < 96) (hfk : fkL.getD d none = some (400 + s)) (p1 : pd (200 + s) = false) (p2 : pd (300 + s) = false) (p3 : pd (400 + s) = false) {b x y : Nat} (hb : h b = none) (hx : hset h b (Ob 13 [.null, .null, .int 0]) x = none) (hy : hset h b (Ob 13 [.null, .null, .int 0]) y = none) (exy : x ≠ y) :
    ∃ A' P', PI pd A' P' (d + 1) X (hset (hset (hset (hset (hset h b (Ob 13 [.null, .null, .int 0])) x (Ai false 0 12 fun _ => 0)) y (Ai false 0 12 fun _ => 0)) b (Ob 13 [.ref x, .ref y, .int 0])) (A 96) (Ob 11 ((gFl A d).set d (.ref b)))) ∧ A' 96 = A 96 := by
  have h0 : 0 < d := by rw [← hd]; exact (sfO_g s hs).2.2
  obtain ⟨o1, o2, o3⟩ := own_x hs
  obtain ⟨n1, n2, n3⟩ := kdM_spot hs
  have exb : x ≠ b := fun e => by rw [e, hset_self] at hx; cases hx
  have eyb : y ≠ b := fun e => by rw [e, hset_self] at hy; cases hy
  rw [hset_ne exb] at hx
  rw [hset_ne eyb] at hy
  have zx : ∀ A, dO A (200 + s) = Ai false 0 12 (fun _ => 0) := fun A => by
    have hk : ∀ s, s < 31 → (kdM (200 + s)) = (1, 0, 12) ∨ (kdM (200 + s)) = (2, 0, 12) := by decide +kernel
    unfold dO
    rw [if_neg (by omega), if_neg (by omega), if_neg (by omega), if_neg (by omega), if_neg (by omega), if_neg (by omega), if_neg (by omega), if_neg (by omega)]
    rcases hk s hs with e | e
    · rw [e]; rfl
    · rw [e]; rfl
  have zy : ∀ A, dO A (300 + s) = Ai false 0 12 (fun _ => 0) := fun A => by
    have hk : ∀ s, s < 31 → (kdM (300 + s)) = (1, 0, 12) := by decide +kernel
    unfold dO
    rw [if_neg (by omega), if_neg (by omega), if_neg (by omega), if_neg (by omega), if_neg (by omega), if_neg (by omega), if_neg (by omega), if_neg (by omega), hk s hs]
    rfl
  have zO : ∀ A, dO A (400 + s) = (fun x y => Ob 13 [.ref x, .ref y, .int 0]) (A (200 + s)) (A (300 + s)) := fun A => by
    unfold dO
    rw [if_pos (by omega), show 400 + s - 200 = 200 + s by omega, show 400 + s - 100 = 300 + s by omega]
  have hfl : (gFl A d).set d (.ref b) = gFl (up (up (up A (200 + s) x) (300 + s) y) (400 + s) b) (d + 1) := by
    refine gFl_setV h96 (by unfold fV; rw [hfk]; show Value.ref (up _ (400 + s) b (400 + s)) = _; rw [up_same]) (fun i k hi hk => ?_)
    have hk4 : ∀ i, i < 96 → ∀ k ∈ fkL.getD i none, k < 97 ∨ (400 ≤ k ∧ k < 431) ∨ (500 ≤ k ∧ k < 510) := by decide +kernel
    have hr := hk4 i (by omega) k (by rw [hk]; rfl)
    have hne : k ≠ 400 + s := fun e => by
      have := fkL_inj i (by omega) d h96 (by rw [hk]; exact fun z => by cases z) (by rw [hk, hfk, e])
      omega
    rw [up_ne hne, up_ne (by omega), up_ne (by omega)]
  have hall : ∀ k, (kdM k).1 ≠ 0 → ownF k = d → k = 200 + s ∨ k = 300 + s ∨ k = 400 + s := fun k hk ho => own_sp hs hk (ho.trans hd.symm)
  obtain ⟨A', P', w', e1, e2, e3⟩ := w.three h0 (kb := 400 + s) (kx := 200 + s) (ky := 300 + s) (O := fun x y => Ob 13 [.ref x, .ref y, .int 0]) hall (o3.trans hd) (o1.trans hd) (o2.trans hd) n3 n1 n2 (by omega) (by omega) (by omega) p3 p1 p2 hb hx hy exy exb eyb zx zy zO hfl
  refine ⟨A', P', ?_, e1⟩
  have eh : hset (hset (hset (hset h b (Ob 13 [.null, .null, .int 0])) x (Ai false 0 12 fun _ => 0)) y (Ai false 0 12 fun _ => 0)) b (Ob 13 [.ref x, .ref y, .int 0]) = hset (hset (hset h x (Ai false 0 12 fun _ => 0)) y (Ai false 0 12 fun _ => 0)) b (Ob 13 [.ref x, .ref y, .int 0]) := by
    rw [hset_comm h _ _ (fun e => exb e.symm), hset_comm _ _ _ (fun e => eyb e.symm), hset_hset]
  rw [eh]
  exact w'
/-- a field with a new modulus -/
theorem PI.modu (w : PI pd A P d X h) {s : Nat} (hs : s < 8) (hd : mfO s = d) (h96 : d < 96) (hfk : fkL.getD d none = some (500 + s)) (p1 : pd (510 + s) = false) (p2 : pd (520 + s) = false) (p3 : pd (500 + s) = false) {b x y : Nat} (hb : h b = none) (hx : hset h b (Ob 12 [.null, .null, .int 0, .int 0]) x = none) (hy : hset h b (Ob 12 [.null, .null, .int 0, .int 0]) y = none) (exy : x ≠ y) :
    ∃ A' P', PI pd A' P' (d + 1) X (hset (hset (hset (hset (hset h b (Ob 12 [.null, .null, .int 0, .int 0])) x (Ai false 0 64 fun _ => 0)) y (Ai false 0 64 fun _ => 0)) b (Ob 12 [.ref x, .ref y, .int 0, .int 0])) (A 96) (Ob 11 ((gFl A d).set d (.ref b)))) ∧ A' 96 = A 96 := by
  have h0 : 0 < d := by rw [← hd]; exact (mfO_g s hs).2.2
  obtain ⟨o1, o2, o3⟩ := own_m hs
  obtain ⟨n1, n2, n3⟩ := kdM_mod hs
  have exb : x ≠ b := fun e => by rw [e, hset_self] at hx; cases hx
  have eyb : y ≠ b := fun e => by rw [e, hset_self] at hy; cases hy
  rw [hset_ne exb] at hx
  rw [hset_ne eyb] at hy
  have zx : ∀ A, dO A (510 + s) = Ai false 0 64 (fun _ => 0) := fun A => by
    unfold dO
    rw [if_neg (by omega), if_neg (by omega), if_pos (by omega)]
  have zy : ∀ A, dO A (520 + s) = Ai false 0 64 (fun _ => 0) := fun A => by
    unfold dO
    rw [if_neg (by omega), if_neg (by omega), if_pos (by omega)]
  have zO : ∀ A, dO A (500 + s) = (fun x y => Ob 12 [.ref x, .ref y, .int 0, .int 0]) (A (510 + s)) (A (520 + s)) := fun A => by
    unfold dO
    rw [if_neg (by omega), if_pos (by omega), show 500 + s + 10 = 510 + s by omega, show 500 + s + 20 = 520 + s by omega]
  have hfl : (gFl A d).set d (.ref b) = gFl (up (up (up A (510 + s) x) (520 + s) y) (500 + s) b) (d + 1) := by
    refine gFl_setV h96 (by unfold fV; rw [hfk]; show Value.ref (up _ (500 + s) b (500 + s)) = _; rw [up_same]) (fun i k hi hk => ?_)
    have hk4 : ∀ i, i < 96 → ∀ k ∈ fkL.getD i none, k < 97 ∨ (400 ≤ k ∧ k < 431) ∨ (500 ≤ k ∧ k < 510) := by decide +kernel
    have hr := hk4 i (by omega) k (by rw [hk]; rfl)
    have hne : k ≠ 500 + s := fun e => by
      have := fkL_inj i (by omega) d h96 (by rw [hk]; exact fun z => by cases z) (by rw [hk, hfk, e])
      omega
    rw [up_ne hne, up_ne (by omega), up_ne (by omega)]
  have hall : ∀ k, (kdM k).1 ≠ 0 → ownF k = d → k = 510 + s ∨ k = 520 + s ∨ k = 500 + s := fun k hk ho => by
    rcases own_md hs hk (ho.trans hd.symm) with z | z | z
    · exact Or.inr (Or.inr z)
    · exact Or.inl z
    · exact Or.inr (Or.inl z)
  obtain ⟨A', P', w', e1, e2, e3⟩ := w.three h0 (kb := 500 + s) (kx := 510 + s) (ky := 520 + s) (O := fun x y => Ob 12 [.ref x, .ref y, .int 0, .int 0]) hall (o1.trans hd) (o2.trans hd) (o3.trans hd) n1 n2 n3 (by omega) (by omega) (by omega) p3 p1 p2 hb hx hy exy exb eyb zx zy zO hfl
  refine ⟨A', P', ?_, e1⟩
  have eh : hset (hset (hset (hset h b (Ob 12 [.null, .null, .int 0, .int 0])) x (Ai false 0 64 fun _ => 0)) y (Ai false 0 64 fun _ => 0)) b (Ob 12 [.ref x, .ref y, .int 0, .int 0]) = hset (hset (hset h x (Ai false 0 64 fun _ => 0)) y (Ai false 0 64 fun _ => 0)) b (Ob 12 [.ref x, .ref y, .int 0, .int 0]) := by
    rw [hset_comm h _ _ (fun e => exb e.symm), hset_comm _ _ _ (fun e => eyb e.symm), hset_hset]
  rw [eh]
  exact w'
end PIu
