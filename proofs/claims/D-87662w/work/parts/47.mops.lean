set_option maxRecDepth 100000
/-! the reference's arithmetic over its world -/
/-- an operand: n limbs that make v; none of the working rows -/
def OpM (A : Nat → Nat) (h : AH) (a n v : Nat) : Prop := ∃ (ra : Bool) (na : Nat) (fa : Nat → Int32), h a = some (Ai ra 0 na fa) ∧ n ≤ na ∧ na < 2 ^ 31 ∧ V n fa = v ∧ (a ≠ A 1 ∧ a ≠ A 3 ∧ a ≠ A 4) ∧ (a ≠ A 5 ∧ a ≠ A 6 ∧ a ≠ A 7 ∧ a ≠ A 8)
def scr (k : Nat) : Bool := k == 1 || k == 3 || k == 4 || k == 5 || k == 6 || k == 7 || k == 8
section MO
variable {A : Nat → Nat} {X : AH} {R : Nat → Nat} {I : Nat → Nat → Int32} {S : Nat → List Int32} {F : Nat → Int32} {h : AH}
theorem MW.ne (w : MW A X R I S F h) {k k' : Nat} (h1 : (kdM k).1 ≠ 0) (h2 : (kdM k').1 ≠ 0) (h3 : k ≠ k') : A k ≠ A k' := WD.ne w h1 h2 h3
theorem MW.sc (w : MW A X R I S F h) {k : Nat} (h1 : (kdM k).1 ≠ 0) (hs : scr k = false) : (A k ≠ A 1 ∧ A k ≠ A 3 ∧ A k ≠ A 4) ∧ (A k ≠ A 5 ∧ A k ≠ A 6 ∧ A k ≠ A 7 ∧ A k ≠ A 8) := by
  have hn : ∀ j, scr j = true → k ≠ j := fun j hj e => by rw [e, hj] at hs; cases hs
  exact ⟨⟨w.ne h1 (by decide) (hn 1 rfl), w.ne h1 (by decide) (hn 3 rfl), w.ne h1 (by decide) (hn 4 rfl)⟩, w.ne h1 (by decide) (hn 5 rfl), w.ne h1 (by decide) (hn 6 rfl), w.ne h1 (by decide) (hn 7 rfl), w.ne h1 (by decide) (hn 8 rfl)⟩
theorem scr_k {k : Nat} {d : Nat × Nat} {t : Nat} (hk : kdM k = (t, d)) (ht : t ≠ 4) : scr k = false := by
  unfold scr
  have hn : ∀ j, (kdM j).1 = 4 → (k == j) = false := fun j hj => by
    cases e : k == j with
    | false => rfl
    | true =>
      rw [beq_iff_eq] at e
      subst e
      rw [hk] at hj
      exact absurd hj ht
  rw [hn 1 rfl, hn 3 rfl, hn 4 rfl, hn 5 rfl, hn 6 rfl, hn 7 rfl, hn 8 rfl]
  rfl
theorem OpM.n (w : MW A X R I S F h) (k : Nat) (hk : kdM k = (1, 0, 12)) : OpM A h (A k) 12 (R k) := by
  obtain ⟨f, h1, h2, -⟩ := w.n k hk
  exact ⟨false, 12, f, h1, Nat.le_refl _, by decide, h2, w.sc (by rw [hk]; decide) (scr_k hk (by decide))⟩
theorem OpM.n2 (w : MW A X R I S F h) (k : Nat) (hk : kdM k = (2, 0, 12)) : OpM A h (A k) 12 (R k) := by
  obtain ⟨f, h1, h2⟩ := w.n2 k hk
  exact ⟨false, 12, f, h1, Nat.le_refl _, by decide, h2, w.sc (by rw [hk]; decide) (scr_k hk (by decide))⟩
theorem OpM.i (w : MW A X R I S F h) (k : Nat) {N n : Nat} (hk : kdM k = (3, 0, N)) (hn : n ≤ N) (hN : N < 2 ^ 31) : OpM A h (A k) n (V n (I k)) :=
  ⟨false, N, I k, w.i k hk, hn, hN, rfl, w.sc (by rw [hk]; exact Nat.succ_ne_zero _) (scr_k hk (by decide))⟩
theorem OpM.st (w : MW A X R I S F h) {a n : Nat} {f : Nat → Int32} (ha : h a = some (Ai true 0 n f)) (hn : n < 2 ^ 31) : OpM A h a n (V n f) := by
  have hne : ∀ k, kdM k = (4, 0, (kdM k).2.2) → a ≠ A k := fun k hk => by
    obtain ⟨f', e⟩ := w.j k hk
    exact ne_of ha e (fun z => by cases z)
  exact ⟨true, n, f, ha, Nat.le_refl _, hn, rfl, ⟨hne 1 rfl, hne 3 rfl, hne 4 rfl⟩, hne 5 rfl, hne 6 rfl, hne 7 rfl, hne 8 rfl⟩
/-- modulus j (0 p, 1 q, then the keys'), n limbs, of value mv -/
def MoS (I : Nat → Nat → Int32) (F : Nat → Int32) (j n mv : Nat) : Prop := (j = 0 ∧ n = 12 ∧ mv = pP) ∨ (j = 1 ∧ n = 12 ∧ mv = qP) ∨ (2 ≤ j ∧ j < 8 ∧ ∃ s, s < 32 ∧ F (540 + j) = nI n ∧ F (550 + j) = nI s ∧ V n (I (510 + j)) = mv ∧ V n (I (520 + j)) = mv * 2 ^ s ∧ 2 ^ 31 ≤ u32 (I (520 + j) (n - 1)) ∧ 2 ≤ n ∧ n ≤ 64)
theorem V_lim12 {v : Nat} (h : v < 2 ^ (32 * 12)) : V 12 (lim v) = v := V_nm h
theorem kd_m {j : Nat} (h1 : 2 ≤ j) (h2 : j < 8) : kdM (500 + j) = (7, 0, 0) ∧ kdM (510 + j) = (3, 0, 64) ∧ kdM (520 + j) = (3, 0, 64) := by
  obtain rfl | rfl | rfl | rfl | rfl | rfl : j = 2 ∨ j = 3 ∨ j = 4 ∨ j = 5 ∨ j = 6 ∨ j = 7 := by omega
  all_goals exact ⟨rfl, rfl, rfl⟩
theorem mO_m {j : Nat} (h1 : 2 ≤ j) (h2 : j < 8) : mO A F (500 + j) = Ob 12 [.ref (A (510 + j)), .ref (A (520 + j)), .int (F (540 + j)), .int (F (550 + j))] := by
  obtain rfl | rfl | rfl | rfl | rfl | rfl : j = 2 ∨ j = 3 ∨ j = 4 ∨ j = 5 ∨ j = 6 ∨ j = 7 := by omega
  all_goals rfl
theorem MoS.T (w : MW A X R I S F h) {j n mv : Nat} (hm : MoS I F j n mv) : ModT (mFl A F) h (A (500 + j)) (A (510 + j)) (A (520 + j)) n mv := by
  rcases hm with ⟨rfl, rfl, rfl⟩ | ⟨rfl, rfl, rfl⟩ | ⟨h1, h2, s, h3, h4, h5, h6, h7, h8, h9, h10⟩
  · exact ⟨0, 64, lim pP, w.o 500 rfl, w.o 510 rfl, by decide, by decide, V_lim12 pP_lt, by decide, by decide, Or.inl ⟨mf_9, rfl, rfl⟩⟩
  · refine ⟨0, 64, lim qP, w.o 501 rfl, w.o 511 rfl, by decide, by decide, V_lim12 qP_lt, by decide, by decide, Or.inr ⟨A 500, 64, lim qP, mf_9, w.ne (by decide) (by decide) (by decide), w.o 521 rfl, by decide, by decide, by decide, ?_, ?_⟩⟩
    · rw [V_lim12 qP_lt, Nat.pow_zero, Nat.mul_one]
    · decide +kernel
  · obtain ⟨k1, k2, k3⟩ := kd_m h1 h2
    have e0 := w.o (500 + j) k1
    rw [mO_m h1 h2, h4, h5] at e0
    exact ⟨s, 64, I (510 + j), e0, w.i _ k2, by omega, by decide, h6, h9, h10, Or.inr ⟨A 500, 64, I (520 + j), mf_9, w.ne (by rw [k1]; decide) (by decide) (by omega), w.i _ k3, by omega, by decide, h3, h7, h8⟩⟩
theorem MoS.sc (w : MW A X R I S F h) {j n mv : Nat} (hm : MoS I F j n mv) : A (520 + j) ≠ A 1 ∧ (A (510 + j) ≠ A 5 ∧ A (510 + j) ≠ A 6 ∧ A (510 + j) ≠ A 7 ∧ A (510 + j) ≠ A 8) := by
  have h0 : (kdM (510 + j)).1 ≠ 0 ∧ (kdM (520 + j)).1 ≠ 0 := by
    rcases hm with ⟨rfl, -, -⟩ | ⟨rfl, -, -⟩ | ⟨h1, h2, -⟩
    · exact ⟨by decide, by decide⟩
    · exact ⟨by decide, by decide⟩
    · obtain ⟨k1, k2, k3⟩ := kd_m h1 h2
      rw [k2, k3]
      exact ⟨by decide, by decide⟩
  exact ⟨w.ne h0.2 (by decide) (by omega), w.ne h0.1 (by decide) (by omega), w.ne h0.1 (by decide) (by omega), w.ne h0.1 (by decide) (by omega), w.ne h0.1 (by decide) (by omega)⟩
/-- times -/
theorem mtW (g : GX) (w : MW A X R I S F h) {j n mv a b va vb to no : Nat} {fo : Nat → Int32} (hm : MoS I F j n mv) (oa : OpM A h a n va) (ob : OpM A h b n vb) (ho : h to = some (Ai false 0 no fo)) (e3 : to ≠ A 1) (hn : n ≤ no) (hl : no < 2 ^ 31) :
    MT g MX10_times ({ frames := 3, cells := 0, slots := 0, locals := 83 } : Room) [.ref (A 96), .ref (A (500 + j)), .ref a, .ref b, .ref to] h (RV fun h' => ∃ (fw' : Nat → Int32) (F' : Nat → Int64) (f : Nat → Int32), (∀ j, n ≤ j → f j = fo j) ∧ V n f = va * vb % mv ∧ h' = hset (hset (hset h (A 1) (Ai false 0 130 fw')) (A 2) (Al false 16 F')) to (Ai false 0 no f)) := by
  obtain ⟨ra, na, fa, a1, a2, a3, rfl, a5, -⟩ := oa
  obtain ⟨rb, nb, fb, b1, b2, b3, rfl, b5, -⟩ := ob
  obtain ⟨fw, hw⟩ := w.j 1 rfl
  obtain ⟨F0, hf⟩ := w.l 2 rfl
  exact mtimes_ok g w.ob (hm.T w) a1 b1 ho hw hf mf_1 mf_2 a5.1 b5.1 e3 (hm.sc w).1 ⟨a2, b2, hn⟩ ⟨a3, b3, hl⟩
theorem MT.mono {g : GX} {M : MI} {rm : Room} {av : List Value} {h : AH} {Q Q' : Outcome → AH → Prop} (m : MT g M rm av h Q) (hq : ∀ o h', Q o h' → Q' o h') : MT g M rm av h Q' := by
  intro l
  refine MetFree.mono (m l) (fun _ _ x => x) (fun _ _ _ _ _ x => x) (fun a s o t _ x => ?_)
  obtain ⟨⟨⟨h', q, r⟩, y⟩, z⟩ := x
  exact ⟨⟨⟨h', hq _ _ q, r⟩, y⟩, z⟩
end MO
