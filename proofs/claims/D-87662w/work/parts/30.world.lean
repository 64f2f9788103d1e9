set_option maxRecDepth 100000
/-! WORLDS: cells by key, and how they may change -/
def up {α : Type} (f : Nat → α) (k : Nat) (v : α) : Nat → α := fun j => if j = k then v else f j
theorem up_same {α : Type} (f : Nat → α) (k : Nat) (v : α) : up f k v k = v := if_pos rfl
theorem up_ne {α : Type} {f : Nat → α} {k j : Nat} {v : α} (h : j ≠ k) : up f k v j = f j := if_neg h
theorem up_id {α : Type} (f : Nat → α) (k : Nat) : up f k (f k) = f := by
  funext j
  unfold up
  split
  · rename_i e; rw [e]
  · rfl
/-- bytes of an array of which the first ones are known -/
def PL (f : Nat → Int32) (l : List Int32) : Prop := ∀ j, j < l.length → f j = l.getD j 0
abbrev KD := Nat × Nat × Nat
def WC (r : Nat) (i : Nat → Int32) (s : List Int32) (c : AC) (d : KD) (o : Option AC) : Prop := match d with
  | (0, _, _) => True
  | (1, _, _) => ∃ f, o = some (Ai false 0 12 f) ∧ V 12 f = r ∧ r < pP
  | (2, _, n) => ∃ f, o = some (Ai false 0 n f) ∧ V n f = r
  | (3, t, n) => o = some (Ai false t n i)
  | (4, t, n) => ∃ f, o = some (Ai false t n f)
  | (5, _, n) => ∃ f, o = some (Al false n f)
  | (6, _, n) => ∃ f, o = some (Ai false 2 n f) ∧ PL f s ∧ s.length ≤ n
  | (_, _, _) => o = some c
def WD (kd : Nat → KD) (A : Nat → Nat) (X : AH) (R : Nat → Nat) (I : Nat → Nat → Int32) (S : Nat → List Int32) (O : Nat → AC) (h : AH) : Prop :=
  (∀ k k', (kd k).1 ≠ 0 → (kd k').1 ≠ 0 → A k = A k' → k = k') ∧ (∀ k, WC (R k) (I k) (S k) (O k) (kd k) (h (A k))) ∧ ∀ a, (∀ k, (kd k).1 ≠ 0 → A k ≠ a) → h a = X a
section WDs
variable {kd : Nat → KD} {A : Nat → Nat} {X : AH} {R R' : Nat → Nat} {I I' : Nat → Nat → Int32} {S S' : Nat → List Int32} {O O' : Nat → AC} {h : AH}
theorem WD.set (w : WD kd A X R I S O h) (k : Nat) (hk : (kd k).1 ≠ 0) {c : AC} (hc : WC (R' k) (I' k) (S' k) (O' k) (kd k) (some c)) (hR : ∀ j, j ≠ k → R' j = R j) (hI : ∀ j, j ≠ k → I' j = I j) (hS : ∀ j, j ≠ k → S' j = S j) (hO : ∀ j, j ≠ k → O' j = O j) : WD kd A X R' I' S' O' (hset h (A k) c) := by
  refine ⟨w.1, fun j => ?_, fun a ha => ?_⟩
  · by_cases e : j = k
    · subst e
      rw [hset_self]
      exact hc
    · rw [hR j e, hI j e, hS j e, hO j e]
      by_cases h0 : (kd j).1 = 0
      · rw [show kd j = (0, (kd j).2.1, (kd j).2.2) from Prod.ext h0 rfl]
        trivial
      · rw [hset_ne (fun z => e (w.1 j k h0 hk z))]
        exact w.2.1 j
  · rw [hset_ne (fun z => ha k hk z.symm)]
    exact w.2.2 a ha
theorem WD.n (w : WD kd A X R I S O h) (k : Nat) {t n : Nat} (hk : kd k = (1, t, n)) : ∃ f, h (A k) = some (Ai false 0 12 f) ∧ V 12 f = R k ∧ R k < pP := by
  have := w.2.1 k
  rw [hk] at this
  exact this
theorem WD.n2 (w : WD kd A X R I S O h) (k : Nat) {t n : Nat} (hk : kd k = (2, t, n)) : ∃ f, h (A k) = some (Ai false 0 n f) ∧ V n f = R k := by
  have := w.2.1 k
  rw [hk] at this
  exact this
theorem WD.i (w : WD kd A X R I S O h) (k : Nat) {t n : Nat} (hk : kd k = (3, t, n)) : h (A k) = some (Ai false t n (I k)) := by
  have := w.2.1 k
  rw [hk] at this
  exact this
theorem WD.j (w : WD kd A X R I S O h) (k : Nat) {t n : Nat} (hk : kd k = (4, t, n)) : ∃ f, h (A k) = some (Ai false t n f) := by
  have := w.2.1 k
  rw [hk] at this
  exact this
theorem WD.l (w : WD kd A X R I S O h) (k : Nat) {t n : Nat} (hk : kd k = (5, t, n)) : ∃ f, h (A k) = some (Al false n f) := by
  have := w.2.1 k
  rw [hk] at this
  exact this
theorem WD.s (w : WD kd A X R I S O h) (k : Nat) {t n : Nat} (hk : kd k = (6, t, n)) : ∃ f, h (A k) = some (Ai false 2 n f) ∧ PL f (S k) ∧ (S k).length ≤ n := by
  have := w.2.1 k
  rw [hk] at this
  exact this
theorem WD.o (w : WD kd A X R I S O h) (k : Nat) {t n : Nat} (hk : kd k = (7, t, n)) : h (A k) = some (O k) := by
  have := w.2.1 k
  rw [hk] at this
  exact this
theorem WD.setN (w : WD kd A X R I S O h) (k : Nat) {t n : Nat} (hk : kd k = (1, t, n)) {v : Nat} {f : Nat → Int32} (hf : V 12 f = v) (hv : v < pP) : WD kd A X (up R k v) I S O (hset h (A k) (Ai false 0 12 f)) :=
  w.set k (by rw [hk]; exact Nat.succ_ne_zero _) (by rw [hk, up_same]; exact ⟨f, rfl, hf, hv⟩) (fun _ e => up_ne e) (fun _ _ => rfl) (fun _ _ => rfl) (fun _ _ => rfl)
theorem WD.setN2 (w : WD kd A X R I S O h) (k : Nat) {t n : Nat} (hk : kd k = (2, t, n)) {v : Nat} {f : Nat → Int32} (hf : V n f = v) : WD kd A X (up R k v) I S O (hset h (A k) (Ai false 0 n f)) :=
  w.set k (by rw [hk]; exact Nat.succ_ne_zero _) (by rw [hk, up_same]; exact ⟨f, rfl, hf⟩) (fun _ e => up_ne e) (fun _ _ => rfl) (fun _ _ => rfl) (fun _ _ => rfl)
theorem WD.setI (w : WD kd A X R I S O h) (k : Nat) {t n : Nat} (hk : kd k = (3, t, n)) (f : Nat → Int32) : WD kd A X R (up I k f) S O (hset h (A k) (Ai false t n f)) :=
  w.set k (by rw [hk]; exact Nat.succ_ne_zero _) (by rw [hk, up_same]; rfl) (fun _ _ => rfl) (fun _ e => up_ne e) (fun _ _ => rfl) (fun _ _ => rfl)
theorem WD.setJ (w : WD kd A X R I S O h) (k : Nat) {t n : Nat} (hk : kd k = (4, t, n)) (f : Nat → Int32) : WD kd A X R I S O (hset h (A k) (Ai false t n f)) :=
  w.set k (by rw [hk]; exact Nat.succ_ne_zero _) (by rw [hk]; exact ⟨f, rfl⟩) (fun _ _ => rfl) (fun _ _ => rfl) (fun _ _ => rfl) (fun _ _ => rfl)
theorem WD.setL (w : WD kd A X R I S O h) (k : Nat) {t n : Nat} (hk : kd k = (5, t, n)) (f : Nat → Int64) : WD kd A X R I S O (hset h (A k) (Al false n f)) :=
  w.set k (by rw [hk]; exact Nat.succ_ne_zero _) (by rw [hk]; exact ⟨f, rfl⟩) (fun _ _ => rfl) (fun _ _ => rfl) (fun _ _ => rfl) (fun _ _ => rfl)
theorem WD.setS (w : WD kd A X R I S O h) (k : Nat) {t n : Nat} (hk : kd k = (6, t, n)) {l : List Int32} {f : Nat → Int32} (h1 : PL f l) (h2 : l.length ≤ n) : WD kd A X R I (up S k l) O (hset h (A k) (Ai false 2 n f)) :=
  w.set k (by rw [hk]; exact Nat.succ_ne_zero _) (by rw [hk, up_same]; exact ⟨f, rfl, h1, h2⟩) (fun _ _ => rfl) (fun _ _ => rfl) (fun _ e => up_ne e) (fun _ _ => rfl)
theorem WD.setO (w : WD kd A X R I S O h) (k : Nat) {t n : Nat} (hk : kd k = (7, t, n)) {c : AC} (hc : O' k = c) (hO : ∀ j, j ≠ k → O' j = O j) : WD kd A X R I S O' (hset h (A k) c) :=
  w.set k (by rw [hk]; exact Nat.succ_ne_zero _) (by rw [hk]; exact congrArg some hc.symm) (fun _ _ => rfl) (fun _ _ => rfl) (fun _ _ => rfl) hO
/-- two cells of a world lie apart -/
theorem WD.ne (w : WD kd A X R I S O h) {k k' : Nat} (h1 : (kd k).1 ≠ 0) (h2 : (kd k').1 ≠ 0) (h3 : k ≠ k') : A k ≠ A k' := fun z => h3 (w.1 k k' h1 h2 z)
end WDs
