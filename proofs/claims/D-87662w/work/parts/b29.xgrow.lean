set_option maxRecDepth 100000
/-! VeilMint's world grows, and loses what is no longer needed -/
section XGw
variable {kd : Nat → KD} {A : Nat → Nat} {X : AH} {R R' : Nat → Nat} {S S' : Nat → List Int32} {O O' : Nat → AC} {F : Nat → Int32} {h : AH}
/-- a key that no array of keys or askings knows -/
def FreeK (F : Nat → Int32) (k : Nat) : Prop := 80 ≤ k ∧ (∀ j, j < (F 30).toNatClampNeg → k ≠ 100 + 100 * j) ∧ ∀ j, j < (F 31).toNatClampNeg → k ≠ 1000 + 10 * j
theorem xOs_up {k q : Nat} (hk : 80 ≤ k) (j : Nat) (hj : j < 77) : xOs (up A k q) j = xOs A j := by
  have e : ∀ i, i < 80 → up A k q i = A i := fun i hi => up_ne (by omega)
  unfold xOs
  by_cases c : j = 11
  · rw [if_pos c, if_pos c]
    unfold cvFl
    rw [e 30 (by decide), e 40 (by decide), e 12 (by decide), e 13 (by decide), e 14 (by decide), e 15 (by decide), e 16 (by decide), e 17 (by decide), e 18 (by decide), e 19 (by decide), e 20 (by decide), e 21 (by decide), e 22 (by decide), e 23 (by decide), e 60 (by decide), e 64 (by decide), e 68 (by decide), e 6 (by decide), e 24 (by decide), e 25 (by decide), e 26 (by decide)]
  rw [if_neg c, if_neg c]
  by_cases c : j = 30
  · rw [if_pos c, if_pos c]
    unfold MdC
    dsimp only
    rw [e (30 + 1) (by decide), e (30 + 2) (by decide), e (30 + 3) (by decide), e (30 + 4) (by decide), e (30 + 5) (by decide), e (30 + 6) (by decide), e (30 + 7) (by decide), e (30 + 8) (by decide), e (30 + 9) (by decide)]
  rw [if_neg c, if_neg c]
  by_cases c : j = 31
  · rw [if_pos c, if_pos c]
  rw [if_neg c, if_neg c]
  by_cases c : j = 32
  · rw [if_pos c, if_pos c]
  rw [if_neg c, if_neg c]
  by_cases c : j = 33
  · rw [if_pos c, if_pos c]
  rw [if_neg c, if_neg c]
  by_cases c : j = 34
  · rw [if_pos c, if_pos c]
  rw [if_neg c, if_neg c]
  by_cases c : j = 40
  · rw [if_pos c, if_pos c]
    unfold MdC
    dsimp only
    rw [e (40 + 1) (by decide), e (40 + 2) (by decide), e (40 + 3) (by decide), e (40 + 4) (by decide), e (40 + 5) (by decide), e (40 + 6) (by decide), e (40 + 7) (by decide), e (40 + 8) (by decide), e (40 + 9) (by decide)]
  rw [if_neg c, if_neg c]
  by_cases c : j = 41
  · rw [if_pos c, if_pos c]
  rw [if_neg c, if_neg c]
  by_cases c : j = 42
  · rw [if_pos c, if_pos c]
  rw [if_neg c, if_neg c]
  by_cases c : j = 43
  · rw [if_pos c, if_pos c]
  rw [if_neg c, if_neg c]
  by_cases c : j = 44
  · rw [if_pos c, if_pos c]
  rw [if_neg c, if_neg c]
  unfold ptC
  rw [e (j + 1) (by omega), e (j + 2) (by omega), e (j + 3) (by omega)]
theorem xO_up {k q : Nat} (hk : FreeK F k) (j : Nat) (hj : j < 77) : xO (up A k q) F j = xO A F j := by
  obtain ⟨h80, hK, hA⟩ := hk
  have e : ∀ i, i < 80 → up A k q i = A i := fun i hi => up_ne (by omega)
  unfold xO
  rw [xOs_up h80 j hj]
  have e0 : vFl (up A k q) F = vFl A F := by
    unfold vFl
    rw [e 1 (by decide), e 6 (by decide), e 11 (by decide), e 50 (by decide), e 51 (by decide), e 54 (by decide), e 55 (by decide), e 56 (by decide), e 57 (by decide), e 58 (by decide)]
  have e1 : d1Fl (up A k q) F = d1Fl A F := by
    unfold d1Fl
    rw [e 2 (by decide), e 3 (by decide), e 4 (by decide), e 5 (by decide)]
  have e6 : d2Fl (up A k q) F = d2Fl A F := by
    unfold d2Fl
    rw [e 7 (by decide), e 8 (by decide), e 9 (by decide), e 10 (by decide)]
  have e51 : dkFl (up A k q) F = dkFl A F := by
    unfold dkFl
    rw [e 52 (by decide), e 53 (by decide)]
  have e54 : kyA (up A k q) F = kyA A F := by
    unfold kyA
    congr 1
    funext i
    by_cases c : i < (F 30).toNatClampNeg
    · rw [if_pos c, if_pos c, up_ne (fun z => hK i c z.symm)]
    · rw [if_neg c, if_neg c]
  have e55 : asA (up A k q) F = asA A F := by
    unfold asA
    congr 1
    funext i
    by_cases c : i < (F 31).toNatClampNeg
    · rw [if_pos c, if_pos c, up_ne (fun z => hA i c z.symm)]
    · rw [if_neg c, if_neg c]
  rw [e0, e1, e6, e51, e54, e55]
theorem kdX_hi (j : Nat) (h1 : 77 ≤ j) (h2 : j < 80) : kdX j = (0, 0, 0) := by
  have : j = 77 ∨ j = 78 ∨ j = 79 := by omega
  rcases this with rfl | rfl | rfl <;> rfl
/-- a new cell comes into the world -/
theorem XW.add (w : XW kd A X R S O F h) {q k : Nat} (hq : h q = none) (hk : (kd k).1 = 0) (fk : FreeK F k) {d : KD} (hd : d.1 ≠ 0) (hd7 : d.1 ≤ 7) {c : AC} (hc : WC (R' k) (I0 k) (S' k) (O' k) d (some c)) (hR : ∀ j, j ≠ k → R' j = R j) (hS : ∀ j, j ≠ k → S' j = S j) (hO : ∀ j, j ≠ k → O' j = O j) (hn : ∀ v tx, O' k ≠ Sg v tx) :
    XW (up kd k d) (up A k q) X R' S' O' F (hset h q c) := by
  have h80 := fk.1
  refine ⟨WD.add w.1 hq hk hd (R' := R') (I' := I0) (S' := S') (O' := oE (up A k q) O' F) ?_ hR (fun _ _ => rfl) hS (fun j hj h7 => ?_) w.2.2.1, fun j hj => ?_, fun j => ?_, fun j v tx => ?_⟩
  · have e : oE (up A k q) O' F k = O' k := by unfold oE; rw [if_neg (by omega)]
    rw [e]
    exact hc
  · unfold oE
    by_cases cj : j < 80
    · rw [if_pos cj, if_pos cj]
      by_cases c77 : j < 77
      · exact xO_up fk j c77
      · rw [w.k j cj, kdX_hi j (by omega) cj] at h7
        exact absurd h7 (by decide)
    · rw [if_neg cj, if_neg cj, hO j hj]
  · rw [up_ne (by omega)]
    exact w.k j hj
  · by_cases e : j = k
    · rw [e, up_same]; exact hd7
    · rw [up_ne e]; exact w.2.2.1 j
  · by_cases e : j = k
    · rw [e]; exact hn v tx
    · rw [hO j e]; exact w.2.2.2 j v tx
theorem XW.addN2 (w : XW kd A X R S O F h) {q k n : Nat} {f : Nat → Int32} (hq : h q = none) (hk : (kd k).1 = 0) (fk : FreeK F k) : XW (up kd k (2, 0, n)) (up A k q) X (up R k (V n f)) S O F (hset h q (Ai false 0 n f)) :=
  w.add hq hk fk (Nat.succ_ne_zero _) (by show (2 : Nat) ≤ 7; decide) ⟨f, rfl, (up_same _ _ _).symm⟩ (fun _ e => up_ne e) (fun _ _ => rfl) (fun _ _ => rfl) (fun v tx => w.2.2.2 k v tx)
theorem XW.addN1 (w : XW kd A X R S O F h) {q k : Nat} {f : Nat → Int32} (hq : h q = none) (hk : (kd k).1 = 0) (fk : FreeK F k) (hf : V 12 f < pP) : XW (up kd k (1, 0, 12)) (up A k q) X (up R k (V 12 f)) S O F (hset h q (Ai false 0 12 f)) :=
  w.add hq hk fk (Nat.succ_ne_zero _) (by decide) ⟨f, rfl, (up_same _ _ _).symm, by rw [up_same]; exact hf⟩ (fun _ e => up_ne e) (fun _ _ => rfl) (fun _ _ => rfl) (fun v tx => w.2.2.2 k v tx)
theorem XW.addJ (w : XW kd A X R S O F h) {q k t n : Nat} {f : Nat → Int32} (hq : h q = none) (hk : (kd k).1 = 0) (fk : FreeK F k) : XW (up kd k (4, t, n)) (up A k q) X R S O F (hset h q (Ai false t n f)) :=
  w.add hq hk fk (Nat.succ_ne_zero _) (by show (4 : Nat) ≤ 7; decide) ⟨f, rfl⟩ (fun _ _ => rfl) (fun _ _ => rfl) (fun _ _ => rfl) (fun v tx => w.2.2.2 k v tx)
theorem XW.addS (w : XW kd A X R S O F h) {q k n : Nat} {f : Nat → Int32} {l : List Int32} (hq : h q = none) (hk : (kd k).1 = 0) (fk : FreeK F k) (hf : PL f l) (hl : l.length ≤ n) : XW (up kd k (6, 2, n)) (up A k q) X R (up S k l) O F (hset h q (Ai false 2 n f)) :=
  w.add hq hk fk (Nat.succ_ne_zero _) (by show (6 : Nat) ≤ 7; decide) ⟨f, rfl, by rw [up_same]; exact hf, by rw [up_same]; exact hl⟩ (fun _ _ => rfl) (fun _ e => up_ne e) (fun _ _ => rfl) (fun v tx => w.2.2.2 k v tx)
theorem XW.addO (w : XW kd A X R S O F h) {q k : Nat} {c : AC} (hq : h q = none) (hk : (kd k).1 = 0) (fk : FreeK F k) (hc : ∀ v tx, c ≠ Sg v tx) : XW (up kd k (7, 0, 0)) (up A k q) X R S (up O k c) F (hset h q c) :=
  w.add hq hk fk (Nat.succ_ne_zero _) (by decide) (congrArg some (up_same O k c).symm) (fun _ _ => rfl) (fun _ _ => rfl) (fun _ e => up_ne e) (fun v tx => by rw [up_same]; exact hc v tx)
/-- a cell beside the world comes into it -/
theorem XW.take {q k : Nat} {c : AC} (w : XW kd A (hset X q c) R S O F h) (hX : X q = none) (hq : ∀ j, (kd j).1 ≠ 0 → A j ≠ q) (hk : (kd k).1 = 0) (fk : FreeK F k) {d : KD} (hd : d.1 ≠ 0) (hd7 : d.1 ≤ 7) (hc : WC (R' k) (I0 k) (S' k) (O' k) d (some c)) (hR : ∀ j, j ≠ k → R' j = R j) (hS : ∀ j, j ≠ k → S' j = S j) (hO : ∀ j, j ≠ k → O' j = O j) (hn : ∀ v tx, O' k ≠ Sg v tx) :
    XW (up kd k d) (up A k q) X R' S' O' F h := by
  have w1 : XW kd A X R S O F (hdel h q) := w.forget hX hq
  have := w1.add (q := q) (if_pos rfl) hk fk hd hd7 hc hR hS hO hn
  have e : hset (hdel h q) q c = h := by
    funext a
    by_cases ea : a = q
    · subst ea
      rw [hset_self, w.1.2.2 a hq, hset_self]
    · rw [hset_ne ea]
      exact if_neg ea
  rw [e] at this
  exact this
/-- some keys are dropped -/
def kdCut (D : Nat → Bool) (kd : Nat → KD) (j : Nat) : KD := if D j then (0, 0, 0) else kd j

noncomputable def hCut (D : Nat → Bool) (kd : Nat → KD) (A : Nat → Nat) (h : AH) : AH := fun a => cIf (∃ j, D j = true ∧ (kd j).1 ≠ 0 ∧ A j = a) none (h a)
end XGw
section XCt
variable {kd : Nat → KD} {A : Nat → Nat} {X : AH} {R : Nat → Nat} {S : Nat → List Int32} {O : Nat → AC} {F : Nat → Int32} {h : AH} {D : Nat → Bool}
theorem hCut_le (a : Nat) (c : AC) (e : hCut D kd A h a = some c) : h a = some c := by
  unfold hCut at e
  by_cases z : ∃ j, D j = true ∧ (kd j).1 ≠ 0 ∧ A j = a
  · rw [cIf_t z] at e; cases e
  · rw [cIf_f z] at e; exact e
theorem hCut_out {a : Nat} (z : ¬ ∃ j, D j = true ∧ (kd j).1 ≠ 0 ∧ A j = a) : hCut D kd A h a = h a := cIf_f z
theorem XW.cut (w : XW kd A X R S O F h) (hX : ∀ k, (kd k).1 ≠ 0 → X (A k) = none) (hD : ∀ j, j < 80 → D j = false) : XW (kdCut D kd) A X R S O F (hCut D kd A h) := by
  have nz : ∀ j, (kdCut D kd j).1 ≠ 0 → D j = false ∧ (kd j).1 ≠ 0 := fun j hj => by
    unfold kdCut at hj
    cases e : D j with
    | false => rw [e] at hj; exact ⟨rfl, hj⟩
    | true => rw [e] at hj; exact absurd rfl hj
  refine ⟨⟨fun j j' hj hj' e => w.1.1 j j' (nz j hj).2 (nz j' hj').2 e, fun j => ?_, fun a ha => ?_⟩, fun j hj => ?_, fun j => ?_, w.2.2.2⟩
  · cases e : D j with
    | true =>
      rw [show kdCut D kd j = (0, 0, 0) by unfold kdCut; rw [e]; rfl]
      trivial
    | false =>
      rw [show kdCut D kd j = kd j by unfold kdCut; rw [e]; rfl]
      by_cases z : (kd j).1 = 0
      · rw [show kd j = (0, (kd j).2.1, (kd j).2.2) from Prod.ext z rfl]
        trivial
      · rw [hCut_out]
        · exact w.1.2.1 j
        · rintro ⟨i, h1, h2, h3⟩
          have := w.1.1 i j h2 z h3
          rw [this, e] at h1
          cases h1
  · by_cases z : ∃ j, D j = true ∧ (kd j).1 ≠ 0 ∧ A j = a
    · obtain ⟨j, h1, h2, h3⟩ := z
      rw [show hCut D kd A h a = none from cIf_t ⟨j, h1, h2, h3⟩, ← h3]
      exact (hX j h2).symm
    · rw [hCut_out z]
      refine w.1.2.2 a (fun j hj ej => ?_)
      cases e : D j with
      | true => exact z ⟨j, e, hj, ej⟩
      | false => exact ha j (by rw [show kdCut D kd j = kd j by unfold kdCut; rw [e]; rfl]; exact hj) ej
  · rw [show kdCut D kd j = kd j by unfold kdCut; rw [hD j hj]; rfl]
    exact w.k j hj
  · unfold kdCut
    split
    · exact Nat.zero_le _
    · exact w.2.2.1 j
/-- only cells that may be written are dropped -/
theorem XW.cutR {g : GX} (w : XW kd A X R S O F h) (hO : ∀ j, D j = true → (kd j).1 = 7 → 80 ≤ j ∧ ∃ ci fs, O j = Ob ci fs) : ∀ a c, h a = some c → trc g c = none → hCut D kd A h a = some c := fun a c hc ht => by
  rw [hCut_out]
  · exact hc
  · rintro ⟨j, h1, h2, h3⟩
    have hw := w.1.2.1 j
    rw [h3, hc] at hw
    have h7 := w.2.2.1 j
    have ho := hO j h1
    generalize hk : kd j = d at h2 hw h7 ho
    match d, h2, hw, h7, ho with
    | (0, _, _), h2, _, _, _ => exact h2 rfl
    | (1, _, _), _, hw, _, _ => obtain ⟨f, e, -⟩ := hw; cases e; cases ht
    | (2, _, n), _, hw, _, _ => obtain ⟨f, e, -⟩ := hw; cases e; cases ht
    | (3, t, n), _, hw, _, _ => cases (show some c = some (Ai false t n _) from hw); cases ht
    | (4, t, n), _, hw, _, _ => obtain ⟨f, e⟩ := hw; cases e; cases ht
    | (5, _, n), _, hw, _, _ => obtain ⟨f, e⟩ := hw; cases e; cases ht
    | (6, _, n), _, hw, _, _ => obtain ⟨f, e, -⟩ := hw; cases e; cases ht
    | (7, a1, a2), _, hw, _, ho =>
      have hw7 : some c = some (oE A O F j) := hw
      obtain ⟨h80, ci, fs, e⟩ := ho rfl
      unfold oE at hw7
      rw [if_neg (by omega), e] at hw7
      cases hw7
      cases ht
    | (x + 8, _, _), _, _, h7, _ => exact absurd h7 (by simp)
end XCt
