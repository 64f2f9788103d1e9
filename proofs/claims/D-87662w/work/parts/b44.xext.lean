set_option maxRecDepth 100000
/-! VeilMint's world grows by many cells at once -/
section XEx
variable {kd kd' : Nat → KD} {A A' : Nat → Nat} {X : AH} {R R' : Nat → Nat} {S S' : Nat → List Int32} {O O' : Nat → AC} {F : Nat → Int32} {h h' : AH}
theorem xOs_eq (e : ∀ i, i < 80 → A' i = A i) (j : Nat) (hj : j < 77) : xOs A' j = xOs A j := by
  unfold xOs
  by_cases c : j = 11
  · rw [if_pos c, if_pos c]
    unfold cvFl
    rw [e 30 (by decide), e 40 (by decide), e 12 (by decide), e 13 (by decide), e 14 (by decide), e 15 (by decide), e 16 (by decide), e 17 (by decide), e 18 (by decide), e 19 (by decide), e 20 (by decide), e 21 (by decide), e 22 (by decide), e 23 (by decide), e 60 (by decide), e 64 (by decide), e 68 (by decide), e 6 (by decide), e 24 (by decide), e 25 (by decide), e 26 (by decide)]
  rw [if_neg c, if_neg c]
  by_cases c : j = 30
  · rw [if_pos c, if_pos c]
    unfold MdC
    dsimp only
    rw [e (30 + 1) (by decide), e (30 + 2) (by decide), e (30 + 3) (by decide), e (30 + 4) (by decide), e (30 + 5) (by decide), e (30 + 6) (by decide), e (30 + 7) (by decide), e (30 + 8) (by decide), e (30 + 9) (by decide)]
  rw [if_neg c, if_neg c]
  by_cases c : j = 31
  · rw [if_pos c, if_pos c]
  rw [if_neg c, if_neg c]
  by_cases c : j = 32
  · rw [if_pos c, if_pos c]
  rw [if_neg c, if_neg c]
  by_cases c : j = 33
  · rw [if_pos c, if_pos c]
  rw [if_neg c, if_neg c]
  by_cases c : j = 34
  · rw [if_pos c, if_pos c]
  rw [if_neg c, if_neg c]
  by_cases c : j = 40
  · rw [if_pos c, if_pos c]
    unfold MdC
    dsimp only
    rw [e (40 + 1) (by decide), e (40 + 2) (by decide), e (40 + 3) (by decide), e (40 + 4) (by decide), e (40 + 5) (by decide), e (40 + 6) (by decide), e (40 + 7) (by decide), e (40 + 8) (by decide), e (40 + 9) (by decide)]
  rw [if_neg c, if_neg c]
  by_cases c : j = 41
  · rw [if_pos c, if_pos c]
  rw [if_neg c, if_neg c]
  by_cases c : j = 42
  · rw [if_pos c, if_pos c]
  rw [if_neg c, if_neg c]
  by_cases c : j = 43
  · rw [if_pos c, if_pos c]
  rw [if_neg c, if_neg c]
  by_cases c : j = 44
  · rw [if_pos c, if_pos c]
  rw [if_neg c, if_neg c]
  unfold ptC
  rw [e (j + 1) (by omega), e (j + 2) (by omega), e (j + 3) (by omega)]
theorem xO_eq (e : ∀ i, i < 80 → A' i = A i) (hK : ∀ i, i < (F 30).toNatClampNeg → A' (100 + 100 * i) = A (100 + 100 * i)) (hA : ∀ i, i < (F 31).toNatClampNeg → A' (1000 + 10 * i) = A (1000 + 10 * i)) (j : Nat) (hj : j < 77) : xO A' F j = xO A F j := by
  unfold xO
  rw [xOs_eq e j hj]
  have e0 : vFl A' F = vFl A F := by
    unfold vFl
    rw [e 1 (by decide), e 6 (by decide), e 11 (by decide), e 50 (by decide), e 51 (by decide), e 54 (by decide), e 55 (by decide), e 56 (by decide), e 57 (by decide), e 58 (by decide)]
  have e1 : d1Fl A' F = d1Fl A F := by
    unfold d1Fl
    rw [e 2 (by decide), e 3 (by decide), e 4 (by decide), e 5 (by decide)]
  have e6 : d2Fl A' F = d2Fl A F := by
    unfold d2Fl
    rw [e 7 (by decide), e 8 (by decide), e 9 (by decide), e 10 (by decide)]
  have e51 : dkFl A' F = dkFl A F := by
    unfold dkFl
    rw [e 52 (by decide), e 53 (by decide)]
  have e54 : kyA A' F = kyA A F := by
    unfold kyA
    congr 1
    funext i
    by_cases c : i < (F 30).toNatClampNeg
    · rw [if_pos c, if_pos c, hK i c]
    · rw [if_neg c, if_neg c]
  have e55 : asA A' F = asA A F := by
    unfold asA
    congr 1
    funext i
    by_cases c : i < (F 31).toNatClampNeg
    · rw [if_pos c, if_pos c, hA i c]
    · rw [if_neg c, if_neg c]
  rw [e0, e1, e6, e51, e54, e55]
theorem WD.ext {I : Nat → Nat → Int32} (w : WD kd A X R I S O h) {N : Nat → Bool} (z : ∀ j, N j = true → (kd j).1 = 0) (ek : ∀ j, N j = false → kd' j = kd j ∧ A' j = A j ∧ R' j = R j ∧ S' j = S j) (eO : ∀ j, N j = false → (kd j).1 = 7 → O' j = O j) (h7 : ∀ j, (kd j).1 ≤ 7) (fr : ∀ j, N j = true → (kd' j).1 ≠ 0 → h (A' j) = none)
    (inj : ∀ i j, N i = true → N j = true → (kd' i).1 ≠ 0 → (kd' j).1 ≠ 0 → A' i = A' j → i = j) (wc : ∀ j, N j = true → WC (R' j) (I j) (S' j) (O' j) (kd' j) (h' (A' j))) (eh : ∀ x, (∀ j, N j = true → (kd' j).1 ≠ 0 → A' j ≠ x) → h' x = h x) : WD kd' A' X R' I S' O' h' := by
  have old : ∀ j, N j = false → (kd j).1 ≠ 0 → h (A j) ≠ none := fun j _ hj => (w.2.1 j).is hj
  refine ⟨fun i j hi hj e => ?_, fun j => ?_, fun a ha => ?_⟩
  · cases ni : N i with
    | true =>
      cases nj : N j with
      | true => exact inj i j ni nj hi hj e
      | false =>
        rw [(ek j nj).1] at hj
        rw [(ek j nj).2.1] at e
        exact absurd (by rw [← e]; exact fr i ni hi) (old j nj hj)
    | false =>
      rw [(ek i ni).1] at hi
      rw [(ek i ni).2.1] at e
      cases nj : N j with
      | true => exact absurd (by rw [e]; exact fr j nj hj) (old i ni hi)
      | false =>
        rw [(ek j nj).1] at hj
        rw [(ek j nj).2.1] at e
        exact w.1 i j hi hj e
  · cases nj : N j with
    | true => exact wc j nj
    | false =>
      rw [(ek j nj).1, (ek j nj).2.1, (ek j nj).2.2.1, (ek j nj).2.2.2]
      by_cases e : (kd j).1 = 0
      · rw [show kd j = (0, (kd j).2.1, (kd j).2.2) from Prod.ext e rfl]
        trivial
      · rw [eh (A j) (fun i ni hi q => old j nj e (by rw [← q]; exact fr i ni hi))]
        have hw := w.2.1 j
        by_cases e7 : (kd j).1 = 7
        · rw [eO j nj e7]
          exact hw
        · have h8 := h7 j
          revert hw e e7 h8
          generalize kd j = dj
          intro e hw e7 h8
          match dj, hw, e, e7, h8 with
          | (0, _, _), hw, e, _, _ => exact absurd rfl e
          | (1, _, _), hw, _, _, _ => exact hw
          | (2, _, n), hw, _, _, _ => exact hw
          | (3, t, n), hw, _, _, _ => exact hw
          | (4, t, n), hw, _, _, _ => exact hw
          | (5, _, n), hw, _, _, _ => exact hw
          | (6, _, n), hw, _, _, _ => exact hw
          | (7, _, _), _, _, e7, _ => exact absurd rfl e7
          | (x + 8, _, _), _, _, _, h8 => exact absurd h8 (by simp)
  · rw [eh a (fun j nj hj => ha j hj)]
    refine w.2.2 a (fun j hj => ?_)
    cases nj : N j with
    | true => exact absurd (z j nj) hj
    | false =>
      have := ha j (by rw [(ek j nj).1]; exact hj)
      rw [(ek j nj).2.1] at this
      exact this
theorem XW.ext (w : XW kd A X R S O F h) {N : Nat → Bool} (fN : ∀ j, N j = true → FreeK F j) (z : ∀ j, N j = true → (kd j).1 = 0) (ek : ∀ j, N j = false → kd' j = kd j ∧ A' j = A j ∧ R' j = R j ∧ S' j = S j) (eO : ∀ j, N j = false → O' j = O j) (h7 : ∀ j, N j = true → (kd' j).1 ≤ 7) (hn : ∀ j v tx, N j = true → O' j ≠ Sg v tx) (fr : ∀ j, N j = true → (kd' j).1 ≠ 0 → h (A' j) = none)
    (inj : ∀ i j, N i = true → N j = true → (kd' i).1 ≠ 0 → (kd' j).1 ≠ 0 → A' i = A' j → i = j) (wc : ∀ j, N j = true → WC (R' j) (I0 j) (S' j) (O' j) (kd' j) (h' (A' j))) (eh : ∀ x, (∀ j, N j = true → (kd' j).1 ≠ 0 → A' j ≠ x) → h' x = h x) : XW kd' A' X R' S' O' F h' := by
  have n80 : ∀ j, N j = true → 80 ≤ j := fun j hj => (fN j hj).1
  have f80 : ∀ j, j < 80 → N j = false := fun j hj => by
    cases e : N j with
    | false => rfl
    | true => have := n80 j e; omega
  have nf : ∀ j, (∀ q, FreeK F q → q ≠ j) → N j = false := fun j hj => by
    cases e : N j with
    | false => rfl
    | true => exact absurd rfl (hj j (fN j e))
  have eA : ∀ i, i < 80 → A' i = A i := fun i hi => (ek i (f80 i hi)).2.1
  refine ⟨WD.ext w.1 z ek (fun j nj h7' => ?_) w.2.2.1 fr inj (fun j nj => ?_) eh, fun j hj => ?_, fun j => ?_, fun j v tx => ?_⟩
  · unfold oE
    by_cases cj : j < 80
    · rw [if_pos cj, if_pos cj]
      by_cases c77 : j < 77
      · exact xO_eq eA (fun i hi => (ek _ (nf _ fun q hq => hq.2.1 i hi)).2.1) (fun i hi => (ek _ (nf _ fun q hq => hq.2.2 i hi)).2.1) j c77
      · rw [w.k j cj, kdX_hi j (by omega) cj] at h7'
        exact absurd h7' (by decide)
    · rw [if_neg cj, if_neg cj, eO j nj]
  · have := wc j nj
    have h80 := n80 j nj
    rw [show oE A' O' F j = O' j by unfold oE; rw [if_neg (by omega)]]
    exact this
  · rw [(ek j (f80 j hj)).1]; exact w.k j hj
  · cases nj : N j with
    | true => exact h7 j nj
    | false => rw [(ek j nj).1]; exact w.2.2.1 j
  · cases nj : N j with
    | true => exact hn j v tx nj
    | false => rw [eO j nj]; exact w.2.2.2 j v tx
def tabM (p i : Nat) : KD := if i < 5 then (7, 0, 0) else if i = 5 then (4, 0, p + 1 + 2) else (4, 0, p + 1)
def ooM (c : Nat → Nat) (p mv : Nat) (ng : Int32) (i : Nat) : AC := if i = 0 then MdC c (p + 1) ng else nm (p + 1) (if i = 1 then mv else if i = 2 then 2 ^ (32 * (p + 1)) % mv else if i = 3 then 2 ^ (32 * (p + 1)) * 2 ^ (32 * (p + 1)) % mv else 1)
def inM (K j : Nat) : Bool := decide (K ≤ j ∧ j < K + 10)
def exM {α : Type} (K : Nat) (t f : Nat → α) (j : Nat) : α := if K ≤ j ∧ j < K + 10 then t (j - K) else f j
theorem exM_in {α : Type} {K : Nat} {t f : Nat → α} {i : Nat} (hi : i < 10) : exM K t f (K + i) = t i := by unfold exM; rw [if_pos (by omega), Nat.add_sub_cancel_left]
theorem exM_0 {α : Type} {K : Nat} {t f : Nat → α} : exM K t f K = t 0 := exM_in (i := 0) (by decide)
theorem exM_o {α : Type} {K : Nat} {t f : Nat → α} {j : Nat} (hj : ¬ (K ≤ j ∧ j < K + 10)) : exM K t f j = f j := if_neg hj
/-- a new modulus beside an object that is being made -/
theorem BY.growM {b ci : Nat} {fs : List Value} {a : Nat} {ca c0 : AC} (y : BY b ci fs kd A (hset X a ca) R S O F h) (hXa : X a = none) (apa : ∀ k, (kd k).1 ≠ 0 → A k ≠ a) (hab : a ≠ b) {K p mv q0 : Nat} {c : Nat → Nat} {ng : Int32} (hK : 80 ≤ K) (fk : ∀ j, K ≤ j → j < K + 10 → FreeK F j ∧ (kd j).1 = 0) (hq : h q0 = none)
    (c1 : c 1 = a) (cf : ∀ i, 2 ≤ i → i < 10 → hset h q0 c0 (c i) = none ∧ c i ≠ q0) (cj : ∀ i j, 2 ≤ i → i < 10 → 2 ≤ j → j < 10 → c i = c j → i = j) (hob : h' q0 = some (MdC c (p + 1) ng)) (hng : (u32 ng * mv + 1) % 2 ^ 32 = 0) (hm : h' a = some (nm (p + 1) mv)) (h2 : h' (c 2) = some (nm (p + 1) (2 ^ (32 * (p + 1)) % mv))) (h3 : h' (c 3) = some (nm (p + 1) (2 ^ (32 * (p + 1)) * 2 ^ (32 * (p + 1)) % mv))) (h4 : h' (c 4) = some (nm (p + 1) 1))
    (hz : ∀ i, 5 ≤ i → i < 10 → h' (c i) = some (zM (p + 1) i)) (ho : ∀ x, x ≠ a → x ≠ q0 → (∀ i, 2 ≤ i → i < 10 → c i ≠ x) → h' x = hset h q0 c0 x) (hodd : mv % 2 = 1) (hbig : 1 < mv) (hlt : mv < 2 ^ (32 * (p + 1))) (hp : p < 64) :
    ∃ kd' A' O', MoK kd' A' O' K p mv ng ∧ A' K = q0 ∧ (∀ j, ¬ (K ≤ j ∧ j < K + 10) → kd' j = kd j ∧ A' j = A j ∧ O' j = O j) ∧ (∀ D kd0 A0 O0, Gw D kd0 A0 O0 kd A O → (∀ j, K ≤ j → j < K + 10 → D j = true) → Gw D kd0 A0 O0 kd' A' O') ∧ BY b ci fs kd' A' X R S O' F h' := by
  have hb := y.c
  have nha : h a = some ca := by
    rw [y.1.1.2.2 a apa, hset_ne hab, hset_self]
  have qa : q0 ≠ a := fun z => by rw [z, nha] at hq; cases hq
  have cn : ∀ i, 2 ≤ i → i < 10 → h (c i) = none := fun i h1 h2 => by have := (cf i h1 h2).1; rw [hset_ne (cf i h1 h2).2] at this; exact this
  have ca' : ∀ i, 2 ≤ i → i < 10 → c i ≠ a := fun i h1 h2 z => by have := cn i h1 h2; rw [z, nha] at this; cases this
  have w1 : XW kd A (hset X b (Ob ci fs)) R S O F (hdel h a) := by
    have := y.1
    rw [hset_comm _ _ _ hab] at this
    exact this.forget (by rw [hset_ne hab]; exact hXa) apa
  have dn : ∀ x, h x = none → hdel h a x = none := fun x hx => by
    unfold hdel
    split
    · rfl
    · exact hx
  have da : hdel h a a = none := if_pos rfl
  have cinj : ∀ i j, i < 10 → j < 10 → (fun i => if i = 0 then q0 else c i) i = (fun i => if i = 0 then q0 else c i) j → i = j := by
    intro i j hi hj e
    dsimp only at e
    by_cases i0 : i = 0
    · by_cases j0 : j = 0
      · rw [i0, j0]
      · rw [if_pos i0, if_neg j0] at e
        by_cases j1 : j = 1
        · rw [j1, c1] at e; exact absurd e qa
        · exact absurd e.symm (cf j (by omega) hj).2
    · rw [if_neg i0] at e
      by_cases j0 : j = 0
      · rw [if_pos j0] at e
        by_cases i1 : i = 1
        · rw [i1, c1] at e; exact absurd e.symm qa
        · exact absurd e (cf i (by omega) hi).2
      · rw [if_neg j0] at e
        by_cases i1 : i = 1
        · by_cases j1 : j = 1
          · rw [i1, j1]
          · rw [i1, c1] at e; exact absurd e.symm (ca' j (by omega) hj)
        · by_cases j1 : j = 1
          · rw [j1, c1] at e; exact absurd e (ca' i (by omega) hi)
          · exact cj i j (by omega) hi (by omega) hj e
  have w2 : XW (exM K (tabM p) kd) (exM K (fun i => if i = 0 then q0 else c i) A) (hset X b (Ob ci fs)) R S (exM K (ooM c p mv ng) O) F h' := by
    refine w1.ext (N := inM K) (fun j hj => ?_) (fun j hj => ?_) (fun j hj => ?_) (fun j hj => ?_) (fun j hj => ?_) (fun j v tx hj => ?_) (fun j hj _ => ?_) (fun i j hi hj _ _ e => ?_) (fun j hj => ?_) (fun x hx => ?_)
    · have := of_decide_eq_true hj; exact (fk j this.1 this.2).1
    · have := of_decide_eq_true hj; exact (fk j this.1 this.2).2
    · have := of_decide_eq_false hj
      exact ⟨exM_o this, exM_o this, rfl, rfl⟩
    · exact exM_o (of_decide_eq_false hj)
    · have := of_decide_eq_true hj
      rw [show j = K + (j - K) by omega, exM_in (by omega)]
      unfold tabM
      split
      · decide
      · split
        · show (4 : Nat) ≤ 7; decide
        · show (4 : Nat) ≤ 7; decide
    · have := of_decide_eq_true hj
      rw [show j = K + (j - K) by omega, exM_in (by omega)]
      unfold ooM
      split
      · intro e; cases e
      · intro e; cases e
    · have := of_decide_eq_true hj
      rw [show j = K + (j - K) by omega, exM_in (by omega)]
      by_cases j0 : j - K = 0
      · rw [if_pos j0]; exact dn _ hq
      · rw [if_neg j0]
        by_cases j1 : j - K = 1
        · rw [j1, c1]; exact da
        · exact dn _ (cn _ (by omega) (by omega))
    · have hi := of_decide_eq_true hi
      have hj := of_decide_eq_true hj
      rw [show i = K + (i - K) by omega, show j = K + (j - K) by omega, exM_in (by omega), exM_in (by omega)] at e
      have := cinj _ _ (by omega) (by omega) e
      omega
    · have := of_decide_eq_true hj
      obtain ⟨i, hi, rfl⟩ : ∃ i, i < 10 ∧ j = K + i := ⟨j - K, by omega, by omega⟩
      rw [exM_in hi, exM_in hi, exM_in hi]
      have : i = 0 ∨ i = 1 ∨ i = 2 ∨ i = 3 ∨ i = 4 ∨ i = 5 ∨ i = 6 ∨ i = 7 ∨ i = 8 ∨ i = 9 := by omega
      rcases this with rfl | rfl | rfl | rfl | rfl | rfl | rfl | rfl | rfl | rfl
      · exact hob
      · show h' (c 1) = _; rw [c1]; exact hm
      · exact h2
      · exact h3
      · exact h4
      · exact ⟨_, hz 5 (by decide) (by decide)⟩
      · exact ⟨_, hz 6 (by decide) (by decide)⟩
      · exact ⟨_, hz 7 (by decide) (by decide)⟩
      · exact ⟨_, hz 8 (by decide) (by decide)⟩
      · exact ⟨_, hz 9 (by decide) (by decide)⟩
    · have hx' : ∀ i, i < 10 → (fun i => if i = 0 then q0 else c i) i ≠ x := fun i hi => by
        have := hx (K + i) (decide_eq_true (by omega)) (by
          rw [exM_in hi]
          unfold tabM
          split
          · decide
          · split
            · show (4 : Nat) ≠ 0; decide
            · show (4 : Nat) ≠ 0; decide)
        rw [exM_in hi] at this
        exact this
      have xq : x ≠ q0 := fun z => hx' 0 (by decide) z.symm
      have xa : x ≠ a := fun z => hx' 1 (by decide) (by show c 1 = x; rw [c1]; exact z.symm)
      rw [ho x xa xq (fun i h1 h2 z => hx' i h2 (by show (if i = 0 then q0 else c i) = x; rw [if_neg (by omega)]; exact z)), hset_ne xq]
      unfold hdel
      rw [if_neg xa]
  refine ⟨exM K (tabM p) kd, exM K (fun i => if i = 0 then q0 else c i) A, exM K (ooM c p mv ng) O, ?_, exM_0, fun j hj => ⟨exM_o hj, exM_o hj, exM_o hj⟩, fun D kd0 A0 O0 e hD => ⟨fun j hj => ?_, fun j hj h7 => ?_⟩, w2, ?_, fun j hj => ?_⟩
  · have os : ∀ i, i < 10 → OS (exM K (fun i => if i = 0 then q0 else c i) A) (exM K (ooM c p mv ng) O) (K + i) = ooM c p mv ng i := fun i hi => by
      unfold OS
      rw [if_neg (by omega), exM_in hi]
    refine ⟨exM_0, ?_, exM_in (by decide), os 1 (by decide), exM_in (by decide), os 2 (by decide), exM_in (by decide), os 3 (by decide), exM_in (by decide), os 4 (by decide), exM_in (by decide), exM_in (by decide), exM_in (by decide), exM_in (by decide), exM_in (by decide), hodd, hbig, hlt, hng, hp, Or.inr hK⟩
    have o0 : OS (exM K (fun i => if i = 0 then q0 else c i) A) (exM K (ooM c p mv ng) O) K = MdC c (p + 1) ng := os 0 (by decide)
    rw [o0]
    unfold MdC
    dsimp only
    rw [exM_in (i := 1) (by decide), exM_in (i := 2) (by decide), exM_in (i := 3) (by decide), exM_in (i := 4) (by decide), exM_in (i := 5) (by decide), exM_in (i := 6) (by decide), exM_in (i := 7) (by decide), exM_in (i := 8) (by decide), exM_in (i := 9) (by decide)]
    rfl
  · have nj : ¬ (K ≤ j ∧ j < K + 10) := fun z => by rw [hD j z.1 z.2] at hj; cases hj
    rw [exM_o nj, exM_o nj, exM_o nj]
    exact e.1 j hj
  · by_cases nj : K ≤ j ∧ j < K + 10
    · obtain ⟨i, hi, rfl⟩ : ∃ i, i < 10 ∧ j = K + i := ⟨j - K, by omega, by omega⟩
      rw [exM_in hi]
      unfold ooM
      split
      · exact Or.inl ⟨_, _, rfl⟩
      · exact Or.inr ⟨_, _, rfl⟩
    · rw [exM_o nj] at h7 ⊢
      exact e.2 j hj h7
  · have := y.2.1
    rw [hset_ne hab.symm] at this
    exact this
  · have nb : ∀ {x : Nat}, h x = none → x ≠ b := fun hx z => by rw [z, hb] at hx; cases hx
    by_cases nj : K ≤ j ∧ j < K + 10
    · obtain ⟨i, hi, rfl⟩ : ∃ i, i < 10 ∧ j = K + i := ⟨j - K, by omega, by omega⟩
      rw [exM_in hi]
      by_cases j0 : i = 0
      · rw [if_pos j0]; exact nb hq
      · rw [if_neg j0]
        by_cases j1 : i = 1
        · rw [j1, c1]; exact hab
        · exact nb (cn i (by omega) hi)
    · rw [exM_o nj] at hj ⊢
      exact y.2.2 j hj
end XEx
