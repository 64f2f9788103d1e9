set_option maxRecDepth 100000
/-! THE CURVE y y = x x x - 3 x + B over a field (generic): its points are a commutative group -/
abbrev CR (F : Type) := Lean.Grind.CommRing F
def FH (F : Type) [Lean.Grind.CommRing F] (iv : F → F) (B : F) : Prop :=
  (∀ a b : F, a * b = 0 → a = 0 ∨ b = 0) ∧ (∀ a : F, a ≠ 0 → a * iv a = 1) ∧ (2 : F) ≠ 0 ∧ ∀ x y : F, y * y = x * x * x - 3 * x + B → y ≠ 0
def OnC {F : Type} [Lean.Grind.CommRing F] (B : F) (P : Option (F × F)) : Prop := match P with
  | none => True
  | some (x, y) => y * y = x * x * x - 3 * x + B
def eNeg {F : Type} [Lean.Grind.CommRing F] (P : Option (F × F)) : Option (F × F) := P.map fun q => (q.1, -q.2)
def eFin {F : Type} [Lean.Grind.CommRing F] (l x1 y1 x2 : F) : F × F := (l * l - x1 - x2, l * (x1 - (l * l - x1 - x2)) - y1)
def eAdd {F : Type} [Lean.Grind.CommRing F] [DecidableEq F] (iv : F → F) (P Q : Option (F × F)) : Option (F × F) := match P, Q with
  | none, Q => Q
  | some P, none => some P
  | some (x1, y1), some (x2, y2) =>
    if x1 = x2 then
      if y1 + y2 = 0 then none
      else some (eFin (iv (y1 + y2) * (3 * (x1 * x1 - 1))) x1 y1 x2)
    else some (eFin (iv (x2 - x1) * (y2 - y1)) x1 y1 x2)
/-- a line meets the curve at three x -/
def Ln {F : Type} [Lean.Grind.CommRing F] (B l m x1 x2 x3 : F) : Prop := x1 + x2 + x3 = l * l ∧ -3 - 2 * l * m = x1 * x2 + x1 * x3 + x2 * x3 ∧ m * m - B = x1 * x2 * x3
theorem Ln.rot {F : Type} [Lean.Grind.CommRing F] {B l m x1 x2 x3 : F} (h : Ln B l m x1 x2 x3) : Ln B l m x2 x3 x1 := by
  obtain ⟨h1, h2, h3⟩ := h
  exact ⟨by grind, by grind, by grind⟩
theorem Ln.swap {F : Type} [Lean.Grind.CommRing F] {B l m x1 x2 x3 : F} (h : Ln B l m x1 x2 x3) : Ln B l m x2 x1 x3 := by
  obtain ⟨h1, h2, h3⟩ := h
  exact ⟨by grind, by grind, by grind⟩
theorem Ln.neg {F : Type} [Lean.Grind.CommRing F] {B l m x1 x2 x3 : F} (h : Ln B l m x1 x2 x3) : Ln B (-l) (-m) x1 x2 x3 := by
  obtain ⟨h1, h2, h3⟩ := h
  exact ⟨by grind, by grind, by grind⟩
theorem Ln.all {F : Type} [Lean.Grind.CommRing F] {B l m x1 x2 x3 : F} (h : Ln B l m x1 x2 x3) (x : F) : x * x * x - 3 * x + B - (l * x + m) * (l * x + m) = (x - x1) * ((x - x2) * (x - x3)) := by
  obtain ⟨h1, h2, h3⟩ := h
  have e1 : x3 = l * l - x1 - x2 := by grind
  subst e1
  have e2 : B = m * m - x1 * x2 * (l * l - x1 - x2) := by grind
  subst e2
  grind
theorem Ln.curve {F : Type} [Lean.Grind.CommRing F] {B l m x1 x2 x3 : F} (h : Ln B l m x1 x2 x3) : (l * x3 + m) * (l * x3 + m) = x3 * x3 * x3 - 3 * x3 + B := by
  have := h.all x3
  grind
theorem Ln.mk {F : Type} [Lean.Grind.CommRing F] {B l x1 y1 x2 y2 : F} (h1 : y1 * y1 = x1 * x1 * x1 - 3 * x1 + B) (s1 : l * (x2 - x1) = y2 - y1) (s2 : l * (y1 + y2) = x1 * x1 + x1 * x2 + x2 * x2 - 3) : Ln B l (y1 - l * x1) x1 x2 (l * l - x1 - x2) := by
  refine ⟨by grind, by grind, by grind⟩
theorem rg1 {F : Type} [Lean.Grind.CommRing F] {l x1 x2 x3 : F} (h1 : x1 + x2 + x3 = l * l) : l * l - x1 - x2 = x3 := by grind
theorem rg2 {F : Type} [Lean.Grind.CommRing F] {l x1 x3 m : F} : l * (x1 - x3) - (l * x1 + m) = -(l * x3 + m) := by grind
theorem rg3 {F : Type} [Lean.Grind.CommRing F] {l m x1 x3 : F} (h1 : x1 + x1 + x3 = l * l) (h2 : -3 - 2 * l * m = x1 * x1 + x1 * x3 + x1 * x3) : l * (l * x1 + m + (l * x1 + m)) = 3 * (x1 * x1 - 1) := by grind
theorem rg4 {F : Type} [Lean.Grind.CommRing F] {d i l : F} (h : d * i = 1) : i * (l * d) = l := by grind
theorem rg5 {F : Type} [Lean.Grind.CommRing F] {l m x1 x2 : F} : l * (x2 - x1) = l * x2 + m - (l * x1 + m) := by grind
theorem rg6 {F : Type} [Lean.Grind.CommRing F] {y1 y2 : F} (h : y1 * y1 = y2 * y2) : (y1 - y2) * (y1 + y2) = 0 := by grind
theorem rg7 {F : Type} [Lean.Grind.CommRing F] {l x y : F} : l * (x - x) = y - y := by grind
theorem rg8 {F : Type} [Lean.Grind.CommRing F] {d i x : F} (h : d * i = 1) : i * (3 * (x * x - 1)) * d = x * x + x * x + x * x - 3 := by grind
theorem rg9 {F : Type} [Lean.Grind.CommRing F] {d i e : F} (h : d * i = 1) : i * e * d = e := by grind
theorem rg10 {F : Type} [Lean.Grind.CommRing F] {d i e s t : F} (h : d * i = 1) (h2 : e * s = d * t) : d * (i * e * s - t) = 0 := by
  have e1 : d * (i * e * s - t) = d * i * (e * s) - d * t := by grind
  rw [e1, h, h2]
  grind
theorem rg11 {F : Type} [Lean.Grind.CommRing F] {B x1 y1 x2 y2 : F} (c1 : y1 * y1 = x1 * x1 * x1 - 3 * x1 + B) (c2 : y2 * y2 = x2 * x2 * x2 - 3 * x2 + B) : (y2 - y1) * (y1 + y2) = (x2 - x1) * (x1 * x1 + x1 * x2 + x2 * x2 - 3) := by
  have e : (y2 - y1) * (y1 + y2) = y2 * y2 - y1 * y1 := by grind
  rw [e, c1, c2]
  grind
theorem rg12 {F : Type} [Lean.Grind.CommRing F] {x y : F} (h : x - y = 0) : x = y := by grind
theorem rg13 {F : Type} [Lean.Grind.CommRing F] {l x1 y1 : F} : y1 = l * x1 + (y1 - l * x1) := by grind
theorem rg14 {F : Type} [Lean.Grind.CommRing F] {l x1 y1 x2 y2 : F} (h : l * (x2 - x1) = y2 - y1) : y2 = l * x2 + (y1 - l * x1) := by grind
theorem rg15 {F : Type} [Lean.Grind.CommRing F] {y c : F} (h : y * y = c) : -y * -y = c := by grind
theorem rg16 {F : Type} [Lean.Grind.CommRing F] {y z : F} (h : y + z = 0) : z + y = 0 := by grind
theorem rg17 {F : Type} [Lean.Grind.CommRing F] (y : F) : - -y = y := by grind
theorem rg18 {F : Type} [Lean.Grind.CommRing F] (y : F) : y + -y = 0 := by grind
theorem rg19 {F : Type} [Lean.Grind.CommRing F] {y z : F} (h : y = -z) (h2 : y = z) : 2 * y = 0 := by grind
theorem rg20 {F : Type} [Lean.Grind.CommRing F] {y z : F} (h : y + z = 0) : -y + -z = 0 := by grind
theorem rg21 {F : Type} [Lean.Grind.CommRing F] {y z : F} (h : -y + -z = 0) : y + z = 0 := by grind
theorem rg22 {F : Type} [Lean.Grind.CommRing F] {y l x m : F} (h : y = l * x + m) : -y = -l * x + -m := by grind
theorem rg23 {F : Type} [Lean.Grind.CommRing F] {l x m : F} : -(-l * x + -m) = l * x + m := by grind
theorem rg24 {F : Type} [Lean.Grind.CommRing F] {y z : F} (h : y + z = 0) : -y = z := by grind
theorem rg25 {F : Type} [Lean.Grind.CommRing F] {y z : F} (h : -y + z = 0) : y = z := by grind
theorem rg26 {F : Type} [Lean.Grind.CommRing F] {l x m : F} : -(l * x + m) = -l * x + -m := by grind
theorem rg27 {F : Type} [Lean.Grind.CommRing F] {y : F} : -y + y = 0 := by grind
theorem eAdd_none {F : Type} [Lean.Grind.CommRing F] [DecidableEq F] (iv : F → F) (P : Option (F × F)) : eAdd iv P none = P := by
  cases P <;> rfl
theorem eAdd_inv {F : Type} [Lean.Grind.CommRing F] [DecidableEq F] {iv : F → F} {x1 y1 x2 y2 : F} (h1 : x1 = x2) (h2 : y1 + y2 = 0) : eAdd iv (some (x1, y1)) (some (x2, y2)) = none := by
  show (if x1 = x2 then _ else _) = _
  rw [if_pos h1, if_pos h2]
theorem line_add {F : Type} [Lean.Grind.CommRing F] [DecidableEq F] {iv : F → F} {B l m x1 y1 x2 y2 x3 : F} (H : FH F iv B) (e1 : y1 = l * x1 + m) (e2 : y2 = l * x2 + m) (hl : Ln B l m x1 x2 x3) (hn : ¬ (x1 = x2 ∧ y1 + y2 = 0)) :
    eAdd iv (some (x1, y1)) (some (x2, y2)) = some (x3, -(l * x3 + m)) := by
  obtain ⟨h1, h2, -⟩ := hl
  have fin : ∀ l', l' = l → some (eFin l' x1 y1 x2) = some (x3, -(l * x3 + m)) := by
    intro l' hl'
    subst hl'
    unfold eFin
    rw [rg1 h1, e1, rg2]
  show (if x1 = x2 then _ else _) = _
  by_cases hx : x1 = x2
  · have hy : y1 + y2 ≠ 0 := fun h => hn ⟨hx, h⟩
    rw [if_pos hx, if_neg hy]
    apply fin
    have hi := H.2.1 _ hy
    subst hx
    have hs : l * (y1 + y2) = 3 * (x1 * x1 - 1) := by rw [e1, e2]; exact rg3 h1 h2
    rw [← hs]
    exact rg4 hi
  · have hd : x2 - x1 ≠ 0 := fun h => hx (rg12 h).symm
    rw [if_neg hx]
    apply fin
    have hi := H.2.1 _ hd
    have hs : l * (x2 - x1) = y2 - y1 := by rw [e1, e2]; exact rg5
    rw [← hs]
    exact rg4 hi
theorem add_line {F : Type} [Lean.Grind.CommRing F] [DecidableEq F] {iv : F → F} {B x1 y1 x2 y2 : F} (H : FH F iv B) (c1 : y1 * y1 = x1 * x1 * x1 - 3 * x1 + B) (c2 : y2 * y2 = x2 * x2 * x2 - 3 * x2 + B) (hn : ¬ (x1 = x2 ∧ y1 + y2 = 0)) :
    ∃ l m x3, eAdd iv (some (x1, y1)) (some (x2, y2)) = some (x3, -(l * x3 + m)) ∧ y1 = l * x1 + m ∧ y2 = l * x2 + m ∧ Ln B l m x1 x2 x3 := by
  have key : ∃ l, l * (x2 - x1) = y2 - y1 ∧ l * (y1 + y2) = x1 * x1 + x1 * x2 + x2 * x2 - 3 := by
    by_cases hx : x1 = x2
    · have hy : y1 + y2 ≠ 0 := fun h => hn ⟨hx, h⟩
      have hi := H.2.1 _ hy
      subst hx
      have hyy : y1 = y2 := by
        have h0 : (y1 - y2) * (y1 + y2) = 0 := rg6 (c1.trans c2.symm)
        rcases H.1 _ _ h0 with h | h
        · exact rg12 h
        · exact absurd h hy
      subst hyy
      exact ⟨iv (y1 + y1) * (3 * (x1 * x1 - 1)), rg7, rg8 hi⟩
    · have hd : x2 - x1 ≠ 0 := fun h => hx (rg12 h).symm
      have hi := H.2.1 _ hd
      refine ⟨iv (x2 - x1) * (y2 - y1), rg9 hi, ?_⟩
      have h0 := rg10 hi (rg11 c1 c2)
      rcases H.1 _ _ h0 with h | h
      · exact absurd h hd
      · exact rg12 h
  obtain ⟨l, s1, s2⟩ := key
  have hl := Ln.mk c1 s1 s2
  refine ⟨l, y1 - l * x1, l * l - x1 - x2, ?_, rg13, rg14 s1, hl⟩
  exact line_add H rg13 (rg14 s1) hl hn
theorem eAdd_on {F : Type} [Lean.Grind.CommRing F] [DecidableEq F] {iv : F → F} {B : F} (H : FH F iv B) {P Q : Option (F × F)} (hP : OnC B P) (hQ : OnC B Q) : OnC B (eAdd iv P Q) := by
  match P, Q, hP, hQ with
  | none, Q, _, hQ => exact hQ
  | some P, none, hP, _ => exact hP
  | some (x1, y1), some (x2, y2), hP, hQ =>
    by_cases hn : x1 = x2 ∧ y1 + y2 = 0
    · rw [eAdd_inv hn.1 hn.2]
      trivial
    · obtain ⟨l, m, x3, e, -, -, hl⟩ := add_line H hP hQ hn
      rw [e]
      exact rg15 hl.curve
theorem eNeg_on {F : Type} [Lean.Grind.CommRing F] {B : F} {P : Option (F × F)} (hP : OnC B P) : OnC B (eNeg P) := by
  match P, hP with
  | none, _ => trivial
  | some (x, y), hP => exact rg15 hP
theorem eAdd_comm {F : Type} [Lean.Grind.CommRing F] [DecidableEq F] {iv : F → F} {B : F} (H : FH F iv B) {P Q : Option (F × F)} (hP : OnC B P) (hQ : OnC B Q) : eAdd iv P Q = eAdd iv Q P := by
  match P, Q, hP, hQ with
  | none, none, _, _ => rfl
  | none, some Q, _, _ => rfl
  | some P, none, _, _ => rfl
  | some (x1, y1), some (x2, y2), hP, hQ =>
    by_cases hn : x1 = x2 ∧ y1 + y2 = 0
    · rw [eAdd_inv hn.1 hn.2, eAdd_inv hn.1.symm (rg16 hn.2)]
    · obtain ⟨l, m, x3, e, e1, e2, hl⟩ := add_line H hP hQ hn
      rw [e, line_add H e2 e1 hl.swap (fun z => hn ⟨z.1.symm, rg16 z.2⟩)]
theorem eNeg_neg {F : Type} [Lean.Grind.CommRing F] (P : Option (F × F)) : eNeg (eNeg P) = P := by
  match P with
  | none => rfl
  | some (x, y) =>
    show some (x, - -y) = some (x, y)
    rw [rg17]
theorem eAdd_neg {F : Type} [Lean.Grind.CommRing F] [DecidableEq F] (iv : F → F) (P : Option (F × F)) : eAdd iv P (eNeg P) = none := by
  match P with
  | none => rfl
  | some (x, y) => exact eAdd_inv rfl (rg18 y)
/-- a sum isn't one of its parts -/
theorem eAdd_ne {F : Type} [Lean.Grind.CommRing F] {iv : F → F} {B x1 y1 l m x3 : F} (H : FH F iv B) (c1 : y1 * y1 = x1 * x1 * x1 - 3 * x1 + B) (e1 : y1 = l * x1 + m) : ¬ (x1 = x3 ∧ y1 = -(l * x3 + m)) := by
  rintro ⟨h0, h⟩
  rw [← h0] at h
  rcases H.1 _ _ (rg19 h e1) with h1 | h1
  · exact H.2.2.1 h1
  · exact H.2.2.2 _ _ c1 h1
theorem neg_eAdd {F : Type} [Lean.Grind.CommRing F] [DecidableEq F] {iv : F → F} {B : F} (H : FH F iv B) {P Q : Option (F × F)} (hP : OnC B P) (hQ : OnC B Q) : eNeg (eAdd iv P Q) = eAdd iv (eNeg P) (eNeg Q) := by
  match P, Q, hP, hQ with
  | none, Q, _, _ => rfl
  | some P, none, _, _ => rfl
  | some (x1, y1), some (x2, y2), hP, hQ =>
    by_cases hn : x1 = x2 ∧ y1 + y2 = 0
    · rw [eAdd_inv hn.1 hn.2]
      exact (eAdd_inv hn.1 (rg20 hn.2)).symm
    · obtain ⟨l, m, x3, e, e1, e2, hl⟩ := add_line H hP hQ hn
      rw [e]
      show some (x3, - -(l * x3 + m)) = eAdd iv (some (x1, -y1)) (some (x2, -y2))
      rw [line_add H (l := -l) (m := -m) (x3 := x3) (rg22 e1) (rg22 e2) hl.neg (fun z => hn ⟨z.1, rg21 z.2⟩), rg17, rg23]
theorem eAdd_cancel {F : Type} [Lean.Grind.CommRing F] [DecidableEq F] {iv : F → F} {B : F} (H : FH F iv B) {P Q : Option (F × F)} (hP : OnC B P) (hQ : OnC B Q) : eAdd iv (eNeg P) (eAdd iv P Q) = Q := by
  match P, Q, hP, hQ with
  | none, Q, _, _ => rfl
  | some (x1, y1), none, _, _ => exact eAdd_inv rfl rg27
  | some (x1, y1), some (x2, y2), hP, hQ =>
    by_cases hn : x1 = x2 ∧ y1 + y2 = 0
    · rw [eAdd_inv hn.1 hn.2]
      show some (x1, -y1) = some (x2, y2)
      rw [hn.1, rg24 hn.2]
    · obtain ⟨l, m, x3, e, e1, e2, hl⟩ := add_line H hP hQ hn
      rw [e]
      show eAdd iv (some (x1, -y1)) (some (x3, -(l * x3 + m))) = _
      rw [line_add H (l := -l) (m := -m) (x3 := x2) (rg22 e1) rg26 hl.rot.rot.swap.neg (fun z => eAdd_ne (x3 := x3) H hP e1 ⟨z.1, rg25 z.2⟩), rg23, ← e2]
