set_option maxRecDepth 100000
theorem phi0 {F : Type} [Lean.Grind.CommRing F] {B l m l' m' xa xb xs : F} (hl : Ln B l m xa xb xs) (hi : l * xs + m + (l' * xs + m') = 0) : xa * xa + (xs + l * l') * xa + (-3 + l * m' + l' * m + xs * (xs + l * l')) = (l + l') * (l * xa + m) := by
  obtain ⟨h1, h2, -⟩ := hl
  have e1 : m' = -(l * xs + m) - l' * xs := by grind
  have e2 : xb = l * l - xa - xs := by grind
  subst e1
  subst e2
  grind
theorem phi0' {F : Type} [Lean.Grind.CommRing F] {B l m l' m' xa xb xs : F} (hl : Ln B l' m' xa xb xs) (hi : l * xs + m + (l' * xs + m') = 0) : xa * xa + (xs + l * l') * xa + (-3 + l * m' + l' * m + xs * (xs + l * l')) = (l + l') * (l' * xa + m') := by
  have h := phi0 (l := l') (m := m') (l' := l) (m' := m) hl (by rw [← hi]; grind)
  have e1 : (l + l') = l' + l := by clear h hi hl; grind
  have e2 : l * l' = l' * l := by clear h hi hl; grind
  have e3 : -3 + l * m' + l' * m = -3 + l' * m + l * m' := by clear h hi hl; grind
  rw [e1, e2, e3]
  exact h
theorem ra1 {F : Type} [Lean.Grind.CommRing F] {A B y : F} (h1 : y = -A) (h2 : y = B) : A + B = 0 := by rw [← h2, h1]; grind
theorem ra2 {F : Type} [Lean.Grind.CommRing F] {A B : F} (h1 : A + B = 0) : B + A = 0 := by grind
theorem ra3 {F : Type} [Lean.Grind.CommRing F] {b a c x1 y1 x2 y2 : F} (p : x1 * x1 + b * x1 + a = c * y1) (q : x2 * x2 + b * x2 + a = c * y2) : b * (x2 - x1) = c * (y2 - y1) - (x2 * x2 - x1 * x1) := by grind
theorem ra4 {F : Type} [Lean.Grind.CommRing F] {b1 b2 c1 c2 u v w l : F} (h1 : b1 * u = c1 * v - w) (h2 : b2 * u = c2 * v - w) (h3 : v = l * u) : u * (b1 - b2 - (c1 - c2) * l) = 0 := by
  subst h3
  have e : u * (b1 - b2 - (c1 - c2) * l) = b1 * u - b2 * u - (c1 - c2) * (l * u) := by grind
  rw [e, h1, h2]
  grind
theorem ra5 {F : Type} [Lean.Grind.CommRing F] {l m x1 x2 y1 y2 : F} (h1 : y1 = l * x1 + m) (h2 : y2 = l * x2 + m) : y2 - y1 = l * (x2 - x1) := by grind
theorem ra6a {F : Type} [Lean.Grind.CommRing F] {b1 b2 c1 c2 a1 a2 x y : F} (p : x * x + b1 * x + a1 = c1 * y) (q : x * x + b2 * x + a2 = c2 * y) : (b1 - b2) * x + (a1 - a2) = (c1 - c2) * y := by
  have e : (c1 - c2) * y = c1 * y - c2 * y := by clear p q; grind
  rw [e, ← p, ← q]
  clear p q e
  grind
theorem ra6b {F : Type} [Lean.Grind.CommRing F] {z l x m d : F} (e : z * l * x + d = z * (l * x + m)) : d = z * m := by
  have e2 : d = (z * l * x + d) - z * l * x := by clear e; grind
  rw [e2, e]
  clear e e2
  grind
theorem ra6c {F : Type} [Lean.Grind.CommRing F] {z l x m y : F} (e : z * l * x + z * m = z * y) : z * (l * x + m - y) = 0 := by
  have e2 : z * (l * x + m - y) = z * l * x + z * m - z * y := by clear e; grind
  rw [e2, e]
  clear e e2
  grind
/-- a and b of two such functions with the same c -/
theorem ra6 {F : Type} [Lean.Grind.CommRing F] {b1 b2 c1 c2 a1 a2 x1 y1 x3 y3 l m : F} (p1 : x1 * x1 + b1 * x1 + a1 = c1 * y1) (q1 : x1 * x1 + b2 * x1 + a2 = c2 * y1) (p3 : x3 * x3 + b1 * x3 + a1 = c1 * y3) (q3 : x3 * x3 + b2 * x3 + a2 = c2 * y3) (hb : b1 - b2 = (c1 - c2) * l) (hm : y1 = l * x1 + m) : (c1 - c2) * (l * x3 + m - y3) = 0 := by
  have e1 := ra6a p1 q1
  have e3 := ra6a p3 q3
  rw [hb] at e1 e3
  subst hm
  rw [ra6b e1] at e3
  exact ra6c e3
theorem ra7 {F : Type} [Lean.Grind.CommRing F] {b1 b2 c a1 a2 x1 y1 : F} (p1 : x1 * x1 + b1 * x1 + a1 = c * y1) (q1 : x1 * x1 + b2 * x1 + a2 = c * y1) (hb : b1 = b2) : a1 = a2 := by
  subst hb
  grind
theorem ra8 {F : Type} [Lean.Grind.CommRing F] {x1 xs l1 l2 : F} (v1 : x1 + x1 + xs = l1 * l1) : 2 * x1 + (xs + l1 * l2) = l1 * (l1 + l2) := by grind
theorem ra9 {F : Type} [Lean.Grind.CommRing F] {x1 xs l m : F} (v1 : x1 + x1 + xs = l * l) (v2 : -3 - 2 * l * m = x1 * x1 + x1 * xs + x1 * xs) : 2 * l * (l * x1 + m) = 3 * x1 * x1 - 3 := by grind
theorem ra10 {F : Type} [Lean.Grind.CommRing F] {l m x xt y yt : F} (h1 : y = l * x + m) (h2 : yt = l * xt + m) : l * (x - xt) = y - yt := by grind
theorem ra11 {F : Type} [Lean.Grind.CommRing F] {l m x xt y yt : F} (h1 : y = l * x + m) (h2 : yt = -(l * xt + m)) : l * (x - xt) = y + yt := by grind
theorem ra12 {F : Type} [Lean.Grind.CommRing F] {B x1 xt y1 yt l1 l3 l4 : F} (c1 : y1 * y1 = x1 * x1 * x1 - 3 * x1 + B) (ct : yt * yt = xt * xt * xt - 3 * xt + B) (hf : 2 * l1 * y1 = 3 * x1 * x1 - 3) (g3 : l3 * (x1 - xt) = y1 + yt) (g4 : l4 * (x1 - xt) = y1 - yt) :
    (x1 - xt) * ((x1 - xt) * (2 * x1 + (xt + l3 * l4) - (l3 + l4) * l1)) = 0 := by
  have e : (x1 - xt) * ((x1 - xt) * (2 * x1 + (xt + l3 * l4) - (l3 + l4) * l1)) = (x1 - xt) * (x1 - xt) * (2 * x1 + xt) + l3 * (x1 - xt) * (l4 * (x1 - xt)) - (x1 - xt) * (l3 * (x1 - xt) + l4 * (x1 - xt)) * l1 := by
    clear c1 ct hf g3 g4
    grind
  rw [e, g3, g4]
  have e2 : (y1 + yt) * (y1 - yt) = (x1 * x1 * x1 - 3 * x1 + B) - (xt * xt * xt - 3 * xt + B) := by
    rw [← c1, ← ct]
    clear c1 ct hf g3 g4 e
    grind
  have e3 : (x1 - xt) * (y1 + yt + (y1 - yt)) * l1 = (x1 - xt) * (3 * x1 * x1 - 3) := by
    rw [← hf]
    clear c1 ct hf g3 g4 e e2
    grind
  rw [e2, e3]
  clear c1 ct hf g3 g4 e e2 e3
  grind
theorem ra13 {F : Type} [Lean.Grind.CommRing F] {x b1 b2 c1 c2 l : F} (h1 : 2 * x + b1 = l * c1) (h2 : 2 * x + b2 - c2 * l = 0) : b1 - b2 = (c1 - c2) * l := by grind
theorem ra14 {F : Type} [Lean.Grind.CommRing F] {b1 b2 z l : F} (h : b1 - b2 - z * l = 0) : b1 - b2 = z * l := by grind
theorem ra15 {F : Type} [Lean.Grind.CommRing F] {x y : F} (h : x = y) : y - x = 0 := by grind
theorem ra16 {F : Type} [Lean.Grind.CommRing F] {x l : F} (h : x = 0 * l) : x = 0 := by grind
theorem ra17 {F : Type} [Lean.Grind.CommRing F] {x1 x2 x3 xs xu l1 l2 : F} (u1 : x1 + x2 + xs = l1 * l1) (u2 : xs + x3 + xu = l2 * l2) : xu = (l1 + l2) * (l1 + l2) - 2 * (xs + l1 * l2) - x1 - x2 - x3 := by grind
theorem ra18 {F : Type} [Lean.Grind.CommRing F] {c x y : F} (h : c * x = c * y) : c * (x - y) = 0 := by grind
theorem ra19 {F : Type} [Lean.Grind.CommRing F] {x y : F} (h : x + y = 0) : y = -x := by grind
theorem ra20 {F : Type} [Lean.Grind.CommRing F] {l m m2 xs : F} (h : l * xs + m + (-l * xs + m2) = 0) : m2 = -m := by grind
theorem ra21 {F : Type} [Lean.Grind.CommRing F] {x1 x2 x3 xs xt l1 l3 : F} (u1 : x1 + x2 + xs = l1 * l1) (u3 : x2 + x3 + xt = l3 * l3) (hb : xs + l1 * -l1 = xt + l3 * -l3) : x1 = x3 := by grind
theorem ra22 {F : Type} [Lean.Grind.CommRing F] {x1 x2 xs xu l1 : F} (u1 : x1 + x2 + xs = l1 * l1) (u2 : xs + x1 + xu = -l1 * -l1) : xu = x2 := by grind
theorem ra23 {F : Type} [Lean.Grind.CommRing F] {l m x : F} : -(-l * x + -m) = l * x + m := by grind
theorem ra24 {F : Type} [Lean.Grind.CommRing F] {ys z y3 : F} (h1 : ys = -z) (h2 : y3 = z) : ys + y3 = 0 := by grind
theorem ra25 {F : Type} [Lean.Grind.CommRing F] {y z w : F} (h : y = z) (h2 : w = z) (h3 : y * y = w) : True := trivial
theorem ra26 {F : Type} [Lean.Grind.CommRing F] {B x y : F} (c : y * y = x * x * x - 3 * x + B) : x * x * x - 3 * x + B - y * y = 0 := by rw [c]; grind
theorem ra27 {F : Type} [Lean.Grind.CommRing F] {x y z w : F} (h : x + y + z = w) : y + x + z = w := by grind
theorem ra28 {F : Type} [Lean.Grind.CommRing F] {z x1 x2 x3 : F} : z - x1 - x2 - x3 = z - x2 - x3 - x1 := by grind
theorem assoc_core {F : Type} [Lean.Grind.CommRing F] {iv : F → F} {B x1 y1 x2 y2 x3 y3 xs ys xt yt xu xv l1 m1 l2 m2 l3 m3 l4 m4 : F} (H : FH F iv B)
    (c1 : y1 * y1 = x1 * x1 * x1 - 3 * x1 + B) (c2 : y2 * y2 = x2 * x2 * x2 - 3 * x2 + B) (c3 : y3 * y3 = x3 * x3 * x3 - 3 * x3 + B) (ct : yt * yt = xt * xt * xt - 3 * xt + B)
    (a1 : y1 = l1 * x1 + m1) (a2 : y2 = l1 * x2 + m1) (a3 : ys = -(l1 * xs + m1)) (L1 : Ln B l1 m1 x1 x2 xs)
    (b1 : ys = l2 * xs + m2) (b2 : y3 = l2 * x3 + m2) (L2 : Ln B l2 m2 xs x3 xu)
    (d1 : y2 = l3 * x2 + m3) (d2 : y3 = l3 * x3 + m3) (d3 : yt = -(l3 * xt + m3)) (L3 : Ln B l3 m3 x2 x3 xt)
    (f1 : y1 = l4 * x1 + m4) (f2 : yt = l4 * xt + m4) (L4 : Ln B l4 m4 x1 xt xv)
    (nPQ : ¬ (x1 = x2 ∧ y1 + y2 = 0)) (nRP : ¬ (x3 = x1 ∧ y3 = y1)) (nRQ : ¬ (x3 = x2 ∧ y3 = y2)) (nRS : ¬ (xs = x3 ∧ ys + y3 = 0)) (nPT : ¬ (x1 = xt ∧ y1 + yt = 0)) (nQT : ¬ (x2 = xt ∧ y2 = yt)) :
    xu = xv ∧ -(l2 * xu + m2) = -(l4 * xv + m4) := by
  have i1 : l1 * xs + m1 + (l2 * xs + m2) = 0 := ra1 a3 b1
  have i3 : l3 * xt + m3 + (l4 * xt + m4) = 0 := ra1 d3 f2
  have pP := phi0 L1 i1
  have pQ := phi0 L1.swap i1
  have pR := phi0' L2.rot i1
  have pU := phi0' L2.rot.swap i1
  have qQ := phi0 L3 i3
  have qR := phi0 L3.swap i3
  have qP := phi0' L4.rot.rot.swap i3
  have qV := phi0' L4.rot.rot i3
  rw [← a1] at pP
  rw [← a2] at pQ
  rw [← b2] at pR
  rw [← d1] at qQ
  rw [← d2] at qR
  rw [← f1] at qP
  -- beta = gamma l1
  have hbg : xs + l1 * l2 - (xt + l3 * l4) = (l1 + l2 - (l3 + l4)) * l1 := by
    by_cases hx : x1 = x2
    · have hy : y1 = y2 := by rw [a1, a2, hx]
      have hxt : x1 - xt ≠ 0 := fun h => by
        have h1 : x1 = xt := rg12 h
        have h2 : (y1 - yt) * (y1 + yt) = 0 := rg6 (by rw [c1, ct, h1])
        rcases H.1 _ _ h2 with h3 | h3
        · exact nQT ⟨hx.symm.trans h1, hy.symm.trans (rg12 h3)⟩
        · exact nPT ⟨h1, h3⟩
      rw [← hx] at L1
      obtain ⟨v1, v2, -⟩ := L1
      have hf : 2 * l1 * y1 = 3 * x1 * x1 - 3 := by rw [a1]; exact ra9 v1 v2
      rw [← hx, ← hy] at d1
      have h0 := ra12 c1 ct hf (ra11 d1 d3) (ra10 f1 f2)
      rcases H.1 _ _ h0 with h1 | h1
      · exact absurd h1 hxt
      · rcases H.1 _ _ h1 with h2 | h2
        · exact absurd h2 hxt
        · exact ra13 (ra8 v1) h2
    · have hd : x2 - x1 ≠ 0 := fun h => hx (rg12 h).symm
      have h0 := ra4 (ra3 pP pQ) (ra3 qP qQ) (ra5 a1 a2)
      rcases H.1 _ _ h0 with h1 | h1
      · exact absurd h1 hd
      · exact ra14 h1
  -- gamma = 0
  have hg : l1 + l2 - (l3 + l4) = 0 := by
    have h0 := ra6 pP qP pR qR hbg a1
    rcases H.1 _ _ h0 with h1 | h1
    · exact h1
    · exfalso
      have ey : l1 * x3 + m1 = y3 := rg12 h1
      have hall := L1.all x3
      rw [ey, ra26 c3] at hall
      rcases H.1 _ _ hall.symm with h3 | h3
      · exact nRP ⟨rg12 h3, by rw [← ey, a1, rg12 h3]⟩
      · rcases H.1 _ _ h3 with h4 | h4
        · exact nRQ ⟨rg12 h4, by rw [← ey, a2, rg12 h4]⟩
        · exact nRS ⟨(rg12 h4).symm, ra24 a3 (by rw [← ey, rg12 h4])⟩
  rw [hg] at hbg
  have hb : xs + l1 * l2 = xt + l3 * l4 := rg12 (ra16 hbg)
  have hc : l1 + l2 = l3 + l4 := rg12 hg
  have ha : (-3 + l1 * m2 + l2 * m1 + xs * (xs + l1 * l2)) = (-3 + l3 * m4 + l4 * m3 + xt * (xt + l3 * l4)) := by
    rw [hc] at pP
    exact ra7 pP qP hb
  obtain ⟨u1, -, -⟩ := L1
  obtain ⟨u2, -, -⟩ := L2
  obtain ⟨u3, -, -⟩ := L3
  obtain ⟨u4, -, -⟩ := L4
  have hx : xu = xv := by
    have e1 := ra17 u1 u2
    have e2 := ra17 (x1 := x2) (x2 := x3) (x3 := x1) (xu := xv) u3 (ra27 u4)
    rw [e1, e2, hb, hc]
    exact ra28
  refine ⟨hx, ?_⟩
  rw [← hx] at qV ⊢
  by_cases hc0 : l1 + l2 = 0
  · have k1 : l2 = -l1 := ra19 hc0
    have k2 : l4 = -l3 := ra19 (hc.symm.trans hc0)
    subst k1
    subst k2
    have k3 : m2 = -m1 := ra20 i1
    have k4 : m4 = -m3 := ra20 i3
    have k5 : x1 = x3 := ra21 u1 u3 hb
    have k6 : xu = x2 := ra22 u1 (by rw [k5]; exact u2)
    rw [k6, k3, k4, ra23, ra23, ← a2, ← d1]
  · rw [← ha, ← hb, ← hc] at qV
    have h0 := ra18 (pU.symm.trans qV)
    rcases H.1 _ _ h0 with h1 | h1
    · exact absurd h1 hc0
    · rw [rg12 h1]
theorem eAdd_assoc0 {F : Type} [Lean.Grind.CommRing F] [DecidableEq F] {iv : F → F} {B x1 y1 x2 y2 x3 y3 : F} (H : FH F iv B) (c1 : y1 * y1 = x1 * x1 * x1 - 3 * x1 + B) (c2 : y2 * y2 = x2 * x2 * x2 - 3 * x2 + B) (c3 : y3 * y3 = x3 * x3 * x3 - 3 * x3 + B)
    (nPQ : ¬ (x1 = x2 ∧ y1 + y2 = 0)) (nQR : ¬ (x2 = x3 ∧ y2 + y3 = 0)) (nRP : ¬ (x3 = x1 ∧ y3 = y1)) (nRQ : ¬ (x3 = x2 ∧ y3 = y2))
    (nS : eAdd iv (eAdd iv (some (x1, y1)) (some (x2, y2))) (some (x3, y3)) ≠ none) (nT : eAdd iv (some (x1, y1)) (eAdd iv (some (x2, y2)) (some (x3, y3))) ≠ none) :
    eAdd iv (eAdd iv (some (x1, y1)) (some (x2, y2))) (some (x3, y3)) = eAdd iv (some (x1, y1)) (eAdd iv (some (x2, y2)) (some (x3, y3))) := by
  obtain ⟨l1, m1, xs, e1, a1, a2, L1⟩ := add_line H c1 c2 nPQ
  obtain ⟨l3, m3, xt, e3, d1, d2, L3⟩ := add_line H c2 c3 nQR
  rw [e1] at nS ⊢
  rw [e3] at nT ⊢
  have cs : -(l1 * xs + m1) * -(l1 * xs + m1) = xs * xs * xs - 3 * xs + B := rg15 L1.curve
  have ct : -(l3 * xt + m3) * -(l3 * xt + m3) = xt * xt * xt - 3 * xt + B := rg15 L3.curve
  have nRS : ¬ (xs = x3 ∧ -(l1 * xs + m1) + y3 = 0) := fun z => nS (eAdd_inv z.1 z.2)
  have nPT : ¬ (x1 = xt ∧ y1 + -(l3 * xt + m3) = 0) := fun z => nT (eAdd_inv z.1 z.2)
  obtain ⟨l2, m2, xu, e2, b1, b2, L2⟩ := add_line H cs c3 nRS
  obtain ⟨l4, m4, xv, e4, f1, f2, L4⟩ := add_line H c1 ct nPT
  rw [e2, e4]
  have nQT : ¬ (x2 = xt ∧ y2 = -(l3 * xt + m3)) := eAdd_ne (iv := iv) H c2 d1
  obtain ⟨hx, hy⟩ := assoc_core H c1 c2 c3 ct a1 a2 rfl L1 b1 b2 L2 d1 d2 rfl L3 f1 f2 L4 nPQ nRP nRQ nRS nPT nQT
  rw [hx, hy.symm.trans (by rw [hx])]
/-- the sum is nothing only with its opposite -/
theorem eAdd_eq_none {F : Type} [Lean.Grind.CommRing F] [DecidableEq F] {iv : F → F} {B : F} (H : FH F iv B) {P Q : Option (F × F)} (hP : OnC B P) (hQ : OnC B Q) (h : eAdd iv P Q = none) : Q = eNeg P := by
  have := eAdd_cancel H hP hQ
  rw [h, eAdd_none] at this
  exact this.symm
theorem eAdd_assoc {F : Type} [Lean.Grind.CommRing F] [DecidableEq F] {iv : F → F} {B : F} (H : FH F iv B) {P Q R : Option (F × F)} (hP : OnC B P) (hQ : OnC B Q) (hR : OnC B R) :
    eAdd iv (eAdd iv P Q) R = eAdd iv P (eAdd iv Q R) := by
  have hPQ := eAdd_on H hP hQ
  have hQR := eAdd_on H hQ hR
  -- R is the opposite of P + Q
  by_cases n1 : eAdd iv (eAdd iv P Q) R = none
  · have e := eAdd_eq_none H hPQ hR n1
    rw [n1, e, neg_eAdd H hP hQ, eAdd_comm H (eNeg_on hP) (eNeg_on hQ)]
    have e2 := eAdd_cancel H (eNeg_on hQ) (eNeg_on hP)
    rw [eNeg_neg] at e2
    rw [e2, eAdd_neg]
  by_cases n2 : eAdd iv P (eAdd iv Q R) = none
  · have e := eAdd_eq_none H hP hQR n2
    have e2 : P = eNeg (eAdd iv Q R) := by rw [e, eNeg_neg]
    have e3 : P = eAdd iv (eNeg R) (eNeg Q) := by rw [e2, neg_eAdd H hQ hR, eAdd_comm H (eNeg_on hQ) (eNeg_on hR)]
    rw [n2]
    have e4 : eAdd iv P Q = eNeg R := by
      rw [e3, eAdd_comm H (eAdd_on H (eNeg_on hR) (eNeg_on hQ)) hQ, eAdd_comm H (eNeg_on hR) (eNeg_on hQ)]
      have := eAdd_cancel H (eNeg_on hQ) (eNeg_on hR)
      rw [eNeg_neg] at this
      exact this
    rw [e4, eAdd_comm H (eNeg_on hR) hR, eAdd_neg]
  by_cases n3 : eAdd iv P Q = none
  · have e := eAdd_eq_none H hP hQ n3
    rw [n3, e]
    have := eAdd_cancel H (eNeg_on hP) hR
    rw [eNeg_neg] at this
    rw [this]
    rfl
  by_cases n4 : eAdd iv Q R = none
  · have e := eAdd_eq_none H hQ hR n4
    rw [n4, eAdd_none, e, eAdd_comm H hPQ (eNeg_on hQ), eAdd_comm H hP hQ]
    exact eAdd_cancel H hQ hP
  by_cases n5 : R = P
  · subst n5
    rw [eAdd_comm H hPQ hR, eAdd_comm H hR hQ]
  match P, Q, R, hP, hQ, hR with
  | none, Q, R, _, _, _ => rfl
  | some P, none, R, _, _, _ => rw [eAdd_none]; rfl
  | some P, some Q, none, _, _, _ => rw [eAdd_none, eAdd_none]
  | some (x1, y1), some (x2, y2), some (x3, y3), hP, hQ, hR =>
    have m12 : ¬ (x1 = x2 ∧ y1 + y2 = 0) := fun z => n3 (eAdd_inv z.1 z.2)
    have m23 : ¬ (x2 = x3 ∧ y2 + y3 = 0) := fun z => n4 (eAdd_inv z.1 z.2)
    have mRP : ¬ (x3 = x1 ∧ y3 = y1) := fun z => n5 (by rw [z.1, z.2])
    by_cases n6 : x3 = x2 ∧ y3 = y2
    · -- (P + Q) + Q = (Q + Q) + P
      have k := eAdd_assoc0 H hR hQ hP (fun z => m23 ⟨z.1.symm, rg16 z.2⟩) (fun z => m12 ⟨z.1.symm, rg16 z.2⟩) (fun z => mRP ⟨z.1.symm, z.2.symm⟩) (fun z => mRP ⟨n6.1.trans z.1.symm, n6.2.trans z.2.symm⟩)
        (fun z => n2 (by rw [eAdd_comm H hP hQR, eAdd_comm H hQ hR]; exact z)) (fun z => n1 (by rw [eAdd_comm H hPQ hR, eAdd_comm H hP hQ]; exact z))
      rw [eAdd_comm H hPQ hR, eAdd_comm H hP hQ, eAdd_comm H hP hQR, eAdd_comm H hQ hR]
      exact k.symm
    · exact eAdd_assoc0 H hP hQ hR m12 m23 mRP n6 n1 n2
