set_option maxRecDepth 100000
/-! VeilMint's curve: registers in Montgomery's form, points -/
theorem rz16 {F : Type} [Lean.Grind.CommRing F] {a : F} : a * 0 = 0 := by grind
theorem rz17 {F : Type} [Lean.Grind.CommRing F] {a : F} : 0 * a = 0 := by grind
theorem rv5 {F : Type} [Lean.Grind.CommRing F] {a c r : F} (h : c * r = 1) : a * r * c = a := by
  have e : a * r * c = a * (c * r) := by grind
  rw [e, h]
  grind
theorem w12_ne : fp (2 ^ (32 * 12)) ≠ 0 := by
  intro h
  have := fp_zero.mp h
  rw [Nat.dvd_iff_mod_eq_zero] at this
  revert this
  decide +kernel
noncomputable def rQ : Fp := ivP (fp (2 ^ (32 * 12)))
theorem rQ_ok : fp (2 ^ (32 * 12)) * rQ = 1 := ivP_ok _ w12_ne
theorem rQ_ne : rQ ≠ 0 := fun h => by
  have := rQ_ok
  rw [h] at this
  exact absurd this (by rw [rz16]; decide +kernel)
/-- the field number that a register stands for -/
noncomputable def vm (x : Nat) : Fp := fp x * rQ
theorem vm_def (x : Nat) : vm x = fp x * rQ := rfl
theorem rv1 {F : Type} [Lean.Grind.CommRing F] {m c r a b : F} (h : m * c = a * b) (h1 : c * r = 1) : m * r = (a * r) * (b * r) := by
  have : m * r * (c * r) = (a * r) * (b * r) := by
    have e : m * r * (c * r) = m * c * (r * r) := by grind
    rw [e, h]
    grind
  rw [h1] at this
  grind
theorem rv2 {F : Type} [Lean.Grind.CommRing F] {a b r : F} : (a + b) * r = a * r + b * r := by grind
theorem rv3 {F : Type} [Lean.Grind.CommRing F] {a b r : F} : (a - b) * r = a * r - b * r := by grind
theorem vm_mul (x y : Nat) : vm (mgm pP 12 (x * y)) = vm x * vm y := by
  obtain ⟨-, h⟩ := mgm_ok pP_odd 12 (x * y)
  have e : fp (mgm pP 12 (x * y)) * fp (2 ^ (32 * 12)) = fp x * fp y := by
    rw [← fp_mul, ← fp_mul]
    exact fp_eq.mpr h
  exact rv1 e rQ_ok
theorem vm_add (x y : Nat) : vm ((x + y) % pP) = vm x + vm y := by
  rw [vm_def, fp_mod, fp_add]
  exact rv2
theorem vm_sub {x y : Nat} (hy : y < pP) : vm (sbN pP x y) = vm x - vm y := by
  unfold sbN
  rw [vm_def, fp_mod, fp_sub (Nat.le_of_lt hy)]
  exact rv3
theorem rv4 {F : Type} [Lean.Grind.CommRing F] {a c r : F} (h : c * r = 1) : a * c * r = a := by
  have e : a * c * r = a * (c * r) := by grind
  rw [e, h]
  grind
/-- into Montgomery's form, and out of it -/
theorem vm_in (x : Nat) : vm (x * 2 ^ (32 * 12) % pP) = fp x := by
  rw [vm_def, fp_mod, fp_mul]
  exact rv4 rQ_ok
theorem vm_from (x : Nat) : fp (mgm pP 12 x) = vm x := by
  obtain ⟨-, h⟩ := mgm_ok pP_odd 12 x
  have e : fp (mgm pP 12 x) * fp (2 ^ (32 * 12)) = fp x := by
    rw [← fp_mul]
    exact fp_eq.mpr h
  rw [vm_def, ← e]
  exact (rv4 rQ_ok).symm
theorem vm_0 {x : Nat} (hx : x < pP) : vm x = 0 ↔ x = 0 := by
  constructor
  · intro h
    rcases fp_dom _ _ h with z | z
    · exact fp_inj hx pP_pos (by rw [z]; rfl)
    · exact absurd z rQ_ne
  · intro h
    rw [h, vm_def, fp_0]
    exact rz17
theorem vm_inj {x y : Nat} (hx : x < pP) (hy : y < pP) (h : vm x = vm y) : x = y := by
  have e := congrArg (fun z => z * fp (2 ^ (32 * 12))) h
  simp only [vm_def] at e
  rw [rv5 rQ_ok, rv5 rQ_ok] at e
  exact fp_inj hx hy e
def vx (R : Nat → Nat) (j : Nat) (e : Fp) : Prop := vm (R j) = e ∧ R j < pP
noncomputable def rMx (k a b : Nat) (R : Nat → Nat) : Nat → Nat := up R k (mgm pP 12 (R a * R b))
theorem vx_M {R : Nat → Nat} {k a b : Nat} {x y : Fp} (ha : vx R a x) (hb : vx R b y) : vx (rMx k a b R) k (x * y) := by
  unfold vx rMx
  rw [up_same, vm_mul, ha.1, hb.1]
  exact ⟨rfl, mgm_lt pP_odd _ _⟩
theorem vx_A {R : Nat → Nat} {k a b : Nat} {x y : Fp} (ha : vx R a x) (hb : vx R b y) : vx (rAdd k a b R) k (x + y) := by
  unfold vx rAdd
  rw [up_same, vm_add, ha.1, hb.1]
  exact ⟨rfl, md_lt _⟩
theorem vx_S {R : Nat → Nat} {k a b : Nat} {x y : Fp} (ha : vx R a x) (hb : vx R b y) : vx (rSub k a b R) k (x - y) := by
  unfold vx rSub
  rw [up_same, vm_sub hb.2, ha.1, hb.1]
  exact ⟨rfl, sbN_lt _ _⟩
theorem vx_C {R : Nat → Nat} {k a : Nat} {x : Fp} (ha : vx R a x) : vx (rCp k a R) k x := by
  unfold vx rCp
  rw [up_same]
  exact ha
theorem vx.upo {R : Nat → Nat} {k j v : Nat} {x : Fp} (h : vx R j x) (hj : j ≠ k) : vx (up R k v) j x := by
  unfold vx
  rw [up_ne hj]
  exact h
theorem vx_Mo {R : Nat → Nat} {k a b j : Nat} {x : Fp} (h : vx R j x) (hj : j ≠ k) : vx (rMx k a b R) j x := h.upo hj
theorem vx_Ao {R : Nat → Nat} {k a b j : Nat} {x : Fp} (h : vx R j x) (hj : j ≠ k) : vx (rAdd k a b R) j x := h.upo hj
theorem vx_So {R : Nat → Nat} {k a b j : Nat} {x : Fp} (h : vx R j x) (hj : j ≠ k) : vx (rSub k a b R) j x := h.upo hj
theorem vx_Co {R : Nat → Nat} {k a j : Nat} {x : Fp} (h : vx R j x) (hj : j ≠ k) : vx (rCp k a R) j x := h.upo hj
/-- a field number: by its kind, or by what it is -/
def FPk (kd : Nat → KD) (R : Nat → Nat) (k : Nat) : Prop := kd k = (1, 0, 12) ∨ (kd k = (2, 0, 12) ∧ R k < pP)
/-- where a point lies -/
def PtK (kd : Nat → KD) (A : Nat → Nat) (O : Nat → AC) (P : Nat) : Prop := kd P = (7, 0, 0) ∧ (OS A O P = ptC A P ∧ 60 ≤ P) ∧ kd (P + 1) = (1, 0, 12) ∧ kd (P + 2) = (1, 0, 12) ∧ kd (P + 3) = (1, 0, 12)
section XC7
variable {kd : Nat → KD} {A : Nat → Nat} {X : AH} {R : Nat → Nat} {S : Nat → List Int32} {O : Nat → AC} {F : Nat → Int32} {h : AH}
theorem FPk.op (w : XW kd A X R S O F h) {k : Nat} (f : FPk kd R k) : OpX kd A h (A k) 12 (R k) ∧ R k < pP := by
  rcases f with e | ⟨e, l⟩
  · obtain ⟨f, -, -, h3⟩ := w.n k e
    exact ⟨OpX.n w k e, h3⟩
  · exact ⟨OpX.n2 w k e, l⟩
theorem FPk.ofM {a b : Nat} (w : XW kd A X (rMx 16 a b R) S O F h) : FPk kd (rMx 16 a b R) 16 := Or.inr ⟨w.k 16 (by decide), by unfold rMx; rw [up_same]; exact mgm_lt pP_odd _ _⟩
theorem FPk.ofA {a b : Nat} (w : XW kd A X (rAdd 16 a b R) S O F h) : FPk kd (rAdd 16 a b R) 16 := Or.inr ⟨w.k 16 (by decide), by unfold rAdd; rw [up_same]; exact md_lt _⟩
theorem FPk.ofS {a b : Nat} (w : XW kd A X (rSub 16 a b R) S O F h) : FPk kd (rSub 16 a b R) 16 := Or.inr ⟨w.k 16 (by decide), by unfold rSub; rw [up_same]; exact sbN_lt _ _⟩
theorem FPk.up {j k v : Nat} (f : FPk kd R j) (hj : j ≠ k) : FPk kd (up R k v) j := by
  unfold FPk
  rw [up_ne hj]
  exact f
theorem FPk.kM {a b k j : Nat} (_ : XW kd A X (rMx k a b R) S O F h) (f : FPk kd R j) (hj : j ≠ k) : FPk kd (rMx k a b R) j := FPk.up f hj
theorem FPk.kA {a b k j : Nat} (_ : XW kd A X (rAdd k a b R) S O F h) (f : FPk kd R j) (hj : j ≠ k) : FPk kd (rAdd k a b R) j := FPk.up f hj
theorem FPk.kS {a b k j : Nat} (_ : XW kd A X (rSub k a b R) S O F h) (f : FPk kd R j) (hj : j ≠ k) : FPk kd (rSub k a b R) j := FPk.up f hj
theorem FPk.kC {a k j : Nat} (_ : XW kd A X (rCp k a R) S O F h) (f : FPk kd R j) (hj : j ≠ k) : FPk kd (rCp k a R) j := FPk.up f hj
theorem XW.cv (w : XW kd A X R S O F h) : h (A 11) = some (Ob 3 (cvFl A)) := w.o 11 (by decide) rfl
theorem PtK.c {P : Nat} (hP : PtK kd A O P) (w : XW kd A X R S O F h) : h (A P) = some (ptC A P) := by rw [w.ob P hP.1 (mut_f (Or.inr (by have := hP.2.1.2; omega))), hP.2.1.1]
theorem XW.pt60 (w : XW kd A X R S O F h) : PtK kd A O 60 := ⟨w.k 60 (by decide), ⟨rfl, by decide⟩, w.k 61 (by decide), w.k 62 (by decide), w.k 63 (by decide)⟩
theorem XW.pt64 (w : XW kd A X R S O F h) : PtK kd A O 64 := ⟨w.k 64 (by decide), ⟨rfl, by decide⟩, w.k 65 (by decide), w.k 66 (by decide), w.k 67 (by decide)⟩
theorem XW.pt68 (w : XW kd A X R S O F h) : PtK kd A O 68 := ⟨w.k 68 (by decide), ⟨rfl, by decide⟩, w.k 69 (by decide), w.k 70 (by decide), w.k 71 (by decide)⟩
theorem xmPr (g : GX) (w : XW kd A X R S O F h) (k a b : Nat) (st : St kd k 12 pP) (fa : FPk kd R a) (fb : FPk kd R b) : MT g MX6_mul ({ frames := 3, cells := 0, slots := 0, locals := 64 } : Room) [.ref (A 30), .ref (A a), .ref (A b), .ref (A k)] h (RV fun h' => XW kd A X (rMx k a b R) S O F h') :=
  xmulW g w w.mp k st (fa.op w).1 (fb.op w).1 (fb.op w).2
theorem xaPr (g : GX) (w : XW kd A X R S O F h) (k a b : Nat) (st : St kd k 12 pP) (fa : FPk kd R a) (fb : FPk kd R b) : MT g MX6_add ({ frames := 3, cells := 0, slots := 0, locals := 64 } : Room) [.ref (A 30), .ref (A a), .ref (A b), .ref (A k)] h (RV fun h' => XW kd A X (rAdd k a b R) S O F h') :=
  xaddW g w w.mp k st (fa.op w).1 (fb.op w).1 (fa.op w).2 (fb.op w).2
theorem xsPr (g : GX) (w : XW kd A X R S O F h) (k a b : Nat) (st : St kd k 12 pP) (fa : FPk kd R a) (fb : FPk kd R b) : MT g MX6_sub ({ frames := 1, cells := 0, slots := 0, locals := 27 } : Room) [.ref (A 30), .ref (A a), .ref (A b), .ref (A k)] h (RV fun h' => XW kd A X (rSub k a b R) S O F h') :=
  xsubW g w w.mp k st (fa.op w).1 (fb.op w).1 (fa.op w).2 (fb.op w).2
theorem xcPr (g : GX) (w : XW kd A X R S O F h) (k a : Nat) (st : St kd k 12 pP) (fa : FPk kd R a) : MT g MX6_copy ({ frames := 1, cells := 0, slots := 0, locals := 48 } : Room) [.ref (A a), .ref (A k)] h (RV fun h' => XW kd A X (rCp k a R) S O F h') :=
  xcopyW g w k st (fa.op w).1 (fa.op w).2 (by decide)
theorem isNone_ok (g : GX) (w : XW kd A X R S O F h) {P : Nat} (hP : PtK kd A O P) : MT g MX7_isNone ({ frames := 1, cells := 0, slots := 0, locals := 22 } : Room) [.ref (A P)] h (RI fun r h' => r = (if R (P + 3) = 0 then 1 else 0) ∧ h' = h) := by
  refine MT.of (by decide) (Nat.le_of_ble_eq_true rfl) ?_
  refine X_aload_n (pc := 0) 0 dX7_isNone_0 rfl rfl ?_
  refine X_getfield (pc := 1) dX7_isNone_1 fg_X7_18_5 (hP.c w) (by first | rfl | assumption) ?_
  refine X_isi (pc := 4) _ dX7_isNone_4 cs_X7_21 rfl (xzeroW g (OpX.n w (P + 3) hP.2.2.2.2) (by decide)) nX6_isZero (Nat.le_of_ble_eq_true rfl) (Nat.le_of_ble_eq_true rfl) (Nat.le_of_ble_eq_true rfl) (Nat.le_of_ble_eq_true rfl) (fun r h1 q => ?_)
  obtain ⟨er, rfl⟩ := q
  rw [er]
  refine X_zreturn (pc := 7) dX7_isNone_7 rfl (by first | exact Or.inl rfl | exact Or.inr rfl | assumption | exact zo_if) (Nat.le_of_ble_eq_true rfl) (Nat.le_of_ble_eq_true rfl) ?_
  exact ⟨_, rfl, rfl, rfl⟩
def beR (P Q : Nat) (R : Nat → Nat) : Nat → Nat := rCp (P + 3) (Q + 3) (rCp (P + 2) (Q + 2) (rCp (P + 1) (Q + 1) R))
theorem be_ok (g : GX) (w : XW kd A X R S O F h) {P Q : Nat} (hP : PtK kd A O P) (hQ : PtK kd A O Q) : MT g MX7_be ({ frames := 2, cells := 0, slots := 0, locals := 69 } : Room) [.ref (A P), .ref (A Q)] h (RV fun h' => XW kd A X (beR P Q R) S O F h') := by
  refine MT.of (by decide) (Nat.le_of_ble_eq_true rfl) ?_
  refine X_aload_n (pc := 0) 1 dX7_be_0 rfl rfl ?_
  refine X_getfield (pc := 1) dX7_be_1 fg_X7_9_5 (PtK.c hQ w) rfl ?_
  refine X_aload_n (pc := 4) 0 dX7_be_4 rfl rfl ?_
  refine X_getfield (pc := 5) dX7_be_5 fg_X7_9_5 (PtK.c hP w) rfl ?_
  refine X_isv (pc := 8) _ dX7_be_8 cs_X7_27 rfl (xcPr g w (P + 1) (Q + 1) (St.p hP.2.2.1) (Or.inl hQ.2.2.1)) nX6_copy (Nat.le_of_ble_eq_true rfl) (Nat.le_of_ble_eq_true rfl) (Nat.le_of_ble_eq_true rfl) (Nat.le_of_ble_eq_true rfl) (fun h_1 w_1 => ?_)
  refine X_aload_n (pc := 11) 1 dX7_be_11 rfl rfl ?_
  refine X_getfield (pc := 12) dX7_be_12 fg_X7_15_5 (PtK.c hQ w_1) rfl ?_
  refine X_aload_n (pc := 15) 0 dX7_be_15 rfl rfl ?_
  refine X_getfield (pc := 16) dX7_be_16 fg_X7_15_5 (PtK.c hP w_1) rfl ?_
  refine X_isv (pc := 19) _ dX7_be_19 cs_X7_27 rfl (xcPr g w_1 (P + 2) (Q + 2) (St.p hP.2.2.2.1) (Or.inl hQ.2.2.2.1)) nX6_copy (Nat.le_of_ble_eq_true rfl) (Nat.le_of_ble_eq_true rfl) (Nat.le_of_ble_eq_true rfl) (Nat.le_of_ble_eq_true rfl) (fun h_2 w_2 => ?_)
  refine X_aload_n (pc := 22) 1 dX7_be_22 rfl rfl ?_
  refine X_getfield (pc := 23) dX7_be_23 fg_X7_18_5 (PtK.c hQ w_2) rfl ?_
  refine X_aload_n (pc := 26) 0 dX7_be_26 rfl rfl ?_
  refine X_getfield (pc := 27) dX7_be_27 fg_X7_18_5 (PtK.c hP w_2) rfl ?_
  refine X_isv (pc := 30) _ dX7_be_30 cs_X7_27 rfl (xcPr g w_2 (P + 3) (Q + 3) (St.p hP.2.2.2.2) (Or.inl hQ.2.2.2.2)) nX6_copy (Nat.le_of_ble_eq_true rfl) (Nat.le_of_ble_eq_true rfl) (Nat.le_of_ble_eq_true rfl) (Nat.le_of_ble_eq_true rfl) (fun h_3 w_3 => ?_)
  refine X_return (pc := 33) dX7_be_33 rfl (Nat.le_of_ble_eq_true rfl) (Nat.le_of_ble_eq_true rfl) ?_
  exact ⟨rfl, w_3⟩
theorem vanish_ok (g : GX) (w : XW kd A X R S O F h) {P : Nat} (hP : PtK kd A O P) : MT g MX7_vanish ({ frames := 0, cells := 0, slots := 0, locals := 0 } : Room) [.ref (A P)] h (RV fun h' => XW kd A X (up R (P + 3) 0) S O F h') := by
  refine MT.of (by decide) (Nat.le_of_ble_eq_true rfl) ?_
  obtain ⟨ft, ht, -, -⟩ := w.n (P + 3) hP.2.2.2.2
  have hne : A P ≠ A (P + 3) := w.nk (a := 7) (by rw [hP.1]) (by rw [hP.2.2.2.2]; decide) (by decide) (by rw [hP.2.2.2.2]; decide)
  have zeros : ∀ m i, i + m = 12 → ∀ (f : Nat → Int32), (∀ j, j < i → f j = 0) → XX g MX7_vanish ({ frames := 0, cells := 0, slots := 0, locals := 0 } : Room) (RV fun h' => XW kd A X (up R (P + 3) 0) S O F h') 0 0 2 [(1, .int (nI i)), (0, .ref (A P))] [] (hset h (A (P + 3)) (Ai false 0 12 f)) := by
    intro m
    induction m with
    | zero =>
      intro i hi f hz
      refine X_iload_n (pc := 2) 0 dX7_vanish_2 rfl rfl ?_
      refine X_bipush (pc := 3) (x := 12) dX7_vanish_3 (by decide) ?_
      refine X_cge (b := 12) (pc := 5) 21 dX7_vanish_5 (by decide) (by omega) (by omega) (fun _ => ?_) (fun c => absurd c (by omega))
      refine X_return (pc := 21) dX7_vanish_21 rfl (Nat.le_of_ble_eq_true rfl) (Nat.le_of_ble_eq_true rfl) ?_
      have e : i = 12 := by omega
      subst e
      exact ⟨rfl, w.setN (P + 3) hP.2.2.2.2 (V_zeros hz) pP_pos⟩
    | succ m ih =>
      intro i hi f hz
      have ci : (nI i).toNatClampNeg = i := nI_clamp (by omega)
      have b1 : vp_in (nI i) 12 := vp_in_nI (by omega) (by omega)
      have c1 := hset_self h (A (P + 3)) (Ai false 0 12 f)
      have c2 : hset h (A (P + 3)) (Ai false 0 12 f) (A P) = some (ptC A P) := by rw [hset_ne hne]; exact hP.c w
      refine X_iload_n (pc := 2) 0 dX7_vanish_2 rfl rfl ?_
      refine X_bipush (pc := 3) (x := 12) dX7_vanish_3 (by decide) ?_
      refine X_cge (b := 12) (pc := 5) 21 dX7_vanish_5 (by decide) (by omega) (by omega) (fun c => absurd c (by omega)) (fun _ => ?_)
      refine X_aload_n (pc := 8) 1 dX7_vanish_8 rfl rfl ?_
      refine X_getfield (pc := 9) dX7_vanish_9 fg_X7_18_5 c2 (by first | rfl | assumption) ?_
      refine X_iload_n (pc := 12) 0 dX7_vanish_12 rfl rfl ?_
      refine X_iconst (pc := 13) (x := 0) dX7_vanish_13 (by decide) ?_
      refine X_iastore (pc := 14) dX7_vanish_14 c1 b1 ?_
      refine X_iinc (pc := 15) (L' := [(1, .int (_ + 1)), (0, .ref _)]) 0 dX7_vanish_15 rfl rfl (Nat.le_of_ble_eq_true rfl) rfl ?_
      refine X_goto (pc := 18) 2 dX7_vanish_18 (by decide) ?_
      rw [ci, hset_hset, show nI i + 1 = nI (i + 1) from nI_add i 1]
      refine ih (i + 1) (by omega) _ (fun j hj => ?_)
      by_cases e : j = i
      · exact if_pos e
      · exact (if_neg e).trans (hz j (by omega))
  refine X_iconst (pc := 0) (x := 0) dX7_vanish_0 (by decide) ?_
  refine X_istore_n (pc := 1) (L' := [(1, .int _), (0, .ref _)]) dX7_vanish_1 rfl (Nat.le_of_ble_eq_true rfl) rfl ?_
  have := zeros 12 0 (by omega) ft (fun j hj => absurd hj (by omega))
  rw [hset_same ht] at this
  exact this
end XC7
