set_option maxRecDepth 100000
/-! one number below x and y -/
def Pj (x y u : Fp) (P : PP) : Prop := match P with
  | none => False
  | some (a, b) => u ≠ 0 ∧ x = a * u ∧ y = b * u
theorem fM (k a b : Nat) (R : Nat → Nat) (j : Nat) : fp (rMul k a b R j) = if j = k then fp (R a) * fp (R b) else fp (R j) := by
  unfold rMul up
  split
  · rw [fp_mod, fp_mul]
  · rfl
theorem fA' (k a b : Nat) (R : Nat → Nat) (j : Nat) : fp (rAdd k a b R j) = if j = k then fp (R a) + fp (R b) else fp (R j) := by
  unfold rAdd up
  split
  · rw [fp_mod, fp_add]
  · rfl
theorem fS {k a b : Nat} {R : Nat → Nat} (hb : R b < pP) (j : Nat) : fp (rSub k a b R j) = if j = k then fp (R a) - fp (R b) else fp (R j) := by
  unfold rSub up
  split
  · unfold sbN
    rw [fp_mod, fp_sub (by omega)]
  · rfl
theorem rMul_at (k a b : Nat) (R : Nat → Nat) (j : Nat) : rMul k a b R j = if j = k then R a * R b % pP else R j := rfl
theorem rAdd_at (k a b : Nat) (R : Nat → Nat) (j : Nat) : rAdd k a b R j = if j = k then (R a + R b) % pP else R j := rfl
theorem rSub_at (k a b : Nat) (R : Nat → Nat) (j : Nat) : rSub k a b R j = if j = k then sbN pP (R a) (R b) else R j := rfl
theorem sbN_lt (a b : Nat) : sbN pP a b < pP := Nat.mod_lt _ pP_pos
theorem md_lt (a : Nat) : a % pP < pP := Nat.mod_lt _ pP_pos
/-- the value of a register, in the field -/
def vl (R : Nat → Nat) (j : Nat) (e : Fp) : Prop := fp (R j) = e ∧ R j < pP
theorem vl_M {R : Nat → Nat} {k a b : Nat} {x y : Fp} (ha : vl R a x) (hb : vl R b y) : vl (rMul k a b R) k (x * y) := by
  refine ⟨?_, ?_⟩
  · rw [fM, if_pos rfl, ha.1, hb.1]
  · rw [rMul_at, if_pos rfl]; exact md_lt _
theorem vl_A {R : Nat → Nat} {k a b : Nat} {x y : Fp} (ha : vl R a x) (hb : vl R b y) : vl (rAdd k a b R) k (x + y) := by
  refine ⟨?_, ?_⟩
  · rw [fA', if_pos rfl, ha.1, hb.1]
  · rw [rAdd_at, if_pos rfl]; exact md_lt _
theorem vl_S {R : Nat → Nat} {k a b : Nat} {x y : Fp} (ha : vl R a x) (hb : vl R b y) : vl (rSub k a b R) k (x - y) := by
  refine ⟨?_, ?_⟩
  · rw [fS hb.2, if_pos rfl, ha.1, hb.1]
  · rw [rSub_at, if_pos rfl]; exact sbN_lt _ _
theorem vl_C {R : Nat → Nat} {k a : Nat} {x : Fp} (ha : vl R a x) : vl (rCp k a R) k x := by
  unfold vl rCp
  rw [up_same]
  exact ha
theorem vl_T {R : Nat → Nat} {k v : Nat} (hv : v < pP) : vl (rSet k v R) k (fp v) := by
  unfold vl rSet
  rw [up_same]
  exact ⟨rfl, hv⟩
theorem vl.upo {R : Nat → Nat} {k j v : Nat} {x : Fp} (h : vl R j x) (hj : j ≠ k) : vl (up R k v) j x := by
  unfold vl
  rw [up_ne hj]
  exact h
theorem vl_Mo {R : Nat → Nat} {k a b j : Nat} {x : Fp} (h : vl R j x) (hj : j ≠ k) : vl (rMul k a b R) j x := h.upo hj
theorem vl_Ao {R : Nat → Nat} {k a b j : Nat} {x : Fp} (h : vl R j x) (hj : j ≠ k) : vl (rAdd k a b R) j x := h.upo hj
theorem vl_So {R : Nat → Nat} {k a b j : Nat} {x : Fp} (h : vl R j x) (hj : j ≠ k) : vl (rSub k a b R) j x := h.upo hj
theorem vl_Co {R : Nat → Nat} {k a j : Nat} {x : Fp} (h : vl R j x) (hj : j ≠ k) : vl (rCp k a R) j x := h.upo hj
theorem vl_To {R : Nat → Nat} {k v j : Nat} {x : Fp} (h : vl R j x) (hj : j ≠ k) : vl (rSet k v R) j x := h.upo hj
