set_option maxRecDepth 100000
/-! cells that are made and forgotten; worlds that grow; Montgomery's products as numbers -/
section XG
variable {g : GX} {M : MI} {rm : Room} {Q : Outcome → AH → Prop} {k n pc : Nat} {L : List (Nat × Value)} {st : List Value} {h h' : AH}
/-- the cells that nobody writes are known -/
def Rok (g : GX) (h : AH) : Prop := ∀ a c, gR g a = some c → h a = some c
theorem XX.know (kk : Rok g h → XX g M rm Q k n pc L st h) : XX g M rm Q k n pc L st h :=
  fun p l e s m args below meth c locs H ls C hl hA hS => kk (fun a c hc => (hA.2.2 a c hc).1) p l e s m args below meth c locs H ls C hl hA hS
theorem XX.subR (hs : ∀ a c, h' a = some c → h a = some c) (hr : Rok g h') (kk : XX g M rm Q k n pc L st h') : XX g M rm Q k n pc L st h :=
  fun p l e s m args below meth c locs H ls C hl hA hS => kk p l e s m args below meth c locs H ls C hl (hA.sub hs hr) hS
end XG
def hdel (h : AH) (q : Nat) : AH := fun a => if a = q then none else h a
theorem hdel_le {h : AH} {q : Nat} (a : Nat) (c : AC) (e : hdel h q a = some c) : h a = some c := by
  unfold hdel at e
  split at e
  · cases e
  · exact e
theorem hdel_ok {g : GX} {h : AH} {q : Nat} (hq : gR g q = none) (r : Rok g h) : Rok g (hdel h q) := fun a c e => by
  unfold hdel
  rw [if_neg]
  · exact r a c e
  · intro z
    subst z
    rw [hq] at e
    cases e
theorem Rok.no {g : GX} {h : AH} {q : Nat} (r : Rok g h) (hq : h q = none) : gR g q = none := by
  cases e : gR g q with
  | none => rfl
  | some c => rw [r q c e] at hq; cases hq
theorem XX.del {g : GX} {M : MI} {rm : Room} {Q : Outcome → AH → Prop} {k n pc : Nat} {L : List (Nat × Value)} {st : List Value} {h : AH} {q : Nat} (hq : gR g q = none) (kk : XX g M rm Q k n pc L st (hdel h q)) : XX g M rm Q k n pc L st h :=
  XX.know fun r => XX.subR (fun a c e => hdel_le a c e) (hdel_ok hq r) kk
section WDg
variable {kd : Nat → KD} {A : Nat → Nat} {X : AH} {R R' : Nat → Nat} {I I' : Nat → Nat → Int32} {S S' : Nat → List Int32} {O O' : Nat → AC} {h : AH}
theorem WC.is {r : Nat} {i : Nat → Int32} {s : List Int32} {c : AC} {d : KD} {o : Option AC} (hd : d.1 ≠ 0) (h : WC r i s c d o) : o ≠ none := by
  intro z
  subst z
  match d, hd, h with
  | (0, _, _), hd, _ => exact hd rfl
  | (1, _, _), _, h => obtain ⟨f, e, -⟩ := h; cases e
  | (2, _, n), _, h => obtain ⟨f, e, -⟩ := h; cases e
  | (3, t, n), _, h => cases (show (none : Option AC) = some _ from h)
  | (4, t, n), _, h => obtain ⟨f, e⟩ := h; cases e
  | (5, _, n), _, h => obtain ⟨f, e⟩ := h; cases e
  | (6, _, n), _, h => obtain ⟨f, e, -⟩ := h; cases e
  | (x + 7, _, _), _, h => cases (show (none : Option AC) = some _ from h)
/-- what is not there lies outside -/
theorem WD.apart (w : WD kd A X R I S O h) {q : Nat} (hq : h q = none) (k : Nat) (hk : (kd k).1 ≠ 0) : A k ≠ q := fun z => by
  have := (w.2.1 k).is hk
  rw [z] at this
  exact this hq
theorem WD.noX (w : WD kd A X R I S O h) {q : Nat} (hq : h q = none) : X q = none := by
  rw [← w.2.2 q (w.apart hq)]
  exact hq
/-- a cell is made beside the world -/
theorem WD.fresh (w : WD kd A X R I S O h) {q : Nat} (hq : h q = none) (c : AC) : WD kd A (hset X q c) R I S O (hset h q c) := by
  refine ⟨w.1, fun k => ?_, fun a ha => ?_⟩
  · by_cases e : (kd k).1 = 0
    · rw [show kd k = (0, (kd k).2.1, (kd k).2.2) from Prod.ext e rfl]
      trivial
    · rw [hset_ne (w.apart hq k e)]
      exact w.2.1 k
  · by_cases e : a = q
    · subst e
      rw [hset_self, hset_self]
    · rw [hset_ne e, hset_ne e]
      exact w.2.2 a ha
/-- a cell beside the world is written -/
theorem WD.setX (w : WD kd A X R I S O h) {q : Nat} (hq : ∀ k, (kd k).1 ≠ 0 → A k ≠ q) (c : AC) : WD kd A (hset X q c) R I S O (hset h q c) := by
  refine ⟨w.1, fun k => ?_, fun a ha => ?_⟩
  · by_cases e : (kd k).1 = 0
    · rw [show kd k = (0, (kd k).2.1, (kd k).2.2) from Prod.ext e rfl]
      trivial
    · rw [hset_ne (hq k e)]
      exact w.2.1 k
  · by_cases e : a = q
    · subst e
      rw [hset_self, hset_self]
    · rw [hset_ne e, hset_ne e]
      exact w.2.2 a ha
/-- it is forgotten -/
theorem WD.forget {q : Nat} {c : AC} (w : WD kd A (hset X q c) R I S O h) (hX : X q = none) (hq : ∀ k, (kd k).1 ≠ 0 → A k ≠ q) : WD kd A X R I S O (hdel h q) := by
  refine ⟨w.1, fun k => ?_, fun a ha => ?_⟩
  · by_cases e : (kd k).1 = 0
    · rw [show kd k = (0, (kd k).2.1, (kd k).2.2) from Prod.ext e rfl]
      trivial
    · rw [show hdel h q (A k) = h (A k) from if_neg (hq k e)]
      exact w.2.1 k
  · by_cases e : a = q
    · subst e
      rw [hX]
      exact if_pos rfl
    · rw [show hdel h q a = h a from if_neg e, w.2.2 a ha, hset_ne e]
/-- a new cell comes into the world -/
theorem WD.add (w : WD kd A X R I S O h) {q k : Nat} (hq : h q = none) (hk : (kd k).1 = 0) {d : KD} (hd : d.1 ≠ 0) {c : AC} (hc : WC (R' k) (I' k) (S' k) (O' k) d (some c)) (hR : ∀ j, j ≠ k → R' j = R j) (hI : ∀ j, j ≠ k → I' j = I j) (hS : ∀ j, j ≠ k → S' j = S j) (hO : ∀ j, j ≠ k → (kd j).1 = 7 → O' j = O j) (h7 : ∀ j, (kd j).1 ≤ 7) :
    WD (up kd k d) (up A k q) X R' I' S' O' (hset h q c) := by
  have ap := w.apart hq
  have nk : ∀ j, (kd j).1 ≠ 0 → j ≠ k := fun j hj z => hj (by rw [z]; exact hk)
  refine ⟨fun j j' hj hj' e => ?_, fun j => ?_, fun a ha => ?_⟩
  · by_cases c1 : j = k
    · by_cases c2 : j' = k
      · rw [c1, c2]
      · rw [up_ne c2] at hj' e
        rw [c1, up_same] at e
        exact absurd e.symm (ap j' hj')
    · rw [up_ne c1] at hj e
      by_cases c2 : j' = k
      · rw [c2, up_same] at e
        exact absurd e (ap j hj)
      · rw [up_ne c2] at hj' e
        exact w.1 j j' hj hj' e
  · by_cases c1 : j = k
    · subst c1
      rw [up_same, up_same, hset_self]
      exact hc
    · rw [up_ne c1, up_ne c1, hR j c1, hI j c1, hS j c1]
      by_cases e : (kd j).1 = 0
      · rw [show kd j = (0, (kd j).2.1, (kd j).2.2) from Prod.ext e rfl]
        trivial
      · rw [hset_ne (ap j e)]
        have hw := w.2.1 j
        by_cases e7 : (kd j).1 = 7
        · rw [hO j c1 e7]
          exact hw
        · have h8 := h7 j
          revert hw e e7 h8
          generalize kd j = dj
          intro e hw e7 h8
          match dj, hw, e, e7, h8 with
          | (0, _, _), hw, e, _, _ => exact absurd rfl e
          | (1, _, _), hw, _, _, _ => exact hw
          | (2, _, n), hw, _, _, _ => exact hw
          | (3, t, n), hw, _, _, _ => exact hw
          | (4, t, n), hw, _, _, _ => exact hw
          | (5, _, n), hw, _, _, _ => exact hw
          | (6, _, n), hw, _, _, _ => exact hw
          | (7, _, _), _, _, e7, _ => exact absurd rfl e7
          | (x + 8, _, _), _, _, _, h8 => exact absurd h8 (by simp)
  · have hk2 : q ≠ a := by
      have := ha k (by rw [up_same]; exact hd)
      rw [up_same] at this
      exact this
    rw [hset_ne (fun z => hk2 z.symm)]
    refine w.2.2 a (fun j hj => ?_)
    have := ha j (by rw [up_ne (nk j hj)]; exact hj)
    rw [up_ne (nk j hj)] at this
    exact this
end WDg
/-! Montgomery's products -/
theorem mg_ex {m : Nat} (hm : m % 2 = 1) (x : Nat) : ∀ j, ∃ v, v < m ∧ v * 2 ^ j % m = x % m := by
  intro j
  induction j with
  | zero => exact ⟨x % m, Nat.mod_lt _ (by omega), by rw [Nat.pow_zero, Nat.mul_one, Nat.mod_mod]⟩
  | succ j ih =>
    obtain ⟨v, hv, e⟩ := ih
    rcases Nat.mod_two_eq_zero_or_one v with c | c
    · refine ⟨v / 2, by omega, ?_⟩
      rw [Nat.pow_succ', ← Nat.mul_assoc, show v / 2 * 2 = v by omega]
      exact e
    · refine ⟨(v + m) / 2, by omega, ?_⟩
      rw [Nat.pow_succ', ← Nat.mul_assoc, show (v + m) / 2 * 2 = v + m by omega, Nat.add_mul, Nat.mul_comm m, Nat.add_mul_mod_self_right]
      exact e
theorem mg_un {m : Nat} (hm : m % 2 = 1) {x y : Nat} : ∀ j, x * 2 ^ j % m = y * 2 ^ j % m → x % m = y % m := by
  intro j
  induction j with
  | zero => intro h; rw [Nat.pow_zero, Nat.mul_one, Nat.mul_one] at h; exact h
  | succ j ih =>
    intro h
    refine ih (cancel2 hm ?_)
    rw [Nat.pow_succ, ← Nat.mul_assoc, ← Nat.mul_assoc] at h
    rw [Nat.mul_comm 2, Nat.mul_comm 2]
    exact h
noncomputable def mgm (m n x : Nat) : Nat := Classical.epsilon (fun v => v < m ∧ v * 2 ^ (32 * n) % m = x % m)
theorem mgm_ok {m : Nat} (hm : m % 2 = 1) (n x : Nat) : mgm m n x < m ∧ mgm m n x * 2 ^ (32 * n) % m = x % m := Classical.epsilon_spec (p := fun v => v < m ∧ v * 2 ^ (32 * n) % m = x % m) (mg_ex hm x (32 * n))
theorem mgm_eq {m n x v : Nat} (hm : m % 2 = 1) (hv : v < m) (h : v * 2 ^ (32 * n) % m = x % m) : v = mgm m n x := by
  obtain ⟨h1, h2⟩ := mgm_ok hm n x
  have := mg_un hm (32 * n) (h.trans h2.symm)
  rw [Nat.mod_eq_of_lt hv, Nat.mod_eq_of_lt h1] at this
  exact this
theorem mgm_lt {m : Nat} (hm : m % 2 = 1) (n x : Nat) : mgm m n x < m := (mgm_ok hm n x).1
