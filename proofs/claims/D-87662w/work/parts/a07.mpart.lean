set_option maxRecDepth 100000
/-! the reference's constructor: what has been made when d fields are set -/
def fkL : List (Option Nat) := [none, some 1, some 2, some 3, some 4, some 5, some 6, some 7, some 8, some 500, some 501, some 400, some 401, some 13, some 14, some 15, some 16, some 17, some 18, some 19, some 20, some 21, some 22, some 23, some 24, some 25, none, some 27, some 28, some 29, some 30, some 31, some 32, none, some 34, none, some 36, some 37, some 38, some 402, some 40, some 41, some 42, some 43, some 44, some 45, some 46, some 47, some 48, some 49, some 403, some 404, some 405, some 406, some 407, some 55, some 56, some 57, some 58, some 59, some 60, some 61, some 62, some 63, some 64, some 65, some 66, some 67, some 68, some 69, none, some 71, some 72, some 73, some 74, none, some 76, none, none, none, none, some 81, none, some 83, none, some 85, some 86, some 87, some 88, some 89, some 90, some 91, some 92, some 408, some 94, some 95]
def fV (A : Nat → Nat) (i : Nat) : Value := match fkL.getD i none with
  | some k => .ref (A k)
  | none => .int (if i = 78 then -1 else 0)
def fD (i : Nat) : Value := match fkL.getD i none with
  | some _ => .null
  | none => .int 0
def gFl (A : Nat → Nat) (d : Nat) : List Value := (List.range 96).map fun i => if i < d then fV A i else fD i
theorem gFl_len (A : Nat → Nat) (d : Nat) : (gFl A d).length = 96 := by unfold gFl; rw [List.length_map, List.length_range]
theorem gFl_at {A : Nat → Nat} {d i : Nat} (hi : i < 96) : (gFl A d)[i]? = some (if i < d then fV A i else fD i) := by
  unfold gFl
  rw [List.getElem?_map, List.getElem?_range hi]
  rfl
theorem fV_cg {A A' : Nat → Nat} {i : Nat} (h : ∀ k, fkL.getD i none = some k → A' k = A k) : fV A' i = fV A i := by
  unfold fV
  cases e : fkL.getD i none with
  | none => rfl
  | some k => show Value.ref (A' k) = .ref (A k); rw [h k e]
theorem gFl_cg {A A' : Nat → Nat} {d : Nat} (h : ∀ i k, i < d → fkL.getD i none = some k → A' k = A k) : gFl A' d = gFl A d := by
  unfold gFl
  apply List.map_congr_left
  intro i _
  by_cases hi : i < d
  · rw [if_pos hi, if_pos hi, fV_cg (fun k hk => h i k hi hk)]
  · rw [if_neg hi, if_neg hi]
theorem gFl_setV {A A' : Nat → Nat} {d : Nat} {v : Value} (hd : d < 96) (hv : fV A' d = v) (h : ∀ i k, i < d → fkL.getD i none = some k → A' k = A k) : (gFl A d).set d v = gFl A' (d + 1) := by
  apply List.ext_getElem?
  intro i
  by_cases hi : i < 96
  · rw [gFl_at hi, List.getElem?_set]
    by_cases e : d = i
    · subst e
      rw [if_pos rfl, if_pos (by rw [gFl_len]; exact hi), if_pos (Nat.lt_succ_self d), hv]
    · rw [if_neg e, gFl_at hi]
      by_cases c : i < d
      · rw [if_pos c, if_pos (by omega), fV_cg (fun k hk => h i k c hk)]
      · rw [if_neg c, if_neg (by omega)]
  · rw [List.getElem?_eq_none (by rw [List.length_set, gFl_len]; omega), List.getElem?_eq_none (by rw [gFl_len]; omega)]
theorem gFl_skip {A : Nat → Nat} {d : Nat} (hd : fkL.getD d none = none) (h78 : d ≠ 78) : gFl A d = gFl A (d + 1) := by
  unfold gFl
  apply List.map_congr_left
  intro i _
  by_cases e : i = d
  · subst e
    rw [if_neg (Nat.lt_irrefl i), if_pos (Nat.lt_succ_self i)]
    unfold fV fD
    rw [hd]
    show Value.int 0 = .int (if i = 78 then -1 else 0)
    rw [if_neg h78]
  · by_cases c : i < d
    · rw [if_pos c, if_pos (by omega)]
    · rw [if_neg c, if_neg (by omega)]
theorem gFl_big {A : Nat → Nat} {d : Nat} (hd : 96 ≤ d) : gFl A d = gFl A 96 := by
  unfold gFl
  apply List.map_congr_left
  intro i hi
  have := List.mem_range.mp hi
  rw [if_pos (by omega), if_pos this]
def F00 (j : Nat) : Int32 := if j = 78 then -1 else 0
theorem gFl_m (A : Nat → Nat) : gFl A 96 = mFl A F00 := rfl
/-- the field with which a cell is made -/
def sfO (s : Nat) : Nat := if s = 0 then 11 else if s = 1 then 12 else if s = 2 then 39 else if s < 8 then 47 + s else if s = 8 then 93 else if s < 17 then 100 + 2 * (s - 9) else if s < 25 then 101 + 2 * (s - 17) else 120 + 2 * (s - 25)
def mfO (j : Nat) : Nat := if j < 2 then 9 + j else 121 + 2 * (j - 2)
def ownF (k : Nat) : Nat := if k < 96 then k else if k = 96 then 0 else if k < 231 then sfO (k - 200) else if k < 331 then sfO (k - 300) else if k < 431 then sfO (k - 400) else if k < 508 then mfO (k - 500) else if k < 518 then mfO (k - 510) else if k < 528 then mfO (k - 520) else if k < 536 then 64 else 74
def dA (d : KD) : AC := match d with
  | (5, _, n) => Al false n (fun _ => 0)
  | (6, _, n) => Ai false 2 n (fun _ => 0)
  | (_, t, n) => Ai false t n (fun _ => 0)
def dO (A : Nat → Nat) (k : Nat) : AC :=
  if 400 ≤ k ∧ k < 431 then Ob 13 [.ref (A (k - 200)), .ref (A (k - 100)), .int 0]
  else if 500 ≤ k ∧ k < 508 then Ob 12 [.ref (A (k + 10)), .ref (A (k + 20)), .int 0, .int 0]
  else if 510 ≤ k ∧ k < 528 then Ai false 0 64 (fun _ => 0)
  else if k = 48 ∨ k = 49 then Ar 6 8 (fun _ => none)
  else if k = 65 then Ar 6 6 (fun _ => none)
  else if k = 66 then Ar 7 6 (fun _ => none)
  else if k = 64 then Ar 8 6 (fun j => if j < 6 then some (A (530 + j)) else none)
  else if k = 74 then Ar 8 60 (fun j => if j < 60 then some (A (600 + j)) else none)
  else dA (kdM k)
def cel (pd : Nat → Bool) (A : Nat → Nat) (P : Nat → AC) (k : Nat) : AC := if pd k then P k else dO A k
def KI (d k : Nat) : Prop := (kdM k).1 ≠ 0 ∧ ownF k < d
def PI (pd : Nat → Bool) (A : Nat → Nat) (P : Nat → AC) (d : Nat) (X h : AH) : Prop :=
  (∀ k k', KI d k → KI d k' → A k = A k' → k = k') ∧ (∀ k, KI d k → h (A k) = some (cel pd A P k)) ∧ (∀ a, (∀ k, KI d k → A k ≠ a) → h a = X a) ∧ P 96 = Ob 11 (gFl A d) ∧ pd 96 = true
theorem kdM_spot {s : Nat} (hs : s < 31) : (kdM (200 + s)).1 ≠ 0 ∧ (kdM (300 + s)).1 ≠ 0 ∧ (kdM (400 + s)).1 ≠ 0 := by
  have h : ∀ s, s < 31 → (kdM (200 + s)).1 ≠ 0 ∧ (kdM (300 + s)).1 ≠ 0 ∧ (kdM (400 + s)).1 ≠ 0 := by decide
  exact h s hs
theorem kdM_mod {j : Nat} (hj : j < 8) : (kdM (500 + j)).1 ≠ 0 ∧ (kdM (510 + j)).1 ≠ 0 ∧ (kdM (520 + j)).1 ≠ 0 := by
  have h : ∀ s, s < 8 → (kdM (500 + s)).1 ≠ 0 ∧ (kdM (510 + s)).1 ≠ 0 ∧ (kdM (520 + s)).1 ≠ 0 := by decide
  exact h j hj
theorem own_x {s : Nat} (hs : s < 31) : ownF (200 + s) = sfO s ∧ ownF (300 + s) = sfO s ∧ ownF (400 + s) = sfO s := by
  unfold ownF
  refine ⟨?_, ?_, ?_⟩
  · rw [if_neg (by omega), if_neg (by omega), if_pos (by omega), show 200 + s - 200 = s by omega]
  · rw [if_neg (by omega), if_neg (by omega), if_neg (by omega), if_pos (by omega), show 300 + s - 300 = s by omega]
  · rw [if_neg (by omega), if_neg (by omega), if_neg (by omega), if_neg (by omega), if_pos (by omega), show 400 + s - 400 = s by omega]
theorem own_m {j : Nat} (hj : j < 8) : ownF (500 + j) = mfO j ∧ ownF (510 + j) = mfO j ∧ ownF (520 + j) = mfO j := by
  unfold ownF
  refine ⟨?_, ?_, ?_⟩
  · rw [if_neg (by omega), if_neg (by omega), if_neg (by omega), if_neg (by omega), if_neg (by omega), if_pos (by omega), show 500 + j - 500 = j by omega]
  · rw [if_neg (by omega), if_neg (by omega), if_neg (by omega), if_neg (by omega), if_neg (by omega), if_neg (by omega), if_pos (by omega), show 510 + j - 510 = j by omega]
  · rw [if_neg (by omega), if_neg (by omega), if_neg (by omega), if_neg (by omega), if_neg (by omega), if_neg (by omega), if_neg (by omega), if_pos (by omega), show 520 + j - 520 = j by omega]
theorem own_g {k : Nat} (h : (530 ≤ k ∧ k < 536) ∨ 600 ≤ k) : ownF k = if k < 536 then 64 else 74 := by
  unfold ownF
  rw [if_neg (by omega), if_neg (by omega), if_neg (by omega), if_neg (by omega), if_neg (by omega), if_neg (by omega), if_neg (by omega), if_neg (by omega)]
theorem kdM_530 {j : Nat} (hj : j < 6) : (kdM (530 + j)).1 ≠ 0 := by
  have h : ∀ s, s < 6 → (kdM (530 + s)).1 ≠ 0 := by decide
  exact h j hj
theorem kdM_600 {j : Nat} (hj : j < 60) : (kdM (600 + j)).1 ≠ 0 := by
  have h : ∀ s, s < 60 → (kdM (600 + s)).1 ≠ 0 := by decide
  exact h j hj
/-- which keys there are -/
theorem kdM_in {k : Nat} (h : (kdM k).1 ≠ 0) : k < 97 ∨ (200 ≤ k ∧ k < 231) ∨ (300 ≤ k ∧ k < 331) ∨ (400 ≤ k ∧ k < 431) ∨ (500 ≤ k ∧ k < 508) ∨ (510 ≤ k ∧ k < 518) ∨ (520 ≤ k ∧ k < 528) ∨ (530 ≤ k ∧ k < 536) ∨ (600 ≤ k ∧ k < 660) := by
  by_cases hk : k < 660
  · have hh : (List.range 660).all (fun k => (kdM k).1 == 0 || decide (k < 97) || (decide (200 ≤ k) && decide (k < 231)) || (decide (300 ≤ k) && decide (k < 331)) || (decide (400 ≤ k) && decide (k < 431)) || (decide (500 ≤ k) && decide (k < 508)) || (decide (510 ≤ k) && decide (k < 518)) || (decide (520 ≤ k) && decide (k < 528)) || (decide (530 ≤ k) && decide (k < 536)) || (decide (600 ≤ k) && decide (k < 660))) = true := by decide +kernel
    have := List.all_eq_true.mp hh k (List.mem_range.mpr hk)
    simp only [Bool.or_eq_true, Bool.and_eq_true, decide_eq_true_eq, beq_iff_eq, h, false_or] at this
    omega
  · exfalso
    apply h
    unfold kdM
    simp only [show ¬ k < 97 by omega, show ¬ k < 200 by omega, show ¬ k < 209 by omega, show ¬ k < 225 by omega, show ¬ k < 231 by omega, show ¬ k < 300 by omega, show ¬ k < 331 by omega, show ¬ k < 400 by omega, show ¬ k < 431 by omega, show ¬ k < 500 by omega, show ¬ k < 508 by omega, show ¬ k < 510 by omega, show ¬ k < 512 by omega, show ¬ k < 518 by omega, show ¬ k < 520 by omega, show ¬ k < 522 by omega, show ¬ k < 528 by omega, show ¬ k < 530 by omega, show ¬ k < 536 by omega, show ¬ k < 600 by omega, show ¬ k < 660 by omega, if_false]
section PIs
variable {pd : Nat → Bool} {A A' : Nat → Nat} {P P' : Nat → AC} {d : Nat} {X h h' : AH}
theorem dO_cg (hA : ∀ k, KI d k → A' k = A k) {k : Nat} (hk : KI d k) : dO A' k = dO A k := by
  unfold dO
  by_cases c1 : 400 ≤ k ∧ k < 431
  · obtain ⟨s, rfl⟩ : ∃ s, k = 400 + s := ⟨k - 400, by omega⟩
    have hs : s < 31 := by omega
    obtain ⟨o1, o2, o3⟩ := own_x hs
    obtain ⟨n1, n2, n3⟩ := kdM_spot hs
    have hlt := hk.2
    rw [if_pos c1, if_pos c1, show 400 + s - 200 = 200 + s by omega, show 400 + s - 100 = 300 + s by omega, hA (200 + s) ⟨n1, by omega⟩, hA (300 + s) ⟨n2, by omega⟩]
  · rw [if_neg c1, if_neg c1]
    by_cases c2 : 500 ≤ k ∧ k < 508
    · obtain ⟨j, rfl⟩ : ∃ j, k = 500 + j := ⟨k - 500, by omega⟩
      have hj : j < 8 := by omega
      obtain ⟨o1, o2, o3⟩ := own_m hj
      obtain ⟨n1, n2, n3⟩ := kdM_mod hj
      have hlt := hk.2
      rw [if_pos c2, if_pos c2, show 500 + j + 10 = 510 + j by omega, show 500 + j + 20 = 520 + j by omega, hA (510 + j) ⟨n2, by omega⟩, hA (520 + j) ⟨n3, by omega⟩]
    · rw [if_neg c2, if_neg c2]
      have hn := hk.2
      by_cases c3 : k = 64
      · subst c3
        have e : (fun j => if j < 6 then some (A' (530 + j)) else none) = fun j => if j < 6 then some (A (530 + j)) else none := funext fun j => by
          by_cases hj : j < 6
          · rw [if_pos hj, if_pos hj, hA (530 + j) ⟨kdM_530 hj, by rw [(own_g (Or.inl ⟨by omega, by omega⟩ : (530 ≤ 530 + j ∧ 530 + j < 536) ∨ 600 ≤ 530 + j)), if_pos (by omega)]; exact hn⟩]
          · rw [if_neg hj, if_neg hj]
        exact congrArg (Ar 8 6) e
      · by_cases c4 : k = 74
        · subst c4
          have e : (fun j => if j < 60 then some (A' (600 + j)) else none) = fun j => if j < 60 then some (A (600 + j)) else none := funext fun j => by
            by_cases hj : j < 60
            · rw [if_pos hj, if_pos hj, hA (600 + j) ⟨kdM_600 hj, by rw [(own_g (Or.inr (by omega) : (530 ≤ 600 + j ∧ 600 + j < 536) ∨ 600 ≤ 600 + j)), if_neg (by omega)]; exact hn⟩]
            · rw [if_neg hj, if_neg hj]
          exact congrArg (Ar 8 60) e
        · rw [if_neg c3, if_neg c4, if_neg c3, if_neg c4]
/-- new cells come in -/
theorem PI.ext (w : PI pd A P d X h) (h0 : 0 < d) (hA : ∀ k, KI d k → A' k = A k) (hP : ∀ k, KI d k → k ≠ 96 → P' k = P k) (hnew : ∀ k, (kdM k).1 ≠ 0 → ownF k = d → h (A' k) = none ∧ h' (A' k) = some (cel pd A' P' k)) (hinj : ∀ k k', (kdM k).1 ≠ 0 → (kdM k').1 ≠ 0 → ownF k = d → ownF k' = d → A' k = A' k' → k = k')
    (hP96 : P' 96 = Ob 11 (gFl A' (d + 1))) (h96 : h' (A 96) = some (P' 96)) (hold : ∀ a, a ≠ A 96 → (∀ k, (kdM k).1 ≠ 0 → ownF k = d → A' k ≠ a) → h' a = h a) : PI pd A' P' (d + 1) X h' := by
  have k96 : KI d 96 := ⟨by decide, h0⟩
  have live : ∀ k, KI d k → h (A k) ≠ none := fun k hk => by rw [w.2.1 k hk]; exact fun z => by cases z
  have spl : ∀ k, KI (d + 1) k → KI d k ∨ ownF k = d := fun k hk => by
    by_cases e : ownF k = d
    · exact Or.inr e
    · exact Or.inl ⟨hk.1, by have := hk.2; omega⟩
  have apart : ∀ k k', KI d k → (kdM k').1 ≠ 0 → ownF k' = d → A' k' ≠ A k := fun k k' hk n' o' e => live k hk (by rw [← e]; exact (hnew k' n' o').1)
  refine ⟨fun k k' hk hk' e => ?_, fun k hk => ?_, fun a ha => ?_, hP96, w.2.2.2.2⟩
  · rcases spl k hk with z | z
    · rcases spl k' hk' with z' | z'
      · rw [hA k z, hA k' z'] at e
        exact w.1 k k' z z' e
      · rw [hA k z] at e
        exact absurd e.symm (apart k k' z hk'.1 z')
    · rcases spl k' hk' with z' | z'
      · rw [hA k' z'] at e
        exact absurd e (apart k' k z' hk.1 z)
      · exact hinj k k' hk.1 hk'.1 z z' e
  · rcases spl k hk with z | z
    · rw [hA k z]
      by_cases e : k = 96
      · subst e
        rw [h96]
        unfold cel
        rw [if_pos w.2.2.2.2]
      · rw [hold (A k) (fun e' => e (w.1 k 96 z k96 e')) (fun k' n' o' => apart k k' z n' o'), w.2.1 k z]
        unfold cel
        by_cases c : pd k = true
        · rw [if_pos c, if_pos c, hP k z e]
        · rw [if_neg c, if_neg c, dO_cg hA z]
    · exact (hnew k hk.1 z).2
  · have a96 : a ≠ A 96 := fun e => ha 96 ⟨by decide, Nat.lt_succ_of_lt h0⟩ (by rw [hA 96 k96, e])
    rw [hold a a96 (fun k' n' o' => ha k' ⟨n', by omega⟩)]
    exact w.2.2.1 a (fun k hk => by rw [← hA k hk]; exact ha k ⟨hk.1, Nat.lt_succ_of_lt hk.2⟩)
end PIs
