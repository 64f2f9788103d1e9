set_option maxRecDepth 100000
/-! WHAT EVERY CALL DOES, over the abstract state: the answer, the numbers, the rows -/
abbrev O3 : Type := Int32 × (Nat → Nat) × (Nat → List Int32)
/-- a choice by any proposition -/
noncomputable def cIf {α : Type} (p : Prop) (a b : α) : α := @ite α p (Classical.propDecidable p) a b
theorem cIf_t {α : Type} {p : Prop} {a b : α} (h : p) : cIf p a b = a := if_pos h
theorem cIf_f {α : Type} {p : Prop} {a b : α} (h : ¬ p) : cIf p a b = b := if_neg h
/-- the number that bytes tell -/
def num (l : List Int32) (fr n : Nat) : Nat := bsm (fun q => l.getD q 0) (fr + n) n
/-- a number's bytes -/
def byN (v n : Nat) : List Int32 := osB v n
/-- the lowest one that is so -/
def low (p : Nat → Bool) : Nat → Option Nat
  | 0 => none
  | n + 1 => match low p n with
    | some k => some k
    | none => if p n then some n else none
theorem low_some {p : Nat → Bool} {n k : Nat} (h : low p n = some k) : k < n ∧ p k = true ∧ ∀ j, j < k → p j = false := by
  induction n with
  | zero => cases h
  | succ n ih =>
    unfold low at h
    cases e : low p n with
    | some k' =>
      rw [e] at h
      cases h
      obtain ⟨a, b, c⟩ := ih e
      exact ⟨by omega, b, c⟩
    | none =>
      rw [e] at h
      have hn : ∀ {m}, low p m = none → ∀ j, j < m → p j = false := by
        intro m
        induction m with
        | zero => intro _ j hj; omega
        | succ m ihm =>
          intro hm j hj
          unfold low at hm
          cases e2 : low p m with
          | some q => rw [e2] at hm; cases hm
          | none =>
            rw [e2] at hm
            by_cases ej : j = m
            · subst ej
              cases e3 : p j with
              | false => rfl
              | true => simp [e3] at hm
            · exact ihm e2 j (by omega)
      cases e3 : p n with
      | false => simp [e3] at h
      | true =>
        simp [e3] at h
        subst h
        exact ⟨by omega, e3, hn e⟩
theorem low_none {p : Nat → Bool} {n : Nat} (h : low p n = none) : ∀ j, j < n → p j = false := by
  induction n with
  | zero => intro j hj; omega
  | succ m ihm =>
    intro j hj
    unfold low at h
    cases e2 : low p m with
    | some q => rw [e2] at h; cases h
    | none =>
      rw [e2] at h
      by_cases ej : j = m
      · subst ej
        cases e3 : p j with
        | false => rfl
        | true => simp [e3] at h
      · exact ihm e2 j (by omega)
theorem low_is {p : Nat → Bool} {n k : Nat} (h1 : k < n) (h2 : p k = true) (h3 : ∀ j, j < k → p j = false) : low p n = some k := by
  cases e : low p n with
  | none => have := low_none e k h1; rw [h2] at this; cases this
  | some q =>
    obtain ⟨a, b, c⟩ := low_some e
    by_cases c1 : q < k
    · have := h3 q c1; rw [b] at this; cases this
    · by_cases c2 : k < q
      · have := c k c2; rw [h2] at this; cases this
      · have : q = k := by omega
        rw [this]
theorem low_not {p : Nat → Bool} {n : Nat} (h : ∀ j, j < n → p j = false) : low p n = none := by
  cases e : low p n with
  | none => rfl
  | some q =>
    obtain ⟨a, b, -⟩ := low_some e
    have := h q a
    rw [b] at this
    cases this
def b20 (v : Nat → Int32) : List Int32 := (List.range 20).map fun k => (v (k / 4) >>> (nI (24 - 8 * (k % 4)) &&& 31)).toInt8.toInt32
def sFeed (N : Nat → Nat) (L : Nat → List Int32) (v : Nat → Int32) : O3 := if 1200 < (L 0).length + 20 then (-1, up N 6 0, L) else (nI ((L 0).length + 20), up N 6 0, up L 0 (L 0 ++ b20 v))
def sEnd (N : Nat → Nat) (L : Nat → List Int32) (n : Int32) : O3 := if n < 0 ∨ nI (L 0).length < n then (0, up N 6 0, L) else (1, up N 6 0, up L 0 ((L 0).take n.toNatClampNeg))
def sAgain (N : Nat → Nat) (L : Nat → List Int32) (fr many : Int32) : O3 :=
  if fr < 0 ∨ many < 0 ∨ (L 1).length < fr.toNatClampNeg + many.toNatClampNeg ∨ 1200 < (L 0).length + many.toNatClampNeg then (-1, up N 6 0, L)
  else (nI ((L 0).length + many.toNatClampNeg), up N 6 0, up L 0 (L 0 ++ sub (L 1) fr.toNatClampNeg many.toNatClampNeg))
def sOut (N : Nat → Nat) (L : Nat → List Int32) (i : Int32) : O3 := (if i < 0 ∨ nI (L 1).length ≤ i then -1 else (L 1).getD i.toNatClampNeg 0 &&& 255, up N 6 0, L)
def sOuts (N : Nat → Nat) (L : Nat → List Int32) : O3 := (nI (L 1).length, up N 6 0, L)
abbrev noK (N : Nat → Nat) (k : Int32) : Prop := k < 0 ∨ nI (N 0) ≤ k
def sRetire (N : Nat → Nat) (L : Nat → List Int32) (k : Int32) : O3 := if noK N k then (0, up N 6 1, L) else (nI (N (110 + k.toNatClampNeg)), up (up N 6 0) (110 + k.toNatClampNeg) 0, L)
/-- what a key shows -/
noncomputable def pubB (N : Nat → Nat) (k : Nat) : List Int32 := if N (100 + k) = 1 then en (mP (N (120 + k)) GP) else byN (N (130 + k)) (N (150 + k)) ++ [tb (N (140 + k) / 65536), tb (N (140 + k) / 256), tb (N (140 + k))]
noncomputable def sLook (N : Nat → Nat) (L : Nat → List Int32) (k what : Int32) : O3 :=
  if noK N k ∨ what < 0 ∨ 4 < what then (0, up N 6 1, L)
  else if what = 0 then (32, up N 6 0, up L 1 (L (100 + k.toNatClampNeg)))
  else if what = 1 then (nI (pubB N k.toNatClampNeg).length, up N 6 0, up L 1 (pubB N k.toNatClampNeg))
  else if what = 2 then (nI (N (100 + k.toNatClampNeg)), up N 6 0, L)
  else if what = 3 then (nI (N (110 + k.toNatClampNeg)), up N 6 0, L)
  else (nI (N (150 + k.toNatClampNeg)), up N 6 0, L)
noncomputable def sDigest (N : Nat → Nat) (L : Nat → List Int32) : O3 := (32, up N 6 0, up (up L 0 []) 1 (sha256 (L 0)))
def sCut (N : Nat → Nat) (L : Nat → List Int32) (w : Int32) : O3 := if w < 0 ∨ 1000 < w ∨ N 5 ≠ 0 then (0, up N 6 0, L) else (1, up (up N 6 0) 3 (w.toNatClampNeg + 1), L)
def slotN (k : Nat) : Nat := 512 * (k / 14) + 36 * (k % 14)
def freeS (d : List Int32) (k : Nat) : Bool := d.getD (slotN k) 0 == 0 && d.getD (slotN k + 1) 0 == 0 && d.getD (slotN k + 2) 0 == 0 && d.getD (slotN k + 3) 0 == 0
def cntN (p : Nat → Bool) : Nat → Nat
  | 0 => 0
  | n + 1 => cntN p n + (if p n then 1 else 0)
def spentN (d : List Int32) : Nat := cntN (fun k => !freeS d k) 112
def sPower (N : Nat → Nat) (L : Nat → List Int32) : O3 := (nI (spentN (L 2)), up (up (up N 6 0) 5 0) 3 0, L)
def sDisk (N : Nat → Nat) (L : Nat → List Int32) (i : Int32) : O3 := (if i < 0 ∨ 4096 ≤ i then -1 else (L 2).getD i.toNatClampNeg 0 &&& 255, up N 6 0, L)
def sCount (N : Nat → Nat) (L : Nat → List Int32) (w : Int32) : O3 :=
  (if w = 0 then nI (N 0) else if w = 1 then nI (cntN (fun k => N (110 + k) == 1) (N 0)) else if w = 2 then nI (N 1) else if w = 3 then nI (cntN (fun k => N (300 + k) == 1) (N 1))
   else if w = 4 then nI (spentN (L 2)) else if w = 5 then nI (N 2) else if w = 6 then nI (N 5) else if w = 7 then (if N 5 = 0 then nI (N 3) - 1 else 0) else if w = 8 then nI (L 0).length else if w = 9 then nI (N 4) else -1, up N 6 0, L)
/-- keys -/
noncomputable def keyB (N : Nat → Nat) (k : Nat) : List Int32 := if N (100 + k) = 1 then pubB N k else pubB N k ++ [tb (N (160 + k))]
/-- the numbers of a new key -/
def newK (N : Nat → Nat) (t d m e len s : Nat) : Nat → Nat := up (up (up (up (up (up (up (up N (100 + N 0) t) (110 + N 0) 1) (120 + N 0) d) (130 + N 0) m) (140 + N 0) e) (150 + N 0) len) (160 + N 0) s) 0 (N 0 + 1)
noncomputable def addK (N : Nat → Nat) (L : Nat → List Int32) (t d m e len s : Nat) : O3 :=
  if N 0 = 6 then (-6, N, L) else (nI (N 0), newK N t d m e len s, up L (100 + N 0) (sha256 (keyB (newK N t d m e len s) (N 0))))
def eN (T : List Int32) (len : Nat) : Nat := b8 (T.getD len 0) * 65536 + b8 (T.getD (len + 1) 0) * 256 + b8 (T.getD (len + 2) 0)
/-- whether the bytes of a key of type 2 may be -/
def okTwo (T : List Int32) : Prop := T.length % 2 = 0 ∧ 136 ≤ T.length ∧ T.length ≤ 516 ∧ T.getD 0 0 ≠ 0 ∧ b8 (T.getD ((T.length - 4) / 2 - 1) 0) % 2 = 1 ∧ eN T ((T.length - 4) / 2) % 2 = 1 ∧ 3 ≤ eN T ((T.length - 4) / 2) ∧ eN T ((T.length - 4) / 2) ≤ 65537 ∧
  (T.getD (T.length - 1) 0 = 0 ∨ (T.getD (T.length - 1) 0 = 48 ∧ 100 ≤ (T.length - 4) / 2)) ∧ num T ((T.length - 4) / 2 + 3) ((T.length - 4) / 2) ≠ 0 ∧ num T ((T.length - 4) / 2 + 3) ((T.length - 4) / 2) < num T 0 ((T.length - 4) / 2)
noncomputable def sKey (N : Nat → Nat) (L : Nat → List Int32) (t : Int32) : O3 :=
  if t = 1 then (if (L 0).length = 48 ∧ 0 < num (L 0) 0 48 ∧ num (L 0) 0 48 < qP then addK (up N 6 0) (up L 0 []) 1 (num (L 0) 0 48) 0 0 48 0 else (-2, up N 6 0, up L 0 []))
  else if t = 2 then cIf (okTwo (L 0)) (addK (up N 6 0) (up L 0 []) 2 (num (L 0) (((L 0).length - 4) / 2 + 3) (((L 0).length - 4) / 2)) (num (L 0) 0 (((L 0).length - 4) / 2)) (eN (L 0) (((L 0).length - 4) / 2)) (((L 0).length - 4) / 2) (b8 ((L 0).getD ((L 0).length - 1) 0))) (-2, up N 6 0, up L 0 [])
  else (-2, up N 6 0, up L 0 [])
/-- asking -/
def inpB (N : Nat → Nat) (L : Nat → List Int32) (T : List Int32) (k : Nat) : List Int32 := [tb 0, tb (N (100 + k))] ++ sub T 0 64 ++ L (100 + k)
def headB (N : Nat → Nat) (L : Nat → List Int32) (k : Nat) : List Int32 := [tb 0, tb (N (100 + k)), (L (100 + k)).getD 31 0]
def dbN (N : Nat → Nat) (k : Nat) : Nat := esz (bitsN (N (130 + k))) - 49
/-- the number that an input with a salt becomes -/
noncomputable def emN (N : Nat → Nat) (k : Nat) (inp salt : List Int32) : Nat := num (encL (saltH inp salt) salt (dbN N k) (N (160 + k)) (clr (bitsN (N (130 + k))))) 0 (dbN N k + 49)
noncomputable def addA (N : Nat → Nat) (L : Nat → List Int32) (k b : Nat) (inp out : List Int32) : O3 :=
  (nI (N 1), up (up (up (up N (200 + N 1) k) (300 + N 1) 1) (400 + N 1) b) 1 (N 1 + 1), up (up L (200 + N 1) inp) 1 out)
noncomputable def sReq (N : Nat → Nat) (L : Nat → List Int32) (T : List Int32) (k : Nat) : O3 :=
  if T.length ≠ 64 + (if N (100 + k) = 1 then 48 else N (160 + k) + N (150 + k)) then (-2, N, L)
  else if N 1 = 60 then (-6, N, L)
  else if N (100 + k) = 1 then
    cIf (0 < num T 64 48 ∧ num T 64 48 < qP ∧ h2p (inpB N L T k) ≠ none ∧ mP (num T 64 48) (h2p (inpB N L T k)) ≠ none) (addA N L k (num T 64 48) (inpB N L T k) (headB N L k ++ en (mP (num T 64 48) (h2p (inpB N L T k))))) (-4, N, L)
  else cIf (0 < num T (64 + N (160 + k)) (N (150 + k)) ∧ num T (64 + N (160 + k)) (N (150 + k)) < N (130 + k) ∧ Nat.gcd (num T (64 + N (160 + k)) (N (150 + k))) (N (130 + k)) = 1 ∧ emN N k (inpB N L T k) (sub T 64 (N (160 + k))) < N (130 + k) ∧ Nat.gcd (emN N k (inpB N L T k) (sub T 64 (N (160 + k)))) (N (130 + k)) = 1)
    (addA N L k (num T (64 + N (160 + k)) (N (150 + k))) (inpB N L T k) (headB N L k ++ byN (num T (64 + N (160 + k)) (N (150 + k)) ^ N (140 + k) * emN N k (inpB N L T k) (sub T 64 (N (160 + k))) % N (130 + k)) (N (150 + k)))) (-4, N, L)
noncomputable def sRequest (N : Nat → Nat) (L : Nat → List Int32) (k : Int32) : O3 :=
  if noK N k ∨ N (110 + k.toNatClampNeg) = 0 then (-3, up N 6 0, up L 0 []) else sReq (up N 6 0) (up L 0 []) (L 0) k.toNatClampNeg
/-- giving -/
def keyP (N : Nat → Nat) (L : Nat → List Int32) (t last : Int32) (k : Nat) : Bool := N (110 + k) == 1 && nI (N (100 + k)) == t && (L (100 + k)).getD 31 0 == last
noncomputable def eltP (T : List Int32) (at' : Nat) : PP := decE fun j => T.getD (at' + j) 0
noncomputable def catE (P : Nat → PP) : Nat → List Int32
  | 0 => []
  | n + 1 => catE P n ++ en (P n)
noncomputable def sGives (N : Nat → Nat) (L : Nat → List Int32) (T : List Int32) (k many : Nat) : O3 :=
  cIf ((∃ i, i < many ∧ eltP T (3 + 49 * i) = none) ∨ num T (3 + 49 * many) 48 = 0 ∨ qP ≤ num T (3 + 49 * many) 48 ∨ (∃ i, i < many ∧ mP (N (120 + k)) (eltP T (3 + 49 * i)) = none)) (-4, N, L)
  (match prv (mP (N (120 + k)) GP) (cpt (cD (en (mP (N (120 + k)) GP)) (fun i => eltP T (3 + 49 * i)) (fun i => mP (N (120 + k)) (eltP T (3 + 49 * i)))) (fun i => eltP T (3 + 49 * i)) many)
      (cpt (cD (en (mP (N (120 + k)) GP)) (fun i => eltP T (3 + 49 * i)) (fun i => mP (N (120 + k)) (eltP T (3 + 49 * i)))) (fun i => mP (N (120 + k)) (eltP T (3 + 49 * i))) many) (num T (3 + 49 * many) 48) with
    | none => (-4, N, L)
    | some c => (nI (49 * many + 96), N, up L 1 (catE (fun i => mP (N (120 + k)) (eltP T (3 + 49 * i))) many ++ byN c 48 ++ byN (sbN qP (num T (3 + 49 * many) 48) (c * N (120 + k) % qP)) 48)))
noncomputable def sSigns (N : Nat → Nat) (L : Nat → List Int32) (T : List Int32) (k : Nat) : O3 :=
  if num T 3 (N (150 + k)) < N (130 + k) ∧ (num T 3 (N (150 + k)) ^ N (120 + k) % N (130 + k)) ^ N (140 + k) % N (130 + k) = num T 3 (N (150 + k))
  then (nI (N (150 + k)), N, up L 1 (byN (num T 3 (N (150 + k)) ^ N (120 + k) % N (130 + k)) (N (150 + k)))) else (-4, N, L)
noncomputable def sIssued (N : Nat → Nat) (L : Nat → List Int32) (T : List Int32) (many : Nat) : O3 :=
  match low (keyP N L (T.getD 1 0) (T.getD 2 0)) (N 0) with
  | none => (-3, N, L)
  | some k => if N (100 + k) = 1 then (if T.length ≠ 3 + 49 * many + 48 then (-2, N, L) else sGives N L T k many) else (if T.length ≠ 3 + N (150 + k) then (-2, N, L) else sSigns N L T k)
noncomputable def sIssue (N : Nat → Nat) (L : Nat → List Int32) : O3 :=
  if (L 0).length < 3 ∨ (L 0).getD 0 0 ≠ 0 ∨ ((L 0).getD 1 0 ≠ 1 ∧ (L 0).getD 1 0 ≠ 2) then (-2, up N 6 0, up L 0 []) else sIssued (up N 6 0) (up L 0 []) (L 0) 1
noncomputable def sIssueMany (N : Nat → Nat) (L : Nat → List Int32) (many : Int32) : O3 :=
  if many < 1 ∨ 8 < many ∨ (L 0).length < 3 ∨ (L 0).getD 0 0 ≠ 0 ∨ (L 0).getD 1 0 ≠ 1 then (-2, up N 6 0, up L 0 []) else sIssued (up N 6 0) (up L 0 []) (L 0) many.toNatClampNeg
/-- tokens -/
def isAsk (N : Nat → Nat) (a : Nat) : Prop := a < N 1 ∧ N (300 + a) = 1
noncomputable def outB (inp : List Int32) (P : PP) : List Int32 := sha384 ([tb 0, tb 98] ++ inp ++ [tb 0, tb 49] ++ en P ++ wrd (chars "Finalize"))
/-- what asking a and the bytes of its answer come to -/
noncomputable def tokP (N : Nat → Nat) (T : List Int32) (a i : Nat) : PP := mP (invM qP (N (400 + (a + i)))) (eltP T (49 * i))
noncomputable def catT (N : Nat → Nat) (L : Nat → List Int32) (T : List Int32) (a : Nat) : Nat → List Int32
  | 0 => []
  | n + 1 => catT N L T a n ++ L (200 + (a + n)) ++ outB (L (200 + (a + n))) (tokP N T a n)
def shut (N : Nat → Nat) (a : Nat) : Nat → Nat → Nat
  | 0 => N
  | n + 1 => up (shut N a n) (300 + (a + n)) 0
noncomputable def sEnds (N : Nat → Nat) (L : Nat → List Int32) (T : List Int32) (a many : Nat) : O3 :=
  if T.length ≠ 49 * many + 96 then (-2, N, L)
  else cIf ((∃ i, i < many ∧ eltP T (49 * i) = none) ∨ qP ≤ num T (49 * many) 48 ∨ qP ≤ num T (49 * many + 48) 48 ∨
    ¬ isp (mP (N (120 + N (200 + a))) GP) (cpt (cD (en (mP (N (120 + N (200 + a))) GP)) (fun i => mP (N (400 + (a + i))) (h2p (L (200 + (a + i))))) (fun i => eltP T (49 * i))) (fun i => mP (N (400 + (a + i))) (h2p (L (200 + (a + i))))) many)
      (cpt (cD (en (mP (N (120 + N (200 + a))) GP)) (fun i => mP (N (400 + (a + i))) (h2p (L (200 + (a + i))))) (fun i => eltP T (49 * i))) (fun i => eltP T (49 * i)) many) (num T (49 * many) 48) (num T (49 * many + 48) 48) ∨
    (∃ i, i < many ∧ tokP N T a i = none)) (-4, N, L)
  (nI (146 * many), shut N a many, up L 1 (catT N L T a many))
/-- whether a number is a right signature under key k -/
noncomputable def isSg (N : Nat → Nat) (k : Nat) (inp : List Int32) (v : Nat) : Prop := v < N (130 + k) ∧ sgOk inp (v ^ N (140 + k) % N (130 + k)) (dbN N k) (N (160 + k)) (clr (bitsN (N (130 + k))))
noncomputable def sEnds2 (N : Nat → Nat) (L : Nat → List Int32) (T : List Int32) (a : Nat) : O3 :=
  if T.length ≠ N (150 + N (200 + a)) then (-2, N, L)
  else cIf (num T 0 (N (150 + N (200 + a))) < N (130 + N (200 + a)) ∧ isSg N (N (200 + a)) (L (200 + a)) (num T 0 (N (150 + N (200 + a))) * invM (N (130 + N (200 + a))) (N (400 + a)) % N (130 + N (200 + a))))
    (nI (98 + N (150 + N (200 + a))), up N (300 + a) 0, up L 1 (L (200 + a) ++ byN (num T 0 (N (150 + N (200 + a))) * invM (N (130 + N (200 + a))) (N (400 + a)) % N (130 + N (200 + a))) (N (150 + N (200 + a)))))
    (-4, N, L)
noncomputable def sFinal (N : Nat → Nat) (L : Nat → List Int32) (a : Int32) : O3 :=
  cIf (0 ≤ a ∧ isAsk N a.toNatClampNeg) (if N (100 + N (200 + a.toNatClampNeg)) = 1 then sEnds (up N 6 0) (up L 0 []) (L 0) a.toNatClampNeg 1 else sEnds2 (up N 6 0) (up L 0 []) (L 0) a.toNatClampNeg) (0, up N 6 1, up L 0 [])
noncomputable def sFinalMany (N : Nat → Nat) (L : Nat → List Int32) (a many : Int32) : O3 :=
  cIf (1 ≤ many ∧ many ≤ 8 ∧ 0 ≤ a ∧ a < 60 ∧ ∀ i, i < many.toNatClampNeg → isAsk N (a.toNatClampNeg + i))
    (cIf ((∀ i, i < many.toNatClampNeg → N (200 + (a.toNatClampNeg + i)) = N (200 + a.toNatClampNeg)) ∧ N (100 + N (200 + a.toNatClampNeg)) = 1) (sEnds (up N 6 0) (up L 0 []) (L 0) a.toNatClampNeg many.toNatClampNeg) (-2, up N 6 0, up L 0 []))
    (0, up N 6 1, up L 0 [])
/-- spending -/
def idP (N : Nat → Nat) (L : Nat → List Int32) (T : List Int32) (k : Nat) : Bool := N (110 + k) == 1 && T.getD 0 0 == 0 && T.getD 1 0 == nI (N (100 + k)) && L (100 + k) == sub T 66 32
noncomputable def rightB (N : Nat → Nat) (T : List Int32) (k : Nat) : Prop :=
  if N (100 + k) = 1 then mP (N (120 + k)) (h2p (sub T 0 98)) ≠ none ∧ outB (sub T 0 98) (mP (N (120 + k)) (h2p (sub T 0 98))) = sub T 98 48
  else isSg N k (sub T 0 98) (num T 98 (N (150 + k)))
def hasS (d : List Int32) (k : Nat) (T : List Int32) : Bool := sub d (slotN k + 4) 32 == sub T 2 32
/-- the first slot on the way that is free or has the nonce -/
def wayP (d : List Int32) (T : List Int32) (i : Nat) : Bool := freeS d ((num T 2 4 % 112 + i) % 112) || hasS d ((num T 2 4 % 112 + i) % 112) T
def putS (d : List Int32) (k : Nat) (T : List Int32) : List Int32 := (List.range d.length).map fun j => if j = slotN k + 3 then 1 else if slotN k + 4 ≤ j ∧ j < slotN k + 36 then T.getD (2 + (j - (slotN k + 4))) 0 else d.getD j 0
def sSpend (N : Nat → Nat) (L : Nat → List Int32) (T : List Int32) : O3 :=
  match low (wayP (L 2) T) 112 with
  | none => (-6, N, L)
  | some i => if freeS (L 2) ((num T 2 4 % 112 + i) % 112) then (if N 3 = 1 then (-9, up N 5 1, L) else (0, up (up (up N 3 (N 3 - 1)) 2 (N 2 + 1)) 4 (N 4 + 1), up L 2 (putS (L 2) ((num T 2 4 % 112 + i) % 112) T))) else (-5, N, L)
noncomputable def sRedeem (N : Nat → Nat) (L : Nat → List Int32) : O3 :=
  if N 5 ≠ 0 then (-9, up N 6 0, up L 0 [])
  else if (L 0).length < 98 then (-2, up N 6 0, up L 0 [])
  else match low (idP N L (L 0)) (N 0) with
    | none => (-3, up N 6 0, up L 0 [])
    | some k => if (L 0).length ≠ 98 + N (150 + k) then (-2, up N 6 0, up L 0 []) else cIf (rightB N (L 0) k) (sSpend (up N 6 0) (up L 0 []) (L 0)) (-4, up N 6 0, up L 0 [])
