set_option maxRecDepth 100000
/-! VEILMINT'S WORLD. Keys: 0 itself; 1 the short digest (2 block, 3 out, 4 h, 5 w), 6 the long one (7, 8, 9, 10); 11 the curve (12 b, 13 quarter, 14 zed, 15 three, 16.. a c d e f g h i, 24 expanded, 25 last, 26 first); 30 p, 40 q (1 m, 2 one, 3 square, 4 unit, 5 t, 6 u, 7 v, 8 x, 9 y); 50 the refusal; 51 the disk (52 cells, 53 block); 54 keys, 55 askings; 56 tape, 57 out, 58 draft; points (itself, x, y, z): 60 base, 64 step, 68 other; from 100 on key k at 100 + 100 k, from 1000 on asking a at 1000 + 10 a.
 F: 10.. taped outs keyMany askingMany redeemed; 20 at, 21 many of the short digest, 22, 23 of the long one; 24 why; 25 writes, 26 fuse, 27 down; 30, 31 entries of keys and askings -/
def kdXT : List KD := [(7, 0, 0), (7, 0, 0), (4, 2, 64), (6, 2, 32), (4, 0, 8), (4, 0, 64), (7, 0, 0), (4, 2, 128), (6, 2, 48), (5, 0, 8), (5, 0, 80), (7, 0, 0), (1, 0, 12), (2, 0, 12), (1, 0, 12), (1, 0, 12), (2, 0, 12), (1, 0, 12), (1, 0, 12), (1, 0, 12), (1, 0, 12), (1, 0, 12), (1, 0, 12), (1, 0, 12), (6, 2, 144), (6, 2, 48), (6, 2, 48), (0, 0, 0), (0, 0, 0), (0, 0, 0), (7, 0, 0), (7, 0, 0), (7, 0, 0), (7, 0, 0), (7, 0, 0), (4, 0, 14), (4, 0, 12), (4, 0, 12), (4, 0, 12), (4, 0, 12), (7, 0, 0), (7, 0, 0), (7, 0, 0), (7, 0, 0), (7, 0, 0), (4, 0, 14), (4, 0, 12), (4, 0, 12), (4, 0, 12), (4, 0, 12), (7, 0, 0), (7, 0, 0), (6, 2, 4096), (6, 2, 512), (7, 0, 0), (7, 0, 0), (6, 2, 1200), (6, 2, 1200), (6, 2, 1200), (0, 0, 0), (7, 0, 0), (1, 0, 12), (1, 0, 12), (1, 0, 12), (7, 0, 0), (1, 0, 12), (1, 0, 12), (1, 0, 12), (7, 0, 0), (1, 0, 12), (1, 0, 12), (1, 0, 12), (0, 0, 0), (0, 0, 0), (0, 0, 0), (0, 0, 0), (0, 0, 0), (0, 0, 0), (0, 0, 0), (0, 0, 0)]
def kdX (k : Nat) : KD := kdXT.getD k (0, 0, 0)
def oneP : Nat := 340282367000166625977638945021017194497
def sqP : Nat := 115792089291236088764149366330485615516483229599873605960255493794524727083009
def oneQ : Nat := 1388124618062372383947042015309946732620727252194336364173
def sqQ : Nat := 1926889955270807207284364373743377144127886613064468223890781010531391223293594548775097723903321707631980877973929
def bMx : Nat := 31557238206390940957597319936599174722055881914217182876712135092282706590848110034779859449912744153716396065369548
def zMx : Nat := 39402006196394479212279040100143613805079739270465446667948293404245721771492786940643264088747206334521354766778355
def tMx : Nat := 1020847101000499877932916835063051583491
def gxM : Nat := 11886663915641450262705530632889500068342115401403085422162279173580545128391329974348679073644930512304398693086504
def gyM : Nat := 6690856340208307986067173017744274988727037133556318391016008114468400829859944973987663397697166869847345570489598
def ngP : Int32 := 1
def ngQ : Int32 := (-393225147)
def vFl (A : Nat → Nat) (F : Nat → Int32) : List Value := [.ref (A 1), .ref (A 6), .ref (A 11), .ref (A 50), .ref (A 51), .ref (A 54), .ref (A 55), .ref (A 56), .ref (A 57), .ref (A 58), .int (F 10), .int (F 11), .int (F 12), .int (F 13), .int (F 14)]
def d1Fl (A : Nat → Nat) (F : Nat → Int32) : List Value := [.ref (A 2), .ref (A 3), .long (F 21).toInt64, .int (F 20), .ref (A 4), .ref (A 5)]
def d2Fl (A : Nat → Nat) (F : Nat → Int32) : List Value := [.ref (A 7), .ref (A 8), .long (F 23).toInt64, .int (F 22), .ref (A 9), .ref (A 10)]
def cvFl (A : Nat → Nat) : List Value := [.ref (A 30), .ref (A 40), .ref (A 12), .ref (A 13), .ref (A 14), .ref (A 15), .ref (A 16), .ref (A 17), .ref (A 18), .ref (A 19), .ref (A 20), .ref (A 21), .ref (A 22), .ref (A 23), .ref (A 60), .ref (A 64), .ref (A 68), .ref (A 6), .ref (A 24), .ref (A 25), .ref (A 26)]
def rfFl (F : Nat → Int32) : List Value := [.null, .null, .null, .null, .null, .int 0, .int (F 24)]
def dkFl (A : Nat → Nat) (F : Nat → Int32) : List Value := [.ref (A 52), .ref (A 53), .int (F 25), .int (F 26), .int (F 27)]
def kyA (A : Nat → Nat) (F : Nat → Int32) : AC := Ar 4 6 (fun j => if j < (F 30).toNatClampNeg then some (A (100 + 100 * j)) else none)
def asA (A : Nat → Nat) (F : Nat → Int32) : AC := Ar 5 60 (fun j => if j < (F 31).toNatClampNeg then some (A (1000 + 10 * j)) else none)
def ptC (A : Nat → Nat) (P : Nat) : AC := Ob 5 [.ref (A (P + 1)), .ref (A (P + 2)), .ref (A (P + 3))]
/-- the cells that never change -/
def xOs (A : Nat → Nat) (k : Nat) : AC :=
  if k = 11 then Ob 3 (cvFl A)
  else if k = 30 then MdC (fun i => A (30 + i)) 12 ngP
  else if k = 31 then nm 12 pP
  else if k = 32 then nm 12 oneP
  else if k = 33 then nm 12 sqP
  else if k = 34 then nm 12 1
  else if k = 40 then MdC (fun i => A (40 + i)) 12 ngQ
  else if k = 41 then nm 12 qP
  else if k = 42 then nm 12 oneQ
  else if k = 43 then nm 12 sqQ
  else if k = 44 then nm 12 1
  else ptC A k
def xO (A : Nat → Nat) (F : Nat → Int32) (k : Nat) : AC :=
  if k = 0 then Ob 0 (vFl A F)
  else if k = 1 then Ob 1 (d1Fl A F)
  else if k = 6 then Ob 2 (d2Fl A F)
  else if k = 50 then Ob 6 (rfFl F)
  else if k = 51 then Ob 7 (dkFl A F)
  else if k = 54 then kyA A F
  else if k = 55 then asA A F
  else xOs A k
theorem xO_cg {A : Nat → Nat} {F F' : Nat → Int32} {k j : Nat} (hj : j ≠ k) (e0 : k ≠ 0 → vFl A F' = vFl A F) (e1 : k ≠ 1 → d1Fl A F' = d1Fl A F) (e6 : k ≠ 6 → d2Fl A F' = d2Fl A F) (e50 : k ≠ 50 → rfFl F' = rfFl F) (e51 : k ≠ 51 → dkFl A F' = dkFl A F) (e54 : k ≠ 54 → kyA A F' = kyA A F) (e55 : k ≠ 55 → asA A F' = asA A F) : xO A F' j = xO A F j := by
  unfold xO
  by_cases c0 : j = 0
  · rw [if_pos c0, if_pos c0, e0 (by omega)]
  rw [if_neg c0, if_neg c0]
  by_cases c1 : j = 1
  · rw [if_pos c1, if_pos c1, e1 (by omega)]
  rw [if_neg c1, if_neg c1]
  by_cases c6 : j = 6
  · rw [if_pos c6, if_pos c6, e6 (by omega)]
  rw [if_neg c6, if_neg c6]
  by_cases c50 : j = 50
  · rw [if_pos c50, if_pos c50, e50 (by omega)]
  rw [if_neg c50, if_neg c50]
  by_cases c51 : j = 51
  · rw [if_pos c51, if_pos c51, e51 (by omega)]
  rw [if_neg c51, if_neg c51]
  by_cases c54 : j = 54
  · rw [if_pos c54, if_pos c54, e54 (by omega)]
  rw [if_neg c54, if_neg c54]
  by_cases c55 : j = 55
  · rw [if_pos c55, if_pos c55, e55 (by omega)]
  rw [if_neg c55, if_neg c55]
def I0 : Nat → Nat → Int32 := fun _ _ => 0
def mutK (k : Nat) : Bool := k == 0 || (k == 1 || (k == 6 || (k == 50 || (k == 51 || (k == 54 || k == 55)))))
theorem xO_s {A : Nat → Nat} {F : Nat → Int32} {k : Nat} (h : mutK k = false) : xO A F k = xOs A k := by
  unfold mutK at h
  simp only [Bool.or_eq_false_iff, beq_eq_false_iff_ne] at h
  obtain ⟨h0, h1, h2, h3, h4, h5, h6⟩ := h
  unfold xO
  rw [if_neg h0, if_neg h1, if_neg h2, if_neg h3, if_neg h4, if_neg h5, if_neg h6]
/-- what the fixed cells are: below 80 by the table, above by O -/
def oE (A : Nat → Nat) (O : Nat → AC) (F : Nat → Int32) (k : Nat) : AC := if k < 80 then xO A F k else O k
/-- the ones that never change -/
def OS (A : Nat → Nat) (O : Nat → AC) (k : Nat) : AC := if k < 80 then xOs A k else O k
theorem oE_s {A : Nat → Nat} {O : Nat → AC} {F : Nat → Int32} {k : Nat} (h : mutK k = false) : oE A O F k = OS A O k := by
  unfold oE OS
  rw [xO_s h]
theorem mut_f {k : Nat} (h : (6 < k ∧ k < 50) ∨ 55 < k) : mutK k = false := by
  unfold mutK
  simp only [Bool.or_eq_false_iff, beq_eq_false_iff_ne]
  omega
def Ly (kd : Nat → KD) (O : Nat → AC) : Prop := (∀ k, k < 80 → kd k = kdX k) ∧ (∀ j, (kd j).1 ≤ 7) ∧ ∀ k v tx, O k ≠ Sg v tx
def XW (kd : Nat → KD) (A : Nat → Nat) (X : AH) (R : Nat → Nat) (S : Nat → List Int32) (O : Nat → AC) (F : Nat → Int32) (h : AH) : Prop := WD kd A X R I0 S (oE A O F) h ∧ Ly kd O
section XWs
variable {kd : Nat → KD} {A : Nat → Nat} {X : AH} {R : Nat → Nat} {S : Nat → List Int32} {O : Nat → AC} {F : Nat → Int32} {h : AH}
theorem XW.k (w : XW kd A X R S O F h) (k : Nat) (hk : k < 80) : kd k = kdX k := w.2.1 k hk
theorem XW.o (w : XW kd A X R S O F h) (k : Nat) (hk : k < 80) (h7 : kdX k = (7, 0, 0)) : h (A k) = some (xO A F k) := by
  have := WD.o w.1 k ((w.k k hk).trans h7)
  unfold oE at this
  rw [if_pos hk] at this
  exact this
theorem XW.ob (w : XW kd A X R S O F h) (k : Nat) (h7 : kd k = (7, 0, 0)) (hm : mutK k = false) : h (A k) = some (OS A O k) := by rw [← oE_s (F := F) hm]; exact WD.o w.1 k h7
theorem XW.n (w : XW kd A X R S O F h) (k : Nat) (hk : kd k = (1, 0, 12)) : ∃ f, h (A k) = some (Ai false 0 12 f) ∧ V 12 f = R k ∧ R k < pP := WD.n w.1 k hk
theorem XW.n2 (w : XW kd A X R S O F h) (k : Nat) {n : Nat} (hk : kd k = (2, 0, n)) : ∃ f, h (A k) = some (Ai false 0 n f) ∧ V n f = R k := WD.n2 w.1 k hk
theorem XW.j (w : XW kd A X R S O F h) (k : Nat) {t n : Nat} (hk : kd k = (4, t, n)) : ∃ f, h (A k) = some (Ai false t n f) := WD.j w.1 k hk
theorem XW.l (w : XW kd A X R S O F h) (k : Nat) {t n : Nat} (hk : kd k = (5, t, n)) : ∃ f, h (A k) = some (Al false n f) := WD.l w.1 k hk
theorem XW.s (w : XW kd A X R S O F h) (k : Nat) {t n : Nat} (hk : kd k = (6, t, n)) : ∃ f, h (A k) = some (Ai false 2 n f) ∧ PL f (S k) ∧ (S k).length ≤ n := WD.s w.1 k hk
theorem XW.setN (w : XW kd A X R S O F h) (k : Nat) (hk : kd k = (1, 0, 12)) {v : Nat} {f : Nat → Int32} (hf : V 12 f = v) (hv : v < pP) : XW kd A X (up R k v) S O F (hset h (A k) (Ai false 0 12 f)) := ⟨WD.setN w.1 k hk hf hv, w.2⟩
theorem XW.setN2 (w : XW kd A X R S O F h) (k : Nat) {n : Nat} (hk : kd k = (2, 0, n)) {v : Nat} {f : Nat → Int32} (hf : V n f = v) : XW kd A X (up R k v) S O F (hset h (A k) (Ai false 0 n f)) := ⟨WD.setN2 w.1 k hk hf, w.2⟩
theorem XW.setJ (w : XW kd A X R S O F h) (k : Nat) {t n : Nat} (hk : kd k = (4, t, n)) (f : Nat → Int32) : XW kd A X R S O F (hset h (A k) (Ai false t n f)) := ⟨WD.setJ w.1 k hk f, w.2⟩
theorem XW.setL (w : XW kd A X R S O F h) (k : Nat) {t n : Nat} (hk : kd k = (5, t, n)) (f : Nat → Int64) : XW kd A X R S O F (hset h (A k) (Al false n f)) := ⟨WD.setL w.1 k hk f, w.2⟩
theorem XW.setS (w : XW kd A X R S O F h) (k : Nat) {t n : Nat} (hk : kd k = (6, t, n)) {l : List Int32} {f : Nat → Int32} (h1 : PL f l) (h2 : l.length ≤ n) : XW kd A X R (up S k l) O F (hset h (A k) (Ai false 2 n f)) := ⟨WD.setS w.1 k hk h1 h2, w.2⟩
theorem XW.setO (w : XW kd A X R S O F h) (k : Nat) (hk : k < 80) (h7 : kdX k = (7, 0, 0)) {F' : Nat → Int32} (hF : ∀ j, j ≠ k → xO A F' j = xO A F j) : XW kd A X R S O F' (hset h (A k) (xO A F' k)) := by
  refine ⟨WD.setO w.1 k ((w.k k hk).trans h7) (if_pos hk) (fun j hj => ?_), w.2⟩
  unfold oE
  by_cases c : j < 80
  · rw [if_pos c, if_pos c, hF j hj]
  · rw [if_neg c, if_neg c]
/-- an object of its own is written -/
theorem XW.setD (w : XW kd A X R S O F h) (k : Nat) (hk : 80 ≤ k) (h7 : kd k = (7, 0, 0)) (c : AC) (hc : ∀ v tx, c ≠ Sg v tx) : XW kd A X R S (up O k c) F (hset h (A k) c) := by
  refine ⟨WD.setO w.1 k h7 ?_ (fun j hj => ?_), w.2.1, w.2.2.1, fun j v tx => ?_⟩
  · unfold oE
    rw [if_neg (by omega), up_same]
  · unfold oE
    by_cases c : j < 80
    · rw [if_pos c, if_pos c]
    · rw [if_neg c, if_neg c, up_ne hj]
  · by_cases e : j = k
    · rw [e, up_same]; exact hc v tx
    · rw [up_ne e]; exact w.2.2.2 j v tx
/-- texts lie beside the world -/
theorem oE_S {A : Nat → Nat} {O : Nat → AC} {F : Nat → Int32} (hO : ∀ k v tx, O k ≠ Sg v tx) (k v : Nat) (tx : List Nat) : oE A O F k ≠ Sg v tx := by
  unfold oE
  split
  · unfold xO
    repeat' split
    all_goals first
      | (intro e; cases e)
      | (unfold xOs; repeat' split) <;> (intro e; cases e)
  · exact hO k v tx
theorem XW.outS (w : XW kd A X R S O F h) {a v : Nat} {tx : List Nat} (ha : h a = some (Sg v tx)) (k : Nat) (hk : (kd k).1 ≠ 0) : A k ≠ a := fun z => by
  have hw := w.1.2.1 k
  rw [z, ha] at hw
  have h7 := w.2.2.1 k
  have hs := oE_S (A := A) (F := F) w.2.2.2 k v tx
  generalize kd k = d at hk hw h7
  match d, hk, hw, h7 with
  | (0, _, _), hk, _, _ => exact hk rfl
  | (1, _, _), _, hw, _ => obtain ⟨f, e, -⟩ := hw; cases e
  | (2, _, n), _, hw, _ => obtain ⟨f, e, -⟩ := hw; cases e
  | (3, t, n), _, hw, _ => cases (show some (Sg v tx) = some (Ai false t n _) from hw)
  | (4, t, n), _, hw, _ => obtain ⟨f, e⟩ := hw; cases e
  | (5, _, n), _, hw, _ => obtain ⟨f, e⟩ := hw; cases e
  | (6, _, n), _, hw, _ => obtain ⟨f, e, -⟩ := hw; cases e
  | (7, _, _), _, hw, _ => exact hs (Option.some.inj hw).symm
  | (x + 8, _, _), _, _, h7 => exact absurd h7 (by simp)
theorem XW.txt {R' : Nat → Nat} {S' : Nat → List Int32} {F' : Nat → Int32} {h' : AH} (w : XW kd A X R S O F h) (w' : XW kd A X R' S' O F' h') {a v : Nat} {tx : List Nat} (ha : h a = some (Sg v tx)) : h' a = some (Sg v tx) := by
  rw [w'.1.2.2 a (w.outS ha), ← w.1.2.2 a (w.outS ha)]
  exact ha
theorem XW.ne (w : XW kd A X R S O F h) {k k' : Nat} (h1 : (kd k).1 ≠ 0) (h2 : (kd k').1 ≠ 0) (h3 : k ≠ k') : A k ≠ A k' := WD.ne w.1 h1 h2 h3
theorem XW.setF10 (w : XW kd A X R S O F h) {v : Int32} : XW kd A X R S O (up F 10 v) (hset h (A 0) (Ob 0 ((vFl A F).set 10 (.int v)))) := w.setO 0 (by decide) rfl (fun j hj => xO_cg hj (fun z => absurd rfl z) (fun _ => rfl) (fun _ => rfl) (fun _ => rfl) (fun _ => rfl) (fun _ => rfl) (fun _ => rfl))
theorem XW.setF11 (w : XW kd A X R S O F h) {v : Int32} : XW kd A X R S O (up F 11 v) (hset h (A 0) (Ob 0 ((vFl A F).set 11 (.int v)))) := w.setO 0 (by decide) rfl (fun j hj => xO_cg hj (fun z => absurd rfl z) (fun _ => rfl) (fun _ => rfl) (fun _ => rfl) (fun _ => rfl) (fun _ => rfl) (fun _ => rfl))
theorem XW.setF12 (w : XW kd A X R S O F h) {v : Int32} : XW kd A X R S O (up F 12 v) (hset h (A 0) (Ob 0 ((vFl A F).set 12 (.int v)))) := w.setO 0 (by decide) rfl (fun j hj => xO_cg hj (fun z => absurd rfl z) (fun _ => rfl) (fun _ => rfl) (fun _ => rfl) (fun _ => rfl) (fun _ => rfl) (fun _ => rfl))
theorem XW.setF13 (w : XW kd A X R S O F h) {v : Int32} : XW kd A X R S O (up F 13 v) (hset h (A 0) (Ob 0 ((vFl A F).set 13 (.int v)))) := w.setO 0 (by decide) rfl (fun j hj => xO_cg hj (fun z => absurd rfl z) (fun _ => rfl) (fun _ => rfl) (fun _ => rfl) (fun _ => rfl) (fun _ => rfl) (fun _ => rfl))
theorem XW.setF14 (w : XW kd A X R S O F h) {v : Int32} : XW kd A X R S O (up F 14 v) (hset h (A 0) (Ob 0 ((vFl A F).set 14 (.int v)))) := w.setO 0 (by decide) rfl (fun j hj => xO_cg hj (fun z => absurd rfl z) (fun _ => rfl) (fun _ => rfl) (fun _ => rfl) (fun _ => rfl) (fun _ => rfl) (fun _ => rfl))
theorem XW.setF20 (w : XW kd A X R S O F h) {v : Int32} : XW kd A X R S O (up F 20 v) (hset h (A 1) (Ob 1 ((d1Fl A F).set 3 (.int v)))) := w.setO 1 (by decide) rfl (fun j hj => xO_cg hj (fun _ => rfl) (fun z => absurd rfl z) (fun _ => rfl) (fun _ => rfl) (fun _ => rfl) (fun _ => rfl) (fun _ => rfl))
theorem XW.setF22 (w : XW kd A X R S O F h) {v : Int32} : XW kd A X R S O (up F 22 v) (hset h (A 6) (Ob 2 ((d2Fl A F).set 3 (.int v)))) := w.setO 6 (by decide) rfl (fun j hj => xO_cg hj (fun _ => rfl) (fun _ => rfl) (fun z => absurd rfl z) (fun _ => rfl) (fun _ => rfl) (fun _ => rfl) (fun _ => rfl))
theorem XW.setF25 (w : XW kd A X R S O F h) {v : Int32} : XW kd A X R S O (up F 25 v) (hset h (A 51) (Ob 7 ((dkFl A F).set 2 (.int v)))) := w.setO 51 (by decide) rfl (fun j hj => xO_cg hj (fun _ => rfl) (fun _ => rfl) (fun _ => rfl) (fun _ => rfl) (fun z => absurd rfl z) (fun _ => rfl) (fun _ => rfl))
theorem XW.setF26 (w : XW kd A X R S O F h) {v : Int32} : XW kd A X R S O (up F 26 v) (hset h (A 51) (Ob 7 ((dkFl A F).set 3 (.int v)))) := w.setO 51 (by decide) rfl (fun j hj => xO_cg hj (fun _ => rfl) (fun _ => rfl) (fun _ => rfl) (fun _ => rfl) (fun z => absurd rfl z) (fun _ => rfl) (fun _ => rfl))
theorem XW.setF27 (w : XW kd A X R S O F h) {v : Int32} : XW kd A X R S O (up F 27 v) (hset h (A 51) (Ob 7 ((dkFl A F).set 4 (.int v)))) := w.setO 51 (by decide) rfl (fun j hj => xO_cg hj (fun _ => rfl) (fun _ => rfl) (fun _ => rfl) (fun _ => rfl) (fun z => absurd rfl z) (fun _ => rfl) (fun _ => rfl))
theorem XW.setF24 (w : XW kd A X R S O F h) {v : Int32} : XW kd A X R S O (up F 24 v) (hset h (A 50) (Ob 6 ((rfFl F).set 6 (.int v)))) := w.setO 50 (by decide) rfl (fun j hj => xO_cg hj (fun _ => rfl) (fun _ => rfl) (fun _ => rfl) (fun z => absurd rfl z) (fun _ => rfl) (fun _ => rfl) (fun _ => rfl))
theorem XW.setF21 (w : XW kd A X R S O F h) {v : Int32} {x : Int64} (hx : x = v.toInt64) : XW kd A X R S O (up F 21 v) (hset h (A 1) (Ob 1 ((d1Fl A F).set 2 (.long x)))) := by
  subst hx
  exact w.setO 1 (by decide) rfl (fun j hj => xO_cg hj (fun _ => rfl) (fun z => absurd rfl z) (fun _ => rfl) (fun _ => rfl) (fun _ => rfl) (fun _ => rfl) (fun _ => rfl))
theorem XW.setF23 (w : XW kd A X R S O F h) {v : Int32} {x : Int64} (hx : x = v.toInt64) : XW kd A X R S O (up F 23 v) (hset h (A 6) (Ob 2 ((d2Fl A F).set 2 (.long x)))) := by
  subst hx
  exact w.setO 6 (by decide) rfl (fun j hj => xO_cg hj (fun _ => rfl) (fun _ => rfl) (fun z => absurd rfl z) (fun _ => rfl) (fun _ => rfl) (fun _ => rfl) (fun _ => rfl))
/-- forget how a register got its value -/
theorem XW.abs {P : (Nat → Nat) → Prop} (q : P R) (w : XW kd A X R S O F h) : ∃ R', P R' ∧ XW kd A X R' S O F h := ⟨R, q, w⟩
end XWs
/-- where a modulus of n limbs lies -/
def MoK (kd : Nat → KD) (A : Nat → Nat) (O : Nat → AC) (K p mv : Nat) (ng : Int32) : Prop :=
  kd K = (7, 0, 0) ∧ OS A O K = MdC (fun i => A (K + i)) (p + 1) ng ∧ kd (K + 1) = (7, 0, 0) ∧ OS A O (K + 1) = nm (p + 1) mv ∧ kd (K + 2) = (7, 0, 0) ∧ OS A O (K + 2) = nm (p + 1) (2 ^ (32 * (p + 1)) % mv) ∧ kd (K + 3) = (7, 0, 0) ∧ OS A O (K + 3) = nm (p + 1) (2 ^ (32 * (p + 1)) * 2 ^ (32 * (p + 1)) % mv) ∧ kd (K + 4) = (7, 0, 0) ∧ OS A O (K + 4) = nm (p + 1) 1 ∧
  kd (K + 5) = (4, 0, p + 1 + 2) ∧ kd (K + 6) = (4, 0, p + 1) ∧ kd (K + 7) = (4, 0, p + 1) ∧ kd (K + 8) = (4, 0, p + 1) ∧ kd (K + 9) = (4, 0, p + 1) ∧ mv % 2 = 1 ∧ 1 < mv ∧ mv < 2 ^ (32 * (p + 1)) ∧ (u32 ng * mv + 1) % 2 ^ 32 = 0 ∧ p < 64 ∧ ((30 ≤ K ∧ K < 41) ∨ 80 ≤ K)
section XMo
variable {kd : Nat → KD} {A : Nat → Nat} {X : AH} {R : Nat → Nat} {S : Nat → List Int32} {O : Nat → AC} {F : Nat → Int32} {h : AH}
theorem oneP_ok : oneP = 2 ^ (32 * 12) % pP := by decide +kernel
theorem sqP_ok : sqP = 2 ^ (32 * 12) * 2 ^ (32 * 12) % pP := by decide +kernel
theorem oneQ_ok : oneQ = 2 ^ (32 * 12) % qP := by decide +kernel
theorem sqQ_ok : sqQ = 2 ^ (32 * 12) * 2 ^ (32 * 12) % qP := by decide +kernel
theorem ngP_ok : (u32 ngP * pP + 1) % 2 ^ 32 = 0 := by decide +kernel
theorem ngQ_ok : (u32 ngQ * qP + 1) % 2 ^ 32 = 0 := by decide +kernel
theorem one_lt_qP : 1 < qP := by decide +kernel
theorem XW.mp (w : XW kd A X R S O F h) : MoK kd A O 30 11 pP ngP :=
  ⟨w.k 30 (by decide), rfl, w.k 31 (by decide), rfl, w.k 32 (by decide), (rfl : OS A O _ = _).trans (congrArg (nm 12) oneP_ok), w.k 33 (by decide), (rfl : OS A O _ = _).trans (congrArg (nm 12) sqP_ok), w.k 34 (by decide), rfl, w.k 35 (by decide), w.k 36 (by decide), w.k 37 (by decide), w.k 38 (by decide), w.k 39 (by decide), pP_odd, one_lt_pP, pP_lt, ngP_ok, by decide, by decide⟩
theorem XW.mq (w : XW kd A X R S O F h) : MoK kd A O 40 11 qP ngQ :=
  ⟨w.k 40 (by decide), rfl, w.k 41 (by decide), rfl, w.k 42 (by decide), (rfl : OS A O _ = _).trans (congrArg (nm 12) oneQ_ok), w.k 43 (by decide), (rfl : OS A O _ = _).trans (congrArg (nm 12) sqQ_ok), w.k 44 (by decide), rfl, w.k 45 (by decide), w.k 46 (by decide), w.k 47 (by decide), w.k 48 (by decide), w.k 49 (by decide), qP_odd, one_lt_qP, qP_lt, ngQ_ok, by decide, by decide⟩
/-- an operand: a number that lies in no junk cell -/
def OpX (kd : Nat → KD) (A : Nat → Nat) (h : AH) (a n v : Nat) : Prop := ∃ f, h a = some (Ai false 0 n f) ∧ V n f = v ∧ ∀ k, (kd k).1 = 4 → A k ≠ a
theorem OpX.n (w : XW kd A X R S O F h) (k : Nat) (hk : kd k = (1, 0, 12)) : OpX kd A h (A k) 12 (R k) := by
  obtain ⟨f, h1, h2, -⟩ := w.n k hk
  exact ⟨f, h1, h2, fun j hj z => by
    have := w.1.1 j k (by rw [hj]; decide) (by rw [hk]; decide) z
    rw [this, hk] at hj
    cases hj⟩
theorem OpX.n2 (w : XW kd A X R S O F h) (k : Nat) {n : Nat} (hk : kd k = (2, 0, n)) : OpX kd A h (A k) n (R k) := by
  obtain ⟨f, h1, h2⟩ := w.n2 k hk
  exact ⟨f, h1, h2, fun j hj z => by
    have := w.1.1 j k (by rw [hj]; decide) (by rw [hk]; exact (by decide : (2 : Nat) ≠ 0)) z
    rw [this, hk] at hj
    exact absurd hj (by decide : (2 : Nat) ≠ 4)⟩
theorem OpX.o (w : XW kd A X R S O F h) (k : Nat) {n v : Nat} (hk : kd k = (7, 0, 0)) (hm : mutK k = false) (ho : OS A O k = nm n v) (hv : v < 2 ^ (32 * n)) : OpX kd A h (A k) n v :=
  ⟨lim v, by rw [w.ob k hk hm, ho], V_nm hv, fun j hj z => by
    have := w.1.1 j k (by rw [hj]; decide) (by rw [hk]; decide) z
    rw [this, hk] at hj
    cases hj⟩
theorem OpX.x (w : XW kd A X R S O F h) {q n v : Nat} {f : Nat → Int32} (hq : ∀ k, (kd k).1 ≠ 0 → A k ≠ q) (hX : X q = some (Ai false 0 n f)) (hv : V n f = v) : OpX kd A h q n v :=
  ⟨f, by rw [w.1.2.2 q hq]; exact hX, hv, fun j hj => hq j (by rw [hj]; decide)⟩
end XMo
