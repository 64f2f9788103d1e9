set_option maxRecDepth 100000
/-! THE ABSTRACT HEAP: what is known of cells, by address; and how it stands to the machine's heap -/
abbrev AC : Type := (Bool × Nat × Nat × (Nat → Int32)) ⊕ ((Bool × Nat × (Nat → Int64)) ⊕ ((Nat × Nat × (Nat → Option Nat)) ⊕ ((Nat × List Value) ⊕ (Nat × List Nat))))
abbrev AH : Type := Nat → Option AC
/-- an array of ints, bytes or booleans (tag 0, 2, 3); ro: one of the statics, never written -/
abbrev Ai (ro : Bool) (tag n : Nat) (f : Nat → Int32) : AC := .inl (ro, tag, n, f)
abbrev Al (ro : Bool) (n : Nat) (f : Nat → Int64) : AC := .inr (.inl (ro, n, f))
abbrev Ar (tag n : Nat) (f : Nat → Option Nat) : AC := .inr (.inr (.inl (tag, n, f)))
abbrev Ob (ci : Nat) (fs : List Value) : AC := .inr (.inr (.inr (.inl (ci, fs))))
abbrev Sg (v : Nat) (tx : List Nat) : AC := .inr (.inr (.inr (.inr (v, tx))))
def hset (h : AH) (a : Nat) (c : AC) : AH := fun q => if q = a then some c else h q
theorem hset_self (h : AH) (a : Nat) (c : AC) : hset h a c a = some c := if_pos rfl
theorem hset_ne {h : AH} {a q : Nat} {c : AC} (e : q ≠ a) : hset h a c q = h q := if_neg e
theorem hset_hset (h : AH) (a : Nat) (c d : AC) : hset (hset h a c) a d = hset h a d := by
  funext q
  by_cases e : q = a <;> simp [hset, e]
theorem hset_comm (h : AH) {a b : Nat} (c d : AC) (e : a ≠ b) : hset (hset h a c) b d = hset (hset h b d) a c := by
  funext q
  by_cases e1 : q = a <;> by_cases e2 : q = b <;> simp [hset, e1, e2]
  · omega
  · intro hh; omega
  · intro hh; omega
theorem hset_same {h : AH} {a : Nat} {c : AC} (e : h a = some c) : hset h a c = h := by
  funext q
  by_cases e1 : q = a
  · subst e1; rw [hset_self, e]
  · rw [hset_ne e1]
abbrev vwCl : List vw_C := [(RX1, TX1, 15), (RX3, TX3, 6), (RX4, TX4, 6), (RX5, TX5, 21), (RX6, TX6, 11), (RX7, TX7, 3), (RX8, TX8, 7), (RX9, TX9, 5), (RX16, TX16, 4), (RX14, TX14, 18), (RX15, TX15, 17), (RX10, TX10, 96), (RX11, TX11, 4), (RX12, TX12, 3), (RJ9, TJ9, 6)]
def tagTy (t : Nat) : FieldType := match t with
  | 0 => .int
  | 1 => .long
  | 2 => .byte
  | 3 => .boolean
  | 4 => .object "VeilMint$Key"
  | 5 => .object "VeilMint$Asking"
  | 6 => .object "VeilMintModel$Spot"
  | 7 => .object "VeilMintModel$Mod"
  | _ => .array .int
/-- what is fixed in a run: the heap at the law's start, the classes, the array classes by tag, the cells that nobody writes, the statics' and texts' addresses -/
abbrev GX : Type := Heap × va_G × (Nat → ClassId) × (Nat → Option AC) × (Nat → Nat) × (Nat → Nat)
abbrev gB (g : GX) : Nat := g.1.size
abbrev gA (g : GX) : Nat → Prop := fun q => g.1.size ≤ q
abbrev gD (g : GX) : va_G := g.2.1
abbrev gC (g : GX) (t : Nat) : ClassId := g.2.2.1 t
abbrev gR (g : GX) : Nat → Option AC := g.2.2.2.1
abbrev gS (g : GX) (k : Nat) : Nat := g.2.2.2.2.1 k
abbrev gX (g : GX) (k : Nat) : Nat := g.2.2.2.2.2 k
abbrev gT (g : GX) : List (ClassId × FieldType) := [(gC g 0, .int), (gC g 1, .long), (gC g 2, .byte), (gC g 3, .boolean), (gC g 4, .object "VeilMint$Key"), (gC g 5, .object "VeilMint$Asking"), (gC g 6, .object "VeilMintModel$Spot"), (gC g 7, .object "VeilMintModel$Mod"), (gC g 8, .array .int)]
def trc (g : GX) (c : AC) : Option va_E := match c with
  | .inl (false, tag, n, f) => some (.inl (gC g tag, n, .inl f))
  | .inl (true, _, _, _) => none
  | .inr (.inl (false, n, f)) => some (.inl (gC g 1, n, .inr (.inl f)))
  | .inr (.inl (true, _, _)) => none
  | .inr (.inr (.inl (tag, n, f))) => some (.inl (gC g tag, n, .inr (.inr (.inr (.inr f)))))
  | .inr (.inr (.inr (.inl (ci, fs)))) => some (.inr (ci, fs))
  | .inr (.inr (.inr (.inr _))) => none
def StrAt (g : GX) (v : Nat) (tx : List Nat) (a : Nat) (U : State) (H : Heap) : Prop :=
  va_O "java/lang/String" a (gA g) U H ∧ va_OF "java/lang/String" "value" "[B" (.ref v) a (gA g) U H ∧ va_OF "java/lang/String" "coder" "B" (.int 0) a (gA g) U H ∧ va_T .byte v tx.length (fun j => .int (Int32.ofNat (tx.getD j 0))) (gA g) U H
def roAt (g : GX) (c : AC) (a : Nat) (U : State) (H : Heap) : Prop := match c with
  | .inl (_, tag, n, f) => va_T (tagTy tag) a n (fun j => .int (f j)) (gA g) U H
  | .inr (.inl (_, n, f)) => va_T .long a n (fun j => .long (f j)) (gA g) U H
  | .inr (.inr (.inr (.inr (v, tx)))) => StrAt g v tx a U H
  | _ => False
def wfc (c : AC) : Prop := match c with
  | .inl (_, tag, n, f) => tag = 2 → ∀ j, j < n → fits .byte (.int (f j)) = true
  | _ => True
def AR (g : GX) (h : AH) (U : State) (H : Heap) : Prop :=
  (∀ a c e, h a = some c → trc g c = some e → gB g ≤ a ∧ va_at (gD g) vwCl (a, e) H ∧ wfc c) ∧ (∀ a c, h a = some c → trc g c = none → a < gB g ∧ roAt g c a U H) ∧ ∀ a c, gR g a = some c → h a = some c ∧ trc g c = none
theorem roAt.moved {g : GX} {c : AC} {a : Nat} {u U : State} {H : Heap} (hvm : u.vm.Alike U.vm) (h : roAt g c a u H) : roAt g c a U H := by
  match c, h with
  | .inl (_, tag, n, f), h => exact va_T.moved hvm h
  | .inr (.inl (_, n, f)), h => exact va_T.moved hvm h
  | .inr (.inr (.inr (.inr (v, tx)))), h => exact ⟨h.1.moved hvm, h.2.1.moved hvm, h.2.2.1.moved hvm, h.2.2.2.moved hvm⟩
theorem roAt.kept {g : GX} {c : AC} {a : Nat} {U : State} {H H1 : Heap} (h : roAt g c a U H) (hq : ∀ q : Nat, q < H.size → ¬ gA g q → H1[q]? = H[q]?) : roAt g c a U H1 := by
  match c, h with
  | .inl (_, tag, n, f), h => exact va_T.kept h hq
  | .inr (.inl (_, n, f)), h => exact va_T.kept h hq
  | .inr (.inr (.inr (.inr (v, tx)))), h => exact ⟨h.1.kept hq, h.2.1.kept hq, h.2.2.1.kept hq, h.2.2.2.kept hq⟩
theorem AR.moved {g : GX} {h : AH} {u U : State} {H : Heap} (hvm : u.vm.Alike U.vm) (r : AR g h u H) : AR g h U H :=
  ⟨r.1, fun a c h1 h2 => ⟨(r.2.1 a c h1 h2).1, (r.2.1 a c h1 h2).2.moved hvm⟩, r.2.2⟩
/-- the world of the kit's rows: all written cells that are known -/
def wsOf (g : GX) (h : AH) (n : Nat) : va_W := (List.range n).filterMap fun a => (h a).bind fun c => (trc g c).map fun e => (a, e)
theorem wsOf_mem {g : GX} {h : AH} {n a : Nat} {e : va_E} (hm : (a, e) ∈ wsOf g h n) : ∃ c, h a = some c ∧ trc g c = some e := by
  obtain ⟨b, -, hb⟩ := List.mem_filterMap.mp hm
  obtain ⟨c, h1, h2⟩ := Option.bind_eq_some_iff.mp hb
  obtain ⟨e2, h3, h4⟩ := Option.map_eq_some_iff.mp h2
  cases h4
  exact ⟨c, h1, h3⟩
theorem wsOf_in {g : GX} {h : AH} {n a : Nat} {c : AC} {e : va_E} (hl : a < n) (h1 : h a = some c) (h2 : trc g c = some e) : ∃ k : Nat, (wsOf g h n)[k]? = some (a, e) := by
  have hm : (a, e) ∈ wsOf g h n := List.mem_filterMap.mpr ⟨a, List.mem_range.mpr hl, by rw [h1]; simp [h2]⟩
  exact List.getElem?_of_mem hm
theorem wsOf_lt (g : GX) (h : AH) (n : Nat) : (wsOf g h n).Pairwise (fun p q => p.1 < q.1) := by
  refine List.Pairwise.filterMap _ ?_ List.pairwise_lt_range
  intro a b hab p hp q hq
  obtain ⟨c, -, h2⟩ := Option.bind_eq_some_iff.mp hp
  obtain ⟨e2, -, h4⟩ := Option.map_eq_some_iff.mp h2
  obtain ⟨c', -, h2'⟩ := Option.bind_eq_some_iff.mp hq
  obtain ⟨e2', -, h4'⟩ := Option.map_eq_some_iff.mp h2'
  cases h4
  cases h4'
  exact hab
theorem AR.P {g : GX} {h : AH} {U : State} {H : Heap} (r : AR g h U H) : va_P (gD g) vwCl (wsOf g h H.size) H := by
  intro k q hk
  obtain ⟨c, h1, h2⟩ := wsOf_mem (List.mem_of_getElem? hk)
  exact (r.1 q.1 c q.2 h1 h2).2.1
theorem AR.D {g : GX} {h : AH} {U : State} {H : Heap} (r : AR g h U H) : va_D (gA g) (wsOf g h H.size) := by
  refine ⟨fun i j p q hi hj e => ?_, fun k q hk => ?_⟩
  · have hp := List.pairwise_iff_getElem.mp (wsOf_lt g h H.size)
    obtain ⟨li, ei⟩ := List.getElem?_eq_some_iff.mp hi
    obtain ⟨lj, ej⟩ := List.getElem?_eq_some_iff.mp hj
    rcases Nat.lt_trichotomy i j with hh | hh | hh
    · have := hp i j li lj hh
      rw [ei, ej] at this
      omega
    · exact hh
    · have := hp j i lj li hh
      rw [ei, ej] at this
      omega
  · obtain ⟨c, h1, h2⟩ := wsOf_mem (List.mem_of_getElem? hk)
    exact (r.1 q.1 c q.2 h1 h2).1
theorem AR.lt {g : GX} {h : AH} {U : State} {H : Heap} (r : AR g h U H) (hz : gB g ≤ H.size) {a : Nat} {c : AC} (h1 : h a = some c) : a < H.size := by
  cases h2 : trc g c with
  | none => exact Nat.lt_of_lt_of_le (r.2.1 a c h1 h2).1 hz
  | some e => exact (r.1 a c e h1 h2).2.1.lt
theorem AR.at {g : GX} {h : AH} {U : State} {H : Heap} (r : AR g h U H) {a : Nat} {c : AC} {e : va_E} (h1 : h a = some c) (h2 : trc g c = some e) : ∃ k : Nat, (wsOf g h H.size)[k]? = some (a, e) :=
  wsOf_in ((r.1 a c e h1 h2).2.1.lt) h1 h2
/-- a cell is written -/
theorem AR.set {g : GX} {h : AH} {U : State} {H0 H H1 : Heap} {l0 l1 : List Loc} (r : AR g h U H) {a k : Nat} {c c' : AC} {e e' : va_E} (h1 : h a = some c) (h2 : trc g c = some e) (hk : (wsOf g h H.size)[k]? = some (a, e)) (h3 : trc g c' = some e') (hw : wfc c')
    (hP : va_P (gD g) vwCl ((wsOf g h H.size).set k (a, e')) H1) (hz : gB g ≤ H0.size) (hS : va_S (gA g) H0 H l0) (hS1 : va_S (gA g) H0 H1 l1) : AR g (hset h a c') U H1 := by
  have hkl := (List.getElem?_eq_some_iff.mp hk).1
  have hlow : ∀ q : Nat, q < H.size → ¬ gA g q → H1[q]? = H[q]? := fun q _ hn => by
    have hq : q < H0.size := Nat.lt_of_lt_of_le (Nat.not_le.mp hn) hz
    rw [hS1.2.1 q hq hn, hS.2.1 q hq hn]
  refine ⟨fun b d ee hb he => ?_, fun b d hb he => ?_, fun b d hb => ?_⟩
  · by_cases hba : b = a
    · subst hba
      rw [hset_self] at hb
      cases hb
      rw [h3] at he
      cases he
      exact ⟨(r.1 b c e h1 h2).1, hP k (b, e') (List.getElem?_set_self hkl), hw⟩
    · rw [hset_ne hba] at hb
      refine ⟨(r.1 b d ee hb he).1, ?_, (r.1 b d ee hb he).2.2⟩
      obtain ⟨j, hj⟩ := r.at hb he
      have hjk : k ≠ j := fun z => by
        subst z
        rw [hk] at hj
        cases hj
        exact hba rfl
      exact hP j (b, ee) (by rw [List.getElem?_set_ne hjk]; exact hj)
  · by_cases hba : b = a
    · subst hba
      rw [hset_self] at hb
      cases hb
      rw [h3] at he
      cases he
    · rw [hset_ne hba] at hb
      exact ⟨(r.2.1 b d hb he).1, (r.2.1 b d hb he).2.kept hlow⟩
  · obtain ⟨q1, q2⟩ := r.2.2 b d hb
    have hba : b ≠ a := fun z => by
      subst z
      rw [h1] at q1
      cases q1
      rw [h2] at q2
      cases q2
    exact ⟨by rw [hset_ne hba]; exact q1, q2⟩
/-- a cell is made -/
theorem AR.push {g : GX} {h : AH} {U : State} {H0 H H1 : Heap} {l0 l1 : List Loc} (r : AR g h U H) {q : Nat} {c : AC} {e : va_E} (h3 : trc g c = some e) (hw : wfc c)
    (hP : va_P (gD g) vwCl (wsOf g h H.size ++ [(q, e)]) H1) (hD : va_D (gA g) (wsOf g h H.size ++ [(q, e)])) (hz : gB g ≤ H0.size) (hS : va_S (gA g) H0 H l0) (hS1 : va_S (gA g) H0 H1 l1) : h q = none ∧ gB g ≤ q ∧ AR g (hset h q c) U H1 := by
  have hlow : ∀ q : Nat, q < H.size → ¬ gA g q → H1[q]? = H[q]? := fun q _ hn => by
    have hq : q < H0.size := Nat.lt_of_lt_of_le (Nat.not_le.mp hn) hz
    rw [hS1.2.1 q hq hn, hS.2.1 q hq hn]
  have hlast : (wsOf g h H.size ++ [(q, e)])[(wsOf g h H.size).length]? = some (q, e) := by simp
  have hgq : gB g ≤ q := hD.2 _ _ hlast
  have hnone : h q = none := by
    cases hc : h q with
    | none => rfl
    | some d =>
      exfalso
      cases ht : trc g d with
      | none => exact absurd (r.2.1 q d hc ht).1 (Nat.not_lt.mpr hgq)
      | some ee =>
        obtain ⟨j, hj⟩ := r.at hc ht
        have hjl := (List.getElem?_eq_some_iff.mp hj).1
        have := hD.1 j _ (q, ee) (q, e) (by rw [List.getElem?_append_left hjl]; exact hj) hlast rfl
        omega
  refine ⟨hnone, hgq, fun b d ee hb he => ?_, fun b d hb he => ?_, fun b d hb => ?_⟩
  · by_cases hba : b = q
    · subst hba
      rw [hset_self] at hb
      cases hb
      rw [h3] at he
      cases he
      exact ⟨hgq, hP _ (b, e) hlast, hw⟩
    · rw [hset_ne hba] at hb
      obtain ⟨j, hj⟩ := r.at hb he
      exact ⟨(r.1 b d ee hb he).1, hP j (b, ee) (by rw [List.getElem?_append_left (List.getElem?_eq_some_iff.mp hj).1]; exact hj), (r.1 b d ee hb he).2.2⟩
  · by_cases hba : b = q
    · subst hba
      rw [hset_self] at hb
      cases hb
      rw [h3] at he
      cases he
    · rw [hset_ne hba] at hb
      exact ⟨(r.2.1 b d hb he).1, (r.2.1 b d hb he).2.kept hlow⟩
  · obtain ⟨q1, q2⟩ := r.2.2 b d hb
    have hba : b ≠ q := fun z => by
      subst z
      rw [hnone] at q1
      cases q1
    exact ⟨by rw [hset_ne hba]; exact q1, q2⟩
/-- fewer cells may be known, but for those that nobody writes -/
theorem AR.sub {g : GX} {h h' : AH} {U : State} {H : Heap} (r : AR g h U H) (hs : ∀ a c, h' a = some c → h a = some c) (hr : ∀ a c, gR g a = some c → h' a = some c) : AR g h' U H :=
  ⟨fun a c e h1 h2 => r.1 a c e (hs a c h1) h2, fun a c h1 h2 => r.2.1 a c (hs a c h1) h2, fun a c h1 => ⟨hr a c h1, (r.2.2 a c h1).2⟩⟩
/-- an array's contents beyond its length don't count -/
theorem arrV_congr {cI : ClassId} {n : Nat} {f f' : Nat → Value} (h : ∀ j, j < n → f j = f' j) : arrV cI n f = arrV cI n f' := by
  have : (fun j : Fin n => f j.val) = fun j : Fin n => f' j.val := funext fun j => h j.val j.isLt
  simp only [arrV, this]
theorem AR.congrI {g : GX} {h : AH} {U : State} {H : Heap} (r : AR g h U H) {a tag n : Nat} {f f' : Nat → Int32} (h1 : h a = some (Ai false tag n f)) (hf : ∀ j, j < n → f j = f' j) : AR g (hset h a (Ai false tag n f')) U H := by
  refine ⟨fun b d ee hb he => ?_, fun b d hb he => ?_, fun b d hb => ?_⟩
  · by_cases hba : b = a
    · subst hba
      rw [hset_self] at hb
      cases hb
      cases he
      have h2 := r.1 b _ _ h1 rfl
      refine ⟨h2.1, ?_, fun e j hj => by rw [← hf j hj]; exact h2.2.2 e j hj⟩
      have h3 : H[b]? = some (arrV (gC g tag) n (fun j => .int (f j))) := h2.2.1
      show H[b]? = some (arrV (gC g tag) n (fun j => .int (f' j)))
      rw [h3, arrV_congr fun j hj => by rw [hf j hj]]
    · rw [hset_ne hba] at hb
      exact r.1 b d ee hb he
  · by_cases hba : b = a
    · subst hba
      rw [hset_self] at hb
      cases hb
      cases he
    · rw [hset_ne hba] at hb
      exact r.2.1 b d hb he
  · obtain ⟨q1, q2⟩ := r.2.2 b d hb
    have hba : b ≠ a := fun z => by
      subst z
      rw [h1] at q1
      cases q1
      cases q2
    exact ⟨by rw [hset_ne hba]; exact q1, q2⟩
theorem AR.congrL {g : GX} {h : AH} {U : State} {H : Heap} (r : AR g h U H) {a n : Nat} {f f' : Nat → Int64} (h1 : h a = some (Al false n f)) (hf : ∀ j, j < n → f j = f' j) : AR g (hset h a (Al false n f')) U H := by
  refine ⟨fun b d ee hb he => ?_, fun b d hb he => ?_, fun b d hb => ?_⟩
  · by_cases hba : b = a
    · subst hba
      rw [hset_self] at hb
      cases hb
      cases he
      have h2 := r.1 b _ _ h1 rfl
      refine ⟨h2.1, ?_, trivial⟩
      have h3 : H[b]? = some (arrV (gC g 1) n (fun j => .long (f j))) := h2.2.1
      show H[b]? = some (arrV (gC g 1) n (fun j => .long (f' j)))
      rw [h3, arrV_congr fun j hj => by rw [hf j hj]]
    · rw [hset_ne hba] at hb
      exact r.1 b d ee hb he
  · by_cases hba : b = a
    · subst hba
      rw [hset_self] at hb
      cases hb
      cases he
    · rw [hset_ne hba] at hb
      exact r.2.1 b d hb he
  · obtain ⟨q1, q2⟩ := r.2.2 b d hb
    have hba : b ≠ a := fun z => by
      subst z
      rw [h1] at q1
      cases q1
      cases q2
    exact ⟨by rw [hset_ne hba]; exact q1, q2⟩
/-! WHAT A METHOD FINDS: words, classes, statics, texts -/
def nwk (w : Cond) : Bool := match w with
  | .fieldLinkNest _ _ _ _ _ _ => true
  | .methodLinkNest _ _ _ _ => true
  | .castable _ _ => true
  | .declares _ => true
  | .arrayOver (.object _) => true
  | .arrayOver (.array _) => true
  | _ => false
theorem va_AA.moved {t : FieldType} {u U : State} (hvm : u.vm.Alike U.vm) (h : va_Nw (.arrayOver (.array t)) u) : va_Nw (.arrayOver (.array t)) U := by
  obtain ⟨comp, c, k, h1, h2, h3, h4, h5⟩ := arrayOverA_spec h
  obtain ⟨k', hk', he⟩ := hvm.2.2 _ _ h3
  have hi : (U.vm.classes.findIdx? fun (x : Class) => match x.kind with | .array component _ => component == comp | _ => false) = some c := by
    rw [hvm.findIdx?_eq _ (fun _ => rfl)]
    exact h2
  have hkind : k'.kind = .array comp (.array t) := by rw [he]; exact h4
  have f1 : U.vm.findClass (FieldType.array t).toString = some comp := by rw [hvm.findClass]; exact h1
  have f2 : U.vm.findClass ("[" ++ (FieldType.array t).toString) = some c := by rw [hvm.findClass]; exact h5
  unfold va_Nw Cond.before Cond.holds
  simp only [Cond.value]
  rw [f1, Option.bind_some]
  refine (congrArg (fun o : Option Nat => (o.bind (fun c => (U.vm.classes[c]?).map fun (k : Class) => match k.kind with | .array _ ty => decide (ty = FieldType.array t) && decide (U.vm.findClass ("[" ++ (FieldType.array t).toString) = some c) | _ => false) == some true)) hi).trans ?_
  simp [hk', hkind, f2]
theorem nwk_warm {w : Cond} {s U : State} (hk : nwk w = true) (hW : s.WarmedH U.vm) (h : va_Nw w s) : va_Nw w U := by
  unfold nwk at hk
  split at hk
  · exact h.warmF hW
  · exact h.warmM hW
  · exact h.warmC hW
  · exact h.warmD hW
  · exact va_AO.moved hW.alike h
  · exact va_AA.moved hW.alike h
  · cases hk
abbrev statV (g : GX) : List (String × String × String × Value) := [("VeilMint$Digest256", "ROUNDS", "[I", .ref (gS g 0)), ("VeilMint$Digest384", "ROUNDS", "[J", .ref (gS g 1)), ("VeilMint$Digest384", "FIRST", "[J", .ref (gS g 2)),
  ("VeilMintModel", "P", "[I", .ref (gS g 3)), ("VeilMintModel", "Q", "[I", .ref (gS g 4)), ("VeilMintModel", "B", "[I", .ref (gS g 5)), ("VeilMintModel", "GX", "[I", .ref (gS g 6)), ("VeilMintModel", "GY", "[I", .ref (gS g 7)),
  ("VeilMintModel", "ROUNDS", "[I", .ref (gS g 8)), ("VeilMintModel", "STARTS", "[I", .ref (gS g 9)), ("VeilMintModel", "WIDE_ROUNDS", "[J", .ref (gS g 10)), ("VeilMintModel", "WIDE_STARTS", "[J", .ref (gS g 11)),
  ("java/lang/String", "COMPACT_STRINGS", "Z", .int 1), ("java/lang/StringUTF16", "$assertionsDisabled", "Z", .int 1), ("java/lang/StringUTF16", "HI_BYTE_SHIFT", "I", .int 0), ("java/lang/StringUTF16", "LO_BYTE_SHIFT", "I", .int 8)]
def t256 : List Int32 := [1116352408, 1899447441, (-1245643825), (-373957723), 961987163, 1508970993, (-1841331548), (-1424204075), (-670586216), 310598401, 607225278, 1426881987, 1925078388, (-2132889090), (-1680079193), (-1046744716), (-459576895), (-272742522), 264347078, 604807628, 770255983, 1249150122, 1555081692, 1996064986, (-1740746414), (-1473132947), (-1341970488), (-1084653625), (-958395405), (-710438585), 113926993, 338241895, 666307205, 773529912, 1294757372, 1396182291, 1695183700, 1986661051, (-2117940946), (-1838011259), (-1564481375), (-1474664885), (-1035236496), (-949202525), (-778901479), (-694614492), (-200395387), 275423344, 430227734, 506948616, 659060556, 883997877, 958139571, 1322822218, 1537002063, 1747873779, 1955562222, 2024104815, (-2067236844), (-1933114872), (-1866530822), (-1538233109), (-1090935817), (-965641998)]
def t512 : List Int64 := [4794697086780616226, 8158064640168781261, (-5349999486874862801), (-1606136188198331460), 4131703408338449720, 6480981068601479193, (-7908458776815382629), (-6116909921290321640), (-2880145864133508542), 1334009975649890238, 2608012711638119052, 6128411473006802146, 8268148722764581231, (-9160688886553864527), (-7215885187991268811), (-4495734319001033068), (-1973867731355612462), (-1171420211273849373), 1135362057144423861, 2597628984639134821, 3308224258029322869, 5365058923640841347, 6679025012923562964, 8573033837759648693, (-7476448914759557205), (-6327057829258317296), (-5763719355590565569), (-4658551843659510044), (-4116276920077217854), (-3051310485924567259), 489312712824947311, 1452737877330783856, 2861767655752347644, 3322285676063803686, 5560940570517711597, 5996557281743188959, 7280758554555802590, 8532644243296465576, (-9096487096722542874), (-7894198246740708037), (-6719396339535248540), (-6333637450476146687), (-4446306890439682159), (-4076793802049405392), (-3345356375505022440), (-2983346525034927856), (-860691631967231958), 1182934255886127544, 1847814050463011016, 2177327727835720531, 2830643537854262169, 3796741975233480872, 4115178125766777443, 5681478168544905931, 6601373596472566643, 7507060721942968483, 8399075790359081724, 8693463985226723168, (-8878714635349349518), (-8302665154208450068), (-8016688836872298968), (-6606660893046293015), (-4685533653050689259), (-4147400797238176981), (-3880063495543823972), (-3348786107499101689), (-1523767162380948706), (-757361751448694408), 500013540394364858, 748580250866718886, 1242879168328830382, 1977374033974150939, 2944078676154940804, 3659926193048069267, 4368137639120453308, 4836135668995329356, 5532061633213252278, 6448918945643986474, 6902733635092675308, 7801388544844847127]
def tF384 : List Int64 := [(-3766243637369397544), 7105036623409894663, (-7973340178411365097), 1526699215303891257, 7436329637833083697, (-8163818279084223215), (-2662702644619276377), 5167115440072839076]
def tP : List Int32 := [(-1), 0, 0, (-1), (-2), (-1), (-1), (-1), (-1), (-1), (-1), (-1)]
def tQ : List Int32 := [(-859494029), (-320071318), 1219536762, 1478102450, (-197710369), (-949793407), (-1), (-1), (-1), (-1), (-1), (-1)]
def tB : List Int32 := [(-739497233), 713410797, (-1976643171), (-967427699), 1343457114, 51644559, (-25083630), 404593774, (-470274791), (-1735522965), (-499193884), (-1288622169)]
def tGX : List Int32 := [1920338615, 978607672, (-1084937876), 1426256477, (-2108413384), 1509376480, (-1951949928), 1847409506, (-215962252), (-1900951778), (-1098185417), (-1433941470)]
def tGY : List Int32 := [(-1863709089), 2051218812, 494829981, 174109134, (-1242515264), (-371576557), 681186428, (-118219331), (-1835869143), 1570674879, (-1775883153), 907533898]
def tS256 : List Int32 := [1779033703, (-1150833019), 1013904242, (-1521486534), 1359893119, (-1694144372), 528734635, 1541459225]
/-- what the statics' arrays hold, by their number -/
def stC (k : Nat) : Option AC := match k with
  | 0 => some (Ai true 0 64 fun j => t256.getD j 0)
  | 1 => some (Al true 80 fun j => t512.getD j 0)
  | 2 => some (Al true 8 fun j => tF384.getD j 0)
  | 3 => some (Ai true 0 12 fun j => tP.getD j 0)
  | 4 => some (Ai true 0 12 fun j => tQ.getD j 0)
  | 5 => some (Ai true 0 12 fun j => tB.getD j 0)
  | 6 => some (Ai true 0 12 fun j => tGX.getD j 0)
  | 7 => some (Ai true 0 12 fun j => tGY.getD j 0)
  | 8 => some (Ai true 0 64 fun j => t256.getD j 0)
  | 9 => some (Ai true 0 8 fun j => tS256.getD j 0)
  | 10 => some (Al true 80 fun j => t512.getD j 0)
  | 11 => some (Al true 8 fun j => tF384.getD j 0)
  | _ => none
/-- the texts: class, entry, text -/
def strT : List (String × Nat × String) := [("VeilMint$Curve", 13, "fffffffffffffffffffffffffffffffffffffffffffffffffffffffffffffffeffffffff0000000000000000ffffffff"), ("VeilMint$Curve", 26, "ffffffffffffffffffffffffffffffffffffffffffffffffc7634d81f4372ddf581a0db248b0a77aecec196accc52973"),
  ("VeilMint$Curve", 95, "b3312fa7e23ee7e4988e056be3f82d19181d9c6efe8141120314088f5013875ac656398d8a2ed19d2a85c8edd3ec2aef"), ("VeilMint$Curve", 101, "aa87ca22be8b05378eb1c71ef320ad746e1d3b628ba79b9859f741e082542a385502f25dbf55296c3a545e3872760ab7"),
  ("VeilMint$Curve", 106, "3617de4a96262c6f5d9e98bf9292dc29f8f41dbd289a147ce9da3113b5f0b8c00a60b1ce1d7e819d7a431d7c90ea0e5f"), ("VeilMint$Curve", 243, "HashToGroup-"), ("VeilMint$Curve", 194, "OPRFV1-"), ("VeilMint$Curve", 203, "-P384-SHA384"),
  ("VeilMint$Oblivious", 148, "Seed-OPRFV1-"), ("VeilMint$Oblivious", 156, "-P384-SHA384"), ("VeilMint$Oblivious", 165, "Composite"), ("VeilMint$Curve", 233, "HashToScalar-"), ("VeilMint$Oblivious", 176, "Challenge"), ("VeilMint$Oblivious", 223, "Finalize"),
  ("VeilMintModel", 383, "HashToGroup-"), ("VeilMintModel", 260, "OPRFV1-"), ("VeilMintModel", 266, "-P384-SHA384"), ("VeilMintModel", 412, "Seed-"), ("VeilMintModel", 432, "Composite"), ("VeilMintModel", 352, "HashToScalar-"), ("VeilMintModel", 456, "Challenge"), ("VeilMintModel", 688, "Finalize")]
def chars (t : String) : List Nat := t.toList.map Char.toNat
def OkG (g : GX) (U : State) : Prop :=
  va_K (gD g) vwCl (gT g) U ∧ (∀ w ∈ lw_tbl, nwk w = true → va_Nw w U) ∧ gB g ≤ U.heap.size ∧ (∀ q ∈ statV g, va_Z q.1 q.2.1 q.2.2.1 q.2.2.2 (gA g) U U.heap) ∧ (∀ k q, strT[k]? = some q → vk_R q.1 q.2.1 q.2.2 (gX g k) U ∧ ∃ v, gR g (gX g k) = some (Sg v (chars q.2.2))) ∧ (∀ k c, stC k = some c → gR g (gS g k) = some c) ∧
  (∀ q ∈ ([("jdk/internal/util/Preconditions", "SIOOBE_FORMATTER", "Ljava/util/function/BiFunction;"), ("java/lang/Throwable", "UNASSIGNED_STACK", "[Ljava/lang/StackTraceElement;"), ("java/lang/Throwable", "SUPPRESSED_SENTINEL", "Ljava/util/List;")] : List (String × String × String)), va_Zq q.1 q.2.1 q.2.2 (gA g) U U.heap)
theorem OkG.moved {g : GX} {s U : State} {H : Heap} {locs : List Loc} (h : OkG g s) (hW : s.WarmedH U.vm) (hU : U.heap = H) (hS : va_S (gA g) s.heap H locs) : OkG g U := by
  obtain ⟨h1, h2, h3, h4, h5, h6, h7⟩ := h
  have hl : ∀ q : Nat, q < s.heap.size → ¬ gA g q → U.heap[q]? = s.heap[q]? := fun q a b => by rw [hU]; exact hS.2.1 q a b
  exact ⟨va_K.moved hW.alike h1, fun w a b => nwk_warm b hW (h2 w a b), by rw [hU]; exact Nat.le_trans h3 hS.1, fun q a => ((h4 q a).moved hW.alike).kept hl, fun k q a => ⟨(h5 k q a).1.warm hW, (h5 k q a).2⟩, h6, fun q a => ((h7 q a).moved hW.alike).kept hl⟩
/-! THE JUDGEMENT: a method's walk over the abstract heap -/
/-- name, code, places of its locals, what it returns, its handlers -/
abbrev MI : Type := MethodName × ByteArray × Nat × Option FieldType × Option (List (Nat × Nat × Nat × Nat))
def wdM (M : MI) : Cond := match M.2.2.2.2 with
  | none => Cond.code M.1 M.2.1 M.2.2.1 M.2.2.2.1
  | some hh => Cond.codeWith M.1 M.2.1 M.2.2.1 M.2.2.2.1 hh
abbrev hhM (M : MI) : List (Nat × Nat × Nat × Nat) := M.2.2.2.2.getD []
def CX (g : GX) (M : MI) (p : Program) (s : State) (m : MethodId) (args : Array Value) (meth : Method) (c : Code) : Prop :=
  p.tables.exec = Jvm.exec ∧ c.code = M.2.1 ∧ c.maxLocals = M.2.2.1 ∧ meth.sig.returnType = M.2.2.2.1 ∧ meth.locks = false ∧ s.vm.findClass M.1.cls = some m.cls ∧ meth.name = M.1.name ∧ (∀ w ∈ lw_all, w.before args s = true) ∧ OkG g s ∧ c.exceptionTable.toList.map (fun h => (h.startPc, h.endPc, h.handlerPc, h.catchType)) = hhM M
/-- the end of a run: as FrameEnd has it, but that it may have thrown -/
def FE (first : State) (t : State) (L : List Loc) (k n : Nat) : Prop := first.WarmedH t.vm ∧ first.sameButNew ({ t with vm := first.vm } : State) L k n
def MQ2 (below : List Frame) (Qc : Array Value → State → Outcome → State → Prop) (a : Array Value) (s : State) (mc ms : Nat) (free : Addr → Prop) : State → Prop := fun t =>
  ∃ o, t.status = .running ∧ Ended t below o ∧ Qc a s o t ∧ ∃ L, FE s t L mc ms ∧ ∀ q ∈ L, free q.base
def QQ (g : GX) (Q : Outcome → AH → Prop) : Array Value → State → Outcome → State → Prop := fun _ st oc t => (∃ h', Q oc h' ∧ AR g h' t t.heap) ∧ va_F (gA g) st t
def XX (g : GX) (M : MI) (rm : Room) (Q : Outcome → AH → Prop) (k n pc : Nat) (L : List (Nat × Value)) (st : List Value) (h : AH) : Prop :=
  ∀ (p : Program) (l : Launch) (e : Env) (s : State) (m : MethodId) (args : Array Value) (below : List Frame) (meth : Method) (c : Code) (locs : List Loc) (H : Heap) (ls : Array Slot),
    CX g M p s m args meth c → lv_has ls M.2.2.1 L → AR g h s H → va_S (gA g) s.heap H locs →
    W p l e rm s m args below meth c H locs k n (MQ2 below (QQ g Q) args s rm.cells rm.slots (gA g)) (F0 m pc ls st)
/-- a contract: from this heap, with these arguments, the method comes to an end with Q -/
def MT (g : GX) (M : MI) (rm : Room) (av : List Value) (h : AH) (Q : Outcome → AH → Prop) : Prop :=
  ∀ l : Launch, MetFree l M.1 (headSpec (wdM M :: lw_all) rm) (va_Pc av (fun U => OkG g U ∧ AR g h U U.heap)) (fun _ _ _ _ _ => True) (fun a st o t => QQ g Q a st o t ∧ ∃ L, FE st t L rm.cells rm.slots ∧ ∀ q ∈ L, gA g q.base)
theorem W.mono {p : Program} {l : Launch} {e : Env} {R : Room} {s : State} {m : MethodId} {args : Array Value} {below : List Frame} {meth : Method} {c : Code} {H : Heap} {locs : List Loc} {cells slots : Nat} {Q Q' : State → Prop} {g : JFrame}
    (hq : ∀ t, Q t → Q' t) (k : W p l e R s m args below meth c H locs cells slots Q g) : W p l e R s m args below meth c H locs cells slots Q' g := fun T hT X => by
  obtain ⟨t, a, b⟩ := k T hT X
  exact ⟨t, a, hq t b⟩
/-- the method out of the walk of its body -/
theorem MT.of {g : GX} {M : MI} {rm : Room} {av : List Value} {h : AH} {Q : Outcome → AH → Prop} (hy : plainName M.1.cls = true) (hz : (lg_sl av).length ≤ M.2.2.1)
    (body : XX g M rm Q 0 0 0 (lv_args 0 av) [] h) : MT g M rm av h Q := by
  intro l
  have key : ∀ p e s m args below meth c s₁, BodyLoose p l M.1 (headSpec (wdM M :: lw_all) rm) M.2.1 M.2.2.1 M.2.2.2.1 e s m args below meth c s₁ → c.maxLocals = M.2.2.1 → c.exceptionTable.toList.map (fun h => (h.startPc, h.endPc, h.handlerPc, h.catchType)) = hhM M → va_Pc av (fun U => OkG g U ∧ AR g h U U.heap) args s →
      ∃ t o, Steps p.tables e below (s₁.setTop (entryFrame m args M.2.2.1)) t ∧ t.status = .running ∧ Ended t below o ∧ (QQ g Q args s o t ∧ ∃ L, FE s t L rm.cells rm.slots ∧ ∀ q ∈ L, gA g q.base) := by
    intro p e s m args below meth c s₁ B hml hex hP
    obtain ⟨rfl, hok, har⟩ := hP
    have hh0 : s₁.heap = s.heap := by rw [B.state]; rfl
    have hts := atoms_spec (ws := wdM M :: lw_all) B.pre
    have hin : meth.name = M.1.name := (name_of_methodNamed B.named B.method).1
    have hl := lv_entry av (n := M.2.2.1) hz
    obtain ⟨t, a1, o, b1, b2, b3⟩ := body p l e s m av.toArray below meth c [] s.heap _ ⟨B.exec, B.bytes, hml, B.returns, B.notSynchronized, findClass_of_methodNamed B.named, hin, fun w hw => hts w (List.mem_cons_of_mem _ hw), hok, hex⟩ hl har va_S.rf s₁ hh0 (Stand.of_body B)
    rw [← lg_entry_eq] at a1
    exact ⟨t, o, a1, b1, b2, b3⟩
  cases hM : M.2.2.2.2 with
  | none =>
    have hw : wdM M = Cond.code M.1 M.2.1 M.2.2.1 M.2.2.2.1 := by simp only [wdM, hM]
    refine MetFree.of_bodyS (code := M.2.1) (maxLocals := M.2.2.1) (ret := M.2.2.2.1) hy ?_ ?_
    · intro args s m h hn
      obtain ⟨meth, c, h1, h2, h3, h4, h5, h6, -, -⟩ := Cond.code_spec hn (by rw [← hw]; exact atoms_spec (ws := wdM M :: lw_all) h _ List.mem_cons_self)
      exact ⟨meth, c, h1, h2, h3, h4, h5, h6⟩
    · intro p e s m args below meth c s₁ B hml hP _
      refine key p e s m args below meth c s₁ B hml ?_ hP
      have hemp := B.noHandlers (by rw [← hw]; exact atoms_spec (ws := wdM M :: lw_all) B.pre _ List.mem_cons_self)
      rw [show hhM M = [] by simp only [hhM, hM]; rfl]
      simp only [Array.isEmpty_iff] at hemp
      rw [hemp]
      rfl
  | some hh =>
    have hw : wdM M = Cond.codeWith M.1 M.2.1 M.2.2.1 M.2.2.2.1 hh := by simp only [wdM, hM]
    refine MetFree.of_bodyS (code := M.2.1) (maxLocals := M.2.2.1) (ret := M.2.2.2.1) hy ?_ ?_
    · intro args s m h hn
      obtain ⟨m9, meth, c, hn9, h1, h2, h3, h4, -, h5, h6, -⟩ := Cond.codeWith_spec (by rw [← hw]; exact atoms_spec (ws := wdM M :: lw_all) h _ List.mem_cons_self)
      cases hn.symm.trans hn9
      exact ⟨meth, c, h1, h2, h3, h4, h5, h6⟩
    · intro p e s m args below meth c s₁ B hml hP _
      refine key p e s m args below meth c s₁ B hml ?_ hP
      obtain ⟨m9, meth', c', hn9, h1, h2, -, -, h4, -, -, -⟩ := Cond.codeWith_spec (by rw [← hw]; exact atoms_spec (ws := wdM M :: lw_all) B.pre _ List.mem_cons_self)
      cases B.named.symm.trans hn9
      cases B.method.symm.trans h1
      cases (Stand.of_body B).code.symm.trans h2
      rw [show hhM M = hh by simp only [hhM, hM]; rfl]
      exact h4
