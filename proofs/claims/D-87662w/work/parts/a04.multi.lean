set_option maxRecDepth 100000
/-! ARRAYS OF ARRAYS: two dimensions of ints, as the reference's constructor makes them -/
def gO (cA : ClassId) (N z i : Nat) : Cell := arrV cA N (fun j => if j < i then .ref (z + 1 + j) else .null)
def gI (cc : ClassId) (M : Nat) : Cell := arrV cc M (fun _ => .int 0)
/-- the state with i rows made -/
def gSt (s : State) (cA cc : ClassId) (N M : Nat) : Nat → State
  | 0 => s.pushCell (gO cA N s.heap.size 0)
  | i + 1 => ((gSt s cA cc N M i).pushCell (gI cc M)).setCell s.heap.size (gO cA N s.heap.size (i + 1))
theorem gO_0 (cA : ClassId) (N z : Nat) : gO cA N z 0 = arrV cA N (fun _ => .null) := by
  unfold gO
  congr 1
theorem gO_s (cA : ClassId) (N z i : Nat) : (gO cA N z i).setSlot i (.ref (z + 1 + i)) = gO cA N z (i + 1) := by
  unfold gO
  rw [arrV_store]
  congr 1
  funext j
  unfold updV
  by_cases h : j = i
  · subst h
    rw [if_pos rfl, if_pos (Nat.lt_succ_self j)]
  · rw [if_neg h]
    show (if j < i then Value.ref (z + 1 + j) else Value.null) = if j < i + 1 then Value.ref (z + 1 + j) else Value.null
    by_cases h2 : j < i
    · rw [if_pos h2, if_pos (by omega)]
    · rw [if_neg h2, if_neg (by omega)]
/-- what stands in it -/
theorem gSt_is (s : State) (cA cc : ClassId) (N M : Nat) : ∀ i, (gSt s cA cc N M i).vm = s.vm ∧ (gSt s cA cc N M i).slotsUsed = s.slotsUsed + N + i * M ∧ (gSt s cA cc N M i).heap.size = s.heap.size + 1 + i ∧
    (gSt s cA cc N M i).heap[s.heap.size]? = some (gO cA N s.heap.size i) ∧ (∀ a, a < s.heap.size → (gSt s cA cc N M i).heap[a]? = s.heap[a]?) ∧ ∀ j, j < i → (gSt s cA cc N M i).heap[s.heap.size + 1 + j]? = some (gI cc M)
  | 0 => ⟨rfl, by simp [gSt, gO, arrV_size], by simp [gSt], by simp [gSt], fun a ha => State.heap_pushCell_of_lt _ _ ha, fun j hj => absurd hj (Nat.not_lt_zero j)⟩
  | i + 1 => by
    obtain ⟨a1, a2, a3, a4, a5, a6⟩ := gSt_is s cA cc N M i
    have hz : s.heap.size < (gSt s cA cc N M i).heap.size := by omega
    have b4 : ((gSt s cA cc N M i).pushCell (gI cc M)).heap[s.heap.size]? = some (gO cA N s.heap.size i) := (State.heap_pushCell_of_lt _ _ hz).trans a4
    refine ⟨by simp [gSt, a1], ?_, ?_, State.heap_setCell_self b4, fun a ha => ?_, fun j hj => ?_⟩
    · simp [gSt, a2, gI, arrV_size, Nat.succ_mul]
      omega
    · simp [gSt, State.setCell, a3]
      omega
    · show (((gSt s cA cc N M i).pushCell (gI cc M)).setCell s.heap.size _).heap[a]? = _
      rw [State.heap_setCell_other (Nat.ne_of_gt ha)]
      exact (State.heap_pushCell_of_lt _ _ (show a < (gSt s cA cc N M i).heap.size by omega)).trans (a5 a ha)
    · show (((gSt s cA cc N M i).pushCell (gI cc M)).setCell s.heap.size _).heap[s.heap.size + 1 + j]? = _
      rw [State.heap_setCell_other (show s.heap.size ≠ s.heap.size + 1 + j by omega)]
      by_cases hji : j = i
      · subst hji
        rw [← a3]
        exact State.heap_pushCell_size _ _
      · exact (State.heap_pushCell_of_lt _ _ (show s.heap.size + 1 + j < (gSt s cA cc N M i).heap.size by omega)).trans (a6 j (by omega))
theorem gSt_top (s : State) (f : JFrame) (cA cc : ClassId) (N M : Nat) : ∀ i, gSt (s.setTop f) cA cc N M i = (gSt s cA cc N M i).setTop f
  | 0 => rfl
  | i + 1 => by simp only [gSt, gSt_top s f cA cc N M i, State.heap_setTop, State.pushCell_setTop, State.setCell_setTop]
section GW
variable {E : CtlPost} {e : Env} {d : Bool} {acts : List Action} {s : State}
theorem gw_new {c cc : ClassId} {k : Class} {ty : FieldType} {N : Nat} {v : Value} (hk : s.vm.classes[c]? = some k) (hkd : k.kind = .array cc ty) (h1 : ¬ N > e.platform.arrayLengthLimit) (h2 : ¬ N * componentBytes ty > e.platform.maxHeapBytes) (h3 : fits ty v = true) (h4 : v.isDefault = true)
    (h5 : s.heap.size < e.platform.maxCells) (h6 : s.slotsUsed + N ≤ e.platform.maxSlots) {Q : Addr → Pre} (hq : Q s.heap.size d acts (s.pushCell (arrV c N fun _ => v))) : wp (Jvm.newArray c N v) Q E e d acts s := by
  rw [← arrV_new] at hq
  have fit : ∀ i w, (Array.replicate N v)[i]? = some w → s.fitsSlot c .none i w = true := fun i w hw => by
    rw [Array.getElem?_replicate] at hw
    by_cases hi : i < N
    · rw [if_pos hi] at hw
      cases hw
      simp [State.fitsSlot, State.slotType?, hk, hkd, h3]
    · rw [if_neg hi] at hw
      cases hw
  have al : allocActs (Array.replicate N v) s.heap.size acts = acts := if_pos (by rw [Array.all_replicate]; split <;> simp [h4])
  simp only [Jvm.newArray, Jvm.arrayFits, wp_bind', Jvm.W.ask, Jvm.W.ite, h1, if_false, wp_pure', Jvm.W.theClass, hk, hkd, h2, Jvm.W.alloc, Jvm.W.stop, Option.some.injEq, exists_eq_left', Array.size_replicate, al]
  rw [if_neg (by omega)]
  exact ⟨h5, h6, fit, hq⟩
theorem gw_row {cc c0 : ClassId} {kc : Class} {m : Int32} {M : Nat} (hkc : s.vm.classes[cc]? = some kc) (hkd : kc.kind = .array c0 .int) (hm : ¬ m < 0) (hM : m.toNatClampNeg = M) (h1 : ¬ M > e.platform.arrayLengthLimit) (h2 : ¬ M * componentBytes .int > e.platform.maxHeapBytes)
    (h5 : s.heap.size < e.platform.maxCells) (h6 : s.slotsUsed + M ≤ e.platform.maxSlots) {Q : Addr → Pre} (hq : Q s.heap.size d acts (s.pushCell (gI cc M))) : wp (multianewarray.make cc [m]) Q E e d acts s := by
  subst hM
  rw [multianewarray.make]
  simp only [wp_bind', Jvm.W.ite, hm, if_false, wp_pure', Jvm.W.theClass, hkc, hkd, Option.some.injEq, exists_eq_left']
  exact gw_new hkc hkd h1 h2 rfl rfl h5 h6 hq
theorem gw_two {cA cc c0 : ClassId} {kA kc : Class} {n m : Int32} {N M : Nat} (hkA : s.vm.classes[cA]? = some kA) (hkdA : kA.kind = .array cc (.array .int)) (hkc : s.vm.classes[cc]? = some kc) (hkdc : kc.kind = .array c0 .int) (hn : ¬ n < 0) (hN : n.toNatClampNeg = N) (hm : ¬ m < 0) (hM : m.toNatClampNeg = M)
    (a1 : ¬ N > e.platform.arrayLengthLimit) (a2 : ¬ N * componentBytes (.array .int) > e.platform.maxHeapBytes) (b1 : ¬ M > e.platform.arrayLengthLimit) (b2 : ¬ M * componentBytes .int > e.platform.maxHeapBytes)
    (h5 : s.heap.size + 1 + N ≤ e.platform.maxCells) (h6 : s.slotsUsed + N + N * M ≤ e.platform.maxSlots) {Q : Addr → Pre} (hq : ∀ d' acts', Q s.heap.size d' acts' (gSt s cA cc N M N)) : wp (multianewarray.make cA [n, m]) Q E e d acts s := by
  have hnb : ([m].find? (· < 0)) = none := by simp [hm]
  have hpos := Nat.zero_le (N * M)
  rw [multianewarray.make]
  simp only [wp_bind', Jvm.W.ite, hn, if_false, wp_pure', Jvm.W.theClass, hkA, hkdA, Option.some.injEq, exists_eq_left', hN]
  refine gw_new hkA hkdA a1 a2 rfl rfl (by omega) (by omega) ?_
  simp only [hnb]
  rw [ite_self, wp_bind', Std.Legacy.Range.forIn_eq_forIn_range', show ([:N] : Std.Legacy.Range).size = N by simp [Std.Legacy.Range.size], ← gO_0 cA N s.heap.size]
  refine wp_forIn_inv (fun rest t => ∃ i, i ≤ N ∧ rest = List.range' i (N - i) ∧ t = gSt s cA cc N M i) _ _ ⟨0, Nat.zero_le N, rfl, rfl⟩ ?_ ?_
  · rintro x rest t d' acts' Q' ⟨i, hi, hl, rfl⟩ hnext
    have hlt : i < N := by
      apply Nat.lt_of_not_le
      intro z
      rw [show N - i = 0 by omega] at hl
      cases hl
    rw [show N - i = (N - (i + 1)) + 1 by omega, List.range'_succ] at hl
    obtain ⟨rfl, hrest⟩ := List.cons.inj hl
    obtain ⟨c1, c2, c3, c4, -, -⟩ := gSt_is s cA cc N M x
    have hmul : x * M + M ≤ N * M := by
      have := Nat.mul_le_mul_right M (show x + 1 ≤ N from hlt)
      rwa [Nat.succ_mul] at this
    have hz : s.heap.size < (gSt s cA cc N M x).heap.size := by omega
    simp only [wp_bind']
    refine gw_row (by rw [c1]; exact hkc) hkdc hm hM b1 b2 (by omega) (by omega) ?_
    simp only [wp_bind', Jvm.W.writeLoc, wp_pure']
    refine ⟨gO cA N s.heap.size x, (State.heap_pushCell_of_lt _ _ hz).trans c4, by simp [gO, arrV], by simp [gO, arrV_size, hlt], ?_, hnext _ _ _ ⟨x + 1, hlt, hrest, ?_⟩⟩
    · simp [gO, arrV, State.fitsSlot, State.slotType?, c1, hkA, hkdA]
      rfl
    · rw [c3, gO_s]
      rfl
  · rintro t d' acts' ⟨i, hi, hl, rfl⟩
    have hiN : i = N := by
      apply Nat.le_antisymm hi
      apply Nat.le_of_not_lt
      intro z
      rw [show N - i = (N - (i + 1)) + 1 by omega, List.range'_succ] at hl
      cases hl
    subst hiN
    simp only [wp_pure']
    exact hq _ _
end GW
section GS
variable {p : Program} {l : Launch} {e : Env} {R : Room} {s : State} {m : MethodId} {args : Array Value} {below : List Frame} {meth : Method} {c : Code} {T : State} {locs : List Loc} {cells slots : Nat}
theorem gSt_stand (X : Stand p l e R s m args below meth c T locs cells slots) (cA cc : ClassId) (N M : Nat) : ∀ i, ∃ locs', Stand p l e R s m args below meth c (gSt T cA cc N M i) locs' (cells + 1 + i) (slots + N + i * M) ∧ ∀ x ∈ locs', x ∈ locs ∨ x.base = T.heap.size
  | 0 => by
    have h := X.pushed (gO cA N T.heap.size 0)
    rw [show (gO cA N T.heap.size 0).slots.size = N from arrV_size _ _ _] at h
    exact ⟨locs, by simpa [gSt] using h, fun x hx => Or.inl hx⟩
  | i + 1 => by
    obtain ⟨L', hX, hL⟩ := gSt_stand X cA cc N M i
    obtain ⟨-, -, c3, c4, -, -⟩ := gSt_is T cA cc N M i
    have hz : T.heap.size < (gSt T cA cc N M i).heap.size := by omega
    have h := (hX.pushed (gI cc M)).stored ((State.heap_pushCell_of_lt _ _ hz).trans c4) i (.ref (T.heap.size + 1 + i))
    rw [gO_s, show (gI cc M).slots.size = M from arrV_size _ _ _] at h
    refine ⟨L' ++ [⟨T.heap.size, i⟩], ?_, fun x hx => ?_⟩
    · rw [show slots + N + (i + 1) * M = slots + N + i * M + M by rw [Nat.succ_mul]; omega]
      exact h
    · rcases List.mem_append.mp hx with z | z
      · exact hL x z
      · exact Or.inr (by rw [List.mem_singleton.mp z])
theorem W_multi {H : Heap} {Q : State → Prop} {cc' : ByteArray} (hexec : p.tables.exec = Jvm.exec) (hb : c.code = cc') {own : String} {index : Nat} (hown : s.vm.findClass own = some m.cls) (hclink : (Cond.classLink own index "[[I").before args s = true) {cA cc c0 : ClassId} {kA kc : Class}
    (hfA : s.vm.findClass "[[I" = some cA) (hkA : s.vm.classes[cA]? = some kA) (hkdA : kA.kind = .array cc (.array .int)) (hkc : s.vm.classes[cc]? = some kc) (hkdc : kc.kind = .array c0 .int)
    {g : JFrame} (hg : g.method = m) (hdg : decode cc' g.pc = .ok (.multianewarray index 2, 4)) {N M : Nat} {rest : List Value} (hstack : g.stack = .int (nI M) :: .int (nI N) :: rest) (hN : N < 60000000) (hM : M < 60000000) (hcells : cells + (1 + N) ≤ R.cells) (hslots : slots + (N + N * M) ≤ R.slots)
    (kk : ∀ (H' : Heap) (locs' : List Loc), (∀ x ∈ locs', x ∈ locs ∨ x.base = H.size) → H'.size = H.size + 1 + N → H'[H.size]? = some (gO cA N H.size N) → (∀ a, a < H.size → H'[a]? = H[a]?) → (∀ j, j < N → H'[H.size + 1 + j]? = some (gI cc M)) →
      W p l e R s m args below meth c H' locs' (cells + 1 + N) (slots + N + N * M) Q { g with pc := g.pc + 4, stack := .ref H.size :: rest }) : W p l e R s m args below meth c H locs cells slots Q g := by
  intro T hT X
  subst hT
  subst hb
  subst hg
  have hpl : e.platform.magicAccessors = ({} : Platform).magicAccessors := by rw [X.admits.platform]
  obtain ⟨c1, hf1, hcl⟩ := Cond.classLink_spec hown hclink e.platform hpl
  cases hfA.symm.trans hf1
  obtain ⟨hg1, hw1, hr1⟩ := State.classEntry (e := e) X.warmed hcl
  generalize T.vm.noted g.method.cls index (.cls cA) = vm1 at hg1 hw1 hr1
  obtain ⟨kA1, hkA1, eA⟩ := hw1.alike.2.2 _ _ hkA
  obtain ⟨kc1, hkc1, ec⟩ := hw1.alike.2.2 _ _ hkc
  have X1 := X.noted hw1
  obtain ⟨r1, r2⟩ := X.roomAbove hcells hslots
  obtain ⟨L', XF, hL'⟩ := gSt_stand X1 cA cc N M N
  obtain ⟨-, -, f3, f4, f5, f6⟩ := gSt_is (T.setVm vm1) cA cc N M N
  obtain ⟨t, st, hq⟩ := kk (gSt (T.setVm vm1) cA cc N M N).heap L' hL' f3 f4 f5 f6 _ rfl XF
  refine ⟨t, ?_, hq⟩
  have a1 : ¬ N > e.platform.arrayLengthLimit := by rw [Launch.admits_arrayLengthLimit X.admits]; omega
  have a2 : ¬ N * componentBytes (.array .int) > e.platform.maxHeapBytes := by rw [Launch.admits_maxHeapBytes X.admits]; show ¬ N * 4 > 536870912; omega
  have b1 : ¬ M > e.platform.arrayLengthLimit := by rw [Launch.admits_arrayLengthLimit X.admits]; omega
  have b2 : ¬ M * componentBytes .int > e.platform.maxHeapBytes := by rw [Launch.admits_maxHeapBytes X.admits]; show ¬ M * 4 > 536870912; omega
  jvm_step X.here [hexec, hdg]
  simp only [multianewarray.sem, wp_bind', Jvm.W.resolveClassAt_links (State.method?_setTop g X.here.top) hg1]
  rw [Jvm.W.popN, if_neg (by decide)]
  refine ⟨g, State.topJava?_setTop' (s := T.setVm vm1) g X.here.top, [.int (nI N), .int (nI M)], rest, rfl, hstack, ?_⟩
  simp only [List.mapM_cons, List.mapM_nil, wp_bind', wp_pure']
  have h8 : T.heap.size + 1 + N ≤ e.platform.maxCells := by omega
  have h9 : T.slotsUsed + N + N * M ≤ e.platform.maxSlots := by omega
  refine gw_two (kA := kA1) (kc := kc1) (c0 := c0) (N := N) (M := M) hkA1 (by rw [eA]; exact hkdA) hkc1 (by rw [ec]; exact hkdc) (nI_pos (by omega)) (nI_clamp (by omega)) (nI_pos (by omega)) (nI_clamp (by omega)) a1 a2 b1 b2 (by exact h8) (by exact h9) (fun d' acts' => ?_)
  have eS : ((T.setTop g).setVm vm1).setTop { g with stack := rest } = (T.setVm vm1).setTop { g with stack := rest } := by
    show ((T.setVm vm1).setTop g).setTop _ = _
    rw [State.setTop_setTop]
  rw [eS, gSt_top]
  simp only [wp_bind', Jvm.W.mark, Jvm.W.pushRef, State.topJava?_setTop' _ XF.here.top, Option.some.injEq, exists_eq_left', State.setTop_setTop, State.heap_setTop]
  intro acts
  simp [jvm, XF.here.top]
  exact st
end GS
