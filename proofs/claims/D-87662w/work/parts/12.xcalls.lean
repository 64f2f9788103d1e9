set_option maxRecDepth 100000
section XC
variable {g : GX} {M M' : MI} {rm rm' : Room} {Q Q' : Outcome → AH → Prop} {k n pc : Nat} {L : List (Nat × Value)} {st rest : List Value} {h : AH}
theorem wdM_spec {args : Array Value} {s : State} {mk : MethodId} (hn : s.methodNamed? M'.1 = some mk) (hw : (wdM M').before args s = true) : ∃ meth c, s.vm.method? mk = some meth ∧ meth.code = some c ∧ c.maxLocals = M'.2.2.1 ∧ parseMethodDescriptor M'.1.desc = some meth.sig := by
  unfold wdM at hw
  split at hw
  · obtain ⟨meth, c, h1, h2, -, h4, -, -, -, h8⟩ := Cond.code_spec hn hw
    exact ⟨meth, c, h1, h2, h4, h8⟩
  · obtain ⟨m9, meth, c, hn9, h1, h2, -, h4, -, -, -, h8⟩ := Cond.codeWith_spec hw
    cases hn.symm.trans hn9
    exact ⟨meth, c, h1, h2, h4, h8⟩
theorem words_at {s U : State} {args a' : Array Value} (hts : ∀ w ∈ lw_all, w.before args s = true) (hW : s.WarmedH U.vm) : ∀ w ∈ lw_all, w.before a' U = true := fun w hw => word_at hW (lw_self w hw).2 (hts w hw)
/-- the state with an exception on its way over this method's frame -/
def XT (g : GX) (M : MI) (rm : Room) (Q : Outcome → AH → Prop) (k n pc : Nat) (L : List (Nat × Value)) (x : Nat) (h : AH) : Prop :=
  ∀ (p : Program) (l : Launch) (e : Env) (s : State) (m : MethodId) (args : Array Value) (below : List Frame) (meth : Method) (c : Code) (locs : List Loc) (H : Heap) (ls : Array Slot) (rest : List Value),
    CX g M p s m args meth c → lv_has ls M.2.2.1 L → AR g h s H → va_S (gA g) s.heap H locs →
    ∀ T : State, T.heap = H → Stand p l e rm s m args below meth c T locs k n → ∃ t, Steps p.tables e below ((T.setTop (F0 m pc ls rest)).pushFrame (.throwing x)) t ∧ MQ2 below (QQ g Q) args s rm.cells rm.slots (gA g) t
theorem X_into {p : Program} {l : Launch} {e : Env} {R : Room} {s : State} {m : MethodId} {args : Array Value} {below : List Frame} {meth : Method} {c : Code} {U : State} {locs : List Loc} {cells slots : Nat}
    (X : Stand p l e R s m args below meth c U locs cells slots) {f : JFrame} (hf : f.method = m) (hsize : f.locals.size = c.maxLocals) {ig : Instr} {len : Nat} (hdg : decode c.code f.pc = .ok (ig, len)) {mk : MethodId} {a : List Value}
    (hn : U.methodNamed? M'.1 = some mk) (hM : MT g M' rm' a h Q') (hwd : (wdM M').before a.toArray U = true) (hws : ∀ w ∈ lw_all, w.before a.toArray U = true) (hini : (Cond.initialized M'.1.cls).before a.toArray U = true) (hok : OkG g U) (har : AR g h U U.heap)
    (hfr : rm'.frames + 1 ≤ R.frames) (hlo : 2 * f.monitorRoom + (f.stack.map fun v => v.category).sum + (M'.2.2.1 + 11) + rm'.locals ≤ R.locals) (hc : cells + rm'.cells ≤ R.cells) (hs : slots + rm'.slots ≤ R.slots) :
    ∃ o t, Steps p.tables e below (doInvoke e (U.setTop f) [] mk a.toArray).1 t ∧ Ended t (.java f :: below) o ∧ QQ g Q' a.toArray (U.calling f mk a.toArray) o t ∧ ∃ L, FE (U.calling f mk a.toArray) t L rm'.cells rm'.slots ∧ ∀ q ∈ L, gA g q.base := by
  obtain ⟨methY, cY, hmY, hcY, hlY, -⟩ := wdM_spec hn hwd
  obtain ⟨kY, hkY, -⟩ := className_of_methodNamed hn
  have hinitY : kY.init = .initialized := Cond.initialized_spec (findClass_of_methodNamed hn) hkY hini
  have hat : At U f.method c below := by rw [hf]; exact X.here
  have hpre : (headSpec (wdM M' :: lw_all) rm').pre.before a.toArray U = true := atoms_intro fun w hw => by
    rcases List.mem_cons.mp hw with rfl | hw
    · exact hwd
    · exact hws w hw
  have happ : (headSpec (wdM M' :: lw_all) rm').appliesLoose M'.1 e.platform (U.calling f mk a.toArray) = true :=
    Spec.appliesLoose_calling (g := f) hat hdg hn hkY hinitY (X.room_calling (g := f) (R' := (headSpec (wdM M' :: lw_all) rm').room) hsize hmY hcY hfr (by rw [hlY]; exact hlo) hc hs) hpre
  obtain ⟨mid, hmid⟩ := hat.above
  have hfrm : (U.setTop f).frames = (.java f :: mid) ++ below := by rw [State.frames_setTop' f hat.top, hmid]; rfl
  have hP : va_Pc a (fun U => OkG g U ∧ AR g h U U.heap) a.toArray (U.calling f mk a.toArray) :=
    ⟨rfl, OkG.moved (s := U) (U := U.calling f mk a.toArray) hok (State.WarmedH.refl U) rfl va_S.rf, har.moved (u := U) (U := U.calling f mk a.toArray) (Vm.Alike.refl U.vm)⟩
  obtain ⟨o, s₂, hsteps, -, hend, hq⟩ := Steps.callFree (hM l) p X.admits X.cas X.clock (acts := []) hfrm happ hP trivial
  rw [State.frames_setTop' f hat.top, X.tail] at hend
  exact ⟨o, s₂, hsteps, hend, hq.1, hq.2⟩
theorem va_S.after {H0 H H1 : Heap} {locs L1 : List Loc} {A : Nat → Prop} (hS : va_S A H0 H locs) (hz : H.size ≤ H1.size) (hk : ∀ q : Nat, q < H.size → ¬ A q → H1[q]? = H[q]?) (hL : ∀ q ∈ L1, A q.base) : va_S A H0 H1 (locs ++ L1) :=
  ⟨Nat.le_trans hS.1 hz, fun q h1 h2 => by rw [hk q (Nat.lt_of_lt_of_le h1 hS.1) h2]; exact hS.2.1 q h1 h2, fun q hq => by
    rcases List.mem_append.mp hq with h | h
    · exact hS.2.2 q h
    · exact hL q h⟩
/-- a call, from the state in which the callee has been found -/
theorem X_callG {p : Program} {l : Launch} {e : Env} {s : State} {m : MethodId} {args : Array Value} {below : List Frame} {meth : Method} {c : Code} {locs : List Loc} {H : Heap} {ls : Array Slot}
    (C : CX g M p s m args meth c) (hl : lv_has ls M.2.2.1 L) (hA : AR g h s H) (hS : va_S (gA g) s.heap H locs) {T : State} (hT : T.heap = H) {vm₁ : Vm} (X₁ : Stand p l e rm s m args below meth c (T.setVm vm₁) locs k n)
    {ig : Instr} (hdg : decode M.2.1 pc = .ok (ig, 3)) {mk : MethodId} {a : List Value} (hn : (T.setVm vm₁).methodNamed? M'.1 = some mk) (hM : MT g M' rm' a h Q') (hwd : wdM M' ∈ lw_all) (hini : Cond.initialized M'.1.cls ∈ lw_all)
    (hfr : rm'.frames + 1 ≤ rm.frames) (hlo : (rest.map fun v => v.category).sum + (M'.2.2.1 + 11) + rm'.locals ≤ rm.locals) (hc : k + rm'.cells ≤ rm.cells) (hs : n + rm'.slots ≤ rm.slots)
    (kr : ∀ v h', Q' (.returned v) h' → XX g M rm Q (k + rm'.cells) (n + rm'.slots) (pc + 3) L (v.toList ++ rest) h')
    (kt : ∀ x h', Q' (.threw x) h' → XT g M rm Q (k + rm'.cells) (n + rm'.slots) pc L x h') :
    ∃ t, Steps p.tables e below (doInvoke e ((T.setVm vm₁).setTop (F0 m pc ls rest)) [] mk a.toArray).1 t ∧ MQ2 below (QQ g Q) args s rm.cells rm.slots (gA g) t := by
  have hW := X₁.warmed
  have hws := words_at (a' := a.toArray) C.ws hW
  have hok : OkG g (T.setVm vm₁) := C.ok.moved hW hT hS
  have har : AR g h (T.setVm vm₁) (T.setVm vm₁).heap := by
    have := hA.moved hW.alike
    rw [← hT] at this
    exact this
  have hdg' : decode c.code (F0 m pc ls rest).pc = .ok (ig, 3) := by rw [C.2.1]; exact hdg
  obtain ⟨o, t, hst, hend, ⟨⟨h', hq, har'⟩, hF⟩, L1, hFE, hL1⟩ := X_into (f := F0 m pc ls rest) X₁ rfl (by rw [C.2.2.1]; exact hl.1) hdg' hn hM (hws _ hwd) hws (hws _ hini) hok har hfr (by simpa [JFrame.monitorRoom] using hlo) hc hs
  have hz : H.size ≤ t.heap.size := by rw [← hT]; exact hF.1
  have hk : ∀ q : Nat, q < H.size → ¬ gA g q → t.heap[q]? = H[q]? := by rw [← hT]; exact hF.2
  have hS' : va_S (gA g) s.heap t.heap (locs ++ L1) := hS.after hz hk hL1
  cases o with
  | returned v =>
    obtain ⟨T', X', hW', -, ht⟩ := X₁.outOf (g := F0 m pc ls rest) rfl hdg' hend hFE.1 hFE.2
    have hTh : T'.heap = t.heap := by rw [ht]; rfl
    have hal : t.vm.Alike s.vm := by
      have : t.vm = T'.vm := by rw [ht]; rfl
      rw [this]
      exact X'.warmed.alike.symm
    obtain ⟨t2, a1, b1⟩ := kr v h' hq p l e s m args below meth c (locs ++ L1) t.heap ls C hl (har'.moved hal) hS' T' hTh X'
    rw [ht] at hst
    exact ⟨t2, hst.trans a1, b1⟩
  | threw x =>
    obtain ⟨T', X', hW', -, ht⟩ := X₁.outOfThrown (g := F0 m pc ls rest) rfl hend hFE.1 hFE.2
    have hTh : T'.heap = t.heap := by rw [ht, Stand.throwing_heap]
    have hal : t.vm.Alike s.vm := by
      have : t.vm = T'.vm := by rw [ht, Stand.throwing_vm]
      rw [this]
      exact X'.warmed.alike.symm
    obtain ⟨t2, a1, b1⟩ := kt x h' hq p l e s m args below meth c (locs ++ L1) t.heap ls rest C hl (har'.moved hal) hS' T' hTh X'
    rw [ht] at hst
    exact ⟨t2, hst.trans a1, b1⟩
/-- entry idx of the class own, on an object of class ci, calls M' -/
def CV (own : String) (idx ci : Nat) (M' : MI) : Prop := ∃ (D : String) (T : u_T) (N : Nat), vwCl[ci]? = some (D, T, N) ∧ wdM M' ∈ lw_all ∧ Cond.initialized M'.1.cls ∈ lw_all ∧ Cond.instanceMethod M'.1 ∈ lw_all ∧
  ((Cond.methodLink own idx M'.1 ∈ lw_all ∧ Cond.selects D M'.1 M'.1 ∈ lw_all ∧ M'.1.cls ≠ "java/lang/invoke/MethodHandle" ∧ M'.1.cls ≠ "java/lang/invoke/VarHandle") ∨
    ∃ (x : MethodName) (owner : String), Cond.methodLink own idx x ∈ lw_all ∧ Cond.sameMethod x.cls owner x.name x.desc ∈ lw_all ∧ (Cond.declares ⟨owner, x.name, x.desc⟩ ∈ lw_tbl ∨ M'.1 = ⟨owner, x.name, x.desc⟩) ∧ Cond.selects D x M'.1 ∈ lw_all ∧ x.desc = M'.1.desc ∧ owner ≠ "java/lang/invoke/MethodHandle" ∧ owner ≠ "java/lang/invoke/VarHandle")
theorem X_invokevirtual {idx ci b : Nat} {fs : List Value} (As : List Value) (hdg : decode M.2.1 pc = .ok (.invokevirtual idx, 3)) (V : CV M.1.cls idx ci M') (hb : h b = some (Ob ci fs)) (hst : st = As.reverse ++ .ref b :: rest)
    (hM : MT g M' rm' (.ref b :: As) h Q') (hna : (parseMethodDescriptor M'.1.desc).map (fun d => d.parameters.length) = some As.length) (hfr : rm'.frames + 1 ≤ rm.frames) (hlo : (rest.map fun v => v.category).sum + (M'.2.2.1 + 11) + rm'.locals ≤ rm.locals) (hc : k + rm'.cells ≤ rm.cells) (hs : n + rm'.slots ≤ rm.slots)
    (kr : ∀ v h', Q' (.returned v) h' → XX g M rm Q (k + rm'.cells) (n + rm'.slots) (pc + 3) L (v.toList ++ rest) h')
    (kt : ∀ x h', Q' (.threw x) h' → XT g M rm Q (k + rm'.cells) (n + rm'.slots) pc L x h') : XX g M rm Q k n pc L st h := by
  intro p l e s m args below meth c locs H ls C hl hA hS
  intro T hT X
  subst hst
  obtain ⟨D, Tt, N, h1, hwd, hini, hinst, hh⟩ := V
  obtain ⟨q0, hq0⟩ := hA.at hb rfl
  obtain ⟨cellB, hcB, hoB, hclB⟩ := va_recv C.K hA.P h1 hq0
  have hcell : T.heap[b]? = some cellB := by rw [hT]; exact hcB
  have hobj : ∀ z, cellB.vm ≠ .statics z := fun z h => by rw [h] at hoB; cases hoB
  obtain ⟨mk, methM, hnamed, hmethM, hstM, habM⟩ := Cond.instanceMethod_spec (C.ws _ hinst)
  obtain ⟨methY, cY, hmY, -, -, hsigY⟩ := wdM_spec hnamed (C.ws _ hwd)
  cases hmethM.symm.trans hmY
  have hlenM : As.length = methM.sig.parameters.length := by
    rw [hsigY] at hna
    exact (Option.some.inj hna).symm
  have hdc : decode c.code (F0 m pc ls (As.reverse ++ .ref b :: rest)).pc = .ok (.invokevirtual idx, 3) := by rw [C.2.1]; exact hdg
  rcases hh with ⟨hlink, hsel, hy⟩ | ⟨x, owner, hlink, hsame, hdecl, hsel, hdesc, hy⟩
  · obtain ⟨c2, r2, m2, q1, q2, q3, q4, kP, hkP, hkPi⟩ := Cond.selects_spec (C.ws _ hsel)
    cases hclB.symm.trans q1
    cases (State.methodFound?_of_named hnamed hy).symm.trans q2
    cases hnamed.symm.trans q3
    have hselP : selectMethod e.platform s.vm cellB.cls mk = .method mk := by rw [Launch.admits_selectMethod X.admits]; exact q4
    obtain ⟨vm₁, X₁, hstep⟩ := X.invokevirtual C.1 C.own (C.ws _ hlink) hnamed hmethM hstM hkP hkPi hy (a := b) (cell := cellB) hcell hobj hselP hmethM habM hkP hkPi (g := F0 m pc ls (As.reverse ++ .ref b :: rest)) rfl (argsL := As) (rest := rest) hlenM rfl hdc
    obtain ⟨t, a1, b1⟩ := X_callG C hl hA hS hT X₁ hdg (X₁.named hnamed) hM hwd hini hfr hlo hc hs kr kt
    exact ⟨t, hstep t fun acts => by rw [doInvoke_state]; exact a1, b1⟩
  · have hd0 : va_Decl s ⟨owner, x.name, x.desc⟩ := by
      rcases hdecl with hd | hd
      · exact va_Decl.abs (C.ok.2.1 _ hd rfl)
      · refine ⟨mk, methM, by rw [← hd]; exact hnamed, hmethM, hstM, ?_⟩
        show parseMethodDescriptor x.desc = some methM.sig
        rw [hdesc]
        exact hsigY
    obtain ⟨r0, r, hn, hrm, hstR, hsigR⟩ := hd0
    obtain ⟨cn, ck, r1, hcn, hck, hni, hf, hn1⟩ := Cond.sameMethod_found (C.ws _ hsame)
    cases hn.symm.trans hn1
    obtain ⟨c2, r2, m2, q1, q2, q3, q4, kP, hkP, hkPi⟩ := Cond.selects_spec (C.ws _ hsel)
    cases hclB.symm.trans q1
    cases hf.symm.trans q2
    cases hnamed.symm.trans q3
    have hselP : selectMethod e.platform s.vm cellB.cls r0 = .method mk := by rw [Launch.admits_selectMethod X.admits]; exact q4
    have hlenR : As.length = r.sig.parameters.length := by
      have hsr : parseMethodDescriptor x.desc = some r.sig := hsigR
      rw [hdesc, hsigY] at hsr
      rw [← Option.some.inj hsr]
      exact hlenM
    obtain ⟨vm₁, X₁, hstep⟩ := X.invokevirtualUp C.1 C.own (C.ws _ hlink) (C.ws _ hsame) hy hn hrm hstR (a := b) (cell := cellB) hcell hobj hselP hmethM habM hkP hkPi (g := F0 m pc ls (As.reverse ++ .ref b :: rest)) rfl (argsL := As) (rest := rest) hlenR rfl hdc
    obtain ⟨t, a1, b1⟩ := X_callG C hl hA hS hT X₁ hdg (X₁.named hnamed) hM hwd hini hfr hlo hc hs kr kt
    exact ⟨t, hstep t fun acts => by rw [doInvoke_state]; exact a1, b1⟩
def CS (own : String) (idx : Nat) (M' : MI) : Prop := wdM M' ∈ lw_all ∧ Cond.initialized M'.1.cls ∈ lw_all ∧ Cond.static M'.1 ∈ lw_all ∧ Cond.methodLink own idx M'.1 ∈ lw_all ∧ M'.1.cls ≠ "java/lang/invoke/MethodHandle" ∧ M'.1.cls ≠ "java/lang/invoke/VarHandle"
theorem X_invokestatic {idx : Nat} (As : List Value) (hdg : decode M.2.1 pc = .ok (.invokestatic idx, 3)) (V : CS M.1.cls idx M') (hst : st = As.reverse ++ rest)
    (hM : MT g M' rm' As h Q') (hna : (parseMethodDescriptor M'.1.desc).map (fun d => d.parameters.length) = some As.length) (hfr : rm'.frames + 1 ≤ rm.frames) (hlo : (rest.map fun v => v.category).sum + (M'.2.2.1 + 11) + rm'.locals ≤ rm.locals) (hc : k + rm'.cells ≤ rm.cells) (hs : n + rm'.slots ≤ rm.slots)
    (kr : ∀ v h', Q' (.returned v) h' → XX g M rm Q (k + rm'.cells) (n + rm'.slots) (pc + 3) L (v.toList ++ rest) h')
    (kt : ∀ x h', Q' (.threw x) h' → XT g M rm Q (k + rm'.cells) (n + rm'.slots) pc L x h') : XX g M rm Q k n pc L st h := by
  intro p l e s m args below meth c locs H ls C hl hA hS
  intro T hT X
  subst hst
  obtain ⟨hwd, hini, hstat, hlink, hy⟩ := V
  have hcodeN : ∃ mk, s.methodNamed? M'.1 = some mk := by
    have hw := C.ws _ hwd
    unfold wdM at hw
    split at hw
    · exact Cond.code_named hw
    · obtain ⟨m9, meth, c, hn9, -⟩ := Cond.codeWith_spec hw
      exact ⟨m9, hn9⟩
  obtain ⟨mk, hnamed⟩ := hcodeN
  obtain ⟨methM, cY, hmethM, -, -, hsigY⟩ := wdM_spec hnamed (C.ws _ hwd)
  have hlenM : As.length = methM.sig.parameters.length := by
    rw [hsigY] at hna
    exact (Option.some.inj hna).symm
  have hstatic : methM.isStatic = true := Cond.static_spec hnamed hmethM (C.ws _ hstat)
  obtain ⟨kP, hkP, -⟩ := className_of_methodNamed hnamed
  have hinitP : kP.init = .initialized := Cond.initialized_spec (findClass_of_methodNamed hnamed) hkP (C.ws _ hini)
  have hdc : decode c.code (F0 m pc ls (As.reverse ++ rest)).pc = .ok (.invokestatic idx, 3) := by rw [C.2.1]; exact hdg
  obtain ⟨vm₁, X₁, hstep⟩ := X.invokestatic C.1 C.own (C.ws _ hlink) hnamed hmethM hstatic hkP hinitP hy (g := F0 m pc ls (As.reverse ++ rest)) rfl (argsL := As) (rest := rest) hlenM rfl hdc
  obtain ⟨t, a1, b1⟩ := X_callG C hl hA hS hT X₁ hdg (X₁.named hnamed) hM hwd hini hfr hlo hc hs kr kt
  exact ⟨t, hstep t fun acts => by rw [doInvoke_state]; exact a1, b1⟩
def CI (own : String) (idx : Nat) (M' : MI) : Prop := M'.2.2.2.2 = none ∧ M'.2.2.2.1 = none ∧ wdM M' ∈ lw_all ∧ Cond.initialized M'.1.cls ∈ lw_all ∧ Cond.instanceMethod M'.1 ∈ lw_all ∧ M'.1.name = "<init>" ∧ Cond.methodLink own idx M'.1 ∈ lw_all ∧ M'.1.cls ≠ "java/lang/invoke/MethodHandle" ∧ M'.1.cls ≠ "java/lang/invoke/VarHandle"
theorem X_invokespecial {idx b : Nat} (As : List Value) (hdg : decode M.2.1 pc = .ok (.invokespecial idx, 3)) (V : CI M.1.cls idx M') (hst : st = As.reverse ++ .ref b :: rest)
    (hM : MT g M' rm' (.ref b :: As) h Q') (hna : (parseMethodDescriptor M'.1.desc).map (fun d => d.parameters.length) = some As.length) (hfr : rm'.frames + 1 ≤ rm.frames) (hlo : (rest.map fun v => v.category).sum + (M'.2.2.1 + 11) + rm'.locals ≤ rm.locals) (hc : k + rm'.cells ≤ rm.cells) (hs : n + rm'.slots ≤ rm.slots)
    (kr : ∀ v h', Q' (.returned v) h' → XX g M rm Q (k + rm'.cells) (n + rm'.slots) (pc + 3) L (v.toList ++ rest) h')
    (kt : ∀ x h', Q' (.threw x) h' → XT g M rm Q (k + rm'.cells) (n + rm'.slots) pc L x h') : XX g M rm Q k n pc L st h := by
  intro p l e s m args below meth c locs H ls C hl hA hS
  intro T hT X
  subst hst
  obtain ⟨hnh, hnr, hwd, hini, hinst, hy1, hlink, hy⟩ := V
  have hcode : (Cond.code M'.1 M'.2.1 M'.2.2.1 none).before args s = true := by
    have hw := C.ws _ hwd
    unfold wdM at hw
    rw [hnh, hnr] at hw
    exact hw
  have hpl : e.platform.magicAccessors = ({} : Platform).magicAccessors := by rw [X.admits.platform]
  have hdc : decode c.code (F0 m pc ls (As.reverse ++ .ref b :: rest)).pc = .ok (.invokespecial idx, 3) := by rw [C.2.1]; exact hdg
  obtain ⟨mk, methM, cM, kP, vm₁, hnamed, hmethM, hcodeM, -, hlocalsM, -, hkP, -, hW₁, hstep⟩ := Steps.initColdArgs (e := e) X.here C.1 X.warmed hpl C.own hy1 hy (C.ws _ hlink) (C.ws _ hinst) hcode (f := F0 m pc ls (As.reverse ++ .ref b :: rest)) rfl (fun sig h => by rw [h] at hna; exact (Option.some.inj hna).symm) rfl hdc
  have X₁ := X.noted hW₁
  obtain ⟨t, a1, b1⟩ := X_callG C hl hA hS hT X₁ hdg (X₁.named hnamed) hM hwd hini hfr hlo hc hs kr kt
  exact ⟨t, hstep t fun acts => by rw [doInvoke_state]; exact a1, b1⟩
/-- an exception goes out of a method without a handler there -/
theorem XT_out {x : Nat} (hh : ∀ q ∈ hhM M, ¬ (q.1 ≤ pc ∧ pc < q.2.1)) (hk : k ≤ rm.cells) (hn : n ≤ rm.slots) (hq : Q (.threw x) h) : XT g M rm Q k n pc L x h := by
  intro p l e s m args below meth c locs H ls rest C hl hA hS T hT X
  have X' := stand_widen X hk hn
  have hout : ∀ q ∈ c.exceptionTable.toList, covers q (F0 m pc ls rest).pc = false := fun q hq => by
    have hm : (q.startPc, q.endPc, q.handlerPc, q.catchType) ∈ hhM M := by
      rw [← C.2.2.2.2.2.2.2.2.2]
      exact List.mem_map.mpr ⟨q, hq, rfl⟩
    have := hh _ hm
    dsimp only at this
    simp only [covers]
    simp only [Bool.and_eq_false_iff, decide_eq_false_iff_not]
    omega
  obtain ⟨a1, a2, a3, a4, a5⟩ := X'.leaveThrown x (g := F0 m pc ls rest) rfl rfl rfl hout C.2.2.2.2.1
  exact ⟨_, a1, .threw x, a2, a3, (QQ.of (p := p) (m := m) (meth := meth) (c := c) hA hS hq) _ hT a4, locs, ⟨a4, a5⟩, hS.2.2⟩
theorem X_athrow {x : Nat} (hdg : decode M.2.1 pc = .ok (.athrow, 1)) (hh : hhM M = []) (hk : k ≤ rm.cells) (hn : n ≤ rm.slots) (hq : Q (.threw x) h) : XX g M rm Q k n pc L (.ref x :: st) h := by
  intro p l e s m args below meth c locs H ls C hl hA hS T hT X
  have X' := stand_widen X hk hn
  have hout : ∀ q ∈ c.exceptionTable.toList, covers q (F0 m pc ls (.ref x :: st)).pc = false := fun q hq => by
    have hm : (q.startPc, q.endPc, q.handlerPc, q.catchType) ∈ hhM M := by
      rw [← C.2.2.2.2.2.2.2.2.2]
      exact List.mem_map.mpr ⟨q, hq, rfl⟩
    rw [hh] at hm
    cases hm
  obtain ⟨a1, a2, a3, a4, a5⟩ := X'.athrowLeaves C.1 (g := F0 m pc ls (.ref x :: st)) rfl rfl rfl hout rfl (by rw [C.2.1]; exact hdg) C.2.2.2.2.1
  exact ⟨_, a1, .threw x, a2, a3, (QQ.of (p := p) (m := m) (meth := meth) (c := c) hA hS hq) _ hT a4, locs, ⟨a4, a5⟩, hS.2.2⟩
end XC
