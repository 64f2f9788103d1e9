set_option maxRecDepth 100000
section XM
variable {g : GX} {M M' : MI} {rm rm' : Room} {Q Q' : Outcome → AH → Prop} {k n pc : Nat} {L : List (Nat × Value)} {st rest : List Value} {h : AH}
/-- ends: nothing, an int, a long, a reference comes back -/
def RV (P : AH → Prop) : Outcome → AH → Prop := fun oc h' => oc = .returned none ∧ P h'
def RI (P : Int32 → AH → Prop) : Outcome → AH → Prop := fun oc h' => ∃ r : Int32, oc = .returned (some (.int r)) ∧ P r h'
def RL (P : Int64 → AH → Prop) : Outcome → AH → Prop := fun oc h' => ∃ r : Int64, oc = .returned (some (.long r)) ∧ P r h'
def RR (P : Nat → AH → Prop) : Outcome → AH → Prop := fun oc h' => ∃ r : Nat, oc = .returned (some (.ref r)) ∧ P r h'
def RO (P : Option Nat → AH → Prop) : Outcome → AH → Prop := fun oc h' => ∃ r : Option Nat, oc = .returned (some (va_rf r)) ∧ P r h'
theorem X_ivv {P : AH → Prop} {idx ci b : Nat} {fs : List Value} (As : List Value) (hdg : decode M.2.1 pc = .ok (.invokevirtual idx, 3)) (V : CV M.1.cls idx ci M') (hb : h b = some (Ob ci fs)) (hst : st = As.reverse ++ .ref b :: rest) (hM : MT g M' rm' (.ref b :: As) h (RV P)) (hna : (parseMethodDescriptor M'.1.desc).map (fun d => d.parameters.length) = some As.length) (hfr : rm'.frames + 1 ≤ rm.frames) (hlo : (rest.map fun v => v.category).sum + (M'.2.2.1 + 11) + rm'.locals ≤ rm.locals) (hc : k + rm'.cells ≤ rm.cells) (hs : n + rm'.slots ≤ rm.slots) (kk : ∀ h', P h' → XX g M rm Q (k + rm'.cells) (n + rm'.slots) (pc + 3) L (rest) h') : XX g M rm Q k n pc L st h := X_invokevirtual As hdg V hb hst hM hna hfr hlo hc hs (fun v h' q => by obtain ⟨e, hp⟩ := q; cases e; exact kk h' hp) (fun x h' q => by cases q.1)
theorem X_ivi {P : Int32 → AH → Prop} {idx ci b : Nat} {fs : List Value} (As : List Value) (hdg : decode M.2.1 pc = .ok (.invokevirtual idx, 3)) (V : CV M.1.cls idx ci M') (hb : h b = some (Ob ci fs)) (hst : st = As.reverse ++ .ref b :: rest) (hM : MT g M' rm' (.ref b :: As) h (RI P)) (hna : (parseMethodDescriptor M'.1.desc).map (fun d => d.parameters.length) = some As.length) (hfr : rm'.frames + 1 ≤ rm.frames) (hlo : (rest.map fun v => v.category).sum + (M'.2.2.1 + 11) + rm'.locals ≤ rm.locals) (hc : k + rm'.cells ≤ rm.cells) (hs : n + rm'.slots ≤ rm.slots) (kk : ∀ r h', P r h' → XX g M rm Q (k + rm'.cells) (n + rm'.slots) (pc + 3) L (.int r :: rest) h') : XX g M rm Q k n pc L st h := X_invokevirtual As hdg V hb hst hM hna hfr hlo hc hs (fun v h' q => by obtain ⟨r, e, hp⟩ := q; cases e; exact kk r h' hp) (fun x h' q => by obtain ⟨r, e, hp⟩ := q; cases e)
theorem X_ivl {P : Int64 → AH → Prop} {idx ci b : Nat} {fs : List Value} (As : List Value) (hdg : decode M.2.1 pc = .ok (.invokevirtual idx, 3)) (V : CV M.1.cls idx ci M') (hb : h b = some (Ob ci fs)) (hst : st = As.reverse ++ .ref b :: rest) (hM : MT g M' rm' (.ref b :: As) h (RL P)) (hna : (parseMethodDescriptor M'.1.desc).map (fun d => d.parameters.length) = some As.length) (hfr : rm'.frames + 1 ≤ rm.frames) (hlo : (rest.map fun v => v.category).sum + (M'.2.2.1 + 11) + rm'.locals ≤ rm.locals) (hc : k + rm'.cells ≤ rm.cells) (hs : n + rm'.slots ≤ rm.slots) (kk : ∀ r h', P r h' → XX g M rm Q (k + rm'.cells) (n + rm'.slots) (pc + 3) L (.long r :: rest) h') : XX g M rm Q k n pc L st h := X_invokevirtual As hdg V hb hst hM hna hfr hlo hc hs (fun v h' q => by obtain ⟨r, e, hp⟩ := q; cases e; exact kk r h' hp) (fun x h' q => by obtain ⟨r, e, hp⟩ := q; cases e)
theorem X_ivr {P : Nat → AH → Prop} {idx ci b : Nat} {fs : List Value} (As : List Value) (hdg : decode M.2.1 pc = .ok (.invokevirtual idx, 3)) (V : CV M.1.cls idx ci M') (hb : h b = some (Ob ci fs)) (hst : st = As.reverse ++ .ref b :: rest) (hM : MT g M' rm' (.ref b :: As) h (RR P)) (hna : (parseMethodDescriptor M'.1.desc).map (fun d => d.parameters.length) = some As.length) (hfr : rm'.frames + 1 ≤ rm.frames) (hlo : (rest.map fun v => v.category).sum + (M'.2.2.1 + 11) + rm'.locals ≤ rm.locals) (hc : k + rm'.cells ≤ rm.cells) (hs : n + rm'.slots ≤ rm.slots) (kk : ∀ r h', P r h' → XX g M rm Q (k + rm'.cells) (n + rm'.slots) (pc + 3) L (.ref r :: rest) h') : XX g M rm Q k n pc L st h := X_invokevirtual As hdg V hb hst hM hna hfr hlo hc hs (fun v h' q => by obtain ⟨r, e, hp⟩ := q; cases e; exact kk r h' hp) (fun x h' q => by obtain ⟨r, e, hp⟩ := q; cases e)
theorem X_ivo {P : Option Nat → AH → Prop} {idx ci b : Nat} {fs : List Value} (As : List Value) (hdg : decode M.2.1 pc = .ok (.invokevirtual idx, 3)) (V : CV M.1.cls idx ci M') (hb : h b = some (Ob ci fs)) (hst : st = As.reverse ++ .ref b :: rest) (hM : MT g M' rm' (.ref b :: As) h (RO P)) (hna : (parseMethodDescriptor M'.1.desc).map (fun d => d.parameters.length) = some As.length) (hfr : rm'.frames + 1 ≤ rm.frames) (hlo : (rest.map fun v => v.category).sum + (M'.2.2.1 + 11) + rm'.locals ≤ rm.locals) (hc : k + rm'.cells ≤ rm.cells) (hs : n + rm'.slots ≤ rm.slots) (kk : ∀ r h', P r h' → XX g M rm Q (k + rm'.cells) (n + rm'.slots) (pc + 3) L (va_rf r :: rest) h') : XX g M rm Q k n pc L st h := X_invokevirtual As hdg V hb hst hM hna hfr hlo hc hs (fun v h' q => by obtain ⟨r, e, hp⟩ := q; cases e; exact kk r h' hp) (fun x h' q => by obtain ⟨r, e, hp⟩ := q; cases e)
theorem X_isv {P : AH → Prop} {idx : Nat} (As : List Value) (hdg : decode M.2.1 pc = .ok (.invokestatic idx, 3)) (V : CS M.1.cls idx M') (hst : st = As.reverse ++ rest) (hM : MT g M' rm' As h (RV P)) (hna : (parseMethodDescriptor M'.1.desc).map (fun d => d.parameters.length) = some As.length) (hfr : rm'.frames + 1 ≤ rm.frames) (hlo : (rest.map fun v => v.category).sum + (M'.2.2.1 + 11) + rm'.locals ≤ rm.locals) (hc : k + rm'.cells ≤ rm.cells) (hs : n + rm'.slots ≤ rm.slots) (kk : ∀ h', P h' → XX g M rm Q (k + rm'.cells) (n + rm'.slots) (pc + 3) L (rest) h') : XX g M rm Q k n pc L st h := X_invokestatic As hdg V hst hM hna hfr hlo hc hs (fun v h' q => by obtain ⟨e, hp⟩ := q; cases e; exact kk h' hp) (fun x h' q => by cases q.1)
theorem X_isi {P : Int32 → AH → Prop} {idx : Nat} (As : List Value) (hdg : decode M.2.1 pc = .ok (.invokestatic idx, 3)) (V : CS M.1.cls idx M') (hst : st = As.reverse ++ rest) (hM : MT g M' rm' As h (RI P)) (hna : (parseMethodDescriptor M'.1.desc).map (fun d => d.parameters.length) = some As.length) (hfr : rm'.frames + 1 ≤ rm.frames) (hlo : (rest.map fun v => v.category).sum + (M'.2.2.1 + 11) + rm'.locals ≤ rm.locals) (hc : k + rm'.cells ≤ rm.cells) (hs : n + rm'.slots ≤ rm.slots) (kk : ∀ r h', P r h' → XX g M rm Q (k + rm'.cells) (n + rm'.slots) (pc + 3) L (.int r :: rest) h') : XX g M rm Q k n pc L st h := X_invokestatic As hdg V hst hM hna hfr hlo hc hs (fun v h' q => by obtain ⟨r, e, hp⟩ := q; cases e; exact kk r h' hp) (fun x h' q => by obtain ⟨r, e, hp⟩ := q; cases e)
theorem X_isl {P : Int64 → AH → Prop} {idx : Nat} (As : List Value) (hdg : decode M.2.1 pc = .ok (.invokestatic idx, 3)) (V : CS M.1.cls idx M') (hst : st = As.reverse ++ rest) (hM : MT g M' rm' As h (RL P)) (hna : (parseMethodDescriptor M'.1.desc).map (fun d => d.parameters.length) = some As.length) (hfr : rm'.frames + 1 ≤ rm.frames) (hlo : (rest.map fun v => v.category).sum + (M'.2.2.1 + 11) + rm'.locals ≤ rm.locals) (hc : k + rm'.cells ≤ rm.cells) (hs : n + rm'.slots ≤ rm.slots) (kk : ∀ r h', P r h' → XX g M rm Q (k + rm'.cells) (n + rm'.slots) (pc + 3) L (.long r :: rest) h') : XX g M rm Q k n pc L st h := X_invokestatic As hdg V hst hM hna hfr hlo hc hs (fun v h' q => by obtain ⟨r, e, hp⟩ := q; cases e; exact kk r h' hp) (fun x h' q => by obtain ⟨r, e, hp⟩ := q; cases e)
theorem X_isr {P : Nat → AH → Prop} {idx : Nat} (As : List Value) (hdg : decode M.2.1 pc = .ok (.invokestatic idx, 3)) (V : CS M.1.cls idx M') (hst : st = As.reverse ++ rest) (hM : MT g M' rm' As h (RR P)) (hna : (parseMethodDescriptor M'.1.desc).map (fun d => d.parameters.length) = some As.length) (hfr : rm'.frames + 1 ≤ rm.frames) (hlo : (rest.map fun v => v.category).sum + (M'.2.2.1 + 11) + rm'.locals ≤ rm.locals) (hc : k + rm'.cells ≤ rm.cells) (hs : n + rm'.slots ≤ rm.slots) (kk : ∀ r h', P r h' → XX g M rm Q (k + rm'.cells) (n + rm'.slots) (pc + 3) L (.ref r :: rest) h') : XX g M rm Q k n pc L st h := X_invokestatic As hdg V hst hM hna hfr hlo hc hs (fun v h' q => by obtain ⟨r, e, hp⟩ := q; cases e; exact kk r h' hp) (fun x h' q => by obtain ⟨r, e, hp⟩ := q; cases e)
theorem X_iso {P : Option Nat → AH → Prop} {idx : Nat} (As : List Value) (hdg : decode M.2.1 pc = .ok (.invokestatic idx, 3)) (V : CS M.1.cls idx M') (hst : st = As.reverse ++ rest) (hM : MT g M' rm' As h (RO P)) (hna : (parseMethodDescriptor M'.1.desc).map (fun d => d.parameters.length) = some As.length) (hfr : rm'.frames + 1 ≤ rm.frames) (hlo : (rest.map fun v => v.category).sum + (M'.2.2.1 + 11) + rm'.locals ≤ rm.locals) (hc : k + rm'.cells ≤ rm.cells) (hs : n + rm'.slots ≤ rm.slots) (kk : ∀ r h', P r h' → XX g M rm Q (k + rm'.cells) (n + rm'.slots) (pc + 3) L (va_rf r :: rest) h') : XX g M rm Q k n pc L st h := X_invokestatic As hdg V hst hM hna hfr hlo hc hs (fun v h' q => by obtain ⟨r, e, hp⟩ := q; cases e; exact kk r h' hp) (fun x h' q => by obtain ⟨r, e, hp⟩ := q; cases e)
theorem X_ipv {P : AH → Prop} {idx b : Nat} (As : List Value) (hdg : decode M.2.1 pc = .ok (.invokespecial idx, 3)) (V : CI M.1.cls idx M') (hst : st = As.reverse ++ .ref b :: rest) (hM : MT g M' rm' (.ref b :: As) h (RV P)) (hna : (parseMethodDescriptor M'.1.desc).map (fun d => d.parameters.length) = some As.length) (hfr : rm'.frames + 1 ≤ rm.frames) (hlo : (rest.map fun v => v.category).sum + (M'.2.2.1 + 11) + rm'.locals ≤ rm.locals) (hc : k + rm'.cells ≤ rm.cells) (hs : n + rm'.slots ≤ rm.slots) (kk : ∀ h', P h' → XX g M rm Q (k + rm'.cells) (n + rm'.slots) (pc + 3) L (rest) h') : XX g M rm Q k n pc L st h := X_invokespecial As hdg V hst hM hna hfr hlo hc hs (fun v h' q => by obtain ⟨e, hp⟩ := q; cases e; exact kk h' hp) (fun x h' q => by cases q.1)
/-- a nest mate's static method, a nest mate's constructor -/
def CSN (own : String) (idx : Nat) (M' : MI) : Prop := M'.2.2.2.2 = none ∧ wdM M' ∈ lw_all ∧ Cond.initialized M'.1.cls ∈ lw_all ∧ Cond.static M'.1 ∈ lw_all ∧ (∃ host, Cond.methodLinkNest own idx M'.1 host ∈ lw_tbl) ∧ M'.1.cls ≠ "java/lang/invoke/MethodHandle" ∧ M'.1.cls ≠ "java/lang/invoke/VarHandle"
theorem X_staticN {idx : Nat} (As : List Value) (hdg : decode M.2.1 pc = .ok (.invokestatic idx, 3)) (V : CSN M.1.cls idx M') (hst : st = As.reverse ++ rest)
    (hM : MT g M' rm' As h Q') (hna : (parseMethodDescriptor M'.1.desc).map (fun d => d.parameters.length) = some As.length) (hfr : rm'.frames + 1 ≤ rm.frames) (hlo : (rest.map fun v => v.category).sum + (M'.2.2.1 + 11) + rm'.locals ≤ rm.locals) (hc : k + rm'.cells ≤ rm.cells) (hs : n + rm'.slots ≤ rm.slots)
    (kr : ∀ v h', Q' (.returned v) h' → XX g M rm Q (k + rm'.cells) (n + rm'.slots) (pc + 3) L (v.toList ++ rest) h')
    (kt : ∀ x h', Q' (.threw x) h' → XT g M rm Q (k + rm'.cells) (n + rm'.slots) pc L x h') : XX g M rm Q k n pc L st h := by
  intro p l e s m args below meth c locs H ls C hl hA hS
  intro T hT X
  subst hst
  obtain ⟨hnh, hwd, hini, hstat, ⟨host, hlink⟩, hy⟩ := V
  have hw := C.ws _ hwd
  unfold wdM at hw
  rw [hnh] at hw
  obtain ⟨mk, hnamed⟩ := Cond.code_named hw
  obtain ⟨methM, cY, hmethM, -, -, hsigY⟩ := wdM_spec hnamed (C.ws _ hwd)
  have hlenM : As.length = methM.sig.parameters.length := by
    rw [hsigY] at hna
    exact (Option.some.inj hna).symm
  have hstatic : methM.isStatic = true := Cond.static_spec hnamed hmethM (C.ws _ hstat)
  obtain ⟨kP, hkP, -⟩ := className_of_methodNamed hnamed
  have hinitP : kP.init = .initialized := Cond.initialized_spec (findClass_of_methodNamed hnamed) hkP (C.ws _ hini)
  have hdc : decode c.code (F0 m pc ls (As.reverse ++ rest)).pc = .ok (.invokestatic idx, 3) := by rw [C.2.1]; exact hdg
  obtain ⟨vm₁, X₁, hstep⟩ := X.invokestaticNest C.1 C.own ((C.ok.2.1 _ hlink rfl).use rfl) hnamed hmethM hstatic hkP hinitP hy (g := F0 m pc ls (As.reverse ++ rest)) rfl (argsL := As) (rest := rest) hlenM rfl hdc
  obtain ⟨t, a1, b1⟩ := X_callG C hl hA hS hT X₁ hdg (X₁.named hnamed) hM hwd hini hfr hlo hc hs kr kt
  exact ⟨t, hstep t fun acts => by rw [doInvoke_state]; exact a1, b1⟩
def CIN (own : String) (idx : Nat) (M' : MI) : Prop := M'.2.2.2.2 = none ∧ M'.2.2.2.1 = none ∧ wdM M' ∈ lw_all ∧ Cond.initialized M'.1.cls ∈ lw_all ∧ Cond.instanceMethod M'.1 ∈ lw_all ∧ M'.1.name = "<init>" ∧ (∃ host, Cond.methodLinkNest own idx M'.1 host ∈ lw_tbl) ∧ M'.1.cls ≠ "java/lang/invoke/MethodHandle" ∧ M'.1.cls ≠ "java/lang/invoke/VarHandle"
theorem X_initN {idx b : Nat} (As : List Value) (hdg : decode M.2.1 pc = .ok (.invokespecial idx, 3)) (V : CIN M.1.cls idx M') (hst : st = As.reverse ++ .ref b :: rest)
    (hM : MT g M' rm' (.ref b :: As) h Q') (hna : (parseMethodDescriptor M'.1.desc).map (fun d => d.parameters.length) = some As.length) (hfr : rm'.frames + 1 ≤ rm.frames) (hlo : (rest.map fun v => v.category).sum + (M'.2.2.1 + 11) + rm'.locals ≤ rm.locals) (hc : k + rm'.cells ≤ rm.cells) (hs : n + rm'.slots ≤ rm.slots)
    (kr : ∀ v h', Q' (.returned v) h' → XX g M rm Q (k + rm'.cells) (n + rm'.slots) (pc + 3) L (v.toList ++ rest) h')
    (kt : ∀ x h', Q' (.threw x) h' → XT g M rm Q (k + rm'.cells) (n + rm'.slots) pc L x h') : XX g M rm Q k n pc L st h := by
  intro p l e s m args below meth c locs H ls C hl hA hS
  intro T hT X
  subst hst
  obtain ⟨hnh, hnr, hwd, hini, hinst, hy1, ⟨host, hlink⟩, hy⟩ := V
  have hcode : (Cond.code M'.1 M'.2.1 M'.2.2.1 none).before args s = true := by
    have hw := C.ws _ hwd
    unfold wdM at hw
    rw [hnh, hnr] at hw
    exact hw
  have hpl : e.platform.magicAccessors = ({} : Platform).magicAccessors := by rw [X.admits.platform]
  have hdc : decode c.code (F0 m pc ls (As.reverse ++ .ref b :: rest)).pc = .ok (.invokespecial idx, 3) := by rw [C.2.1]; exact hdg
  obtain ⟨mk, methM, cM, kP, vm₁, hnamed, hmethM, hcodeM, -, hlocalsM, -, hkP, -, hW₁, hstep⟩ := Steps.initColdArgsNest (e := e) X.here C.1 X.warmed hpl C.own hy1 hy ((C.ok.2.1 _ hlink rfl).use rfl) (C.ws _ hinst) hcode (f := F0 m pc ls (As.reverse ++ .ref b :: rest)) rfl (fun sig h => by rw [h] at hna; exact (Option.some.inj hna).symm) rfl hdc
  have X₁ := X.noted hW₁
  obtain ⟨t, a1, b1⟩ := X_callG C hl hA hS hT X₁ hdg (X₁.named hnamed) hM hwd hini hfr hlo hc hs kr kt
  exact ⟨t, hstep t fun acts => by rw [doInvoke_state]; exact a1, b1⟩
/-- System.arraycopy -/
theorem X_copyI {idx a0 a n0 n1 tag : Nat} {f f1 : Nat → Int32} {sp dp num : Int32} (sN dN nN : Nat) (hdg : decode M.2.1 pc = .ok (.invokestatic idx, 3)) (hlk : Cond.methodLink M.1.cls idx arraycopyName ∈ lw_all) (htag : tag = 0 ∨ tag = 2) (ha0 : h a0 = some (Ai false tag n0 f)) (ha1 : h a = some (Ai false tag n1 f1))
    (e1 : sp = nI sN) (e2 : dp = nI dN) (e3 : num = nI nN) (b1 : sN + nN ≤ n0) (b2 : dN + nN ≤ n1) (b3 : n0 < 2 ^ 31 ∧ n1 < 2 ^ 31) (hfr : 1 ≤ rm.frames) (hlo : (rest.map fun v => v.category).sum + (nativeFrameWords "java/lang/System" "arraycopy" 5 + 11) ≤ rm.locals)
    (kk : XX g M rm Q k n (pc + 3) L rest (hset h a (Ai false tag n1 (va_cpy f f1 sN dN nN)))) : XX g M rm Q k n pc L (.int num :: .int dp :: .ref a :: .int sp :: .ref a0 :: rest) h := by
  intro p l e s m args below meth c locs H ls C hl hA hS
  subst e1 e2 e3
  obtain ⟨q0, hq0⟩ := hA.at ha0 rfl
  obtain ⟨q1, hq1⟩ := hA.at ha1 rfl
  have c1 : (nI sN).toNatClampNeg = sN := nI_clamp (by omega)
  have c2 : (nI dN).toNatClampNeg = dN := nI_clamp (by omega)
  have c3 : (nI nN).toNatClampNeg = nN := nI_clamp (by omega)
  have hwf0 := (hA.1 a0 _ _ ha0 rfl).2.2
  have hwf1 := (hA.1 a _ _ ha1 rfl).2.2
  have hwf : wfc (Ai false tag n1 (va_cpy f f1 sN dN nN)) := fun ht j hj => by
    unfold va_cpy
    split
    · exact hwf0 ht _ (by omega)
    · exact hwf1 ht j hj
  rcases htag with rfl | rfl
  · refine va_copyi (ty := .int) C.1 C.2.1 (by rw [C.2.2.1]; exact hl.1.symm) C.own (C.ws _ hlk) (C.ws _ q258) (C.ws _ q257) (C.ws _ q108) C.K hA.P hA.D hS q0 q1 0 0 hq0 hq1 rfl rfl rfl (nI_pos (by omega)) (nI_pos (by omega)) (nI_pos (by omega)) (by rw [c1, c3]; exact b1) (by rw [c2, c3]; exact b2) (fun i hi => rfl) hfr hlo hdg (fun H1 locs1 hP1 _ hS1 => ?_)
    rw [c1, c2, c3] at hP1
    exact kk p l e s m args below meth c locs1 H1 ls C hl (hA.set ha1 rfl hq1 rfl hwf hP1 C.z hS hS1) hS1
  · refine va_copyi (ty := .byte) C.1 C.2.1 (by rw [C.2.2.1]; exact hl.1.symm) C.own (C.ws _ hlk) (C.ws _ q258) (C.ws _ q257) (C.ws _ q108) C.K hA.P hA.D hS q0 q1 2 2 hq0 hq1 rfl rfl rfl (nI_pos (by omega)) (nI_pos (by omega)) (nI_pos (by omega)) (by rw [c1, c3]; exact b1) (by rw [c2, c3]; exact b2) (fun i hi => hwf0 rfl _ (by rw [c1]; rw [c3] at hi; omega)) hfr hlo hdg (fun H1 locs1 hP1 _ hS1 => ?_)
    rw [c1, c2, c3] at hP1
    exact kk p l e s m args below meth c locs1 H1 ls C hl (hA.set ha1 rfl hq1 rfl hwf hP1 C.z hS hS1) hS1
/-- a copy of an array of ints -/
theorem X_clone {idx a N : Nat} {f : Nat → Int32} (hdg : decode M.2.1 pc = .ok (.invokevirtual idx, 3)) (hlk : Cond.methodLink M.1.cls idx ⟨"[I", "clone", "()Ljava/lang/Object;"⟩ ∈ lw_all) (hnat : Cond.native ⟨"java/lang/Object", "clone", "()Ljava/lang/Object;"⟩ ∈ lw_all) (hinst : Cond.instanceMethod ⟨"java/lang/Object", "clone", "()Ljava/lang/Object;"⟩ ∈ lw_all) (ha : h a = some (Ai false 0 N f)) (hfr : 1 ≤ rm.frames) (hlo : (st.map fun v => v.category).sum + 14 ≤ rm.locals) (hk : k + 1 ≤ rm.cells) (hn : n + N ≤ rm.slots)
    (kk : ∀ q, h q = none → XX g M rm Q (k + 1) (n + N) (pc + 3) L (.ref q :: st) (hset h q (Ai false 0 N f))) : XX g M rm Q k n pc L (.ref a :: st) h := by
  intro p l e s m args below meth c locs H ls C hl hA hS
  obtain ⟨q0, hq0⟩ := hA.at ha rfl
  refine va_clone (ty := .int) C.1 C.2.1 (by rw [C.2.2.1]; exact hl.1.symm) C.own (C.ws _ hlk) (C.ws _ q1006) (C.ws _ hnat) (C.ws _ hinst) (C.ws _ q1009) (C.ok.2.1 _ q1010 rfl) C.K hA.P hA.D hS C.A q0 0 hq0 rfl (C.K.2 0 (gC g 0, .int) rfl).2 (fun i v hv => ?_) hfr hlo hk hn hdg (fun q H1 _ hP1 hD1 hS1 => ?_)
  · have hv' : (arrV (gC g 0) N (fun j => .int (f j))).slots[i]? = some v := hv
    simp only [arrV, Array.getElem?_ofFn] at hv'
    split at hv'
    · cases hv'; rfl
    · cases hv'
  · obtain ⟨h1, -, h3⟩ := hA.push (c := Ai false 0 N f) rfl (fun e => by cases e) hP1 hD1 C.z hS hS1
    exact kk q h1 p l e s m args below meth c locs H1 ls C hl h3 hS1
theorem X_castI {idx a N : Nat} {f : Nat → Int32} (hdg : decode M.2.1 pc = .ok (.checkcast idx, 3)) (hlk : Cond.classLink M.1.cls idx "[I" ∈ lw_all) (ha : h a = some (Ai false 0 N f)) (kk : XX g M rm Q k n (pc + 3) L (.ref a :: st) h) : XX g M rm Q k n pc L (.ref a :: st) h := by
  intro p l e s m args below meth c locs H ls C hl hA hS
  obtain ⟨q0, hq0⟩ := hA.at ha rfl
  exact va_castA C.1 C.2.1 C.own (C.ws _ hlk) hA.P q0 hq0 (C.K.2 0 (gC g 0, .int) rfl).2 hdg (kk p l e s m args below meth c locs H ls C hl hA hS)
end XM
