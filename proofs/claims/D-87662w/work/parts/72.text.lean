set_option maxRecDepth 100000
/-! texts: constants of the pool, and what String tells of them -/
section XSg
variable {g : GX} {M M' : MI} {rm rm' : Room} {Q Q' : Outcome → AH → Prop} {k n pc : Nat} {L : List (Nat × Value)} {st rest : List Value} {h : AH}
theorem X_nreturn {x : Int32} {ty : FieldType} (hdg : decode M.2.1 pc = .ok (.ireturn, 1)) (hr : M.2.2.2.1 = some ty) (hx : narrow ty (.int x) = .int x) (hk : k ≤ rm.cells) (hn : n ≤ rm.slots) (hq : Q (.returned (some (.int x))) h) : XX g M rm Q k n pc L [.int x] h := by
  intro p l e s m args below meth c locs H ls C hl hA hS
  refine W.widen hk hn (W.mono MQ2.of ?_)
  exact W.zret C.1 C.2.1 (C.2.2.2.1.trans hr) hx (QQ.of (p := p) (m := m) (meth := meth) (c := c) hA hS hq) hS.2.2 hdg C.2.2.2.2.1
theorem X_i2c {x : Int32} (hdg : decode M.2.1 pc = .ok (.i2c, 1)) (kk : XX g M rm Q k n (pc + 1) L (.int ((x.toUInt32 % 65536).toInt32) :: st) h) : XX g M rm Q k n pc L (.int x :: st) h := fun p l e s m args below meth c locs H ls C hl hA hS => lv_i2c C.1 C.2.1 hdg rfl (kk p l e s m args below meth c locs H ls C hl hA hS)
theorem X_ldcwS {idx j : Nat} {tx : String} (hdg : decode M.2.1 pc = .ok (.ldc_w idx, 3)) (hj : strT[j]? = some (M.1.cls, idx, tx)) (kk : ∀ a v, h a = some (Sg v (chars tx)) → XX g M rm Q k n (pc + 3) L (.ref a :: st) h) : XX g M rm Q k n pc L st h := by
  intro p l e s m args below meth c locs H ls C hl hA hS
  obtain ⟨h1, v, h2⟩ := C.ok.2.2.2.2.1 j _ hj
  have ha : h (gX g j) = some (Sg v (chars tx)) := (hA.2.2 _ _ h2).1
  intro T hT X
  obtain ⟨t, a1, b1⟩ := kk _ v ha p l e s m args below meth c locs H ls C hl hA hS T hT X
  refine ⟨t, ?_, b1⟩
  obtain ⟨kc, cf, i, a', hk, hcf, hcp, -, hr, hev'⟩ := Cond.stringRef_spec C.own h1.1
  cases h1.2.symm.trans hev'
  obtain ⟨k', hk', he⟩ := X.warmed.alike.2.2 _ _ hk
  have hr' : k'.resolved[idx]? = some (some (.string (gX g j))) := by
    rcases X.warmed.entry hk hk' idx with h | ⟨h, -⟩
    · rw [h]; exact hr
    · rw [hr] at h; cases h
  have hdg' : decode c.code (F0 m pc ls st).pc = .ok (.ldc_w idx, 3) := by rw [C.2.1]; exact hdg
  jvm_step X.here [C.1, hdg', ldc_w.wp_string (e := e) (s := T) (f := F0 m pc ls st) X.here.top hk' (by rw [he]; exact hcf) hcp hr']
  exact a1
theorem X_sgval {a v idx : Nat} {tx : List Nat} (hdg : decode M.2.1 pc = .ok (.getfield idx, 3)) (hlk : Cond.fieldLink M.1.cls idx "java/lang/String" "value" "[B" ∈ lw_all) (hc : h a = some (Sg v tx)) (kk : XX g M rm Q k n (pc + 3) L (.ref v :: st) h) : XX g M rm Q k n pc L (.ref a :: st) h := by
  intro p l e s m args below meth c locs H ls C hl hA hS
  obtain ⟨-, -, ⟨cf, kc, fi, f, cell, h1, h2, h3, h4, h5, h6⟩, -, -⟩ := hA.2.1 a _ hc rfl
  exact W.getf C.1 C.2.1 C.own (C.ws _ hlk) h1 h2 h3 h4 (v := .ref v) h5 rfl rfl hdg (kk p l e s m args below meth c locs H ls C hl hA hS)
theorem X_sgcod {a v idx : Nat} {tx : List Nat} (hdg : decode M.2.1 pc = .ok (.getfield idx, 3)) (hlk : Cond.fieldLink M.1.cls idx "java/lang/String" "coder" "B" ∈ lw_all) (hc : h a = some (Sg v tx)) (kk : XX g M rm Q k n (pc + 3) L (.int 0 :: st) h) : XX g M rm Q k n pc L (.ref a :: st) h := by
  intro p l e s m args below meth c locs H ls C hl hA hS
  obtain ⟨-, -, -, ⟨cf, kc, fi, f, cell, h1, h2, h3, h4, h5, h6⟩, -⟩ := hA.2.1 a _ hc rfl
  exact W.getf C.1 C.2.1 C.own (C.ws _ hlk) h1 h2 h3 h4 (v := .int 0) h5 rfl rfl hdg (kk p l e s m args below meth c locs H ls C hl hA hS)
theorem X_sglen {a v : Nat} {tx : List Nat} (hdg : decode M.2.1 pc = .ok (.arraylength, 1)) (hc : h a = some (Sg v tx)) (kk : XX g M rm Q k n (pc + 1) L (.int (nI tx.length) :: st) h) : XX g M rm Q k n pc L (.ref v :: st) h := by
  intro p l e s m args below meth c locs H ls C hl hA hS
  obtain ⟨-, -, -, -, cell, h1, h2, h3, h4, h5, h6, -⟩ := hA.2.1 a _ hc rfl
  exact W.alen C.1 C.2.1 h1 h2 h5 rfl rfl hdg (kk p l e s m args below meth c locs H ls C hl hA hS)
theorem X_sgch {a v : Nat} {tx : List Nat} {i : Int32} (hdg : decode M.2.1 pc = .ok (.baload, 1)) (hc : h a = some (Sg v tx)) (hi : vp_in i tx.length) (kk : XX g M rm Q k n (pc + 1) L (.int (nI (tx.getD i.toNatClampNeg 0)) :: st) h) : XX g M rm Q k n pc L (.int i :: .ref v :: st) h := by
  intro p l e s m args below meth c locs H ls C hl hA hS
  obtain ⟨-, -, -, -, cell, h1, h2, h3, h4, h5, h6, -⟩ := hA.2.1 a _ hc rfl
  have hlt : i.toNatClampNeg < tx.length := Nat.not_le.mp fun q => hi (Or.inr q)
  exact W.bald C.1 C.2.1 h1 h2 h3 (fun z => z.elim (fun q => hi (Or.inl q)) (fun q => by omega)) (h6 _ hlt) rfl rfl hdg (kk p l e s m args below meth c locs H ls C hl hA hS)
theorem X_getstaticQ {idx j : Nat} {D nm d : String} (hdg : decode M.2.1 pc = .ok (.getstatic idx, 3)) (hlk : Cond.fieldLink M.1.cls idx D nm d ∈ lw_all) (hm : ([("jdk/internal/util/Preconditions", "SIOOBE_FORMATTER", "Ljava/util/function/BiFunction;"), ("java/lang/Throwable", "UNASSIGNED_STACK", "[Ljava/lang/StackTraceElement;"), ("java/lang/Throwable", "SUPPRESSED_SENTINEL", "Ljava/util/List;")] : List (String × String × String))[j]? = some (D, nm, d))
    (kn : XX g M rm Q k n (pc + 3) L (.null :: st) h) (kr : ∀ a, XX g M rm Q k n (pc + 3) L (.ref a :: st) h) : XX g M rm Q k n pc L st h := by
  intro p l e s m args below meth c locs H ls C hl hA hS
  rcases C.ok.2.2.2.2.2.2 _ (List.mem_of_getElem? hm) with hz | ⟨t, hz⟩
  · exact va_gets C.1 C.2.1 hz hS C.own (C.ws _ hlk) (fun _ hx => hx) hdg (kn p l e s m args below meth c locs H ls C hl hA hS)
  · exact va_gets C.1 C.2.1 hz hS C.own (C.ws _ hlk) (fun _ hx => hx) hdg (kr t p l e s m args below meth c locs H ls C hl hA hS)
/-- entry idx of the class own, on a text, calls M' of String -/
def CVS (own : String) (idx : Nat) (M' : MI) : Prop := wdM M' ∈ lw_all ∧ Cond.initialized M'.1.cls ∈ lw_all ∧ Cond.instanceMethod M'.1 ∈ lw_all ∧ Cond.methodLink own idx M'.1 ∈ lw_all ∧ Cond.selects "java/lang/String" M'.1 M'.1 ∈ lw_all ∧ M'.1.cls ≠ "java/lang/invoke/MethodHandle" ∧ M'.1.cls ≠ "java/lang/invoke/VarHandle"
theorem X_invokeS {idx b v : Nat} {tx : List Nat} (As : List Value) (hdg : decode M.2.1 pc = .ok (.invokevirtual idx, 3)) (V : CVS M.1.cls idx M') (hb : h b = some (Sg v tx)) (hst : st = As.reverse ++ .ref b :: rest)
    (hM : MT g M' rm' (.ref b :: As) h Q') (hna : (parseMethodDescriptor M'.1.desc).map (fun d => d.parameters.length) = some As.length) (hfr : rm'.frames + 1 ≤ rm.frames) (hlo : (rest.map fun v => v.category).sum + (M'.2.2.1 + 11) + rm'.locals ≤ rm.locals) (hc : k + rm'.cells ≤ rm.cells) (hs : n + rm'.slots ≤ rm.slots)
    (kr : ∀ v h', Q' (.returned v) h' → XX g M rm Q (k + rm'.cells) (n + rm'.slots) (pc + 3) L (v.toList ++ rest) h')
    (kt : ∀ x h', Q' (.threw x) h' → XT g M rm Q (k + rm'.cells) (n + rm'.slots) pc L x h') : XX g M rm Q k n pc L st h := by
  intro p l e s m args below meth c locs H ls C hl hA hS
  intro T hT X
  subst hst
  obtain ⟨hwd, hini, hinst, hlink, hsel, hy⟩ := V
  obtain ⟨-, ⟨cellB, hcB, hoB, hclB, -⟩, -, -, -⟩ := hA.2.1 b _ hb rfl
  have hcell : T.heap[b]? = some cellB := by rw [hT]; exact hcB
  have hobj : ∀ z, cellB.vm ≠ .statics z := fun z h => by rw [h] at hoB; cases hoB
  obtain ⟨mk, methM, hnamed, hmethM, hstM, habM⟩ := Cond.instanceMethod_spec (C.ws _ hinst)
  obtain ⟨methY, cY, hmY, -, -, hsigY⟩ := wdM_spec hnamed (C.ws _ hwd)
  cases hmethM.symm.trans hmY
  have hlenM : As.length = methM.sig.parameters.length := by
    rw [hsigY] at hna
    exact (Option.some.inj hna).symm
  have hdc : decode c.code (F0 m pc ls (As.reverse ++ .ref b :: rest)).pc = .ok (.invokevirtual idx, 3) := by rw [C.2.1]; exact hdg
  obtain ⟨c2, r2, m2, q1, q2, q3, q4, kP, hkP, hkPi⟩ := Cond.selects_spec (C.ws _ hsel)
  cases hclB.symm.trans q1
  cases (State.methodFound?_of_named hnamed hy).symm.trans q2
  cases hnamed.symm.trans q3
  have hselP : selectMethod e.platform s.vm cellB.cls mk = .method mk := by rw [Launch.admits_selectMethod X.admits]; exact q4
  obtain ⟨vm₁, X₁, hstep⟩ := X.invokevirtual C.1 C.own (C.ws _ hlink) hnamed hmethM hstM hkP hkPi hy (a := b) (cell := cellB) hcell hobj hselP hmethM habM hkP hkPi (g := F0 m pc ls (As.reverse ++ .ref b :: rest)) rfl (argsL := As) (rest := rest) hlenM rfl hdc
  obtain ⟨t, a1, b1⟩ := X_callG C hl hA hS hT X₁ hdg (X₁.named hnamed) hM hwd hini hfr hlo hc hs kr kt
  exact ⟨t, hstep t fun acts => by rw [doInvoke_state]; exact a1, b1⟩
theorem X_iti {P : Int32 → AH → Prop} {idx b v : Nat} {tx : List Nat} (As : List Value) (hdg : decode M.2.1 pc = .ok (.invokevirtual idx, 3)) (V : CVS M.1.cls idx M') (hb : h b = some (Sg v tx)) (hst : st = As.reverse ++ .ref b :: rest) (hM : MT g M' rm' (.ref b :: As) h (RI P)) (hna : (parseMethodDescriptor M'.1.desc).map (fun d => d.parameters.length) = some As.length) (hfr : rm'.frames + 1 ≤ rm.frames) (hlo : (rest.map fun v => v.category).sum + (M'.2.2.1 + 11) + rm'.locals ≤ rm.locals) (hc : k + rm'.cells ≤ rm.cells) (hs : n + rm'.slots ≤ rm.slots) (kk : ∀ r h', P r h' → XX g M rm Q (k + rm'.cells) (n + rm'.slots) (pc + 3) L (.int r :: rest) h') : XX g M rm Q k n pc L st h :=
  X_invokeS As hdg V hb hst hM hna hfr hlo hc hs (fun v h' q => by obtain ⟨r, e, hp⟩ := q; cases e; exact kk r h' hp) (fun x h' q => by obtain ⟨r, e, hp⟩ := q; cases e)
end XSg
theorem cvs_J0_335 : CVS RJ0 335 MJ0_coder := ⟨wJ0_coder, q104, q206, q205, q207, by decide, by decide⟩
theorem cvs_J0_492 : CVS RJ0 492 MJ0_isLatin1 := ⟨wJ0_isLatin1, q104, q216, q215, q217, by decide, by decide⟩
theorem cvs_X1_1 : CVS RX1 1 MJ0_length := ⟨wJ0_length, q104, q202, q201, q203, by decide, by decide⟩
theorem cvs_X1_7 : CVS RX1 7 MJ0_charAt := ⟨wJ0_charAt, q104, q212, q211, q213, by decide, by decide⟩
theorem cvs_X10_250 : CVS RX10 250 MJ0_length := ⟨wJ0_length, q104, q202, q1907, q203, by decide, by decide⟩
theorem cvs_X10_256 : CVS RX10 256 MJ0_charAt := ⟨wJ0_charAt, q104, q212, q1908, q213, by decide, by decide⟩
section XSt
variable {h : AH} {a v : Nat} {tx : List Nat}
theorem chk2N_ok (g : GX) {i n : Nat} (hi : i < n) (hn : n < 2 ^ 31) : MT g MJ2_checkIndex ({ frames := 0, cells := 0, slots := 0, locals := 0 } : Room) [.int (nI i), .int (nI n), .null] h (RI fun _ h' => h' = h) := by
  refine MT.of (by decide) (Nat.le_of_ble_eq_true rfl) ?_
  refine X_iload_n (pc := 0) 0 dJ2_checkIndex_0 rfl rfl ?_
  refine X_if_lt (pc := 1) 9 dJ2_checkIndex_1 (by decide) (fun c_1 => ?_) (fun c_1 => ?_)
  · exact absurd c_1 (nI_pos (by omega))
  · skip
    refine X_iload_n (pc := 4) 0 dJ2_checkIndex_4 rfl rfl ?_
    refine X_iload_n (pc := 5) 1 dJ2_checkIndex_5 rfl rfl ?_
    refine X_icmp_lt (pc := 6) 16 dJ2_checkIndex_6 (by decide) (fun _ => ?_) (fun c => absurd ((nI_ltI (by omega) (by omega)).mpr hi) c)
    refine X_iload_n (pc := 16) 0 dJ2_checkIndex_16 rfl rfl ?_
    refine X_ireturn (pc := 17) dJ2_checkIndex_17 rfl (Nat.le_of_ble_eq_true rfl) (Nat.le_of_ble_eq_true rfl) ?_
    exact ⟨_, rfl, rfl⟩
theorem chk2R_ok (g : GX) {i n t : Nat} (hi : i < n) (hn : n < 2 ^ 31) : MT g MJ2_checkIndex ({ frames := 0, cells := 0, slots := 0, locals := 0 } : Room) [.int (nI i), .int (nI n), .ref t] h (RI fun _ h' => h' = h) := by
  refine MT.of (by decide) (Nat.le_of_ble_eq_true rfl) ?_
  refine X_iload_n (pc := 0) 0 dJ2_checkIndex_0 rfl rfl ?_
  refine X_if_lt (pc := 1) 9 dJ2_checkIndex_1 (by decide) (fun c_1 => ?_) (fun c_1 => ?_)
  · exact absurd c_1 (nI_pos (by omega))
  · skip
    refine X_iload_n (pc := 4) 0 dJ2_checkIndex_4 rfl rfl ?_
    refine X_iload_n (pc := 5) 1 dJ2_checkIndex_5 rfl rfl ?_
    refine X_icmp_lt (pc := 6) 16 dJ2_checkIndex_6 (by decide) (fun _ => ?_) (fun c => absurd ((nI_ltI (by omega) (by omega)).mpr hi) c)
    refine X_iload_n (pc := 16) 0 dJ2_checkIndex_16 rfl rfl ?_
    refine X_ireturn (pc := 17) dJ2_checkIndex_17 rfl (Nat.le_of_ble_eq_true rfl) (Nat.le_of_ble_eq_true rfl) ?_
    exact ⟨_, rfl, rfl⟩
theorem chk_ok (g : GX) {i n : Nat} (hi : i < n) (hn : n < 2 ^ 31) : MT g MJ0_checkIndex ({ frames := 1, cells := 0, slots := 0, locals := 22 } : Room) [.int (nI i), .int (nI n)] h (RV fun h' => h' = h) := by
  refine MT.of (by decide) (Nat.le_of_ble_eq_true rfl) ?_
  refine X_iload_n (pc := 0) 0 dJ0_checkIndex_0 rfl rfl ?_
  refine X_iload_n (pc := 1) 1 dJ0_checkIndex_1 rfl rfl ?_
  refine X_getstaticQ (pc := 2) (j := 0) dJ0_checkIndex_2 q225 rfl ?_ (fun t => ?_)
  · skip
    refine X_isi (pc := 5) _ dJ0_checkIndex_5 cs_J0_1059 rfl (chk2N_ok g hi hn) nJ2_checkIndex (Nat.le_of_ble_eq_true rfl) (Nat.le_of_ble_eq_true rfl) (Nat.le_of_ble_eq_true rfl) (Nat.le_of_ble_eq_true rfl) (fun r1 h1 q1 => ?_)
    subst q1
    refine X_pop (pc := 8) dJ0_checkIndex_8 rfl ?_
    refine X_return (pc := 9) dJ0_checkIndex_9 rfl (Nat.le_of_ble_eq_true rfl) (Nat.le_of_ble_eq_true rfl) ?_
    exact ⟨rfl, rfl⟩
  · skip
    refine X_isi (pc := 5) _ dJ0_checkIndex_5 cs_J0_1059 rfl (chk2R_ok g hi hn) nJ2_checkIndex (Nat.le_of_ble_eq_true rfl) (Nat.le_of_ble_eq_true rfl) (Nat.le_of_ble_eq_true rfl) (Nat.le_of_ble_eq_true rfl) (fun r1 h1 q1 => ?_)
    subst q1
    refine X_pop (pc := 8) dJ0_checkIndex_8 rfl ?_
    refine X_return (pc := 9) dJ0_checkIndex_9 rfl (Nat.le_of_ble_eq_true rfl) (Nat.le_of_ble_eq_true rfl) ?_
    exact ⟨rfl, rfl⟩
theorem ch_nar : ∀ c, c < 128 → ((nI c &&& 255).toUInt32 % 65536).toInt32 = nI c := by decide
theorem ch_narC : ∀ c, c < 128 → narrow .char (.int (nI c)) = .int (nI c) := by decide
theorem lat_ok (g : GX) (ha : h a = some (Sg v tx)) (h7 : ∀ j, tx.getD j 0 < 128) {i : Nat} (hi : i < tx.length) (hn : tx.length < 2 ^ 31) : MT g MJ1_charAt ({ frames := 2, cells := 0, slots := 0, locals := 43 } : Room) [.ref v, .int (nI i)] h (RI fun r h' => r = nI (tx.getD i 0) ∧ h' = h) := by
  refine MT.of (by decide) (Nat.le_of_ble_eq_true rfl) ?_
  have b1 : vp_in (nI i) tx.length := vp_in_nI hi (by omega)
  have ci : (nI i).toNatClampNeg = i := nI_clamp (by omega)
  refine X_iload_n (pc := 0) 1 dJ1_charAt_0 rfl rfl ?_
  refine X_aload_n (pc := 1) 0 dJ1_charAt_1 rfl rfl ?_
  refine X_sglen (pc := 2) dJ1_charAt_2 ha ?_
  refine X_isv (pc := 3) _ dJ1_charAt_3 cs_J1_9 rfl (chk_ok g hi hn) nJ0_checkIndex (Nat.le_of_ble_eq_true rfl) (Nat.le_of_ble_eq_true rfl) (Nat.le_of_ble_eq_true rfl) (Nat.le_of_ble_eq_true rfl) (fun h1 q1 => ?_)
  subst q1
  refine X_aload_n (pc := 6) 0 dJ1_charAt_6 rfl rfl ?_
  refine X_iload_n (pc := 7) 1 dJ1_charAt_7 rfl rfl ?_
  refine X_sgch (pc := 8) dJ1_charAt_8 ha b1 ?_
  refine X_sipush (pc := 9) (x := 255) dJ1_charAt_9 (by decide) ?_
  refine X_iand (pc := 12) dJ1_charAt_12 ?_
  refine X_i2c (pc := 13) dJ1_charAt_13 ?_
  rw [ci, ch_nar _ (h7 i)]
  refine X_nreturn (pc := 14) dJ1_charAt_14 rfl (ch_narC _ (h7 i)) (Nat.le_of_ble_eq_true rfl) (Nat.le_of_ble_eq_true rfl) ?_
  exact ⟨_, rfl, rfl, rfl⟩
theorem coder_ok (g : GX) (ha : h a = some (Sg v tx)) : MT g MJ0_coder ({ frames := 0, cells := 0, slots := 0, locals := 0 } : Room) [.ref a] h (RI fun r h' => r = 0 ∧ h' = h) := by
  refine MT.of (by decide) (Nat.le_of_ble_eq_true rfl) ?_
  refine X_getstaticV (pc := 0) (j := 12) dJ0_coder_0 q209 (fun _ => rfl) ?_
  refine X_if_eq (pc := 3) 13 dJ0_coder_3 (by decide) (fun c_3 => ?_) (fun c_3 => ?_)
  · exact absurd c_3 (by decide)
  · skip
    refine X_aload_n (pc := 6) 0 dJ0_coder_6 rfl rfl ?_
    refine X_sgcod (pc := 7) dJ0_coder_7 q2162 ha ?_
    refine X_goto (pc := 10) 14 dJ0_coder_10 (by decide) ?_
    refine X_nreturn (pc := 14) dJ0_coder_14 rfl (by decide) (Nat.le_of_ble_eq_true rfl) (Nat.le_of_ble_eq_true rfl) ?_
    exact ⟨_, rfl, rfl, rfl⟩
theorem latin_ok (g : GX) (ha : h a = some (Sg v tx)) : MT g MJ0_isLatin1 ({ frames := 0, cells := 0, slots := 0, locals := 0 } : Room) [.ref a] h (RI fun r h' => r = 1 ∧ h' = h) := by
  refine MT.of (by decide) (Nat.le_of_ble_eq_true rfl) ?_
  refine X_getstaticV (pc := 0) (j := 12) dJ0_isLatin1_0 q209 (fun _ => rfl) ?_
  refine X_if_eq (pc := 3) 17 dJ0_isLatin1_3 (by decide) (fun c_3 => ?_) (fun c_3 => ?_)
  · exact absurd c_3 (by decide)
  · skip
    refine X_aload_n (pc := 6) 0 dJ0_isLatin1_6 rfl rfl ?_
    refine X_sgcod (pc := 7) dJ0_isLatin1_7 q2162 ha ?_
    refine X_if_ne (pc := 10) 17 dJ0_isLatin1_10 (by decide) (fun c_10 => ?_) (fun c_10 => ?_)
    · exact absurd rfl c_10
    · skip
      refine X_iconst (pc := 13) (x := 1) dJ0_isLatin1_13 (by decide) ?_
      refine X_goto (pc := 14) 18 dJ0_isLatin1_14 (by decide) ?_
      refine X_zreturn (pc := 18) dJ0_isLatin1_18 rfl (by first | exact Or.inl rfl | exact Or.inr rfl | assumption | exact zo_if) (Nat.le_of_ble_eq_true rfl) (Nat.le_of_ble_eq_true rfl) ?_
      exact ⟨_, rfl, rfl, rfl⟩
theorem slen_ok (g : GX) (ha : h a = some (Sg v tx)) (hn : tx.length < 2 ^ 31) : MT g MJ0_length ({ frames := 1, cells := 0, slots := 0, locals := 20 } : Room) [.ref a] h (RI fun r h' => r = nI tx.length ∧ h' = h) := by
  refine MT.of (by decide) (Nat.le_of_ble_eq_true rfl) ?_
  have e0 : nI tx.length >>> ((0 : Int32) &&& 31) = nI (tx.length / 2 ^ 0) := pk_shrN hn _ 0 (sl_n 0 (by decide))
  rw [Nat.pow_zero, Nat.div_one] at e0
  refine X_aload_n (pc := 0) 0 dJ0_length_0 rfl rfl ?_
  refine X_sgval (pc := 1) dJ0_length_1 q2161 ha ?_
  refine X_sglen (pc := 4) dJ0_length_4 ha ?_
  refine X_aload_n (pc := 5) 0 dJ0_length_5 rfl rfl ?_
  refine X_iti (pc := 6) _ dJ0_length_6 cvs_J0_335 ha rfl (coder_ok g ha) nJ0_coder (Nat.le_of_ble_eq_true rfl) (Nat.le_of_ble_eq_true rfl) (Nat.le_of_ble_eq_true rfl) (Nat.le_of_ble_eq_true rfl) (fun r1 h1 q1 => ?_)
  obtain ⟨rfl, rfl⟩ := q1
  refine X_ishr (pc := 9) dJ0_length_9 ?_
  rw [e0]
  refine X_ireturn (pc := 10) dJ0_length_10 rfl (Nat.le_of_ble_eq_true rfl) (Nat.le_of_ble_eq_true rfl) ?_
  exact ⟨_, rfl, rfl, rfl⟩
theorem chat_ok (g : GX) (ha : h a = some (Sg v tx)) (h7 : ∀ j, tx.getD j 0 < 128) {i : Nat} (hi : i < tx.length) (hn : tx.length < 2 ^ 31) : MT g MJ0_charAt ({ frames := 4, cells := 0, slots := 0, locals := 85 } : Room) [.ref a, .int (nI i)] h (RI fun r h' => r = nI (tx.getD i 0) ∧ h' = h) := by
  refine MT.of (by decide) (Nat.le_of_ble_eq_true rfl) ?_
  refine X_aload_n (pc := 0) 0 dJ0_charAt_0 rfl rfl ?_
  refine X_iti (pc := 1) _ dJ0_charAt_1 cvs_J0_492 ha rfl (latin_ok g ha) nJ0_isLatin1 (Nat.le_of_ble_eq_true rfl) (Nat.le_of_ble_eq_true rfl) (Nat.le_of_ble_eq_true rfl) (Nat.le_of_ble_eq_true rfl) (fun r1 h1 q1 => ?_)
  obtain ⟨rfl, rfl⟩ := q1
  refine X_if_eq (pc := 4) 16 dJ0_charAt_4 (by decide) (fun c_4 => ?_) (fun c_4 => ?_)
  · exact absurd c_4 (by decide)
  · skip
    refine X_aload_n (pc := 7) 0 dJ0_charAt_7 rfl rfl ?_
    refine X_sgval (pc := 8) dJ0_charAt_8 q2161 ha ?_
    refine X_iload_n (pc := 11) 1 dJ0_charAt_11 rfl rfl ?_
    refine X_isi (pc := 12) _ dJ0_charAt_12 cs_J0_495 rfl (lat_ok g ha h7 hi hn) nJ1_charAt (Nat.le_of_ble_eq_true rfl) (Nat.le_of_ble_eq_true rfl) (Nat.le_of_ble_eq_true rfl) (Nat.le_of_ble_eq_true rfl) (fun r1 h1 q1 => ?_)
    obtain ⟨rfl, rfl⟩ := q1
    refine X_nreturn (pc := 15) dJ0_charAt_15 rfl (ch_narC _ (h7 i)) (Nat.le_of_ble_eq_true rfl) (Nat.le_of_ble_eq_true rfl) ?_
    exact ⟨_, rfl, rfl, rfl⟩
end XSt
