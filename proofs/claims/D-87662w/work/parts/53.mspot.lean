set_option maxRecDepth 100000
section XN
variable {g : GX} {M M' : MI} {rm rm' : Room} {Q : Outcome → AH → Prop} {k n pc : Nat} {L : List (Nat × Value)} {st rest : List Value} {h : AH}
theorem X_inv {P : AH → Prop} {idx : Nat} (As : List Value) (hdg : decode M.2.1 pc = .ok (.invokestatic idx, 3)) (V : CSN M.1.cls idx M') (hst : st = As.reverse ++ rest) (hM : MT g M' rm' As h (RV P)) (hna : (parseMethodDescriptor M'.1.desc).map (fun d => d.parameters.length) = some As.length) (hfr : rm'.frames + 1 ≤ rm.frames) (hlo : (rest.map fun v => v.category).sum + (M'.2.2.1 + 11) + rm'.locals ≤ rm.locals) (hc : k + rm'.cells ≤ rm.cells) (hs : n + rm'.slots ≤ rm.slots)
    (kk : ∀ h', P h' → XX g M rm Q (k + rm'.cells) (n + rm'.slots) (pc + 3) L (rest) h') : XX g M rm Q k n pc L st h := X_staticN As hdg V hst hM hna hfr hlo hc hs (fun v h' q => by obtain ⟨e, hp⟩ := q; cases e; exact kk h' hp) (fun x h' q => by cases q.1)
theorem X_inr {P : Nat → AH → Prop} {idx : Nat} (As : List Value) (hdg : decode M.2.1 pc = .ok (.invokestatic idx, 3)) (V : CSN M.1.cls idx M') (hst : st = As.reverse ++ rest) (hM : MT g M' rm' As h (RR P)) (hna : (parseMethodDescriptor M'.1.desc).map (fun d => d.parameters.length) = some As.length) (hfr : rm'.frames + 1 ≤ rm.frames) (hlo : (rest.map fun v => v.category).sum + (M'.2.2.1 + 11) + rm'.locals ≤ rm.locals) (hc : k + rm'.cells ≤ rm.cells) (hs : n + rm'.slots ≤ rm.slots)
    (kk : ∀ r h', P r h' → XX g M rm Q (k + rm'.cells) (n + rm'.slots) (pc + 3) L (.ref r :: rest) h') : XX g M rm Q k n pc L st h := X_staticN As hdg V hst hM hna hfr hlo hc hs (fun v h' q => by obtain ⟨r, e, hp⟩ := q; cases e; exact kk r h' hp) (fun x h' q => by obtain ⟨r, e, -⟩ := q; cases e)
theorem X_iqv {P : AH → Prop} {idx b : Nat} (As : List Value) (hdg : decode M.2.1 pc = .ok (.invokespecial idx, 3)) (V : CIN M.1.cls idx M') (hst : st = As.reverse ++ .ref b :: rest) (hM : MT g M' rm' (.ref b :: As) h (RV P)) (hna : (parseMethodDescriptor M'.1.desc).map (fun d => d.parameters.length) = some As.length) (hfr : rm'.frames + 1 ≤ rm.frames) (hlo : (rest.map fun v => v.category).sum + (M'.2.2.1 + 11) + rm'.locals ≤ rm.locals) (hc : k + rm'.cells ≤ rm.cells) (hs : n + rm'.slots ≤ rm.slots)
    (kk : ∀ h', P h' → XX g M rm Q (k + rm'.cells) (n + rm'.slots) (pc + 3) L (rest) h') : XX g M rm Q k n pc L st h := X_initN As hdg V hst hM hna hfr hlo hc hs (fun v h' q => by obtain ⟨e, hp⟩ := q; cases e; exact kk h' hp) (fun x h' q => by cases q.1)
end XN
section MP
variable {A : Nat → Nat} {X : AH} {R : Nat → Nat} {I : Nat → Nat → Int32} {S : Nat → List Int32} {F : Nat → Int32} {h : AH}
theorem kd_x {s : Nat} (hs : s < 31) : kdM (200 + s) = (1, 0, 12) ∨ kdM (200 + s) = (2, 0, 12) := by
  unfold kdM
  rw [if_neg (by omega), if_neg (by omega)]
  by_cases c1 : 200 + s < 209
  · rw [if_pos c1]; exact Or.inl rfl
  · rw [if_neg c1]
    by_cases c2 : 200 + s < 225
    · rw [if_pos c2]; exact Or.inr rfl
    · rw [if_neg c2, if_pos (by omega)]; exact Or.inl rfl
theorem kd_y {s : Nat} (hs : s < 31) : kdM (300 + s) = (1, 0, 12) := by
  unfold kdM
  rw [if_neg (by omega), if_neg (by omega), if_neg (by omega), if_neg (by omega), if_neg (by omega), if_neg (by omega), if_pos (by omega)]
theorem OpP.sx (w : MW A X R I S F h) {s : Nat} (hs : s < 31) (hb : R (200 + s) < pP) : OpP A h (A (200 + s)) (R (200 + s)) := by
  rcases kd_x hs with k | k
  · exact OpP.n w _ k
  · exact OpP.n2 w _ k hb
theorem OpM.sx (w : MW A X R I S F h) {s : Nat} (hs : s < 31) : OpM A h (A (200 + s)) 12 (R (200 + s)) := by
  rcases kd_x hs with k | k
  · exact OpM.n w _ k
  · exact OpM.n2 w _ k
theorem OpP.sy (w : MW A X R I S F h) {s : Nat} (hs : s < 31) : OpP A h (A (300 + s)) (R (300 + s)) := OpP.n w _ (kd_y hs)
/-- a copy to a spot's x, y -/
theorem mcpX (g : GX) (w : MW A X R I S F h) {s : Nat} (hs : s < 31) {a va : Nat} (oa : OpP A h a va) : MT g MX10_copy ({ frames := 0, cells := 0, slots := 0, locals := 0 } : Room) [.ref a, .ref (A (200 + s)), .int 12] h (RV fun h' => MW A X (up R (200 + s) va) I S F h') := by
  rcases kd_x hs with k | k
  · exact mcpP g w _ k oa
  · exact mcpN g w _ k oa.1
/-- times to a spot's x -/
theorem mtX (g : GX) (w : MW A X R I S F h) {s : Nat} (hs : s < 31) {a b va vb : Nat} (oa : OpM A h a 12 va) (ob : OpM A h b 12 vb) :
    MT g MX10_times ({ frames := 3, cells := 0, slots := 0, locals := 83 } : Room) [.ref (A 96), .ref (A 500), .ref a, .ref b, .ref (A (200 + s))] h (RV fun h' => MW A X (up R (200 + s) (va * vb % pP)) I S F h') := by
  rcases kd_x hs with k | k
  · exact mtP g w _ k oa ob
  · exact mtN g w mo0 _ k oa ob
theorem MW.setSp (w : MW A X R I S F h) (s : Nat) (hs : s < 31) {v : Int32} : MW A X R I S (up F (400 + s) v) (hset h (A (400 + s)) (Ob 13 [.ref (A (200 + s)), .ref (A (300 + s)), .int v])) := by
  have := w.setNone (400 + s) (by omega) (by omega) (v := v)
  rw [show 400 + s - 200 = 200 + s by omega, show 400 + s - 100 = 300 + s by omega] at this
  exact this
def rIs (t a : Nat) (R : Nat → Nat) : Nat → Nat := up (up R (200 + t) (R (200 + a))) (300 + t) (R (300 + a))
theorem sis_ok (g : GX) (w : MW A X R I S F h) {t a : Nat} (ht : t < 31) (ha : a < 31) (hb : R (200 + a) < pP) (hz : F (400 + a) = 0 ∨ F (400 + a) = 1) : MT g MX12_is ({ frames := 1, cells := 0, slots := 0, locals := 23 } : Room) [.ref (A (400 + t)), .ref (A (400 + a))] h (RV fun h' => MW A X (rIs t a R) I S (up F (400 + t) (F (400 + a))) h') := by
  refine MT.of (by decide) (Nat.le_of_ble_eq_true rfl) ?_
  refine X_aload_n (pc := 0) 1 dX12_is_0 rfl rfl ?_
  refine X_getfield (pc := 1) dX12_is_1 fg_X12_9_13 (w.sp a ha) (by first | rfl | assumption) ?_
  refine X_aload_n (pc := 4) 0 dX12_is_4 rfl rfl ?_
  refine X_getfield (pc := 5) dX12_is_5 fg_X12_9_13 (w.sp t ht) (by first | rfl | assumption) ?_
  refine X_bipush (pc := 8) (x := 12) dX12_is_8 (by decide) ?_
  refine X_inv (pc := 10) _ dX12_is_10 csn_X12_18 rfl (mcpX g w ht (OpP.sx w ha hb)) nX10_copy (Nat.le_of_ble_eq_true rfl) (Nat.le_of_ble_eq_true rfl) (Nat.le_of_ble_eq_true rfl) (Nat.le_of_ble_eq_true rfl) (fun h1 w1 => ?_)
  refine X_aload_n (pc := 13) 1 dX12_is_13 rfl rfl ?_
  refine X_getfield (pc := 14) dX12_is_14 fg_X12_15_13 (w1.sp a ha) (by first | rfl | assumption) ?_
  refine X_aload_n (pc := 17) 0 dX12_is_17 rfl rfl ?_
  refine X_getfield (pc := 18) dX12_is_18 fg_X12_15_13 (w1.sp t ht) (by first | rfl | assumption) ?_
  refine X_bipush (pc := 21) (x := 12) dX12_is_21 (by decide) ?_
  refine X_inv (pc := 23) _ dX12_is_23 csn_X12_18 rfl (mcpP g w1 _ (kd_y ht) (OpP.sy w1 ha)) nX10_copy (Nat.le_of_ble_eq_true rfl) (Nat.le_of_ble_eq_true rfl) (Nat.le_of_ble_eq_true rfl) (Nat.le_of_ble_eq_true rfl) (fun h2 w2 => ?_)
  rw [up_ne (show 300 + a ≠ 200 + t by omega)] at w2
  refine X_aload_n (pc := 26) 0 dX12_is_26 rfl rfl ?_
  refine X_aload_n (pc := 27) 1 dX12_is_27 rfl rfl ?_
  refine X_getfield (pc := 28) dX12_is_28 fg_X12_22_13 (w2.sp a ha) (by first | rfl | assumption) ?_
  refine X_putfield (pc := 31) dX12_is_31 fp_X12_22_13 (fun e => by cases e) (w2.sp t ht) ?_ ?_ (Nat.le_of_ble_eq_true rfl) ?_
  · rcases hz with e | e <;> rw [e] <;> rfl
  · rcases hz with e | e <;> rw [e] <;> rfl
  refine X_return (pc := 34) dX12_is_34 rfl (Nat.le_of_ble_eq_true rfl) (Nat.le_of_ble_eq_true rfl) ?_
  exact ⟨rfl, w2.setSp t ht⟩
end MP
