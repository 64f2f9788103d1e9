set_option maxRecDepth 100000
/-! the reference's constructor: from what has been made to the world -/
section PIy
variable {A : Nat → Nat} {P : Nat → AC} {X h : AH} {a0 : Nat}
theorem PI.toMW (w : PI pd2 A P 132 X h) (hP : P 500 = Ob 12 [.ref (A 510), .ref (A 520), .int 12, .int 0] ∧ P 510 = Ai false 0 64 (lo12 gP 12) ∧ P 520 = Ai false 0 64 (hi12 gP 0) ∧ P 501 = Ob 12 [.ref (A 511), .ref (A 521), .int 12, .int 0] ∧ P 511 = Ai false 0 64 (lo12 gQ 12) ∧ P 521 = Ai false 0 64 (hi12 gQ 0) ∧ P 200 = Ai false 0 12 (cpN 12 gGX fun _ => 0) ∧ P 300 = Ai false 0 12 (cpN 12 gGY fun _ => 0))
    (p48 : P 48 = Ar 6 8 (fR A 409 8)) (p49 : P 49 = Ar 6 8 (fR A 417 8)) (p65 : P 65 = Ar 6 6 (fR A 425 6)) (p66 : P 66 = Ar 7 6 (fR A 502 6)) : ∃ h', ArE h h' ∧ MW A X R00 (fun _ _ => 0) S00 F00 h' := by
  have kk : ∀ k, (kdM k).1 ≠ 0 → KI 132 k := fun k hk => own_132 hk
  have ne : ∀ {k k'}, (kdM k).1 ≠ 0 → (kdM k').1 ≠ 0 → k ≠ k' → A k ≠ A k' := fun {k k'} a b c e => c (w.1 k k' (kk k a) (kk k' b) e)
  have n48 : (kdM 48).1 ≠ 0 := by decide
  have n49 : (kdM 49).1 ≠ 0 := by decide
  have n64 : (kdM 64).1 ≠ 0 := by decide
  have n65 : (kdM 65).1 ≠ 0 := by decide
  have n66 : (kdM 66).1 ≠ 0 := by decide
  have n74 : (kdM 74).1 ≠ 0 := by decide
  have c48 : h (A 48) = some (Ar 6 8 (fR A 409 8)) := by rw [w.c (kk 48 n48) rfl, p48]
  have c49 : h (A 49) = some (Ar 6 8 (fR A 417 8)) := by rw [w.c (kk 49 n49) rfl, p49]
  have c65 : h (A 65) = some (Ar 6 6 (fR A 425 6)) := by rw [w.c (kk 65 n65) rfl, p65]
  have c66 : h (A 66) = some (Ar 7 6 (fR A 502 6)) := by rw [w.c (kk 66 n66) rfl, p66]
  have c64 : h (A 64) = some (Ar 8 6 (fR A 530 6)) := w.2.1 64 (kk 64 n64)
  have c74 : h (A 74) = some (Ar 8 60 (fR A 600 60)) := w.2.1 74 (kk 74 n74)
  have fe : ∀ k n j, j < n → fR A k n j = some (A (k + j)) := fun k n j hj => if_pos hj
  have e1 := (ArE.rfl' h).set c48 (fe 409 8)
  have e2 := e1.set (a := A 49) (by rw [hset_ne (ne n49 n48 (by decide))]; exact c49) (fe 417 8)
  have e3 := e2.set (a := A 65) (by rw [hset_ne (ne n65 n49 (by decide)), hset_ne (ne n65 n48 (by decide))]; exact c65) (fe 425 6)
  have e4 := e3.set (a := A 66) (by rw [hset_ne (ne n66 n65 (by decide)), hset_ne (ne n66 n49 (by decide)), hset_ne (ne n66 n48 (by decide))]; exact c66) (fe 502 6)
  have e5 := e4.set (a := A 64) (by rw [hset_ne (ne n64 n66 (by decide)), hset_ne (ne n64 n65 (by decide)), hset_ne (ne n64 n49 (by decide)), hset_ne (ne n64 n48 (by decide))]; exact c64) (fe 530 6)
  have e6 := e5.set (a := A 74) (by rw [hset_ne (ne n74 n64 (by decide)), hset_ne (ne n74 n66 (by decide)), hset_ne (ne n74 n65 (by decide)), hset_ne (ne n74 n49 (by decide)), hset_ne (ne n74 n48 (by decide))]; exact c74) (fe 600 60)
  clear e1 e2 e3 e4 e5
  refine ⟨_, e6, fun k k' hk hk' e => w.1 k k' (kk k hk) (kk k' hk') e, fun k => ?_, fun a ha => ?_⟩
  · by_cases h0 : (kdM k).1 = 0
    · rw [show kdM k = (0, (kdM k).2.1, (kdM k).2.2) from Prod.ext h0 rfl]
      trivial
    by_cases q74 : k = 74
    · subst q74
      rw [hset_self]
      rfl
    rw [hset_ne (ne h0 n74 q74)]
    by_cases q64 : k = 64
    · subst q64
      rw [hset_self]
      rfl
    rw [hset_ne (ne h0 n64 q64)]
    by_cases q66 : k = 66
    · subst q66
      rw [hset_self]
      rfl
    rw [hset_ne (ne h0 n66 q66)]
    by_cases q65 : k = 65
    · subst q65
      rw [hset_self]
      rfl
    rw [hset_ne (ne h0 n65 q65)]
    by_cases q49 : k = 49
    · subst q49
      rw [hset_self]
      rfl
    rw [hset_ne (ne h0 n49 q49)]
    by_cases q48 : k = 48
    · subst q48
      rw [hset_self]
      rfl
    rw [hset_ne (ne h0 n48 q48), w.2.1 k (kk k h0)]
    exact WC_cel w.2.2.2.1 hP h0 ⟨q48, q49, q64, q65, q66, q74⟩
  · rw [hset_ne (fun e => ha 74 n74 e.symm), hset_ne (fun e => ha 64 n64 e.symm), hset_ne (fun e => ha 66 n66 e.symm), hset_ne (fun e => ha 65 n65 e.symm), hset_ne (fun e => ha 49 n49 e.symm), hset_ne (fun e => ha 48 n48 e.symm)]
    exact w.2.2.1 a (fun k hk => ha k hk.1)
end PIy
