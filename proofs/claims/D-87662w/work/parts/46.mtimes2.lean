set_option maxRecDepth 100000
/-- a modulus of the reference: its object M, n limbs, its value -/
def ModT (fl : List Value) (h : AH) (M am ah n mv : Nat) : Prop := ∃ (s Nm : Nat) (fm : Nat → Int32), h M = some (Ob 12 [.ref am, .ref ah, .int (nI n), .int (nI s)]) ∧ h am = some (Ai false 0 Nm fm) ∧ n ≤ Nm ∧ Nm < 2 ^ 31 ∧ V n fm = mv ∧ 2 ≤ n ∧ n ≤ 64 ∧
  ((fl[9]? = some (.ref M) ∧ n = 12 ∧ mv = pP) ∨ ∃ (Mp Nh : Nat) (fh : Nat → Int32), fl[9]? = some (.ref Mp) ∧ M ≠ Mp ∧ h ah = some (Ai false 0 Nh fh) ∧ n ≤ Nh ∧ Nh < 2 ^ 31 ∧ s < 32 ∧ V n fh = mv * 2 ^ s ∧ 2 ^ 31 ≤ u32 (fh (n - 1)))
set_option maxHeartbeats 4000000 in
theorem mtimes_ok (g : GX) {h : AH} {M0 M am ah a b to n na nb no mv aw af : Nat} {fl : List Value} {ra rb : Bool} {fa fb fo fw : Nat → Int32} {F0 : Nat → Int64} (hO : h M0 = some (Ob 11 fl)) (hT : ModT fl h M am ah n mv) (ha : h a = some (Ai ra 0 na fa)) (hb : h b = some (Ai rb 0 nb fb)) (ho : h to = some (Ai false 0 no fo)) (hw : h aw = some (Ai false 0 130 fw)) (hf : h af = some (Al false 16 F0))
    (f1 : fl[1]? = some (.ref aw)) (f2 : fl[2]? = some (.ref af)) (e1 : a ≠ aw) (e2 : b ≠ aw) (e3 : to ≠ aw) (e4 : ah ≠ aw) (hs : n ≤ na ∧ n ≤ nb ∧ n ≤ no) (hl : na < 2 ^ 31 ∧ nb < 2 ^ 31 ∧ no < 2 ^ 31) :
    MT g MX10_times ({ frames := 3, cells := 0, slots := 0, locals := 83 } : Room) [.ref M0, .ref M, .ref a, .ref b, .ref to] h (RV fun h' => ∃ (fw' : Nat → Int32) (F' : Nat → Int64) (f : Nat → Int32), (∀ j, n ≤ j → f j = fo j) ∧ V n f = V n fa * V n fb % mv ∧ h' = hset (hset (hset h aw (Ai false 0 130 fw')) af (Al false 16 F')) to (Ai false 0 no f)) := by
  refine MT.of (by decide) (Nat.le_of_ble_eq_true rfl) ?_
  obtain ⟨s, Nm, fm, hM, hm, k1, k2, k3, k4, k5, hc⟩ := hT
  have n1 : M0 ≠ aw := ne_of hO hw (fun e => by cases e)
  have n2 : M ≠ aw := ne_of hM hw (fun e => by cases e)
  have n4 : af ≠ aw := ne_of hf hw (fun e => by cases e)
  refine mprod g hO hM ha hb hw f1 e1 e2 k5 ⟨hs.1, hs.2.1⟩ ⟨hl.1, hl.2.1⟩ _ (fun f hv => ?_)
  have o1 : hset h aw (Ai false 0 130 f) M0 = some (Ob 11 fl) := by rw [hset_ne n1]; exact hO
  have o2 : hset h aw (Ai false 0 130 f) M = some (Ob 12 [.ref am, .ref ah, .int (nI n), .int (nI s)]) := by rw [hset_ne n2]; exact hM
  have o3 : hset h aw (Ai false 0 130 f) to = some (Ai false 0 no fo) := by rw [hset_ne e3]; exact ho
  have o4 : hset h aw (Ai false 0 130 f) af = some (Al false 16 F0) := by rw [hset_ne n4]; exact hf
  rcases hc with ⟨c1, c2, c3⟩ | ⟨Mp, Nh, fh, c1, c2, c3, c4, c5, c6, c7, c8⟩
  · subst c2
    subst c3
    refine X_aload_n (pc := 134) 2 dX10_times_134 rfl rfl ?_
    refine X_aload_n (pc := 135) 1 dX10_times_135 rfl rfl ?_
    refine X_getfield (pc := 136) dX10_times_136 fg_X10_61_11 o1 c1 ?_
    refine X_acmp_ne (pc := 139) (rx := some M) (ry := some M) 151 dX10_times_139 (by decide) (fun c => absurd rfl c) (fun _ => ?_)
    refine X_aload_n (pc := 142) 1 dX10_times_142 rfl rfl ?_
    refine X_aload (pc := 143) 5 dX10_times_143 rfl ?_
    refine X_ivv (pc := 145) _ dX10_times_145 cv_X10_65_11 o1 rfl (mfolds_ok g o1 (hset_self _ _ _) o4 o3 f1 f2 e3.symm hs.2.2 hl.2.2) nX10_folds (Nat.le_of_ble_eq_true rfl) (Nat.le_of_ble_eq_true rfl) (Nat.le_of_ble_eq_true rfl) (Nat.le_of_ble_eq_true rfl) (fun h1 q1 => ?_)
    obtain ⟨F', f', hf', hv', rfl⟩ := q1
    refine X_goto (pc := 148) 162 dX10_times_148 (by decide) ?_
    refine X_return (pc := 162) dX10_times_162 rfl (Nat.le_of_ble_eq_true rfl) (Nat.le_of_ble_eq_true rfl) ?_
    exact ⟨rfl, f, F', f', hf', by rw [hv', hv], rfl⟩
  · obtain ⟨p, rfl⟩ : ∃ p, n = p + 2 := ⟨n - 2, by omega⟩
    have o5 : hset h aw (Ai false 0 130 f) ah = some (Ai false 0 Nh fh) := by rw [hset_ne e4]; exact c3
    refine X_aload_n (pc := 134) 2 dX10_times_134 rfl rfl ?_
    refine X_aload_n (pc := 135) 1 dX10_times_135 rfl rfl ?_
    refine X_getfield (pc := 136) dX10_times_136 fg_X10_61_11 o1 c1 ?_
    refine X_acmp_ne (pc := 139) (rx := some M) (ry := some Mp) 151 dX10_times_139 (by decide) (fun _ => ?_) (fun c => absurd (Option.some.inj c) c2)
    refine X_aload_n (pc := 151) 1 dX10_times_151 rfl rfl ?_
    refine X_aload_n (pc := 152) 2 dX10_times_152 rfl rfl ?_
    refine X_iconst (pc := 153) (x := 2) dX10_times_153 (by decide) ?_
    refine X_iload (pc := 154) 0 dX10_times_154 rfl ?_
    refine X_imul (pc := 156) dX10_times_156 ?_
    rw [show (2 : Int32) * nI (p + 2) = nI (2 * (p + 2)) from pk_mul 2 (p + 2)]
    refine X_aload (pc := 157) 5 dX10_times_157 rfl ?_
    have x1 : p + 2 ≤ 2 * (p + 2) := by clear n1 n2 n4 e1 e2 e3 e4 c2; omega
    have x2 : 2 * (p + 2) < 129 := by clear n1 n2 n4 e1 e2 e3 e4 c2; omega
    have x3 : 2 ^ 31 ≤ u32 (fh (p + 1)) := c8
    refine X_ivv (pc := 159) _ dX10_times_159 cv_X10_69_11 o1 rfl (mrest_ok g (mv := mv) o1 o2 o5 (hset_self _ _ _) o3 f1 e4 e3 c4 hs.2.2 ⟨c5, hl.2.2⟩ x1 x2 c6 c7 x3) nX10_rest (Nat.le_of_ble_eq_true rfl) (Nat.le_of_ble_eq_true rfl) (Nat.le_of_ble_eq_true rfl) (Nat.le_of_ble_eq_true rfl) (fun h1 q1 => ?_)
    obtain ⟨f', fw', hf', hv', rfl⟩ := q1
    rw [hset_hset]
    refine X_return (pc := 162) dX10_times_162 rfl (Nat.le_of_ble_eq_true rfl) (Nat.le_of_ble_eq_true rfl) ?_
    refine ⟨rfl, fw', F0, f', hf', by rw [hv', hv], ?_⟩
    rw [hset_same (h := hset h aw (Ai false 0 130 fw')) (a := af) (by rw [hset_ne n4]; exact hf)]
