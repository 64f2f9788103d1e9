set_option maxRecDepth 100000
/-! the reference: remainders under the curve's modulus, by what 2^384 is as much as -/
def VI : Nat → (Nat → Int64) → Int
  | 0, _ => 0
  | n + 1, F => VI n F + (F n).toInt * 2 ^ (32 * n)
def BI (F : Nat → Int64) (B : Int) : Prop := ∀ k, -B ≤ (F k).toInt ∧ (F k).toInt ≤ B
theorem VI_upd (n i : Nat) (F : Nat → Int64) (v : Int64) : VI n (vp_updL F i v) = VI n F + (if i < n then (v.toInt - (F i).toInt) * 2 ^ (32 * i) else 0) := by
  induction n with
  | zero => rfl
  | succ n ih =>
    show VI n (vp_updL F i v) + (vp_updL F i v n).toInt * 2 ^ (32 * n) = VI n F + (F n).toInt * 2 ^ (32 * n) + _
    rw [ih]
    by_cases e : n = i
    · subst e
      rw [if_neg (Nat.lt_irrefl _), if_pos (by omega), pk_uLs]
      generalize (2 : Int) ^ (32 * n) = K
      grind
    · rw [pk_uLn e]
      by_cases e2 : i < n
      · rw [if_pos e2, if_pos (by omega)]
        omega
      · rw [if_neg e2, if_neg (by omega)]
        omega
theorem VI_congr {n : Nat} {F F' : Nat → Int64} (h : ∀ k, k < n → F k = F' k) : VI n F = VI n F' := by
  induction n with
  | zero => rfl
  | succ n ih =>
    show VI n F + _ = VI n F' + _
    rw [ih fun k hk => h k (by omega), h n (by omega)]
theorem VI_bd {n : Nat} {F : Nat → Int64} {B : Int} (h0 : 0 ≤ B) (h : BI F B) : -(B * 2 ^ (32 * n)) ≤ VI n F ∧ VI n F ≤ B * 2 ^ (32 * n) := by
  induction n with
  | zero => show -(B * 1) ≤ 0 ∧ 0 ≤ B * 1; omega
  | succ n ih =>
    show _ ≤ VI n F + (F n).toInt * 2 ^ (32 * n) ∧ VI n F + (F n).toInt * 2 ^ (32 * n) ≤ _
    have e : (2 : Int) ^ (32 * (n + 1)) = 2 ^ 32 * 2 ^ (32 * n) := by rw [← Int.pow_add]; congr 1; omega
    have hK : (0 : Int) ≤ 2 ^ (32 * n) := Int.le_of_lt (Int.pow_pos (by decide))
    obtain ⟨h1, h2⟩ := h n
    rw [e]
    generalize (2 : Int) ^ (32 * n) = K at *
    have q1 : (F n).toInt * K ≤ B * K := Int.mul_le_mul_of_nonneg_right h2 hK
    have q2 : -B * K ≤ (F n).toInt * K := Int.mul_le_mul_of_nonneg_right h1 hK
    have q3 : B * (2 ^ 32 * K) = 4294967296 * (B * K) := by grind
    have q4 : 0 ≤ B * K := Int.mul_nonneg h0 hK
    have q5 : -B * K = -(B * K) := Int.neg_mul _ _
    omega
theorem BI.add {F : Nat → Int64} {B C : Int} {i : Nat} {x : Int64} (h : BI F B) (hx : -C ≤ x.toInt ∧ x.toInt ≤ C) (hb : 0 ≤ B ∧ 0 ≤ C ∧ B + C < 2 ^ 62) : BI (vp_updL F i (F i + x)) (B + C) ∧ (F i + x).toInt - (F i).toInt = x.toInt := by
  obtain ⟨h1, h2⟩ := h i
  have e : (F i + x).toInt = (F i).toInt + x.toInt := l_add (by omega) (by omega)
  refine ⟨fun k => ?_, by omega⟩
  by_cases ek : k = i
  · subst ek; rw [pk_uLs]; omega
  · rw [pk_uLn ek]; have := h k; omega
theorem BI.sub {F : Nat → Int64} {B C : Int} {i : Nat} {x : Int64} (h : BI F B) (hx : -C ≤ x.toInt ∧ x.toInt ≤ C) (hb : 0 ≤ B ∧ 0 ≤ C ∧ B + C < 2 ^ 62) : BI (vp_updL F i (F i - x)) (B + C) ∧ (F i - x).toInt - (F i).toInt = -x.toInt := by
  obtain ⟨h1, h2⟩ := h i
  have e : (F i - x).toInt = (F i).toInt - x.toInt := l_sub (by omega) (by omega)
  refine ⟨fun k => ?_, by omega⟩
  by_cases ek : k = i
  · subst ek; rw [pk_uLs]; omega
  · rw [pk_uLn ek]; have := h k; omega
theorem BI.mono {F : Nat → Int64} {B B' : Int} (h : BI F B) (hb : B ≤ B') : BI F B' := fun k => by have := h k; omega
def fd1 (F : Nat → Int64) (i : Nat) (x : Int64) : Nat → Int64 := vp_updL F i (F i + x)
def fd2 (F : Nat → Int64) (i : Nat) (x : Int64) : Nat → Int64 := vp_updL F i (F i - x)
def fdd (F : Nat → Int64) (i : Nat) (x : Int64) : Nat → Int64 := fd1 (fd1 (fd2 (fd1 F i x) (i + 1) x) (i + 3) x) (i + 4) x
def kap : Int := 2 ^ 128 + 2 ^ 96 - 2 ^ 32 + 1
theorem fdd_ok {F : Nat → Int64} {B C : Int} {i n : Nat} {x : Int64} (h : BI F B) (hx : -C ≤ x.toInt ∧ x.toInt ≤ C) (hb : 0 ≤ B ∧ 0 ≤ C ∧ B + 4 * C < 2 ^ 62) (hi : i + 4 < n) : BI (fdd F i x) (B + 4 * C) ∧ VI n (fdd F i x) = VI n F + x.toInt * 2 ^ (32 * i) * kap := by
  obtain ⟨b1, e1⟩ := h.add (i := i) hx (by omega)
  obtain ⟨b2, e2⟩ := b1.sub (i := i + 1) hx (by omega)
  obtain ⟨b3, e3⟩ := b2.add (i := i + 3) hx (by omega)
  obtain ⟨b4, e4⟩ := b3.add (i := i + 4) hx (by omega)
  refine ⟨b4.mono (by omega), ?_⟩
  show VI n (vp_updL _ _ _) = _
  rw [VI_upd, if_pos hi]
  rw [show fd1 (fd2 (fd1 F i x) (i + 1) x) (i + 3) x = vp_updL (fd2 (fd1 F i x) (i + 1) x) (i + 3) (fd2 (fd1 F i x) (i + 1) x (i + 3) + x) from rfl, VI_upd, if_pos (by omega)]
  rw [show fd2 (fd1 F i x) (i + 1) x = vp_updL (fd1 F i x) (i + 1) (fd1 F i x (i + 1) - x) from rfl, VI_upd, if_pos (by omega)]
  rw [show fd1 F i x = vp_updL F i (F i + x) from rfl, VI_upd, if_pos (by omega)]
  rw [e1, e2, e3, e4]
  have p : ∀ d, (2 : Int) ^ (32 * (i + d)) = 2 ^ (32 * i) * 2 ^ (32 * d) := fun d => by rw [← Int.pow_add]; congr 1; omega
  rw [p 1, p 3, p 4]
  unfold kap
  generalize (2 : Int) ^ (32 * i) = K
  generalize x.toInt = y
  have q1 : (2 : Int) ^ (32 * 1) = 4294967296 := by decide
  have q3 : (2 : Int) ^ (32 * 3) = 79228162514264337593543950336 := by decide
  have q4 : (2 : Int) ^ (32 * 4) = 340282366920938463463374607431768211456 := by decide
  have r1 : (2 : Int) ^ 32 = 4294967296 := by decide
  have r3 : (2 : Int) ^ 96 = 79228162514264337593543950336 := by decide
  have r4 : (2 : Int) ^ 128 = 340282366920938463463374607431768211456 := by decide
  rw [q1, q3, q4]
  grind
theorem mfolded_ok (g : GX) {h : AH} {M0 af i : Nat} {x : Int64} {fl : List Value} {F : Nat → Int64} (hO : h M0 = some (Ob 11 fl)) (hf : h af = some (Al false 16 F)) (f2 : fl[2]? = some (.ref af)) (hi : i + 4 < 16) :
    MT g MX10_folded ({ frames := 0, cells := 0, slots := 0, locals := 0 } : Room) [.ref M0, .int (nI i), .long x] h (RV fun h' => h' = hset h af (Al false 16 (fdd F i x))) := by
  refine MT.of (by decide) (Nat.le_of_ble_eq_true rfl) ?_
  have hne : M0 ≠ af := ne_of hO hf (fun e => by cases e)
  have out : ∀ F', hset h af (Al false 16 F') M0 = some (Ob 11 fl) := fun F' => by rw [hset_ne hne]; exact hO
  have ci : ∀ d, d ≤ 4 → (nI (i + d)).toNatClampNeg = i + d := fun d hd => nI_clamp (by omega)
  have bi : ∀ d, d ≤ 4 → vp_in (nI (i + d)) 16 := fun d hd => vp_in_nI (by omega) (by omega)
  have c0 : (nI i).toNatClampNeg = i := nI_clamp (by omega)
  have b0 : vp_in (nI i) 16 := vp_in_nI (by omega) (by omega)
  refine X_aload_n (pc := 0) 0 dX10_folded_0 rfl rfl ?_
  refine X_getfield (pc := 1) dX10_folded_1 fg_X10_73_11 hO f2 ?_
  refine X_iload_n (pc := 4) 1 dX10_folded_4 rfl rfl ?_
  refine X_dup2_11 (pc := 5) dX10_folded_5 rfl rfl ?_
  refine X_laload (pc := 6) dX10_folded_6 hf b0 ?_
  refine X_lload_n (pc := 7) 2 dX10_folded_7 rfl rfl ?_
  refine X_ladd (pc := 8) dX10_folded_8 ?_
  rw [c0]
  refine X_lastore (pc := 9) dX10_folded_9 hf b0 ?_
  refine X_aload_n (pc := 10) 0 dX10_folded_10 rfl rfl ?_
  refine X_getfield (pc := 11) dX10_folded_11 fg_X10_73_11 (out _) f2 ?_
  refine X_iload_n (pc := 14) 1 dX10_folded_14 rfl rfl ?_
  refine X_iconst (pc := 15) (x := 1) dX10_folded_15 (by decide) ?_
  refine X_iadd (pc := 16) dX10_folded_16 ?_
  rw [c0, show (1 : Int32) = nI 1 from rfl, nI_add]
  refine X_dup2_11 (pc := 17) dX10_folded_17 rfl rfl ?_
  refine X_laload (pc := 18) dX10_folded_18 (hset_self _ _ _) (bi 1 (by decide)) ?_
  refine X_lload_n (pc := 19) 2 dX10_folded_19 rfl rfl ?_
  refine X_lsub (pc := 20) dX10_folded_20 ?_
  rw [ci 1 (by decide)]
  refine X_lastore (pc := 21) dX10_folded_21 (hset_self _ _ _) (bi 1 (by decide)) ?_
  refine XX.eqh (hset_hset _ _ _ _) ?_
  refine X_aload_n (pc := 22) 0 dX10_folded_22 rfl rfl ?_
  refine X_getfield (pc := 23) dX10_folded_23 fg_X10_73_11 (out _) f2 ?_
  refine X_iload_n (pc := 26) 1 dX10_folded_26 rfl rfl ?_
  refine X_iconst (pc := 27) (x := 3) dX10_folded_27 (by decide) ?_
  refine X_iadd (pc := 28) dX10_folded_28 ?_
  rw [ci 1 (by decide), show (3 : Int32) = nI 3 from rfl, nI_add]
  refine X_dup2_11 (pc := 29) dX10_folded_29 rfl rfl ?_
  refine X_laload (pc := 30) dX10_folded_30 (hset_self _ _ _) (bi 3 (by decide)) ?_
  refine X_lload_n (pc := 31) 2 dX10_folded_31 rfl rfl ?_
  refine X_ladd (pc := 32) dX10_folded_32 ?_
  rw [ci 3 (by decide)]
  refine X_lastore (pc := 33) dX10_folded_33 (hset_self _ _ _) (bi 3 (by decide)) ?_
  refine XX.eqh (hset_hset _ _ _ _) ?_
  refine X_aload_n (pc := 34) 0 dX10_folded_34 rfl rfl ?_
  refine X_getfield (pc := 35) dX10_folded_35 fg_X10_73_11 (out _) f2 ?_
  refine X_iload_n (pc := 38) 1 dX10_folded_38 rfl rfl ?_
  refine X_iconst (pc := 39) (x := 4) dX10_folded_39 (by decide) ?_
  refine X_iadd (pc := 40) dX10_folded_40 ?_
  rw [ci 3 (by decide), show (4 : Int32) = nI 4 from rfl, nI_add]
  refine X_dup2_11 (pc := 41) dX10_folded_41 rfl rfl ?_
  refine X_laload (pc := 42) dX10_folded_42 (hset_self _ _ _) (bi 4 (by decide)) ?_
  refine X_lload_n (pc := 43) 2 dX10_folded_43 rfl rfl ?_
  refine X_ladd (pc := 44) dX10_folded_44 ?_
  rw [ci 4 (by decide)]
  refine X_lastore (pc := 45) dX10_folded_45 (hset_self _ _ _) (bi 4 (by decide)) ?_
  refine XX.eqh (hset_hset _ _ _ _) ?_
  rw [ci 4 (by decide)]
  refine X_return (pc := 46) dX10_folded_46 rfl (Nat.le_of_ble_eq_true rfl) (Nat.le_of_ble_eq_true rfl) ?_
  exact ⟨rfl, rfl⟩
set_option maxHeartbeats 4000000 in
theorem mcarried_ok (g : GX) {h : AH} {M0 af to no : Nat} {fl : List Value} {F : Nat → Int64} {fo : Nat → Int32} (hO : h M0 = some (Ob 11 fl)) (hf : h af = some (Al false 16 F)) (f2 : fl[2]? = some (.ref af)) (ho : h to = some (Ai false 0 no fo)) (hno : 12 ≤ no) (hl : no < 2 ^ 31) (hb : BI F (2 ^ 60)) :
    MT g MX10_carried ({ frames := 0, cells := 0, slots := 0, locals := 0 } : Room) [.ref M0, .ref to] h (RL fun r h' => ∃ f, (∀ j, 12 ≤ j → f j = fo j) ∧ (V 12 f : Int) + r.toInt * 2 ^ 384 = VI 12 F ∧ h' = hset h to (Ai false 0 no f)) := by
  refine MT.of (by decide) (Nat.le_of_ble_eq_true rfl) ?_
  have hne : M0 ≠ to := ne_of hO ho (fun e => by cases e)
  have hne2 : af ≠ to := ne_of hf ho (fun e => by cases e)
  have loop := loop_up (P := fun k => ∀ (f : Nat → Int32) (c : Int64), -(2 ^ 60) ≤ c.toInt ∧ c.toInt ≤ 2 ^ 60 → (∀ j, k ≤ j → f j = fo j) → (V k f : Int) + c.toInt * 2 ^ (32 * k) = VI k F →
      XX g MX10_carried ({ frames := 0, cells := 0, slots := 0, locals := 0 } : Room) (RL fun r h' => ∃ f, (∀ j, 12 ≤ j → f j = fo j) ∧ (V 12 f : Int) + r.toInt * 2 ^ 384 = VI 12 F ∧ h' = hset h to (Ai false 0 no f)) 0 0 5 [(4, .int (nI k)), (2, .long c), (0, .ref M0), (1, .ref to)] [] (hset h to (Ai false 0 no f))) 12
    (by
      intro f c hc hff hv
      refine X_iload (pc := 5) 0 dX10_carried_5 rfl ?_
      refine X_bipush (pc := 7) (x := 12) dX10_carried_7 (by decide) ?_
      refine X_cge (pc := 9) 39 (b := 12) dX10_carried_9 (by decide) (by omega) (Nat.le_refl _) (fun _ => ?_) (fun c => absurd c (Nat.lt_irrefl _))
      refine X_lload_n (pc := 39) 1 dX10_carried_39 rfl rfl ?_
      refine X_lreturn (pc := 40) dX10_carried_40 rfl (Nat.le_of_ble_eq_true rfl) (Nat.le_of_ble_eq_true rfl) ?_
      exact ⟨_, rfl, f, hff, hv, rfl⟩)
    (fun k hk ih f c hc hff hv => by
      have o1 : hset h to (Ai false 0 no f) M0 = some (Ob 11 fl) := by rw [hset_ne hne]; exact hO
      have o2 : hset h to (Ai false 0 no f) af = some (Al false 16 F) := by rw [hset_ne hne2]; exact hf
      have ck : (nI k).toNatClampNeg = k := nI_clamp (by omega)
      have b1 : vp_in (nI k) 16 := vp_in_nI (by omega) (by omega)
      have b2 : vp_in (nI k) no := vp_in_nI (by omega) (by omega)
      obtain ⟨k1, k2⟩ := hb k
      refine X_iload (pc := 5) 0 dX10_carried_5 rfl ?_
      refine X_bipush (pc := 7) (x := 12) dX10_carried_7 (by decide) ?_
      refine X_cge (pc := 9) 39 (b := 12) dX10_carried_9 (by decide) (by omega) (by omega) (fun c => absurd c (by omega)) (fun _ => ?_)
      refine X_lload_n (pc := 12) 1 dX10_carried_12 rfl rfl ?_
      refine X_aload_n (pc := 13) 2 dX10_carried_13 rfl rfl ?_
      refine X_getfield (pc := 14) dX10_carried_14 fg_X10_73_11 o1 f2 ?_
      refine X_iload (pc := 17) 0 dX10_carried_17 rfl ?_
      refine X_laload (pc := 19) dX10_carried_19 o2 b1 ?_
      rw [ck]
      refine X_ladd (pc := 20) dX10_carried_20 ?_
      refine X_topl (fun d ed => ?_)
      have hd : d.toInt = c.toInt + (F k).toInt := by rw [ed, l_add (by omega) (by omega)]
      refine X_lstore_n (pc := 21) (L' := [(2, .long _), (4, .int _), (0, .ref _), (1, .ref _)]) dX10_carried_21 rfl (Nat.le_of_ble_eq_true rfl) rfl ?_
      refine X_aload_n (pc := 22) 3 dX10_carried_22 rfl rfl ?_
      refine X_iload (pc := 23) 1 dX10_carried_23 rfl ?_
      refine X_lload_n (pc := 25) 0 dX10_carried_25 rfl rfl ?_
      refine X_l2i (pc := 26) dX10_carried_26 ?_
      refine X_iastore (pc := 27) dX10_carried_27 (hset_self _ _ _) b2 ?_
      refine XX.eqh (hset_hset _ _ _ _) ?_
      rw [ck]
      refine X_lload_n (pc := 28) 0 dX10_carried_28 rfl rfl ?_
      refine X_bipush (pc := 29) (x := 32) dX10_carried_29 (by decide) ?_
      refine X_lshr (pc := 31) dX10_carried_31 ?_
      refine X_topl (fun c' ec => ?_)
      have hc' : c'.toInt = d.toInt / 2 ^ 32 := by rw [ec, l_hi]
      refine X_lstore_n (pc := 32) (L' := [(2, .long _), (4, .int _), (0, .ref _), (1, .ref _)]) dX10_carried_32 rfl (Nat.le_of_ble_eq_true rfl) rfl ?_
      refine X_iinc (pc := 33) (L' := [(4, .int (_ + 1)), (2, .long _), (0, .ref _), (1, .ref _)]) 1 dX10_carried_33 rfl rfl (Nat.le_of_ble_eq_true rfl) rfl ?_
      refine X_goto (pc := 36) 5 dX10_carried_36 (by decide) ?_
      rw [nI_1]
      refine XX.pick (L' := [(4, .int _), (2, .long _), (0, .ref _), (1, .ref _)]) [0, 1, 2, 3] rfl ?_
      refine ih _ c' (by omega) (fun j hj => ?_) ?_
      · rw [pk_un (by omega)]
        exact hff j (by omega)
      · rw [V_upd]
        show _ = VI k F + (F k).toInt * 2 ^ (32 * k)
        have e : (2 : Int) ^ (32 * (k + 1)) = 2 ^ 32 * 2 ^ (32 * k) := by rw [← Int.pow_add]; congr 1; omega
        have hlo := l_lo d
        have hx : (u32 d.toInt32 : Int) + c'.toInt * 2 ^ 32 = c.toInt + (F k).toInt := by omega
        rw [e, ← hv]
        push_cast
        generalize (2 : Int) ^ (32 * k) = K
        generalize (u32 d.toInt32 : Int) = u at *
        generalize c'.toInt = y at *
        have h3 : (u + y * 2 ^ 32) * K = (c.toInt + (F k).toInt) * K := by rw [hx]
        generalize c.toInt = z at *
        generalize (F k).toInt = t at *
        grind)
  refine X_lconst (pc := 0) (x := 0) dX10_carried_0 (by decide) ?_
  refine X_lstore_n (pc := 1) (L' := [(2, .long _), (0, .ref _), (1, .ref _)]) dX10_carried_1 rfl (Nat.le_of_ble_eq_true rfl) rfl ?_
  refine X_iconst (pc := 2) (x := 0) dX10_carried_2 (by decide) ?_
  refine X_istore (pc := 3) (L' := [(4, .int _), (2, .long _), (0, .ref _), (1, .ref _)]) dX10_carried_3 (Nat.le_of_ble_eq_true rfl) rfl ?_
  refine XX.pick (L' := [(4, .int _), (2, .long _), (0, .ref _), (1, .ref _)]) [0, 1, 2, 3] rfl ?_
  refine XX.eqh (hset_same ho).symm ?_
  exact loop 0 (by omega) fo 0 (by decide) (fun _ _ => rfl) (by show (0 : Int) + 0 * _ = 0; omega)
