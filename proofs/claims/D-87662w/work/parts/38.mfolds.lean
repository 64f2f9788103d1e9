set_option maxRecDepth 100000
theorem fdd_hi {F : Nat → Int64} {i j : Nat} {x : Int64} (h : i + 4 < j) : fdd F i x j = F j := by
  unfold fdd fd1 fd2
  rw [pk_uLn (by omega), pk_uLn (by omega), pk_uLn (by omega), pk_uLn (by omega)]
theorem kap_p : (2 : Int) ^ 384 - kap = (pP : Int) := by decide +kernel
theorem V_tP : V 12 (fun j => tP.getD j 0) = pP := by decide +kernel
def fW (fw : Nat → Int32) : Nat → Int64 := fun j => if j < 12 then lN (u32 (fw j)) else 0
theorem lNu_toInt (x : Int32) : (lN (u32 x)).toInt = (u32 x : Int) := pk_lT (by have := u32_lt x; omega)
theorem fW_b (fw : Nat → Int32) : BI (fW fw) (2 ^ 32) := fun k => by
  unfold fW
  split
  · have := u32_lt (fw k)
    rw [lNu_toInt]
    omega
  · show -(2 ^ 32) ≤ (0 : Int) ∧ (0 : Int) ≤ 2 ^ 32
    omega
theorem VI_fW (fw : Nat → Int32) (n : Nat) (h : n ≤ 12) : VI n (fW fw) = (V n fw : Int) := by
  induction n with
  | zero => rfl
  | succ n ih =>
    show VI n (fW fw) + (fW fw n).toInt * 2 ^ (32 * n) = ((V n fw + u32 (fw n) * 2 ^ (32 * n) : Nat) : Int)
    rw [ih (by omega)]
    unfold fW
    rw [if_pos (by omega), lNu_toInt]
    push_cast
    rfl
theorem VI_0 {F : Nat → Int64} {n m : Nat} (h : ∀ j, n ≤ j → j < n + m → F j = 0) : VI (n + m) F = VI n F := by
  induction m with
  | zero => rfl
  | succ m ih =>
    show VI (n + m) F + (F (n + m)).toInt * _ = _
    rw [ih fun j a b => h j a (by omega), h (n + m) (by omega) (by omega)]
    show _ + (0 : Int) * _ = _
    omega
theorem hs2 {h : AH} {a b : Nat} {c c' d : AC} (n : a ≠ b) : hset (hset (hset h a c) b d) a c' = hset (hset h a c') b d := by
  rw [hset_comm h c d n, hset_hset, hset_comm h d c' n.symm]
theorem fW_z (f : Nat → Int32) : ∀ j, 12 ≤ j → j < 16 → fW f j = 0 := fun j h _ => if_neg (by omega)
theorem kap_v : kap = 340282367000166625977638945021017194497 := by decide +kernel
theorem p384_v : (2 : Int) ^ 384 = 39402006196394479212279040100143613805079739270465446667948293404245721771497210611414266254884915640806627990306816 := by decide +kernel
theorem V12_lt (f : Nat → Int32) : (V 12 f : Int) < 39402006196394479212279040100143613805079739270465446667948293404245721771497210611414266254884915640806627990306816 := by
  have h := V_lt 12 f
  have e : (2 : Nat) ^ (32 * 12) = 39402006196394479212279040100143613805079739270465446667948293404245721771497210611414266254884915640806627990306816 := by decide +kernel
  rw [e] at h
  omega
theorem fold_c1 {v0 v1 : Nat} {c c1 : Int} (h0 : (v0 : Int) < 39402006196394479212279040100143613805079739270465446667948293404245721771497210611414266254884915640806627990306816) (h1 : (v1 : Int) < 39402006196394479212279040100143613805079739270465446667948293404245721771497210611414266254884915640806627990306816) (hc : -(2 ^ 50) ≤ c ∧ c ≤ 2 ^ 50) (e : (v1 : Int) + c1 * 2 ^ 384 = v0 + c * kap) : c1 = -1 ∨ c1 = 0 ∨ c1 = 1 := by
  rw [kap_v, p384_v] at e
  omega
theorem fold_c2 {v0 v1 v2 : Nat} {c c1 c2 : Int} (h0 : (v0 : Int) < 39402006196394479212279040100143613805079739270465446667948293404245721771497210611414266254884915640806627990306816) (h1 : (v1 : Int) < 39402006196394479212279040100143613805079739270465446667948293404245721771497210611414266254884915640806627990306816) (h2 : (v2 : Int) < 39402006196394479212279040100143613805079739270465446667948293404245721771497210611414266254884915640806627990306816) (hc : -(2 ^ 50) ≤ c ∧ c ≤ 2 ^ 50) (e : (v1 : Int) + c1 * 2 ^ 384 = v0 + c * kap) (hn : c1 ≠ 0) (e2 : (v2 : Int) + c2 * 2 ^ 384 = v1 + c1 * kap) : c2 = 0 := by
  rw [kap_v, p384_v] at e e2
  omega
theorem fold_c0 {v0 : Nat} {c B : Int} (h0 : (v0 : Int) < 39402006196394479212279040100143613805079739270465446667948293404245721771497210611414266254884915640806627990306816) (hB : B ≤ 2 ^ 47) (hB0 : 0 ≤ B) (e : -(B * 2 ^ (32 * 12)) ≤ (v0 : Int) + c * 2 ^ 384 ∧ (v0 : Int) + c * 2 ^ 384 ≤ B * 2 ^ (32 * 12)) : -(2 ^ 50) ≤ c ∧ c ≤ 2 ^ 50 := by
  have q : (2 : Int) ^ (32 * 12) = 39402006196394479212279040100143613805079739270465446667948293404245721771497210611414266254884915640806627990306816 := by decide +kernel
  rw [q] at e
  omega
set_option maxHeartbeats 8000000 in
theorem mfolds_ok (g : GX) {h : AH} {M0 aw af to no : Nat} {fl : List Value} {fw fo : Nat → Int32} {F0 : Nat → Int64} (hO : h M0 = some (Ob 11 fl)) (hw : h aw = some (Ai false 0 130 fw)) (hf : h af = some (Al false 16 F0)) (ho : h to = some (Ai false 0 no fo)) (f1 : fl[1]? = some (.ref aw)) (f2 : fl[2]? = some (.ref af)) (hne : aw ≠ to) (hno : 12 ≤ no) (hl : no < 2 ^ 31) :
    MT g MX10_folds ({ frames := 2, cells := 0, slots := 0, locals := 46 } : Room) [.ref M0, .ref to] h (RV fun h' => ∃ (F : Nat → Int64) (f : Nat → Int32), (∀ j, 12 ≤ j → f j = fo j) ∧ V 12 f = V 24 fw % pP ∧ h' = hset (hset h af (Al false 16 F)) to (Ai false 0 no f)) := by
  refine MT.of (by decide) (Nat.le_of_ble_eq_true rfl) ?_
  have n1 : M0 ≠ af := ne_of hO hf (fun e => by cases e)
  have n2 : M0 ≠ to := ne_of hO ho (fun e => by cases e)
  have n3 : af ≠ to := ne_of hf ho (fun e => by cases e)
  have n4 : aw ≠ af := ne_of hw hf (fun e => by cases e)
  have outF : ∀ F, hset h af (Al false 16 F) M0 = some (Ob 11 fl) ∧ hset h af (Al false 16 F) aw = some (Ai false 0 130 fw) ∧ hset h af (Al false 16 F) to = some (Ai false 0 no fo) := fun F =>
    ⟨by rw [hset_ne n1]; exact hO, by rw [hset_ne n4]; exact hw, by rw [hset_ne n3.symm]; exact ho⟩
  have outT : ∀ F f, hset (hset h af (Al false 16 F)) to (Ai false 0 no f) M0 = some (Ob 11 fl) ∧ hset (hset h af (Al false 16 F)) to (Ai false 0 no f) af = some (Al false 16 F) ∧ hset (hset h af (Al false 16 F)) to (Ai false 0 no f) to = some (Ai false 0 no f) := fun F f =>
    ⟨by rw [hset_ne n2, hset_ne n1]; exact hO, by rw [hset_ne n3, hset_self], hset_self _ _ _⟩
  have hT : (V 24 fw : Int) = V 12 fw + V 12 (sh 12 fw) * 2 ^ 384 := by
    rw [V_split 12 12 fw]
    push_cast
    generalize (V 12 (sh 12 fw) : Int) = z
    generalize (V 12 fw : Int) = y
    have : (2 : Int) ^ (32 * 12) = 2 ^ 384 := by rfl
    rw [this]
    generalize (2 : Int) ^ 384 = K
    grind
  -- the end: at most one subtraction
  have fin5 : ∀ (F : Nat → Int64) (f : Nat → Int32) (c : Int64), (∀ j, 12 ≤ j → f j = fo j) → (∃ z : Int, (V 12 f : Int) = V 24 fw - z * pP) → V 12 f < pP →
      XX g MX10_folds ({ frames := 2, cells := 0, slots := 0, locals := 46 } : Room) (RV fun h' => ∃ (F : Nat → Int64) (f : Nat → Int32), (∀ j, 12 ≤ j → f j = fo j) ∧ V 12 f = V 24 fw % pP ∧ h' = hset (hset h af (Al false 16 F)) to (Ai false 0 no f)) 0 0 178 [(2, .long c), (0, .ref M0), (1, .ref to)] [] (hset (hset h af (Al false 16 F)) to (Ai false 0 no f)) := by
    intro F f c hff hz hlt
    obtain ⟨o1, o2, o3⟩ := outT F f
    refine X_aload_n (pc := 178) 2 dX10_folds_178 rfl rfl ?_
    refine X_getstatic (pc := 179) (j := 3) dX10_folds_179 q1377 (fun _ => rfl) rfl (fun st_179 hs_179 => ?_)
    refine X_bipush (pc := 182) (x := 12) dX10_folds_182 (by decide) ?_
    refine X_isi (pc := 184) _ dX10_folds_184 cs_X10_26 rfl (mcmp_ok g o3 hs_179 hno (Nat.le_refl 12) ⟨hl, by decide⟩ (n := 12)) nX10_compare (Nat.le_of_ble_eq_true rfl) (Nat.le_of_ble_eq_true rfl) (Nat.le_of_ble_eq_true rfl) (Nat.le_of_ble_eq_true rfl) (fun r1 h1 q1 => ?_)
    obtain ⟨rfl, rfl⟩ := q1
    rw [V_tP]
    refine X_if_lt (pc := 187) 205 dX10_folds_187 (by decide) (fun c_187 => ?_) (fun c_187 => ?_)
    · refine X_return (pc := 205) dX10_folds_205 rfl (Nat.le_of_ble_eq_true rfl) (Nat.le_of_ble_eq_true rfl) ?_
      refine ⟨rfl, F, f, hff, ?_, rfl⟩
      obtain ⟨z, hz⟩ := hz
      have e : ((V 24 fw % pP : Nat) : Int) = (V 12 f : Int) := by
        push_cast
        rw [show (V 24 fw : Int) = V 12 f + z * pP by omega, Int.add_mul_emod_self_right, Int.emod_eq_of_lt (by omega) (by omega)]
      omega
    · exfalso
      unfold cmpN at c_187
      rw [if_pos hlt] at c_187
      exact c_187 (by decide)
  have fin4 : ∀ (F : Nat → Int64) (f : Nat → Int32) (c : Int64), (∀ j, 12 ≤ j → f j = fo j) → (∃ z : Int, (V 12 f : Int) = V 24 fw - z * pP) →
      XX g MX10_folds ({ frames := 2, cells := 0, slots := 0, locals := 46 } : Room) (RV fun h' => ∃ (F : Nat → Int64) (f : Nat → Int32), (∀ j, 12 ≤ j → f j = fo j) ∧ V 12 f = V 24 fw % pP ∧ h' = hset (hset h af (Al false 16 F)) to (Ai false 0 no f)) 0 0 178 [(2, .long c), (0, .ref M0), (1, .ref to)] [] (hset (hset h af (Al false 16 F)) to (Ai false 0 no f)) := by
    intro F f c hff hz
    by_cases hlt : V 12 f < pP
    · exact fin5 F f c hff hz hlt
    · obtain ⟨o1, o2, o3⟩ := outT F f
      have hV := V_lt 12 f
      have hp2 : 2 ^ (32 * 12) < 2 * pP := by decide +kernel
      refine X_aload_n (pc := 178) 2 dX10_folds_178 rfl rfl ?_
      refine X_getstatic (pc := 179) (j := 3) dX10_folds_179 q1377 (fun _ => rfl) rfl (fun st_179 hs_179 => ?_)
      refine X_bipush (pc := 182) (x := 12) dX10_folds_182 (by decide) ?_
      refine X_isi (pc := 184) _ dX10_folds_184 cs_X10_26 rfl (mcmp_ok g o3 hs_179 hno (Nat.le_refl 12) ⟨hl, by decide⟩ (n := 12)) nX10_compare (Nat.le_of_ble_eq_true rfl) (Nat.le_of_ble_eq_true rfl) (Nat.le_of_ble_eq_true rfl) (Nat.le_of_ble_eq_true rfl) (fun r1 h1 q1 => ?_)
      obtain ⟨rfl, rfl⟩ := q1
      rw [V_tP]
      refine X_if_lt (pc := 187) 205 dX10_folds_187 (by decide) (fun c_187 => ?_) (fun c_187 => ?_)
      · exfalso
        unfold cmpN at c_187
        rw [if_neg hlt] at c_187
        split at c_187 <;> exact absurd c_187 (by decide)
      · refine X_aload_n (pc := 190) 2 dX10_folds_190 rfl rfl ?_
        refine X_getstatic (pc := 191) (j := 3) dX10_folds_191 q1377 (fun _ => rfl) rfl (fun st_191 hs_191 => ?_)
        refine X_aload_n (pc := 194) 2 dX10_folds_194 rfl rfl ?_
        refine X_bipush (pc := 195) (x := 12) dX10_folds_195 (by decide) ?_
        refine X_isi (pc := 197) _ dX10_folds_197 cs_X10_30 rfl (mminus_ok g o3 hs_191 o3 hno (Nat.le_refl 12) hno ⟨hl, by decide, hl⟩ (n := 12)) nX10_minus (Nat.le_of_ble_eq_true rfl) (Nat.le_of_ble_eq_true rfl) (Nat.le_of_ble_eq_true rfl) (Nat.le_of_ble_eq_true rfl) (fun r2 h2 q2 => ?_)
        obtain ⟨f', hr, hf', hv, rfl⟩ := q2
        rw [V_tP] at hv
        refine X_i2l (pc := 200) dX10_folds_200 ?_
        refine X_lstore_n (pc := 201) (L' := [(2, .long _), (0, .ref _), (1, .ref _)]) dX10_folds_201 rfl (Nat.le_of_ble_eq_true rfl) rfl ?_
        refine X_goto (pc := 202) 178 dX10_folds_202 (by decide) ?_
        refine XX.eqh (hset_hset _ _ _ _) ?_
        have hV2 := V_lt 12 f'
        have hv3 : (V 12 f' : Int) = V 12 f - pP := by
          rcases hr with rfl | rfl
          · have e0 : (0 : Int32).toInt = 0 := rfl
            rw [e0] at hv
            omega
          · have e0 : (-1 : Int32).toInt = -1 := rfl
            rw [e0] at hv
            omega
        refine fin5 F f' _ (fun j hj => (hf' j hj).trans (hff j hj)) ?_ (by omega)
        obtain ⟨z, hz⟩ := hz
        exact ⟨z + 1, by rw [hv3, hz, Int.add_mul]; omega⟩
  -- one more fold of what is left above
  have iter : ∀ (t : Nat), t < 8 → ∀ (F : Nat → Int64) (f : Nat → Int32) (c : Int64), (∀ j, 12 ≤ j → j < 16 → F j = 0) → (∀ j, 12 ≤ j → f j = fo j) → -(2 ^ 50) ≤ c.toInt ∧ c.toInt ≤ 2 ^ 50 → (∃ z : Int, (V 12 f : Int) + c.toInt * 2 ^ 384 = V 24 fw - z * pP) →
      (c ≠ 0 → ∀ (F' : Nat → Int64) (f' : Nat → Int32) (c' : Int64), (∀ j, 12 ≤ j → j < 16 → F' j = 0) → (∀ j, 12 ≤ j → f' j = fo j) → (V 12 f' : Int) + c'.toInt * 2 ^ 384 = V 12 f + c.toInt * kap → (∃ z : Int, (V 12 f' : Int) + c'.toInt * 2 ^ 384 = V 24 fw - z * pP) →
        XX g MX10_folds ({ frames := 2, cells := 0, slots := 0, locals := 46 } : Room) (RV fun h' => ∃ (F : Nat → Int64) (f : Nat → Int32), (∀ j, 12 ≤ j → f j = fo j) ∧ V 12 f = V 24 fw % pP ∧ h' = hset (hset h af (Al false 16 F)) to (Ai false 0 no f)) 0 0 117 [(4, .int (nI (t + 1))), (2, .long c'), (0, .ref M0), (1, .ref to)] [] (hset (hset h af (Al false 16 F')) to (Ai false 0 no f'))) →
      XX g MX10_folds ({ frames := 2, cells := 0, slots := 0, locals := 46 } : Room) (RV fun h' => ∃ (F : Nat → Int64) (f : Nat → Int32), (∀ j, 12 ≤ j → f j = fo j) ∧ V 12 f = V 24 fw % pP ∧ h' = hset (hset h af (Al false 16 F)) to (Ai false 0 no f)) 0 0 117 [(4, .int (nI t)), (2, .long c), (0, .ref M0), (1, .ref to)] [] (hset (hset h af (Al false 16 F)) to (Ai false 0 no f)) := by
    intro t ht F f c hF hff hcb hz hx
    -- the copying loop
    have cp : c ≠ 0 → ∀ k, k ≤ 12 → ∀ F' : Nat → Int64, (∀ j, j < k → F' j = lN (u32 (f j))) → (∀ j, 12 ≤ j → j < 16 → F' j = 0) →
        XX g MX10_folds ({ frames := 2, cells := 0, slots := 0, locals := 46 } : Room) (RV fun h' => ∃ (F : Nat → Int64) (f : Nat → Int32), (∀ j, 12 ≤ j → f j = fo j) ∧ V 12 f = V 24 fw % pP ∧ h' = hset (hset h af (Al false 16 F)) to (Ai false 0 no f)) 0 0 133 [(5, .int (nI k)), (4, .int (nI t)), (2, .long c), (0, .ref M0), (1, .ref to)] [] (hset (hset h af (Al false 16 F')) to (Ai false 0 no f)) := by
      intro hc
      refine loop_up 12 ?_ ?_
      · intro F' hF' hF2
        refine X_iload (pc := 133) 0 dX10_folds_133 rfl ?_
        refine X_bipush (pc := 135) (x := 12) dX10_folds_135 (by decide) ?_
        refine X_cge (pc := 137) 160 (b := 12) dX10_folds_137 (by decide) (by omega) (Nat.le_refl _) (fun _ => ?_) (fun c => absurd c (Nat.lt_irrefl _))
        -- the function beyond the row doesn't count
        refine XX.congrL (outT F' f).2.1 (f' := fW f) (fun j hj => ?_) ?_
        · unfold fW
          by_cases e : j < 12
          · rw [if_pos e]; exact hF' j e
          · rw [if_neg e]; exact hF2 j (by omega) hj
        refine XX.eqh (hs2 n3) ?_
        obtain ⟨o1, o2, o3⟩ := outT (fW f) f
        refine X_aload_n (pc := 160) 3 dX10_folds_160 rfl rfl ?_
        refine X_iconst (pc := 161) (x := 0) dX10_folds_161 (by decide) ?_
        refine X_lload_n (pc := 162) 2 dX10_folds_162 rfl rfl ?_
        refine X_ivv (pc := 163) _ dX10_folds_163 cv_X10_77_11 o1 rfl (mfolded_ok g (i := 0) o1 o2 f2 (by decide)) nX10_folded (Nat.le_of_ble_eq_true rfl) (Nat.le_of_ble_eq_true rfl) (Nat.le_of_ble_eq_true rfl) (Nat.le_of_ble_eq_true rfl) (fun h1 q1 => ?_)
        subst q1
        refine XX.eqh (hs2 n3) ?_
        obtain ⟨b1, b2⟩ := fdd_ok (n := 12) (i := 0) (x := c) (fW_b f) hcb (by decide) (by decide)
        obtain ⟨p1, p2, p3⟩ := outT (fdd (fW f) 0 c) f
        refine X_aload_n (pc := 166) 3 dX10_folds_166 rfl rfl ?_
        refine X_aload_n (pc := 167) 4 dX10_folds_167 rfl rfl ?_
        refine X_ivl (pc := 168) _ dX10_folds_168 cv_X10_81_11 p1 rfl (mcarried_ok g p1 p2 f2 p3 hno hl (b1.mono (by decide))) nX10_carried (Nat.le_of_ble_eq_true rfl) (Nat.le_of_ble_eq_true rfl) (Nat.le_of_ble_eq_true rfl) (Nat.le_of_ble_eq_true rfl) (fun c' h2 q2 => ?_)
        obtain ⟨f', hf', hv, rfl⟩ := q2
        refine XX.eqh (hset_hset _ _ _ _) ?_
        refine X_lstore_n (pc := 171) (L' := [(2, .long _), (5, .int _), (4, .int _), (0, .ref _), (1, .ref _)]) dX10_folds_171 rfl (Nat.le_of_ble_eq_true rfl) rfl ?_
        refine X_iinc (pc := 172) (L' := [(4, .int (_ + 1)), (2, .long _), (5, .int _), (0, .ref _), (1, .ref _)]) 2 dX10_folds_172 rfl rfl (Nat.le_of_ble_eq_true rfl) rfl ?_
        refine X_goto (pc := 175) 117 dX10_folds_175 (by decide) ?_
        rw [nI_1]
        refine XX.pick (L' := [(4, .int _), (2, .long _), (0, .ref _), (1, .ref _)]) [0, 1, 3, 4] rfl ?_
        have hv2 : (V 12 f' : Int) + c'.toInt * 2 ^ 384 = V 12 f + c.toInt * kap := by
          rw [hv, b2, VI_fW f 12 (Nat.le_refl _)]
          generalize kap = K
          generalize c.toInt = y
          show (V 12 f : Int) + y * 1 * K = _
          grind
        refine hx hc _ f' c' (fun j h1 h2 => by rw [fdd_hi (by omega)]; exact fW_z f j h1 h2) (fun j hj => (hf' j hj).trans (hff j hj)) hv2 ?_
        obtain ⟨z, hz⟩ := hz
        refine ⟨z + c.toInt, ?_⟩
        rw [hv2]
        have hk := kap_p
        generalize (2 : Int) ^ 384 = K at *
        generalize kap = κ at *
        generalize c.toInt = y at *
        generalize (pP : Int) = P at *
        generalize (V 12 f : Int) = u at *
        generalize (V 24 fw : Int) = w at *
        subst hk
        grind
      · intro k hk ih F' hF' hF2
        obtain ⟨o1, o2, o3⟩ := outT F' f
        have ck : (nI k).toNatClampNeg = k := nI_clamp (by omega)
        have b1 : vp_in (nI k) 16 := vp_in_nI (by omega) (by omega)
        have b2 : vp_in (nI k) no := vp_in_nI (by omega) (by omega)
        refine X_iload (pc := 133) 0 dX10_folds_133 rfl ?_
        refine X_bipush (pc := 135) (x := 12) dX10_folds_135 (by decide) ?_
        refine X_cge (pc := 137) 160 (b := 12) dX10_folds_137 (by decide) (by omega) (by omega) (fun c => absurd c (by omega)) (fun _ => ?_)
        refine X_aload_n (pc := 140) 3 dX10_folds_140 rfl rfl ?_
        refine X_getfield (pc := 141) dX10_folds_141 fg_X10_73_11 o1 f2 ?_
        refine X_iload (pc := 144) 0 dX10_folds_144 rfl ?_
        refine X_aload_n (pc := 146) 4 dX10_folds_146 rfl rfl ?_
        refine X_iload (pc := 147) 0 dX10_folds_147 rfl ?_
        refine X_iaload (pc := 149) dX10_folds_149 o3 b2 ?_
        rw [ck]
        refine X_isl (pc := 150) _ dX10_folds_150 cs_X10_9 rfl (mu_ok g _ _) nX10_u (Nat.le_of_ble_eq_true rfl) (Nat.le_of_ble_eq_true rfl) (Nat.le_of_ble_eq_true rfl) (Nat.le_of_ble_eq_true rfl) (fun r1 h1 q1 => ?_)
        obtain ⟨rfl, rfl⟩ := q1
        refine X_lastore (pc := 153) dX10_folds_153 o2 b1 ?_
        refine X_iinc (pc := 154) (L' := [(5, .int (_ + 1)), (4, .int _), (2, .long _), (0, .ref _), (1, .ref _)]) 0 dX10_folds_154 rfl rfl (Nat.le_of_ble_eq_true rfl) rfl ?_
        refine X_goto (pc := 157) 133 dX10_folds_157 (by decide) ?_
        refine XX.eqh (hs2 n3) ?_
        rw [ck, nI_1]
        refine ih _ (fun j hj => ?_) (fun j h1 h2 => ?_)
        · by_cases e : j = k
          · subst e; exact pk_uLs
          · rw [pk_uLn e]; exact hF' j (by omega)
        · rw [pk_uLn (by omega)]; exact hF2 j h1 h2
    refine X_iload (pc := 117) 0 dX10_folds_117 rfl ?_
    refine X_bipush (pc := 119) (x := 8) dX10_folds_119 (by decide) ?_
    refine X_cge (pc := 121) 178 (b := 8) dX10_folds_121 (by decide) (by omega) (by omega) (fun c => absurd c (by omega)) (fun _ => ?_)
    refine X_lload_n (pc := 124) 1 dX10_folds_124 rfl rfl ?_
    refine X_lconst (pc := 125) (x := 0) dX10_folds_125 (by decide) ?_
    refine X_lcmp (pc := 126) dX10_folds_126 ?_
    refine X_if_eq (pc := 127) 178 dX10_folds_127 (by decide) (fun c_127 => ?_) (fun c_127 => ?_)
    · have hc := (lg_cmp_eq c 0).mp c_127
      subst hc
      refine XX.pick (L' := [(2, .long _), (0, .ref _), (1, .ref _)]) [1, 2, 3] rfl ?_
      refine fin4 F f 0 hff ?_
      obtain ⟨z, hz⟩ := hz
      have e0 : (0 : Int64).toInt = 0 := rfl
      rw [e0] at hz
      exact ⟨z, by omega⟩
    · skip
      have hc : c ≠ 0 := fun e => c_127 ((lg_cmp_eq c 0).mpr e)
      refine X_iconst (pc := 130) (x := 0) dX10_folds_130 (by decide) ?_
      refine X_istore (pc := 131) (L' := [(5, .int _), (4, .int _), (2, .long _), (0, .ref _), (1, .ref _)]) dX10_folds_131 (Nat.le_of_ble_eq_true rfl) rfl ?_
      exact cp hc 0 (by omega) F (fun j hj => absurd hj (Nat.not_lt_zero j)) hF
  -- the three of them
  have three : ∀ (F : Nat → Int64) (f : Nat → Int32) (c : Int64), (∀ j, 12 ≤ j → j < 16 → F j = 0) → (∀ j, 12 ≤ j → f j = fo j) → -(2 ^ 50) ≤ c.toInt ∧ c.toInt ≤ 2 ^ 50 → (∃ z : Int, (V 12 f : Int) + c.toInt * 2 ^ 384 = V 24 fw - z * pP) →
      XX g MX10_folds ({ frames := 2, cells := 0, slots := 0, locals := 46 } : Room) (RV fun h' => ∃ (F : Nat → Int64) (f : Nat → Int32), (∀ j, 12 ≤ j → f j = fo j) ∧ V 12 f = V 24 fw % pP ∧ h' = hset (hset h af (Al false 16 F)) to (Ai false 0 no f)) 0 0 117 [(4, .int (nI 0)), (2, .long c), (0, .ref M0), (1, .ref to)] [] (hset (hset h af (Al false 16 F)) to (Ai false 0 no f)) := by
    intro F f c hF hff hcb hz
    refine iter 0 (by decide) F f c hF hff hcb hz (fun hc F1 f1 c1 hF1 hff1 e1 hz1 => ?_)
    have b1 := fold_c1 (V12_lt f) (V12_lt f1) hcb e1
    refine iter 1 (by decide) F1 f1 c1 hF1 hff1 (by omega) hz1 (fun hc1 F2 f2' c2 hF2 hff2 e2 hz2 => ?_)
    have b2 : c2.toInt = 0 := fold_c2 (V12_lt f) (V12_lt f1) (V12_lt f2') hcb e1 (fun e => hc1 (Int64.toInt_inj.mp e)) e2
    refine iter 2 (by decide) F2 f2' c2 hF2 hff2 (by omega) hz2 (fun hc2 => ?_)
    exact absurd (Int64.toInt_inj.mp b2) hc2
  -- what is above comes down
  have loop3 : ∀ (m : Nat), m ≤ 4 → ∀ (F : Nat → Int64) (B : Int), 0 ≤ B → BI F B → B * 5 ^ m ≤ 2 ^ 47 → (∀ j, 12 + m ≤ j → j < 16 → F j = 0) → (∃ z : Int, VI 16 F = V 24 fw - z * pP) →
      XX g MX10_folds ({ frames := 2, cells := 0, slots := 0, locals := 46 } : Room) (RV fun h' => ∃ (F : Nat → Int64) (f : Nat → Int32), (∀ j, 12 ≤ j → f j = fo j) ∧ V 12 f = V 24 fw % pP ∧ h' = hset (hset h af (Al false 16 F)) to (Ai false 0 no f)) 0 0 72 [(2, .int (nI m - 1)), (0, .ref M0), (1, .ref to)] [] (hset h af (Al false 16 F)) := by
    intro m
    induction m with
    | zero =>
      intro _ F B h0 hB hB2 hF hz
      obtain ⟨o1, o2, o3⟩ := outF F
      refine X_iload_n (pc := 72) 0 dX10_folds_72 rfl rfl ?_
      refine X_if_lt (pc := 73) 108 dX10_folds_73 (by decide) (fun c_73 => ?_) (fun c_73 => ?_)
      · refine X_aload_n (pc := 108) 1 dX10_folds_108 rfl rfl ?_
        refine X_aload_n (pc := 109) 2 dX10_folds_109 rfl rfl ?_
        rw [Int.pow_zero, Int.mul_one] at hB2
        refine X_ivl (pc := 110) _ dX10_folds_110 cv_X10_81_11 o1 rfl (mcarried_ok g o1 (hset_self _ _ _) f2 o3 hno hl (hB.mono (by omega))) nX10_carried (Nat.le_of_ble_eq_true rfl) (Nat.le_of_ble_eq_true rfl) (Nat.le_of_ble_eq_true rfl) (Nat.le_of_ble_eq_true rfl) (fun c h1 q1 => ?_)
        obtain ⟨f, hff, hv, rfl⟩ := q1
        refine X_lstore_n (pc := 113) (L' := [(2, .long _), (0, .ref _), (1, .ref _)]) dX10_folds_113 rfl (Nat.le_of_ble_eq_true rfl) rfl ?_
        refine X_iconst (pc := 114) (x := 0) dX10_folds_114 (by decide) ?_
        refine X_istore (pc := 115) (L' := [(4, .int _), (2, .long _), (0, .ref _), (1, .ref _)]) dX10_folds_115 (Nat.le_of_ble_eq_true rfl) rfl ?_
        refine XX.pick (L' := [(4, .int _), (2, .long _), (0, .ref _), (1, .ref _)]) [0, 1, 2, 3] rfl ?_
        have e16 : VI 16 F = VI 12 F := VI_0 (n := 12) (m := 4) hF
        have hb := VI_bd (n := 12) h0 hB
        refine three F f c hF hff (fold_c0 (V12_lt f) hB2 h0 (hv ▸ hb)) ?_
        obtain ⟨z, hz⟩ := hz
        exact ⟨z, by rw [hv, ← e16, hz]⟩
      · exact absurd (show nI 0 - 1 < 0 by decide) c_73
    | succ m ih =>
      intro hm F B h0 hB hB2 hF hz
      obtain ⟨o1, o2, o3⟩ := outF F
      have cm : (nI (12 + m)).toNatClampNeg = 12 + m := nI_clamp (by omega)
      have bm : vp_in (nI (12 + m)) 16 := vp_in_nI (by omega) (by omega)
      rw [nI_pred]
      refine X_iload_n (pc := 72) 0 dX10_folds_72 rfl rfl ?_
      refine X_if_lt (pc := 73) 108 dX10_folds_73 (by decide) (fun c_73 => ?_) (fun c_73 => ?_)
      · exact absurd c_73 (nI_pos (by omega))
      · skip
        refine X_aload_n (pc := 76) 1 dX10_folds_76 rfl rfl ?_
        refine X_getfield (pc := 77) dX10_folds_77 fg_X10_73_11 o1 f2 ?_
        refine X_bipush (pc := 80) (x := 12) dX10_folds_80 (by decide) ?_
        refine X_iload_n (pc := 82) 0 dX10_folds_82 rfl rfl ?_
        refine X_iadd (pc := 83) dX10_folds_83 ?_
        rw [show (12 : Int32) = nI 12 from rfl, nI_add]
        refine X_laload (pc := 84) dX10_folds_84 (hset_self _ _ _) bm ?_
        rw [cm]
        refine X_lstore_n (pc := 85) (L' := [(3, .long _), (2, .int _), (0, .ref _), (1, .ref _)]) dX10_folds_85 rfl (Nat.le_of_ble_eq_true rfl) rfl ?_
        refine X_aload_n (pc := 86) 2 dX10_folds_86 rfl rfl ?_
        refine X_getfield (pc := 87) dX10_folds_87 fg_X10_73_11 o1 f2 ?_
        refine X_bipush (pc := 90) (x := 12) dX10_folds_90 (by decide) ?_
        refine X_iload_n (pc := 92) 1 dX10_folds_92 rfl rfl ?_
        refine X_iadd (pc := 93) dX10_folds_93 ?_
        rw [show (12 : Int32) = nI 12 from rfl, nI_add]
        refine X_lconst (pc := 94) (x := 0) dX10_folds_94 (by decide) ?_
        refine X_lastore (pc := 95) dX10_folds_95 (hset_self _ _ _) bm ?_
        refine XX.eqh (hset_hset _ _ _ _) ?_
        rw [cm]
        obtain ⟨p1, p2, p3⟩ := outF (vp_updL F (12 + m) 0)
        refine X_aload_n (pc := 96) 2 dX10_folds_96 rfl rfl ?_
        refine X_iload_n (pc := 97) 1 dX10_folds_97 rfl rfl ?_
        refine X_lload_n (pc := 98) 0 dX10_folds_98 rfl rfl ?_
        refine X_ivv (pc := 99) _ dX10_folds_99 cv_X10_77_11 p1 rfl (mfolded_ok g p1 (hset_self _ _ _) f2 (by omega)) nX10_folded (Nat.le_of_ble_eq_true rfl) (Nat.le_of_ble_eq_true rfl) (Nat.le_of_ble_eq_true rfl) (Nat.le_of_ble_eq_true rfl) (fun h1 q1 => ?_)
        subst q1
        refine XX.eqh (hset_hset _ _ _ _) ?_
        refine X_iinc (pc := 102) (L' := [(2, .int (_ + (-1))), (3, .long _), (0, .ref _), (1, .ref _)]) 1 dX10_folds_102 rfl rfl (Nat.le_of_ble_eq_true rfl) rfl ?_
        refine X_goto (pc := 105) 72 dX10_folds_105 (by decide) ?_
        rw [m1]
        refine XX.pick (L' := [(2, .int _), (0, .ref _), (1, .ref _)]) [0, 2, 3] rfl ?_
        have hB1 : BI (vp_updL F (12 + m) 0) B := fun k => by
          by_cases e : k = 12 + m
          · subst e; rw [pk_uLs]; show -B ≤ (0 : Int) ∧ (0 : Int) ≤ B; omega
          · rw [pk_uLn e]; exact hB k
        have h5 : 1 ≤ (5 : Int) ^ m := Int.pow_pos (by decide)
        have hB5 : B * 5 ≤ 2 ^ 47 := by
          rw [Int.pow_succ] at hB2
          have : B * 5 * 1 ≤ B * 5 * 5 ^ m := Int.mul_le_mul_of_nonneg_left h5 (by omega)
          have e : B * (5 ^ m * 5) = B * 5 * 5 ^ m := by grind
          omega
        obtain ⟨k1, k2⟩ := fdd_ok (n := 16) (i := m) (x := F (12 + m)) hB1 (hB (12 + m)) (by omega) (by omega)
        have hB6 : (B + 4 * B) * 5 ^ m ≤ 2 ^ 47 := by
          rw [Int.pow_succ] at hB2
          have e : (B + 4 * B) * 5 ^ m = B * (5 ^ m * 5) := by grind
          omega
        refine ih (by omega) _ (B + 4 * B) (by omega) k1 hB6 (fun j a b => ?_) ?_
        · rw [fdd_hi (by omega)]
          by_cases e : j = 12 + m
          · subst e; exact pk_uLs
          · rw [pk_uLn e]; exact hF j (by omega) b
        · obtain ⟨z, hz⟩ := hz
          refine ⟨z + (F (12 + m)).toInt * 2 ^ (32 * m), ?_⟩
          rw [k2, VI_upd, if_pos (by omega), hz]
          have e0 : (0 : Int64).toInt = 0 := rfl
          have hk := kap_p
          have e : (2 : Int) ^ (32 * (12 + m)) = 2 ^ 384 * 2 ^ (32 * m) := by rw [← Int.pow_add]; congr 1; omega
          rw [e0, e]
          generalize (2 : Int) ^ 384 = K at *
          generalize (2 : Int) ^ (32 * m) = M at *
          generalize kap = κ at *
          generalize (F (12 + m)).toInt = y at *
          generalize (pP : Int) = P at *
          generalize (V 24 fw : Int) = w at *
          subst hk
          grind
  -- the upper half
  have loop2 := loop_up (P := fun k => ∀ (F : Nat → Int64), BI F (2 ^ 32 * (1 + 4 * k)) → VI 16 F = V 12 fw + V k (sh 12 fw) * kap →
      XX g MX10_folds ({ frames := 2, cells := 0, slots := 0, locals := 46 } : Room) (RV fun h' => ∃ (F : Nat → Int64) (f : Nat → Int32), (∀ j, 12 ≤ j → f j = fo j) ∧ V 12 f = V 24 fw % pP ∧ h' = hset (hset h af (Al false 16 F)) to (Ai false 0 no f)) 0 0 41 [(2, .int (nI k)), (0, .ref M0), (1, .ref to)] [] (hset h af (Al false 16 F))) 12
    (by
      intro F hB hv
      refine X_iload_n (pc := 41) 0 dX10_folds_41 rfl rfl ?_
      refine X_bipush (pc := 42) (x := 12) dX10_folds_42 (by decide) ?_
      refine X_cge (pc := 44) 70 (b := 12) dX10_folds_44 (by decide) (by omega) (Nat.le_refl _) (fun _ => ?_) (fun c => absurd c (Nat.lt_irrefl _))
      refine X_iconst (pc := 70) (x := 3) dX10_folds_70 (by decide) ?_
      refine X_istore_n (pc := 71) (L' := [(2, .int _), (0, .ref _), (1, .ref _)]) dX10_folds_71 rfl (Nat.le_of_ble_eq_true rfl) rfl ?_
      refine loop3 4 (by decide) F (2 ^ 32 * 49) (by decide) hB (by decide) (fun j a b => by omega) ⟨V 12 (sh 12 fw), ?_⟩
      rw [hv, hT]
      have hk := kap_p
      generalize (2 : Int) ^ 384 = K at *
      generalize kap = κ at *
      generalize (pP : Int) = P at *
      generalize (V 12 fw : Int) = w at *
      generalize (V 12 (sh 12 fw) : Int) = u at *
      subst hk
      grind)
    (fun k hk ih F hB hv => by
      obtain ⟨o1, o2, o3⟩ := outF F
      have cm : (nI (12 + k)).toNatClampNeg = 12 + k := nI_clamp (by omega)
      have bm : vp_in (nI (12 + k)) 130 := vp_in_nI (by omega) (by omega)
      refine X_iload_n (pc := 41) 0 dX10_folds_41 rfl rfl ?_
      refine X_bipush (pc := 42) (x := 12) dX10_folds_42 (by decide) ?_
      refine X_cge (pc := 44) 70 (b := 12) dX10_folds_44 (by decide) (by omega) (by omega) (fun c => absurd c (by omega)) (fun _ => ?_)
      refine X_aload_n (pc := 47) 1 dX10_folds_47 rfl rfl ?_
      refine X_iload_n (pc := 48) 0 dX10_folds_48 rfl rfl ?_
      refine X_aload_n (pc := 49) 1 dX10_folds_49 rfl rfl ?_
      refine X_getfield (pc := 50) dX10_folds_50 fg_X10_36_11 o1 f1 ?_
      refine X_bipush (pc := 53) (x := 12) dX10_folds_53 (by decide) ?_
      refine X_iload_n (pc := 55) 0 dX10_folds_55 rfl rfl ?_
      refine X_iadd (pc := 56) dX10_folds_56 ?_
      rw [show (12 : Int32) = nI 12 from rfl, nI_add]
      refine X_iaload (pc := 57) dX10_folds_57 o2 bm ?_
      rw [cm]
      refine X_isl (pc := 58) _ dX10_folds_58 cs_X10_9 rfl (mu_ok g _ _) nX10_u (Nat.le_of_ble_eq_true rfl) (Nat.le_of_ble_eq_true rfl) (Nat.le_of_ble_eq_true rfl) (Nat.le_of_ble_eq_true rfl) (fun r1 h1 q1 => ?_)
      obtain ⟨rfl, rfl⟩ := q1
      refine X_ivv (pc := 61) _ dX10_folds_61 cv_X10_77_11 o1 rfl (mfolded_ok g o1 (hset_self _ _ _) f2 (by omega)) nX10_folded (Nat.le_of_ble_eq_true rfl) (Nat.le_of_ble_eq_true rfl) (Nat.le_of_ble_eq_true rfl) (Nat.le_of_ble_eq_true rfl) (fun h1 q1 => ?_)
      subst q1
      refine XX.eqh (hset_hset _ _ _ _) ?_
      refine X_iinc (pc := 64) (L' := [(2, .int (_ + 1)), (0, .ref _), (1, .ref _)]) 0 dX10_folds_64 rfl rfl (Nat.le_of_ble_eq_true rfl) rfl ?_
      refine X_goto (pc := 67) 41 dX10_folds_67 (by decide) ?_
      rw [nI_1]
      have hu := u32_lt (fw (12 + k))
      have hx : -(2 ^ 32) ≤ (lN (u32 (fw (12 + k)))).toInt ∧ (lN (u32 (fw (12 + k)))).toInt ≤ 2 ^ 32 := by rw [lNu_toInt]; omega
      obtain ⟨k1, k2⟩ := fdd_ok (n := 16) (i := k) (x := lN (u32 (fw (12 + k)))) hB hx (by omega) (by omega)
      refine ih _ (k1.mono (by push_cast; omega)) ?_
      rw [k2, hv, lNu_toInt]
      show _ = (V 12 fw : Int) + ((V k (sh 12 fw) + u32 (fw (12 + k)) * 2 ^ (32 * k) : Nat) : Int) * kap
      push_cast
      generalize kap = κ
      generalize (2 : Int) ^ (32 * k) = K
      generalize (u32 (fw (12 + k)) : Int) = u
      grind)
  -- the lower half
  have loop1 := loop_up (P := fun k => ∀ (F : Nat → Int64), (∀ j, j < k → F j = fW fw j) →
      XX g MX10_folds ({ frames := 2, cells := 0, slots := 0, locals := 46 } : Room) (RV fun h' => ∃ (F : Nat → Int64) (f : Nat → Int32), (∀ j, 12 ≤ j → f j = fo j) ∧ V 12 f = V 24 fw % pP ∧ h' = hset (hset h af (Al false 16 F)) to (Ai false 0 no f)) 0 0 2 [(2, .int (nI k)), (0, .ref M0), (1, .ref to)] [] (hset h af (Al false 16 F))) 16
    (by
      intro F hF
      refine X_iload_n (pc := 2) 0 dX10_folds_2 rfl rfl ?_
      refine X_bipush (pc := 3) (x := 16) dX10_folds_3 (by decide) ?_
      refine X_cge (pc := 5) 39 (b := 16) dX10_folds_5 (by decide) (by omega) (Nat.le_refl _) (fun _ => ?_) (fun c => absurd c (Nat.lt_irrefl _))
      refine X_iconst (pc := 39) (x := 0) dX10_folds_39 (by decide) ?_
      refine X_istore_n (pc := 40) (L' := [(2, .int _), (0, .ref _), (1, .ref _)]) dX10_folds_40 rfl (Nat.le_of_ble_eq_true rfl) rfl ?_
      refine XX.congrL (hset_self _ _ _) (f' := fW fw) (fun j hj => hF j hj) ?_
      refine XX.eqh (hset_hset _ _ _ _) ?_
      refine loop2 0 (by omega) _ ((fW_b fw).mono (by decide)) ?_
      rw [VI_0 (n := 12) (m := 4) (fun j a b => fW_z fw j a b), VI_fW fw 12 (Nat.le_refl _)]
      show (V 12 fw : Int) = V 12 fw + 0 * kap
      omega)
    (fun k hk ih F hF => by
      obtain ⟨o1, o2, o3⟩ := outF F
      have ck : (nI k).toNatClampNeg = k := nI_clamp (by omega)
      have b1 : vp_in (nI k) 16 := vp_in_nI (by omega) (by omega)
      have fin : ∀ x : Int64, x = fW fw k → XX g MX10_folds ({ frames := 2, cells := 0, slots := 0, locals := 46 } : Room) (RV fun h' => ∃ (F : Nat → Int64) (f : Nat → Int32), (∀ j, 12 ≤ j → f j = fo j) ∧ V 12 f = V 24 fw % pP ∧ h' = hset (hset h af (Al false 16 F)) to (Ai false 0 no f)) 0 0 32 [(2, .int (nI k)), (0, .ref M0), (1, .ref to)] [.long x, .int (nI k), .ref af] (hset h af (Al false 16 F)) := by
        intro x hx
        subst hx
        refine X_lastore (pc := 32) dX10_folds_32 (hset_self _ _ _) b1 ?_
        refine X_iinc (pc := 33) (L' := [(2, .int (_ + 1)), (0, .ref _), (1, .ref _)]) 0 dX10_folds_33 rfl rfl (Nat.le_of_ble_eq_true rfl) rfl ?_
        refine X_goto (pc := 36) 2 dX10_folds_36 (by decide) ?_
        refine XX.eqh (hset_hset _ _ _ _) ?_
        rw [ck, nI_1]
        refine ih _ (fun j hj => ?_)
        by_cases e : j = k
        · subst e; exact pk_uLs
        · rw [pk_uLn e]; exact hF j (by omega)
      refine X_iload_n (pc := 2) 0 dX10_folds_2 rfl rfl ?_
      refine X_bipush (pc := 3) (x := 16) dX10_folds_3 (by decide) ?_
      refine X_cge (pc := 5) 39 (b := 16) dX10_folds_5 (by decide) (by omega) (by omega) (fun c => absurd c (by omega)) (fun _ => ?_)
      refine X_aload_n (pc := 8) 1 dX10_folds_8 rfl rfl ?_
      refine X_getfield (pc := 9) dX10_folds_9 fg_X10_73_11 o1 f2 ?_
      refine X_iload_n (pc := 12) 0 dX10_folds_12 rfl rfl ?_
      refine X_iload_n (pc := 13) 0 dX10_folds_13 rfl rfl ?_
      refine X_bipush (pc := 14) (x := 12) dX10_folds_14 (by decide) ?_
      refine X_icmp_ge (pc := 16) 31 dX10_folds_16 (by decide) (fun c => ?_) (fun c => ?_)
      · have c2 : 12 ≤ k := (nI_leI (a := 12) (by decide) (by omega)).mp c
        refine X_lconst (pc := 31) (x := 0) dX10_folds_31 (by decide) ?_
        exact fin 0 (by unfold fW; rw [if_neg (by omega)])
      · have c2 : k < 12 := Nat.lt_of_not_le fun z => c ((nI_leI (a := 12) (by decide) (by omega)).mpr z)
        have b2 : vp_in (nI k) 130 := vp_in_nI (by omega) (by omega)
        refine X_aload_n (pc := 19) 1 dX10_folds_19 rfl rfl ?_
        refine X_getfield (pc := 20) dX10_folds_20 fg_X10_36_11 o1 f1 ?_
        refine X_iload_n (pc := 23) 0 dX10_folds_23 rfl rfl ?_
        refine X_iaload (pc := 24) dX10_folds_24 o2 b2 ?_
        rw [ck]
        refine X_isl (pc := 25) _ dX10_folds_25 cs_X10_9 rfl (mu_ok g _ _) nX10_u (Nat.le_of_ble_eq_true rfl) (Nat.le_of_ble_eq_true rfl) (Nat.le_of_ble_eq_true rfl) (Nat.le_of_ble_eq_true rfl) (fun r1 h1 q1 => ?_)
        obtain ⟨rfl, rfl⟩ := q1
        refine X_goto (pc := 28) 32 dX10_folds_28 (by decide) ?_
        exact fin _ (by unfold fW; rw [if_pos c2]))
  refine X_iconst (pc := 0) (x := 0) dX10_folds_0 (by decide) ?_
  refine X_istore_n (pc := 1) (L' := [(2, .int _), (0, .ref _), (1, .ref _)]) dX10_folds_1 rfl (Nat.le_of_ble_eq_true rfl) rfl ?_
  refine XX.eqh (hset_same hf).symm ?_
  exact loop1 0 (by omega) F0 (fun j hj => absurd hj (Nat.not_lt_zero j))
