set_option maxRecDepth 100000
/-! the reference: composites -/
section XAl
variable {g : GX} {M : MI} {rm : Room} {Q : Outcome → AH → Prop} {k n pc : Nat} {L : List (Nat × Value)} {st : List Value} {h : AH}
theorem X_aaloadA {a N : Nat} {f : Nat → Option Nat} {i : Int32} (hdg : decode M.2.1 pc = .ok (.aaload, 1)) (hc : h a = some (Ar 8 N f)) (hi : vp_in i N) (kk : XX g M rm Q k n (pc + 1) L (va_rf (f i.toNatClampNeg) :: st) h) : XX g M rm Q k n pc L (.int i :: .ref a :: st) h := by
  intro p l e s m args below meth c locs H ls C hl hA hS
  obtain ⟨q0, hq⟩ := hA.at hc rfl
  have hlt : i.toNatClampNeg < N := Nat.not_le.mp fun q => hi (Or.inr q)
  exact W.aald (v := va_rf (f i.toNatClampNeg)) (ty := .array .int) C.1 C.2.1 (hA.P q0 _ hq) ((C.K.2 8 (gC g 8, .array .int) rfl).1 N (fun j => va_rf (f j))) rfl (fun q => by cases q) (by show ¬ (i < 0 ∨ (arrV _ _ _).slots.size ≤ _); rw [arrV_size]; exact hi) (by show (arrV _ _ _).slots[_]? = _; rw [arrV_read _ _ hlt]) rfl rfl hdg (kk p l e s m args below meth c locs H ls C hl hA hS)
theorem XX.eqst {st' : List Value} (e : st = st') (kk : XX g M rm Q k n pc L st' h) : XX g M rm Q k n pc L st h := e ▸ kk
end XAl
def sd0 : List Nat := chars "Seed-"
def cw0 : List Nat := chars "Composite"
theorem sd0_len : sd0.length = 5 := by decide
theorem cw0_len : cw0.length = 9 := by decide
theorem c7_sd : ∀ j, sd0.getD j 0 < 128 := c7_all (by decide)
theorem c7_cw : ∀ j, cw0.getD j 0 < 128 := c7_all (by decide)
/-- a point's bytes -/
def en (P : PP) : List Int32 := match P with
  | some (x, y) => encB x.val y.val
  | none => []
noncomputable def seedB (ek : List Int32) : List Int32 := sha384 ([tb 0, tb 49] ++ ek ++ [tb 0, tb 25] ++ tagB sd0)
def cmsg (sd ea eg : List Int32) (i : Nat) : List Int32 := [tb 0, tb 48] ++ sd ++ [tb 0] ++ [tb i] ++ [tb 0, tb 49] ++ ea ++ [tb 0, tb 49] ++ eg ++ wrd cw0
noncomputable def cD (ek : List Int32) (qa qg : Nat → PP) (i : Nat) : Nat := h2s (cmsg (seedB ek) (en (qa i)) (en (qg i)) i)
noncomputable def cpt (d : Nat → Nat) (P : Nat → PP) : Nat → PP
  | 0 => none
  | i + 1 => adP (cpt d P i) (mP (d i) (P i))
theorem en_spt {R : Nat → Nat} {F : Nat → Int32} {s : Nat} (hF : F (400 + s) = 0) (hx : R (200 + s) < pP) (hy : R (300 + s) < pP) : en (spt R F s) = encB (R (200 + s)) (R (300 + s)) := by
  unfold spt
  rw [if_pos hF]
  show encB (fp _).val (fp _).val = _
  rw [fp_val_lt hx, fp_val_lt hy]
def cScr (j : Nat) : Bool := j == 13 || j == 14 || j == 15 || j == 17 || j == 18 || j == 19 || j == 20 || j == 21 || j == 22 || j == 23 || j == 57 || j == 201 || j == 301 || j == 203 || j == 303 || j == 204 || j == 304 || j == 207 || j == 307
theorem cScr_ne {j k : Nat} (h : cScr j = false) (hk : cScr k = true) : j ≠ k := fun e => by rw [e, hk] at h; cases h
theorem cScr_m {j : Nat} (h : cScr j = false) : mScr 7 j = false := by
  unfold cScr at h
  unfold mScr
  simp only [Bool.or_eq_false_iff] at h ⊢
  simp [h]
theorem cScr_3 {j : Nat} (h : cScr j = false) : jScr 3 j = false := by
  unfold cScr at h
  unfold jScr
  simp only [Bool.or_eq_false_iff] at h ⊢
  simp [h]
theorem cScr_4 {j : Nat} (h : cScr j = false) : jScr 4 j = false := by
  unfold cScr at h
  unfold jScr
  simp only [Bool.or_eq_false_iff] at h ⊢
  simp [h]
theorem cScr_hi {j : Nat} (h : (208 ≤ j ∧ j < 300) ∨ 308 ≤ j) : cScr j = false := by
  simp only [cScr, Bool.or_eq_false_iff, beq_eq_false_iff_ne, ne_eq]
  omega
/-- what composing may change of the bytes, of the ints -/
def cK (j : Nat) : Bool := hKm j || j == 55 || j == 56
def cF (j : Nat) : Bool := j == 26 || j == 33 || j == 35 || j == 401 || j == 403 || j == 404 || j == 407
theorem cF_hi {j : Nat} (h : 408 ≤ j) : cF j = false := by
  simp only [cF, Bool.or_eq_false_iff, beq_eq_false_iff_ne, ne_eq]
  omega
theorem cF_ne {j k : Nat} (h : cF j = false) (hk : cF k = true) : j ≠ k := fun e => by rw [e, hk] at h; cases h
theorem cK_ne {j k : Nat} (h : cK j = false) (hk : cK k = true) : j ≠ k := fun e => by rw [e, hk] at h; cases h
theorem cK_h {j : Nat} (h : cK j = false) : hK j = false := by
  unfold cK hKm at h
  simp only [Bool.or_eq_false_iff] at h
  exact h.1.1.1
theorem spt_cg {R R' : Nat → Nat} {F F' : Nat → Int32} {s : Nat} (h1 : R' (200 + s) = R (200 + s)) (h2 : R' (300 + s) = R (300 + s)) (h3 : F' (400 + s) = F (400 + s)) : spt R' F' s = spt R F s := by
  unfold spt
  rw [h1, h2, h3]
section MCo
variable {A : Nat → Nat} {X : AH} {R : Nat → Nat} {I : Nat → Nat → Int32} {S : Nat → List Int32} {F : Nat → Int32} {h : AH}
/-- a spot that is a point -/
def SpO (R : Nat → Nat) (F : Nat → Int32) (s : Nat) : Prop := F (400 + s) = 0 ∧ R (200 + s) < pP ∧ OnP (spt R F s)
def CPost (A : Nat → Nat) (X : AH) (R : Nat → Nat) (I : Nat → Nat → Int32) (S : Nat → List Int32) (F : Nat → Int32) (PM PZ : PP) (h' : AH) : Prop :=
  ∃ R' S' F', MW A X R' I S' F' h' ∧ (∀ j, cScr j = false → R' j = R j) ∧ (∀ j, cK j = false → S' j = S j) ∧ (∀ j, cF j = false → F' j = F j) ∧ F' 26 = 0 ∧ (F' 403 = 0 ∨ F' 403 = 1) ∧ (F' 404 = 0 ∨ F' 404 = 1) ∧ spt R' F' 3 = PM ∧ spt R' F' 4 = PZ
theorem mO48 : mO A F 48 = Ar 6 8 (fun j => some (A (409 + j))) := rfl
theorem mO49 : mO A F 49 = Ar 6 8 (fun j => some (A (417 + j))) := rfl
theorem qP_2 : qP < 2 ^ 384 := by decide +kernel
set_option maxHeartbeats 8000000 in
theorem composes_ok (g : GX) (w : MW A X R I S F h) {many ks : Nat} (hm : many ≤ 8) (hks : ks < 31) (hk : SpO R F ks) (hk9 : 9 ≤ ks) (ha : ∀ i, i < many → SpO R F (9 + i)) (hg : ∀ i, i < many → SpO R F (17 + i)) :
    MT g MX10_composes ({ frames := 9, cells := 0, slots := 0, locals := 191 } : Room) [.ref (A 96), .int (nI many), .ref (A (400 + ks))] h (RV (CPost A X R I S F
      (cpt (cD (en (spt R F ks)) (fun i => spt R F (9 + i)) (fun i => spt R F (17 + i))) (fun i => spt R F (9 + i)) many) (cpt (cD (en (spt R F ks)) (fun i => spt R F (9 + i)) (fun i => spt R F (17 + i))) (fun i => spt R F (17 + i)) many))) := by
  refine MT.of (by decide) (Nat.le_of_ble_eq_true rfl) ?_
  generalize hqa : (fun i => spt R F (9 + i)) = qa
  generalize hqg : (fun i => spt R F (17 + i)) = qg
  have eqa : ∀ i, qa i = spt R F (9 + i) := fun i => by rw [← hqa]
  have eqg : ∀ i, qg i = spt R F (17 + i) := fun i => by rw [← hqg]
  generalize hek : en (spt R F ks) = ek
  have hek' : encB (R (200 + ks)) (R (300 + ks)) = ek := by rw [← hek, en_spt hk.1 hk.2.1 (w.lt (kd_y hks))]
  have hekl : ek.length = 49 := by rw [← hek']; exact encB_len _ _
  have hekB : IsB ek := by rw [← hek']; exact encB_B _ _
  generalize hPost : RV (CPost A X R I S F (cpt (cD ek qa qg) qa many) (cpt (cD ek qa qg) qg many)) = Post
  have hsdB : IsB (seedB ek) := sha384_B _
  have hsdl : (seedB ek).length = 48 := sha384_len _
  have hcD : ∀ i, cD ek qa qg i = h2s (cmsg (seedB ek) (en (qa i)) (en (qg i)) i) := fun i => rfl
  have hsd : seedB ek = sha384 ([tb 0, tb 49] ++ ek ++ [tb 0, tb 25] ++ tagB sd0) := rfl
  generalize hsde : seedB ek = sd at *
  generalize hdd : cD ek qa qg = dd at *
  -- the points one by one
  have loop2 : ∀ m i, i + m = many → ∀ R' S' F' h', MW A X R' I S' F' h' → (∀ j, cScr j = false → R' j = R j) → (∀ j, cK j = false → S' j = S j) → (∀ j, cF j = false → F' j = F j) → F' 26 = 0 → (F' 403 = 0 ∨ F' 403 = 1) → (F' 404 = 0 ∨ F' 404 = 1) → S' 55 = sd → spt R' F' 3 = cpt dd qa i → spt R' F' 4 = cpt dd qg i →
      XX g MX10_composes ({ frames := 9, cells := 0, slots := 0, locals := 191 } : Room) Post 0 0 102 [(3, .int (nI i)), (0, .ref (A 96)), (1, .int (nI many)), (2, .ref (A (400 + ks)))] [] h' := by
    intro m
    induction m with
    | zero =>
      intro i hi R' S' F' h' w' fR fS fF f26 z3 z4 s55 p3 p4
      have e : i = many := by omega
      subst e
      refine X_iload_n (pc := 102) 0 dX10_composes_102 rfl rfl ?_
      refine X_iload_n (pc := 103) 2 dX10_composes_103 rfl rfl ?_
      refine X_cge (pc := 104) 265 dX10_composes_104 (by decide) (by omega) (by omega) (fun _ => ?_) (fun c => absurd c (by omega))
      subst hPost
      refine X_return (pc := 265) dX10_composes_265 rfl (Nat.le_of_ble_eq_true rfl) (Nat.le_of_ble_eq_true rfl) ?_
      exact ⟨rfl, R', S', F', w', fR, fS, fF, f26, z3, z4, p3, p4⟩
    | succ m ih =>
      intro i hi R' S' F' h' w' fR fS fF f26 z3 z4 s55 p3 p4
      obtain ⟨a1, a2, a3⟩ := ha i (by omega)
      obtain ⟨g1, g2, g3⟩ := hg i (by omega)
      have ra1 : R' (200 + (9 + i)) = R (200 + (9 + i)) := fR _ (cScr_hi (by omega))
      have ra2 : R' (300 + (9 + i)) = R (300 + (9 + i)) := fR _ (cScr_hi (by omega))
      have rg1 : R' (200 + (17 + i)) = R (200 + (17 + i)) := fR _ (cScr_hi (by omega))
      have rg2 : R' (300 + (17 + i)) = R (300 + (17 + i)) := fR _ (cScr_hi (by omega))
      have la2 : R (300 + (9 + i)) < pP := w.lt (kd_y (by omega))
      have lg2 : R (300 + (17 + i)) < pP := w.lt (kd_y (by omega))
      have ea : encB (R (200 + (9 + i))) (R (300 + (9 + i))) = en (qa i) := by rw [eqa, en_spt a1 a2 la2]
      have eg : encB (R (200 + (17 + i))) (R (300 + (17 + i))) = en (qg i) := by rw [eqg, en_spt g1 g2 lg2]
      have lea : (en (qa i)).length = 49 := by rw [← ea]; exact encB_len _ _
      have leg : (en (qg i)).length = 49 := by rw [← eg]; exact encB_len _ _
      have bi : vp_in (nI i) 8 := vp_in_nI (by omega) (by omega)
      have ci : (nI i).toNatClampNeg = i := nI_clamp (by omega)
      refine X_iload_n (pc := 102) 0 dX10_composes_102 rfl rfl ?_
      refine X_iload_n (pc := 103) 2 dX10_composes_103 rfl rfl ?_
      refine X_cge (pc := 104) 265 dX10_composes_104 (by decide) (by omega) (by omega) (fun c => absurd c (by omega)) (fun _ => ?_)
      refine X_aload_n (pc := 107) 1 dX10_composes_107 rfl rfl ?_
      refine X_iconst (pc := 108) (x := 0) dX10_composes_108 (by decide) ?_
      refine X_putfield (pc := 109) dX10_composes_109 fp_X10_331_11 (fun e => by cases e) (MW.ob w') rfl rfl (Nat.le_of_ble_eq_true rfl) ?_
      have w1 : LW A X R' I S' F' [] (hset h' (A 96) (Ob 11 ((mFl A F').set 33 (.int 0)))) := (w'.setF33 (v := 0)).cutS 32 rfl
      generalize hset h' (A 96) (Ob 11 ((mFl A F').set 33 (.int 0))) = h1 at *
      have w1' : MW A X R' I (up S' 32 []) (up F' 33 (nI 0)) h1 := w1
      refine X_aload_n (pc := 112) 1 dX10_composes_112 rfl rfl ?_
      refine X_aload_n (pc := 113) 1 dX10_composes_113 rfl rfl ?_
      refine X_getfield (pc := 114) dX10_composes_114 fg_X10_414_11 (MW.ob w1') mf_55 ?_
      refine X_iconst (pc := 117) (x := 0) dX10_composes_117 (by decide) ?_
      refine X_bipush (pc := 118) (x := 48) dX10_composes_118 (by decide) ?_
      refine X_ivv (pc := 120) _ dX10_composes_120 cv_X10_409_11 (MW.ob w1) rfl (lays_ok g w1 (kb := 55) (at' := 0) (n := 48) rfl (by decide) (by decide) (by rw [s55]; exact hsdB) (by rw [s55, hsdl]; decide) (by decide)) nX10_lays (Nat.le_of_ble_eq_true rfl) (Nat.le_of_ble_eq_true rfl) (Nat.le_of_ble_eq_true rfl) (Nat.le_of_ble_eq_true rfl) (fun h2 w2 => ?_)
      have e55 : sub (S' 55) 0 48 = sd := by
        rw [s55]
        unfold sub
        rw [show (fun j => sd.getD (0 + j) 0) = fun j => sd.getD j 0 from funext fun j => by rw [Nat.zero_add]]
        exact map_getD hsdl
      rw [e55] at w2
      have w2 : LW A X R' I S' F' ([tb 0, tb 48] ++ sd) h2 := w2
      have hl2 : ([tb 0, tb 48] ++ sd).length = 50 := by rw [List.length_append, hsdl]; rfl
      generalize hm2 : [tb 0, tb 48] ++ sd = m2 at *
      have w2' : MW A X R' I (up S' 32 m2) (up F' 33 (nI 50)) h2 := by rw [← hl2]; exact w2
      obtain ⟨f32, c32, p32, -⟩ := w2'.s 32 rfl
      rw [up_same] at p32
      have b50 : vp_in (nI 50) 700 := vp_in_nI (by omega) (by omega)
      have b51 : vp_in (nI 51) 700 := vp_in_nI (by omega) (by omega)
      have c50 : (nI 50).toNatClampNeg = m2.length := by rw [hl2]; exact nI_clamp (by omega)
      refine X_aload_n (pc := 123) 1 dX10_composes_123 rfl rfl ?_
      refine X_getfield (pc := 124) dX10_composes_124 fg_X10_328_11 (MW.ob w2') mf_32 ?_
      refine X_aload_n (pc := 127) 1 dX10_composes_127 rfl rfl ?_
      refine X_getfield (pc := 128) dX10_composes_128 fg_X10_331_11 (MW.ob w2') mf_33 ?_
      rw [up_same]
      refine X_iconst (pc := 131) (x := 0) dX10_composes_131 (by decide) ?_
      refine X_bastore (pc := 132) dX10_composes_132 c32 b50 ?_
      rw [c50]
      have w3 := w2'.msg c32 p32 (x := tb 0) (by omega)
      have c33 := hset_self h2 (A 32) (Ai false 2 700 (upd f32 m2.length (tb 0)))
      have p33 := PL_snoc (x := tb 0) p32
      have hl3 : (m2 ++ [tb 0]).length = 51 := by rw [List.length_append, hl2]; rfl
      have c51 : (nI 51).toNatClampNeg = (m2 ++ [tb 0]).length := by rw [hl3]; exact nI_clamp (by omega)
      refine XX.eqh (h' := hset h2 (A 32) (Ai false 2 700 (upd f32 m2.length (tb 0)))) rfl ?_
      generalize hset h2 (A 32) (Ai false 2 700 (upd f32 m2.length (tb 0))) = h3 at *
      refine X_aload_n (pc := 133) 1 dX10_composes_133 rfl rfl ?_
      refine X_getfield (pc := 134) dX10_composes_134 fg_X10_328_11 (MW.ob w3) mf_32 ?_
      refine X_aload_n (pc := 137) 1 dX10_composes_137 rfl rfl ?_
      refine X_getfield (pc := 138) dX10_composes_138 fg_X10_331_11 (MW.ob w3) mf_33 ?_
      refine X_iconst (pc := 141) (x := 1) dX10_composes_141 (by decide) ?_
      refine X_iadd (pc := 142) dX10_composes_142 ?_
      rw [up_same, show nI 50 + 1 = nI 51 from nI_add 50 1]
      refine X_iload_n (pc := 143) 0 dX10_composes_143 rfl rfl ?_
      refine X_i2b (pc := 144) dX10_composes_144 ?_
      refine X_bastore (pc := 145) dX10_composes_145 c33 b51 ?_
      rw [c51, Int8.toInt8_toInt32, toInt8_low, tb_u]
      have w4 := w3.msg c33 p33 (x := tb i) (by omega)
      generalize hset h3 (A 32) _ = h4 at *
      refine X_aload_n (pc := 146) 1 dX10_composes_146 rfl rfl ?_
      refine X_dup (pc := 147) dX10_composes_147 rfl ?_
      refine X_getfield (pc := 148) dX10_composes_148 fg_X10_331_11 (MW.ob w4) mf_33 ?_
      refine X_iconst (pc := 151) (x := 2) dX10_composes_151 (by decide) ?_
      refine X_iadd (pc := 152) dX10_composes_152 ?_
      rw [up_same, show nI 50 + 2 = nI 52 from nI_add 50 2]
      refine X_putfield (pc := 153) dX10_composes_153 fp_X10_331_11 (fun e => by cases e) (MW.ob w4) rfl rfl (Nat.le_of_ble_eq_true rfl) ?_
      have w5' := w4.setF33 (v := nI 52)
      rw [up_up'] at w5'
      have hl4 : (m2 ++ [tb 0] ++ [tb i]).length = 52 := by rw [List.length_append, hl3]; rfl
      refine XX.eqh (h' := hset h4 (A 96) (Ob 11 ((mFl A (up F' 33 (nI 50))).set 33 (.int (nI 52))))) rfl ?_
      generalize hset h4 (A 96) (Ob 11 ((mFl A (up F' 33 (nI 50))).set 33 (.int (nI 52)))) = h5 at *
      have w5 : LW A X R' I S' F' (m2 ++ [tb 0] ++ [tb i]) h5 := by unfold LW; rw [hl4]; exact w5'
      refine X_aload_n (pc := 156) 1 dX10_composes_156 rfl rfl ?_
      refine X_aload_n (pc := 157) 1 dX10_composes_157 rfl rfl ?_
      refine X_getfield (pc := 158) dX10_composes_158 fg_X10_422_11 (MW.ob w5') mf_48 ?_
      refine X_iload_n (pc := 161) 0 dX10_composes_161 rfl rfl ?_
      refine X_aaload (pc := 162) dX10_composes_162 (w5'.o 48 rfl) (fun _ => rfl) bi ?_
      rw [ci]
      show XX g MX10_composes _ Post 0 0 163 _ [.ref (A (409 + i)), .ref (A 96)] h5
      rw [show 409 + i = 400 + (9 + i) by omega]
      refine X_ivv (pc := 163) _ dX10_composes_163 cv_X10_426_11 (MW.ob w5) rfl (laysSpot_ok g w5 (s := 9 + i) (by omega) (by omega)) nX10_laysSpot (Nat.le_of_ble_eq_true rfl) (Nat.le_of_ble_eq_true rfl) (Nat.le_of_ble_eq_true rfl) (Nat.le_of_ble_eq_true rfl) (fun h6 w6 => ?_)
      rw [ra1, ra2, ea] at w6
      have w6' : MW A X R' I (up (up S' 56 (en (qa i))) 32 (m2 ++ [tb 0] ++ [tb i] ++ [tb 0, tb 49] ++ en (qa i))) (up F' 33 (nI (m2 ++ [tb 0] ++ [tb i] ++ [tb 0, tb 49] ++ en (qa i)).length)) h6 := w6
      have hl6 : (m2 ++ [tb 0] ++ [tb i] ++ [tb 0, tb 49] ++ en (qa i)).length = 103 := by rw [List.length_append, List.length_append, hl4, lea]; rfl
      refine X_aload_n (pc := 166) 1 dX10_composes_166 rfl rfl ?_
      refine X_aload_n (pc := 167) 1 dX10_composes_167 rfl rfl ?_
      refine X_getfield (pc := 168) dX10_composes_168 fg_X10_429_11 (MW.ob w6') mf_49 ?_
      refine X_iload_n (pc := 171) 0 dX10_composes_171 rfl rfl ?_
      refine X_aaload (pc := 172) dX10_composes_172 (w6'.o 49 rfl) (fun _ => rfl) bi ?_
      rw [ci]
      show XX g MX10_composes _ Post 0 0 173 _ [.ref (A (417 + i)), .ref (A 96)] h6
      rw [show 417 + i = 400 + (17 + i) by omega]
      refine X_ivv (pc := 173) _ dX10_composes_173 cv_X10_426_11 (MW.ob w6) rfl (laysSpot_ok g w6 (s := 17 + i) (by omega) (by omega)) nX10_laysSpot (Nat.le_of_ble_eq_true rfl) (Nat.le_of_ble_eq_true rfl) (Nat.le_of_ble_eq_true rfl) (Nat.le_of_ble_eq_true rfl) (fun h7 w7 => ?_)
      rw [rg1, rg2, eg, up_up'] at w7
      have hl7 : (m2 ++ [tb 0] ++ [tb i] ++ [tb 0, tb 49] ++ en (qa i) ++ [tb 0, tb 49] ++ en (qg i)).length = 154 := by rw [List.length_append, List.length_append, hl6, leg]; rfl
      refine X_aload_n (pc := 176) 1 dX10_composes_176 rfl rfl ?_
      refine X_ldcwS (pc := 177) (j := 18) dX10_composes_177 rfl (fun tx_177 vx_177 ht_177 => ?_)
      refine X_ivv (pc := 180) _ dX10_composes_180 cv_X10_434_11 (MW.ob w7) rfl (laysWord_ok g w7 ht_177 c7_cw (by rw [hl7]; show 154 + cw0.length ≤ 700; rw [cw0_len]; decide)) nX10_laysWord (Nat.le_of_ble_eq_true rfl) (Nat.le_of_ble_eq_true rfl) (Nat.le_of_ble_eq_true rfl) (Nat.le_of_ble_eq_true rfl) (fun h8 w8 => ?_)
      have hmsg : m2 ++ [tb 0] ++ [tb i] ++ [tb 0, tb 49] ++ en (qa i) ++ [tb 0, tb 49] ++ en (qg i) ++ wrd (chars "Composite") = cmsg sd (en (qa i)) (en (qg i)) i := by rw [← hm2]; rfl
      rw [hmsg] at w8
      generalize hms : cmsg sd (en (qa i)) (en (qg i)) i = msg at *
      have hmB : IsB msg := by
        rw [← hmsg, ← hm2, ← ea, ← eg]
        have two : ∀ u v : Nat, IsB [tb u, tb v] := fun u v => (IsB.one u).app (IsB.one v)
        exact ((((((((two 0 48).app hsdB).app (IsB.one 0)).app (IsB.one i)).app (two 0 49)).app (encB_B _ _)).app (two 0 49)).app (encB_B _ _)).app (wrd_B _)
      have w8' : MW A X R' I (up (up S' 56 (en (qg i))) 32 msg) (up F' 33 (nI msg.length)) h8 := w8
      refine X_aload_n (pc := 183) 1 dX10_composes_183 rfl rfl ?_
      refine X_aload_n (pc := 184) 1 dX10_composes_184 rfl rfl ?_
      refine X_getfield (pc := 185) dX10_composes_185 fg_X10_437_11 (MW.ob w8') mf_57 ?_
      refine X_ivv (pc := 188) _ dX10_composes_188 cv_X10_440_11 (MW.ob w8') rfl (toScalar_ok g w8' (k := 57) rfl (up_same _ _ _) (up_same _ _ _) hmB) nX10_toScalar (Nat.le_of_ble_eq_true rfl) (Nat.le_of_ble_eq_true rfl) (Nat.le_of_ble_eq_true rfl) (Nat.le_of_ble_eq_true rfl) (fun h9 q9 => ?_)
      obtain ⟨S9, F9, w9, sf9, hf9⟩ := q9
      have hd : h2s msg = dd i := by rw [hcD i, hms]
      rw [hd] at w9
      have fS9 : ∀ j, cK j = false → S9 j = S j := fun j hj => by
        rw [sf9 j (cK_h hj), up_ne (cK_ne hj rfl), up_ne (cK_ne hj rfl)]; exact fS j hj
      have s55' : S9 55 = sd := by rw [sf9 55 rfl, up_ne (by decide), up_ne (by decide)]; exact s55
      have fF9 : ∀ j, cF j = false → F9 j = F j := fun j hj => by
        rw [hf9.2 j (cF_ne hj rfl) (cF_ne hj rfl), up_ne (cF_ne hj rfl)]; exact fF j hj
      have fF9' : F9 403 = F' 403 ∧ F9 404 = F' 404 := ⟨by rw [hf9.2 403 (by decide) (by decide), up_ne (by decide)], by rw [hf9.2 404 (by decide) (by decide), up_ne (by decide)]⟩
      have fR9 : ∀ j, cScr j = false → (up R' 57 (dd i)) j = R j := fun j hj => by rw [up_ne (cScr_ne hj rfl)]; exact fR j hj
      have p39 : spt (up R' 57 (dd i)) F9 3 = cpt dd qa i := by rw [← p3]; exact spt_cg (up_ne (by decide)) (up_ne (by decide)) fF9'.1
      have p49 : spt (up R' 57 (dd i)) F9 4 = cpt dd qg i := by rw [← p4]; exact spt_cg (up_ne (by decide)) (up_ne (by decide)) fF9'.2
      have k57 : (up R' 57 (dd i)) 57 = dd i := up_same _ _ _
      have f269 := hf9.1
      have hdl : dd i < 2 ^ 384 := by rw [← hd]; exact Nat.lt_trans (h2s_lt _) qP_2
      rw [← fF9'.1] at z3
      rw [← fF9'.2] at z4
      clear w1 w1' w2 w2' w3 w4 w5 w5' w6 w6' w7 w8 w8' c32 c33 p32 p33 ra1 ra2 rg1 rg2 p3 p4 w' fR fS fF s55 sf9 hf9 f26 fF9' hmB hms hmsg hl7 hl6 hl4 hl3 c51 c50 b50 b51 hl2 hm2 e55
      generalize up R' 57 (dd i) = R9 at *
      have pa9 : spt R9 F9 (9 + i) = qa i := by rw [eqa]; exact spt_cg (fR9 _ (cScr_hi (by omega))) (fR9 _ (cScr_hi (by omega))) (fF9 _ (cF_hi (by omega)))
      refine X_aload_n (pc := 191) 1 dX10_composes_191 rfl rfl ?_
      refine X_aload_n (pc := 192) 1 dX10_composes_192 rfl rfl ?_
      refine X_getfield (pc := 193) dX10_composes_193 fg_X10_437_11 (MW.ob w9) mf_57 ?_
      refine X_aload_n (pc := 196) 1 dX10_composes_196 rfl rfl ?_
      refine X_getfield (pc := 197) dX10_composes_197 fg_X10_422_11 (MW.ob w9) mf_48 ?_
      refine X_iload_n (pc := 200) 0 dX10_composes_200 rfl rfl ?_
      refine X_aaload (pc := 201) dX10_composes_201 (w9.o 48 rfl) (fun _ => rfl) bi ?_
      refine X_aload_n (pc := 202) 1 dX10_composes_202 rfl rfl ?_
      refine X_getfield (pc := 203) dX10_composes_203 fg_X10_443_11 (MW.ob w9) mf_54 ?_
      rw [ci]
      show XX g MX10_composes _ Post 0 0 206 _ [.ref (A 407), .ref (A (409 + i)), .ref (A 57), .ref (A 96)] h9
      rw [show 409 + i = 400 + (9 + i) by omega]
      refine X_ivv (pc := 206) _ dX10_composes_206 cv_X10_446_11 (MW.ob w9) rfl (mul_ok g w9 (sa := 9 + i) (t := 7) (ak := A 57) (kv := dd i) (by omega) (by decide) (by rw [fR9 _ (cScr_hi (by omega))]; exact a2) (Or.inl (by rw [fF9 _ (cF_hi (by omega))]; exact a1)) (by rw [pa9, eqa]; exact a3) hdl (fun {R2 F2 h2} w2 o2 => by have := OpM.n2 w2 57 rfl; rw [o2 57 rfl, k57] at this; exact this)) nX10_multiply (Nat.le_of_ble_eq_true rfl) (Nat.le_of_ble_eq_true rfl) (Nat.le_of_ble_eq_true rfl) (Nat.le_of_ble_eq_true rfl) (fun h10 q10 => ?_)
      obtain ⟨R10, F10, w10, fr10, ff10, z7, z1, sp10, -⟩ := q10
      rw [pa9] at sp10
      have p310 : spt R10 F10 3 = cpt dd qa i := by rw [← p39]; exact spt_cg (fr10 _ rfl) (fr10 _ rfl) (ff10 _ (by decide) (by decide))
      have p410 : spt R10 F10 4 = cpt dd qg i := by rw [← p49]; exact spt_cg (fr10 _ rfl) (fr10 _ rfl) (ff10 _ (by decide) (by decide))
      rw [← ff10 403 (by decide) (by decide)] at z3
      rw [← ff10 404 (by decide) (by decide)] at z4
      refine X_aload_n (pc := 209) 1 dX10_composes_209 rfl rfl ?_
      refine X_aload_n (pc := 210) 1 dX10_composes_210 rfl rfl ?_
      refine X_getfield (pc := 211) dX10_composes_211 fg_X10_417_11 (MW.ob w10) mf_50 ?_
      refine X_aload_n (pc := 214) 1 dX10_composes_214 rfl rfl ?_
      refine X_getfield (pc := 215) dX10_composes_215 fg_X10_443_11 (MW.ob w10) mf_54 ?_
      refine X_aload_n (pc := 218) 1 dX10_composes_218 rfl rfl ?_
      refine X_getfield (pc := 219) dX10_composes_219 fg_X10_417_11 (MW.ob w10) mf_50 ?_
      refine X_ivv (pc := 222) _ dX10_composes_222 cv_X10_398_11 (MW.ob w10) rfl (join_ok g w10 (sa := 3) (sb := 7) (t := 3) (by decide) (by decide) (by decide) (w10.lt (k := 203) rfl) (w10.lt (k := 207) rfl) (w10.lt (k := 203) rfl) z3 z7) nX10_join (Nat.le_of_ble_eq_true rfl) (Nat.le_of_ble_eq_true rfl) (Nat.le_of_ble_eq_true rfl) (Nat.le_of_ble_eq_true rfl) (fun h11 q11 => ?_)
      obtain ⟨R11, F11, w11, fr11, ff11, z3', sp11, -⟩ := q11
      rw [p310, sp10] at sp11
      have p411 : spt R11 F11 4 = cpt dd qg i := by rw [← p410]; exact spt_cg (fr11 _ rfl) (fr11 _ rfl) (ff11 _ (by decide))
      rw [← ff11 404 (by decide)] at z4
      have fR11 : ∀ j, cScr j = false → R11 j = R j := fun j hj => by rw [fr11 j (cScr_3 hj), fr10 j (cScr_m hj)]; exact fR9 j hj
      have fF11 : ∀ j, cF j = false → F11 j = F j := fun j hj => by rw [ff11 j (cF_ne hj rfl), ff10 j (cF_ne hj rfl) (cF_ne hj rfl)]; exact fF9 j hj
      have f2611 : F11 26 = 0 := by rw [ff11 26 (by decide), ff10 26 (by decide) (by decide)]; exact f269
      have k5711 : R11 57 = dd i := by rw [fr11 57 rfl, fr10 57 rfl]; exact k57
      have pg11 : spt R11 F11 (17 + i) = qg i := by rw [eqg]; exact spt_cg (fR11 _ (cScr_hi (by omega))) (fR11 _ (cScr_hi (by omega))) (fF11 _ (cF_hi (by omega)))
      refine X_aload_n (pc := 225) 1 dX10_composes_225 rfl rfl ?_
      refine X_aload_n (pc := 226) 1 dX10_composes_226 rfl rfl ?_
      refine X_getfield (pc := 227) dX10_composes_227 fg_X10_437_11 (MW.ob w11) mf_57 ?_
      refine X_aload_n (pc := 230) 1 dX10_composes_230 rfl rfl ?_
      refine X_getfield (pc := 231) dX10_composes_231 fg_X10_429_11 (MW.ob w11) mf_49 ?_
      refine X_iload_n (pc := 234) 0 dX10_composes_234 rfl rfl ?_
      refine X_aaload (pc := 235) dX10_composes_235 (w11.o 49 rfl) (fun _ => rfl) bi ?_
      refine X_aload_n (pc := 236) 1 dX10_composes_236 rfl rfl ?_
      refine X_getfield (pc := 237) dX10_composes_237 fg_X10_443_11 (MW.ob w11) mf_54 ?_
      rw [ci]
      show XX g MX10_composes _ Post 0 0 240 _ [.ref (A 407), .ref (A (417 + i)), .ref (A 57), .ref (A 96)] h11
      rw [show 417 + i = 400 + (17 + i) by omega]
      refine X_ivv (pc := 240) _ dX10_composes_240 cv_X10_446_11 (MW.ob w11) rfl (mul_ok g w11 (sa := 17 + i) (t := 7) (ak := A 57) (kv := dd i) (by omega) (by decide) (by rw [fR11 _ (cScr_hi (by omega))]; exact g2) (Or.inl (by rw [fF11 _ (cF_hi (by omega))]; exact g1)) (by rw [pg11, eqg]; exact g3) hdl (fun {R2 F2 h2} w2 o2 => by have := OpM.n2 w2 57 rfl; rw [o2 57 rfl, k5711] at this; exact this)) nX10_multiply (Nat.le_of_ble_eq_true rfl) (Nat.le_of_ble_eq_true rfl) (Nat.le_of_ble_eq_true rfl) (Nat.le_of_ble_eq_true rfl) (fun h12 q12 => ?_)
      obtain ⟨R12, F12, w12, fr12, ff12, z7', z1', sp12, -⟩ := q12
      rw [pg11] at sp12
      have p312 : spt R12 F12 3 = cpt dd qa (i + 1) := by
        rw [show cpt dd qa (i + 1) = adP (cpt dd qa i) (mP (dd i) (qa i)) from rfl, ← sp11]
        exact spt_cg (fr12 _ rfl) (fr12 _ rfl) (ff12 _ (by decide) (by decide))
      have p412 : spt R12 F12 4 = cpt dd qg i := by rw [← p411]; exact spt_cg (fr12 _ rfl) (fr12 _ rfl) (ff12 _ (by decide) (by decide))
      rw [← ff12 404 (by decide) (by decide)] at z4
      have z3'' : F12 403 = 0 ∨ F12 403 = 1 := by rw [ff12 403 (by decide) (by decide)]; exact z3'
      refine X_aload_n (pc := 243) 1 dX10_composes_243 rfl rfl ?_
      refine X_aload_n (pc := 244) 1 dX10_composes_244 rfl rfl ?_
      refine X_getfield (pc := 245) dX10_composes_245 fg_X10_419_11 (MW.ob w12) mf_51 ?_
      refine X_aload_n (pc := 248) 1 dX10_composes_248 rfl rfl ?_
      refine X_getfield (pc := 249) dX10_composes_249 fg_X10_443_11 (MW.ob w12) mf_54 ?_
      refine X_aload_n (pc := 252) 1 dX10_composes_252 rfl rfl ?_
      refine X_getfield (pc := 253) dX10_composes_253 fg_X10_419_11 (MW.ob w12) mf_51 ?_
      refine X_ivv (pc := 256) _ dX10_composes_256 cv_X10_398_11 (MW.ob w12) rfl (join_ok g w12 (sa := 4) (sb := 7) (t := 4) (by decide) (by decide) (by decide) (w12.lt (k := 204) rfl) (w12.lt (k := 207) rfl) (w12.lt (k := 204) rfl) z4 z7') nX10_join (Nat.le_of_ble_eq_true rfl) (Nat.le_of_ble_eq_true rfl) (Nat.le_of_ble_eq_true rfl) (Nat.le_of_ble_eq_true rfl) (fun h13 q13 => ?_)
      obtain ⟨R13, F13, w13, fr13, ff13, z4', sp13, -⟩ := q13
      rw [p412, sp12] at sp13
      refine X_iinc (pc := 259) (L' := [(3, .int (_ + 1)), (0, .ref _), (1, .int _), (2, .ref _)]) 0 dX10_composes_259 rfl rfl (Nat.le_of_ble_eq_true rfl) rfl ?_
      refine X_goto (pc := 262) 102 dX10_composes_262 (by decide) ?_
      rw [show nI i + 1 = nI (i + 1) from nI_add i 1]
      refine ih (i + 1) (by omega) R13 S9 F13 h13 w13 (fun j hj => ?_) fS9 (fun j hj => ?_) ?_ ?_ z4' s55' ?_ sp13
      · rw [fr13 j (cScr_4 hj), fr12 j (cScr_m hj)]; exact fR11 j hj
      · rw [ff13 j (cF_ne hj rfl), ff12 j (cF_ne hj rfl) (cF_ne hj rfl)]; exact fF11 j hj
      · rw [ff13 26 (by decide), ff12 26 (by decide) (by decide)]; exact f2611
      · rw [ff13 403 (by decide)]; exact z3''
      · rw [← p312]; exact spt_cg (fr13 _ rfl) (fr13 _ rfl) (ff13 _ (by decide))
  -- the seed
  refine X_aload_n (pc := 0) 0 dX10_composes_0 rfl rfl ?_
  refine X_ldcwS (pc := 1) (j := 17) dX10_composes_1 rfl (fun tx_1 vx_1 ht_1 => ?_)
  refine X_ivv (pc := 4) _ dX10_composes_4 cv_X10_354_11 (MW.ob w) rfl (tags_ok g w ht_1 c7_sd (by rw [show (chars "Seed-").length = 5 from sd0_len]; decide)) nX10_tags (Nat.le_of_ble_eq_true rfl) (Nat.le_of_ble_eq_true rfl) (Nat.le_of_ble_eq_true rfl) (Nat.le_of_ble_eq_true rfl) (fun h1 w1 => ?_)
  have w1 : SW A X R I (up S 34 (tagB sd0)) (up F 35 (nI 25)) [] h1 := w1
  refine X_aload_n (pc := 7) 0 dX10_composes_7 rfl rfl ?_
  refine X_bipush (pc := 8) (x := 49) dX10_composes_8 (by decide) ?_
  refine X_ivv (pc := 10) _ dX10_composes_10 cv_X10_334_11 (MW.ob w1) rfl (both_ok g w1 (n := 49) (by decide) (by decide)) nX10_both (Nat.le_of_ble_eq_true rfl) (Nat.le_of_ble_eq_true rfl) (Nat.le_of_ble_eq_true rfl) (Nat.le_of_ble_eq_true rfl) (fun h2 w2 => ?_)
  have w2 : SW A X R I (up S 34 (tagB sd0)) (up F 35 (nI 25)) [tb 0, tb 49] h2 := w2
  have w2' : MW A X R I (up (up S 34 (tagB sd0)) 25 [tb 0, tb 49]) (up (up F 35 (nI 25)) 26 (nI 2)) h2 := w2
  obtain ⟨f56, c56, -, -⟩ := w2'.s 56 rfl
  refine X_aload_n (pc := 13) 2 dX10_composes_13 rfl rfl ?_
  refine X_aload_n (pc := 14) 0 dX10_composes_14 rfl rfl ?_
  refine X_getfield (pc := 15) dX10_composes_15 fg_X10_402_11 (MW.ob w2') mf_56 ?_
  refine X_iconst (pc := 18) (x := 0) dX10_composes_18 (by decide) ?_
  refine X_isv (pc := 19) _ dX10_composes_19 cs_X10_405 rfl (bytes_ok g w2' (at' := 0) hks c56 (by decide) (by decide)) nX10_bytes (Nat.le_of_ble_eq_true rfl) (Nat.le_of_ble_eq_true rfl) (Nat.le_of_ble_eq_true rfl) (Nat.le_of_ble_eq_true rfl) (fun h3 q3 => ?_)
  subst q3
  have w3 := someB w2' (R (200 + ks)) (R (300 + ks)) (f := f56)
  rw [up_comm _ _ _ (show 25 ≠ 56 by decide), hek'] at w3
  generalize hset h2 (A 56) _ = h3 at *
  have w3' : SW A X R I (up (up S 34 (tagB sd0)) 56 ek) (up F 35 (nI 25)) [tb 0, tb 49] h3 := w3
  refine X_aload_n (pc := 22) 0 dX10_composes_22 rfl rfl ?_
  refine X_aload_n (pc := 23) 0 dX10_composes_23 rfl rfl ?_
  refine X_getfield (pc := 24) dX10_composes_24 fg_X10_402_11 (MW.ob w3) mf_56 ?_
  refine X_iconst (pc := 27) (x := 0) dX10_composes_27 (by decide) ?_
  refine X_bipush (pc := 28) (x := 49) dX10_composes_28 (by decide) ?_
  refine X_ivv (pc := 30) _ dX10_composes_30 cv_X10_325_11 (MW.ob w3) rfl (says_ok g w3' (b := A 56) (at' := 0) (n := 49) (src := fun j => ek.getD j 0) (by decide) (by decide) (fun {l' h'} w9 => Or.inr (by have := MW.byAt (fr := 0) (m := 49) w9 56 rfl (by decide) (by rw [up_ne (by decide), up_same, hekl]; decide); rw [up_ne (by decide), up_same] at this; simpa only [Nat.zero_add] using this))) nX10_say (Nat.le_of_ble_eq_true rfl) (Nat.le_of_ble_eq_true rfl) (Nat.le_of_ble_eq_true rfl) (Nat.le_of_ble_eq_true rfl) (fun h4 w4 => ?_)
  rw [bmap hekB hekl] at w4
  have hl4 : ([tb 0, tb 49] ++ ek).length = 51 := by rw [List.length_append, hekl]; rfl
  have w4' : MW A X R I (up (up (up S 34 (tagB sd0)) 56 ek) 25 ([tb 0, tb 49] ++ ek)) (up (up F 35 (nI 25)) 26 (nI ([tb 0, tb 49] ++ ek).length)) h4 := w4
  refine X_aload_n (pc := 33) 0 dX10_composes_33 rfl rfl ?_
  refine X_aload_n (pc := 34) 0 dX10_composes_34 rfl rfl ?_
  refine X_getfield (pc := 35) dX10_composes_35 fg_X10_322_11 (MW.ob w4') mf_35 ?_
  rw [up_ne (by decide), up_same]
  refine X_ivv (pc := 38) _ dX10_composes_38 cv_X10_334_11 (MW.ob w4) rfl (both_ok g w4 (n := 25) (by rw [hl4]; decide) (by decide)) nX10_both (Nat.le_of_ble_eq_true rfl) (Nat.le_of_ble_eq_true rfl) (Nat.le_of_ble_eq_true rfl) (Nat.le_of_ble_eq_true rfl) (fun h5 w5 => ?_)
  have w5 : SW A X R I (up (up S 34 (tagB sd0)) 56 ek) (up F 35 (nI 25)) ([tb 0, tb 49] ++ ek ++ [tb 0, tb 25]) h5 := w5
  have hl5 : ([tb 0, tb 49] ++ ek ++ [tb 0, tb 25]).length = 53 := by rw [List.length_append, hl4]; rfl
  have w5' : MW A X R I (up (up (up S 34 (tagB sd0)) 56 ek) 25 ([tb 0, tb 49] ++ ek ++ [tb 0, tb 25])) (up (up F 35 (nI 25)) 26 (nI ([tb 0, tb 49] ++ ek ++ [tb 0, tb 25]).length)) h5 := w5
  have htl : (tagB sd0).length = 25 := by rw [tagB_len, sd0_len]
  refine X_aload_n (pc := 41) 0 dX10_composes_41 rfl rfl ?_
  refine X_aload_n (pc := 42) 0 dX10_composes_42 rfl rfl ?_
  refine X_getfield (pc := 43) dX10_composes_43 fg_X10_319_11 (MW.ob w5') mf_34 ?_
  refine X_iconst (pc := 46) (x := 0) dX10_composes_46 (by decide) ?_
  refine X_aload_n (pc := 47) 0 dX10_composes_47 rfl rfl ?_
  refine X_getfield (pc := 48) dX10_composes_48 fg_X10_322_11 (MW.ob w5') mf_35 ?_
  rw [up_ne (by decide), up_same]
  refine X_ivv (pc := 51) _ dX10_composes_51 cv_X10_325_11 (MW.ob w5) rfl (says_ok g w5 (b := A 34) (at' := 0) (n := 25) (src := fun j => (tagB sd0).getD j 0) (by rw [hl5]; decide) (by decide) (fun {l' h'} w9 => Or.inr (by have := MW.byAt (fr := 0) (m := 25) w9 34 rfl (by decide) (by rw [up_ne (by decide), up_ne (by decide), up_same, htl]; decide); rw [up_ne (by decide), up_ne (by decide), up_same] at this; simpa only [Nat.zero_add] using this))) nX10_say (Nat.le_of_ble_eq_true rfl) (Nat.le_of_ble_eq_true rfl) (Nat.le_of_ble_eq_true rfl) (Nat.le_of_ble_eq_true rfl) (fun h6 w6 => ?_)
  rw [bmap (tagB_B _) htl] at w6
  refine X_aload_n (pc := 54) 0 dX10_composes_54 rfl rfl ?_
  refine X_ivv (pc := 55) _ dX10_composes_55 cv_X10_340_11 (MW.ob w6) rfl (h3_ok g w6 (by rw [List.length_append, hl5, htl]; decide)) nX10_h3 (Nat.le_of_ble_eq_true rfl) (Nat.le_of_ble_eq_true rfl) (Nat.le_of_ble_eq_true rfl) (Nat.le_of_ble_eq_true rfl) (fun h7 w7' => ?_)
  rw [← hsd] at w7'
  have w7 : MW A X R I (up (up (up (up S 34 (tagB sd0)) 56 ek) 27 sd) 25 []) (up (up F 35 (nI 25)) 26 (nI 0)) h7 := w7'
  have s27 : (up (up (up (up S 34 (tagB sd0)) 56 ek) 27 sd) 25 []) 27 = sd := by rw [up_ne (by decide), up_same]
  have fS7 : ∀ j, cK j = false → (up (up (up (up S 34 (tagB sd0)) 56 ek) 27 sd) 25 []) j = S j := fun j hj => by rw [up_ne (cK_ne hj rfl), up_ne (cK_ne hj rfl), up_ne (cK_ne hj rfl), up_ne (cK_ne hj rfl)]
  have fF7 : ∀ j, cF j = false → (up (up F 35 (nI 25)) 26 (nI 0)) j = F j := fun j hj => by rw [up_ne (cF_ne hj rfl), up_ne (cF_ne hj rfl)]
  have f267 : (up (up F 35 (nI 25)) 26 (nI 0)) 26 = 0 := up_same _ _ _
  clear w1 w2 w2' w3 w3' w4 w4' w5 w5' w6 w7' hl4 hl5 htl
  generalize up (up (up (up S 34 (tagB sd0)) 56 ek) 27 sd) 25 [] = S7 at *
  generalize up (up F 35 (nI 25)) 26 (nI 0) = F7 at *
  have loop1 : ∀ m i, i + m = 48 → ∀ h', MW A X R I (up S7 55 ((List.range i).map fun j => sd.getD j 0)) F7 h' →
      XX g MX10_composes ({ frames := 9, cells := 0, slots := 0, locals := 191 } : Room) Post 0 0 60 [(3, .int (nI i)), (0, .ref (A 96)), (1, .int (nI many)), (2, .ref (A (400 + ks)))] [] h' := by
    intro m
    induction m with
    | zero =>
      intro i hi h' w'
      have e : i = 48 := by omega
      subst e
      rw [map_getD hsdl] at w'
      refine X_iload_n (pc := 60) 0 dX10_composes_60 rfl rfl ?_
      refine X_bipush (pc := 61) (x := 48) dX10_composes_61 (by decide) ?_
      refine X_cge (a := 48) (b := 48) (pc := 63) 84 dX10_composes_63 (by decide) (by omega) (by omega) (fun _ => ?_) (fun c => absurd c (by omega))
      refine X_aload_n (pc := 84) 1 dX10_composes_84 rfl rfl ?_
      refine X_getfield (pc := 85) dX10_composes_85 fg_X10_417_11 (MW.ob w') mf_50 ?_
      refine X_iconst (pc := 88) (x := 1) dX10_composes_88 (by decide) ?_
      refine X_putfield (pc := 89) dX10_composes_89 fp_X10_136_13 (fun e => by cases e) (w'.sp 3 (by decide)) rfl rfl (Nat.le_of_ble_eq_true rfl) ?_
      have w8 := w'.setSp 3 (by decide) (v := 1)
      refine XX.eqh (h' := hset h' (A 403) (Ob 13 [.ref (A 203), .ref (A 303), .int 1])) rfl ?_
      have w8 : MW A X R I (up S7 55 sd) (up F7 403 1) (hset h' (A 403) (Ob 13 [.ref (A 203), .ref (A 303), .int 1])) := w8
      generalize hset h' (A 403) (Ob 13 [.ref (A 203), .ref (A 303), .int 1]) = h8 at *
      refine X_aload_n (pc := 92) 1 dX10_composes_92 rfl rfl ?_
      refine X_getfield (pc := 93) dX10_composes_93 fg_X10_419_11 (MW.ob w8) mf_51 ?_
      refine X_iconst (pc := 96) (x := 1) dX10_composes_96 (by decide) ?_
      refine X_putfield (pc := 97) dX10_composes_97 fp_X10_136_13 (fun e => by cases e) (w8.sp 4 (by decide)) rfl rfl (Nat.le_of_ble_eq_true rfl) ?_
      have w9 : MW A X R I (up S7 55 sd) (up (up F7 403 1) 404 1) (hset h8 (A 404) (Ob 13 [.ref (A 204), .ref (A 304), .int 1])) := w8.setSp 4 (by decide) (v := 1)
      refine XX.eqh (h' := hset h8 (A 404) (Ob 13 [.ref (A 204), .ref (A 304), .int 1])) rfl ?_
      refine X_iconst (pc := 100) (x := 0) dX10_composes_100 (by decide) ?_
      refine X_istore_n (pc := 101) (L' := [(3, .int _), (0, .ref _), (1, .int _), (2, .ref _)]) dX10_composes_101 rfl (Nat.le_of_ble_eq_true rfl) rfl ?_
      refine loop2 many 0 (by omega) R _ _ _ w9 (fun _ _ => rfl) (fun j hj => ?_) (fun j hj => ?_) ?_ (Or.inr ?_) (Or.inr (up_same _ _ _)) (up_same _ _ _) ?_ ?_
      · rw [up_ne (cK_ne hj rfl)]; exact fS7 j hj
      · rw [up_ne (cF_ne hj rfl), up_ne (cF_ne hj rfl)]; exact fF7 j hj
      · rw [up_ne (by decide), up_ne (by decide)]; exact f267
      · rw [up_ne (by decide), up_same]
      · unfold spt
        rw [up_ne (by decide), show 400 + 3 = 403 from rfl, up_same]
        exact if_neg (by decide)
      · unfold spt
        rw [show 400 + 4 = 404 from rfl, up_same]
        exact if_neg (by decide)
    | succ m ih =>
      intro i hi h' w'
      have ci : (nI i).toNatClampNeg = i := nI_clamp (by omega)
      have b1 : vp_in (nI i) 48 := vp_in_nI (by omega) (by omega)
      obtain ⟨f27, c27, p27, -⟩ := w'.s 27 rfl
      obtain ⟨f55, c55, p55, -⟩ := w'.s 55 rfl
      rw [up_ne (by decide), s27] at p27
      rw [up_same] at p55
      have hli : ((List.range i).map fun j => sd.getD j 0).length = i := by rw [List.length_map, List.length_range]
      refine X_iload_n (pc := 60) 0 dX10_composes_60 rfl rfl ?_
      refine X_bipush (pc := 61) (x := 48) dX10_composes_61 (by decide) ?_
      refine X_cge (b := 48) (pc := 63) 84 dX10_composes_63 (by decide) (by omega) (by omega) (fun c => absurd c (by omega)) (fun _ => ?_)
      refine X_aload_n (pc := 66) 1 dX10_composes_66 rfl rfl ?_
      refine X_getfield (pc := 67) dX10_composes_67 fg_X10_414_11 (MW.ob w') mf_55 ?_
      refine X_iload_n (pc := 70) 0 dX10_composes_70 rfl rfl ?_
      refine X_aload_n (pc := 71) 1 dX10_composes_71 rfl rfl ?_
      refine X_getfield (pc := 72) dX10_composes_72 fg_X10_283_11 (MW.ob w') mf_27 ?_
      refine X_iload_n (pc := 75) 0 dX10_composes_75 rfl rfl ?_
      refine X_baload (pc := 76) dX10_composes_76 c27 b1 ?_
      refine X_bastore (pc := 77) dX10_composes_77 c55 b1 ?_
      rw [ci, p27 i (by omega), hsdB.nar]
      have w2 := w'.setS 55 rfl (PL_snoc (x := sd.getD i 0) p55) (by rw [List.length_append, hli]; exact (show i + 1 ≤ 48 by omega))
      rw [up_up', hli, ← List.map_singleton (f := fun j => sd.getD j 0), ← List.map_append, ← List.range_succ] at w2
      refine X_iinc (pc := 78) (L' := [(3, .int (_ + 1)), (0, .ref _), (1, .int _), (2, .ref _)]) 0 dX10_composes_78 rfl rfl (Nat.le_of_ble_eq_true rfl) rfl ?_
      refine X_goto (pc := 81) 60 dX10_composes_81 (by decide) ?_
      rw [show nI i + 1 = nI (i + 1) from nI_add i 1]
      exact ih (i + 1) (by omega) _ w2
  refine X_iconst (pc := 58) (x := 0) dX10_composes_58 (by decide) ?_
  refine X_istore_n (pc := 59) (L' := [(3, .int _), (0, .ref _), (1, .int _), (2, .ref _)]) dX10_composes_59 rfl (Nat.le_of_ble_eq_true rfl) rfl ?_
  exact loop1 48 0 (by omega) h7 (w7.cutS 55 rfl)
end MCo
