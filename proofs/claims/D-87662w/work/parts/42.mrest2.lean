set_option maxRecDepth 100000
theorem i32s {s : Nat} (h : s ≤ 32) : (32 : Int32) - nI s = nI (32 - s) := pk_sub (a := 32) h
def fA (s many K : Nat) (fw : Nat → Int32) : Nat → Int32 := fun j => if j = many then upS s (fw (many - 1)) else if K ≤ j ∧ j < many then shF s fw j else fw j
theorem fA_V {s many : Nat} (hs : s < 32) (h0 : 0 < many) (fw : Nat → Int32) : V (many + 1) (fA s many 0 fw) = V many fw * 2 ^ s := by
  show V many (fA s many 0 fw) + u32 (fA s many 0 fw many) * 2 ^ (32 * many) = _
  rw [← shF_V hs, if_neg (by omega)]
  congr 1
  · apply V_congr
    intro j hj
    unfold fA
    rw [if_neg (by omega), if_pos (by omega)]
  · unfold fA
    rw [if_pos rfl, u32_upS hs]
theorem sh_sh (m : Nat) (f : Nat → Int32) : sh 1 (sh m f) = sh (m + 1) f := by
  funext j
  unfold sh
  congr 1
  omega
theorem V_low (n m : Nat) (f : Nat → Int32) : V (n + 1) (sh m f) = u32 (f m) + 2 ^ 32 * V n (sh (m + 1) f) := by
  rw [Nat.add_comm n 1, V_split 1 n, sh_sh]
  show 0 + u32 (f (m + 0)) * 2 ^ (32 * 0) + _ = _
  rw [Nat.add_zero]
  omega
/-- what long division keeps: X is what was there, H the divisor; the m lowest limbs wait -/
def DvI (n H X m : Nat) (f : Nat → Int32) : Prop := V (m + n) f % H = X % H ∧ V n (sh m f) < H
theorem DvI.step {n H X m : Nat} {f f' : Nat → Int32} (hH : H < 2 ^ (32 * n)) (h : DvI n H X (m + 1) f) (ho : ∀ i, i < m ∨ m + n < i → f' i = f i) (hv : V (n + 1) (sh m f') = V (n + 1) (sh m f) % H) (h0 : 0 < H) : DvI n H X m f' := by
  obtain ⟨h1, h2⟩ := h
  have hlt : V (n + 1) (sh m f') < H := by rw [hv]; exact Nat.mod_lt _ h0
  have hz : u32 (f' (m + n)) = 0 := by
    rcases Nat.eq_zero_or_pos (u32 (f' (m + n))) with q | q
    · exact q
    · have e : V (n + 1) (sh m f') = V n (sh m f') + u32 (f' (m + n)) * 2 ^ (32 * n) := rfl
      have := Nat.le_mul_of_pos_left (2 ^ (32 * n)) q
      omega
  have e1 : V (n + 1) (sh m f') = V n (sh m f') := by
    show V n (sh m f') + u32 (f' (m + n)) * 2 ^ (32 * n) = _
    rw [hz, Nat.zero_mul, Nat.add_zero]
  refine ⟨?_, by rw [← e1]; exact hlt⟩
  rw [← h1, show m + 1 + n = m + (n + 1) by omega, V_split m n f', V_split m (n + 1) f, ← e1, hv, V_congr (f := f') (f' := f) fun j hj => ho j (Or.inl hj)]
  rw [Nat.add_mod, Nat.mul_mod_mod, ← Nat.add_mod]
theorem rest_fv {p s many mv : Nat} {fh fw f : Nat → Int32} (hs : s < 32) (hV : V (p + 2) fh = mv * 2 ^ s) (hD : DvI (p + 2) (V (p + 2) fh) (V many fw * 2 ^ s) 0 f) (hz : f (p + 2) = 0) : V (p + 2) (fun j => dnS s (f j) (f (j + 1))) = V many fw % mv := by
  obtain ⟨d1, d2⟩ := hD
  rw [Nat.zero_add] at d1
  have e0 : sh 0 f = f := by funext j; unfold sh; rw [Nat.zero_add]
  rw [e0] at d2
  rw [Nat.mod_eq_of_lt d2, hV, Nat.mul_mod_mul_right] at d1
  have dn := dn_V hs f (p + 2)
  rw [hz] at dn
  have e1 : u32 (0 : Int32) % 2 ^ s = 0 := by show 0 % _ = 0; exact Nat.zero_mod _
  rw [e1, Nat.zero_mul, Nat.add_zero, d1] at dn
  have h2s := Nat.two_pow_pos s
  have e2 : u32 (f 0) % 2 ^ s < 2 ^ s := Nat.mod_lt _ h2s
  generalize V many fw % mv = y at *
  generalize V (p + 2) (fun j => dnS s (f j) (f (j + 1))) = z at *
  generalize u32 (f 0) % 2 ^ s = r at *
  rw [Nat.mul_comm y] at dn
  have e3 : (2 ^ s * z + r) / 2 ^ s = (2 ^ s * y) / 2 ^ s := by rw [dn, Nat.add_zero]
  rw [Nat.mul_add_div h2s, Nat.div_eq_of_lt e2, Nat.mul_div_cancel_left _ h2s, Nat.add_zero] at e3
  exact e3
set_option maxHeartbeats 4000000 in
theorem mrest_last (g : GX) {h : AH} {M0 M am ah aw to p s many Nh no mv : Nat} {fl : List Value} {fh fw fo : Nat → Int32} (hO : h M0 = some (Ob 11 fl)) (hM : h M = some (Ob 12 [.ref am, .ref ah, .int (nI (p + 2)), .int (nI s)])) (hh : h ah = some (Ai false 0 Nh fh)) (hw : h aw = some (Ai false 0 130 fw)) (ho : h to = some (Ai false 0 no fo)) (f1 : fl[1]? = some (.ref aw))
    (hne : ah ≠ aw) (hto : to ≠ aw) (hno : p + 2 ≤ no) (hl2 : no < 2 ^ 31) (hp : p + 2 < 130 - 1) (hs : s < 32) {Post : Outcome → AH → Prop} (hPost : (RV fun h' => ∃ f fw', (∀ j, p + 2 ≤ j → f j = fo j) ∧ V (p + 2) f = V many fw % mv ∧ h' = hset (hset h aw (Ai false 0 130 fw')) to (Ai false 0 no f)) = Post) (f : Nat → Int32) (a6 : Int64) (hfv : V (p + 2) (fun j => dnS s (f j) (f (j + 1))) = V many fw % mv) :
    XX g MX10_rest ({ frames := 2, cells := 0, slots := 0, locals := 49 } : Room) Post 0 0 310 [(6, .long a6), (4, .int (nI (p + 2))), (5, .int (nI s)), (0, .ref M0), (1, .ref M), (2, .int (nI many)), (3, .ref to)] [] (hset h aw (Ai false 0 130 f)) := by
  have n1 : M0 ≠ aw := ne_of hO hw (fun e => by cases e)
  have n2 : M ≠ aw := ne_of hM hw (fun e => by cases e)
  have n3 : M0 ≠ to := ne_of hO ho (fun e => by cases e)
  have out : ∀ f, hset h aw (Ai false 0 130 f) M0 = some (Ob 11 fl) ∧ hset h aw (Ai false 0 130 f) M = some (Ob 12 [.ref am, .ref ah, .int (nI (p + 2)), .int (nI s)]) ∧ hset h aw (Ai false 0 130 f) ah = some (Ai false 0 Nh fh) ∧ hset h aw (Ai false 0 130 f) to = some (Ai false 0 no fo) := fun f =>
    ⟨by rw [hset_ne n1]; exact hO, by rw [hset_ne n2]; exact hM, by rw [hset_ne hne]; exact hh, by rw [hset_ne hto]; exact ho⟩
  have loop := loop_up (P := fun k => ∀ t : Nat → Int32, (∀ j, j < k → t j = dnS s (f j) (f (j + 1))) → (∀ j, k ≤ j → t j = fo j) →
      XX g MX10_rest ({ frames := 2, cells := 0, slots := 0, locals := 49 } : Room) Post 0 0 313 [(8, .int (nI k)), (6, .long a6), (4, .int (nI (p + 2))), (5, .int (nI s)), (0, .ref M0), (1, .ref M), (2, .int (nI many)), (3, .ref to)] [] (hset (hset h aw (Ai false 0 130 f)) to (Ai false 0 no t))) (p + 2)
    (by
      intro t ht1 ht2
      refine X_iload (pc := 313) 0 dX10_rest_313 rfl ?_
      refine X_iload (pc := 315) 2 dX10_rest_315 rfl ?_
      refine X_cge (pc := 317) 365 dX10_rest_317 (by decide) (by omega) (Nat.le_refl _) (fun _ => ?_) (fun c => absurd c (Nat.lt_irrefl _))
      subst hPost
      refine X_return (pc := 365) dX10_rest_365 rfl (Nat.le_of_ble_eq_true rfl) (Nat.le_of_ble_eq_true rfl) ?_
      exact ⟨rfl, t, f, ht2, by rw [← hfv]; exact V_congr ht1, rfl⟩)
    (fun k hk ih t ht1 ht2 => by
      have o1 : hset (hset h aw (Ai false 0 130 f)) to (Ai false 0 no t) M0 = some (Ob 11 fl) := by rw [hset_ne n3]; exact (out f).1
      have o2 : hset (hset h aw (Ai false 0 130 f)) to (Ai false 0 no t) aw = some (Ai false 0 130 f) := by rw [hset_ne hto.symm, hset_self]
      have ck : (nI k).toNatClampNeg = k := nI_clamp (by omega)
      have ck1 : (nI (k + 1)).toNatClampNeg = k + 1 := nI_clamp (by omega)
      have b1 : vp_in (nI k) 130 := vp_in_nI (by omega) (by omega)
      have b2 : vp_in (nI (k + 1)) 130 := vp_in_nI (by omega) (by omega)
      have b3 : vp_in (nI k) no := vp_in_nI (by omega) (by omega)
      have fin : ∀ y : Int32, y = (if s = 0 then 0 else f (k + 1) <<< (nI (32 - s) &&& 31)) → XX g MX10_rest ({ frames := 2, cells := 0, slots := 0, locals := 49 } : Room) Post 0 0 357 [(8, .int (nI k)), (6, .long a6), (4, .int (nI (p + 2))), (5, .int (nI s)), (0, .ref M0), (1, .ref M), (2, .int (nI many)), (3, .ref to)] [.int y, .int ((f k).toUInt32 >>> ((nI s).toUInt32 &&& Int32.toUInt32 31)).toInt32, .int (nI k), .ref to] (hset (hset h aw (Ai false 0 130 f)) to (Ai false 0 no t)) := by
        intro y hy
        refine X_ior (pc := 357) dX10_rest_357 ?_
        refine X_iastore (pc := 358) dX10_rest_358 (hset_self _ _ _) b3 ?_
        refine X_iinc (pc := 359) (L' := [(8, .int (_ + 1)), (6, .long _), (4, .int _), (5, .int _), (0, .ref _), (1, .ref _), (2, .int _), (3, .ref _)]) 0 dX10_rest_359 rfl rfl (Nat.le_of_ble_eq_true rfl) rfl ?_
        refine X_goto (pc := 362) 313 dX10_rest_362 (by decide) ?_
        refine XX.eqh (hset_hset _ _ _ _) ?_
        rw [ck, nI_1, hy]
        refine ih _ (fun j hj => ?_) (fun j hj => ?_)
        · by_cases e : j = k
          · subst e; rw [pk_us]; rfl
          · rw [pk_un e]; exact ht1 j (by omega)
        · rw [pk_un (by omega)]; exact ht2 j (by omega)
      refine X_iload (pc := 313) 0 dX10_rest_313 rfl ?_
      refine X_iload (pc := 315) 2 dX10_rest_315 rfl ?_
      refine X_cge (pc := 317) 365 dX10_rest_317 (by decide) (by omega) (by omega) (fun c => absurd c (by omega)) (fun _ => ?_)
      refine X_aload_n (pc := 320) 7 dX10_rest_320 rfl rfl ?_
      refine X_iload (pc := 321) 0 dX10_rest_321 rfl ?_
      refine X_aload_n (pc := 323) 4 dX10_rest_323 rfl rfl ?_
      refine X_getfield (pc := 324) dX10_rest_324 fg_X10_36_11 o1 f1 ?_
      refine X_iload (pc := 327) 0 dX10_rest_327 rfl ?_
      refine X_iaload (pc := 329) dX10_rest_329 o2 b1 ?_
      rw [ck]
      refine X_iload (pc := 330) 3 dX10_rest_330 rfl ?_
      refine X_iushr (pc := 332) dX10_rest_332 ?_
      refine X_iload (pc := 333) 3 dX10_rest_333 rfl ?_
      refine X_if_le (pc := 335) 356 dX10_rest_335 (by decide) (fun c_335 => ?_) (fun c_335 => ?_)
      · have hs0 : s = 0 := by
          rcases Nat.eq_zero_or_pos s with e | e
          · exact e
          · exact absurd c_335 (nI_nle e (by omega))
        refine X_iconst (pc := 356) (x := 0) dX10_rest_356 (by decide) ?_
        exact fin 0 (by rw [if_pos hs0])
      · skip
        have hs0 : s ≠ 0 := fun e => c_335 (by rw [e]; decide)
        refine X_aload_n (pc := 338) 4 dX10_rest_338 rfl rfl ?_
        refine X_getfield (pc := 339) dX10_rest_339 fg_X10_36_11 o1 f1 ?_
        refine X_iload (pc := 342) 0 dX10_rest_342 rfl ?_
        refine X_iconst (pc := 344) (x := 1) dX10_rest_344 (by decide) ?_
        refine X_iadd (pc := 345) dX10_rest_345 ?_
        rw [nI_1]
        refine X_iaload (pc := 346) dX10_rest_346 o2 b2 ?_
        refine X_bipush (pc := 347) (x := 32) dX10_rest_347 (by decide) ?_
        refine X_iload (pc := 349) 3 dX10_rest_349 rfl ?_
        refine X_isub (pc := 351) dX10_rest_351 ?_
        rw [ck1, i32s (by omega)]
        refine X_ishl (pc := 352) dX10_rest_352 ?_
        refine X_goto (pc := 353) 357 dX10_rest_353 (by decide) ?_
        exact fin _ (by rw [if_neg hs0]))
  refine X_iconst (pc := 310) (x := 0) dX10_rest_310 (by decide) ?_
  refine X_istore (pc := 311) (L' := [(8, .int _), (6, .long _), (4, .int _), (5, .int _), (0, .ref _), (1, .ref _), (2, .int _), (3, .ref _)]) dX10_rest_311 (Nat.le_of_ble_eq_true rfl) rfl ?_
  refine XX.eqh (hset_same (out f).2.2.2).symm ?_
  exact loop 0 (by omega) fo (fun j hj => absurd hj (Nat.not_lt_zero j)) (fun _ _ => rfl)
set_option maxHeartbeats 4000000 in
theorem mrest_wh (g : GX) {hc : AH} {M0 M am ah aw to p s many Nh m : Nat} {fl : List Value} {fh f : Nat → Int32} {v1 pr W H : Nat} (o1 : hc M0 = some (Ob 11 fl)) (o2 : hc M = some (Ob 12 [.ref am, .ref ah, .int (nI (p + 2)), .int (nI s)])) (o3 : hc ah = some (Ai false 0 Nh fh)) (ow : hc aw = some (Ai false 0 130 f)) (f1 : fl[1]? = some (.ref aw))
    (i2 : nI m + nI (p + 2) - 2 = nI (m + p)) (i3 : nI (p + 2) - 2 = nI p) (cp : (nI p).toNatClampNeg = p) (c2 : (nI (m + p)).toNatClampNeg = m + p) (bp : vp_in (nI p) Nh) (b2 : vp_in (nI (m + p)) 130) (hv1 : v1 < 2 ^ 32) {Post : Outcome → AH → Prop}
    (stand0 : ∀ q r, q < 2 ^ 32 → pr = q * v1 + r → q * u32 (fh p) ≤ r * 2 ^ 32 + u32 (f (m + p)) → W < (q + 1) * H → (q = W / H ∨ q = W / H + 1)) (mend0 : ∀ q r, pr = q * v1 + r → r * 2 ^ 32 + u32 (f (m + p)) < q * u32 (fh p) → W < q * H)
    (good : ∀ (q : Nat), q < 2 ^ 32 → (q = W / H ∨ q = W / H + 1) → ∀ (a11 : Int64),
      XX g MX10_rest ({ frames := 2, cells := 0, slots := 0, locals := 49 } : Room) Post 0 0 295 [(11, .long a11), (9, .long (lN q)), (8, .int (nI m)), (6, .long (lN v1)), (4, .int (nI (p + 2))), (5, .int (nI s)), (0, .ref M0), (1, .ref M), (2, .int (nI many)), (3, .ref to)] [] hc) :
    ∀ (q : Nat), ∀ (r : Nat), q < 2 ^ 32 → r < 2 ^ 34 → pr = q * v1 + r → W < (q + 1) * H →
      XX g MX10_rest ({ frames := 2, cells := 0, slots := 0, locals := 49 } : Room) Post 0 0 228 [(11, .long (lN r)), (9, .long (lN q)), (8, .int (nI m)), (6, .long (lN v1)), (4, .int (nI (p + 2))), (5, .int (nI s)), (0, .ref M0), (1, .ref M), (2, .int (nI many)), (3, .ref to)] [] hc := by
  have hv2 := u32_lt (fh p)
  have l2 := u32_lt (f (m + p))
  intro q
  induction q with
  | zero =>
    intro r hq hr er hI
    have hgood : (0 = W / H ∨ 0 = W / H + 1) := Or.inl (Nat.div_eq_of_lt (by omega)).symm
    refine X_lload (pc := 228) 0 dX10_rest_228 rfl ?_
    refine X_ldc2 (pc := 230) dX10_rest_230 q1783 ?_
    refine X_lcmp (pc := 233) dX10_rest_233 ?_
    refine X_if_ge (pc := 234) 295 dX10_rest_234 (by decide) (fun c_234 => ?_) (fun c_234 => ?_)
    · exact good 0 hq hgood _
    · have hrl : r < 2 ^ 32 := by
        have c : ¬ (4294967296 : Int64) ≤ lN r := fun z => c_234 ((lg_cmp_ge _ _).mpr z)
        rw [show (4294967296 : Int64) = lN 4294967296 from rfl, pk_lLE (by omega) (by omega)] at c
        omega
      refine X_lload (pc := 237) 1 dX10_rest_237 rfl ?_
      refine X_aload_n (pc := 239) 7 dX10_rest_239 rfl rfl ?_
      refine X_getfield (pc := 240) dX10_rest_240 fg_X10_39_12 o2 (by first | rfl | assumption) ?_
      refine X_iload (pc := 243) 4 dX10_rest_243 rfl ?_
      refine X_iconst (pc := 245) (x := 2) dX10_rest_245 (by decide) ?_
      refine X_isub (pc := 246) dX10_rest_246 ?_
      rw [i3]
      refine X_iaload (pc := 247) dX10_rest_247 o3 bp ?_
      rw [cp]
      refine X_isl (pc := 248) _ dX10_rest_248 cs_X10_9 rfl (mu_ok g _ _) nX10_u (Nat.le_of_ble_eq_true rfl) (Nat.le_of_ble_eq_true rfl) (Nat.le_of_ble_eq_true rfl) (Nat.le_of_ble_eq_true rfl) (fun r1 h1 q1 => ?_)
      obtain ⟨rfl, rfl⟩ := q1
      refine X_lmul (pc := 251) dX10_rest_251 ?_
      refine X_lload (pc := 252) 0 dX10_rest_252 rfl ?_
      refine X_bipush (pc := 254) (x := 32) dX10_rest_254 (by decide) ?_
      refine X_lshl (pc := 256) dX10_rest_256 ?_
      rw [lN_mul, lN_shl (k := 32) _ (by decide) (by omega)]
      refine X_aload_n (pc := 257) 6 dX10_rest_257 rfl rfl ?_
      refine X_getfield (pc := 258) dX10_rest_258 fg_X10_36_11 o1 f1 ?_
      refine X_iload (pc := 261) 2 dX10_rest_261 rfl ?_
      refine X_iload (pc := 263) 4 dX10_rest_263 rfl ?_
      refine X_iadd (pc := 265) dX10_rest_265 ?_
      refine X_iconst (pc := 266) (x := 2) dX10_rest_266 (by decide) ?_
      refine X_isub (pc := 267) dX10_rest_267 ?_
      rw [i2]
      refine X_iaload (pc := 268) dX10_rest_268 ow b2 ?_
      rw [c2]
      refine X_isl (pc := 269) _ dX10_rest_269 cs_X10_9 rfl (mu_ok g _ _) nX10_u (Nat.le_of_ble_eq_true rfl) (Nat.le_of_ble_eq_true rfl) (Nat.le_of_ble_eq_true rfl) (Nat.le_of_ble_eq_true rfl) (fun r1 h1 q1 => ?_)
      obtain ⟨rfl, rfl⟩ := q1
      refine X_lor (pc := 272) dX10_rest_272 ?_
      rw [lN_or hrl l2]
      refine X_isi (pc := 273) _ dX10_rest_273 cs_X10_53 rfl (lcmpU_ok g _ (by omega) (by omega)) nJ8_compareUnsigned (Nat.le_of_ble_eq_true rfl) (Nat.le_of_ble_eq_true rfl) (Nat.le_of_ble_eq_true rfl) (Nat.le_of_ble_eq_true rfl) (fun r1 h1 q1 => ?_)
      obtain ⟨rfl, rfl⟩ := q1
      refine X_if_le (pc := 276) 295 dX10_rest_276 (by decide) (fun c_276 => ?_) (fun c_276 => ?_)
      · exact good 0 hq hgood _
      · exfalso
        apply c_276
        split
        · decide
        · split
          · decide
          · omega
  | succ q ihq =>
    intro r hq hr er hI
    -- when it stands
    have stand : (q + 1) * u32 (fh p) ≤ r * 2 ^ 32 + u32 (f (m + p)) → (q + 1 = W / H ∨ q + 1 = W / H + 1) := by
      exact fun hc => stand0 (q + 1) r hq er hc hI
    refine X_lload (pc := 228) 0 dX10_rest_228 rfl ?_
    refine X_ldc2 (pc := 230) dX10_rest_230 q1783 ?_
    refine X_lcmp (pc := 233) dX10_rest_233 ?_
    refine X_if_ge (pc := 234) 295 dX10_rest_234 (by decide) (fun c_234 => ?_) (fun c_234 => ?_)
    · have hrl : 2 ^ 32 ≤ r := by
        have c := (lg_cmp_ge _ _).mp c_234
        rw [show (4294967296 : Int64) = lN 4294967296 from rfl, pk_lLE (by omega) (by omega)] at c
        omega
      refine good (q + 1) hq (stand ?_) _
      have : (q + 1) * u32 (fh p) ≤ 2 ^ 32 * 2 ^ 32 := Nat.mul_le_mul (by omega) (by omega)
      have : 2 ^ 32 * 2 ^ 32 ≤ r * 2 ^ 32 := Nat.mul_le_mul_right _ hrl
      omega
    · have hrl : r < 2 ^ 32 := by
        have c : ¬ (4294967296 : Int64) ≤ lN r := fun z => c_234 ((lg_cmp_ge _ _).mpr z)
        rw [show (4294967296 : Int64) = lN 4294967296 from rfl, pk_lLE (by omega) (by omega)] at c
        omega
      refine X_lload (pc := 237) 1 dX10_rest_237 rfl ?_
      refine X_aload_n (pc := 239) 7 dX10_rest_239 rfl rfl ?_
      refine X_getfield (pc := 240) dX10_rest_240 fg_X10_39_12 o2 (by first | rfl | assumption) ?_
      refine X_iload (pc := 243) 4 dX10_rest_243 rfl ?_
      refine X_iconst (pc := 245) (x := 2) dX10_rest_245 (by decide) ?_
      refine X_isub (pc := 246) dX10_rest_246 ?_
      rw [i3]
      refine X_iaload (pc := 247) dX10_rest_247 o3 bp ?_
      rw [cp]
      refine X_isl (pc := 248) _ dX10_rest_248 cs_X10_9 rfl (mu_ok g _ _) nX10_u (Nat.le_of_ble_eq_true rfl) (Nat.le_of_ble_eq_true rfl) (Nat.le_of_ble_eq_true rfl) (Nat.le_of_ble_eq_true rfl) (fun r1 h1 q1 => ?_)
      obtain ⟨rfl, rfl⟩ := q1
      have hqv : (q + 1) * u32 (fh p) < 2 ^ 64 := by have := mulN_lt hq hv2 (show 0 < 2 ^ 32 by decide) (show 0 < 2 ^ 32 by decide); omega
      refine X_lmul (pc := 251) dX10_rest_251 ?_
      refine X_lload (pc := 252) 0 dX10_rest_252 rfl ?_
      refine X_bipush (pc := 254) (x := 32) dX10_rest_254 (by decide) ?_
      refine X_lshl (pc := 256) dX10_rest_256 ?_
      rw [lN_mul, lN_shl (k := 32) _ (by decide) (by omega)]
      refine X_aload_n (pc := 257) 6 dX10_rest_257 rfl rfl ?_
      refine X_getfield (pc := 258) dX10_rest_258 fg_X10_36_11 o1 f1 ?_
      refine X_iload (pc := 261) 2 dX10_rest_261 rfl ?_
      refine X_iload (pc := 263) 4 dX10_rest_263 rfl ?_
      refine X_iadd (pc := 265) dX10_rest_265 ?_
      refine X_iconst (pc := 266) (x := 2) dX10_rest_266 (by decide) ?_
      refine X_isub (pc := 267) dX10_rest_267 ?_
      rw [i2]
      refine X_iaload (pc := 268) dX10_rest_268 ow b2 ?_
      rw [c2]
      refine X_isl (pc := 269) _ dX10_rest_269 cs_X10_9 rfl (mu_ok g _ _) nX10_u (Nat.le_of_ble_eq_true rfl) (Nat.le_of_ble_eq_true rfl) (Nat.le_of_ble_eq_true rfl) (Nat.le_of_ble_eq_true rfl) (fun r1 h1 q1 => ?_)
      obtain ⟨rfl, rfl⟩ := q1
      refine X_lor (pc := 272) dX10_rest_272 ?_
      rw [lN_or hrl l2]
      refine X_isi (pc := 273) _ dX10_rest_273 cs_X10_53 rfl (lcmpU_ok g _ hqv (by omega)) nJ8_compareUnsigned (Nat.le_of_ble_eq_true rfl) (Nat.le_of_ble_eq_true rfl) (Nat.le_of_ble_eq_true rfl) (Nat.le_of_ble_eq_true rfl) (fun r1 h1 q1 => ?_)
      obtain ⟨rfl, rfl⟩ := q1
      refine X_if_le (pc := 276) 295 dX10_rest_276 (by decide) (fun c_276 => ?_) (fun c_276 => ?_)
      · refine good (q + 1) hq (stand ?_) _
        split at c_276
        · omega
        · split at c_276
          · omega
          · exact absurd c_276 (by decide)
      · have hgt : r * 2 ^ 32 + u32 (f (m + p)) < (q + 1) * u32 (fh p) := by
          rcases Nat.lt_trichotomy ((q + 1) * u32 (fh p)) (r * 2 ^ 32 + u32 (f (m + p))) with t | t | t
          · rw [if_pos t] at c_276; exact absurd (by decide) c_276
          · rw [if_neg (by omega), if_pos t] at c_276; exact absurd (by decide) c_276
          · exact t
        refine X_lload (pc := 279) 1 dX10_rest_279 rfl ?_
        refine X_lconst (pc := 281) (x := 1) dX10_rest_281 (by decide) ?_
        refine X_lsub (pc := 282) dX10_rest_282 ?_
        rw [show (1 : Int64) = lN 1 from rfl, lN_sub (Nat.le_add_left 1 q), Nat.add_sub_cancel]
        refine X_lstore (pc := 283) (L' := [(9, .long _), (11, .long _), (8, .int _), (6, .long _), (4, .int _), (5, .int _), (0, .ref _), (1, .ref _), (2, .int _), (3, .ref _)]) dX10_rest_283 (Nat.le_of_ble_eq_true rfl) rfl ?_
        refine X_lload (pc := 285) 1 dX10_rest_285 rfl ?_
        refine X_lload (pc := 287) 3 dX10_rest_287 rfl ?_
        refine X_ladd (pc := 289) dX10_rest_289 ?_
        rw [lN_add]
        refine X_lstore (pc := 290) (L' := [(11, .long _), (9, .long _), (8, .int _), (6, .long _), (4, .int _), (5, .int _), (0, .ref _), (1, .ref _), (2, .int _), (3, .ref _)]) dX10_rest_290 (Nat.le_of_ble_eq_true rfl) rfl ?_
        refine X_goto (pc := 292) 228 dX10_rest_292 (by decide) ?_
        refine ihq _ (by omega) (by omega) ?_ ?_
        · rw [er, Nat.add_mul]; omega
        · exact mend0 (q + 1) r er hgt
