set_option maxRecDepth 100000
/-! the reference: expansion of a message -/
def zer128 : List Int32 := List.replicate 128 (tb 0)
noncomputable def xb0 (msg : List Int32) (many : Nat) (T : List Int32) : List Int32 := sha384 (zer128 ++ msg ++ [tb (many / 256), tb many] ++ [tb 0] ++ T ++ [tb T.length])
noncomputable def xbi (b0 T : List Int32) : Nat → List Int32
  | 0 => List.replicate 48 0
  | i + 1 => sha384 (((List.range 48).map fun j => tb (u32 (b0.getD j 0 ^^^ (xbi b0 T i).getD j 0))) ++ [tb (i + 1)] ++ T ++ [tb T.length])
noncomputable def uni (b0 T : List Int32) (j : Nat) : Int32 := (xbi b0 T (j / 48 + 1)).getD (j % 48) 0
/-- the bytes of a message under a tag -/
noncomputable def xmd (msg : List Int32) (many : Nat) (T : List Int32) : List Int32 := (List.range many).map (uni (xb0 msg many T) T)
theorem xmd_len (msg : List Int32) (many : Nat) (T : List Int32) : (xmd msg many T).length = many := by unfold xmd; rw [List.length_map, List.length_range]
theorem rep0_getD (n j : Nat) : (List.replicate n (0 : Int32)).getD j 0 = 0 := by
  rw [List.getD_eq_getElem?_getD, List.getElem?_replicate]
  split <;> rfl
theorem xbi_B (b0 T : List Int32) (i : Nat) : IsB (xbi b0 T i) := by
  cases i with
  | zero => intro x hx; rw [List.eq_of_mem_replicate hx]; rfl
  | succ i => exact sha384_B _
theorem xbi_len (b0 T : List Int32) (i : Nat) : (xbi b0 T i).length = 48 := by
  cases i with
  | zero => exact List.length_replicate
  | succ i => exact sha384_len _
theorem uni_at (b0 T : List Int32) {i j : Nat} (hj : j < 48) : uni b0 T (48 * i + j) = (xbi b0 T (i + 1)).getD j 0 := by
  unfold uni
  rw [show (48 * i + j) / 48 = i by omega, show (48 * i + j) % 48 = j by omega]
theorem xmd_B (msg : List Int32) (many : Nat) (T : List Int32) : IsB (xmd msg many T) := fun x hx => by
  unfold xmd at hx
  obtain ⟨a, -, rfl⟩ := List.mem_map.mp hx
  exact (xbi_B _ _ _).at' _
/-- what hashing may change -/
def hK (j : Nat) : Bool := j == 25 || j == 27 || j == 34 || j == 36 || j == 37 || j == 38
def SFr (S S' : Nat → List Int32) : Prop := ∀ j, hK j = false → S' j = S j
theorem SFr.refl (S : Nat → List Int32) : SFr S S := fun _ _ => rfl
theorem SFr.trans {S S' S'' : Nat → List Int32} (h : SFr S S') (h' : SFr S' S'') : SFr S S'' := fun j hj => (h' j hj).trans (h j hj)
theorem SFr.up {S S' : Nat → List Int32} (h : SFr S S') {k : Nat} (hk : hK k = true) (l : List Int32) : SFr S (up S' k l) := fun j hj => by
  rw [up_ne (fun e => by rw [e, hk] at hj; cases hj)]
  exact h j hj
section MXp
variable {A : Nat → Nat} {X : AH} {R : Nat → Nat} {I : Nat → Nat → Int32} {S : Nat → List Int32} {F : Nat → Int32} {h : AH}
set_option maxHeartbeats 4000000 in
theorem expands_ok (g : GX) (w : SW A X R I S F [] h) {T msg : List Int32} {many : Nat} (hm : many = 72 ∨ many = 144) (h32 : S 32 = msg) (h33 : F 33 = nI msg.length) (hmB : IsB msg) (h34 : S 34 = T) (h35 : F 35 = nI T.length) (hT : IsB T) (hT2 : T.length ≤ 48) :
    MT g MX10_expands ({ frames := 3, cells := 0, slots := 0, locals := 85 } : Room) [.ref (A 96), .int (nI many)] h (RV fun h' => ∃ S', SW A X R I S' F [] h' ∧ SFr S S' ∧ S' 34 = T ∧ S' 38 = xmd msg many T) := by
  refine MT.of (by decide) (Nat.le_of_ble_eq_true rfl) ?_
  generalize hPost : (RV fun h' => ∃ S', SW A X R I S' F [] h' ∧ SFr S S' ∧ S' 34 = T ∧ S' 38 = xmd msg many T) = Post
  have hml : msg.length ≤ 700 := by
    have w' : MW A X R I (up S 25 []) (up F 26 (nI 0)) h := w
    obtain ⟨-, -, -, z⟩ := w'.s 32 rfl
    rw [up_ne (by decide), h32] at z
    exact z
  have hxd : xmd msg many T = (List.range many).map (uni (xb0 msg many T) T) := rfl
  have hx0 : xb0 msg many T = sha384 (zer128 ++ msg ++ [tb (many / 256), tb many] ++ [tb 0] ++ T ++ [tb T.length]) := rfl
  have hbB : IsB (xb0 msg many T) := sha384_B _
  have hbl : (xb0 msg many T).length = 48 := sha384_len _
  generalize hb0 : xb0 msg many T = b0 at *
  -- a block
  have loop3 : ∀ m i, i + m = (many + 47) / 48 → ∀ S' h', SW A X R I S' F [] h' → SFr S S' → S' 34 = T → S' 36 = b0 → S' 37 = xbi b0 T i → S' 38 = (List.range (min (48 * i) many)).map (uni b0 T) →
      XX g MX10_expands ({ frames := 3, cells := 0, slots := 0, locals := 85 } : Room) Post 0 0 86 [(2, .int (nI (i + 1))), (0, .ref (A 96)), (1, .int (nI many))] [] h' := by
    intro m
    induction m with
    | zero =>
      intro i hi S' h' w' hS hS34 hS36 hS37 hS38
      refine X_bipush (pc := 86) (x := 48) dX10_expands_86 (by decide) ?_
      refine X_iload_n (pc := 88) 0 dX10_expands_88 rfl rfl ?_
      refine X_iconst (pc := 89) (x := 1) dX10_expands_89 (by decide) ?_
      refine X_isub (pc := 90) dX10_expands_90 ?_
      refine X_imul (pc := 91) dX10_expands_91 ?_
      rw [show nI (i + 1) - 1 = nI i from nI_pred i, show (48 : Int32) * nI i = nI (48 * i) from pk_mul 48 i]
      refine X_iload_n (pc := 92) 2 dX10_expands_92 rfl rfl ?_
      refine X_icmp_ge (pc := 93) 203 dX10_expands_93 (by decide) (fun _ => ?_) (fun c => absurd (nI_le (a := many) (b := 48 * i) (by omega) (by omega)) c)
      subst hPost
      refine X_return (pc := 203) dX10_expands_203 rfl (Nat.le_of_ble_eq_true rfl) (Nat.le_of_ble_eq_true rfl) ?_
      refine ⟨rfl, S', w', hS, hS34, ?_⟩
      rw [hS38, show min (48 * i) many = many by omega, hxd]
    | succ m ih =>
      intro i hi S' h' w' hS hS34 hS36 hS37 hS38
      have hi3 : i < 3 := by omega
      have hB37 := xbi_B b0 T i
      -- the digest is laid into mixed and uniform
      have loop5 : ∀ m5 j, j + m5 = 48 → ∀ h5, SW A X R I (up (up (up S' 27 (xbi b0 T (i + 1))) 37 ((List.range j).map fun q => (xbi b0 T (i + 1)).getD q 0)) 38 ((List.range (min (48 * i + j) many)).map (uni b0 T))) F [] h5 →
          XX g MX10_expands ({ frames := 3, cells := 0, slots := 0, locals := 85 } : Room) Post 0 0 142 [(3, .int (nI j)), (2, .int (nI (i + 1))), (0, .ref (A 96)), (1, .int (nI many))] [] h5 := by
        intro m5
        induction m5 with
        | zero =>
          intro j hj h5 w5
          have e : j = 48 := by omega
          subst e
          rw [map_getD (xbi_len b0 T (i + 1))] at w5
          refine X_iload_n (pc := 142) 0 dX10_expands_142 rfl rfl ?_
          refine X_bipush (pc := 143) (x := 48) dX10_expands_143 (by decide) ?_
          refine X_cge (a := 48) (b := 48) (pc := 145) 197 dX10_expands_145 (by decide) (by omega) (by omega) (fun _ => ?_) (fun c => absurd c (by omega))
          refine X_iinc (pc := 197) (L' := [(2, .int (_ + 1)), (3, .int _), (0, .ref _), (1, .int _)]) 1 dX10_expands_197 rfl rfl (Nat.le_of_ble_eq_true rfl) rfl ?_
          refine X_goto (pc := 200) 86 dX10_expands_200 (by decide) ?_
          refine XX.pick (L' := [(2, .int _), (0, .ref _), (1, .int _)]) [0, 2, 3] rfl ?_
          rw [show nI (i + 1) + 1 = nI (i + 1 + 1) from nI_add (i + 1) 1]
          refine ih (i + 1) (by omega) _ h5 w5 (((hS.up rfl _).up rfl _).up rfl _) ?_ ?_ ?_ ?_
          · rw [up_ne (by decide), up_ne (by decide), up_ne (by decide)]; exact hS34
          · rw [up_ne (by decide), up_ne (by decide), up_ne (by decide)]; exact hS36
          · rw [up_ne (by decide), up_same]
          · rw [up_same, show 48 * (i + 1) = 48 * i + 48 by omega]
        | succ m5 ih5 =>
          intro j hj h5 w5
          have w5' : MW A X R I (up (up (up (up S' 27 (xbi b0 T (i + 1))) 37 ((List.range j).map fun q => (xbi b0 T (i + 1)).getD q 0)) 38 ((List.range (min (48 * i + j) many)).map (uni b0 T))) 25 []) (up F 26 (nI 0)) h5 := w5
          have cj : (nI j).toNatClampNeg = j := nI_clamp (by omega)
          have b1 : vp_in (nI j) 48 := vp_in_nI (by omega) (by omega)
          have hBd := xbi_B b0 T (i + 1)
          obtain ⟨f27, c27, p27, l27⟩ := w5'.s 27 rfl
          obtain ⟨f37, c37, p37, l37⟩ := w5'.s 37 rfl
          rw [up_ne (by decide), up_ne (by decide), up_ne (by decide), up_same] at p27
          rw [up_ne (by decide), up_ne (by decide), up_same] at p37
          have hdl := xbi_len b0 T (i + 1)
          have hli : ((List.range j).map fun q => (xbi b0 T (i + 1)).getD q 0).length = j := by rw [List.length_map, List.length_range]
          refine X_iload_n (pc := 142) 0 dX10_expands_142 rfl rfl ?_
          refine X_bipush (pc := 143) (x := 48) dX10_expands_143 (by decide) ?_
          refine X_cge (b := 48) (pc := 145) 197 dX10_expands_145 (by decide) (by omega) (by omega) (fun c => absurd c (by omega)) (fun _ => ?_)
          refine X_aload_n (pc := 148) 2 dX10_expands_148 rfl rfl ?_
          refine X_getfield (pc := 149) dX10_expands_149 fg_X10_346_11 (MW.ob w5') mf_37 ?_
          refine X_iload_n (pc := 152) 0 dX10_expands_152 rfl rfl ?_
          refine X_aload_n (pc := 153) 2 dX10_expands_153 rfl rfl ?_
          refine X_getfield (pc := 154) dX10_expands_154 fg_X10_283_11 (MW.ob w5') mf_27 ?_
          refine X_iload_n (pc := 157) 0 dX10_expands_157 rfl rfl ?_
          refine X_baload (pc := 158) dX10_expands_158 c27 b1 ?_
          refine X_bastore (pc := 159) dX10_expands_159 c37 b1 ?_
          rw [cj, p27 j (by omega), hBd.nar]
          have w6 := w5'.setS 37 rfl (PL_snoc (x := (xbi b0 T (i + 1)).getD j 0) p37) (by rw [List.length_append, hli]; exact (show j + 1 ≤ 48 by omega))
          rw [hli, ← List.map_singleton (f := fun q => (xbi b0 T (i + 1)).getD q 0), ← List.map_append, ← List.range_succ, up_comm _ _ _ (show 25 ≠ 37 by decide), up_comm _ _ _ (show 38 ≠ 37 by decide), up_up'] at w6
          generalize hset h5 (A 37) (Ai false 2 48 (upd f37 j ((xbi b0 T (i + 1)).getD j 0))) = h6 at *
          have nxt : ∀ h7, SW A X R I (up (up (up S' 27 (xbi b0 T (i + 1))) 37 ((List.range (j + 1)).map fun q => (xbi b0 T (i + 1)).getD q 0)) 38 ((List.range (min (48 * i + (j + 1)) many)).map (uni b0 T))) F [] h7 →
              XX g MX10_expands ({ frames := 3, cells := 0, slots := 0, locals := 85 } : Room) Post 0 0 191 [(3, .int (nI j)), (2, .int (nI (i + 1))), (0, .ref (A 96)), (1, .int (nI many))] [] h7 := by
            intro h7 w7
            refine X_iinc (pc := 191) (L' := [(3, .int (_ + 1)), (2, .int _), (0, .ref _), (1, .int _)]) 0 dX10_expands_191 rfl rfl (Nat.le_of_ble_eq_true rfl) rfl ?_
            refine X_goto (pc := 194) 142 dX10_expands_194 (by decide) ?_
            rw [show nI j + 1 = nI (j + 1) from nI_add j 1]
            exact ih5 (j + 1) (by omega) h7 w7
          refine X_bipush (pc := 160) (x := 48) dX10_expands_160 (by decide) ?_
          refine X_iload_n (pc := 162) 1 dX10_expands_162 rfl rfl ?_
          refine X_iconst (pc := 163) (x := 1) dX10_expands_163 (by decide) ?_
          refine X_isub (pc := 164) dX10_expands_164 ?_
          refine X_imul (pc := 165) dX10_expands_165 ?_
          refine X_iload_n (pc := 166) 0 dX10_expands_166 rfl rfl ?_
          refine X_iadd (pc := 167) dX10_expands_167 ?_
          rw [show nI (i + 1) - 1 = nI i from nI_pred i, show (48 : Int32) * nI i = nI (48 * i) from pk_mul 48 i, nI_add]
          refine X_iload_n (pc := 168) 3 dX10_expands_168 rfl rfl ?_
          by_cases c9 : 48 * i + j < many
          · refine X_icmp_ge (pc := 169) 191 dX10_expands_169 (by decide) (fun c => absurd c (nI_ge c9 (by omega))) (fun _ => ?_)
            obtain ⟨g27, d27, r27, -⟩ := w6.s 27 rfl
            obtain ⟨g38, d38, r38, -⟩ := w6.s 38 rfl
            rw [up_ne (by decide), up_ne (by decide), up_ne (by decide), up_same] at r27
            rw [up_ne (by decide), up_same] at r38
            have hlu : ((List.range (min (48 * i + j) many)).map (uni b0 T)).length = 48 * i + j := by rw [List.length_map, List.length_range]; omega
            have bu : vp_in (nI (48 * i + j)) 144 := vp_in_nI (by omega) (by omega)
            have cu : (nI (48 * i + j)).toNatClampNeg = 48 * i + j := nI_clamp (by omega)
            refine X_aload_n (pc := 172) 2 dX10_expands_172 rfl rfl ?_
            refine X_getfield (pc := 173) dX10_expands_173 fg_X10_349_11 (MW.ob w6) mf_38 ?_
            refine X_bipush (pc := 176) (x := 48) dX10_expands_176 (by decide) ?_
            refine X_iload_n (pc := 178) 1 dX10_expands_178 rfl rfl ?_
            refine X_iconst (pc := 179) (x := 1) dX10_expands_179 (by decide) ?_
            refine X_isub (pc := 180) dX10_expands_180 ?_
            refine X_imul (pc := 181) dX10_expands_181 ?_
            refine X_iload_n (pc := 182) 0 dX10_expands_182 rfl rfl ?_
            refine X_iadd (pc := 183) dX10_expands_183 ?_
            rw [show nI (i + 1) - 1 = nI i from nI_pred i, show (48 : Int32) * nI i = nI (48 * i) from pk_mul 48 i, nI_add]
            refine X_aload_n (pc := 184) 2 dX10_expands_184 rfl rfl ?_
            refine X_getfield (pc := 185) dX10_expands_185 fg_X10_283_11 (MW.ob w6) mf_27 ?_
            refine X_iload_n (pc := 188) 0 dX10_expands_188 rfl rfl ?_
            refine X_baload (pc := 189) dX10_expands_189 d27 b1 ?_
            refine X_bastore (pc := 190) dX10_expands_190 d38 bu ?_
            rw [cu, cj, r27 j (by omega), hBd.nar]
            have w7 := w6.setS 38 rfl (PL_snoc (x := uni b0 T (48 * i + j)) r38) (by rw [List.length_append, hlu]; exact (show 48 * i + j + 1 ≤ 144 by omega))
            rw [hlu, ← List.map_singleton (f := uni b0 T), ← List.map_append, show min (48 * i + j) many = 48 * i + j by omega, ← List.range_succ, uni_at b0 T (by omega), up_comm _ _ _ (show 25 ≠ 38 by decide), up_up'] at w7
            refine nxt _ ?_
            rw [show min (48 * i + (j + 1)) many = (48 * i + j).succ by omega]
            exact w7
          · refine X_icmp_ge (pc := 169) 191 dX10_expands_169 (by decide) (fun _ => ?_) (fun c => absurd (nI_le (by omega) (by omega)) c)
            refine nxt _ ?_
            rw [show min (48 * i + (j + 1)) many = min (48 * i + j) many by omega]
            exact w6
      -- what is said ahead of the digest
      have loop4 : ∀ m4 j, j + m4 = 48 → ∀ h4, SW A X R I S' F ((List.range j).map fun q => tb (u32 (b0.getD q 0 ^^^ (xbi b0 T i).getD q 0))) h4 →
          XX g MX10_expands ({ frames := 3, cells := 0, slots := 0, locals := 85 } : Room) Post 0 0 98 [(3, .int (nI j)), (2, .int (nI (i + 1))), (0, .ref (A 96)), (1, .int (nI many))] [] h4 := by
        intro m4
        induction m4 with
        | zero =>
          intro j hj h4 w4
          have e : j = 48 := by omega
          subst e
          have hl4 : ((List.range 48).map fun q => tb (u32 (b0.getD q 0 ^^^ (xbi b0 T i).getD q 0))).length = 48 := by rw [List.length_map, List.length_range]
          refine X_iload_n (pc := 98) 0 dX10_expands_98 rfl rfl ?_
          refine X_bipush (pc := 99) (x := 48) dX10_expands_99 (by decide) ?_
          refine X_cge (a := 48) (b := 48) (pc := 101) 127 dX10_expands_101 (by decide) (by omega) (by omega) (fun _ => ?_) (fun c => absurd c (by omega))
          refine X_aload_n (pc := 127) 2 dX10_expands_127 rfl rfl ?_
          refine X_iload_n (pc := 128) 1 dX10_expands_128 rfl rfl ?_
          refine X_ivv (pc := 129) _ dX10_expands_129 cv_X10_246_11 (MW.ob w4) rfl (say_ok g w4 (by rw [hl4]; decide) _) nX10_say_2 (Nat.le_of_ble_eq_true rfl) (Nat.le_of_ble_eq_true rfl) (Nat.le_of_ble_eq_true rfl) (Nat.le_of_ble_eq_true rfl) (fun h5 w5 => ?_)
          rw [tb_u] at w5
          refine X_aload_n (pc := 132) 2 dX10_expands_132 rfl rfl ?_
          refine X_ivv (pc := 133) _ dX10_expands_133 cv_X10_337_11 (MW.ob w5) rfl (ends_ok g w5 hS34 h35 hT hT2 (by rw [List.length_append, hl4]; show 48 + 1 + _ + 1 ≤ 2600; omega)) nX10_endsTag (Nat.le_of_ble_eq_true rfl) (Nat.le_of_ble_eq_true rfl) (Nat.le_of_ble_eq_true rfl) (Nat.le_of_ble_eq_true rfl) (fun h6 w6 => ?_)
          refine X_aload_n (pc := 136) 2 dX10_expands_136 rfl rfl ?_
          refine X_ivv (pc := 137) _ dX10_expands_137 cv_X10_340_11 (MW.ob w6) rfl (h3_ok g w6 (by rw [List.length_append, List.length_append, List.length_append, hl4]; show 48 + 1 + _ + 1 + 144 ≤ 2600; omega)) nX10_h3 (Nat.le_of_ble_eq_true rfl) (Nat.le_of_ble_eq_true rfl) (Nat.le_of_ble_eq_true rfl) (Nat.le_of_ble_eq_true rfl) (fun h7 w7 => ?_)
          refine X_iconst (pc := 140) (x := 0) dX10_expands_140 (by decide) ?_
          refine X_istore_n (pc := 141) (L' := [(3, .int _), (2, .int _), (0, .ref _), (1, .int _)]) dX10_expands_141 rfl (Nat.le_of_ble_eq_true rfl) rfl ?_
          refine loop5 48 0 (by omega) h7 ?_
          have w8 := (MW.cutS w7 37 rfl)
          rw [up_comm _ _ _ (show 25 ≠ 37 by decide)] at w8
          have e38 : up (up (up S' 27 (xbi b0 T (i + 1))) 37 []) 38 ((List.range (min (48 * i + 0) many)).map (uni b0 T)) = up (up S' 27 (xbi b0 T (i + 1))) 37 [] := by
            rw [show 48 * i + 0 = 48 * i from rfl, ← hS38]
            have := up_id (up (up S' 27 (xbi b0 T (i + 1))) 37 []) 38
            rw [up_ne (by decide), up_ne (by decide)] at this
            exact this
          show SW A X R I (up (up (up S' 27 (xbi b0 T (i + 1))) 37 []) 38 _) F [] h7
          rw [e38]
          exact w8
        | succ m4 ih4 =>
          intro j hj h4 w4
          have w4' : MW A X R I (up S' 25 ((List.range j).map fun q => tb (u32 (b0.getD q 0 ^^^ (xbi b0 T i).getD q 0)))) (up F 26 (nI ((List.range j).map fun q => tb (u32 (b0.getD q 0 ^^^ (xbi b0 T i).getD q 0))).length)) h4 := w4
          have cj : (nI j).toNatClampNeg = j := nI_clamp (by omega)
          have b1 : vp_in (nI j) 48 := vp_in_nI (by omega) (by omega)
          obtain ⟨f36, c36, p36, -⟩ := w4'.s 36 rfl
          obtain ⟨f37, c37, p37, -⟩ := w4'.s 37 rfl
          rw [up_ne (by decide), hS36] at p36
          rw [up_ne (by decide), hS37] at p37
          have hdl := xbi_len b0 T i
          refine X_iload_n (pc := 98) 0 dX10_expands_98 rfl rfl ?_
          refine X_bipush (pc := 99) (x := 48) dX10_expands_99 (by decide) ?_
          refine X_cge (b := 48) (pc := 101) 127 dX10_expands_101 (by decide) (by omega) (by omega) (fun c => absurd c (by omega)) (fun _ => ?_)
          refine X_aload_n (pc := 104) 2 dX10_expands_104 rfl rfl ?_
          refine X_aload_n (pc := 105) 2 dX10_expands_105 rfl rfl ?_
          refine X_getfield (pc := 106) dX10_expands_106 fg_X10_343_11 (MW.ob w4') mf_36 ?_
          refine X_iload_n (pc := 109) 0 dX10_expands_109 rfl rfl ?_
          refine X_baload (pc := 110) dX10_expands_110 c36 b1 ?_
          refine X_aload_n (pc := 111) 2 dX10_expands_111 rfl rfl ?_
          refine X_getfield (pc := 112) dX10_expands_112 fg_X10_346_11 (MW.ob w4') mf_37 ?_
          refine X_iload_n (pc := 115) 0 dX10_expands_115 rfl rfl ?_
          refine X_baload (pc := 116) dX10_expands_116 c37 b1 ?_
          refine X_ixor (pc := 117) dX10_expands_117 ?_
          rw [cj, p36 j (by omega), p37 j (by omega)]
          refine X_ivv (pc := 118) _ dX10_expands_118 cv_X10_246_11 (MW.ob w4) rfl (say_ok g w4 (by rw [List.length_map, List.length_range]; omega) _) nX10_say_2 (Nat.le_of_ble_eq_true rfl) (Nat.le_of_ble_eq_true rfl) (Nat.le_of_ble_eq_true rfl) (Nat.le_of_ble_eq_true rfl) (fun h5 w5 => ?_)
          rw [← List.map_singleton (f := fun q => tb (u32 (b0.getD q 0 ^^^ (xbi b0 T i).getD q 0))), ← List.map_append, ← List.range_succ] at w5
          refine X_iinc (pc := 121) (L' := [(3, .int (_ + 1)), (2, .int _), (0, .ref _), (1, .int _)]) 0 dX10_expands_121 rfl rfl (Nat.le_of_ble_eq_true rfl) rfl ?_
          refine X_goto (pc := 124) 98 dX10_expands_124 (by decide) ?_
          rw [show nI j + 1 = nI (j + 1) from nI_add j 1]
          exact ih4 (j + 1) (by omega) h5 w5
      refine X_bipush (pc := 86) (x := 48) dX10_expands_86 (by decide) ?_
      refine X_iload_n (pc := 88) 0 dX10_expands_88 rfl rfl ?_
      refine X_iconst (pc := 89) (x := 1) dX10_expands_89 (by decide) ?_
      refine X_isub (pc := 90) dX10_expands_90 ?_
      refine X_imul (pc := 91) dX10_expands_91 ?_
      rw [show nI (i + 1) - 1 = nI i from nI_pred i, show (48 : Int32) * nI i = nI (48 * i) from pk_mul 48 i]
      refine X_iload_n (pc := 92) 2 dX10_expands_92 rfl rfl ?_
      refine X_icmp_ge (pc := 93) 203 dX10_expands_93 (by decide) (fun c => absurd c (nI_ge (by omega) (by omega))) (fun _ => ?_)
      refine X_iconst (pc := 96) (x := 0) dX10_expands_96 (by decide) ?_
      refine X_istore_n (pc := 97) (L' := [(3, .int _), (2, .int _), (0, .ref _), (1, .int _)]) dX10_expands_97 rfl (Nat.le_of_ble_eq_true rfl) rfl ?_
      exact loop4 48 0 (by omega) h' w'
  -- the first digest is laid aside
  have loop2 : ∀ m j, j + m = 48 → ∀ h', SW A X R I (up (up (up S 27 b0) 36 ((List.range j).map fun q => b0.getD q 0)) 37 (List.replicate j 0)) F [] h' →
      XX g MX10_expands ({ frames := 3, cells := 0, slots := 0, locals := 85 } : Room) Post 0 0 53 [(2, .int (nI j)), (0, .ref (A 96)), (1, .int (nI many))] [] h' := by
    intro m
    induction m with
    | zero =>
      intro j hj h' w'
      have e : j = 48 := by omega
      subst e
      rw [map_getD hbl] at w'
      refine X_iload_n (pc := 53) 0 dX10_expands_53 rfl rfl ?_
      refine X_bipush (pc := 54) (x := 48) dX10_expands_54 (by decide) ?_
      refine X_cge (a := 48) (b := 48) (pc := 56) 84 dX10_expands_56 (by decide) (by omega) (by omega) (fun _ => ?_) (fun c => absurd c (by omega))
      refine X_iconst (pc := 84) (x := 1) dX10_expands_84 (by decide) ?_
      refine X_istore_n (pc := 85) (L' := [(2, .int _), (0, .ref _), (1, .int _)]) dX10_expands_85 rfl (Nat.le_of_ble_eq_true rfl) rfl ?_
      have w2 := MW.cutS w' 38 rfl
      rw [up_comm _ _ _ (show 25 ≠ 38 by decide)] at w2
      refine loop3 ((many + 47) / 48) 0 (by omega) _ h' w2 (((((SFr.refl S).up rfl _).up rfl _).up rfl _).up rfl _) ?_ ?_ ?_ ?_
      · rw [up_ne (by decide), up_ne (by decide), up_ne (by decide), up_ne (by decide)]; exact h34
      · rw [up_ne (by decide), up_ne (by decide), up_same]
      · rw [up_ne (by decide), up_same]; rfl
      · rw [up_same, Nat.mul_zero, Nat.zero_min, List.range_zero, List.map_nil]
    | succ m ih =>
      intro j hj h' w'
      have w2 : MW A X R I (up (up (up (up S 27 b0) 36 ((List.range j).map fun q => b0.getD q 0)) 37 (List.replicate j 0)) 25 []) (up F 26 (nI 0)) h' := w'
      have cj : (nI j).toNatClampNeg = j := nI_clamp (by omega)
      have b1 : vp_in (nI j) 48 := vp_in_nI (by omega) (by omega)
      obtain ⟨f27, c27, p27, -⟩ := w2.s 27 rfl
      obtain ⟨f36, c36, p36, -⟩ := w2.s 36 rfl
      rw [up_ne (by decide), up_ne (by decide), up_ne (by decide), up_same] at p27
      rw [up_ne (by decide), up_ne (by decide), up_same] at p36
      have hli : ((List.range j).map fun q => b0.getD q 0).length = j := by rw [List.length_map, List.length_range]
      refine X_iload_n (pc := 53) 0 dX10_expands_53 rfl rfl ?_
      refine X_bipush (pc := 54) (x := 48) dX10_expands_54 (by decide) ?_
      refine X_cge (b := 48) (pc := 56) 84 dX10_expands_56 (by decide) (by omega) (by omega) (fun c => absurd c (by omega)) (fun _ => ?_)
      refine X_aload_n (pc := 59) 1 dX10_expands_59 rfl rfl ?_
      refine X_getfield (pc := 60) dX10_expands_60 fg_X10_343_11 (MW.ob w2) mf_36 ?_
      refine X_iload_n (pc := 63) 0 dX10_expands_63 rfl rfl ?_
      refine X_aload_n (pc := 64) 1 dX10_expands_64 rfl rfl ?_
      refine X_getfield (pc := 65) dX10_expands_65 fg_X10_283_11 (MW.ob w2) mf_27 ?_
      refine X_iload_n (pc := 68) 0 dX10_expands_68 rfl rfl ?_
      refine X_baload (pc := 69) dX10_expands_69 c27 b1 ?_
      refine X_bastore (pc := 70) dX10_expands_70 c36 b1 ?_
      rw [cj, p27 j (by omega), hbB.nar]
      have w3 := w2.setS 36 rfl (PL_snoc (x := b0.getD j 0) p36) (by rw [List.length_append, hli]; exact (show j + 1 ≤ 48 by omega))
      rw [hli, ← List.map_singleton (f := fun q => b0.getD q 0), ← List.map_append, ← List.range_succ, up_comm _ _ _ (show 25 ≠ 36 by decide), up_comm _ _ _ (show 37 ≠ 36 by decide), up_up'] at w3
      generalize hset h' (A 36) (Ai false 2 48 (upd f36 j (b0.getD j 0))) = h3 at *
      obtain ⟨f37, c37, p37, -⟩ := w3.s 37 rfl
      rw [up_ne (by decide), up_same] at p37
      refine X_aload_n (pc := 71) 1 dX10_expands_71 rfl rfl ?_
      refine X_getfield (pc := 72) dX10_expands_72 fg_X10_346_11 (MW.ob w3) mf_37 ?_
      refine X_iload_n (pc := 75) 0 dX10_expands_75 rfl rfl ?_
      refine X_iconst (pc := 76) (x := 0) dX10_expands_76 (by decide) ?_
      refine X_bastore (pc := 77) dX10_expands_77 c37 b1 ?_
      rw [cj]
      have w4 := w3.setS 37 rfl (PL_snoc (x := 0) p37) (by rw [List.length_append, List.length_replicate]; exact (show j + 1 ≤ 48 by omega))
      rw [List.length_replicate, ← List.replicate_succ', up_comm _ _ _ (show 25 ≠ 37 by decide), up_up'] at w4
      refine X_iinc (pc := 78) (L' := [(2, .int (_ + 1)), (0, .ref _), (1, .int _)]) 0 dX10_expands_78 rfl rfl (Nat.le_of_ble_eq_true rfl) rfl ?_
      refine X_goto (pc := 81) 53 dX10_expands_81 (by decide) ?_
      rw [show nI j + 1 = nI (j + 1) from nI_add j 1]
      exact ih (j + 1) (by omega) _ w4
  -- what comes first
  have loop1 : ∀ m j, j + m = 128 → ∀ h', SW A X R I S F (List.replicate j (tb 0)) h' →
      XX g MX10_expands ({ frames := 3, cells := 0, slots := 0, locals := 85 } : Room) Post 0 0 2 [(2, .int (nI j)), (0, .ref (A 96)), (1, .int (nI many))] [] h' := by
    intro m
    induction m with
    | zero =>
      intro j hj h' w'
      have e : j = 128 := by omega
      subst e
      have hz : (List.replicate 128 (tb 0)).length = 128 := List.length_replicate
      have w1 : MW A X R I (up S 25 (List.replicate 128 (tb 0))) (up F 26 (nI (List.replicate 128 (tb 0)).length)) h' := w'
      refine X_iload_n (pc := 2) 0 dX10_expands_2 rfl rfl ?_
      refine X_sipush (pc := 3) (x := 128) dX10_expands_3 (by decide) ?_
      refine X_cge (a := 128) (b := 128) (pc := 6) 20 dX10_expands_6 (by decide) (by omega) (by omega) (fun _ => ?_) (fun c => absurd c (by omega))
      refine X_aload_n (pc := 20) 1 dX10_expands_20 rfl rfl ?_
      refine X_aload_n (pc := 21) 1 dX10_expands_21 rfl rfl ?_
      refine X_getfield (pc := 22) dX10_expands_22 fg_X10_328_11 (MW.ob w1) mf_32 ?_
      refine X_iconst (pc := 25) (x := 0) dX10_expands_25 (by decide) ?_
      refine X_aload_n (pc := 26) 1 dX10_expands_26 rfl rfl ?_
      refine X_getfield (pc := 27) dX10_expands_27 fg_X10_331_11 (MW.ob w1) mf_33 ?_
      rw [up_ne (by decide), h33]
      refine X_ivv (pc := 30) _ dX10_expands_30 cv_X10_325_11 (MW.ob w') rfl (says_ok g w' (b := A 32) (at' := 0) (n := msg.length) (src := fun j => msg.getD j 0) (by rw [hz]; omega) (by omega) (fun {l' h'} w3 => Or.inr (by have := MW.byAt (fr := 0) (m := msg.length) w3 32 rfl (by decide) (by rw [up_ne (by decide), h32]; omega); rw [up_ne (by decide), h32] at this; simpa only [Nat.zero_add] using this))) nX10_say (Nat.le_of_ble_eq_true rfl) (Nat.le_of_ble_eq_true rfl) (Nat.le_of_ble_eq_true rfl) (Nat.le_of_ble_eq_true rfl) (fun h2 w2 => ?_)
      rw [bmap hmB rfl] at w2
      refine X_aload_n (pc := 33) 1 dX10_expands_33 rfl rfl ?_
      refine X_iload_n (pc := 34) 2 dX10_expands_34 rfl rfl ?_
      refine X_ivv (pc := 35) _ dX10_expands_35 cv_X10_334_11 (MW.ob w2) rfl (both_ok g w2 (n := many) (by rw [List.length_append, hz]; omega) (by omega)) nX10_both (Nat.le_of_ble_eq_true rfl) (Nat.le_of_ble_eq_true rfl) (Nat.le_of_ble_eq_true rfl) (Nat.le_of_ble_eq_true rfl) (fun h3 w3 => ?_)
      refine X_aload_n (pc := 38) 1 dX10_expands_38 rfl rfl ?_
      refine X_iconst (pc := 39) (x := 0) dX10_expands_39 (by decide) ?_
      refine X_ivv (pc := 40) _ dX10_expands_40 cv_X10_246_11 (MW.ob w3) rfl (say_ok g w3 (by rw [List.length_append, List.length_append, hz]; show 128 + _ + 2 < 2600; omega) 0) nX10_say_2 (Nat.le_of_ble_eq_true rfl) (Nat.le_of_ble_eq_true rfl) (Nat.le_of_ble_eq_true rfl) (Nat.le_of_ble_eq_true rfl) (fun h4 w4 => ?_)
      refine X_aload_n (pc := 43) 1 dX10_expands_43 rfl rfl ?_
      refine X_ivv (pc := 44) _ dX10_expands_44 cv_X10_337_11 (MW.ob w4) rfl (ends_ok g w4 h34 h35 hT hT2 (by rw [List.length_append, List.length_append, List.length_append, hz]; show 128 + _ + 2 + 1 + _ + 1 ≤ 2600; omega)) nX10_endsTag (Nat.le_of_ble_eq_true rfl) (Nat.le_of_ble_eq_true rfl) (Nat.le_of_ble_eq_true rfl) (Nat.le_of_ble_eq_true rfl) (fun h5 w5 => ?_)
      refine X_aload_n (pc := 47) 1 dX10_expands_47 rfl rfl ?_
      refine X_ivv (pc := 48) _ dX10_expands_48 cv_X10_340_11 (MW.ob w5) rfl (h3_ok g w5 (by rw [List.length_append, List.length_append, List.length_append, List.length_append, List.length_append, hz]; show 128 + _ + 2 + 1 + _ + 1 + 144 ≤ 2600; omega)) nX10_h3 (Nat.le_of_ble_eq_true rfl) (Nat.le_of_ble_eq_true rfl) (Nat.le_of_ble_eq_true rfl) (Nat.le_of_ble_eq_true rfl) (fun h6 w6 => ?_)
      have w6 : SW A X R I (up S 27 b0) F [] h6 := by rw [← hb0]; exact w6
      refine X_iconst (pc := 51) (x := 0) dX10_expands_51 (by decide) ?_
      refine X_istore_n (pc := 52) (L' := [(2, .int _), (0, .ref _), (1, .int _)]) dX10_expands_52 rfl (Nat.le_of_ble_eq_true rfl) rfl ?_
      refine loop2 48 0 (by omega) h6 ?_
      have w7 := (MW.cutS (MW.cutS w6 36 rfl) 37 rfl)
      rw [up_comm _ _ _ (show 25 ≠ 36 by decide), up_comm _ _ _ (show 25 ≠ 37 by decide)] at w7
      exact w7
    | succ m ih =>
      intro j hj h' w'
      refine X_iload_n (pc := 2) 0 dX10_expands_2 rfl rfl ?_
      refine X_sipush (pc := 3) (x := 128) dX10_expands_3 (by decide) ?_
      refine X_cge (b := 128) (pc := 6) 20 dX10_expands_6 (by decide) (by omega) (by omega) (fun c => absurd c (by omega)) (fun _ => ?_)
      refine X_aload_n (pc := 9) 1 dX10_expands_9 rfl rfl ?_
      refine X_iconst (pc := 10) (x := 0) dX10_expands_10 (by decide) ?_
      refine X_ivv (pc := 11) _ dX10_expands_11 cv_X10_246_11 (MW.ob w') rfl (say_ok g w' (by rw [List.length_replicate]; omega) 0) nX10_say_2 (Nat.le_of_ble_eq_true rfl) (Nat.le_of_ble_eq_true rfl) (Nat.le_of_ble_eq_true rfl) (Nat.le_of_ble_eq_true rfl) (fun h2 w2 => ?_)
      have e2 : List.replicate j (tb 0) ++ [tb (u32 0)] = List.replicate (j + 1) (tb 0) := by rw [List.replicate_succ']; rfl
      rw [e2] at w2
      refine X_iinc (pc := 14) (L' := [(2, .int (_ + 1)), (0, .ref _), (1, .int _)]) 0 dX10_expands_14 rfl rfl (Nat.le_of_ble_eq_true rfl) rfl ?_
      refine X_goto (pc := 17) 2 dX10_expands_17 (by decide) ?_
      rw [show nI j + 1 = nI (j + 1) from nI_add j 1]
      exact ih (j + 1) (by omega) h2 w2
  refine X_iconst (pc := 0) (x := 0) dX10_expands_0 (by decide) ?_
  refine X_istore_n (pc := 1) (L' := [(2, .int _), (0, .ref _), (1, .int _)]) dX10_expands_1 rfl (Nat.le_of_ble_eq_true rfl) rfl ?_
  exact loop1 128 0 (by omega) h w
end MXp
