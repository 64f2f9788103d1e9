set_option maxRecDepth 100000
/-! the reference: what is said to the digest -/
theorem up_up' {α : Type} (f : Nat → α) (k : Nat) (x y : α) : up (up f k x) k y = up f k y := by
  funext j
  unfold up
  by_cases e : j = k
  · rw [if_pos e, if_pos e]
  · rw [if_neg e, if_neg e, if_neg e]
/-- the world when l has been said -/
def SW (A : Nat → Nat) (X : AH) (R : Nat → Nat) (I : Nat → Nat → Int32) (S : Nat → List Int32) (F : Nat → Int32) (l : List Int32) (h : AH) : Prop := MW A X R I (up S 25 l) (up F 26 (nI l.length)) h
theorem PL_snoc {f : Nat → Int32} {l : List Int32} {x : Int32} (h : PL f l) : PL (upd f l.length x) (l ++ [x]) := by
  intro j hj
  rw [List.length_append, List.length_singleton] at hj
  rw [List.getD_eq_getElem?_getD]
  by_cases e : j = l.length
  · subst e
    rw [List.getElem?_append_right (Nat.le_refl _), Nat.sub_self]
    exact if_pos rfl
  · rw [List.getElem?_append_left (by omega), ← List.getD_eq_getElem?_getD]
    exact (if_neg e).trans (h j (by omega))
section MSy
variable {A : Nat → Nat} {X : AH} {R : Nat → Nat} {I : Nat → Nat → Int32} {S : Nat → List Int32} {F : Nat → Int32} {h : AH} {l : List Int32}
theorem say_ok (g : GX) (w : SW A X R I S F l h) (hl : l.length < 2600) (v : Int32) :
    MT g MX10_say_2 ({ frames := 0, cells := 0, slots := 0, locals := 0 } : Room) [.ref (A 96), .int v] h (RV fun h' => SW A X R I S F (l ++ [tb (u32 v)]) h') := by
  refine MT.of (by decide) (Nat.le_of_ble_eq_true rfl) ?_
  have w : MW A X R I (up S 25 l) (up F 26 (nI l.length)) h := w
  obtain ⟨f, c1, c2, -⟩ := w.s 25 rfl
  rw [up_same] at c2
  have ci : (nI l.length).toNatClampNeg = l.length := nI_clamp (by omega)
  have b1 : vp_in (nI l.length) 2600 := vp_in_nI (by omega) (by omega)
  refine X_aload_n (pc := 0) 0 dX10_say_2_0 rfl rfl ?_
  refine X_getfield (pc := 1) dX10_say_2_1 fg_X10_239_11 (MW.ob w) mf_25 ?_
  refine X_aload_n (pc := 4) 0 dX10_say_2_4 rfl rfl ?_
  refine X_getfield (pc := 5) dX10_say_2_5 fg_X10_243_11 (MW.ob w) mf_26 ?_
  rw [up_same]
  refine X_iload_n (pc := 8) 1 dX10_say_2_8 rfl rfl ?_
  refine X_i2b (pc := 9) dX10_say_2_9 ?_
  refine X_bastore (pc := 10) dX10_say_2_10 c1 b1 ?_
  rw [toInt8_low v, tb8, ci]
  have w1 := w.setS 25 rfl (PL_snoc (x := tb (u32 v)) c2) (by rw [List.length_append]; exact hl)
  rw [up_up'] at w1
  refine X_aload_n (pc := 11) 0 dX10_say_2_11 rfl rfl ?_
  refine X_dup (pc := 12) dX10_say_2_12 rfl ?_
  refine X_getfield (pc := 13) dX10_say_2_13 fg_X10_243_11 (MW.ob w1) mf_26 ?_
  refine X_iconst (pc := 16) (x := 1) dX10_say_2_16 (by decide) ?_
  refine X_iadd (pc := 17) dX10_say_2_17 ?_
  rw [up_same, show nI l.length + 1 = nI (l.length + 1) from nI_add _ 1]
  refine X_putfield (pc := 18) dX10_say_2_18 fp_X10_243_11 (fun e => by cases e) (MW.ob w1) rfl rfl (Nat.le_of_ble_eq_true rfl) ?_
  have w2 := w1.setF26 (v := nI (l.length + 1))
  rw [up_up'] at w2
  refine X_return (pc := 21) dX10_say_2_21 rfl (Nat.le_of_ble_eq_true rfl) (Nat.le_of_ble_eq_true rfl) ?_
  refine ⟨rfl, ?_⟩
  unfold SW
  rw [List.length_append]
  exact w2
theorem says_ok (g : GX) (w : SW A X R I S F l h) {b at' n : Nat} {src : Nat → Int32} (hl : l.length + n ≤ 2600) (hn : at' + n < 2 ^ 31)
    (ok : ∀ {l' : List Int32} {h' : AH}, SW A X R I S F l' h' → n = 0 ∨ ByAt h' b at' n src) :
    MT g MX10_say ({ frames := 1, cells := 0, slots := 0, locals := 21 } : Room) [.ref (A 96), .ref b, .int (nI at'), .int (nI n)] h (RV fun h' => SW A X R I S F (l ++ (List.range n).map fun j => tb (u32 (src j))) h') := by
  refine MT.of (by decide) (Nat.le_of_ble_eq_true rfl) ?_
  generalize hPost : (RV fun h' => SW A X R I S F (l ++ (List.range n).map fun j => tb (u32 (src j))) h') = Post
  have loop : ∀ m i, i + m = n → ∀ h', SW A X R I S F (l ++ (List.range i).map fun j => tb (u32 (src j))) h' →
      XX g MX10_say ({ frames := 1, cells := 0, slots := 0, locals := 21 } : Room) Post 0 0 3 [(4, .int (nI i)), (0, .ref (A 96)), (1, .ref b), (2, .int (nI at')), (3, .int (nI n))] [] h' := by
    intro m
    induction m with
    | zero =>
      intro i hi h' w'
      refine X_iload (pc := 3) 0 dX10_say_3 rfl ?_
      refine X_iload_n (pc := 5) 4 dX10_say_5 rfl rfl ?_
      refine X_cge (pc := 6) 25 dX10_say_6 (by decide) (by omega) (by omega) (fun _ => ?_) (fun c => absurd c (by omega))
      subst hPost
      refine X_return (pc := 25) dX10_say_25 rfl (Nat.le_of_ble_eq_true rfl) (Nat.le_of_ble_eq_true rfl) ?_
      have e : i = n := by omega
      subst e
      exact ⟨rfl, w'⟩
    | succ m ih =>
      intro i hi h' w'
      obtain hz | ⟨rb, nb, fb, c1, c2, c3, c4⟩ := ok w'
      · omega
      have b1 : vp_in (nI (at' + i)) nb := vp_in_nI (by omega) (by omega)
      have ci : (nI (at' + i)).toNatClampNeg = at' + i := nI_clamp (by omega)
      refine X_iload (pc := 3) 0 dX10_say_3 rfl ?_
      refine X_iload_n (pc := 5) 4 dX10_say_5 rfl rfl ?_
      refine X_cge (pc := 6) 25 dX10_say_6 (by decide) (by omega) (by omega) (fun c => absurd c (by omega)) (fun _ => ?_)
      refine X_aload_n (pc := 9) 1 dX10_say_9 rfl rfl ?_
      refine X_aload_n (pc := 10) 2 dX10_say_10 rfl rfl ?_
      refine X_iload_n (pc := 11) 3 dX10_say_11 rfl rfl ?_
      refine X_iload (pc := 12) 0 dX10_say_12 rfl ?_
      refine X_iadd (pc := 14) dX10_say_14 ?_
      rw [nI_add]
      refine X_baload (pc := 15) dX10_say_15 c1 b1 ?_
      rw [ci, c4 i (by omega)]
      refine X_ivv (pc := 16) _ dX10_say_16 cv_X10_246_11 (MW.ob w') rfl (say_ok g w' (by rw [List.length_append, List.length_map, List.length_range]; omega) (src i)) nX10_say_2 (Nat.le_of_ble_eq_true rfl) (Nat.le_of_ble_eq_true rfl) (Nat.le_of_ble_eq_true rfl) (Nat.le_of_ble_eq_true rfl) (fun h2 w2 => ?_)
      rw [List.append_assoc, ← List.map_singleton (f := fun j => tb (u32 (src j))), ← List.map_append, ← List.range_succ] at w2
      refine X_iinc (pc := 19) (L' := [(4, .int (_ + 1)), (0, .ref _), (1, .ref _), (2, .int _), (3, .int _)]) 0 dX10_say_19 rfl rfl (Nat.le_of_ble_eq_true rfl) rfl ?_
      refine X_goto (pc := 22) 3 dX10_say_22 (by decide) ?_
      rw [show nI i + 1 = nI (i + 1) from nI_add i 1]
      exact ih (i + 1) (by omega) h2 w2
  refine X_iconst (pc := 0) (x := 0) dX10_say_0 (by decide) ?_
  refine X_istore (pc := 1) (L' := [(4, .int _), (0, .ref _), (1, .ref _), (2, .int _), (3, .int _)]) dX10_say_1 (Nat.le_of_ble_eq_true rfl) rfl ?_
  exact loop n 0 (by omega) h (by rw [List.range_zero, List.map_nil, List.append_nil]; exact w)
end MSy
