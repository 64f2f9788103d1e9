set_option maxRecDepth 100000
/-! ARRAYS OF ARRAYS over the abstract heap -/
def hrows (h : AH) (q N M : Nat) : AH := fun a => if a = q then some (Ar 8 N (fun j => some (q + 1 + j))) else if q < a ∧ a ≤ q + N then some (Ai false 0 M (fun _ => 0)) else h a
theorem hrows_q (h : AH) (q N M : Nat) : hrows h q N M q = some (Ar 8 N (fun j => some (q + 1 + j))) := if_pos rfl
theorem hrows_in {h : AH} {q N M j : Nat} (hj : j < N) : hrows h q N M (q + 1 + j) = some (Ai false 0 M (fun _ => 0)) := by
  unfold hrows
  rw [if_neg (by omega), if_pos (by omega)]
theorem hrows_out {h : AH} {q N M a : Nat} (ha : a < q ∨ q + N < a) : hrows h q N M a = h a := by
  unfold hrows
  rw [if_neg (by omega), if_neg (by omega)]
theorem arrV_cg {c : ClassId} {N : Nat} {f f' : Nat → Value} (h : ∀ j, j < N → f j = f' j) : arrV c N f = arrV c N f' := by
  unfold arrV
  congr 2
  funext j
  exact h j.val j.isLt
theorem AR.rows {g : GX} {h : AH} {U : State} {H H' : Heap} (r : AR g h U H) {N M : Nat} (hz : gB g ≤ H.size) (h2 : H'[H.size]? = some (gO (gC g 8) N H.size N)) (h3 : ∀ a, a < H.size → H'[a]? = H[a]?) (h4 : ∀ j, j < N → H'[H.size + 1 + j]? = some (gI (gC g 0) M)) : AR g (hrows h H.size N M) U H' := by
  refine ⟨fun a c e ha he => ?_, fun a c ha he => ?_, fun a c ha => ?_⟩
  · by_cases e1 : a = H.size
    · subst e1
      rw [hrows_q] at ha
      cases ha
      cases he
      refine ⟨hz, ?_, trivial⟩
      show H'[H.size]? = some (vp_cell _ _)
      rw [vp_cell_q, h2]
      congr 1
      unfold gO
      exact arrV_cg fun j hj => by rw [if_pos hj]; rfl
    · by_cases e2 : H.size < a ∧ a ≤ H.size + N
      · obtain ⟨j, rfl⟩ : ∃ j, a = H.size + 1 + j := ⟨a - H.size - 1, by omega⟩
        rw [hrows_in (by omega)] at ha
        cases ha
        cases he
        refine ⟨by omega, ?_, fun z => by cases z⟩
        show H'[H.size + 1 + j]? = some (vp_cell _ _)
        rw [vp_cell_i, h4 j (by omega)]
        rfl
      · rw [hrows_out (by omega)] at ha
        obtain ⟨z1, z2, z3⟩ := r.1 a c e ha he
        exact ⟨z1, z2.kept (h3 a z2.lt), z3⟩
  · by_cases e1 : a = H.size
    · subst e1
      rw [hrows_q] at ha
      cases ha
      cases he
    · by_cases e2 : H.size < a ∧ a ≤ H.size + N
      · obtain ⟨j, rfl⟩ : ∃ j, a = H.size + 1 + j := ⟨a - H.size - 1, by omega⟩
        rw [hrows_in (by omega)] at ha
        cases ha
        cases he
      · rw [hrows_out (by omega)] at ha
        exact ⟨(r.2.1 a c ha he).1, (r.2.1 a c ha he).2.kept fun q hq _ => h3 q hq⟩
  · obtain ⟨z1, z2⟩ := r.2.2 a c ha
    exact ⟨by rw [hrows_out (Or.inl (r.lt hz z1))]; exact z1, z2⟩
section XM
variable {g : GX} {M : MI} {rm : Room} {Q : Outcome → AH → Prop} {k n pc : Nat} {L : List (Nat × Value)} {st : List Value} {h : AH}
theorem X_multi (N M' idx : Nat) (hdg : decode M.2.1 pc = .ok (.multianewarray idx 2, 4)) (hcl : Cond.classLink M.1.cls idx "[[I" ∈ lw_all) (hb : N < 60000000) (hb2 : M' < 60000000) (hk : k + (1 + N) ≤ rm.cells) (hn : n + (N + N * M') ≤ rm.slots)
    (kk : ∀ q, (∀ a, q ≤ a → h a = none) → XX g M rm Q (k + 1 + N) (n + N + N * M') (pc + 4) L (.ref q :: st) (hrows h q N M')) : XX g M rm Q k n pc L (.int (nI M') :: .int (nI N) :: st) h := by
  intro p l e s m args below meth c locs H ls C hl hA hS
  have e8 : s.vm.findClass "[[I" = some (gC g 8) := (C.K.2 8 (gC g 8, .array .int) rfl).2
  have e0 : s.vm.findClass "[I" = some (gC g 0) := (C.K.2 0 (gC g 0, .int) rfl).2
  obtain ⟨comp, cA, kA, f1, -, f3, f4, f5⟩ := arrayOverA_spec (C.ok.2.1 _ q1375 rfl)
  obtain ⟨comp2, kc, c0, g1, g2, g3⟩ := Cond.arrayClass_spec (C.ws _ q170)
  cases Option.some.inj (e8.symm.trans f5)
  cases Option.some.inj (e0.symm.trans f1)
  cases Option.some.inj (e0.symm.trans g1)
  have hz : gB g ≤ H.size := Nat.le_trans C.z hS.1
  refine W_multi (N := N) (M := M') C.1 C.2.1 C.own (C.ws _ hcl) e8 f3 f4 g2 g3 rfl hdg rfl hb hb2 hk hn (fun H' locs' hL h1 h2 h3 h4 => ?_)
  have hS' : va_S (gA g) s.heap H' locs' := ⟨Nat.le_trans hS.1 (by omega), fun q hq hn => (h3 q (Nat.lt_of_lt_of_le hq hS.1)).trans (hS.2.1 q hq hn), fun x hx => (hL x hx).elim (hS.2.2 x) fun z => by rw [z]; exact hz⟩
  refine kk H.size (fun a ha => ?_) p l e s m args below meth c locs' H' ls C hl (hA.rows hz h2 h3 h4) hS'
  cases hc : h a with
  | none => rfl
  | some c => exact absurd (hA.lt hz hc) (Nat.not_lt.mpr ha)
end XM
/-- an array of references may be told anew beyond its end -/
def ArE (h h' : AH) : Prop := ∀ a, h' a = h a ∨ ∃ t n f f', h a = some (Ar t n f) ∧ h' a = some (Ar t n f') ∧ ∀ j, j < n → f j = f' j
theorem AR.arf {g : GX} {h h' : AH} {U : State} {H : Heap} (r : AR g h U H) (e : ArE h h') : AR g h' U H := by
  refine ⟨fun a c x ha hx => ?_, fun a c ha hx => ?_, fun a c ha => ?_⟩
  · rcases e a with z | ⟨t, n, f, f', z1, z2, z3⟩
    · exact r.1 a c x (z ▸ ha) hx
    · rw [z2] at ha
      cases ha
      cases hx
      obtain ⟨y1, y2, y3⟩ := r.1 a _ _ z1 rfl
      refine ⟨y1, ?_, trivial⟩
      have y2 : H[a]? = some (vp_cell _ _) := y2
      show H[a]? = some (vp_cell _ _)
      rw [vp_cell_q] at y2 ⊢
      rw [y2]
      congr 1
      exact arrV_cg fun j hj => by rw [z3 j hj]
  · rcases e a with z | ⟨t, n, f, f', z1, z2, z3⟩
    · exact r.2.1 a c (z ▸ ha) hx
    · rw [z2] at ha
      cases ha
      cases hx
  · obtain ⟨y1, y2⟩ := r.2.2 a c ha
    rcases e a with z | ⟨t, n, f, f', z1, z2, z3⟩
    · exact ⟨z.trans y1, y2⟩
    · rw [z1] at y1
      cases y1
      cases y2
theorem XX.arf {g : GX} {M : MI} {rm : Room} {Q : Outcome → AH → Prop} {k n pc : Nat} {L : List (Nat × Value)} {st : List Value} {h h' : AH} (e : ArE h h') (kk : XX g M rm Q k n pc L st h') : XX g M rm Q k n pc L st h :=
  fun p l e' s m args below meth c locs H ls C hl hA hS => kk p l e' s m args below meth c locs H ls C hl (hA.arf e) hS
