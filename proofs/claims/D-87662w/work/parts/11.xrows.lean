set_option maxRecDepth 100000
section XR
variable {g : GX} {M : MI} {rm : Room} {Q : Outcome → AH → Prop} {k n pc : Nat} {L L' : List (Nat × Value)} {st : List Value} {h : AH}
theorem X_iconst {v : Int} {x : Int32} (hdg : decode M.2.1 pc = .ok (.iconst v, 1)) (hv : Int32.ofInt v = x) (kk : XX g M rm Q k n (pc + 1) L (.int x :: st) h) : XX g M rm Q k n pc L (st) h := fun p l e s m args below meth c locs H ls C hl hA hS => lv_iconst C.1 C.2.1 hdg hv (kk p l e s m args below meth c locs H ls C hl hA hS)
theorem X_bipush {v : Int} {x : Int32} (hdg : decode M.2.1 pc = .ok (.bipush v, 2)) (hv : (Int8.ofInt v).toInt32 = x) (kk : XX g M rm Q k n (pc + 2) L (.int x :: st) h) : XX g M rm Q k n pc L (st) h := fun p l e s m args below meth c locs H ls C hl hA hS => lv_bipush C.1 C.2.1 hdg hv (kk p l e s m args below meth c locs H ls C hl hA hS)
theorem X_sipush {v : Int} {x : Int32} (hdg : decode M.2.1 pc = .ok (.sipush v, 3)) (hv : (Int16.ofInt v).toInt32 = x) (kk : XX g M rm Q k n (pc + 3) L (.int x :: st) h) : XX g M rm Q k n pc L (st) h := fun p l e s m args below meth c locs H ls C hl hA hS => lv_sipush C.1 C.2.1 hdg hv (kk p l e s m args below meth c locs H ls C hl hA hS)
theorem X_lconst {v : Fin 2} {x : Int64} (hdg : decode M.2.1 pc = .ok (.lconst v, 1)) (hv : Int64.ofNat (v : Nat) = x) (kk : XX g M rm Q k n (pc + 1) L (.long x :: st) h) : XX g M rm Q k n pc L (st) h := fun p l e s m args below meth c locs H ls C hl hA hS => lv_lconst C.1 C.2.1 hdg hv (kk p l e s m args below meth c locs H ls C hl hA hS)
theorem X_iload_n {v : Fin 4} {i : Nat} {x : Int32} (j : Nat) (hdg : decode M.2.1 pc = .ok (.iload_n v, 1)) (hi : (v : Nat) = i) (hj : L[j]? = some (i, .int x)) (kk : XX g M rm Q k n (pc + 1) L (.int x :: st) h) : XX g M rm Q k n pc L (st) h := fun p l e s m args below meth c locs H ls C hl hA hS => lv_iload_n C.1 C.2.1 hdg hi (lv_at hl j hj) (kk p l e s m args below meth c locs H ls C hl hA hS)
theorem X_iload {i : Nat} {x : Int32} (j : Nat) (hdg : decode M.2.1 pc = .ok (.iload i, 2)) (hj : L[j]? = some (i, .int x)) (kk : XX g M rm Q k n (pc + 2) L (.int x :: st) h) : XX g M rm Q k n pc L (st) h := fun p l e s m args below meth c locs H ls C hl hA hS => lv_iload C.1 C.2.1 hdg (lv_at hl j hj) (kk p l e s m args below meth c locs H ls C hl hA hS)
theorem X_lload_n {v : Fin 4} {i : Nat} {x : Int64} (j : Nat) (hdg : decode M.2.1 pc = .ok (.lload_n v, 1)) (hi : (v : Nat) = i) (hj : L[j]? = some (i, .long x)) (kk : XX g M rm Q k n (pc + 1) L (.long x :: st) h) : XX g M rm Q k n pc L (st) h := fun p l e s m args below meth c locs H ls C hl hA hS => lv_lload_n C.1 C.2.1 hdg hi (lv_at hl j hj) (kk p l e s m args below meth c locs H ls C hl hA hS)
theorem X_lload {i : Nat} {x : Int64} (j : Nat) (hdg : decode M.2.1 pc = .ok (.lload i, 2)) (hj : L[j]? = some (i, .long x)) (kk : XX g M rm Q k n (pc + 2) L (.long x :: st) h) : XX g M rm Q k n pc L (st) h := fun p l e s m args below meth c locs H ls C hl hA hS => lv_lload C.1 C.2.1 hdg (lv_at hl j hj) (kk p l e s m args below meth c locs H ls C hl hA hS)
theorem X_aload_n {v : Fin 4} {i : Nat} {x : Nat} (j : Nat) (hdg : decode M.2.1 pc = .ok (.aload_n v, 1)) (hi : (v : Nat) = i) (hj : L[j]? = some (i, .ref x)) (kk : XX g M rm Q k n (pc + 1) L (.ref x :: st) h) : XX g M rm Q k n pc L (st) h := fun p l e s m args below meth c locs H ls C hl hA hS => lv_aload_n C.1 C.2.1 hdg hi (lv_at hl j hj) (kk p l e s m args below meth c locs H ls C hl hA hS)
theorem X_aload {i : Nat} {x : Nat} (j : Nat) (hdg : decode M.2.1 pc = .ok (.aload i, 2)) (hj : L[j]? = some (i, .ref x)) (kk : XX g M rm Q k n (pc + 2) L (.ref x :: st) h) : XX g M rm Q k n pc L (st) h := fun p l e s m args below meth c locs H ls C hl hA hS => lv_aload C.1 C.2.1 hdg (lv_at hl j hj) (kk p l e s m args below meth c locs H ls C hl hA hS)
theorem X_aload_nN {v : Fin 4} {i : Nat} (j : Nat) (hdg : decode M.2.1 pc = .ok (.aload_n v, 1)) (hi : (v : Nat) = i) (hj : L[j]? = some (i, .null)) (kk : XX g M rm Q k n (pc + 1) L (.null :: st) h) : XX g M rm Q k n pc L (st) h := fun p l e s m args below meth c locs H ls C hl hA hS => lv_aload_nN C.1 C.2.1 hdg hi (lv_at hl j hj) (kk p l e s m args below meth c locs H ls C hl hA hS)
theorem X_aloadN {i : Nat} (j : Nat) (hdg : decode M.2.1 pc = .ok (.aload i, 2)) (hj : L[j]? = some (i, .null)) (kk : XX g M rm Q k n (pc + 2) L (.null :: st) h) : XX g M rm Q k n pc L (st) h := fun p l e s m args below meth c locs H ls C hl hA hS => lv_aloadN C.1 C.2.1 hdg (lv_at hl j hj) (kk p l e s m args below meth c locs H ls C hl hA hS)
theorem X_istore_n {v : Fin 4} {i : Nat} {x : Int32} (hdg : decode M.2.1 pc = .ok (.istore_n v, 1)) (hi : (v : Nat) = i) (hn : i < M.2.2.1) (hL : (i, Value.int x) :: L.filter (fun q => !(q.1 == i) && !(q.1 + 1 == i && q.2.category == 2)) = L') (kk : XX g M rm Q k n (pc + 1) L' st h) : XX g M rm Q k n pc L (.int x :: st) h := fun p l e s m args below meth c locs H ls C hl hA hS => lv_istore_n C.1 C.2.1 hdg hi hl hn hL (fun ls' hl' => kk p l e s m args below meth c locs H ls' C hl' hA hS)
theorem X_istore {i : Nat} {x : Int32} (hdg : decode M.2.1 pc = .ok (.istore i, 2)) (hn : i < M.2.2.1) (hL : (i, Value.int x) :: L.filter (fun q => !(q.1 == i) && !(q.1 + 1 == i && q.2.category == 2)) = L') (kk : XX g M rm Q k n (pc + 2) L' st h) : XX g M rm Q k n pc L (.int x :: st) h := fun p l e s m args below meth c locs H ls C hl hA hS => lv_istore C.1 C.2.1 hdg hl hn hL (fun ls' hl' => kk p l e s m args below meth c locs H ls' C hl' hA hS)
theorem X_lstore_n {v : Fin 4} {i : Nat} {x : Int64} (hdg : decode M.2.1 pc = .ok (.lstore_n v, 1)) (hi : (v : Nat) = i) (hn : i + 1 < M.2.2.1) (hL : (i, Value.long x) :: L.filter (fun q => !(q.1 == i) && (!(q.1 == i + 1) && !(q.1 + 1 == i && q.2.category == 2))) = L') (kk : XX g M rm Q k n (pc + 1) L' st h) : XX g M rm Q k n pc L (.long x :: st) h := fun p l e s m args below meth c locs H ls C hl hA hS => lv_lstore_n C.1 C.2.1 hdg hi hl hn hL (fun ls' hl' => kk p l e s m args below meth c locs H ls' C hl' hA hS)
theorem X_lstore {i : Nat} {x : Int64} (hdg : decode M.2.1 pc = .ok (.lstore i, 2)) (hn : i + 1 < M.2.2.1) (hL : (i, Value.long x) :: L.filter (fun q => !(q.1 == i) && (!(q.1 == i + 1) && !(q.1 + 1 == i && q.2.category == 2))) = L') (kk : XX g M rm Q k n (pc + 2) L' st h) : XX g M rm Q k n pc L (.long x :: st) h := fun p l e s m args below meth c locs H ls C hl hA hS => lv_lstore C.1 C.2.1 hdg hl hn hL (fun ls' hl' => kk p l e s m args below meth c locs H ls' C hl' hA hS)
theorem X_astore_n {v : Fin 4} {i : Nat} {x : Nat} (hdg : decode M.2.1 pc = .ok (.astore_n v, 1)) (hi : (v : Nat) = i) (hn : i < M.2.2.1) (hL : (i, Value.ref x) :: L.filter (fun q => !(q.1 == i) && !(q.1 + 1 == i && q.2.category == 2)) = L') (kk : XX g M rm Q k n (pc + 1) L' st h) : XX g M rm Q k n pc L (.ref x :: st) h := fun p l e s m args below meth c locs H ls C hl hA hS => lv_astore_n C.1 C.2.1 hdg hi hl hn hL (fun ls' hl' => kk p l e s m args below meth c locs H ls' C hl' hA hS)
theorem X_astore {i : Nat} {x : Nat} (hdg : decode M.2.1 pc = .ok (.astore i, 2)) (hn : i < M.2.2.1) (hL : (i, Value.ref x) :: L.filter (fun q => !(q.1 == i) && !(q.1 + 1 == i && q.2.category == 2)) = L') (kk : XX g M rm Q k n (pc + 2) L' st h) : XX g M rm Q k n pc L (.ref x :: st) h := fun p l e s m args below meth c locs H ls C hl hA hS => lv_astore C.1 C.2.1 hdg hl hn hL (fun ls' hl' => kk p l e s m args below meth c locs H ls' C hl' hA hS)
theorem X_astore_nN {v : Fin 4} {i : Nat} (hdg : decode M.2.1 pc = .ok (.astore_n v, 1)) (hi : (v : Nat) = i) (hn : i < M.2.2.1) (hL : (i, Value.null) :: L.filter (fun q => !(q.1 == i) && !(q.1 + 1 == i && q.2.category == 2)) = L') (kk : XX g M rm Q k n (pc + 1) L' st h) : XX g M rm Q k n pc L (.null :: st) h := fun p l e s m args below meth c locs H ls C hl hA hS => lv_astore_nN C.1 C.2.1 hdg hi hl hn hL (fun ls' hl' => kk p l e s m args below meth c locs H ls' C hl' hA hS)
theorem X_astoreN {i : Nat} (hdg : decode M.2.1 pc = .ok (.astore i, 2)) (hn : i < M.2.2.1) (hL : (i, Value.null) :: L.filter (fun q => !(q.1 == i) && !(q.1 + 1 == i && q.2.category == 2)) = L') (kk : XX g M rm Q k n (pc + 2) L' st h) : XX g M rm Q k n pc L (.null :: st) h := fun p l e s m args below meth c locs H ls C hl hA hS => lv_astoreN C.1 C.2.1 hdg hl hn hL (fun ls' hl' => kk p l e s m args below meth c locs H ls' C hl' hA hS)
theorem X_iinc {i : Nat} {v : Int} {x y : Int32} (j : Nat) (hdg : decode M.2.1 pc = .ok (.iinc i v, 3)) (hj : L[j]? = some (i, .int x)) (hv : x + Int32.ofInt v = y) (hn : i < M.2.2.1) (hL : (i, Value.int y) :: L.filter (fun q => !(q.1 == i) && !(q.1 + 1 == i && q.2.category == 2)) = L') (kk : XX g M rm Q k n (pc + 3) L' st h) : XX g M rm Q k n pc L st h := fun p l e s m args below meth c locs H ls C hl hA hS => lv_iinc C.1 C.2.1 hdg hl hj hv hn hL (fun ls' hl' => kk p l e s m args below meth c locs H ls' C hl' hA hS)
theorem X_iincW {i : Nat} {v : Int} {x y : Int32} (j : Nat) (hdg : decode M.2.1 pc = .ok (.iinc i v, 6)) (hj : L[j]? = some (i, .int x)) (hv : x + Int32.ofInt v = y) (hn : i < M.2.2.1) (hL : (i, Value.int y) :: L.filter (fun q => !(q.1 == i) && !(q.1 + 1 == i && q.2.category == 2)) = L') (kk : XX g M rm Q k n (pc + 6) L' st h) : XX g M rm Q k n pc L st h := fun p l e s m args below meth c locs H ls C hl hA hS => lv_iincW C.1 C.2.1 hdg hl hj hv hn hL (fun ls' hl' => kk p l e s m args below meth c locs H ls' C hl' hA hS)
theorem X_iadd {x y : Int32} (hdg : decode M.2.1 pc = .ok (.iadd, 1)) (kk : XX g M rm Q k n (pc + 1) L (.int (x + y) :: st) h) : XX g M rm Q k n pc L (.int y :: .int x :: st) h := fun p l e s m args below meth c locs H ls C hl hA hS => lv_iadd C.1 C.2.1 hdg (kk p l e s m args below meth c locs H ls C hl hA hS)
theorem X_isub {x y : Int32} (hdg : decode M.2.1 pc = .ok (.isub, 1)) (kk : XX g M rm Q k n (pc + 1) L (.int (x - y) :: st) h) : XX g M rm Q k n pc L (.int y :: .int x :: st) h := fun p l e s m args below meth c locs H ls C hl hA hS => lv_isub C.1 C.2.1 hdg (kk p l e s m args below meth c locs H ls C hl hA hS)
theorem X_imul {x y : Int32} (hdg : decode M.2.1 pc = .ok (.imul, 1)) (kk : XX g M rm Q k n (pc + 1) L (.int (x * y) :: st) h) : XX g M rm Q k n pc L (.int y :: .int x :: st) h := fun p l e s m args below meth c locs H ls C hl hA hS => lv_imul C.1 C.2.1 hdg (kk p l e s m args below meth c locs H ls C hl hA hS)
theorem X_iand {x y : Int32} (hdg : decode M.2.1 pc = .ok (.iand, 1)) (kk : XX g M rm Q k n (pc + 1) L (.int (x &&& y) :: st) h) : XX g M rm Q k n pc L (.int y :: .int x :: st) h := fun p l e s m args below meth c locs H ls C hl hA hS => lv_iand C.1 C.2.1 hdg (kk p l e s m args below meth c locs H ls C hl hA hS)
theorem X_ior {x y : Int32} (hdg : decode M.2.1 pc = .ok (.ior, 1)) (kk : XX g M rm Q k n (pc + 1) L (.int (x ||| y) :: st) h) : XX g M rm Q k n pc L (.int y :: .int x :: st) h := fun p l e s m args below meth c locs H ls C hl hA hS => lv_ior C.1 C.2.1 hdg (kk p l e s m args below meth c locs H ls C hl hA hS)
theorem X_ixor {x y : Int32} (hdg : decode M.2.1 pc = .ok (.ixor, 1)) (kk : XX g M rm Q k n (pc + 1) L (.int (x ^^^ y) :: st) h) : XX g M rm Q k n pc L (.int y :: .int x :: st) h := fun p l e s m args below meth c locs H ls C hl hA hS => lv_ixor C.1 C.2.1 hdg (kk p l e s m args below meth c locs H ls C hl hA hS)
theorem X_ishl {x y : Int32} (hdg : decode M.2.1 pc = .ok (.ishl, 1)) (kk : XX g M rm Q k n (pc + 1) L (.int (x <<< (y &&& 31)) :: st) h) : XX g M rm Q k n pc L (.int y :: .int x :: st) h := fun p l e s m args below meth c locs H ls C hl hA hS => lv_ishl C.1 C.2.1 hdg (kk p l e s m args below meth c locs H ls C hl hA hS)
theorem X_ishr {x y : Int32} (hdg : decode M.2.1 pc = .ok (.ishr, 1)) (kk : XX g M rm Q k n (pc + 1) L (.int (x >>> (y &&& 31)) :: st) h) : XX g M rm Q k n pc L (.int y :: .int x :: st) h := fun p l e s m args below meth c locs H ls C hl hA hS => lv_ishr C.1 C.2.1 hdg (kk p l e s m args below meth c locs H ls C hl hA hS)
theorem X_ladd {x y : Int64} (hdg : decode M.2.1 pc = .ok (.ladd, 1)) (kk : XX g M rm Q k n (pc + 1) L (.long (x + y) :: st) h) : XX g M rm Q k n pc L (.long y :: .long x :: st) h := fun p l e s m args below meth c locs H ls C hl hA hS => lv_ladd C.1 C.2.1 hdg (kk p l e s m args below meth c locs H ls C hl hA hS)
theorem X_lsub {x y : Int64} (hdg : decode M.2.1 pc = .ok (.lsub, 1)) (kk : XX g M rm Q k n (pc + 1) L (.long (x - y) :: st) h) : XX g M rm Q k n pc L (.long y :: .long x :: st) h := fun p l e s m args below meth c locs H ls C hl hA hS => lv_lsub C.1 C.2.1 hdg (kk p l e s m args below meth c locs H ls C hl hA hS)
theorem X_lmul {x y : Int64} (hdg : decode M.2.1 pc = .ok (.lmul, 1)) (kk : XX g M rm Q k n (pc + 1) L (.long (x * y) :: st) h) : XX g M rm Q k n pc L (.long y :: .long x :: st) h := fun p l e s m args below meth c locs H ls C hl hA hS => lv_lmul C.1 C.2.1 hdg (kk p l e s m args below meth c locs H ls C hl hA hS)
theorem X_land {x y : Int64} (hdg : decode M.2.1 pc = .ok (.land, 1)) (kk : XX g M rm Q k n (pc + 1) L (.long (x &&& y) :: st) h) : XX g M rm Q k n pc L (.long y :: .long x :: st) h := fun p l e s m args below meth c locs H ls C hl hA hS => lv_land C.1 C.2.1 hdg (kk p l e s m args below meth c locs H ls C hl hA hS)
theorem X_lor {x y : Int64} (hdg : decode M.2.1 pc = .ok (.lor, 1)) (kk : XX g M rm Q k n (pc + 1) L (.long (x ||| y) :: st) h) : XX g M rm Q k n pc L (.long y :: .long x :: st) h := fun p l e s m args below meth c locs H ls C hl hA hS => lv_lor C.1 C.2.1 hdg (kk p l e s m args below meth c locs H ls C hl hA hS)
theorem X_lxor {x y : Int64} (hdg : decode M.2.1 pc = .ok (.lxor, 1)) (kk : XX g M rm Q k n (pc + 1) L (.long (x ^^^ y) :: st) h) : XX g M rm Q k n pc L (.long y :: .long x :: st) h := fun p l e s m args below meth c locs H ls C hl hA hS => lv_lxor C.1 C.2.1 hdg (kk p l e s m args below meth c locs H ls C hl hA hS)
theorem X_idiv {x y : Int32} (hdg : decode M.2.1 pc = .ok (.idiv, 1)) (hne : ¬ y = 0) (kk : XX g M rm Q k n (pc + 1) L (.int (x / y) :: st) h) : XX g M rm Q k n pc L (.int y :: .int x :: st) h := fun p l e s m args below meth c locs H ls C hl hA hS => lv_idiv C.1 C.2.1 hdg hne (kk p l e s m args below meth c locs H ls C hl hA hS)
theorem X_irem {x y : Int32} (hdg : decode M.2.1 pc = .ok (.irem, 1)) (hne : ¬ y = 0) (kk : XX g M rm Q k n (pc + 1) L (.int (x - x / y * y) :: st) h) : XX g M rm Q k n pc L (.int y :: .int x :: st) h := fun p l e s m args below meth c locs H ls C hl hA hS => lv_irem C.1 C.2.1 hdg hne (kk p l e s m args below meth c locs H ls C hl hA hS)
theorem X_lrem {x y : Int64} (hdg : decode M.2.1 pc = .ok (.lrem, 1)) (hne : ¬ y = 0) (kk : XX g M rm Q k n (pc + 1) L (.long (x - x / y * y) :: st) h) : XX g M rm Q k n pc L (.long y :: .long x :: st) h := fun p l e s m args below meth c locs H ls C hl hA hS => lv_lrem C.1 C.2.1 hdg hne (kk p l e s m args below meth c locs H ls C hl hA hS)
theorem X_ldiv {x y : Int64} (hdg : decode M.2.1 pc = .ok (.ldiv, 1)) (hne : ¬ y = 0) (kk : XX g M rm Q k n (pc + 1) L (.long (x / y) :: st) h) : XX g M rm Q k n pc L (.long y :: .long x :: st) h := fun p l e s m args below meth c locs H ls C hl hA hS => lv_ldiv C.1 C.2.1 hdg hne (kk p l e s m args below meth c locs H ls C hl hA hS)
theorem X_ineg {x : Int32} (hdg : decode M.2.1 pc = .ok (.ineg, 1)) (kk : XX g M rm Q k n (pc + 1) L (.int (-x) :: st) h) : XX g M rm Q k n pc L (.int x :: st) h := fun p l e s m args below meth c locs H ls C hl hA hS => lv_ineg C.1 C.2.1 hdg (kk p l e s m args below meth c locs H ls C hl hA hS)
theorem X_i2l {x : Int32} (hdg : decode M.2.1 pc = .ok (.i2l, 1)) (kk : XX g M rm Q k n (pc + 1) L (.long (x.toInt64) :: st) h) : XX g M rm Q k n pc L (.int x :: st) h := fun p l e s m args below meth c locs H ls C hl hA hS => lv_i2l C.1 C.2.1 hdg rfl (kk p l e s m args below meth c locs H ls C hl hA hS)
theorem X_l2i {x : Int64} (hdg : decode M.2.1 pc = .ok (.l2i, 1)) (kk : XX g M rm Q k n (pc + 1) L (.int (x.toInt32) :: st) h) : XX g M rm Q k n pc L (.long x :: st) h := fun p l e s m args below meth c locs H ls C hl hA hS => lv_l2i C.1 C.2.1 hdg rfl (kk p l e s m args below meth c locs H ls C hl hA hS)
theorem X_i2b {x : Int32} (hdg : decode M.2.1 pc = .ok (.i2b, 1)) (kk : XX g M rm Q k n (pc + 1) L (.int (x.toInt8.toInt32) :: st) h) : XX g M rm Q k n pc L (.int x :: st) h := fun p l e s m args below meth c locs H ls C hl hA hS => lv_i2b C.1 C.2.1 hdg rfl (kk p l e s m args below meth c locs H ls C hl hA hS)
theorem X_iushr {x : Int32} {y : Int32} (hdg : decode M.2.1 pc = .ok (.iushr, 1)) (kk : XX g M rm Q k n (pc + 1) L (.int ((x.toUInt32 >>> (y.toUInt32 &&& Int32.toUInt32 31)).toInt32) :: st) h) : XX g M rm Q k n pc L (.int y :: .int x :: st) h := fun p l e s m args below meth c locs H ls C hl hA hS => lv_iushr C.1 C.2.1 hdg rfl (kk p l e s m args below meth c locs H ls C hl hA hS)
theorem X_lushr {x : Int64} {y : Int32} (hdg : decode M.2.1 pc = .ok (.lushr, 1)) (kk : XX g M rm Q k n (pc + 1) L (.long ((x.toUInt64 >>> (y.toInt64.toUInt64 &&& Int64.toUInt64 63)).toInt64) :: st) h) : XX g M rm Q k n pc L (.int y :: .long x :: st) h := fun p l e s m args below meth c locs H ls C hl hA hS => lv_lushr C.1 C.2.1 hdg rfl (kk p l e s m args below meth c locs H ls C hl hA hS)
theorem X_lshl {x : Int64} {y : Int32} (hdg : decode M.2.1 pc = .ok (.lshl, 1)) (kk : XX g M rm Q k n (pc + 1) L (.long (x <<< (y.toInt64 &&& 63)) :: st) h) : XX g M rm Q k n pc L (.int y :: .long x :: st) h := fun p l e s m args below meth c locs H ls C hl hA hS => lv_lshl C.1 C.2.1 hdg rfl (kk p l e s m args below meth c locs H ls C hl hA hS)
theorem X_lshr {x : Int64} {y : Int32} (hdg : decode M.2.1 pc = .ok (.lshr, 1)) (kk : XX g M rm Q k n (pc + 1) L (.long (x >>> (y.toInt64 &&& 63)) :: st) h) : XX g M rm Q k n pc L (.int y :: .long x :: st) h := fun p l e s m args below meth c locs H ls C hl hA hS => lv_lshr C.1 C.2.1 hdg rfl (kk p l e s m args below meth c locs H ls C hl hA hS)
theorem X_dup {va : Value} (hdg : decode M.2.1 pc = .ok (.dup, 1)) (hva : va.category = 1) (kk : XX g M rm Q k n (pc + 1) L (va :: va :: st) h) : XX g M rm Q k n pc L (va :: st) h := fun p l e s m args below meth c locs H ls C hl hA hS => lv_dup C.1 C.2.1 hdg hva (kk p l e s m args below meth c locs H ls C hl hA hS)
theorem X_pop {va : Value} (hdg : decode M.2.1 pc = .ok (.pop, 1)) (hva : va.category = 1) (kk : XX g M rm Q k n (pc + 1) L (st) h) : XX g M rm Q k n pc L (va :: st) h := fun p l e s m args below meth c locs H ls C hl hA hS => lv_pop C.1 C.2.1 hdg hva (kk p l e s m args below meth c locs H ls C hl hA hS)
theorem X_dup_x1 {va vb : Value} (hdg : decode M.2.1 pc = .ok (.dup_x1, 1)) (hva : va.category = 1) (hvb : vb.category = 1) (kk : XX g M rm Q k n (pc + 1) L (va :: vb :: va :: st) h) : XX g M rm Q k n pc L (va :: vb :: st) h := fun p l e s m args below meth c locs H ls C hl hA hS => lv_dup_x1 C.1 C.2.1 hdg hva hvb (kk p l e s m args below meth c locs H ls C hl hA hS)
theorem X_dup2_11 {va vb : Value} (hdg : decode M.2.1 pc = .ok (.dup2, 1)) (hva : va.category = 1) (hvb : vb.category = 1) (kk : XX g M rm Q k n (pc + 1) L (va :: vb :: va :: vb :: st) h) : XX g M rm Q k n pc L (va :: vb :: st) h := fun p l e s m args below meth c locs H ls C hl hA hS => lv_dup2_11 C.1 C.2.1 hdg hva hvb (kk p l e s m args below meth c locs H ls C hl hA hS)
theorem X_dup2_2 {va : Value} (hdg : decode M.2.1 pc = .ok (.dup2, 1)) (hva : va.category = 2) (kk : XX g M rm Q k n (pc + 1) L (va :: va :: st) h) : XX g M rm Q k n pc L (va :: st) h := fun p l e s m args below meth c locs H ls C hl hA hS => lv_dup2_2 C.1 C.2.1 hdg hva (kk p l e s m args below meth c locs H ls C hl hA hS)
theorem X_goto {off : Int} (tgt : Nat) (hdg : decode M.2.1 pc = .ok (.goto off, 3)) (ht : (pc : Int) + off = (tgt : Int)) (kk : XX g M rm Q k n tgt L st h) : XX g M rm Q k n pc L st h := fun p l e s m args below meth c locs H ls C hl hA hS => lv_goto C.1 C.2.1 hdg ht (kk p l e s m args below meth c locs H ls C hl hA hS)
theorem X_if_eq {x : Int32} {off : Int} (tgt : Nat) (hdg : decode M.2.1 pc = .ok (.ifCond .eq off, 3)) (ht : (pc : Int) + off = (tgt : Int)) (kt : x = 0 → XX g M rm Q k n tgt L st h) (kf : ¬ x = 0 → XX g M rm Q k n (pc + 3) L st h) : XX g M rm Q k n pc L (.int x :: st) h := fun p l e s m args below meth c locs H ls C hl hA hS => lv_if_eq C.1 C.2.1 hdg ht (fun z => kt z p l e s m args below meth c locs H ls C hl hA hS) (fun z => kf z p l e s m args below meth c locs H ls C hl hA hS)
theorem X_if_ne {x : Int32} {off : Int} (tgt : Nat) (hdg : decode M.2.1 pc = .ok (.ifCond .ne off, 3)) (ht : (pc : Int) + off = (tgt : Int)) (kt : ¬ x = 0 → XX g M rm Q k n tgt L st h) (kf : x = 0 → XX g M rm Q k n (pc + 3) L st h) : XX g M rm Q k n pc L (.int x :: st) h := fun p l e s m args below meth c locs H ls C hl hA hS => lv_if_ne C.1 C.2.1 hdg ht (fun z => kt z p l e s m args below meth c locs H ls C hl hA hS) (fun z => kf z p l e s m args below meth c locs H ls C hl hA hS)
theorem X_if_lt {x : Int32} {off : Int} (tgt : Nat) (hdg : decode M.2.1 pc = .ok (.ifCond .lt off, 3)) (ht : (pc : Int) + off = (tgt : Int)) (kt : x < 0 → XX g M rm Q k n tgt L st h) (kf : ¬ x < 0 → XX g M rm Q k n (pc + 3) L st h) : XX g M rm Q k n pc L (.int x :: st) h := fun p l e s m args below meth c locs H ls C hl hA hS => lv_if_lt C.1 C.2.1 hdg ht (fun z => kt z p l e s m args below meth c locs H ls C hl hA hS) (fun z => kf z p l e s m args below meth c locs H ls C hl hA hS)
theorem X_if_ge {x : Int32} {off : Int} (tgt : Nat) (hdg : decode M.2.1 pc = .ok (.ifCond .ge off, 3)) (ht : (pc : Int) + off = (tgt : Int)) (kt : 0 ≤ x → XX g M rm Q k n tgt L st h) (kf : ¬ 0 ≤ x → XX g M rm Q k n (pc + 3) L st h) : XX g M rm Q k n pc L (.int x :: st) h := fun p l e s m args below meth c locs H ls C hl hA hS => lv_if_ge C.1 C.2.1 hdg ht (fun z => kt z p l e s m args below meth c locs H ls C hl hA hS) (fun z => kf z p l e s m args below meth c locs H ls C hl hA hS)
theorem X_if_gt {x : Int32} {off : Int} (tgt : Nat) (hdg : decode M.2.1 pc = .ok (.ifCond .gt off, 3)) (ht : (pc : Int) + off = (tgt : Int)) (kt : 0 < x → XX g M rm Q k n tgt L st h) (kf : ¬ 0 < x → XX g M rm Q k n (pc + 3) L st h) : XX g M rm Q k n pc L (.int x :: st) h := fun p l e s m args below meth c locs H ls C hl hA hS => lv_if_gt C.1 C.2.1 hdg ht (fun z => kt z p l e s m args below meth c locs H ls C hl hA hS) (fun z => kf z p l e s m args below meth c locs H ls C hl hA hS)
theorem X_if_le {x : Int32} {off : Int} (tgt : Nat) (hdg : decode M.2.1 pc = .ok (.ifCond .le off, 3)) (ht : (pc : Int) + off = (tgt : Int)) (kt : x ≤ 0 → XX g M rm Q k n tgt L st h) (kf : ¬ x ≤ 0 → XX g M rm Q k n (pc + 3) L st h) : XX g M rm Q k n pc L (.int x :: st) h := fun p l e s m args below meth c locs H ls C hl hA hS => lv_if_le C.1 C.2.1 hdg ht (fun z => kt z p l e s m args below meth c locs H ls C hl hA hS) (fun z => kf z p l e s m args below meth c locs H ls C hl hA hS)
theorem X_icmp_eq {x y : Int32} {off : Int} (tgt : Nat) (hdg : decode M.2.1 pc = .ok (.if_icmp .eq off, 3)) (ht : (pc : Int) + off = (tgt : Int)) (kt : x = y → XX g M rm Q k n tgt L st h) (kf : ¬ x = y → XX g M rm Q k n (pc + 3) L st h) : XX g M rm Q k n pc L (.int y :: .int x :: st) h := fun p l e s m args below meth c locs H ls C hl hA hS => lv_icmp_eq C.1 C.2.1 hdg ht (fun z => kt z p l e s m args below meth c locs H ls C hl hA hS) (fun z => kf z p l e s m args below meth c locs H ls C hl hA hS)
theorem X_icmp_ne {x y : Int32} {off : Int} (tgt : Nat) (hdg : decode M.2.1 pc = .ok (.if_icmp .ne off, 3)) (ht : (pc : Int) + off = (tgt : Int)) (kt : ¬ x = y → XX g M rm Q k n tgt L st h) (kf : x = y → XX g M rm Q k n (pc + 3) L st h) : XX g M rm Q k n pc L (.int y :: .int x :: st) h := fun p l e s m args below meth c locs H ls C hl hA hS => lv_icmp_ne C.1 C.2.1 hdg ht (fun z => kt z p l e s m args below meth c locs H ls C hl hA hS) (fun z => kf z p l e s m args below meth c locs H ls C hl hA hS)
theorem X_icmp_lt {x y : Int32} {off : Int} (tgt : Nat) (hdg : decode M.2.1 pc = .ok (.if_icmp .lt off, 3)) (ht : (pc : Int) + off = (tgt : Int)) (kt : x < y → XX g M rm Q k n tgt L st h) (kf : ¬ x < y → XX g M rm Q k n (pc + 3) L st h) : XX g M rm Q k n pc L (.int y :: .int x :: st) h := fun p l e s m args below meth c locs H ls C hl hA hS => lv_icmp_lt C.1 C.2.1 hdg ht (fun z => kt z p l e s m args below meth c locs H ls C hl hA hS) (fun z => kf z p l e s m args below meth c locs H ls C hl hA hS)
theorem X_icmp_ge {x y : Int32} {off : Int} (tgt : Nat) (hdg : decode M.2.1 pc = .ok (.if_icmp .ge off, 3)) (ht : (pc : Int) + off = (tgt : Int)) (kt : y ≤ x → XX g M rm Q k n tgt L st h) (kf : ¬ y ≤ x → XX g M rm Q k n (pc + 3) L st h) : XX g M rm Q k n pc L (.int y :: .int x :: st) h := fun p l e s m args below meth c locs H ls C hl hA hS => lv_icmp_ge C.1 C.2.1 hdg ht (fun z => kt z p l e s m args below meth c locs H ls C hl hA hS) (fun z => kf z p l e s m args below meth c locs H ls C hl hA hS)
theorem X_icmp_gt {x y : Int32} {off : Int} (tgt : Nat) (hdg : decode M.2.1 pc = .ok (.if_icmp .gt off, 3)) (ht : (pc : Int) + off = (tgt : Int)) (kt : y < x → XX g M rm Q k n tgt L st h) (kf : ¬ y < x → XX g M rm Q k n (pc + 3) L st h) : XX g M rm Q k n pc L (.int y :: .int x :: st) h := fun p l e s m args below meth c locs H ls C hl hA hS => lv_icmp_gt C.1 C.2.1 hdg ht (fun z => kt z p l e s m args below meth c locs H ls C hl hA hS) (fun z => kf z p l e s m args below meth c locs H ls C hl hA hS)
theorem X_icmp_le {x y : Int32} {off : Int} (tgt : Nat) (hdg : decode M.2.1 pc = .ok (.if_icmp .le off, 3)) (ht : (pc : Int) + off = (tgt : Int)) (kt : x ≤ y → XX g M rm Q k n tgt L st h) (kf : ¬ x ≤ y → XX g M rm Q k n (pc + 3) L st h) : XX g M rm Q k n pc L (.int y :: .int x :: st) h := fun p l e s m args below meth c locs H ls C hl hA hS => lv_icmp_le C.1 C.2.1 hdg ht (fun z => kt z p l e s m args below meth c locs H ls C hl hA hS) (fun z => kf z p l e s m args below meth c locs H ls C hl hA hS)
theorem X_acmp_ne {rx ry : Option Nat} {off : Int} (tgt : Nat) (hdg : decode M.2.1 pc = .ok (.if_acmp .ne off, 3)) (ht : (pc : Int) + off = (tgt : Int)) (kt : ¬ rx = ry → XX g M rm Q k n tgt L st h) (kf : rx = ry → XX g M rm Q k n (pc + 3) L st h) : XX g M rm Q k n pc L (va_rf ry :: va_rf rx :: st) h := fun p l e s m args below meth c locs H ls C hl hA hS => lv_acmp_ne C.1 C.2.1 hdg ht (fun z => kt z p l e s m args below meth c locs H ls C hl hA hS) (fun z => kf z p l e s m args below meth c locs H ls C hl hA hS)
theorem X_ifnonnull {x : Nat} {off : Int} (tgt : Nat) (hdg : decode M.2.1 pc = .ok (.ifnonnull off, 3)) (ht : (pc : Int) + off = (tgt : Int)) (kk : XX g M rm Q k n tgt L st h) : XX g M rm Q k n pc L (.ref x :: st) h := fun p l e s m args below meth c locs H ls C hl hA hS => lv_ifnonnull C.1 C.2.1 hdg ht (kk p l e s m args below meth c locs H ls C hl hA hS)
theorem X_ifnonnullN {off : Int} (hdg : decode M.2.1 pc = .ok (.ifnonnull off, 3)) (kk : XX g M rm Q k n (pc + 3) L st h) : XX g M rm Q k n pc L (.null :: st) h := fun p l e s m args below meth c locs H ls C hl hA hS => lv_ifnonnullN C.1 C.2.1 hdg (kk p l e s m args below meth c locs H ls C hl hA hS)
theorem X_null (hdg : decode M.2.1 pc = .ok (.aconst_null, 1)) (kk : XX g M rm Q k n (pc + 1) L (.null :: st) h) : XX g M rm Q k n pc L st h := fun p l e s m args below meth c locs H ls C hl hA hS => lv_null C.1 C.2.1 hdg (kk p l e s m args below meth c locs H ls C hl hA hS)
theorem X_lcmp {x y : Int64} (hdg : decode M.2.1 pc = .ok (.lcmp, 1)) (kk : XX g M rm Q k n (pc + 1) L (.int (lg_cmp x y) :: st) h) : XX g M rm Q k n pc L (.long y :: .long x :: st) h := fun p l e s m args below meth c locs H ls C hl hA hS => W.lcmp C.1 C.2.1 hdg (kk p l e s m args below meth c locs H ls C hl hA hS)
theorem X_ldc {idx : Nat} {x : Int32} (hdg : decode M.2.1 pc = .ok (.ldc idx, 2)) (hw : Cond.constant M.1.cls idx x ∈ lw_all) (kk : XX g M rm Q k n (pc + 2) L (.int x :: st) h) : XX g M rm Q k n pc L st h := fun p l e s m args below meth c locs H ls C hl hA hS => lv_ldc C.1 C.2.1 C.2.2.2.2.2.1 (C.2.2.2.2.2.2.2.1 _ hw) hdg (kk p l e s m args below meth c locs H ls C hl hA hS)
theorem X_ldcw {idx : Nat} {x : Int32} (hdg : decode M.2.1 pc = .ok (.ldc_w idx, 3)) (hw : Cond.constant M.1.cls idx x ∈ lw_all) (kk : XX g M rm Q k n (pc + 3) L (.int x :: st) h) : XX g M rm Q k n pc L st h := fun p l e s m args below meth c locs H ls C hl hA hS => lv_ldcw C.1 C.2.1 C.2.2.2.2.2.1 (C.2.2.2.2.2.2.2.1 _ hw) hdg (kk p l e s m args below meth c locs H ls C hl hA hS)
theorem X_ldc2 {idx : Nat} {x : Int64} (hdg : decode M.2.1 pc = .ok (.ldc2_w idx, 3)) (hw : Cond.constantLong M.1.cls idx x ∈ lw_all) (kk : XX g M rm Q k n (pc + 3) L (.long x :: st) h) : XX g M rm Q k n pc L st h := fun p l e s m args below meth c locs H ls C hl hA hS => lv_ldc2 C.1 C.2.1 C.2.2.2.2.2.1 (C.2.2.2.2.2.2.2.1 _ hw) hdg (kk p l e s m args below meth c locs H ls C hl hA hS)
theorem X_tableOut {d lo hi : Int} {offs : Array Int} {len : Nat} {x : Int32} (tgt : Nat) (hdg : decode M.2.1 pc = .ok (.tableswitch d lo hi offs, len)) (hx : x.toInt < lo ∨ hi < x.toInt) (ht : (pc : Int) + d = (tgt : Int)) (kk : XX g M rm Q k n tgt L st h) : XX g M rm Q k n pc L (.int x :: st) h := fun p l e s m args below meth c locs H ls C hl hA hS => lv_tableOut C.1 C.2.1 hdg hx ht (kk p l e s m args below meth c locs H ls C hl hA hS)
theorem X_tableIn {d lo hi : Int} {offs : Array Int} {len : Nat} {x : Int32} {off : Int} (tgt : Nat) (hdg : decode M.2.1 pc = .ok (.tableswitch d lo hi offs, len)) (h1 : ¬ x.toInt < lo) (h2 : ¬ hi < x.toInt) (ho : offs[(x.toInt - lo).toNat]? = some off) (ht : (pc : Int) + off = (tgt : Int)) (kk : XX g M rm Q k n tgt L st h) : XX g M rm Q k n pc L (.int x :: st) h := fun p l e s m args below meth c locs H ls C hl hA hS => lv_tableIn C.1 C.2.1 hdg h1 h2 ho ht (kk p l e s m args below meth c locs H ls C hl hA hS)
theorem X_topi {x : Int32} (kk : ∀ y : Int32, y = x → XX g M rm Q k n pc L (.int y :: st) h) : XX g M rm Q k n pc L (.int x :: st) h := kk x rfl
theorem X_topl {x : Int64} (kk : ∀ y : Int64, y = x → XX g M rm Q k n pc L (.long y :: st) h) : XX g M rm Q k n pc L (.long x :: st) h := kk x rfl
theorem CX.K {p : Program} {s : State} {m : MethodId} {args : Array Value} {meth : Method} {c : Code} (C : CX g M p s m args meth c) : va_K (gD g) vwCl (gT g) s := C.2.2.2.2.2.2.2.2.1.1
theorem CX.z {p : Program} {s : State} {m : MethodId} {args : Array Value} {meth : Method} {c : Code} (C : CX g M p s m args meth c) : gB g ≤ s.heap.size := C.2.2.2.2.2.2.2.2.1.2.2.1
theorem CX.A {p : Program} {s : State} {m : MethodId} {args : Array Value} {meth : Method} {c : Code} (C : CX g M p s m args meth c) : ∀ q : Nat, s.heap.size ≤ q → gA g q := fun _ hq => Nat.le_trans C.z hq
theorem CX.ws {p : Program} {s : State} {m : MethodId} {args : Array Value} {meth : Method} {c : Code} (C : CX g M p s m args meth c) : ∀ w ∈ lw_all, w.before args s = true := C.2.2.2.2.2.2.2.1
theorem CX.own {p : Program} {s : State} {m : MethodId} {args : Array Value} {meth : Method} {c : Code} (C : CX g M p s m args meth c) : s.vm.findClass M.1.cls = some m.cls := C.2.2.2.2.2.1
theorem CX.ok {p : Program} {s : State} {m : MethodId} {args : Array Value} {meth : Method} {c : Code} (C : CX g M p s m args meth c) : OkG g s := C.2.2.2.2.2.2.2.2.1
/-- arrays: loads -/
theorem X_iaload {a N : Nat} {ro : Bool} {f : Nat → Int32} {i : Int32} (hdg : decode M.2.1 pc = .ok (.iaload, 1)) (hc : h a = some (Ai ro 0 N f)) (hi : vp_in i N) (kk : XX g M rm Q k n (pc + 1) L (.int (f i.toNatClampNeg) :: st) h) : XX g M rm Q k n pc L (.int i :: .ref a :: st) h := by
  intro p l e s m args below meth c locs H ls C hl hA hS
  have kk := kk p l e s m args below meth c locs H ls C hl hA hS
  cases ro with
  | false =>
    obtain ⟨q0, hq⟩ := hA.at hc rfl
    exact va_iald C.1 C.2.1 C.K hA.P q0 0 hq rfl hi hdg kk
  | true =>
    obtain ⟨-, cell, h1, h2, h3, h4, h5, h6, -⟩ := hA.2.1 a _ hc rfl
    have hlt : i.toNatClampNeg < N := Nat.not_le.mp fun q => hi (Or.inr q)
    exact W.iald C.1 C.2.1 h1 h2 h3 (fun z => z.elim (fun q => hi (Or.inl q)) (fun q => by omega)) (h6 _ hlt) rfl rfl hdg kk
theorem X_baload {a N : Nat} {ro : Bool} {f : Nat → Int32} {i : Int32} (hdg : decode M.2.1 pc = .ok (.baload, 1)) (hc : h a = some (Ai ro 2 N f)) (hi : vp_in i N) (kk : XX g M rm Q k n (pc + 1) L (.int (f i.toNatClampNeg) :: st) h) : XX g M rm Q k n pc L (.int i :: .ref a :: st) h := by
  intro p l e s m args below meth c locs H ls C hl hA hS
  have kk := kk p l e s m args below meth c locs H ls C hl hA hS
  cases ro with
  | false =>
    obtain ⟨q0, hq⟩ := hA.at hc rfl
    exact va_bald C.1 C.2.1 C.K hA.P q0 2 hq rfl hi hdg kk
  | true =>
    obtain ⟨-, cell, h1, h2, h3, h4, h5, h6, -⟩ := hA.2.1 a _ hc rfl
    have hlt : i.toNatClampNeg < N := Nat.not_le.mp fun q => hi (Or.inr q)
    exact W.bald C.1 C.2.1 h1 h2 h3 (fun z => z.elim (fun q => hi (Or.inl q)) (fun q => by omega)) (h6 _ hlt) rfl rfl hdg kk
theorem X_zaload {a N : Nat} {f : Nat → Int32} {i : Int32} (hdg : decode M.2.1 pc = .ok (.baload, 1)) (hc : h a = some (Ai false 3 N f)) (hi : vp_in i N) (kk : XX g M rm Q k n (pc + 1) L (.int (f i.toNatClampNeg) :: st) h) : XX g M rm Q k n pc L (.int i :: .ref a :: st) h := by
  intro p l e s m args below meth c locs H ls C hl hA hS
  obtain ⟨q0, hq⟩ := hA.at hc rfl
  exact va_zald C.1 C.2.1 C.K hA.P q0 3 hq rfl hi hdg (kk p l e s m args below meth c locs H ls C hl hA hS)
theorem X_laload {a N : Nat} {ro : Bool} {f : Nat → Int64} {i : Int32} (hdg : decode M.2.1 pc = .ok (.laload, 1)) (hc : h a = some (Al ro N f)) (hi : vp_in i N) (kk : XX g M rm Q k n (pc + 1) L (.long (f i.toNatClampNeg) :: st) h) : XX g M rm Q k n pc L (.int i :: .ref a :: st) h := by
  intro p l e s m args below meth c locs H ls C hl hA hS
  have kk := kk p l e s m args below meth c locs H ls C hl hA hS
  cases ro with
  | false =>
    obtain ⟨q0, hq⟩ := hA.at hc rfl
    exact va_lald C.1 C.2.1 C.K hA.P q0 1 hq rfl hi hdg kk
  | true =>
    obtain ⟨-, cell, h1, h2, h3, h4, h5, h6, -⟩ := hA.2.1 a _ hc rfl
    have hlt : i.toNatClampNeg < N := Nat.not_le.mp fun q => hi (Or.inr q)
    exact W.lald C.1 C.2.1 h1 h2 h3 (fun z => z.elim (fun q => hi (Or.inl q)) (fun q => by omega)) (h6 _ hlt) rfl rfl hdg kk
theorem X_aaload {a N tag : Nat} {D : String} {f : Nat → Option Nat} {i : Int32} (hdg : decode M.2.1 pc = .ok (.aaload, 1)) (hc : h a = some (Ar tag N f)) (ht : ∀ g : GX, (gT g)[tag]? = some (gC g tag, .object D)) (hi : vp_in i N) (kk : XX g M rm Q k n (pc + 1) L (va_rf (f i.toNatClampNeg) :: st) h) : XX g M rm Q k n pc L (.int i :: .ref a :: st) h := by
  intro p l e s m args below meth c locs H ls C hl hA hS
  obtain ⟨q0, hq⟩ := hA.at hc rfl
  exact va_aldq C.1 C.2.1 C.K hA.P q0 tag hq (ht g) hi hdg (kk p l e s m args below meth c locs H ls C hl hA hS)
/-- arrays: stores -/
theorem X_iastore {a N : Nat} {f : Nat → Int32} {i x : Int32} (hdg : decode M.2.1 pc = .ok (.iastore, 1)) (hc : h a = some (Ai false 0 N f)) (hi : vp_in i N) (kk : XX g M rm Q k n (pc + 1) L st (hset h a (Ai false 0 N (upd f i.toNatClampNeg x)))) : XX g M rm Q k n pc L (.int x :: .int i :: .ref a :: st) h := by
  intro p l e s m args below meth c locs H ls C hl hA hS
  obtain ⟨q0, hq⟩ := hA.at hc rfl
  exact va_iast C.1 C.2.1 C.K hA.P hA.D hS q0 0 hq rfl hi hdg (fun H1 locs1 hP1 _ hS1 => kk p l e s m args below meth c locs1 H1 ls C hl (hA.set hc rfl hq rfl (fun e => by cases e) hP1 C.z hS hS1) hS1)
theorem X_bastore {a N : Nat} {f : Nat → Int32} {i x : Int32} (hdg : decode M.2.1 pc = .ok (.bastore, 1)) (hc : h a = some (Ai false 2 N f)) (hi : vp_in i N) (kk : XX g M rm Q k n (pc + 1) L st (hset h a (Ai false 2 N (upd f i.toNatClampNeg x.toInt8.toInt32)))) : XX g M rm Q k n pc L (.int x :: .int i :: .ref a :: st) h := by
  intro p l e s m args below meth c locs H ls C hl hA hS
  obtain ⟨q0, hq⟩ := hA.at hc rfl
  refine va_bast C.1 C.2.1 C.K hA.P hA.D hS q0 2 hq rfl hi hdg (fun H1 locs1 hP1 _ hS1 => ?_)
  rw [vp_nar_byte] at hP1
  exact kk p l e s m args below meth c locs1 H1 ls C hl (hA.set hc rfl hq rfl (fun _ j hj => by unfold upd; split; exact pk_fb x; exact (hA.1 a _ _ hc rfl).2.2 rfl j hj) hP1 C.z hS hS1) hS1
theorem X_zastore {a N : Nat} {f : Nat → Int32} {i x : Int32} (hdg : decode M.2.1 pc = .ok (.bastore, 1)) (hc : h a = some (Ai false 3 N f)) (hi : vp_in i N) (kk : XX g M rm Q k n (pc + 1) L st (hset h a (Ai false 3 N (upd f i.toNatClampNeg (vp_nar .boolean x))))) : XX g M rm Q k n pc L (.int x :: .int i :: .ref a :: st) h := by
  intro p l e s m args below meth c locs H ls C hl hA hS
  obtain ⟨q0, hq⟩ := hA.at hc rfl
  exact va_zast C.1 C.2.1 C.K hA.P hA.D hS q0 3 hq rfl hi hdg (fun H1 locs1 hP1 _ hS1 => kk p l e s m args below meth c locs1 H1 ls C hl (hA.set hc rfl hq rfl (fun e => by cases e) hP1 C.z hS hS1) hS1)
theorem X_lastore {a N : Nat} {f : Nat → Int64} {i : Int32} {x : Int64} (hdg : decode M.2.1 pc = .ok (.lastore, 1)) (hc : h a = some (Al false N f)) (hi : vp_in i N) (kk : XX g M rm Q k n (pc + 1) L st (hset h a (Al false N (vp_updL f i.toNatClampNeg x)))) : XX g M rm Q k n pc L (.long x :: .int i :: .ref a :: st) h := by
  intro p l e s m args below meth c locs H ls C hl hA hS
  obtain ⟨q0, hq⟩ := hA.at hc rfl
  exact va_last C.1 C.2.1 C.K hA.P hA.D hS q0 1 hq rfl hi hdg (fun H1 locs1 hP1 _ hS1 => kk p l e s m args below meth c locs1 H1 ls C hl (hA.set hc rfl hq rfl trivial hP1 C.z hS hS1) hS1)
theorem X_aastore {a N tag v ci : Nat} {D : vw_C} {f : Nat → Option Nat} {fs : List Value} {i : Int32} (hdg : decode M.2.1 pc = .ok (.aastore, 1)) (hc : h a = some (Ar tag N f)) (ht : ∀ g : GX, (gT g)[tag]? = some (gC g tag, .object D.1)) (hv : h v = some (Ob ci fs)) (hci : vwCl[ci]? = some D) (hi : vp_in i N) (kk : XX g M rm Q k n (pc + 1) L st (hset h a (Ar tag N (va_up f i.toNatClampNeg (some v))))) : XX g M rm Q k n pc L (.ref v :: .int i :: .ref a :: st) h := by
  intro p l e s m args below meth c locs H ls C hl hA hS
  obtain ⟨q0, hq⟩ := hA.at hc rfl
  obtain ⟨q1, hq1⟩ := hA.at hv rfl
  exact va_astq C.1 C.2.1 C.K hA.P hA.D hS q0 tag q1 ci hq (ht g) hq1 hci hi hdg (fun H1 locs1 hP1 _ hS1 => kk p l e s m args below meth c locs1 H1 ls C hl (hA.set hc rfl hq rfl trivial hP1 C.z hS hS1) hS1)
/-- arrays: length -/
theorem X_alenI {a N tag : Nat} {ro : Bool} {f : Nat → Int32} (hdg : decode M.2.1 pc = .ok (.arraylength, 1)) (hc : h a = some (Ai ro tag N f)) (ht : ∀ g : GX, (gT g)[tag]? = some (gC g tag, tagTy tag)) (kk : XX g M rm Q k n (pc + 1) L (.int (nI N) :: st) h) : XX g M rm Q k n pc L (.ref a :: st) h := by
  intro p l e s m args below meth c locs H ls C hl hA hS
  have kk := kk p l e s m args below meth c locs H ls C hl hA hS
  cases ro with
  | false =>
    obtain ⟨q0, hq⟩ := hA.at hc rfl
    exact va_alen C.1 C.2.1 C.K hA.P q0 tag hq (ht g) rfl hdg kk
  | true =>
    obtain ⟨-, cell, h1, h2, h3, h4, h5, h6, -⟩ := hA.2.1 a _ hc rfl
    exact W.alen C.1 C.2.1 h1 h2 h5 rfl rfl hdg kk
theorem X_alenL {a N : Nat} {f : Nat → Int64} (hdg : decode M.2.1 pc = .ok (.arraylength, 1)) (hc : h a = some (Al false N f)) (kk : XX g M rm Q k n (pc + 1) L (.int (nI N) :: st) h) : XX g M rm Q k n pc L (.ref a :: st) h := by
  intro p l e s m args below meth c locs H ls C hl hA hS
  obtain ⟨q0, hq⟩ := hA.at hc rfl
  exact va_alen C.1 C.2.1 C.K hA.P q0 1 hq rfl rfl hdg (kk p l e s m args below meth c locs H ls C hl hA hS)
/-- fields: entry idx of the class own names field k of class ci -/
def FG (own : String) (idx ci f : Nat) : Prop := ∃ (D : String) (T : u_T) (N : Nat) (ref : String), vwCl[ci]? = some (D, T, N) ∧ (∀ w ∈ u_ws D T N, w ∈ lw_all) ∧ f < N ∧ (Cond.fieldLink own idx ref (T f).2.1 (T f).2.2.1 ∈ lw_all ∨ ∃ host, Cond.fieldLinkNest own idx ref (T f).2.1 (T f).2.2.1 host ∈ lw_tbl) ∧ ((T f).1 = ref ∨ Cond.sameField ref (T f).1 (T f).2.1 (T f).2.2.1 ∈ lw_all)
theorem FG.of {own : String} {idx ci f : Nat} {D : String} {T : u_T} {N : Nat} {ref : String} (h1 : vwCl[ci]? = some (D, T, N)) (h2 : ∀ w ∈ u_ws D T N, w ∈ lw_all) (h3 : f < N) (h4 : Cond.fieldLink own idx ref (T f).2.1 (T f).2.2.1 ∈ lw_all) (h5 : (T f).1 = ref) : FG own idx ci f := ⟨D, T, N, ref, h1, h2, h3, Or.inl h4, Or.inl h5⟩
theorem FG.ofN {own : String} {idx ci f : Nat} {D : String} {T : u_T} {N : Nat} {ref host : String} (h1 : vwCl[ci]? = some (D, T, N)) (h2 : ∀ w ∈ u_ws D T N, w ∈ lw_all) (h3 : f < N) (h4 : Cond.fieldLinkNest own idx ref (T f).2.1 (T f).2.2.1 host ∈ lw_tbl) (h5 : (T f).1 = ref) : FG own idx ci f := ⟨D, T, N, ref, h1, h2, h3, Or.inr ⟨host, h4⟩, Or.inl h5⟩
theorem FG.ofS {own : String} {idx ci f : Nat} {D : String} {T : u_T} {N : Nat} {ref : String} (h1 : vwCl[ci]? = some (D, T, N)) (h2 : ∀ w ∈ u_ws D T N, w ∈ lw_all) (h3 : f < N) (h4 : Cond.fieldLink own idx ref (T f).2.1 (T f).2.2.1 ∈ lw_all) (h5 : Cond.sameField ref (T f).1 (T f).2.1 (T f).2.2.1 ∈ lw_all) : FG own idx ci f := ⟨D, T, N, ref, h1, h2, h3, Or.inl h4, Or.inr h5⟩
theorem X_getfield {a idx ci f : Nat} {fs : List Value} {v : Value} (hdg : decode M.2.1 pc = .ok (.getfield idx, 3)) (G : FG M.1.cls idx ci f) (hc : h a = some (Ob ci fs)) (hv : fs[f]? = some v) (kk : XX g M rm Q k n (pc + 3) L (v :: st) h) : XX g M rm Q k n pc L (.ref a :: st) h := by
  intro p l e s m args below meth c locs H ls C hl hA hS
  have kk := kk p l e s m args below meth c locs H ls C hl hA hS
  obtain ⟨D, T, N, ref, h1, h2, h3, h4, h5⟩ := G
  obtain ⟨q0, hq⟩ := hA.at hc rfl
  have hs : ∀ x, s.fieldFound? (T f).1 (T f).2.1 (T f).2.2.1 = some x → s.fieldFound? ref (T f).2.1 (T f).2.2.1 = some x := fun x hx => by
    rcases h5 with rfl | h5
    · exact hx
    · exact u_same (C.ws _ h5) x hx
  rcases h4 with h4 | ⟨host, h4⟩
  · exact va_get C.1 C.2.1 C.ws h2 C.own C.K hA.P q0 hq h1 f h3 (C.ws _ h4) hs hv hdg kk
  · exact va_getN C.1 C.2.1 C.ws h2 C.own C.K hA.P q0 hq h1 f h3 ((C.ok.2.1 _ h4 rfl).use rfl) hs hv hdg kk
/-- what a store into a field asks of the class' table -/
def FP (own : String) (idx ci f : Nat) (ty : FieldType) (init : Bool) : Prop := ∃ (D : String) (T : u_T) (N : Nat) (ref : String) (ty0 : Nat → FieldType), vwCl[ci]? = some (D, T, N) ∧ (∀ w ∈ u_ws D T N, w ∈ lw_all) ∧ f < N ∧ (Cond.fieldLink own idx ref (T f).2.1 (T f).2.2.1 ∈ lw_all ∨ (∃ host, Cond.fieldLinkNest own idx ref (T f).2.1 (T f).2.2.1 host ∈ lw_tbl) ∧ init = false) ∧ ((T f).1 = ref ∨ Cond.sameField ref (T f).1 (T f).2.1 (T f).2.2.1 ∈ lw_all) ∧ (∀ k, k < N → parseFieldDescriptor (T k).2.2.1 = some (ty0 k)) ∧ (∀ a, a < N → ∀ b, b < N → a ≠ b → (T a).2.1 ≠ (T b).2.1) ∧ (T f).2.2.2 = init ∧ (init = true → (T f).1 = own) ∧ ty0 f = ty
theorem X_putfield {a idx ci f : Nat} {fs : List Value} {v : Value} {ty : FieldType} {ini : Bool} (hdg : decode M.2.1 pc = .ok (.putfield idx, 3)) (G : FP M.1.cls idx ci f ty ini) (hini : ini = true → M.1.name = "<init>") (hc : h a = some (Ob ci fs)) (hn : narrow ty v = v) (hfit : fits ty v = true) (hf : f < fs.length) (kk : XX g M rm Q k n (pc + 3) L st (hset h a (Ob ci (fs.set f v)))) : XX g M rm Q k n pc L (v :: .ref a :: st) h := by
  intro p l e s m args below meth c locs H ls C hl hA hS
  obtain ⟨D, T, N, ref, ty0, h1, h2, h3, h4, h5, h6, h7, h8, h9, h10⟩ := G
  obtain ⟨q0, hq⟩ := hA.at hc rfl
  have hs : ∀ x, s.fieldFound? (T f).1 (T f).2.1 (T f).2.2.1 = some x → s.fieldFound? ref (T f).2.1 (T f).2.2.1 = some x := fun x hx => by
    rcases h5 with rfl | h5
    · exact hx
    · exact u_same (C.ws _ h5) x hx
  have hd : parseFieldDescriptor (T f).2.2.1 = some ty := by rw [h6 f h3, h10]
  cases ini with
  | false =>
    rcases h4 with h4 | ⟨⟨host, h4⟩, -⟩
    · exact va_put C.1 C.2.1 C.ws h2 ty0 h6 h7 C.own C.K hA.P hA.D hS q0 hq h1 f h3 (C.ws _ h4) hs h8 hd hn hfit hf hdg (fun H1 locs1 hP1 _ hS1 => kk p l e s m args below meth c locs1 H1 ls C hl (hA.set hc rfl hq rfl trivial hP1 C.z hS hS1) hS1)
    · exact va_putN C.1 C.2.1 C.ws h2 ty0 h6 h7 C.own C.K hA.P hA.D hS q0 hq h1 f h3 ((C.ok.2.1 _ h4 rfl).use rfl) hs h8 hd hn hfit hf hdg (fun H1 locs1 hP1 _ hS1 => kk p l e s m args below meth c locs1 H1 ls C hl (hA.set hc rfl hq rfl trivial hP1 C.z hS hS1) hS1)
  | true =>
    rcases h4 with h4 | ⟨-, h4⟩
    · exact va_putF C.1 C.2.1 C.ws h2 ty0 h6 h7 C.own C.K hA.P hA.D hS q0 hq h1 f h3 (C.ws _ h4) hs h8 (by rw [C.2.2.2.2.2.2.1]; exact hini rfl) (h9 rfl) hd hn hfit hf hdg (fun H1 locs1 hP1 _ hS1 => kk p l e s m args below meth c locs1 H1 ls C hl (hA.set hc rfl hq rfl trivial hP1 C.z hS hS1) hS1)
    · cases h4
theorem MQ2.of {below : List Frame} {Qc : Array Value → State → Outcome → State → Prop} {a : Array Value} {s : State} {mc ms : Nat} {free : Addr → Prop} (t : State) (q : MQ below Qc a s mc ms free t) : MQ2 below Qc a s mc ms free t := by
  obtain ⟨o, h1, h2, h3, L', h4, h5⟩ := q
  exact ⟨o, h1, h2, h3, L', h4.2, h5⟩
theorem QQ.of {p : Program} {s : State} {m : MethodId} {args : Array Value} {meth : Method} {c : Code} {H : Heap} {locs : List Loc} {oc : Outcome} (hA : AR g h s H) (hS : va_S (gA g) s.heap H locs) (hq : Q oc h) : ∀ t : State, t.heap = H → s.WarmedH t.vm → QQ g Q args s oc t :=
  fun t ht hW => ⟨⟨h, hq, by rw [ht]; exact hA.moved hW.alike⟩, hS.F ht⟩
theorem X_ireturn {x : Int32} (hdg : decode M.2.1 pc = .ok (.ireturn, 1)) (hr : M.2.2.2.1 = some .int) (hk : k ≤ rm.cells) (hn : n ≤ rm.slots) (hq : Q (.returned (some (.int x))) h) : XX g M rm Q k n pc L [.int x] h := by
  intro p l e s m args below meth c locs H ls C hl hA hS
  refine W.widen hk hn (W.mono MQ2.of ?_)
  exact W.iret C.1 C.2.1 (C.2.2.2.1.trans hr) (QQ.of (p := p) (m := m) (meth := meth) (c := c) hA hS hq) hS.2.2 hdg C.2.2.2.2.1
theorem X_zreturn {x : Int32} (hdg : decode M.2.1 pc = .ok (.ireturn, 1)) (hr : M.2.2.2.1 = some .boolean) (hx : x = 0 ∨ x = 1) (hk : k ≤ rm.cells) (hn : n ≤ rm.slots) (hq : Q (.returned (some (.int x))) h) : XX g M rm Q k n pc L [.int x] h := by
  intro p l e s m args below meth c locs H ls C hl hA hS
  refine W.widen hk hn (W.mono MQ2.of ?_)
  exact W.zret C.1 C.2.1 (C.2.2.2.1.trans hr) (by rcases hx with rfl | rfl <;> rfl) (QQ.of (p := p) (m := m) (meth := meth) (c := c) hA hS hq) hS.2.2 hdg C.2.2.2.2.1
theorem X_lreturn {x : Int64} (hdg : decode M.2.1 pc = .ok (.lreturn, 1)) (hr : M.2.2.2.1 = some .long) (hk : k ≤ rm.cells) (hn : n ≤ rm.slots) (hq : Q (.returned (some (.long x))) h) : XX g M rm Q k n pc L [.long x] h := by
  intro p l e s m args below meth c locs H ls C hl hA hS
  refine W.widen hk hn (W.mono MQ2.of ?_)
  exact W.lret C.1 C.2.1 (C.2.2.2.1.trans hr) (QQ.of (p := p) (m := m) (meth := meth) (c := c) hA hS hq) hS.2.2 hdg C.2.2.2.2.1
theorem X_return (hdg : decode M.2.1 pc = .ok (.return_, 1)) (hr : M.2.2.2.1 = none) (hk : k ≤ rm.cells) (hn : n ≤ rm.slots) (hq : Q (.returned none) h) : XX g M rm Q k n pc L [] h := by
  intro p l e s m args below meth c locs H ls C hl hA hS
  refine W.widen hk hn (W.mono MQ2.of ?_)
  exact W.vret C.1 C.2.1 (C.2.2.2.1.trans hr) (QQ.of (p := p) (m := m) (meth := meth) (c := c) hA hS hq) hS.2.2 hdg C.2.2.2.2.1
theorem X_new_int {x : Int32} (N : Nat) (hdg : decode M.2.1 pc = .ok (.newarray .int, 2)) (hx : x = nI N) (hb : N < 60000000) (hk : k + 1 ≤ rm.cells) (hn : n + N ≤ rm.slots) (kk : ∀ q, h q = none → XX g M rm Q (k + 1) (n + N) (pc + 2) L (.ref q :: st) (hset h q (Ai false 0 N (fun _ => 0)))) : XX g M rm Q k n pc L (.int x :: st) h := by
  intro p l e s m args below meth c locs H ls C hl hA hS
  subst hx
  refine va_newa (atype := .int) (ty := .int) (N' := N) (a0 := (N, .inl (fun _ => 0))) C.1 C.2.1 (C.ws _ q170) rfl C.K hA.P hA.D hS C.A (fun cA => rfl) (nI_pos (by omega)) (nI_clamp (by omega)) (by simp [componentBytes]; omega) hk hn hdg (fun q cA H1 hK1 hP1 hD1 hS1 => ?_)
  have e1 : s.vm.findClass ("[" ++ FieldType.toString .int) = some cA := (hK1.2 9 (cA, .int) rfl).2
  have e2 : s.vm.findClass ("[" ++ FieldType.toString .int) = some (gC g 0) := (C.K.2 0 (gC g 0, .int) rfl).2
  cases Option.some.inj (e1.symm.trans e2)
  obtain ⟨h1, -, h3⟩ := hA.push (c := Ai false 0 N (fun _ => 0)) rfl (fun e => by cases e) hP1 hD1 C.z hS hS1
  exact kk q h1 p l e s m args below meth c locs H1 ls C hl h3 hS1
theorem X_new_long {x : Int32} (N : Nat) (hdg : decode M.2.1 pc = .ok (.newarray .long, 2)) (hx : x = nI N) (hb : N < 60000000) (hk : k + 1 ≤ rm.cells) (hn : n + N ≤ rm.slots) (kk : ∀ q, h q = none → XX g M rm Q (k + 1) (n + N) (pc + 2) L (.ref q :: st) (hset h q (Al false N (fun _ => 0)))) : XX g M rm Q k n pc L (.int x :: st) h := by
  intro p l e s m args below meth c locs H ls C hl hA hS
  subst hx
  refine va_newa (atype := .long) (ty := .long) (N' := N) (a0 := (N, .inr (.inl (fun _ => 0)))) C.1 C.2.1 (C.ws _ q188) rfl C.K hA.P hA.D hS C.A (fun cA => rfl) (nI_pos (by omega)) (nI_clamp (by omega)) (by simp [componentBytes]; omega) hk hn hdg (fun q cA H1 hK1 hP1 hD1 hS1 => ?_)
  have e1 : s.vm.findClass ("[" ++ FieldType.toString .long) = some cA := (hK1.2 9 (cA, .long) rfl).2
  have e2 : s.vm.findClass ("[" ++ FieldType.toString .long) = some (gC g 1) := (C.K.2 1 (gC g 1, .long) rfl).2
  cases Option.some.inj (e1.symm.trans e2)
  obtain ⟨h1, -, h3⟩ := hA.push (c := Al false N (fun _ => 0)) rfl trivial hP1 hD1 C.z hS hS1
  exact kk q h1 p l e s m args below meth c locs H1 ls C hl h3 hS1
theorem X_new_byte {x : Int32} (N : Nat) (hdg : decode M.2.1 pc = .ok (.newarray .byte, 2)) (hx : x = nI N) (hb : N < 60000000) (hk : k + 1 ≤ rm.cells) (hn : n + N ≤ rm.slots) (kk : ∀ q, h q = none → XX g M rm Q (k + 1) (n + N) (pc + 2) L (.ref q :: st) (hset h q (Ai false 2 N (fun _ => 0)))) : XX g M rm Q k n pc L (.int x :: st) h := by
  intro p l e s m args below meth c locs H ls C hl hA hS
  subst hx
  refine va_newa (atype := .byte) (ty := .byte) (N' := N) (a0 := (N, .inl (fun _ => 0))) C.1 C.2.1 (C.ws _ q169) rfl C.K hA.P hA.D hS C.A (fun cA => rfl) (nI_pos (by omega)) (nI_clamp (by omega)) (by simp [componentBytes]; omega) hk hn hdg (fun q cA H1 hK1 hP1 hD1 hS1 => ?_)
  have e1 : s.vm.findClass ("[" ++ FieldType.toString .byte) = some cA := (hK1.2 9 (cA, .byte) rfl).2
  have e2 : s.vm.findClass ("[" ++ FieldType.toString .byte) = some (gC g 2) := (C.K.2 2 (gC g 2, .byte) rfl).2
  cases Option.some.inj (e1.symm.trans e2)
  obtain ⟨h1, -, h3⟩ := hA.push (c := Ai false 2 N (fun _ => 0)) rfl (fun _ j hj => rfl) hP1 hD1 C.z hS hS1
  exact kk q h1 p l e s m args below meth c locs H1 ls C hl h3 hS1
theorem X_new_boolean {x : Int32} (N : Nat) (hdg : decode M.2.1 pc = .ok (.newarray .boolean, 2)) (hx : x = nI N) (hb : N < 60000000) (hk : k + 1 ≤ rm.cells) (hn : n + N ≤ rm.slots) (kk : ∀ q, h q = none → XX g M rm Q (k + 1) (n + N) (pc + 2) L (.ref q :: st) (hset h q (Ai false 3 N (fun _ => 0)))) : XX g M rm Q k n pc L (.int x :: st) h := by
  intro p l e s m args below meth c locs H ls C hl hA hS
  subst hx
  refine va_newa (atype := .boolean) (ty := .boolean) (N' := N) (a0 := (N, .inl (fun _ => 0))) C.1 C.2.1 (C.ws _ q1698) rfl C.K hA.P hA.D hS C.A (fun cA => rfl) (nI_pos (by omega)) (nI_clamp (by omega)) (by simp [componentBytes]; omega) hk hn hdg (fun q cA H1 hK1 hP1 hD1 hS1 => ?_)
  have e1 : s.vm.findClass ("[" ++ FieldType.toString .boolean) = some cA := (hK1.2 9 (cA, .boolean) rfl).2
  have e2 : s.vm.findClass ("[" ++ FieldType.toString .boolean) = some (gC g 3) := (C.K.2 3 (gC g 3, .boolean) rfl).2
  cases Option.some.inj (e1.symm.trans e2)
  obtain ⟨h1, -, h3⟩ := hA.push (c := Ai false 3 N (fun _ => 0)) rfl (fun e => by cases e) hP1 hD1 C.z hS hS1
  exact kk q h1 p l e s m args below meth c locs H1 ls C hl h3 hS1
theorem X_new {ci idx : Nat} {D : String} {T : u_T} {N : Nat} {fs : List Value} (ty : Nat → FieldType) (hdg : decode M.2.1 pc = .ok (.new idx, 3)) (h1 : vwCl[ci]? = some (D, T, N)) (h2 : ∀ w ∈ u_ws D T N, w ∈ lw_all) (hty : ∀ k, k < N → parseFieldDescriptor (T k).2.2.1 = some (ty k)) (hcl : Cond.classLink M.1.cls idx D ∈ lw_all) (hin : Cond.instantiable D N ∈ lw_all) (hini : Cond.initialized D ∈ lw_all) (hfs : ∀ j, j < N → defaultValue (ty j) = vp_V fs j) (hk : k + 1 ≤ rm.cells) (hn : n + N ≤ rm.slots) (kk : ∀ q, h q = none → XX g M rm Q (k + 1) (n + N) (pc + 3) L (.ref q :: st) (hset h q (Ob ci fs))) : XX g M rm Q k n pc L st h := by
  intro p l e s m args below meth c locs H ls C hl hA hS
  refine va_new C.1 C.2.1 C.ws h2 ty hty C.own (C.ws _ hcl) (C.ws _ hin) (C.ws _ hini) C.K hA.P hA.D hS C.A h1 hfs hk hn hdg (fun q H1 hP1 hD1 hS1 => ?_)
  obtain ⟨g1, -, g3⟩ := hA.push (c := Ob ci fs) rfl trivial hP1 hD1 C.z hS hS1
  exact kk q g1 p l e s m args below meth c locs H1 ls C hl g3 hS1
theorem X_newref {x : Int32} (N tag idx : Nat) {D : String} (hdg : decode M.2.1 pc = .ok (.anewarray idx, 3)) (hcl : Cond.classLink M.1.cls idx D ∈ lw_all) (hov : Cond.arrayOver (.object D) ∈ lw_tbl) (ht : ∀ g : GX, (gT g)[tag]? = some (gC g tag, .object D)) (hx : x = nI N) (hb : N < 60000000) (hk : k + 1 ≤ rm.cells) (hn : n + N ≤ rm.slots) (kk : ∀ q, h q = none → XX g M rm Q (k + 1) (n + N) (pc + 3) L (.ref q :: st) (hset h q (Ar tag N (fun _ => none)))) : XX g M rm Q k n pc L (.int x :: st) h := by
  intro p l e s m args below meth c locs H ls C hl hA hS
  subst hx
  refine va_newq C.1 C.2.1 C.own (C.ws _ hcl) (C.ok.2.1 _ hov rfl) C.K hA.P hA.D hS C.A (nI_pos (by omega)) (nI_clamp (by omega)) (by omega) hk hn hdg (fun q cA H1 hK1 hP1 hD1 hS1 => ?_)
  have e1 : va_RA s cA (.object D) := (hK1.2 9 (cA, .object D) rfl).2
  have e2 : va_RA s (gC g tag) (.object D) := (C.K.2 tag (gC g tag, .object D) (ht g)).2
  obtain ⟨-, -, -, -, -, e1⟩ := e1
  obtain ⟨-, -, -, -, -, e2⟩ := e2
  cases Option.some.inj (e1.symm.trans e2)
  obtain ⟨h1, -, h3⟩ := hA.push (c := Ar tag N (fun _ => none)) rfl trivial hP1 hD1 C.z hS hS1
  exact kk q h1 p l e s m args below meth c locs H1 ls C hl h3 hS1
theorem X_objInit {a idx : Nat} (hdg : decode M.2.1 pc = .ok (.invokespecial idx, 3)) (hl : Cond.methodLink M.1.cls idx objectInit ∈ lw_all) (hi : Cond.instanceMethod objectInit ∈ lw_all) (hcd : Cond.code objectInit ⟨#[0xb1]⟩ 1 none ∈ lw_all) (hf : 1 ≤ rm.frames) (hlo : (st.map fun v => v.category).sum + 12 ≤ rm.locals) (kk : XX g M rm Q k n (pc + 3) L st h) : XX g M rm Q k n pc L (.ref a :: st) h := by
  intro p l e s m args below meth c locs H ls C hl' hA hS
  exact W.objInit C.1 C.2.1 C.own (C.ws _ hl) (C.ws _ hi) (C.ws _ hcd) rfl (by rw [C.2.2.1]; exact hl'.1) rfl hdg hf (by simpa [JFrame.monitorRoom] using hlo) (kk p l e s m args below meth c locs H ls C hl' hA hS)
theorem X_getstatic {idx j : Nat} {D nm d : String} {c0 : AC} (hdg : decode M.2.1 pc = .ok (.getstatic idx, 3)) (hlk : Cond.fieldLink M.1.cls idx D nm d ∈ lw_all) (ht : ∀ g : GX, (statV g)[j]? = some (D, nm, d, .ref (gS g j))) (hc0 : stC j = some c0) (kk : ∀ a, h a = some c0 → XX g M rm Q k n (pc + 3) L (.ref a :: st) h) : XX g M rm Q k n pc L st h := by
  intro p l e s m args below meth c locs H ls C hl hA hS
  have hz := C.ok.2.2.2.1 _ (List.mem_of_getElem? (ht g))
  have ha : h (gS g j) = some c0 := (hA.2.2 _ _ (C.ok.2.2.2.2.2.1 j c0 hc0)).1
  exact va_gets C.1 C.2.1 hz hS C.own (C.ws _ hlk) (fun _ hx => hx) hdg (kk _ ha p l e s m args below meth c locs H ls C hl hA hS)
theorem X_getstaticV {idx j : Nat} {D nm d : String} {v : Value} (hdg : decode M.2.1 pc = .ok (.getstatic idx, 3)) (hlk : Cond.fieldLink M.1.cls idx D nm d ∈ lw_all) (ht : ∀ g : GX, (statV g)[j]? = some (D, nm, d, v)) (kk : XX g M rm Q k n (pc + 3) L (v :: st) h) : XX g M rm Q k n pc L st h := by
  intro p l e s m args below meth c locs H ls C hl hA hS
  have hz := C.ok.2.2.2.1 _ (List.mem_of_getElem? (ht g))
  exact va_gets C.1 C.2.1 hz hS C.own (C.ws _ hlk) (fun _ hx => hx) hdg (kk p l e s m args below meth c locs H ls C hl hA hS)
theorem X_ldcS {idx j : Nat} {tx : String} (hdg : decode M.2.1 pc = .ok (.ldc idx, 2)) (hj : strT[j]? = some (M.1.cls, idx, tx)) (kk : ∀ a v, h a = some (Sg v (chars tx)) → XX g M rm Q k n (pc + 2) L (.ref a :: st) h) : XX g M rm Q k n pc L st h := by
  intro p l e s m args below meth c locs H ls C hl hA hS
  obtain ⟨h1, v, h2⟩ := C.ok.2.2.2.2.1 j _ hj
  have ha : h (gX g j) = some (Sg v (chars tx)) := (hA.2.2 _ _ h2).1
  exact va_ldcS C.1 C.2.1 C.own h1 hdg (kk _ v ha p l e s m args below meth c locs H ls C hl hA hS)
theorem X_aret {v : Value} {rt : FieldType} (hdg : decode M.2.1 pc = .ok (.areturn, 1)) (hr : M.2.2.2.1 = some rt) (hrt : (∃ n, rt = .object n) ∨ ∃ t, rt = .array t) (hv : v = .null ∨ ∃ a, v = .ref a) (hk : k ≤ rm.cells) (hn : n ≤ rm.slots) (hq : Q (.returned (some v)) h) : XX g M rm Q k n pc L [v] h := by
  intro p l e s m args below meth c locs H ls C hl hA hS
  refine W.widen hk hn (W.mono MQ2.of ?_)
  exact W.aret C.1 C.2.1 (C.2.2.2.1.trans hr) hrt hv (QQ.of (p := p) (m := m) (meth := meth) (c := c) hA hS hq) hS.2.2 hdg C.2.2.2.2.1
/-- the heap's known cells may be said otherwise -/
theorem XX.sub {h' : AH} (hs : ∀ a c, h' a = some c → h a = some c) (hr : ∀ a c, h a = some c → trc g c = none → h' a = some c) (kk : XX g M rm Q k n pc L st h') : XX g M rm Q k n pc L st h := by
  intro p l e s m args below meth c locs H ls C hl hA hS
  exact kk p l e s m args below meth c locs H ls C hl (hA.sub hs fun a c0 h0 => hr a c0 (hA.2.2 a c0 h0).1 (hA.2.2 a c0 h0).2) hS
theorem XX.congrI {a tag N : Nat} {f f' : Nat → Int32} (hc : h a = some (Ai false tag N f)) (hf : ∀ j, j < N → f j = f' j) (kk : XX g M rm Q k n pc L st (hset h a (Ai false tag N f'))) : XX g M rm Q k n pc L st h := by
  intro p l e s m args below meth c locs H ls C hl hA hS
  exact kk p l e s m args below meth c locs H ls C hl (hA.congrI hc hf) hS
theorem XX.congrL {a N : Nat} {f f' : Nat → Int64} (hc : h a = some (Al false N f)) (hf : ∀ j, j < N → f j = f' j) (kk : XX g M rm Q k n pc L st (hset h a (Al false N f'))) : XX g M rm Q k n pc L st h := by
  intro p l e s m args below meth c locs H ls C hl hA hS
  exact kk p l e s m args below meth c locs H ls C hl (hA.congrL hc hf) hS
theorem XX.eqh {h' : AH} (e : h = h') (kk : XX g M rm Q k n pc L st h') : XX g M rm Q k n pc L st h := e ▸ kk
theorem XX.wide {k' n' : Nat} (h1 : k ≤ k') (h2 : n ≤ n') (kk : XX g M rm Q k' n' pc L st h) : XX g M rm Q k n pc L st h := fun p l e s m args below meth c locs H ls C hl hA hS => W.widen h1 h2 (kk p l e s m args below meth c locs H ls C hl hA hS)
theorem XX.locals {L' : List (Nat × Value)} (hs : ∀ q ∈ L', q ∈ L) (kk : XX g M rm Q k n pc L' st h) : XX g M rm Q k n pc L st h := fun p l e s m args below meth c locs H ls C hl hA hS => kk p l e s m args below meth c locs H ls C ⟨hl.1, hl.2.1, fun q hq => hl.2.2 q (hs q hq)⟩ hA hS
end XR
