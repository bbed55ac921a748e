/-! ===== rows of the instructions that touch no heap (printed by gen/mkrows.py) ===== -/
section
variable {g : Gl} {M : MI} {d : Nat} {Q : Outcome → AH → Prop} {pc : Nat} {ls : List (Option Value)} {st : List Value} {h : AH}
theorem a_iconst {n : Int} {v : Int32} (hd : decode M.2.1 pc = .ok (.iconst n, 1)) (hv : Int32.ofInt n = v) (k : AW g M d Q (pc + 1) ls (.int v :: st) h) : AW g M d Q pc ls (st) h :=
  fun p e R s m args below meth c h0 H locs lC hC hR hL => lv_iconst hC.1 hC.2.1 hd hv (k p e R s m args below meth c h0 H locs lC hC hR hL)
theorem a_bipush {n : Int} {v : Int32} (hd : decode M.2.1 pc = .ok (.bipush n, 2)) (hv : (Int8.ofInt n).toInt32 = v) (k : AW g M d Q (pc + 2) ls (.int v :: st) h) : AW g M d Q pc ls (st) h :=
  fun p e R s m args below meth c h0 H locs lC hC hR hL => lv_bipush hC.1 hC.2.1 hd hv (k p e R s m args below meth c h0 H locs lC hC hR hL)
theorem a_sipush {n : Int} {v : Int32} (hd : decode M.2.1 pc = .ok (.sipush n, 3)) (hv : (Int16.ofInt n).toInt32 = v) (k : AW g M d Q (pc + 3) ls (.int v :: st) h) : AW g M d Q pc ls (st) h :=
  fun p e R s m args below meth c h0 H locs lC hC hR hL => lv_sipush hC.1 hC.2.1 hd hv (k p e R s m args below meth c h0 H locs lC hC hR hL)
theorem a_lconst {n : Fin 2} {v : Int64} (hd : decode M.2.1 pc = .ok (.lconst n, 1)) (hv : Int64.ofNat (n : Nat) = v) (k : AW g M d Q (pc + 1) ls (.long v :: st) h) : AW g M d Q pc ls (st) h :=
  fun p e R s m args below meth c h0 H locs lC hC hR hL => lv_lconst hC.1 hC.2.1 hd hv (k p e R s m args below meth c h0 H locs lC hC hR hL)
theorem a_null  (hd : decode M.2.1 pc = .ok (.aconst_null, 1))  (k : AW g M d Q (pc + 1) ls (.null :: st) h) : AW g M d Q pc ls (st) h :=
  fun p e R s m args below meth c h0 H locs lC hC hR hL => lv_null hC.1 hC.2.1 hd  (k p e R s m args below meth c h0 H locs lC hC hR hL)
theorem a_iload_n {kk : Fin 4} {i : Nat} {x : Int32} (hd : decode M.2.1 pc = .ok (.iload_n kk, 1)) (hi : (kk : Nat) = i) (hl : lget ls i = some (.int x)) (k : AW g M d Q (pc + 1) ls (.int x :: st) h) : AW g M d Q pc ls (st) h :=
  fun p e R s m args below meth c h0 H locs lC hC hR hL => lv_iload_n hC.1 hC.2.1 hd hi (hL.2.2 _ _ hl) (k p e R s m args below meth c h0 H locs lC hC hR hL)
theorem a_iload {i : Nat} {x : Int32} (hd : decode M.2.1 pc = .ok (.iload i, 2)) (hl : lget ls i = some (.int x)) (k : AW g M d Q (pc + 2) ls (.int x :: st) h) : AW g M d Q pc ls (st) h :=
  fun p e R s m args below meth c h0 H locs lC hC hR hL => lv_iload hC.1 hC.2.1 hd (hL.2.2 _ _ hl) (k p e R s m args below meth c h0 H locs lC hC hR hL)
theorem a_lload_n {kk : Fin 4} {i : Nat} {x : Int64} (hd : decode M.2.1 pc = .ok (.lload_n kk, 1)) (hi : (kk : Nat) = i) (hl : lget ls i = some (.long x)) (k : AW g M d Q (pc + 1) ls (.long x :: st) h) : AW g M d Q pc ls (st) h :=
  fun p e R s m args below meth c h0 H locs lC hC hR hL => lv_lload_n hC.1 hC.2.1 hd hi (hL.2.2 _ _ hl) (k p e R s m args below meth c h0 H locs lC hC hR hL)
theorem a_lload {i : Nat} {x : Int64} (hd : decode M.2.1 pc = .ok (.lload i, 2)) (hl : lget ls i = some (.long x)) (k : AW g M d Q (pc + 2) ls (.long x :: st) h) : AW g M d Q pc ls (st) h :=
  fun p e R s m args below meth c h0 H locs lC hC hR hL => lv_lload hC.1 hC.2.1 hd (hL.2.2 _ _ hl) (k p e R s m args below meth c h0 H locs lC hC hR hL)
theorem a_aload_n {kk : Fin 4} {i : Nat} {x : Nat} (hd : decode M.2.1 pc = .ok (.aload_n kk, 1)) (hi : (kk : Nat) = i) (hl : lget ls i = some (.ref x)) (k : AW g M d Q (pc + 1) ls (.ref x :: st) h) : AW g M d Q pc ls (st) h :=
  fun p e R s m args below meth c h0 H locs lC hC hR hL => lv_aload_n hC.1 hC.2.1 hd hi (hL.2.2 _ _ hl) (k p e R s m args below meth c h0 H locs lC hC hR hL)
theorem a_aload {i : Nat} {x : Nat} (hd : decode M.2.1 pc = .ok (.aload i, 2)) (hl : lget ls i = some (.ref x)) (k : AW g M d Q (pc + 2) ls (.ref x :: st) h) : AW g M d Q pc ls (st) h :=
  fun p e R s m args below meth c h0 H locs lC hC hR hL => lv_aload hC.1 hC.2.1 hd (hL.2.2 _ _ hl) (k p e R s m args below meth c h0 H locs lC hC hR hL)
theorem a_aload_nN {kk : Fin 4} {i : Nat} (hd : decode M.2.1 pc = .ok (.aload_n kk, 1)) (hi : (kk : Nat) = i) (hl : lget ls i = some .null) (k : AW g M d Q (pc + 1) ls (.null :: st) h) : AW g M d Q pc ls (st) h :=
  fun p e R s m args below meth c h0 H locs lC hC hR hL => lv_aload_nN hC.1 hC.2.1 hd hi (hL.2.2 _ _ hl) (k p e R s m args below meth c h0 H locs lC hC hR hL)
theorem a_iadd {x y : Int32} (hd : decode M.2.1 pc = .ok (.iadd, 1))  (k : AW g M d Q (pc + 1) ls (.int (x + y) :: st) h) : AW g M d Q pc ls (.int y :: .int x :: st) h :=
  fun p e R s m args below meth c h0 H locs lC hC hR hL => lv_iadd hC.1 hC.2.1 hd  (k p e R s m args below meth c h0 H locs lC hC hR hL)
theorem a_isub {x y : Int32} (hd : decode M.2.1 pc = .ok (.isub, 1))  (k : AW g M d Q (pc + 1) ls (.int (x - y) :: st) h) : AW g M d Q pc ls (.int y :: .int x :: st) h :=
  fun p e R s m args below meth c h0 H locs lC hC hR hL => lv_isub hC.1 hC.2.1 hd  (k p e R s m args below meth c h0 H locs lC hC hR hL)
theorem a_imul {x y : Int32} (hd : decode M.2.1 pc = .ok (.imul, 1))  (k : AW g M d Q (pc + 1) ls (.int (x * y) :: st) h) : AW g M d Q pc ls (.int y :: .int x :: st) h :=
  fun p e R s m args below meth c h0 H locs lC hC hR hL => lv_imul hC.1 hC.2.1 hd  (k p e R s m args below meth c h0 H locs lC hC hR hL)
theorem a_iand {x y : Int32} (hd : decode M.2.1 pc = .ok (.iand, 1))  (k : AW g M d Q (pc + 1) ls (.int (x &&& y) :: st) h) : AW g M d Q pc ls (.int y :: .int x :: st) h :=
  fun p e R s m args below meth c h0 H locs lC hC hR hL => lv_iand hC.1 hC.2.1 hd  (k p e R s m args below meth c h0 H locs lC hC hR hL)
theorem a_ior {x y : Int32} (hd : decode M.2.1 pc = .ok (.ior, 1))  (k : AW g M d Q (pc + 1) ls (.int (x ||| y) :: st) h) : AW g M d Q pc ls (.int y :: .int x :: st) h :=
  fun p e R s m args below meth c h0 H locs lC hC hR hL => lv_ior hC.1 hC.2.1 hd  (k p e R s m args below meth c h0 H locs lC hC hR hL)
theorem a_ixor {x y : Int32} (hd : decode M.2.1 pc = .ok (.ixor, 1))  (k : AW g M d Q (pc + 1) ls (.int (x ^^^ y) :: st) h) : AW g M d Q pc ls (.int y :: .int x :: st) h :=
  fun p e R s m args below meth c h0 H locs lC hC hR hL => lv_ixor hC.1 hC.2.1 hd  (k p e R s m args below meth c h0 H locs lC hC hR hL)
theorem a_ishl {x y : Int32} (hd : decode M.2.1 pc = .ok (.ishl, 1))  (k : AW g M d Q (pc + 1) ls (.int (x <<< (y &&& 31)) :: st) h) : AW g M d Q pc ls (.int y :: .int x :: st) h :=
  fun p e R s m args below meth c h0 H locs lC hC hR hL => lv_ishl hC.1 hC.2.1 hd  (k p e R s m args below meth c h0 H locs lC hC hR hL)
theorem a_ishr {x y : Int32} (hd : decode M.2.1 pc = .ok (.ishr, 1))  (k : AW g M d Q (pc + 1) ls (.int (x >>> (y &&& 31)) :: st) h) : AW g M d Q pc ls (.int y :: .int x :: st) h :=
  fun p e R s m args below meth c h0 H locs lC hC hR hL => lv_ishr hC.1 hC.2.1 hd  (k p e R s m args below meth c h0 H locs lC hC hR hL)
theorem a_idiv {x y : Int32} (hd : decode M.2.1 pc = .ok (.idiv, 1)) (hne : ¬ y = 0) (k : AW g M d Q (pc + 1) ls (.int (x / y) :: st) h) : AW g M d Q pc ls (.int y :: .int x :: st) h :=
  fun p e R s m args below meth c h0 H locs lC hC hR hL => lv_idiv hC.1 hC.2.1 hd hne (k p e R s m args below meth c h0 H locs lC hC hR hL)
theorem a_irem {x y : Int32} (hd : decode M.2.1 pc = .ok (.irem, 1)) (hne : ¬ y = 0) (k : AW g M d Q (pc + 1) ls (.int (x - x / y * y) :: st) h) : AW g M d Q pc ls (.int y :: .int x :: st) h :=
  fun p e R s m args below meth c h0 H locs lC hC hR hL => lv_irem hC.1 hC.2.1 hd hne (k p e R s m args below meth c h0 H locs lC hC hR hL)
theorem a_ineg {x : Int32} (hd : decode M.2.1 pc = .ok (.ineg, 1))  (k : AW g M d Q (pc + 1) ls (.int (-x) :: st) h) : AW g M d Q pc ls (.int x :: st) h :=
  fun p e R s m args below meth c h0 H locs lC hC hR hL => lv_ineg hC.1 hC.2.1 hd  (k p e R s m args below meth c h0 H locs lC hC hR hL)
theorem a_iushr {x y : Int32} (hd : decode M.2.1 pc = .ok (.iushr, 1))  (k : AW g M d Q (pc + 1) ls (.int (x.toUInt32 >>> (y.toUInt32 &&& Int32.toUInt32 31)).toInt32 :: st) h) : AW g M d Q pc ls (.int y :: .int x :: st) h :=
  fun p e R s m args below meth c h0 H locs lC hC hR hL => lv_iushr hC.1 hC.2.1 hd rfl (k p e R s m args below meth c h0 H locs lC hC hR hL)
theorem a_i2l {x : Int32} (hd : decode M.2.1 pc = .ok (.i2l, 1))  (k : AW g M d Q (pc + 1) ls (.long x.toInt64 :: st) h) : AW g M d Q pc ls (.int x :: st) h :=
  fun p e R s m args below meth c h0 H locs lC hC hR hL => lv_i2l hC.1 hC.2.1 hd rfl (k p e R s m args below meth c h0 H locs lC hC hR hL)
theorem a_l2i {x : Int64} (hd : decode M.2.1 pc = .ok (.l2i, 1))  (k : AW g M d Q (pc + 1) ls (.int x.toInt32 :: st) h) : AW g M d Q pc ls (.long x :: st) h :=
  fun p e R s m args below meth c h0 H locs lC hC hR hL => lv_l2i hC.1 hC.2.1 hd rfl (k p e R s m args below meth c h0 H locs lC hC hR hL)
theorem a_i2b {x : Int32} (hd : decode M.2.1 pc = .ok (.i2b, 1))  (k : AW g M d Q (pc + 1) ls (.int x.toInt8.toInt32 :: st) h) : AW g M d Q pc ls (.int x :: st) h :=
  fun p e R s m args below meth c h0 H locs lC hC hR hL => lv_i2b hC.1 hC.2.1 hd rfl (k p e R s m args below meth c h0 H locs lC hC hR hL)
theorem a_i2s {x : Int32} (hd : decode M.2.1 pc = .ok (.i2s, 1))  (k : AW g M d Q (pc + 1) ls (.int x.toInt16.toInt32 :: st) h) : AW g M d Q pc ls (.int x :: st) h :=
  fun p e R s m args below meth c h0 H locs lC hC hR hL => lv_i2s hC.1 hC.2.1 hd rfl (k p e R s m args below meth c h0 H locs lC hC hR hL)
theorem a_land {x y : Int64} (hd : decode M.2.1 pc = .ok (.land, 1))  (k : AW g M d Q (pc + 1) ls (.long (x &&& y) :: st) h) : AW g M d Q pc ls (.long y :: .long x :: st) h :=
  fun p e R s m args below meth c h0 H locs lC hC hR hL => lv_land hC.1 hC.2.1 hd  (k p e R s m args below meth c h0 H locs lC hC hR hL)
theorem a_lor {x y : Int64} (hd : decode M.2.1 pc = .ok (.lor, 1))  (k : AW g M d Q (pc + 1) ls (.long (x ||| y) :: st) h) : AW g M d Q pc ls (.long y :: .long x :: st) h :=
  fun p e R s m args below meth c h0 H locs lC hC hR hL => lv_lor hC.1 hC.2.1 hd  (k p e R s m args below meth c h0 H locs lC hC hR hL)
theorem a_lshl {x : Int64} {y : Int32} (hd : decode M.2.1 pc = .ok (.lshl, 1))  (k : AW g M d Q (pc + 1) ls (.long (x <<< (y.toInt64 &&& 63)) :: st) h) : AW g M d Q pc ls (.int y :: .long x :: st) h :=
  fun p e R s m args below meth c h0 H locs lC hC hR hL => lv_lshl hC.1 hC.2.1 hd rfl (k p e R s m args below meth c h0 H locs lC hC hR hL)
theorem a_lshr {x : Int64} {y : Int32} (hd : decode M.2.1 pc = .ok (.lshr, 1))  (k : AW g M d Q (pc + 1) ls (.long (x >>> (y.toInt64 &&& 63)) :: st) h) : AW g M d Q pc ls (.int y :: .long x :: st) h :=
  fun p e R s m args below meth c h0 H locs lC hC hR hL => lv_lshr hC.1 hC.2.1 hd rfl (k p e R s m args below meth c h0 H locs lC hC hR hL)
theorem a_lcmp {x y : Int64} (hd : decode M.2.1 pc = .ok (.lcmp, 1))  (k : AW g M d Q (pc + 1) ls (.int (lg_cmp x y) :: st) h) : AW g M d Q pc ls (.long y :: .long x :: st) h :=
  fun p e R s m args below meth c h0 H locs lC hC hR hL => W.lcmp hC.1 hC.2.1 hd  (k p e R s m args below meth c h0 H locs lC hC hR hL)
theorem a_dup {va : Value} (hd : decode M.2.1 pc = .ok (.dup, 1)) (hva : va.category = 1) (k : AW g M d Q (pc + 1) ls (va :: va :: st) h) : AW g M d Q pc ls (va :: st) h :=
  fun p e R s m args below meth c h0 H locs lC hC hR hL => lv_dup hC.1 hC.2.1 hd (by rw [trv_cat]; exact hva) (k p e R s m args below meth c h0 H locs lC hC hR hL)
theorem a_pop {va : Value} (hd : decode M.2.1 pc = .ok (.pop, 1)) (hva : va.category = 1) (k : AW g M d Q (pc + 1) ls (st) h) : AW g M d Q pc ls (va :: st) h :=
  fun p e R s m args below meth c h0 H locs lC hC hR hL => lv_pop hC.1 hC.2.1 hd (by rw [trv_cat]; exact hva) (k p e R s m args below meth c h0 H locs lC hC hR hL)
theorem a_dup2 {va vb : Value} (hd : decode M.2.1 pc = .ok (.dup2, 1)) (hva : va.category = 1) (hvb : vb.category = 1) (k : AW g M d Q (pc + 1) ls (va :: vb :: va :: vb :: st) h) : AW g M d Q pc ls (va :: vb :: st) h :=
  fun p e R s m args below meth c h0 H locs lC hC hR hL => lv_dup2_11 hC.1 hC.2.1 hd (by rw [trv_cat]; exact hva) (by rw [trv_cat]; exact hvb) (k p e R s m args below meth c h0 H locs lC hC hR hL)
theorem a_dup_x1 {va vb : Value} (hd : decode M.2.1 pc = .ok (.dup_x1, 1)) (hva : va.category = 1) (hvb : vb.category = 1) (k : AW g M d Q (pc + 1) ls (va :: vb :: va :: st) h) : AW g M d Q pc ls (va :: vb :: st) h :=
  fun p e R s m args below meth c h0 H locs lC hC hR hL => lv_dup_x1 hC.1 hC.2.1 hd (by rw [trv_cat]; exact hva) (by rw [trv_cat]; exact hvb) (k p e R s m args below meth c h0 H locs lC hC hR hL)
theorem a_dup_x2 {va vb vd : Value} (hd : decode M.2.1 pc = .ok (.dup_x2, 1)) (hva : va.category = 1) (hvb : vb.category = 1) (hvd : vd.category = 1) (k : AW g M d Q (pc + 1) ls (va :: vb :: vd :: va :: st) h) : AW g M d Q pc ls (va :: vb :: vd :: st) h :=
  fun p e R s m args below meth c h0 H locs lC hC hR hL => lv_dup_x2 hC.1 hC.2.1 hd (by rw [trv_cat]; exact hva) (by rw [trv_cat]; exact hvb) (by rw [trv_cat]; exact hvd) (k p e R s m args below meth c h0 H locs lC hC hR hL)
theorem a_ldc {i : Nat} {v : Int32} (hd : decode M.2.1 pc = .ok (.ldc i, 2)) (hc : Cond.constant M.1.cls i v ∈ lw_all) (k : AW g M d Q (pc + 2) ls (.int v :: st) h) : AW g M d Q pc ls st h :=
  fun p e R s m args below meth c h0 H locs lC hC hR hL => lv_ldc hC.1 hC.2.1 hC.2.2.2.2.2.2.2.1 (hC.2.2.2.2.2.2.2.2.1.1.1 _ hc _) hd (k p e R s m args below meth c h0 H locs lC hC hR hL)
theorem a_ldcw {i : Nat} {v : Int32} (hd : decode M.2.1 pc = .ok (.ldc_w i, 3)) (hc : Cond.constant M.1.cls i v ∈ lw_all) (k : AW g M d Q (pc + 3) ls (.int v :: st) h) : AW g M d Q pc ls st h :=
  fun p e R s m args below meth c h0 H locs lC hC hR hL => lv_ldcw hC.1 hC.2.1 hC.2.2.2.2.2.2.2.1 (hC.2.2.2.2.2.2.2.2.1.1.1 _ hc _) hd (k p e R s m args below meth c h0 H locs lC hC hR hL)
theorem a_ldc2 {i : Nat} {v : Int64} (hd : decode M.2.1 pc = .ok (.ldc2_w i, 3)) (hc : Cond.constantLong M.1.cls i v ∈ lw_all) (k : AW g M d Q (pc + 3) ls (.long v :: st) h) : AW g M d Q pc ls st h :=
  fun p e R s m args below meth c h0 H locs lC hC hR hL => lv_ldc2 hC.1 hC.2.1 hC.2.2.2.2.2.2.2.1 (hC.2.2.2.2.2.2.2.2.1.1.1 _ hc _) hd (k p e R s m args below meth c h0 H locs lC hC hR hL)
theorem a_istore_n {kk : Fin 4} {i : Nat} {x : Int32} (hd : decode M.2.1 pc = .ok (.istore_n kk, 1)) (hi : (kk : Nat) = i) (hn : i < M.2.2.1) (ho : noL ls i = true) (k : AW g M d Q (pc + 1) (lset ls i (.int x)) st h) : AW g M d Q pc ls (.int x :: st) h :=
  fun p e R s m args below meth c h0 H locs lC hC hR hL => lv_istore_n hC.1 hC.2.1 hd hi hL.has hn rfl (fun lC hl => k p e R s m args below meth c h0 H locs lC hC hR (LsOK.set rfl ho hl))
theorem a_istore {i : Nat} {x : Int32} (hd : decode M.2.1 pc = .ok (.istore i, 2))  (hn : i < M.2.2.1) (ho : noL ls i = true) (k : AW g M d Q (pc + 2) (lset ls i (.int x)) st h) : AW g M d Q pc ls (.int x :: st) h :=
  fun p e R s m args below meth c h0 H locs lC hC hR hL => lv_istore hC.1 hC.2.1 hd  hL.has hn rfl (fun lC hl => k p e R s m args below meth c h0 H locs lC hC hR (LsOK.set rfl ho hl))
theorem a_astore_n {kk : Fin 4} {i : Nat} {x : Nat} (hd : decode M.2.1 pc = .ok (.astore_n kk, 1)) (hi : (kk : Nat) = i) (hn : i < M.2.2.1) (ho : noL ls i = true) (k : AW g M d Q (pc + 1) (lset ls i (.ref x)) st h) : AW g M d Q pc ls (.ref x :: st) h :=
  fun p e R s m args below meth c h0 H locs lC hC hR hL => lv_astore_n hC.1 hC.2.1 hd hi hL.has hn rfl (fun lC hl => k p e R s m args below meth c h0 H locs lC hC hR (LsOK.set rfl ho hl))
theorem a_astore {i : Nat} {x : Nat} (hd : decode M.2.1 pc = .ok (.astore i, 2))  (hn : i < M.2.2.1) (ho : noL ls i = true) (k : AW g M d Q (pc + 2) (lset ls i (.ref x)) st h) : AW g M d Q pc ls (.ref x :: st) h :=
  fun p e R s m args below meth c h0 H locs lC hC hR hL => lv_astore hC.1 hC.2.1 hd  hL.has hn rfl (fun lC hl => k p e R s m args below meth c h0 H locs lC hC hR (LsOK.set rfl ho hl))
theorem a_astore_nN {kk : Fin 4} {i : Nat} (hd : decode M.2.1 pc = .ok (.astore_n kk, 1)) (hi : (kk : Nat) = i) (hn : i < M.2.2.1) (ho : noL ls i = true) (k : AW g M d Q (pc + 1) (lset ls i (.null)) st h) : AW g M d Q pc ls (.null :: st) h :=
  fun p e R s m args below meth c h0 H locs lC hC hR hL => lv_astore_nN hC.1 hC.2.1 hd hi hL.has hn rfl (fun lC hl => k p e R s m args below meth c h0 H locs lC hC hR (LsOK.set rfl ho hl))
theorem a_iinc {i : Nat} {n : Int} {x v : Int32} (hd : decode M.2.1 pc = .ok (.iinc i n, 3)) (hl : lget ls i = some (.int x)) (hv : Int32.ofInt n = v) (hn : i < M.2.2.1) (ho : noL ls i = true) (k : AW g M d Q (pc + 3) (lset ls i (.int (x + v))) st h) : AW g M d Q pc ls st h := by
  intro p e R s m args below meth c h0 H locs lC hC hR hL
  have hm := lpr_mem (ad g) ls 0 i _ hl
  rw [Nat.zero_add] at hm
  obtain ⟨j, hj⟩ := List.getElem?_of_mem hm
  exact lv_iinc hC.1 hC.2.1 hd hL.has (k := j) hj (v := x + v) (by rw [hv]) hn rfl (fun lC hl2 => k p e R s m args below meth c h0 H locs lC hC hR (LsOK.set rfl ho hl2))
theorem a_if_eq {x : Int32} {off : Int} {tgt : Nat} (hd : decode M.2.1 pc = .ok (.ifCond .eq off, 3)) (ht : (pc : Int) + off = (tgt : Int)) (kt : x = 0 → AW g M d Q tgt ls st h) (kf : ¬ x = 0 → AW g M d Q (pc + 3) ls st h) : AW g M d Q pc ls (.int x :: st) h :=
  fun p e R s m args below meth c h0 H locs lC hC hR hL => lv_if_eq hC.1 hC.2.1 hd ht (fun z => kt z p e R s m args below meth c h0 H locs lC hC hR hL) (fun z => kf z p e R s m args below meth c h0 H locs lC hC hR hL)
theorem a_icmp_eq {x y : Int32} {off : Int} {tgt : Nat} (hd : decode M.2.1 pc = .ok (.if_icmp .eq off, 3)) (ht : (pc : Int) + off = (tgt : Int)) (kt : x = y → AW g M d Q tgt ls st h) (kf : ¬ x = y → AW g M d Q (pc + 3) ls st h) : AW g M d Q pc ls (.int y :: .int x :: st) h :=
  fun p e R s m args below meth c h0 H locs lC hC hR hL => lv_icmp_eq hC.1 hC.2.1 hd ht (fun z => kt z p e R s m args below meth c h0 H locs lC hC hR hL) (fun z => kf z p e R s m args below meth c h0 H locs lC hC hR hL)
theorem a_if_ne {x : Int32} {off : Int} {tgt : Nat} (hd : decode M.2.1 pc = .ok (.ifCond .ne off, 3)) (ht : (pc : Int) + off = (tgt : Int)) (kt : ¬ x = 0 → AW g M d Q tgt ls st h) (kf : x = 0 → AW g M d Q (pc + 3) ls st h) : AW g M d Q pc ls (.int x :: st) h :=
  fun p e R s m args below meth c h0 H locs lC hC hR hL => lv_if_ne hC.1 hC.2.1 hd ht (fun z => kt z p e R s m args below meth c h0 H locs lC hC hR hL) (fun z => kf z p e R s m args below meth c h0 H locs lC hC hR hL)
theorem a_icmp_ne {x y : Int32} {off : Int} {tgt : Nat} (hd : decode M.2.1 pc = .ok (.if_icmp .ne off, 3)) (ht : (pc : Int) + off = (tgt : Int)) (kt : ¬ x = y → AW g M d Q tgt ls st h) (kf : x = y → AW g M d Q (pc + 3) ls st h) : AW g M d Q pc ls (.int y :: .int x :: st) h :=
  fun p e R s m args below meth c h0 H locs lC hC hR hL => lv_icmp_ne hC.1 hC.2.1 hd ht (fun z => kt z p e R s m args below meth c h0 H locs lC hC hR hL) (fun z => kf z p e R s m args below meth c h0 H locs lC hC hR hL)
theorem a_if_lt {x : Int32} {off : Int} {tgt : Nat} (hd : decode M.2.1 pc = .ok (.ifCond .lt off, 3)) (ht : (pc : Int) + off = (tgt : Int)) (kt : x < 0 → AW g M d Q tgt ls st h) (kf : ¬ x < 0 → AW g M d Q (pc + 3) ls st h) : AW g M d Q pc ls (.int x :: st) h :=
  fun p e R s m args below meth c h0 H locs lC hC hR hL => lv_if_lt hC.1 hC.2.1 hd ht (fun z => kt z p e R s m args below meth c h0 H locs lC hC hR hL) (fun z => kf z p e R s m args below meth c h0 H locs lC hC hR hL)
theorem a_icmp_lt {x y : Int32} {off : Int} {tgt : Nat} (hd : decode M.2.1 pc = .ok (.if_icmp .lt off, 3)) (ht : (pc : Int) + off = (tgt : Int)) (kt : x < y → AW g M d Q tgt ls st h) (kf : ¬ x < y → AW g M d Q (pc + 3) ls st h) : AW g M d Q pc ls (.int y :: .int x :: st) h :=
  fun p e R s m args below meth c h0 H locs lC hC hR hL => lv_icmp_lt hC.1 hC.2.1 hd ht (fun z => kt z p e R s m args below meth c h0 H locs lC hC hR hL) (fun z => kf z p e R s m args below meth c h0 H locs lC hC hR hL)
theorem a_if_ge {x : Int32} {off : Int} {tgt : Nat} (hd : decode M.2.1 pc = .ok (.ifCond .ge off, 3)) (ht : (pc : Int) + off = (tgt : Int)) (kt : 0 ≤ x → AW g M d Q tgt ls st h) (kf : ¬ 0 ≤ x → AW g M d Q (pc + 3) ls st h) : AW g M d Q pc ls (.int x :: st) h :=
  fun p e R s m args below meth c h0 H locs lC hC hR hL => lv_if_ge hC.1 hC.2.1 hd ht (fun z => kt z p e R s m args below meth c h0 H locs lC hC hR hL) (fun z => kf z p e R s m args below meth c h0 H locs lC hC hR hL)
theorem a_icmp_ge {x y : Int32} {off : Int} {tgt : Nat} (hd : decode M.2.1 pc = .ok (.if_icmp .ge off, 3)) (ht : (pc : Int) + off = (tgt : Int)) (kt : y ≤ x → AW g M d Q tgt ls st h) (kf : ¬ y ≤ x → AW g M d Q (pc + 3) ls st h) : AW g M d Q pc ls (.int y :: .int x :: st) h :=
  fun p e R s m args below meth c h0 H locs lC hC hR hL => lv_icmp_ge hC.1 hC.2.1 hd ht (fun z => kt z p e R s m args below meth c h0 H locs lC hC hR hL) (fun z => kf z p e R s m args below meth c h0 H locs lC hC hR hL)
theorem a_if_gt {x : Int32} {off : Int} {tgt : Nat} (hd : decode M.2.1 pc = .ok (.ifCond .gt off, 3)) (ht : (pc : Int) + off = (tgt : Int)) (kt : 0 < x → AW g M d Q tgt ls st h) (kf : ¬ 0 < x → AW g M d Q (pc + 3) ls st h) : AW g M d Q pc ls (.int x :: st) h :=
  fun p e R s m args below meth c h0 H locs lC hC hR hL => lv_if_gt hC.1 hC.2.1 hd ht (fun z => kt z p e R s m args below meth c h0 H locs lC hC hR hL) (fun z => kf z p e R s m args below meth c h0 H locs lC hC hR hL)
theorem a_icmp_gt {x y : Int32} {off : Int} {tgt : Nat} (hd : decode M.2.1 pc = .ok (.if_icmp .gt off, 3)) (ht : (pc : Int) + off = (tgt : Int)) (kt : y < x → AW g M d Q tgt ls st h) (kf : ¬ y < x → AW g M d Q (pc + 3) ls st h) : AW g M d Q pc ls (.int y :: .int x :: st) h :=
  fun p e R s m args below meth c h0 H locs lC hC hR hL => lv_icmp_gt hC.1 hC.2.1 hd ht (fun z => kt z p e R s m args below meth c h0 H locs lC hC hR hL) (fun z => kf z p e R s m args below meth c h0 H locs lC hC hR hL)
theorem a_if_le {x : Int32} {off : Int} {tgt : Nat} (hd : decode M.2.1 pc = .ok (.ifCond .le off, 3)) (ht : (pc : Int) + off = (tgt : Int)) (kt : x ≤ 0 → AW g M d Q tgt ls st h) (kf : ¬ x ≤ 0 → AW g M d Q (pc + 3) ls st h) : AW g M d Q pc ls (.int x :: st) h :=
  fun p e R s m args below meth c h0 H locs lC hC hR hL => lv_if_le hC.1 hC.2.1 hd ht (fun z => kt z p e R s m args below meth c h0 H locs lC hC hR hL) (fun z => kf z p e R s m args below meth c h0 H locs lC hC hR hL)
theorem a_icmp_le {x y : Int32} {off : Int} {tgt : Nat} (hd : decode M.2.1 pc = .ok (.if_icmp .le off, 3)) (ht : (pc : Int) + off = (tgt : Int)) (kt : x ≤ y → AW g M d Q tgt ls st h) (kf : ¬ x ≤ y → AW g M d Q (pc + 3) ls st h) : AW g M d Q pc ls (.int y :: .int x :: st) h :=
  fun p e R s m args below meth c h0 H locs lC hC hR hL => lv_icmp_le hC.1 hC.2.1 hd ht (fun z => kt z p e R s m args below meth c h0 H locs lC hC hR hL) (fun z => kf z p e R s m args below meth c h0 H locs lC hC hR hL)
theorem a_goto {off : Int} {tgt : Nat} (hd : decode M.2.1 pc = .ok (.goto off, 3)) (ht : (pc : Int) + off = (tgt : Int)) (k : AW g M d Q tgt ls st h) : AW g M d Q pc ls st h :=
  fun p e R s m args below meth c h0 H locs lC hC hR hL => lv_goto hC.1 hC.2.1 hd ht (k p e R s m args below meth c h0 H locs lC hC hR hL)
theorem a_ifnull {x : Nat} {off : Int} (hd : decode M.2.1 pc = .ok (.ifnull off, 3)) (k : AW g M d Q (pc + 3) ls st h) : AW g M d Q pc ls (.ref x :: st) h :=
  fun p e R s m args below meth c h0 H locs lC hC hR hL => lv_ifnull hC.1 hC.2.1 hd (k p e R s m args below meth c h0 H locs lC hC hR hL)
theorem a_ifnullN {off : Int} {tgt : Nat} (hd : decode M.2.1 pc = .ok (.ifnull off, 3)) (ht : (pc : Int) + off = (tgt : Int)) (k : AW g M d Q tgt ls st h) : AW g M d Q pc ls (.null :: st) h :=
  fun p e R s m args below meth c h0 H locs lC hC hR hL => lv_ifnullN hC.1 hC.2.1 hd ht (k p e R s m args below meth c h0 H locs lC hC hR hL)
theorem a_ifnonnull {x : Nat} {off : Int} {tgt : Nat} (hd : decode M.2.1 pc = .ok (.ifnonnull off, 3)) (ht : (pc : Int) + off = (tgt : Int)) (k : AW g M d Q tgt ls st h) : AW g M d Q pc ls (.ref x :: st) h :=
  fun p e R s m args below meth c h0 H locs lC hC hR hL => lv_ifnonnull hC.1 hC.2.1 hd ht (k p e R s m args below meth c h0 H locs lC hC hR hL)
theorem a_ifnonnullN {off : Int} (hd : decode M.2.1 pc = .ok (.ifnonnull off, 3)) (k : AW g M d Q (pc + 3) ls st h) : AW g M d Q pc ls (.null :: st) h :=
  fun p e R s m args below meth c h0 H locs lC hC hR hL => lv_ifnonnullN hC.1 hC.2.1 hd (k p e R s m args below meth c h0 H locs lC hC hR hL)
theorem a_tblOut {dflt lo hi : Int} {offs : Array Int} {len : Nat} {x : Int32} {tgt : Nat} (hd : decode M.2.1 pc = .ok (.tableswitch dflt lo hi offs, len)) (hx : x.toInt < lo ∨ hi < x.toInt) (ht : (pc : Int) + dflt = (tgt : Int)) (k : AW g M d Q tgt ls st h) : AW g M d Q pc ls (.int x :: st) h :=
  fun p e R s m args below meth c h0 H locs lC hC hR hL => lv_tableOut hC.1 hC.2.1 hd hx ht (k p e R s m args below meth c h0 H locs lC hC hR hL)
theorem a_tblIn {dflt lo hi : Int} {offs : Array Int} {len : Nat} {x : Int32} {off : Int} {tgt : Nat} (hd : decode M.2.1 pc = .ok (.tableswitch dflt lo hi offs, len)) (h1 : ¬ x.toInt < lo) (h2 : ¬ hi < x.toInt) (ho : offs[(x.toInt - lo).toNat]? = some off) (ht : (pc : Int) + off = (tgt : Int)) (k : AW g M d Q tgt ls st h) : AW g M d Q pc ls (.int x :: st) h :=
  fun p e R s m args below meth c h0 H locs lC hC hR hL => lv_tableIn hC.1 hC.2.1 hd h1 h2 ho ht (k p e R s m args below meth c h0 H locs lC hC hR hL)
theorem a_lookup {dflt : Int} {ps : Array (Int × Int)} {len : Nat} {x : Int32} {off : Int} {tgt : Nat} (hd : decode M.2.1 pc = .ok (.lookupswitch dflt ps, len)) (hp : (ps.toList.zip (ps.toList.drop 1)).all (fun (a, next) => a.1 < next.1) = true) (ho : Op.lookupswitch.offset ps.toList dflt x.toInt = off) (ht : (pc : Int) + off = (tgt : Int)) (k : AW g M d Q tgt ls st h) : AW g M d Q pc ls (.int x :: st) h :=
  fun p e R s m args below meth c h0 H locs lC hC hR hL => lv_lookup hC.1 hC.2.1 hd hp ho ht (k p e R s m args below meth c h0 H locs lC hC hR hL)
end
/-! ===== returns ===== -/
section
variable {g : Gl} {M : MI} {d : Nat} {Q : Outcome → AH → Prop} {pc : Nat} {ls : List (Option Value)} {h : AH}
theorem AE.ofMQ {g : Gl} {Q : Outcome → AH → Prop} {h0 h : AH} {below : List Frame} {s : State} {args : Array Value} {H : Heap} {locs : List Loc} {o : Outcome} (hR : Rt g h0 h s.heap H locs) (hq : Q o h) {t : State}
    (ht : MQ below (fun _ _ oc t => oc = trO (ad g) o ∧ t.heap = H) args s (gN h - gN h0) (gZ h - gZ h0) (fun q => abv g q) t) : AQ g Q h0 below s t := by
  obtain ⟨oc, q1, q2, ⟨q3, q4⟩, L, ⟨⟨_, _⟩, q6, q7⟩, q8⟩ := ht
  refine ⟨oc, q1, q2, o, h, L, q3, hq, q6, q7, ?_⟩
  obtain ⟨r1, r2, r3⟩ := hR
  rw [q4]
  exact ⟨r1, ⟨r2.1, r2.2.1, q8⟩, r3⟩
theorem W.weak {p : Program} {l : Launch} {e : Env} {R : Room} {s : State} {m : MethodId} {args : Array Value} {below : List Frame} {meth : Method} {c : Code} {H : Heap} {locs : List Loc} {cells slots : Nat} {Q1 Q2 : State → Prop} {gf : JFrame} (hq : ∀ t, Q1 t → Q2 t) (k : W p l e R s m args below meth c H locs cells slots Q1 gf) : W p l e R s m args below meth c H locs cells slots Q2 gf := by
  intro T hT X
  obtain ⟨t, a, b⟩ := k T hT X
  exact ⟨t, a, hq t b⟩
theorem a_iret {v : Int32} (hd : decode M.2.1 pc = .ok (.ireturn, 1)) (hr : M.2.2.2.1 = some .int) (hq : Q (.returned (some (.int v))) h) : AW g M d Q pc ls [.int v] h := by
  intro p e R s m args below meth c h0 H locs lC hC hR hL
  have hlk := hC.2.2.2.2.2.1
  exact W.weak (fun t ht => AE.ofMQ hR hq ht) (W.iret (Qc := fun _ _ oc t => oc = trO (ad g) (.returned (some (.int v))) ∧ t.heap = H) (free := fun q => abv g q) hC.1 hC.2.1 (hC.2.2.2.2.1.trans hr) (fun t ht _ => ⟨rfl, ht⟩) hR.2.1.2.2 hd hlk)
theorem a_zret {v : Int32} {ty : FieldType} (hd : decode M.2.1 pc = .ok (.ireturn, 1)) (hr : M.2.2.2.1 = some ty) (hn : narrow ty (.int v) = .int v) (hq : Q (.returned (some (.int v))) h) : AW g M d Q pc ls [.int v] h := by
  intro p e R s m args below meth c h0 H locs lC hC hR hL
  have hlk := hC.2.2.2.2.2.1
  exact W.weak (fun t ht => AE.ofMQ hR hq ht) (W.zret (Qc := fun _ _ oc t => oc = trO (ad g) (.returned (some (.int v))) ∧ t.heap = H) (free := fun q => abv g q) hC.1 hC.2.1 (hC.2.2.2.2.1.trans hr) hn (fun t ht _ => ⟨rfl, ht⟩) hR.2.1.2.2 hd hlk)
theorem a_vret (hd : decode M.2.1 pc = .ok (.return_, 1)) (hr : M.2.2.2.1 = none) (hq : Q (.returned none) h) : AW g M d Q pc ls [] h := by
  intro p e R s m args below meth c h0 H locs lC hC hR hL
  have hlk := hC.2.2.2.2.2.1
  exact W.weak (fun t ht => AE.ofMQ hR hq ht) (W.vret (Qc := fun _ _ oc t => oc = trO (ad g) (.returned none) ∧ t.heap = H) (free := fun q => abv g q) hC.1 hC.2.1 (hC.2.2.2.2.1.trans hr) (fun t ht _ => ⟨rfl, ht⟩) hR.2.1.2.2 hd hlk)
theorem a_aret {r : Option Nat} {rt : FieldType} {v : Value} (hv : v = rfv r) (hd : decode M.2.1 pc = .ok (.areturn, 1)) (hr : M.2.2.2.1 = some rt) (hrt : isRf rt = true) (hq : Q (.returned (some (rfv r))) h) : AW g M d Q pc ls [v] h := by
  subst hv
  intro p e R s m args below meth c h0 H locs lC hC hR hL
  have hlk := hC.2.2.2.2.2.1
  refine W.weak (fun t ht => AE.ofMQ hR hq ht) (W.aret (rt := rt) (v := trv (ad g) (rfv r)) (Qc := fun _ _ oc t => oc = trO (ad g) (.returned (some (rfv r))) ∧ t.heap = H) (free := fun q => abv g q) hC.1 hC.2.1 (hC.2.2.2.2.1.trans hr) ?_ ?_ (fun t ht _ => ⟨rfl, ht⟩) hR.2.1.2.2 hd hlk)
  · cases rt <;> first | exact Or.inl ⟨_, rfl⟩ | exact Or.inr ⟨_, rfl⟩ | cases hrt
  · cases r with
    | none => exact Or.inl rfl
    | some a => exact Or.inr ⟨_, rfl⟩
end
