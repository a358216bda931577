/-! one instruction a row, over bi_V -/
set_option maxRecDepth 100000
section BR
variable {Y : bi_Y} {X : bi_X} {cc : ByteArray} {ret : Option FieldType} {own : String} {fr lo mc ms : Nat} {hh : List ExceptionTableEntry} {P : Heap → Prop} {k n pc : Nat} {L : List (Option Value)} {rest : List Value}
theorem vr_iconst (hE : bi_E Y X cc ret own fr lo mc ms hh) {z : Int} {v : Int32} (d : decode cc pc = .ok (.iconst z, 1)) (hv : Int32.ofInt z = v)
    (kk : bi_V Y.1 X P k n (pc + 1) L (.int v :: rest)) : bi_V Y.1 X P k n pc L rest := fun H locs ls h1 h2 h3 => lv_iconst hE.x hE.b d hv (kk H locs ls h1 h2 h3)
theorem vr_bipush (hE : bi_E Y X cc ret own fr lo mc ms hh) {z : Int} {v : Int32} (d : decode cc pc = .ok (.bipush z, 2)) (hv : (Int8.ofInt z).toInt32 = v)
    (kk : bi_V Y.1 X P k n (pc + 2) L (.int v :: rest)) : bi_V Y.1 X P k n pc L rest := fun H locs ls h1 h2 h3 => lv_bipush hE.x hE.b d hv (kk H locs ls h1 h2 h3)
theorem vr_sipush (hE : bi_E Y X cc ret own fr lo mc ms hh) {z : Int} {v : Int32} (d : decode cc pc = .ok (.sipush z, 3)) (hv : (Int16.ofInt z).toInt32 = v)
    (kk : bi_V Y.1 X P k n (pc + 3) L (.int v :: rest)) : bi_V Y.1 X P k n pc L rest := fun H locs ls h1 h2 h3 => lv_sipush hE.x hE.b d hv (kk H locs ls h1 h2 h3)
theorem vr_null (hE : bi_E Y X cc ret own fr lo mc ms hh)  (d : decode cc pc = .ok (.aconst_null, 1))
    (kk : bi_V Y.1 X P k n (pc + 1) L (.null :: rest)) : bi_V Y.1 X P k n pc L rest := fun H locs ls h1 h2 h3 => lv_null hE.x hE.b d (kk H locs ls h1 h2 h3)
theorem vr_dconst0 (hE : bi_E Y X cc ret own fr lo mc ms hh)  (d : decode cc pc = .ok (.dconst 0, 1))
    (kk : bi_V Y.1 X P k n (pc + 1) L (.double 0 :: rest)) : bi_V Y.1 X P k n pc L rest := fun H locs ls h1 h2 h3 => lv_dconst0 hE.x hE.b d (kk H locs ls h1 h2 h3)
theorem vr_fconst0 (hE : bi_E Y X cc ret own fr lo mc ms hh)  (d : decode cc pc = .ok (.fconst 0, 1))
    (kk : bi_V Y.1 X P k n (pc + 1) L (.float 0 :: rest)) : bi_V Y.1 X P k n pc L rest := fun H locs ls h1 h2 h3 => lv_fconst0 hE.x hE.b d (kk H locs ls h1 h2 h3)
theorem vr_iload_n (hE : bi_E Y X cc ret own fr lo mc ms hh) {q : Fin 4} {x : Int32} (d : decode cc pc = .ok (.iload_n q, 1)) (hl : L[(q : Nat)]? = some (some (.int x)))
    (kk : bi_V Y.1 X P k n (pc + 1) L (.int x :: rest)) : bi_V Y.1 X P k n pc L rest := fun H locs ls h1 h2 h3 => lv_iload_n hE.x hE.b d rfl (h3.get hl) (kk H locs ls h1 h2 h3)
theorem vr_iload (hE : bi_E Y X cc ret own fr lo mc ms hh) {q : Nat} {x : Int32} (d : decode cc pc = .ok (.iload q, 2)) (hl : L[q]? = some (some (.int x)))
    (kk : bi_V Y.1 X P k n (pc + 2) L (.int x :: rest)) : bi_V Y.1 X P k n pc L rest := fun H locs ls h1 h2 h3 => lv_iload hE.x hE.b d (h3.get hl) (kk H locs ls h1 h2 h3)
theorem vr_lload_n (hE : bi_E Y X cc ret own fr lo mc ms hh) {q : Fin 4} {x : Int64} (d : decode cc pc = .ok (.lload_n q, 1)) (hl : L[(q : Nat)]? = some (some (.long x)))
    (kk : bi_V Y.1 X P k n (pc + 1) L (.long x :: rest)) : bi_V Y.1 X P k n pc L rest := fun H locs ls h1 h2 h3 => lv_lload_n hE.x hE.b d rfl (h3.get hl) (kk H locs ls h1 h2 h3)
theorem vr_lload (hE : bi_E Y X cc ret own fr lo mc ms hh) {q : Nat} {x : Int64} (d : decode cc pc = .ok (.lload q, 2)) (hl : L[q]? = some (some (.long x)))
    (kk : bi_V Y.1 X P k n (pc + 2) L (.long x :: rest)) : bi_V Y.1 X P k n pc L rest := fun H locs ls h1 h2 h3 => lv_lload hE.x hE.b d (h3.get hl) (kk H locs ls h1 h2 h3)
theorem vr_fload_n (hE : bi_E Y X cc ret own fr lo mc ms hh) {q : Fin 4} {x : UInt32} (d : decode cc pc = .ok (.fload_n q, 1)) (hl : L[(q : Nat)]? = some (some (.float x)))
    (kk : bi_V Y.1 X P k n (pc + 1) L (.float x :: rest)) : bi_V Y.1 X P k n pc L rest := fun H locs ls h1 h2 h3 => lv_fload_n hE.x hE.b d rfl (h3.get hl) (kk H locs ls h1 h2 h3)
theorem vr_fload (hE : bi_E Y X cc ret own fr lo mc ms hh) {q : Nat} {x : UInt32} (d : decode cc pc = .ok (.fload q, 2)) (hl : L[q]? = some (some (.float x)))
    (kk : bi_V Y.1 X P k n (pc + 2) L (.float x :: rest)) : bi_V Y.1 X P k n pc L rest := fun H locs ls h1 h2 h3 => lv_fload hE.x hE.b d (h3.get hl) (kk H locs ls h1 h2 h3)
theorem vr_dload_n (hE : bi_E Y X cc ret own fr lo mc ms hh) {q : Fin 4} {x : UInt64} (d : decode cc pc = .ok (.dload_n q, 1)) (hl : L[(q : Nat)]? = some (some (.double x)))
    (kk : bi_V Y.1 X P k n (pc + 1) L (.double x :: rest)) : bi_V Y.1 X P k n pc L rest := fun H locs ls h1 h2 h3 => lv_dload_n hE.x hE.b d rfl (h3.get hl) (kk H locs ls h1 h2 h3)
theorem vr_dload (hE : bi_E Y X cc ret own fr lo mc ms hh) {q : Nat} {x : UInt64} (d : decode cc pc = .ok (.dload q, 2)) (hl : L[q]? = some (some (.double x)))
    (kk : bi_V Y.1 X P k n (pc + 2) L (.double x :: rest)) : bi_V Y.1 X P k n pc L rest := fun H locs ls h1 h2 h3 => lv_dload hE.x hE.b d (h3.get hl) (kk H locs ls h1 h2 h3)
theorem vr_aload_n (hE : bi_E Y X cc ret own fr lo mc ms hh) {q : Fin 4} {x : Nat} (d : decode cc pc = .ok (.aload_n q, 1)) (hl : L[(q : Nat)]? = some (some (.ref x)))
    (kk : bi_V Y.1 X P k n (pc + 1) L (.ref x :: rest)) : bi_V Y.1 X P k n pc L rest := fun H locs ls h1 h2 h3 => lv_aload_n hE.x hE.b d rfl (h3.get hl) (kk H locs ls h1 h2 h3)
theorem vr_aload (hE : bi_E Y X cc ret own fr lo mc ms hh) {q : Nat} {x : Nat} (d : decode cc pc = .ok (.aload q, 2)) (hl : L[q]? = some (some (.ref x)))
    (kk : bi_V Y.1 X P k n (pc + 2) L (.ref x :: rest)) : bi_V Y.1 X P k n pc L rest := fun H locs ls h1 h2 h3 => lv_aload hE.x hE.b d (h3.get hl) (kk H locs ls h1 h2 h3)
theorem vr_aload_nN (hE : bi_E Y X cc ret own fr lo mc ms hh) {q : Fin 4} (d : decode cc pc = .ok (.aload_n q, 1)) (hl : L[(q : Nat)]? = some (some .null))
    (kk : bi_V Y.1 X P k n (pc + 1) L (.null :: rest)) : bi_V Y.1 X P k n pc L rest := fun H locs ls h1 h2 h3 => lv_aload_nN hE.x hE.b d rfl (h3.get hl) (kk H locs ls h1 h2 h3)
theorem vr_aloadN (hE : bi_E Y X cc ret own fr lo mc ms hh) {q : Nat} (d : decode cc pc = .ok (.aload q, 2)) (hl : L[q]? = some (some .null))
    (kk : bi_V Y.1 X P k n (pc + 2) L (.null :: rest)) : bi_V Y.1 X P k n pc L rest := fun H locs ls h1 h2 h3 => lv_aloadN hE.x hE.b d (h3.get hl) (kk H locs ls h1 h2 h3)
theorem vr_istore_n (hE : bi_E Y X cc ret own fr lo mc ms hh) {q : Fin 4} {x : Int32} (d : decode cc pc = .ok (.istore_n q, 1)) (hn : (q : Nat) < bi_nL X) (hc : bi_c1 L = true)
    (kk : bi_V Y.1 X P k n (pc + 1) (L.set (q : Nat) (some (.int x))) rest) : bi_V Y.1 X P k n pc L (.int x :: rest) := fun H locs ls h1 h2 h3 => lv_istore_n hE.x hE.b d rfl h3.has hn rfl (fun ls' h' => kk H locs ls' h1 h2 (bi_ls.set1 hc h'))
theorem vr_istore (hE : bi_E Y X cc ret own fr lo mc ms hh) {q : Nat} {x : Int32} (d : decode cc pc = .ok (.istore q, 2)) (hn : q < bi_nL X) (hc : bi_c1 L = true)
    (kk : bi_V Y.1 X P k n (pc + 2) (L.set q (some (.int x))) rest) : bi_V Y.1 X P k n pc L (.int x :: rest) := fun H locs ls h1 h2 h3 => lv_istore hE.x hE.b d h3.has hn rfl (fun ls' h' => kk H locs ls' h1 h2 (bi_ls.set1 hc h'))
theorem vr_lstore_n (hE : bi_E Y X cc ret own fr lo mc ms hh) {q : Fin 4} {x : Int64} (d : decode cc pc = .ok (.lstore_n q, 1)) (hn : (q : Nat) + 1 < bi_nL X) (hc : bi_c1 L = true)
    (kk : bi_V Y.1 X P k n (pc + 1) ((L.set (q : Nat) (some (.long x))).set ((q : Nat) + 1) none) rest) : bi_V Y.1 X P k n pc L (.long x :: rest) := fun H locs ls h1 h2 h3 => lv_lstore_n hE.x hE.b d rfl h3.has hn rfl (fun ls' h' => kk H locs ls' h1 h2 (bi_ls.set2 hc h'))
theorem vr_lstore (hE : bi_E Y X cc ret own fr lo mc ms hh) {q : Nat} {x : Int64} (d : decode cc pc = .ok (.lstore q, 2)) (hn : q + 1 < bi_nL X) (hc : bi_c1 L = true)
    (kk : bi_V Y.1 X P k n (pc + 2) ((L.set q (some (.long x))).set (q + 1) none) rest) : bi_V Y.1 X P k n pc L (.long x :: rest) := fun H locs ls h1 h2 h3 => lv_lstore hE.x hE.b d h3.has hn rfl (fun ls' h' => kk H locs ls' h1 h2 (bi_ls.set2 hc h'))
theorem vr_fstore_n (hE : bi_E Y X cc ret own fr lo mc ms hh) {q : Fin 4} {x : UInt32} (d : decode cc pc = .ok (.fstore_n q, 1)) (hn : (q : Nat) < bi_nL X) (hc : bi_c1 L = true)
    (kk : bi_V Y.1 X P k n (pc + 1) (L.set (q : Nat) (some (.float x))) rest) : bi_V Y.1 X P k n pc L (.float x :: rest) := fun H locs ls h1 h2 h3 => lv_fstore_n hE.x hE.b d rfl h3.has hn rfl (fun ls' h' => kk H locs ls' h1 h2 (bi_ls.set1 hc h'))
theorem vr_fstore (hE : bi_E Y X cc ret own fr lo mc ms hh) {q : Nat} {x : UInt32} (d : decode cc pc = .ok (.fstore q, 2)) (hn : q < bi_nL X) (hc : bi_c1 L = true)
    (kk : bi_V Y.1 X P k n (pc + 2) (L.set q (some (.float x))) rest) : bi_V Y.1 X P k n pc L (.float x :: rest) := fun H locs ls h1 h2 h3 => lv_fstore hE.x hE.b d h3.has hn rfl (fun ls' h' => kk H locs ls' h1 h2 (bi_ls.set1 hc h'))
theorem vr_dstore_n (hE : bi_E Y X cc ret own fr lo mc ms hh) {q : Fin 4} {x : UInt64} (d : decode cc pc = .ok (.dstore_n q, 1)) (hn : (q : Nat) + 1 < bi_nL X) (hc : bi_c1 L = true)
    (kk : bi_V Y.1 X P k n (pc + 1) ((L.set (q : Nat) (some (.double x))).set ((q : Nat) + 1) none) rest) : bi_V Y.1 X P k n pc L (.double x :: rest) := fun H locs ls h1 h2 h3 => lv_dstore_n hE.x hE.b d rfl h3.has hn rfl (fun ls' h' => kk H locs ls' h1 h2 (bi_ls.set2 hc h'))
theorem vr_dstore (hE : bi_E Y X cc ret own fr lo mc ms hh) {q : Nat} {x : UInt64} (d : decode cc pc = .ok (.dstore q, 2)) (hn : q + 1 < bi_nL X) (hc : bi_c1 L = true)
    (kk : bi_V Y.1 X P k n (pc + 2) ((L.set q (some (.double x))).set (q + 1) none) rest) : bi_V Y.1 X P k n pc L (.double x :: rest) := fun H locs ls h1 h2 h3 => lv_dstore hE.x hE.b d h3.has hn rfl (fun ls' h' => kk H locs ls' h1 h2 (bi_ls.set2 hc h'))
theorem vr_astore_n (hE : bi_E Y X cc ret own fr lo mc ms hh) {q : Fin 4} {x : Nat} (d : decode cc pc = .ok (.astore_n q, 1)) (hn : (q : Nat) < bi_nL X) (hc : bi_c1 L = true)
    (kk : bi_V Y.1 X P k n (pc + 1) (L.set (q : Nat) (some (.ref x))) rest) : bi_V Y.1 X P k n pc L (.ref x :: rest) := fun H locs ls h1 h2 h3 => lv_astore_n hE.x hE.b d rfl h3.has hn rfl (fun ls' h' => kk H locs ls' h1 h2 (bi_ls.set1 hc h'))
theorem vr_astore (hE : bi_E Y X cc ret own fr lo mc ms hh) {q : Nat} {x : Nat} (d : decode cc pc = .ok (.astore q, 2)) (hn : q < bi_nL X) (hc : bi_c1 L = true)
    (kk : bi_V Y.1 X P k n (pc + 2) (L.set q (some (.ref x))) rest) : bi_V Y.1 X P k n pc L (.ref x :: rest) := fun H locs ls h1 h2 h3 => lv_astore hE.x hE.b d h3.has hn rfl (fun ls' h' => kk H locs ls' h1 h2 (bi_ls.set1 hc h'))
theorem vr_astore_nN (hE : bi_E Y X cc ret own fr lo mc ms hh) {q : Fin 4} (d : decode cc pc = .ok (.astore_n q, 1)) (hn : (q : Nat) < bi_nL X) (hc : bi_c1 L = true)
    (kk : bi_V Y.1 X P k n (pc + 1) (L.set (q : Nat) (some (.null))) rest) : bi_V Y.1 X P k n pc L (.null :: rest) := fun H locs ls h1 h2 h3 => lv_astore_nN hE.x hE.b d rfl h3.has hn rfl (fun ls' h' => kk H locs ls' h1 h2 (bi_ls.set1 hc h'))
theorem vr_astoreN (hE : bi_E Y X cc ret own fr lo mc ms hh) {q : Nat} (d : decode cc pc = .ok (.astore q, 2)) (hn : q < bi_nL X) (hc : bi_c1 L = true)
    (kk : bi_V Y.1 X P k n (pc + 2) (L.set q (some (.null))) rest) : bi_V Y.1 X P k n pc L (.null :: rest) := fun H locs ls h1 h2 h3 => lv_astoreN hE.x hE.b d h3.has hn rfl (fun ls' h' => kk H locs ls' h1 h2 (bi_ls.set1 hc h'))
theorem bi_pr_at {ls : Array Slot} {nL : Nat} {L : List (Option Value)} (h : bi_ls ls nL L) {i : Nat} {v : Value} (hi : L[i]? = some (some v)) : ∃ j : Nat, (bi_pr L)[j]? = some (i, v) := List.getElem?_of_mem (bi_pr_mem.mpr hi)
theorem vr_iinc (hE : bi_E Y X cc ret own fr lo mc ms hh) {q : Nat} {z : Int} {x v : Int32} (d : decode cc pc = .ok (.iinc q z, 3)) (hl : L[q]? = some (some (.int x))) (hv : x + Int32.ofInt z = v) (hn : q < bi_nL X) (hc : bi_c1 L = true)
    (kk : bi_V Y.1 X P k n (pc + 3) (L.set q (some (.int v))) rest) : bi_V Y.1 X P k n pc L rest := fun H locs ls h1 h2 h3 => by
  obtain ⟨j, hj⟩ := bi_pr_at h3 hl
  exact lv_iinc hE.x hE.b d h3.has hj hv hn rfl (fun ls' h' => kk H locs ls' h1 h2 (bi_ls.set1 hc h'))
theorem vr_iadd (hE : bi_E Y X cc ret own fr lo mc ms hh) {x y : Int32} (d : decode cc pc = .ok (.iadd, 1))
    (kk : bi_V Y.1 X P k n (pc + 1) L (.int (x + y) :: rest)) : bi_V Y.1 X P k n pc L (.int y :: .int x :: rest) := fun H locs ls h1 h2 h3 => lv_iadd hE.x hE.b d (kk H locs ls h1 h2 h3)
theorem vr_isub (hE : bi_E Y X cc ret own fr lo mc ms hh) {x y : Int32} (d : decode cc pc = .ok (.isub, 1))
    (kk : bi_V Y.1 X P k n (pc + 1) L (.int (x - y) :: rest)) : bi_V Y.1 X P k n pc L (.int y :: .int x :: rest) := fun H locs ls h1 h2 h3 => lv_isub hE.x hE.b d (kk H locs ls h1 h2 h3)
theorem vr_imul (hE : bi_E Y X cc ret own fr lo mc ms hh) {x y : Int32} (d : decode cc pc = .ok (.imul, 1))
    (kk : bi_V Y.1 X P k n (pc + 1) L (.int (x * y) :: rest)) : bi_V Y.1 X P k n pc L (.int y :: .int x :: rest) := fun H locs ls h1 h2 h3 => lv_imul hE.x hE.b d (kk H locs ls h1 h2 h3)
theorem vr_iand (hE : bi_E Y X cc ret own fr lo mc ms hh) {x y : Int32} (d : decode cc pc = .ok (.iand, 1))
    (kk : bi_V Y.1 X P k n (pc + 1) L (.int (x &&& y) :: rest)) : bi_V Y.1 X P k n pc L (.int y :: .int x :: rest) := fun H locs ls h1 h2 h3 => lv_iand hE.x hE.b d (kk H locs ls h1 h2 h3)
theorem vr_ior (hE : bi_E Y X cc ret own fr lo mc ms hh) {x y : Int32} (d : decode cc pc = .ok (.ior, 1))
    (kk : bi_V Y.1 X P k n (pc + 1) L (.int (x ||| y) :: rest)) : bi_V Y.1 X P k n pc L (.int y :: .int x :: rest) := fun H locs ls h1 h2 h3 => lv_ior hE.x hE.b d (kk H locs ls h1 h2 h3)
theorem vr_idiv (hE : bi_E Y X cc ret own fr lo mc ms hh) {x y : Int32} (d : decode cc pc = .ok (.idiv, 1)) (hne : ¬ y = 0)
    (kk : bi_V Y.1 X P k n (pc + 1) L (.int (x / y) :: rest)) : bi_V Y.1 X P k n pc L (.int y :: .int x :: rest) := fun H locs ls h1 h2 h3 => lv_idiv hE.x hE.b d hne (kk H locs ls h1 h2 h3)
theorem vr_irem (hE : bi_E Y X cc ret own fr lo mc ms hh) {x y : Int32} (d : decode cc pc = .ok (.irem, 1)) (hne : ¬ y = 0)
    (kk : bi_V Y.1 X P k n (pc + 1) L (.int (x - x / y * y) :: rest)) : bi_V Y.1 X P k n pc L (.int y :: .int x :: rest) := fun H locs ls h1 h2 h3 => lv_irem hE.x hE.b d hne (kk H locs ls h1 h2 h3)
theorem vr_ineg (hE : bi_E Y X cc ret own fr lo mc ms hh) {x : Int32} (d : decode cc pc = .ok (.ineg, 1))
    (kk : bi_V Y.1 X P k n (pc + 1) L (.int (-x) :: rest)) : bi_V Y.1 X P k n pc L (.int x :: rest) := fun H locs ls h1 h2 h3 => lv_ineg hE.x hE.b d (kk H locs ls h1 h2 h3)
theorem vr_i2l (hE : bi_E Y X cc ret own fr lo mc ms hh) {x : Int32} {v : Int64} (d : decode cc pc = .ok (.i2l, 1)) (hv : x.toInt64 = v)
    (kk : bi_V Y.1 X P k n (pc + 1) L (.long v :: rest)) : bi_V Y.1 X P k n pc L (.int x :: rest) := fun H locs ls h1 h2 h3 => lv_i2l hE.x hE.b d hv (kk H locs ls h1 h2 h3)
theorem vr_i2b (hE : bi_E Y X cc ret own fr lo mc ms hh) {x v : Int32} (d : decode cc pc = .ok (.i2b, 1)) (hv : x.toInt8.toInt32 = v)
    (kk : bi_V Y.1 X P k n (pc + 1) L (.int v :: rest)) : bi_V Y.1 X P k n pc L (.int x :: rest) := fun H locs ls h1 h2 h3 => lv_i2b hE.x hE.b d hv (kk H locs ls h1 h2 h3)
theorem vr_i2c (hE : bi_E Y X cc ret own fr lo mc ms hh) {x v : Int32} (d : decode cc pc = .ok (.i2c, 1)) (hv : (x.toUInt32 % 65536).toInt32 = v)
    (kk : bi_V Y.1 X P k n (pc + 1) L (.int v :: rest)) : bi_V Y.1 X P k n pc L (.int x :: rest) := fun H locs ls h1 h2 h3 => lv_i2c hE.x hE.b d hv (kk H locs ls h1 h2 h3)
theorem vr_iushr (hE : bi_E Y X cc ret own fr lo mc ms hh) {x y v : Int32} (d : decode cc pc = .ok (.iushr, 1)) (hv : (x.toUInt32 >>> (y.toUInt32 &&& Int32.toUInt32 31)).toInt32 = v)
    (kk : bi_V Y.1 X P k n (pc + 1) L (.int v :: rest)) : bi_V Y.1 X P k n pc L (.int y :: .int x :: rest) := fun H locs ls h1 h2 h3 => lv_iushr hE.x hE.b d hv (kk H locs ls h1 h2 h3)
theorem vr_dup (hE : bi_E Y X cc ret own fr lo mc ms hh) {va : Value} (d : decode cc pc = .ok (.dup, 1)) (h : va.category = 1)
    (kk : bi_V Y.1 X P k n (pc + 1) L (va :: va :: rest)) : bi_V Y.1 X P k n pc L (va :: rest) := fun H locs ls h1 h2 h3 => lv_dup hE.x hE.b d h (kk H locs ls h1 h2 h3)
theorem vr_pop (hE : bi_E Y X cc ret own fr lo mc ms hh) {va : Value} (d : decode cc pc = .ok (.pop, 1)) (h : va.category = 1)
    (kk : bi_V Y.1 X P k n (pc + 1) L rest) : bi_V Y.1 X P k n pc L (va :: rest) := fun H locs ls h1 h2 h3 => lv_pop hE.x hE.b d h (kk H locs ls h1 h2 h3)
theorem vr_dup_x1 (hE : bi_E Y X cc ret own fr lo mc ms hh) {va vb : Value} (d : decode cc pc = .ok (.dup_x1, 1)) (h : va.category = 1) (h' : vb.category = 1)
    (kk : bi_V Y.1 X P k n (pc + 1) L (va :: vb :: va :: rest)) : bi_V Y.1 X P k n pc L (va :: vb :: rest) := fun H locs ls h1 h2 h3 => lv_dup_x1 hE.x hE.b d h h' (kk H locs ls h1 h2 h3)
theorem vr_dup2 (hE : bi_E Y X cc ret own fr lo mc ms hh) {va vb : Value} (d : decode cc pc = .ok (.dup2, 1)) (h : va.category = 1) (h' : vb.category = 1)
    (kk : bi_V Y.1 X P k n (pc + 1) L (va :: vb :: va :: vb :: rest)) : bi_V Y.1 X P k n pc L (va :: vb :: rest) := fun H locs ls h1 h2 h3 => lv_dup2_11 hE.x hE.b d h h' (kk H locs ls h1 h2 h3)
theorem vr_if_eq (hE : bi_E Y X cc ret own fr lo mc ms hh) {x : Int32} {off : Int} {tgt : Nat} (d : decode cc pc = .ok (.ifCond .eq off, 3)) (ht : (pc : Int) + off = (tgt : Int))
    (kt : x = 0 → bi_V Y.1 X P k n tgt L rest) (kf : ¬ x = 0 → bi_V Y.1 X P k n (pc + 3) L rest) : bi_V Y.1 X P k n pc L (.int x :: rest) := fun H locs ls h1 h2 h3 => lv_if_eq hE.x hE.b d ht (fun c => kt c H locs ls h1 h2 h3) (fun c => kf c H locs ls h1 h2 h3)
theorem vt_if_eq (hE : bi_E Y X cc ret own fr lo mc ms hh) {x : Int32} {off : Int} {tgt J : Nat} {va vb : Int32} (d : decode cc pc = .ok (.ifCond .eq off, 3)) (ht : (pc : Int) + off = (tgt : Int))
    (kt : x = 0 → bi_V Y.1 X P k n J L (.int va :: rest) → bi_V Y.1 X P k n tgt L rest) (kf : ¬ x = 0 → bi_V Y.1 X P k n J L (.int vb :: rest) → bi_V Y.1 X P k n (pc + 3) L rest) (kk : bi_V Y.1 X P k n J L (.int (if x = 0 then va else vb) :: rest)) : bi_V Y.1 X P k n pc L (.int x :: rest) :=
  vr_if_eq hE d ht (fun c => kt c (by rw [if_pos c] at kk; exact kk)) (fun c => kf c (by rw [if_neg c] at kk; exact kk))
theorem vs_if_eq (hE : bi_E Y X cc ret own fr lo mc ms hh) {S : Type} {PF : S → Heap → Prop} {va vb : S} {x : Int32} {off : Int} {tgt J : Nat} (d : decode cc pc = .ok (.ifCond .eq off, 3)) (ht : (pc : Int) + off = (tgt : Int))
    (kt : x = 0 → bi_V Y.1 X (PF va) k n J L rest → bi_V Y.1 X P k n tgt L rest) (kf : ¬ x = 0 → bi_V Y.1 X (PF vb) k n J L rest → bi_V Y.1 X P k n (pc + 3) L rest) (kk : bi_V Y.1 X (PF (if x = 0 then va else vb)) k n J L rest) : bi_V Y.1 X P k n pc L (.int x :: rest) :=
  vr_if_eq hE d ht (fun c => kt c (by rw [if_pos c] at kk; exact kk)) (fun c => kf c (by rw [if_neg c] at kk; exact kk))
theorem vr_if_ne (hE : bi_E Y X cc ret own fr lo mc ms hh) {x : Int32} {off : Int} {tgt : Nat} (d : decode cc pc = .ok (.ifCond .ne off, 3)) (ht : (pc : Int) + off = (tgt : Int))
    (kt : ¬ x = 0 → bi_V Y.1 X P k n tgt L rest) (kf : x = 0 → bi_V Y.1 X P k n (pc + 3) L rest) : bi_V Y.1 X P k n pc L (.int x :: rest) := fun H locs ls h1 h2 h3 => lv_if_ne hE.x hE.b d ht (fun c => kt c H locs ls h1 h2 h3) (fun c => kf c H locs ls h1 h2 h3)
theorem vt_if_ne (hE : bi_E Y X cc ret own fr lo mc ms hh) {x : Int32} {off : Int} {tgt J : Nat} {va vb : Int32} (d : decode cc pc = .ok (.ifCond .ne off, 3)) (ht : (pc : Int) + off = (tgt : Int))
    (kt : ¬ x = 0 → bi_V Y.1 X P k n J L (.int va :: rest) → bi_V Y.1 X P k n tgt L rest) (kf : x = 0 → bi_V Y.1 X P k n J L (.int vb :: rest) → bi_V Y.1 X P k n (pc + 3) L rest) (kk : bi_V Y.1 X P k n J L (.int (if ¬ x = 0 then va else vb) :: rest)) : bi_V Y.1 X P k n pc L (.int x :: rest) :=
  vr_if_ne hE d ht (fun c => kt c (by rw [if_pos c] at kk; exact kk)) (fun c => kf c (by rw [if_neg (fun z => z c)] at kk; exact kk))
theorem vs_if_ne (hE : bi_E Y X cc ret own fr lo mc ms hh) {S : Type} {PF : S → Heap → Prop} {va vb : S} {x : Int32} {off : Int} {tgt J : Nat} (d : decode cc pc = .ok (.ifCond .ne off, 3)) (ht : (pc : Int) + off = (tgt : Int))
    (kt : ¬ x = 0 → bi_V Y.1 X (PF va) k n J L rest → bi_V Y.1 X P k n tgt L rest) (kf : x = 0 → bi_V Y.1 X (PF vb) k n J L rest → bi_V Y.1 X P k n (pc + 3) L rest) (kk : bi_V Y.1 X (PF (if ¬ x = 0 then va else vb)) k n J L rest) : bi_V Y.1 X P k n pc L (.int x :: rest) :=
  vr_if_ne hE d ht (fun c => kt c (by rw [if_pos c] at kk; exact kk)) (fun c => kf c (by rw [if_neg (fun z => z c)] at kk; exact kk))
theorem vr_if_lt (hE : bi_E Y X cc ret own fr lo mc ms hh) {x : Int32} {off : Int} {tgt : Nat} (d : decode cc pc = .ok (.ifCond .lt off, 3)) (ht : (pc : Int) + off = (tgt : Int))
    (kt : x < 0 → bi_V Y.1 X P k n tgt L rest) (kf : ¬ x < 0 → bi_V Y.1 X P k n (pc + 3) L rest) : bi_V Y.1 X P k n pc L (.int x :: rest) := fun H locs ls h1 h2 h3 => lv_if_lt hE.x hE.b d ht (fun c => kt c H locs ls h1 h2 h3) (fun c => kf c H locs ls h1 h2 h3)
theorem vt_if_lt (hE : bi_E Y X cc ret own fr lo mc ms hh) {x : Int32} {off : Int} {tgt J : Nat} {va vb : Int32} (d : decode cc pc = .ok (.ifCond .lt off, 3)) (ht : (pc : Int) + off = (tgt : Int))
    (kt : x < 0 → bi_V Y.1 X P k n J L (.int va :: rest) → bi_V Y.1 X P k n tgt L rest) (kf : ¬ x < 0 → bi_V Y.1 X P k n J L (.int vb :: rest) → bi_V Y.1 X P k n (pc + 3) L rest) (kk : bi_V Y.1 X P k n J L (.int (if x < 0 then va else vb) :: rest)) : bi_V Y.1 X P k n pc L (.int x :: rest) :=
  vr_if_lt hE d ht (fun c => kt c (by rw [if_pos c] at kk; exact kk)) (fun c => kf c (by rw [if_neg c] at kk; exact kk))
theorem vs_if_lt (hE : bi_E Y X cc ret own fr lo mc ms hh) {S : Type} {PF : S → Heap → Prop} {va vb : S} {x : Int32} {off : Int} {tgt J : Nat} (d : decode cc pc = .ok (.ifCond .lt off, 3)) (ht : (pc : Int) + off = (tgt : Int))
    (kt : x < 0 → bi_V Y.1 X (PF va) k n J L rest → bi_V Y.1 X P k n tgt L rest) (kf : ¬ x < 0 → bi_V Y.1 X (PF vb) k n J L rest → bi_V Y.1 X P k n (pc + 3) L rest) (kk : bi_V Y.1 X (PF (if x < 0 then va else vb)) k n J L rest) : bi_V Y.1 X P k n pc L (.int x :: rest) :=
  vr_if_lt hE d ht (fun c => kt c (by rw [if_pos c] at kk; exact kk)) (fun c => kf c (by rw [if_neg c] at kk; exact kk))
theorem vr_if_ge (hE : bi_E Y X cc ret own fr lo mc ms hh) {x : Int32} {off : Int} {tgt : Nat} (d : decode cc pc = .ok (.ifCond .ge off, 3)) (ht : (pc : Int) + off = (tgt : Int))
    (kt : 0 ≤ x → bi_V Y.1 X P k n tgt L rest) (kf : ¬ 0 ≤ x → bi_V Y.1 X P k n (pc + 3) L rest) : bi_V Y.1 X P k n pc L (.int x :: rest) := fun H locs ls h1 h2 h3 => lv_if_ge hE.x hE.b d ht (fun c => kt c H locs ls h1 h2 h3) (fun c => kf c H locs ls h1 h2 h3)
theorem vt_if_ge (hE : bi_E Y X cc ret own fr lo mc ms hh) {x : Int32} {off : Int} {tgt J : Nat} {va vb : Int32} (d : decode cc pc = .ok (.ifCond .ge off, 3)) (ht : (pc : Int) + off = (tgt : Int))
    (kt : 0 ≤ x → bi_V Y.1 X P k n J L (.int va :: rest) → bi_V Y.1 X P k n tgt L rest) (kf : ¬ 0 ≤ x → bi_V Y.1 X P k n J L (.int vb :: rest) → bi_V Y.1 X P k n (pc + 3) L rest) (kk : bi_V Y.1 X P k n J L (.int (if 0 ≤ x then va else vb) :: rest)) : bi_V Y.1 X P k n pc L (.int x :: rest) :=
  vr_if_ge hE d ht (fun c => kt c (by rw [if_pos c] at kk; exact kk)) (fun c => kf c (by rw [if_neg c] at kk; exact kk))
theorem vs_if_ge (hE : bi_E Y X cc ret own fr lo mc ms hh) {S : Type} {PF : S → Heap → Prop} {va vb : S} {x : Int32} {off : Int} {tgt J : Nat} (d : decode cc pc = .ok (.ifCond .ge off, 3)) (ht : (pc : Int) + off = (tgt : Int))
    (kt : 0 ≤ x → bi_V Y.1 X (PF va) k n J L rest → bi_V Y.1 X P k n tgt L rest) (kf : ¬ 0 ≤ x → bi_V Y.1 X (PF vb) k n J L rest → bi_V Y.1 X P k n (pc + 3) L rest) (kk : bi_V Y.1 X (PF (if 0 ≤ x then va else vb)) k n J L rest) : bi_V Y.1 X P k n pc L (.int x :: rest) :=
  vr_if_ge hE d ht (fun c => kt c (by rw [if_pos c] at kk; exact kk)) (fun c => kf c (by rw [if_neg c] at kk; exact kk))
theorem vr_if_gt (hE : bi_E Y X cc ret own fr lo mc ms hh) {x : Int32} {off : Int} {tgt : Nat} (d : decode cc pc = .ok (.ifCond .gt off, 3)) (ht : (pc : Int) + off = (tgt : Int))
    (kt : 0 < x → bi_V Y.1 X P k n tgt L rest) (kf : ¬ 0 < x → bi_V Y.1 X P k n (pc + 3) L rest) : bi_V Y.1 X P k n pc L (.int x :: rest) := fun H locs ls h1 h2 h3 => lv_if_gt hE.x hE.b d ht (fun c => kt c H locs ls h1 h2 h3) (fun c => kf c H locs ls h1 h2 h3)
theorem vt_if_gt (hE : bi_E Y X cc ret own fr lo mc ms hh) {x : Int32} {off : Int} {tgt J : Nat} {va vb : Int32} (d : decode cc pc = .ok (.ifCond .gt off, 3)) (ht : (pc : Int) + off = (tgt : Int))
    (kt : 0 < x → bi_V Y.1 X P k n J L (.int va :: rest) → bi_V Y.1 X P k n tgt L rest) (kf : ¬ 0 < x → bi_V Y.1 X P k n J L (.int vb :: rest) → bi_V Y.1 X P k n (pc + 3) L rest) (kk : bi_V Y.1 X P k n J L (.int (if 0 < x then va else vb) :: rest)) : bi_V Y.1 X P k n pc L (.int x :: rest) :=
  vr_if_gt hE d ht (fun c => kt c (by rw [if_pos c] at kk; exact kk)) (fun c => kf c (by rw [if_neg c] at kk; exact kk))
theorem vs_if_gt (hE : bi_E Y X cc ret own fr lo mc ms hh) {S : Type} {PF : S → Heap → Prop} {va vb : S} {x : Int32} {off : Int} {tgt J : Nat} (d : decode cc pc = .ok (.ifCond .gt off, 3)) (ht : (pc : Int) + off = (tgt : Int))
    (kt : 0 < x → bi_V Y.1 X (PF va) k n J L rest → bi_V Y.1 X P k n tgt L rest) (kf : ¬ 0 < x → bi_V Y.1 X (PF vb) k n J L rest → bi_V Y.1 X P k n (pc + 3) L rest) (kk : bi_V Y.1 X (PF (if 0 < x then va else vb)) k n J L rest) : bi_V Y.1 X P k n pc L (.int x :: rest) :=
  vr_if_gt hE d ht (fun c => kt c (by rw [if_pos c] at kk; exact kk)) (fun c => kf c (by rw [if_neg c] at kk; exact kk))
theorem vr_if_le (hE : bi_E Y X cc ret own fr lo mc ms hh) {x : Int32} {off : Int} {tgt : Nat} (d : decode cc pc = .ok (.ifCond .le off, 3)) (ht : (pc : Int) + off = (tgt : Int))
    (kt : x ≤ 0 → bi_V Y.1 X P k n tgt L rest) (kf : ¬ x ≤ 0 → bi_V Y.1 X P k n (pc + 3) L rest) : bi_V Y.1 X P k n pc L (.int x :: rest) := fun H locs ls h1 h2 h3 => lv_if_le hE.x hE.b d ht (fun c => kt c H locs ls h1 h2 h3) (fun c => kf c H locs ls h1 h2 h3)
theorem vt_if_le (hE : bi_E Y X cc ret own fr lo mc ms hh) {x : Int32} {off : Int} {tgt J : Nat} {va vb : Int32} (d : decode cc pc = .ok (.ifCond .le off, 3)) (ht : (pc : Int) + off = (tgt : Int))
    (kt : x ≤ 0 → bi_V Y.1 X P k n J L (.int va :: rest) → bi_V Y.1 X P k n tgt L rest) (kf : ¬ x ≤ 0 → bi_V Y.1 X P k n J L (.int vb :: rest) → bi_V Y.1 X P k n (pc + 3) L rest) (kk : bi_V Y.1 X P k n J L (.int (if x ≤ 0 then va else vb) :: rest)) : bi_V Y.1 X P k n pc L (.int x :: rest) :=
  vr_if_le hE d ht (fun c => kt c (by rw [if_pos c] at kk; exact kk)) (fun c => kf c (by rw [if_neg c] at kk; exact kk))
theorem vs_if_le (hE : bi_E Y X cc ret own fr lo mc ms hh) {S : Type} {PF : S → Heap → Prop} {va vb : S} {x : Int32} {off : Int} {tgt J : Nat} (d : decode cc pc = .ok (.ifCond .le off, 3)) (ht : (pc : Int) + off = (tgt : Int))
    (kt : x ≤ 0 → bi_V Y.1 X (PF va) k n J L rest → bi_V Y.1 X P k n tgt L rest) (kf : ¬ x ≤ 0 → bi_V Y.1 X (PF vb) k n J L rest → bi_V Y.1 X P k n (pc + 3) L rest) (kk : bi_V Y.1 X (PF (if x ≤ 0 then va else vb)) k n J L rest) : bi_V Y.1 X P k n pc L (.int x :: rest) :=
  vr_if_le hE d ht (fun c => kt c (by rw [if_pos c] at kk; exact kk)) (fun c => kf c (by rw [if_neg c] at kk; exact kk))
theorem vr_icmp_eq (hE : bi_E Y X cc ret own fr lo mc ms hh) {x y : Int32} {off : Int} {tgt : Nat} (d : decode cc pc = .ok (.if_icmp .eq off, 3)) (ht : (pc : Int) + off = (tgt : Int))
    (kt : x = y → bi_V Y.1 X P k n tgt L rest) (kf : ¬ x = y → bi_V Y.1 X P k n (pc + 3) L rest) : bi_V Y.1 X P k n pc L (.int y :: .int x :: rest) := fun H locs ls h1 h2 h3 => lv_icmp_eq hE.x hE.b d ht (fun c => kt c H locs ls h1 h2 h3) (fun c => kf c H locs ls h1 h2 h3)
theorem vt_icmp_eq (hE : bi_E Y X cc ret own fr lo mc ms hh) {x y : Int32} {off : Int} {tgt J : Nat} {va vb : Int32} (d : decode cc pc = .ok (.if_icmp .eq off, 3)) (ht : (pc : Int) + off = (tgt : Int))
    (kt : x = y → bi_V Y.1 X P k n J L (.int va :: rest) → bi_V Y.1 X P k n tgt L rest) (kf : ¬ x = y → bi_V Y.1 X P k n J L (.int vb :: rest) → bi_V Y.1 X P k n (pc + 3) L rest) (kk : bi_V Y.1 X P k n J L (.int (if x = y then va else vb) :: rest)) : bi_V Y.1 X P k n pc L (.int y :: .int x :: rest) :=
  vr_icmp_eq hE d ht (fun c => kt c (by rw [if_pos c] at kk; exact kk)) (fun c => kf c (by rw [if_neg c] at kk; exact kk))
theorem vs_icmp_eq (hE : bi_E Y X cc ret own fr lo mc ms hh) {S : Type} {PF : S → Heap → Prop} {va vb : S} {x y : Int32} {off : Int} {tgt J : Nat} (d : decode cc pc = .ok (.if_icmp .eq off, 3)) (ht : (pc : Int) + off = (tgt : Int))
    (kt : x = y → bi_V Y.1 X (PF va) k n J L rest → bi_V Y.1 X P k n tgt L rest) (kf : ¬ x = y → bi_V Y.1 X (PF vb) k n J L rest → bi_V Y.1 X P k n (pc + 3) L rest) (kk : bi_V Y.1 X (PF (if x = y then va else vb)) k n J L rest) : bi_V Y.1 X P k n pc L (.int y :: .int x :: rest) :=
  vr_icmp_eq hE d ht (fun c => kt c (by rw [if_pos c] at kk; exact kk)) (fun c => kf c (by rw [if_neg c] at kk; exact kk))
theorem vr_icmp_ne (hE : bi_E Y X cc ret own fr lo mc ms hh) {x y : Int32} {off : Int} {tgt : Nat} (d : decode cc pc = .ok (.if_icmp .ne off, 3)) (ht : (pc : Int) + off = (tgt : Int))
    (kt : ¬ x = y → bi_V Y.1 X P k n tgt L rest) (kf : x = y → bi_V Y.1 X P k n (pc + 3) L rest) : bi_V Y.1 X P k n pc L (.int y :: .int x :: rest) := fun H locs ls h1 h2 h3 => lv_icmp_ne hE.x hE.b d ht (fun c => kt c H locs ls h1 h2 h3) (fun c => kf c H locs ls h1 h2 h3)
theorem vt_icmp_ne (hE : bi_E Y X cc ret own fr lo mc ms hh) {x y : Int32} {off : Int} {tgt J : Nat} {va vb : Int32} (d : decode cc pc = .ok (.if_icmp .ne off, 3)) (ht : (pc : Int) + off = (tgt : Int))
    (kt : ¬ x = y → bi_V Y.1 X P k n J L (.int va :: rest) → bi_V Y.1 X P k n tgt L rest) (kf : x = y → bi_V Y.1 X P k n J L (.int vb :: rest) → bi_V Y.1 X P k n (pc + 3) L rest) (kk : bi_V Y.1 X P k n J L (.int (if ¬ x = y then va else vb) :: rest)) : bi_V Y.1 X P k n pc L (.int y :: .int x :: rest) :=
  vr_icmp_ne hE d ht (fun c => kt c (by rw [if_pos c] at kk; exact kk)) (fun c => kf c (by rw [if_neg (fun z => z c)] at kk; exact kk))
theorem vs_icmp_ne (hE : bi_E Y X cc ret own fr lo mc ms hh) {S : Type} {PF : S → Heap → Prop} {va vb : S} {x y : Int32} {off : Int} {tgt J : Nat} (d : decode cc pc = .ok (.if_icmp .ne off, 3)) (ht : (pc : Int) + off = (tgt : Int))
    (kt : ¬ x = y → bi_V Y.1 X (PF va) k n J L rest → bi_V Y.1 X P k n tgt L rest) (kf : x = y → bi_V Y.1 X (PF vb) k n J L rest → bi_V Y.1 X P k n (pc + 3) L rest) (kk : bi_V Y.1 X (PF (if ¬ x = y then va else vb)) k n J L rest) : bi_V Y.1 X P k n pc L (.int y :: .int x :: rest) :=
  vr_icmp_ne hE d ht (fun c => kt c (by rw [if_pos c] at kk; exact kk)) (fun c => kf c (by rw [if_neg (fun z => z c)] at kk; exact kk))
theorem vr_icmp_lt (hE : bi_E Y X cc ret own fr lo mc ms hh) {x y : Int32} {off : Int} {tgt : Nat} (d : decode cc pc = .ok (.if_icmp .lt off, 3)) (ht : (pc : Int) + off = (tgt : Int))
    (kt : x < y → bi_V Y.1 X P k n tgt L rest) (kf : ¬ x < y → bi_V Y.1 X P k n (pc + 3) L rest) : bi_V Y.1 X P k n pc L (.int y :: .int x :: rest) := fun H locs ls h1 h2 h3 => lv_icmp_lt hE.x hE.b d ht (fun c => kt c H locs ls h1 h2 h3) (fun c => kf c H locs ls h1 h2 h3)
theorem vt_icmp_lt (hE : bi_E Y X cc ret own fr lo mc ms hh) {x y : Int32} {off : Int} {tgt J : Nat} {va vb : Int32} (d : decode cc pc = .ok (.if_icmp .lt off, 3)) (ht : (pc : Int) + off = (tgt : Int))
    (kt : x < y → bi_V Y.1 X P k n J L (.int va :: rest) → bi_V Y.1 X P k n tgt L rest) (kf : ¬ x < y → bi_V Y.1 X P k n J L (.int vb :: rest) → bi_V Y.1 X P k n (pc + 3) L rest) (kk : bi_V Y.1 X P k n J L (.int (if x < y then va else vb) :: rest)) : bi_V Y.1 X P k n pc L (.int y :: .int x :: rest) :=
  vr_icmp_lt hE d ht (fun c => kt c (by rw [if_pos c] at kk; exact kk)) (fun c => kf c (by rw [if_neg c] at kk; exact kk))
theorem vs_icmp_lt (hE : bi_E Y X cc ret own fr lo mc ms hh) {S : Type} {PF : S → Heap → Prop} {va vb : S} {x y : Int32} {off : Int} {tgt J : Nat} (d : decode cc pc = .ok (.if_icmp .lt off, 3)) (ht : (pc : Int) + off = (tgt : Int))
    (kt : x < y → bi_V Y.1 X (PF va) k n J L rest → bi_V Y.1 X P k n tgt L rest) (kf : ¬ x < y → bi_V Y.1 X (PF vb) k n J L rest → bi_V Y.1 X P k n (pc + 3) L rest) (kk : bi_V Y.1 X (PF (if x < y then va else vb)) k n J L rest) : bi_V Y.1 X P k n pc L (.int y :: .int x :: rest) :=
  vr_icmp_lt hE d ht (fun c => kt c (by rw [if_pos c] at kk; exact kk)) (fun c => kf c (by rw [if_neg c] at kk; exact kk))
theorem vr_icmp_ge (hE : bi_E Y X cc ret own fr lo mc ms hh) {x y : Int32} {off : Int} {tgt : Nat} (d : decode cc pc = .ok (.if_icmp .ge off, 3)) (ht : (pc : Int) + off = (tgt : Int))
    (kt : y ≤ x → bi_V Y.1 X P k n tgt L rest) (kf : ¬ y ≤ x → bi_V Y.1 X P k n (pc + 3) L rest) : bi_V Y.1 X P k n pc L (.int y :: .int x :: rest) := fun H locs ls h1 h2 h3 => lv_icmp_ge hE.x hE.b d ht (fun c => kt c H locs ls h1 h2 h3) (fun c => kf c H locs ls h1 h2 h3)
theorem vt_icmp_ge (hE : bi_E Y X cc ret own fr lo mc ms hh) {x y : Int32} {off : Int} {tgt J : Nat} {va vb : Int32} (d : decode cc pc = .ok (.if_icmp .ge off, 3)) (ht : (pc : Int) + off = (tgt : Int))
    (kt : y ≤ x → bi_V Y.1 X P k n J L (.int va :: rest) → bi_V Y.1 X P k n tgt L rest) (kf : ¬ y ≤ x → bi_V Y.1 X P k n J L (.int vb :: rest) → bi_V Y.1 X P k n (pc + 3) L rest) (kk : bi_V Y.1 X P k n J L (.int (if y ≤ x then va else vb) :: rest)) : bi_V Y.1 X P k n pc L (.int y :: .int x :: rest) :=
  vr_icmp_ge hE d ht (fun c => kt c (by rw [if_pos c] at kk; exact kk)) (fun c => kf c (by rw [if_neg c] at kk; exact kk))
theorem vs_icmp_ge (hE : bi_E Y X cc ret own fr lo mc ms hh) {S : Type} {PF : S → Heap → Prop} {va vb : S} {x y : Int32} {off : Int} {tgt J : Nat} (d : decode cc pc = .ok (.if_icmp .ge off, 3)) (ht : (pc : Int) + off = (tgt : Int))
    (kt : y ≤ x → bi_V Y.1 X (PF va) k n J L rest → bi_V Y.1 X P k n tgt L rest) (kf : ¬ y ≤ x → bi_V Y.1 X (PF vb) k n J L rest → bi_V Y.1 X P k n (pc + 3) L rest) (kk : bi_V Y.1 X (PF (if y ≤ x then va else vb)) k n J L rest) : bi_V Y.1 X P k n pc L (.int y :: .int x :: rest) :=
  vr_icmp_ge hE d ht (fun c => kt c (by rw [if_pos c] at kk; exact kk)) (fun c => kf c (by rw [if_neg c] at kk; exact kk))
theorem vr_icmp_gt (hE : bi_E Y X cc ret own fr lo mc ms hh) {x y : Int32} {off : Int} {tgt : Nat} (d : decode cc pc = .ok (.if_icmp .gt off, 3)) (ht : (pc : Int) + off = (tgt : Int))
    (kt : y < x → bi_V Y.1 X P k n tgt L rest) (kf : ¬ y < x → bi_V Y.1 X P k n (pc + 3) L rest) : bi_V Y.1 X P k n pc L (.int y :: .int x :: rest) := fun H locs ls h1 h2 h3 => lv_icmp_gt hE.x hE.b d ht (fun c => kt c H locs ls h1 h2 h3) (fun c => kf c H locs ls h1 h2 h3)
theorem vt_icmp_gt (hE : bi_E Y X cc ret own fr lo mc ms hh) {x y : Int32} {off : Int} {tgt J : Nat} {va vb : Int32} (d : decode cc pc = .ok (.if_icmp .gt off, 3)) (ht : (pc : Int) + off = (tgt : Int))
    (kt : y < x → bi_V Y.1 X P k n J L (.int va :: rest) → bi_V Y.1 X P k n tgt L rest) (kf : ¬ y < x → bi_V Y.1 X P k n J L (.int vb :: rest) → bi_V Y.1 X P k n (pc + 3) L rest) (kk : bi_V Y.1 X P k n J L (.int (if y < x then va else vb) :: rest)) : bi_V Y.1 X P k n pc L (.int y :: .int x :: rest) :=
  vr_icmp_gt hE d ht (fun c => kt c (by rw [if_pos c] at kk; exact kk)) (fun c => kf c (by rw [if_neg c] at kk; exact kk))
theorem vs_icmp_gt (hE : bi_E Y X cc ret own fr lo mc ms hh) {S : Type} {PF : S → Heap → Prop} {va vb : S} {x y : Int32} {off : Int} {tgt J : Nat} (d : decode cc pc = .ok (.if_icmp .gt off, 3)) (ht : (pc : Int) + off = (tgt : Int))
    (kt : y < x → bi_V Y.1 X (PF va) k n J L rest → bi_V Y.1 X P k n tgt L rest) (kf : ¬ y < x → bi_V Y.1 X (PF vb) k n J L rest → bi_V Y.1 X P k n (pc + 3) L rest) (kk : bi_V Y.1 X (PF (if y < x then va else vb)) k n J L rest) : bi_V Y.1 X P k n pc L (.int y :: .int x :: rest) :=
  vr_icmp_gt hE d ht (fun c => kt c (by rw [if_pos c] at kk; exact kk)) (fun c => kf c (by rw [if_neg c] at kk; exact kk))
theorem vr_icmp_le (hE : bi_E Y X cc ret own fr lo mc ms hh) {x y : Int32} {off : Int} {tgt : Nat} (d : decode cc pc = .ok (.if_icmp .le off, 3)) (ht : (pc : Int) + off = (tgt : Int))
    (kt : x ≤ y → bi_V Y.1 X P k n tgt L rest) (kf : ¬ x ≤ y → bi_V Y.1 X P k n (pc + 3) L rest) : bi_V Y.1 X P k n pc L (.int y :: .int x :: rest) := fun H locs ls h1 h2 h3 => lv_icmp_le hE.x hE.b d ht (fun c => kt c H locs ls h1 h2 h3) (fun c => kf c H locs ls h1 h2 h3)
theorem vt_icmp_le (hE : bi_E Y X cc ret own fr lo mc ms hh) {x y : Int32} {off : Int} {tgt J : Nat} {va vb : Int32} (d : decode cc pc = .ok (.if_icmp .le off, 3)) (ht : (pc : Int) + off = (tgt : Int))
    (kt : x ≤ y → bi_V Y.1 X P k n J L (.int va :: rest) → bi_V Y.1 X P k n tgt L rest) (kf : ¬ x ≤ y → bi_V Y.1 X P k n J L (.int vb :: rest) → bi_V Y.1 X P k n (pc + 3) L rest) (kk : bi_V Y.1 X P k n J L (.int (if x ≤ y then va else vb) :: rest)) : bi_V Y.1 X P k n pc L (.int y :: .int x :: rest) :=
  vr_icmp_le hE d ht (fun c => kt c (by rw [if_pos c] at kk; exact kk)) (fun c => kf c (by rw [if_neg c] at kk; exact kk))
theorem vs_icmp_le (hE : bi_E Y X cc ret own fr lo mc ms hh) {S : Type} {PF : S → Heap → Prop} {va vb : S} {x y : Int32} {off : Int} {tgt J : Nat} (d : decode cc pc = .ok (.if_icmp .le off, 3)) (ht : (pc : Int) + off = (tgt : Int))
    (kt : x ≤ y → bi_V Y.1 X (PF va) k n J L rest → bi_V Y.1 X P k n tgt L rest) (kf : ¬ x ≤ y → bi_V Y.1 X (PF vb) k n J L rest → bi_V Y.1 X P k n (pc + 3) L rest) (kk : bi_V Y.1 X (PF (if x ≤ y then va else vb)) k n J L rest) : bi_V Y.1 X P k n pc L (.int y :: .int x :: rest) :=
  vr_icmp_le hE d ht (fun c => kt c (by rw [if_pos c] at kk; exact kk)) (fun c => kf c (by rw [if_neg c] at kk; exact kk))
theorem vr_goto (hE : bi_E Y X cc ret own fr lo mc ms hh)  {off : Int} {tgt : Nat} (d : decode cc pc = .ok (.goto off, 3)) (ht : (pc : Int) + off = (tgt : Int)) (kk : bi_V Y.1 X P k n tgt L rest) : bi_V Y.1 X P k n pc L rest := fun H locs ls h1 h2 h3 => lv_goto hE.x hE.b d ht (kk H locs ls h1 h2 h3)
theorem vr_ifnonnull (hE : bi_E Y X cc ret own fr lo mc ms hh) {x : Nat} {off : Int} {tgt : Nat} (d : decode cc pc = .ok (.ifnonnull off, 3)) (ht : (pc : Int) + off = (tgt : Int)) (kk : bi_V Y.1 X P k n tgt L rest) : bi_V Y.1 X P k n pc L (.ref x :: rest) := fun H locs ls h1 h2 h3 => lv_ifnonnull hE.x hE.b d ht (kk H locs ls h1 h2 h3)
theorem vr_ifnullN (hE : bi_E Y X cc ret own fr lo mc ms hh)  {off : Int} {tgt : Nat} (d : decode cc pc = .ok (.ifnull off, 3)) (ht : (pc : Int) + off = (tgt : Int)) (kk : bi_V Y.1 X P k n tgt L rest) : bi_V Y.1 X P k n pc L (.null :: rest) := fun H locs ls h1 h2 h3 => lv_ifnullN hE.x hE.b d ht (kk H locs ls h1 h2 h3)
theorem vr_ifnull (hE : bi_E Y X cc ret own fr lo mc ms hh) {x : Nat} {off : Int} (d : decode cc pc = .ok (.ifnull off, 3)) (kk : bi_V Y.1 X P k n (pc + 3) L rest) : bi_V Y.1 X P k n pc L (.ref x :: rest) := fun H locs ls h1 h2 h3 => lv_ifnull hE.x hE.b d (kk H locs ls h1 h2 h3)
theorem vr_ifnonnullN (hE : bi_E Y X cc ret own fr lo mc ms hh)  {off : Int} (d : decode cc pc = .ok (.ifnonnull off, 3)) (kk : bi_V Y.1 X P k n (pc + 3) L rest) : bi_V Y.1 X P k n pc L (.null :: rest) := fun H locs ls h1 h2 h3 => lv_ifnonnullN hE.x hE.b d (kk H locs ls h1 h2 h3)
theorem vr_topi {x : Int32} (kk : ∀ y : Int32, y = x → bi_V Y.1 X P k n pc L (.int y :: rest)) : bi_V Y.1 X P k n pc L (.int x :: rest) := kk x rfl
theorem vr_to {v w : Value} (h : v = w) (kk : bi_V Y.1 X P k n pc L (w :: rest)) : bi_V Y.1 X P k n pc L (v :: rest) := h ▸ kk
theorem vr_L {L' : List (Option Value)} (h : L = L') (kk : bi_V Y.1 X P k n pc L' rest) : bi_V Y.1 X P k n pc L rest := h ▸ kk
theorem vr_P {P' : Heap → Prop} (h : ∀ H, P H → P' H) (kk : bi_V Y.1 X P' k n pc L rest) : bi_V Y.1 X P k n pc L rest := fun H locs ls h1 h2 h3 => kk H locs ls (h H h1) h2 h3
theorem vr_fact {p : Prop} (h : ∀ H, P H → p) (kk : p → bi_V Y.1 X P k n pc L rest) : bi_V Y.1 X P k n pc L rest := fun H locs ls h1 h2 h3 => kk (h H h1) H locs ls h1 h2 h3
theorem vr_wide {k' n' : Nat} (hk : k ≤ k') (hn : n ≤ n') (kk : bi_V Y.1 X P k' n' pc L rest) : bi_V Y.1 X P k n pc L rest := fun H locs ls h1 h2 h3 => W.widen hk hn (kk H locs ls h1 h2 h3)
/-- fewer locals are known -/
theorem vr_less {L' : List (Option Value)} (h : ∀ (i : Nat) (v : Value), L'[i]? = some (some v) → L[i]? = some (some v)) (kk : bi_V Y.1 X P k n pc L' rest) : bi_V Y.1 X P k n pc L rest := fun H locs ls h1 h2 h3 => kk H locs ls h1 h2 ⟨h3.1, h3.2.1, fun i v hi => h3.2.2 i v (h i v hi)⟩
/-- the local i is forgotten -/
theorem vr_drop (i : Nat) (kk : bi_V Y.1 X P k n pc (L.set i none) rest) : bi_V Y.1 X P k n pc L rest := vr_less (fun j v h => by
  by_cases e : j = i
  · subst e
    rw [List.getElem?_set] at h
    simp only [if_true] at h
    split at h
    · simp at h
    · cases h
  · rwa [List.getElem?_set_ne (Ne.symm e)] at h) kk
theorem vr_objInit (hE : bi_E Y X cc ret own fr lo mc ms hh) {x idx : Nat} (hl : Cond.methodLink own idx Lib.objectInit ∈ lw_all) (hi : Cond.instanceMethod Lib.objectInit ∈ lw_all) (hc : Cond.code Lib.objectInit ⟨#[0xb1]⟩ 1 none ∈ lw_all) (d : decode cc pc = .ok (.invokespecial idx, 3)) (hr : 1 ≤ fr ∧ (rest.map fun v => v.category).sum + 12 ≤ lo)
    (kk : bi_V Y.1 X P k n (pc + 3) L rest) : bi_V Y.1 X P k n pc L (.ref x :: rest) := fun H locs ls h1 h2 h3 =>
  W.objInit hE.x hE.b hE.ow (hE.ts _ hl) (hE.ts _ hi) (hE.ts _ hc) rfl (h3.1.trans hE.ml.symm) rfl d (by rw [hE.rm]; exact hr.1) (by rw [hE.rm]; show 2 * 0 + _ + 12 ≤ lo; omega) (kk H locs ls h1 h2 h3)
theorem vr_tab (hE : bi_E Y X cc ret own fr lo mc ms hh) {dflt zl zh z : Int} {offs : Array Int} {len tgt : Nat} {off : Int} {x : Int32} (d : decode cc pc = .ok (.tableswitch dflt zl zh offs, len)) (hz : x.toInt = z) (h1 : ¬ z < zl) (h2 : ¬ zh < z) (ho : offs[(z - zl).toNat]? = some off) (ht : (pc : Int) + off = (tgt : Int)) (kk : bi_V Y.1 X P k n tgt L rest) : bi_V Y.1 X P k n pc L (.int x :: rest) := fun H locs ls g1 g2 g3 => lv_tableIn hE.x hE.b d (by rw [hz]; exact h1) (by rw [hz]; exact h2) (by rw [hz]; exact ho) ht (kk H locs ls g1 g2 g3)
theorem vr_tabD (hE : bi_E Y X cc ret own fr lo mc ms hh) {dflt zl zh : Int} {offs : Array Int} {len tgt : Nat} {x : Int32} (d : decode cc pc = .ok (.tableswitch dflt zl zh offs, len)) (h : x.toInt < zl ∨ zh < x.toInt) (ht : (pc : Int) + dflt = (tgt : Int)) (kk : bi_V Y.1 X P k n tgt L rest) : bi_V Y.1 X P k n pc L (.int x :: rest) := fun H locs ls g1 g2 g3 => lv_tableOut hE.x hE.b d h ht (kk H locs ls g1 g2 g3)
theorem vr_lkp (hE : bi_E Y X cc ret own fr lo mc ms hh) {dflt off : Int} {ps : Array (Int × Int)} {len tgt : Nat} {x : Int32} (d : decode cc pc = .ok (.lookupswitch dflt ps, len)) (hp : (ps.toList.zip (ps.toList.drop 1)).all (fun (a, next) => a.1 < next.1) = true) (ho : Op.lookupswitch.offset ps.toList dflt x.toInt = off) (ht : (pc : Int) + off = (tgt : Int)) (kk : bi_V Y.1 X P k n tgt L rest) : bi_V Y.1 X P k n pc L (.int x :: rest) := fun H locs ls g1 g2 g3 => lv_lookup hE.x hE.b d hp ho ht (kk H locs ls g1 g2 g3)
section BRR
variable {S : Type} {F : Nat → Prop} {post : Option Value → S → Prop} {px : Nat → String → S → Prop} {PU : S → Heap → Prop}
theorem bi_ends (hE : bi_E Y X cc ret own fr lo mc ms hh) (hQ : bi_end X F mc ms post px PU) {v : Option Value} {u : S} {H : Heap} {locs : List Loc} (hp : post v u) (hU : PU u H) (hS : va_S (bi_A X) (bi_s X).heap H locs) : ∀ t : State, t.heap = H → (bi_s X).WarmedH t.vm → bi_Qc post PU (bi_A X) (bi_ar X) (bi_s X) (.returned v) t := fun t ht _ => ⟨⟨v, u, rfl, hp, by rw [ht]; exact hU⟩, hS.F ht⟩
/-- ints, chars, booleans .. -/
theorem vr_ireturn {ty : FieldType} (hE : bi_E Y X cc (some ty) own fr lo mc ms hh) (hQ : bi_end X F mc ms post px PU) {x : Int32} (hn : narrow ty (.int x) = .int x) (d : decode cc pc = .ok (.ireturn, 1)) (hk : k ≤ mc ∧ n ≤ ms) (kk : ∃ u, post (some (.int x)) u ∧ ∀ H, P H → PU u H) : bi_V Y.1 X P k n pc L [.int x] := fun H locs ls h1 h2 h3 => by
  obtain ⟨u, hp, hU⟩ := kk
  rw [hQ.2]
  exact vx_ret (W.widen hk.1 hk.2 (W.zret hE.x hE.b hE.r hn (bi_ends hE hQ hp (hU H h1) h2) h2.2.2 d hE.lk))
theorem vr_return (hE : bi_E Y X cc none own fr lo mc ms hh) (hQ : bi_end X F mc ms post px PU) (d : decode cc pc = .ok (.return_, 1)) (hk : k ≤ mc ∧ n ≤ ms) (kk : ∃ u, post none u ∧ ∀ H, P H → PU u H) : bi_V Y.1 X P k n pc L [] := fun H locs ls h1 h2 h3 => by
  obtain ⟨u, hp, hU⟩ := kk
  rw [hQ.2]
  exact vx_ret (W.widen hk.1 hk.2 (W.vret hE.x hE.b hE.r (bi_ends hE hQ hp (hU H h1) h2) h2.2.2 d hE.lk))
theorem vr_areturn {rt : FieldType} (hE : bi_E Y X cc (some rt) own fr lo mc ms hh) (hQ : bi_end X F mc ms post px PU) {v : Value} (hrt : (∃ z, rt = .object z) ∨ ∃ z, rt = .array z) (hv : v = .null ∨ ∃ a, v = .ref a) (d : decode cc pc = .ok (.areturn, 1)) (hk : k ≤ mc ∧ n ≤ ms) (kk : ∃ u, post (some v) u ∧ ∀ H, P H → PU u H) : bi_V Y.1 X P k n pc L [v] := fun H locs ls h1 h2 h3 => by
  obtain ⟨u, hp, hU⟩ := kk
  rw [hQ.2]
  exact vx_ret (W.widen hk.1 hk.2 (W.aret hE.x hE.b hE.r hrt hv (bi_ends hE hQ hp (hU H h1) h2) h2.2.2 d hE.lk))
/-- not caught here -/
theorem vr_out {L' : List (Option Value)} (hE : bi_E Y X cc ret own fr lo mc ms hh) (hQ : bi_end X F mc ms post px PU) {q : Nat} {C : String} (hout : ∀ x ∈ hh, covers x pc = false) (hk : k ≤ mc ∧ n ≤ ms) (kk : ∃ u, px q C u ∧ ∀ H, P H → PU u H) : bi_VX Y.1 X P k n pc L' q C := fun H locs ls rest ce h1 h2 h3 h4 h5 h6 => by
  obtain ⟨u, hp, hU⟩ := kk
  rw [hQ.2]
  exact vx_out (E := C) (by rw [hE.tb]; exact hout) hE.lk h4 h5 h6 (fun t ht _ => ⟨u, hp, by rw [ht]; exact hU H h1, h2.F ht⟩) h2.2.2 hk.1 hk.2
end BRR
end BR
