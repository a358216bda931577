/-! more rows: shifts, comparing references, casts -/
set_option maxRecDepth 100000
section R2
variable {Y : bi_Y} {X : bi_X} {cc : ByteArray} {ret : Option FieldType} {own : String} {fr lo mc ms : Nat} {hh : List ExceptionTableEntry} {P : Heap → Prop} {k n pc : Nat} {L : List (Option Value)} {rest st : List Value} {a : Nat}
theorem vr_ishl (hE : bi_E Y X cc ret own fr lo mc ms hh) {x y v : Int32} (d : decode cc pc = .ok (.ishl, 1)) (hv : x <<< (y &&& 31) = v)
    (kk : bi_V Y.1 X P k n (pc + 1) L (.int v :: rest)) : bi_V Y.1 X P k n pc L (.int y :: .int x :: rest) := fun H locs ls h1 h2 h3 => lv_ishl hE.x hE.b d (by rw [hv]; exact kk H locs ls h1 h2 h3)
theorem vr_ishr (hE : bi_E Y X cc ret own fr lo mc ms hh) {x y v : Int32} (d : decode cc pc = .ok (.ishr, 1)) (hv : x >>> (y &&& 31) = v)
    (kk : bi_V Y.1 X P k n (pc + 1) L (.int v :: rest)) : bi_V Y.1 X P k n pc L (.int y :: .int x :: rest) := fun H locs ls h1 h2 h3 => lv_ishr hE.x hE.b d (by rw [hv]; exact kk H locs ls h1 h2 h3)
theorem vr_acmp_eq (hE : bi_E Y X cc ret own fr lo mc ms hh) (rx ry : Option Nat) {x y : Value} (hx : va_rf rx = x) (hy : va_rf ry = y) {off : Int} {tgt : Nat} (d : decode cc pc = .ok (.if_acmp .eq off, 3)) (ht : (pc : Int) + off = (tgt : Int))
    (kt : rx = ry → bi_V Y.1 X P k n tgt L rest) (kf : ¬ rx = ry → bi_V Y.1 X P k n (pc + 3) L rest) : bi_V Y.1 X P k n pc L (y :: x :: rest) := fun H locs ls h1 h2 h3 => by
  subst hx; subst hy
  exact lv_acmp_eq hE.x hE.b d ht (fun z => kt z H locs ls h1 h2 h3) (fun z => kf z H locs ls h1 h2 h3)
theorem vr_acmp_ne (hE : bi_E Y X cc ret own fr lo mc ms hh) (rx ry : Option Nat) {x y : Value} (hx : va_rf rx = x) (hy : va_rf ry = y) {off : Int} {tgt : Nat} (d : decode cc pc = .ok (.if_acmp .ne off, 3)) (ht : (pc : Int) + off = (tgt : Int))
    (kt : ¬ rx = ry → bi_V Y.1 X P k n tgt L rest) (kf : rx = ry → bi_V Y.1 X P k n (pc + 3) L rest) : bi_V Y.1 X P k n pc L (y :: x :: rest) := fun H locs ls h1 h2 h3 => by
  subst hx; subst hy
  exact lv_acmp_ne hE.x hE.b d ht (fun z => kt z H locs ls h1 h2 h3) (fun z => kf z H locs ls h1 h2 h3)
theorem vr_castN (hE : bi_E Y X cc ret own fr lo mc ms hh) {idx : Nat} (d : decode cc pc = .ok (.checkcast idx, 3))
    (kk : bi_V Y.1 X P k n (pc + 3) L (.null :: rest)) : bi_V Y.1 X P k n pc L (.null :: rest) := fun H locs ls h1 h2 h3 => lv_castN hE.x hE.b d (kk H locs ls h1 h2 h3)
theorem vr_instN (hE : bi_E Y X cc ret own fr lo mc ms hh) {idx : Nat} (d : decode cc pc = .ok (.instanceof idx, 3))
    (kk : bi_V Y.1 X P k n (pc + 3) L (.int 0 :: rest)) : bi_V Y.1 X P k n pc L (.null :: rest) := fun H locs ls h1 h2 h3 => lv_instN hE.x hE.b d (kk H locs ls h1 h2 h3)
/-- to the object's own class -/
theorem vr_castS (hE : bi_E Y X cc ret own fr lo mc ms hh) {idx ci N : Nat} {C : String} {T : u_T} (hC : bi_CL[ci]? = some (C, T, N)) (hm : ∀ H, bi_B Y H → P H → bi_cls Y ci a H) (q : Cond.classLink own idx C ∈ lw_all) (d : decode cc pc = .ok (.checkcast idx, 3))
    (kk : bi_V Y.1 X P k n (pc + 3) L (.ref a :: rest)) : bi_V Y.1 X P k n pc L (.ref a :: rest) := fun H locs ls h1 h2 h3 => va_castS hE.x hE.b hE.ow (hE.ts _ q) (hE.K.1 ci _ hC).2 (bi_recv hE hC hm (hE.B h2) h1) d (kk H locs ls h1 h2 h3)
theorem vr_instS (hE : bi_E Y X cc ret own fr lo mc ms hh) {idx ci N : Nat} {C : String} {T : u_T} (hC : bi_CL[ci]? = some (C, T, N)) (hm : ∀ H, bi_B Y H → P H → bi_cls Y ci a H) (q : Cond.classLink own idx C ∈ lw_all) (d : decode cc pc = .ok (.instanceof idx, 3))
    (kk : bi_V Y.1 X P k n (pc + 3) L (.int 1 :: rest)) : bi_V Y.1 X P k n pc L (.ref a :: rest) := fun H locs ls h1 h2 h3 => va_instS hE.x hE.b hE.ow (hE.ts _ q) (hE.K.1 ci _ hC).2 (bi_recv hE hC hm (hE.B h2) h1) d (kk H locs ls h1 h2 h3)
theorem vr_castY (hE : bi_E Y X cc ret own fr lo mc ms hh) {idx ci N : Nat} {C nm : String} {T : u_T} (hC : bi_CL[ci]? = some (C, T, N)) (hm : ∀ H, bi_B Y H → P H → bi_cls Y ci a H) (q : Cond.classLink own idx nm ∈ lw_all) (q2 : Cond.castable C nm ∈ lw_tbl) (d : decode cc pc = .ok (.checkcast idx, 3))
    (kk : bi_V Y.1 X P k n (pc + 3) L (.ref a :: rest)) : bi_V Y.1 X P k n pc L (.ref a :: rest) := fun H locs ls h1 h2 h3 => va_castY hE.x hE.b hE.ow (hE.ts _ q) (hE.castT q2) (bi_recv hE hC hm (hE.B h2) h1) d (kk H locs ls h1 h2 h3)
theorem vr_instY (hE : bi_E Y X cc ret own fr lo mc ms hh) {idx ci N : Nat} {C nm : String} {T : u_T} (hC : bi_CL[ci]? = some (C, T, N)) (hm : ∀ H, bi_B Y H → P H → bi_cls Y ci a H) (q : Cond.classLink own idx nm ∈ lw_all) (q2 : Cond.castable C nm ∈ lw_tbl) (d : decode cc pc = .ok (.instanceof idx, 3))
    (kk : bi_V Y.1 X P k n (pc + 3) L (.int 1 :: rest)) : bi_V Y.1 X P k n pc L (.ref a :: rest) := fun H locs ls h1 h2 h3 => va_instY hE.x hE.b hE.ow (hE.ts _ q) (hE.castT q2) (bi_recv hE hC hm (hE.B h2) h1) d (kk H locs ls h1 h2 h3)
/-- .. of a class that it isn't -/
theorem vr_instNo (hE : bi_E Y X cc ret own fr lo mc ms hh) {idx ci N : Nat} {C nm : String} {T : u_T} (hC : bi_CL[ci]? = some (C, T, N)) (hm : ∀ H, bi_B Y H → P H → bi_cls Y ci a H) (q : Cond.classLink own idx nm ∈ lw_all) (q2 : bi_NL (.not (Cond.castable C nm))) (d : decode cc pc = .ok (.instanceof idx, 3))
    (kk : bi_V Y.1 X P k n (pc + 3) L (.int 0 :: rest)) : bi_V Y.1 X P k n pc L (.ref a :: rest) := fun H locs ls h1 h2 h3 => va_instNo hE.x hE.b hE.ow (hE.ts _ q) (va_Nc.moved hE.al (va_Nc.of (bi_nl hE.GS q2))) (bi_recv hE hC hm (hE.B h2) h1) d (kk H locs ls h1 h2 h3)
end R2
theorem bc_cls {Y : bi_Y} {A : Nat → Prop} {M : va_M} {ci N a : Nat} {C : String} {T : u_T} {ty : Nat → FieldType} {fs : List Value} (hC : bc_C ci C T N ty) (hm : M a = some (.inr (ci, fs))) : ∀ H, bi_B Y H → bc_W Y A M H → bi_cls Y ci a H := fun H _ h => by
  obtain ⟨r, h1, cell, q1, q2, q3, q4⟩ := (h.2.1 a _ hm).2
  exact ⟨cell, q1, by rw [q3]; rfl, q2⟩
/-- a String as it was at the start -/
theorem bi_SA.any {Y : bi_Y} {a v : Nat} {t : List Nat} {h z : Int32} (hs : bi_SA Y a v t h z) (P : Heap → Prop) : ∀ H, bi_B Y H → P H → bi_Str Y a v t H := fun _ hB _ => hs.str hB
