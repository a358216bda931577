/-! calls through an interface, of nest mates -/
set_option maxRecDepth 100000
theorem lw_Fg {own : String} {idx : Nat} {C : String} {x y : MethodName} {b : ByteArray} {L : Nat} {r : Option FieldType} (h1 : Cond.methodLink own idx x ∈ lw_all) (h2 : Cond.selects C x y ∈ lw_all) (h3 : Cond.instanceMethod y ∈ lw_all) (h4 : Cond.initialized y.cls ∈ lw_all) (h5 : Cond.code y b L r ∈ lw_all) : GoodIn lw_all (va_wsF own idx C x y (ws_ y b L r)) := by
  refine lw_app ?_ (lw_meth h5)
  intro w hw
  simp only [List.mem_cons, List.not_mem_nil, or_false] at hw
  rcases hw with e | e | e | e
  · rw [e]; exact h1
  · rw [e]; exact h2
  · rw [e]; exact h3
  · rw [e]; exact h4
/-- what the tables say of a call through an interface -/
def bi_Fw (C : String) (x y : MethodName) : Prop := Cond.declares x ∈ lw_tbl ∧ Cond.interfaceMethod x.cls x.cls x.name x.desc ∈ lw_tbl ∧ Cond.publicMethod y ∈ lw_tbl ∧ Cond.unhidden C x.name x.desc ∈ lw_tbl ∧ Cond.castable C x.cls ∈ lw_tbl
section BCF
variable {Y : bi_Y} {X : bi_X} {cc : ByteArray} {ret : Option FieldType} {own : String} {fr lo mc ms : Nat} {hh : List ExceptionTableEntry} {P : Heap → Prop} {k n pc : Nat} {L : List (Option Value)} {rest st : List Value}
variable {S : Type} {x y : MethodName} {cy : ByteArray} {ny : Nat} {ry : Option FieldType} {f1 l1 c1 s1 : Nat} {P1 P2 : Heap → Prop} {F : Nat → Prop} {As : List Value} {idx a : Nat} {C : String}
theorem bi_after5 {post : Option Value → S → Prop} {px : Nat → String → S → Prop} {PU : S → Heap → Prop} (hE : bi_E Y X cc ret own fr lo mc ms hh) {H : Heap} {locs : List Loc} {ls : Array Slot} {av : Array Value}
    (hr : vx_Run5 (bi_p X) Y.1 (bi_e X) (bi_R X) (bi_s X) (bi_m X) (bi_ar X) (bi_be X) (bi_me X) (bi_c X) H locs k n c1 s1 (F0 (bi_m X) pc ls st) rest (bi_Qc post PU (bi_Af F H.size) av) (bi_Xc px PU (bi_Af F H.size)) (bi_Af F H.size))
    (hF : ∀ q, F q → bi_A X q) (hS : va_S (bi_A X) (bi_s X).heap H locs) (h3 : bi_ls ls (bi_nL X) L) (h2 : P2 H) (hst : bi_st P2 F)
    (kk : ∀ (v : Option Value) (u : S), post v u → bi_V Y.1 X (fun H => PU u H ∧ P2 H) (k + c1) (n + s1) (pc + 5) L (v.toList ++ rest))
    (kx : ∀ (q : Nat) (E : String) (u : S), px q E u → bi_VX Y.1 X (fun H => PU u H ∧ P2 H) (k + c1) (n + s1) pc L q E) :
    W (bi_p X) Y.1 (bi_e X) (bi_R X) (bi_s X) (bi_m X) (bi_ar X) (bi_be X) (bi_me X) (bi_c X) H locs k n (bi_Q X) (F0 (bi_m X) pc ls st) := by
  intro T hT X0
  have hA : ∀ q, bi_Af F H.size q → bi_A X q := fun q h => h.elim (hF q) (fun z => hE.nw q (Nat.le_trans hS.1 z))
  have hAF : ∀ (H1 : Heap), (∀ q : Nat, q < H.size → ¬ bi_Af F H.size q → H1[q]? = H[q]?) → ∀ q : Nat, q < H.size → ¬ F q → H1[q]? = H[q]? := fun H1 h q h1 h2 => h q h1 (fun z => z.elim h2 (fun z => absurd h1 (Nat.not_lt.mpr z)))
  rcases hr T hT X0 with ⟨v, st₀, t, T', L', h0, X', hL, e1, e2, ⟨⟨v', u, hv, hp, hb⟩, hFr⟩, stp⟩ | ⟨q, st₀, t, T', L', E, ce, h0, X', hL, e1, e2, ⟨u, hp, hb, hFr⟩, hce, hcv, hcl, stp⟩
  · cases hv
    obtain ⟨k1, k2, k3⟩ := vx_keep h0 e1 hS (fun q _ h => hA q h) hA hL hFr
    obtain ⟨t2, a1, b1⟩ := kk _ u hp T'.heap (locs ++ L') ls ⟨by rw [e1]; exact hb, hst H _ k1 (hAF _ k2) h2⟩ k3 h3 T' rfl X'
    exact ⟨t2, stp t2 a1, b1⟩
  · obtain ⟨k1, k2, k3⟩ := vx_keep h0 e1 hS (fun q _ h => hA q h) hA hL hFr
    obtain ⟨t2, a1, b1⟩ := kx q E u hp T'.heap (locs ++ L') ls rest ce ⟨by rw [e1]; exact hb, hst H _ k1 (hAF _ k2) h2⟩ k3 h3 (by rw [e1]; exact hce) hcv hcl T' rfl X'
    exact ⟨t2, stp.trans a1, b1⟩
theorem bi_E.fw (hE : bi_E Y X cc ret own fr lo mc ms hh) (hx : x.cls ≠ "java/lang/invoke/MethodHandle" ∧ x.cls ≠ "java/lang/invoke/VarHandle") (h : bi_Fw C x y) : va_Fw C x y (bi_s X) :=
  va_Fw.moved hx hE.al (va_Fw.of (hE.GS.1 _ h.1) (hE.GS.1 _ h.2.1) (hE.GS.1 _ h.2.2.1) (hE.GS.1 _ h.2.2.2.1) (hE.GS.1 _ h.2.2.2.2))
/-- invokeinterface -/
theorem vr_callF {post : Option Value → S → Prop} {px : Nat → String → S → Prop} {PU : S → Heap → Prop} (hE : bi_E Y X cc ret own fr lo mc ms hh) (hM : bi_Met Y y (ws_ y cy ny ry) f1 l1 c1 s1 P1 F (.ref a :: As) post px PU) {ar ci N cnt : Nat} {T : u_T} (hC : bi_CL[ci]? = some (C, T, N)) (hd : x.cls ≠ "java/lang/invoke/MethodHandle" ∧ x.cls ≠ "java/lang/invoke/VarHandle" ∧ (parseMethodDescriptor x.desc).map (fun d => d.parameters.length) = some ar) (hw : GoodIn lw_all (va_wsF own idx C x y (ws_ y cy ny ry))) (hF : bi_Fw C x y)
    (hP : ∀ H, P H → P1 H ∧ P2 H) (hst : bi_st P2 F) (hr : ∀ H, P H → ∃ cell : Cell, H[a]? = some cell ∧ cell.vm.isStatics = false ∧ (bi_s X).vm.findClass C = some cell.cls) (hFA : ∀ q, F q → bi_A X q)
    (hs : st = As.reverse ++ .ref a :: rest) (har : As.length = ar) (hc : (rest.map fun v => v.category).sum ≤ 8) (hroom : f1 + 1 ≤ fr ∧ 8 + (ny + 11) + l1 ≤ lo ∧ k + c1 ≤ mc ∧ n + s1 ≤ ms) (d : decode cc pc = .ok (.invokeinterface idx cnt, 5))
    (kk : ∀ (v : Option Value) (u : S), post v u → bi_V Y.1 X (fun H => PU u H ∧ P2 H) (k + c1) (n + s1) (pc + 5) L (v.toList ++ rest))
    (kx : ∀ (q : Nat) (E : String) (u : S), px q E u → bi_VX Y.1 X (fun H => PU u H ∧ P2 H) (k + c1) (n + s1) pc L q E) : bi_V Y.1 X P k n pc L st := fun H locs ls h1 h2 h3 => by
  have hrm := hE.rm
  refine bi_after5 hE (vx_runF (As := As) (rest := rest) (hE.K.1 ci _ hC).2 hE.fix (hM H.size) (va_cwF ar hE.ts hw rfl rfl rfl (hE.fw ⟨hd.1, hd.2.1⟩ hF) hd ⟨by rw [hrm]; exact hroom.1, by rw [hrm]; exact hroom.2.1⟩) (bi_preV hE h2 (hP H h1).1 (hr H h1)) rfl har h3.1 hs (lv_room hc) d ⟨by rw [hrm]; exact hroom.2.2.1, by rw [hrm]; exact hroom.2.2.2⟩) hFA h2 h3 (hP H h1).2 hst kk kx
/-- .. in the component's world -/
theorem bc_callF {M : va_M} {post : Option Value → va_M → Prop} {px : Nat → String → va_M → Prop} (hE : bi_E Y X cc ret own fr lo mc ms hh) (hM : bc_Met Y y (ws_ y cy ny ry) f1 l1 c1 s1 M (.ref a :: As) post px) {ar ci N cnt : Nat} {T : u_T} {ty : Nat → FieldType} {fs : List Value} (hC : bc_C ci C T N ty) (hm : M a = some (.inr (ci, fs))) (hd : x.cls ≠ "java/lang/invoke/MethodHandle" ∧ x.cls ≠ "java/lang/invoke/VarHandle" ∧ (parseMethodDescriptor x.desc).map (fun d => d.parameters.length) = some ar) (hw : GoodIn lw_all (va_wsF own idx C x y (ws_ y cy ny ry))) (hF : bi_Fw C x y)
    (hs : st = As.reverse ++ .ref a :: rest) (har : As.length = ar) (hc : (rest.map fun v => v.category).sum ≤ 8) (hroom : f1 + 1 ≤ fr ∧ 8 + (ny + 11) + l1 ≤ lo ∧ k + c1 ≤ mc ∧ n + s1 ≤ ms) (d : decode cc pc = .ok (.invokeinterface idx cnt, 5))
    (kx : ∀ (q : Nat) (E : String) (M' : va_M), px q E M' → bi_VX Y.1 X (bc_W Y (bi_A X) M') (k + c1) (n + s1) pc L q E)
    (kk : ∀ (v : Option Value) (M' : va_M), post v M' → bi_V Y.1 X (bc_W Y (bi_A X) M') (k + c1) (n + s1) (pc + 5) L (v.toList ++ rest)) : bi_V Y.1 X (bc_W Y (bi_A X) M) k n pc L st :=
  vr_callF (P1 := bc_W Y (bi_A X) M) (P2 := fun _ => True) (F := bc_F Y (bi_A X)) hE (hM (bi_A X)) hC.1 hd hw hF (fun _ h => ⟨h, trivial⟩) (bi_st_T _) (bc_recv hE hC hm) (fun _ h => h.1) hs har hc hroom d (fun v u h => vr_P (fun _ z => z.1) (kk v u h)) (fun q E u h => vx_P (fun _ z => z.1) (kx q E u h))
/-- a nest mate's static method -/
theorem vr_callSN {post : Option Value → S → Prop} {px : Nat → String → S → Prop} {PU : S → Heap → Prop} {host : String} (hE : bi_E Y X cc ret own fr lo mc ms hh) (hM : bi_Met Y y (ws_ y cy ny ry) f1 l1 c1 s1 P1 F As post px PU) {ar : Nat} (hok : bi_ok y C ar) (q1 : Cond.methodLinkNest own idx y host ∈ lw_tbl) (q2 : Cond.static y ∈ lw_all) (q3 : Cond.initialized y.cls ∈ lw_all) (q4 : Cond.code y cy ny ry ∈ lw_all)
    (hP : ∀ H, P H → P1 H ∧ P2 H) (hst : bi_st P2 F) (hF : ∀ q, F q → bi_A X q)
    (hs : st = As.reverse ++ rest) (har : As.length = ar) (hc : (rest.map fun v => v.category).sum ≤ 8) (hroom : f1 + 1 ≤ fr ∧ 8 + (ny + 11) + l1 ≤ lo ∧ k + c1 ≤ mc ∧ n + s1 ≤ ms) (d : decode cc pc = .ok (.invokestatic idx, 3))
    (kk : ∀ (v : Option Value) (u : S), post v u → bi_V Y.1 X (fun H => PU u H ∧ P2 H) (k + c1) (n + s1) (pc + 3) L (v.toList ++ rest))
    (kx : ∀ (q : Nat) (E : String) (u : S), px q E u → bi_VX Y.1 X (fun H => PU u H ∧ P2 H) (k + c1) (n + s1) pc L q E) : bi_V Y.1 X P k n pc L st := fun H locs ls h1 h2 h3 => by
  have hrm := hE.rm
  refine bi_after hE (vx_runSN (As := As) (rest := rest) hE.fix (hM H.size) ⟨va_cnB ar hE.ts (lw_meth q4) rfl rfl rfl (hE.nestM q1) (hE.ts _ q3) hok.2 ⟨by rw [hrm]; exact hroom.1, by rw [hrm]; exact hroom.2.1⟩, hE.ts _ q2, trivial⟩ (bi_preS hE h2 (hP H h1).1) rfl har h3.1 hs (lv_room hc) d ⟨by rw [hrm]; exact hroom.2.2.1, by rw [hrm]; exact hroom.2.2.2⟩) hF h2 h3 (hP H h1).2 hst kk kx
theorem bc_callSN {M : va_M} {post : Option Value → va_M → Prop} {px : Nat → String → va_M → Prop} {host : String} (hE : bi_E Y X cc ret own fr lo mc ms hh) (hM : bc_Met Y y (ws_ y cy ny ry) f1 l1 c1 s1 M As post px) {ar : Nat} (hok : bi_ok y C ar) (q1 : Cond.methodLinkNest own idx y host ∈ lw_tbl) (q2 : Cond.static y ∈ lw_all) (q3 : Cond.initialized y.cls ∈ lw_all) (q4 : Cond.code y cy ny ry ∈ lw_all)
    (hs : st = As.reverse ++ rest) (har : As.length = ar) (hc : (rest.map fun v => v.category).sum ≤ 8) (hroom : f1 + 1 ≤ fr ∧ 8 + (ny + 11) + l1 ≤ lo ∧ k + c1 ≤ mc ∧ n + s1 ≤ ms) (d : decode cc pc = .ok (.invokestatic idx, 3))
    (kx : ∀ (q : Nat) (E : String) (M' : va_M), px q E M' → bi_VX Y.1 X (bc_W Y (bi_A X) M') (k + c1) (n + s1) pc L q E)
    (kk : ∀ (v : Option Value) (M' : va_M), post v M' → bi_V Y.1 X (bc_W Y (bi_A X) M') (k + c1) (n + s1) (pc + 3) L (v.toList ++ rest)) : bi_V Y.1 X (bc_W Y (bi_A X) M) k n pc L st :=
  vr_callSN (P1 := bc_W Y (bi_A X) M) (P2 := fun _ => True) (F := bc_F Y (bi_A X)) hE (hM (bi_A X)) hok q1 q2 q3 q4 (fun _ h => ⟨h, trivial⟩) (bi_st_T _) (fun _ h => h.1) hs har hc hroom d (fun v u h => vr_P (fun _ z => z.1) (kk v u h)) (fun q E u h => vx_P (fun _ z => z.1) (kx q E u h))
theorem ro_callSN {post : Option Value → Unit → Prop} {host : String} (hE : bi_E Y X cc ret own fr lo mc ms hh) (hM : bi_Met Y y (ws_ y cy ny ry) f1 l1 0 0 P (fun _ => False) As post bi_nx (fun _ => P)) {ar : Nat} (hok : bi_ok y C ar) (q1 : Cond.methodLinkNest own idx y host ∈ lw_tbl) (q2 : Cond.static y ∈ lw_all) (q3 : Cond.initialized y.cls ∈ lw_all) (q4 : Cond.code y cy ny ry ∈ lw_all)
    (hs : st = As.reverse ++ rest) (har : As.length = ar) (hc : (rest.map fun v => v.category).sum ≤ 8) (hroom : f1 + 1 ≤ fr ∧ 8 + (ny + 11) + l1 ≤ lo ∧ k ≤ mc ∧ n ≤ ms) (d : decode cc pc = .ok (.invokestatic idx, 3))
    (kk : ∀ v : Option Value, post v () → bi_V Y.1 X P k n (pc + 3) L (v.toList ++ rest)) : bi_V Y.1 X P k n pc L st :=
  vr_callSN (P1 := P) (P2 := fun _ => True) (F := fun _ => False) hE hM hok q1 q2 q3 q4 (fun _ h => ⟨h, trivial⟩) (bi_st_T _) (fun _ h => h.elim) hs har hc hroom d (fun v u h => vr_P (fun _ z => z.1) (kk v h)) (fun _ _ _ h => h.elim)
/-- a nest mate's birth -/
theorem bc_callIN {M : va_M} {post : Option Value → va_M → Prop} {px : Nat → String → va_M → Prop} {host : String} (hE : bi_E Y X cc ret own fr lo mc ms hh) (hM : bc_Met Y y (ws_ y cy ny none) f1 l1 c1 s1 M (.ref a :: As) post px) {ar : Nat} (hok : bi_ok y C ar) (hy1 : y.name = "<init>") (q1 : Cond.methodLinkNest own idx y host ∈ lw_tbl) (q2 : Cond.instanceMethod y ∈ lw_all) (q3 : Cond.initialized y.cls ∈ lw_all) (q4 : Cond.code y cy ny none ∈ lw_all)
    (hs : st = As.reverse ++ .ref a :: rest) (har : As.length = ar) (hc : (rest.map fun v => v.category).sum ≤ 8) (hroom : f1 + 1 ≤ fr ∧ 8 + (ny + 11) + l1 ≤ lo ∧ k + c1 ≤ mc ∧ n + s1 ≤ ms) (d : decode cc pc = .ok (.invokespecial idx, 3))
    (kx : ∀ (q : Nat) (E : String) (M' : va_M), px q E M' → bi_VX Y.1 X (bc_W Y (bi_A X) M') (k + c1) (n + s1) pc L q E)
    (kk : ∀ (v : Option Value) (M' : va_M), post v M' → bi_V Y.1 X (bc_W Y (bi_A X) M') (k + c1) (n + s1) (pc + 3) L (v.toList ++ rest)) : bi_V Y.1 X (bc_W Y (bi_A X) M) k n pc L st := fun H locs ls h1 h2 h3 => by
  have hrm := hE.rm
  refine bi_after (P2 := fun _ => True) (F := bc_F Y (bi_A X)) hE (vx_runIN (As := As) (rest := rest) hE.fix (hM (bi_A X) H.size) ⟨va_cnB ar hE.ts (lw_meth q4) rfl rfl rfl (hE.nestM q1) (hE.ts _ q3) hok.2 ⟨by rw [hrm]; exact hroom.1, by rw [hrm]; exact hroom.2.1⟩, hy1, hE.ts _ q2⟩ (bi_preS hE h2 h1) rfl har h3.1 hs (lv_room hc) d ⟨by rw [hrm]; exact hroom.2.2.1, by rw [hrm]; exact hroom.2.2.2⟩) (fun _ h => h.1) h2 h3 trivial (bi_st_T _) (fun v u h => vr_P (fun _ z => z.1) (kk v u h)) (fun q E u h => vx_P (fun _ z => z.1) (kx q E u h))
end BCF
section RMM
variable {Y : bi_Y} {X : bi_X} {cc : ByteArray} {ret : Option FieldType} {own : String} {fr lo mc ms : Nat} {hh : List ExceptionTableEntry} {P : Heap → Prop} {k n pc : Nat} {L : List (Option Value)} {rest st : List Value} {idx : Nat}
def c_min (x y : Int32) : Int32 := if y < x then y else x
def c_max (x y : Int32) : Int32 := if x < y then y else x
theorem vr_mmin (hE : bi_E Y X cc ret own fr lo mc ms hh) {x y : Int32} (q1 : Cond.methodLink own idx Lib.Math.min.name ∈ lw_all) (q2 : Cond.static Lib.Math.min.name ∈ lw_all) (q3 : Cond.initialized "java/lang/Math" ∈ lw_all) (q4 : Cond.code Lib.Math.min.name Lib.Math.min.code 2 (some .int) ∈ lw_all) (hr : 1 ≤ fr ∧ (rest.map fun v => v.category).sum + 13 ≤ lo ∧ k ≤ mc ∧ n ≤ ms) (d : decode cc pc = .ok (.invokestatic idx, 3))
    (kk : bi_V Y.1 X P k n (pc + 3) L (.int (c_min x y) :: rest)) : bi_V Y.1 X P k n pc L (.int y :: .int x :: rest) := fun H locs ls h1 h2 h3 =>
  va_mmin hE.x hE.b (hE.ml.trans h3.1.symm) hE.ow (hE.ts _ q1) (hE.ts _ q2) (hE.ts _ q3) (hE.ts _ q4) (by rw [hE.rm]; exact hr.1) (by rw [hE.rm]; exact hr.2.1) (by rw [hE.rm]; exact hr.2.2.1) (by rw [hE.rm]; exact hr.2.2.2) d (kk H locs ls h1 h2 h3)
theorem vr_mmax (hE : bi_E Y X cc ret own fr lo mc ms hh) {x y : Int32} (q1 : Cond.methodLink own idx Lib.Math.max.name ∈ lw_all) (q2 : Cond.static Lib.Math.max.name ∈ lw_all) (q3 : Cond.initialized "java/lang/Math" ∈ lw_all) (q4 : Cond.code Lib.Math.max.name Lib.Math.max.code 2 (some .int) ∈ lw_all) (hr : 1 ≤ fr ∧ (rest.map fun v => v.category).sum + 13 ≤ lo ∧ k ≤ mc ∧ n ≤ ms) (d : decode cc pc = .ok (.invokestatic idx, 3))
    (kk : bi_V Y.1 X P k n (pc + 3) L (.int (c_max x y) :: rest)) : bi_V Y.1 X P k n pc L (.int y :: .int x :: rest) := fun H locs ls h1 h2 h3 =>
  va_mmax hE.x hE.b (hE.ml.trans h3.1.symm) hE.ow (hE.ts _ q1) (hE.ts _ q2) (hE.ts _ q3) (hE.ts _ q4) (by rw [hE.rm]; exact hr.1) (by rw [hE.rm]; exact hr.2.1) (by rw [hE.rm]; exact hr.2.2.1) (by rw [hE.rm]; exact hr.2.2.2) d (kk H locs ls h1 h2 h3)
theorem wr_getsN (hE : bi_E Y X cc ret own fr lo mc ms hh) {C nm ds host : String} {v : Value} (hZ : va_Z C nm ds v (fun q => Y.2.2.1.heap.size ≤ q) Y.2.2.1 Y.2.2.1.heap) (hl : Cond.fieldLinkNest own idx C nm ds host ∈ lw_tbl) (d : decode cc pc = .ok (.getstatic idx, 3))
    (kk : bi_V Y.1 X P k n (pc + 3) L (v :: rest)) : bi_V Y.1 X P k n pc L rest := fun H locs ls h1 h2 h3 =>
  va_getsN hE.x hE.b (hE.Z hZ) h2 hE.ow ((hE.nestF hl).use rfl) (fun _ h => h) d (kk H locs ls h1 h2 h3)
end RMM
