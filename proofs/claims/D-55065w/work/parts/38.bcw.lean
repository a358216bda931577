/-! calls of methods that have tables of their own -/
set_option maxRecDepth 100000
section BCW
variable {Y : bi_Y} {X : bi_X} {cc : ByteArray} {ret : Option FieldType} {own : String} {fr lo mc ms : Nat} {hh : List ExceptionTableEntry} {M : va_M} {P : Heap → Prop} {k n pc : Nat} {L : List (Option Value)} {rest st : List Value} {a : Nat}
variable {S : Type} {y : MethodName} {cy : ByteArray} {ny : Nat} {ry : Option FieldType} {f1 l1 c1 s1 : Nat} {P1 P2 : Heap → Prop} {F : Nat → Prop} {As : List Value} {idx : Nat} {C : String} {h9 : List (Nat × Nat × Nat × Nat)}
theorem vr_callVW {post : Option Value → S → Prop} {px : Nat → String → S → Prop} {PU : S → Heap → Prop} (hE : bi_E Y X cc ret own fr lo mc ms hh) (hM : bi_Met Y y (wsW_ y cy ny ry h9) f1 l1 c1 s1 P1 F (.ref a :: As) post px PU) {ar : Nat} (hok : bi_ok y C ar) (hw : GoodIn lw_all (wsV own idx C y (wsW_ y cy ny ry h9)))
    (hP : ∀ H, P H → P1 H ∧ P2 H) (hst : bi_st P2 F) (hr : ∀ H, P H → ∃ cell : Cell, H[a]? = some cell ∧ cell.vm.isStatics = false ∧ (bi_s X).vm.findClass C = some cell.cls) (hF : ∀ q, F q → bi_A X q)
    (hs : st = As.reverse ++ .ref a :: rest) (har : As.length = ar) (hc : (rest.map fun v => v.category).sum ≤ 8) (hroom : f1 + 1 ≤ fr ∧ 8 + (ny + 11) + l1 ≤ lo ∧ k + c1 ≤ mc ∧ n + s1 ≤ ms) (d : decode cc pc = .ok (.invokevirtual idx, 3))
    (kk : ∀ (v : Option Value) (u : S), post v u → bi_V Y.1 X (fun H => PU u H ∧ P2 H) (k + c1) (n + s1) (pc + 3) L (v.toList ++ rest))
    (kx : ∀ (q : Nat) (E : String) (u : S), px q E u → bi_VX Y.1 X (fun H => PU u H ∧ P2 H) (k + c1) (n + s1) pc L q E) : bi_V Y.1 X P k n pc L st := fun H locs ls h1 h2 h3 => by
  have hrm := hE.rm
  refine bi_after hE (vx_runVX (hh := h9) (As := As) (rest := rest) hE.fix (hM H.size) (vx_cwVW ar hE.ts hw rfl rfl rfl hok ⟨by rw [hrm]; exact hroom.1, by rw [hrm]; exact hroom.2.1⟩) (bi_preV hE h2 (hP H h1).1 (hr H h1)) rfl har h3.1 hs (lv_room hc) d ⟨by rw [hrm]; exact hroom.2.2.1, by rw [hrm]; exact hroom.2.2.2⟩) hF h2 h3 (hP H h1).2 hst kk kx
theorem vr_callSW {post : Option Value → S → Prop} {px : Nat → String → S → Prop} {PU : S → Heap → Prop} (hE : bi_E Y X cc ret own fr lo mc ms hh) (hM : bi_Met Y y (wsW_ y cy ny ry h9) f1 l1 c1 s1 P1 F As post px PU) {ar : Nat} (hok : bi_ok y C ar) (hw : GoodIn lw_all (va_wsS own idx y (wsW_ y cy ny ry h9)))
    (hP : ∀ H, P H → P1 H ∧ P2 H) (hst : bi_st P2 F) (hF : ∀ q, F q → bi_A X q)
    (hs : st = As.reverse ++ rest) (har : As.length = ar) (hc : (rest.map fun v => v.category).sum ≤ 8) (hroom : f1 + 1 ≤ fr ∧ 8 + (ny + 11) + l1 ≤ lo ∧ k + c1 ≤ mc ∧ n + s1 ≤ ms) (d : decode cc pc = .ok (.invokestatic idx, 3))
    (kk : ∀ (v : Option Value) (u : S), post v u → bi_V Y.1 X (fun H => PU u H ∧ P2 H) (k + c1) (n + s1) (pc + 3) L (v.toList ++ rest))
    (kx : ∀ (q : Nat) (E : String) (u : S), px q E u → bi_VX Y.1 X (fun H => PU u H ∧ P2 H) (k + c1) (n + s1) pc L q E) : bi_V Y.1 X P k n pc L st := fun H locs ls h1 h2 h3 => by
  have hrm := hE.rm
  refine bi_after hE (vx_runSX (hh := h9) (As := As) (rest := rest) hE.fix (hM H.size) (vx_cwSW ar hE.ts hw rfl rfl rfl hok.2 ⟨by rw [hrm]; exact hroom.1, by rw [hrm]; exact hroom.2.1⟩) (bi_preS hE h2 (hP H h1).1) rfl har h3.1 hs (lv_room hc) d ⟨by rw [hrm]; exact hroom.2.2.1, by rw [hrm]; exact hroom.2.2.2⟩) hF h2 h3 (hP H h1).2 hst kk kx
theorem bc_callVW {post : Option Value → va_M → Prop} {px : Nat → String → va_M → Prop} (hE : bi_E Y X cc ret own fr lo mc ms hh) (hM : bc_Met Y y (wsW_ y cy ny ry h9) f1 l1 c1 s1 M (.ref a :: As) post px) {ar ci N : Nat} {T : u_T} {ty : Nat → FieldType} {fs : List Value} (hC : bc_C ci C T N ty) (hm : M a = some (.inr (ci, fs))) (hok : bi_ok y C ar) (hw : GoodIn lw_all (wsV own idx C y (wsW_ y cy ny ry h9)))
    (hs : st = As.reverse ++ .ref a :: rest) (har : As.length = ar) (hc : (rest.map fun v => v.category).sum ≤ 8) (hroom : f1 + 1 ≤ fr ∧ 8 + (ny + 11) + l1 ≤ lo ∧ k + c1 ≤ mc ∧ n + s1 ≤ ms) (d : decode cc pc = .ok (.invokevirtual idx, 3))
    (kx : ∀ (q : Nat) (E : String) (M' : va_M), px q E M' → bi_VX Y.1 X (bc_W Y (bi_A X) M') (k + c1) (n + s1) pc L q E)
    (kk : ∀ (v : Option Value) (M' : va_M), post v M' → bi_V Y.1 X (bc_W Y (bi_A X) M') (k + c1) (n + s1) (pc + 3) L (v.toList ++ rest)) : bi_V Y.1 X (bc_W Y (bi_A X) M) k n pc L st :=
  vr_callVW (P1 := bc_W Y (bi_A X) M) (P2 := fun _ => True) (F := bc_F Y (bi_A X)) hE (hM (bi_A X)) hok hw (fun _ h => ⟨h, trivial⟩) (bi_st_T _) (bc_recv hE hC hm) (fun _ h => h.1) hs har hc hroom d (fun v u h => vr_P (fun _ z => z.1) (kk v u h)) (fun q E u h => vx_P (fun _ z => z.1) (kx q E u h))
theorem bc_callSW {post : Option Value → va_M → Prop} {px : Nat → String → va_M → Prop} (hE : bi_E Y X cc ret own fr lo mc ms hh) (hM : bc_Met Y y (wsW_ y cy ny ry h9) f1 l1 c1 s1 M As post px) {ar : Nat} (hok : bi_ok y C ar) (hw : GoodIn lw_all (va_wsS own idx y (wsW_ y cy ny ry h9)))
    (hs : st = As.reverse ++ rest) (har : As.length = ar) (hc : (rest.map fun v => v.category).sum ≤ 8) (hroom : f1 + 1 ≤ fr ∧ 8 + (ny + 11) + l1 ≤ lo ∧ k + c1 ≤ mc ∧ n + s1 ≤ ms) (d : decode cc pc = .ok (.invokestatic idx, 3))
    (kx : ∀ (q : Nat) (E : String) (M' : va_M), px q E M' → bi_VX Y.1 X (bc_W Y (bi_A X) M') (k + c1) (n + s1) pc L q E)
    (kk : ∀ (v : Option Value) (M' : va_M), post v M' → bi_V Y.1 X (bc_W Y (bi_A X) M') (k + c1) (n + s1) (pc + 3) L (v.toList ++ rest)) : bi_V Y.1 X (bc_W Y (bi_A X) M) k n pc L st :=
  vr_callSW (P1 := bc_W Y (bi_A X) M) (P2 := fun _ => True) (F := bc_F Y (bi_A X)) hE (hM (bi_A X)) hok hw (fun _ h => ⟨h, trivial⟩) (bi_st_T _) (fun _ h => h.1) hs har hc hroom d (fun v u h => vr_P (fun _ z => z.1) (kk v u h)) (fun q E u h => vx_P (fun _ z => z.1) (kx q E u h))
/-- a method declared above, found by the receiver -/
theorem lw_U {x : MethodName} {owner : String} {b : ByteArray} {L9 : Nat} {r : Option FieldType} (q1 : Cond.methodLink own idx x ∈ lw_all) (q2 : Cond.sameMethod x.cls owner x.name x.desc ∈ lw_all) (q3 : Cond.selects C x y ∈ lw_all) (q4 : Cond.instanceMethod y ∈ lw_all) (q5 : Cond.initialized y.cls ∈ lw_all) (q6 : Cond.code y b L9 r ∈ lw_all) : GoodIn lw_all (va_wsU own idx C owner x y (ws_ y b L9 r)) := by
  refine lw_app ?_ (lw_meth q6)
  intro w hw
  simp only [List.mem_cons, List.not_mem_nil, or_false] at hw
  rcases hw with e | e | e | e | e
  · rw [e]; exact q1
  · rw [e]; exact q2
  · rw [e]; exact q3
  · rw [e]; exact q4
  · rw [e]; exact q5
theorem vr_callU {x : MethodName} {owner : String} {post : Option Value → S → Prop} {px : Nat → String → S → Prop} {PU : S → Heap → Prop} (hE : bi_E Y X cc ret own fr lo mc ms hh) (hM : bi_Met Y y (ws_ y cy ny ry) f1 l1 c1 s1 P1 F (.ref a :: As) post px PU) {ar : Nat} (hz : Cond.declares ⟨owner, x.name, x.desc⟩ ∈ lw_tbl) (hok : owner ≠ "java/lang/invoke/MethodHandle" ∧ owner ≠ "java/lang/invoke/VarHandle" ∧ (parseMethodDescriptor x.desc).map (fun d => d.parameters.length) = some ar) (hw : GoodIn lw_all (va_wsU own idx C owner x y (ws_ y cy ny ry)))
    (hP : ∀ H, P H → P1 H ∧ P2 H) (hst : bi_st P2 F) (hr : ∀ H, P H → ∃ cell : Cell, H[a]? = some cell ∧ cell.vm.isStatics = false ∧ (bi_s X).vm.findClass C = some cell.cls) (hF : ∀ q, F q → bi_A X q)
    (hs : st = As.reverse ++ .ref a :: rest) (har : As.length = ar) (hc : (rest.map fun v => v.category).sum ≤ 8) (hroom : f1 + 1 ≤ fr ∧ 8 + (ny + 11) + l1 ≤ lo ∧ k + c1 ≤ mc ∧ n + s1 ≤ ms) (d : decode cc pc = .ok (.invokevirtual idx, 3))
    (kk : ∀ (v : Option Value) (u : S), post v u → bi_V Y.1 X (fun H => PU u H ∧ P2 H) (k + c1) (n + s1) (pc + 3) L (v.toList ++ rest))
    (kx : ∀ (q : Nat) (E : String) (u : S), px q E u → bi_VX Y.1 X (fun H => PU u H ∧ P2 H) (k + c1) (n + s1) pc L q E) : bi_V Y.1 X P k n pc L st := fun H locs ls h1 h2 h3 => by
  have hrm := hE.rm
  refine bi_after hE (vx_runU (As := As) (rest := rest) hE.fix (hM H.size) (va_cwA ar hE.ts hw rfl rfl rfl (va_Nw.warmD hE.GI.1 (va_Nw.of rfl (hE.GS.1 _ hz))) hok ⟨by rw [hrm]; exact hroom.1, by rw [hrm]; exact hroom.2.1⟩) (bi_preV hE h2 (hP H h1).1 (hr H h1)) rfl har h3.1 hs (lv_room hc) d ⟨by rw [hrm]; exact hroom.2.2.1, by rw [hrm]; exact hroom.2.2.2⟩) hF h2 h3 (hP H h1).2 hst kk kx
theorem bc_callU {x : MethodName} {owner : String} {post : Option Value → va_M → Prop} {px : Nat → String → va_M → Prop} (hE : bi_E Y X cc ret own fr lo mc ms hh) (hM : bc_Met Y y (ws_ y cy ny ry) f1 l1 c1 s1 M (.ref a :: As) post px) {ar ci N : Nat} {T : u_T} {ty : Nat → FieldType} {fs : List Value} (hC : bc_C ci C T N ty) (hm : M a = some (.inr (ci, fs))) (hz : Cond.declares ⟨owner, x.name, x.desc⟩ ∈ lw_tbl) (hok : owner ≠ "java/lang/invoke/MethodHandle" ∧ owner ≠ "java/lang/invoke/VarHandle" ∧ (parseMethodDescriptor x.desc).map (fun d => d.parameters.length) = some ar) (hw : GoodIn lw_all (va_wsU own idx C owner x y (ws_ y cy ny ry)))
    (hs : st = As.reverse ++ .ref a :: rest) (har : As.length = ar) (hc : (rest.map fun v => v.category).sum ≤ 8) (hroom : f1 + 1 ≤ fr ∧ 8 + (ny + 11) + l1 ≤ lo ∧ k + c1 ≤ mc ∧ n + s1 ≤ ms) (d : decode cc pc = .ok (.invokevirtual idx, 3))
    (kx : ∀ (q : Nat) (E : String) (M' : va_M), px q E M' → bi_VX Y.1 X (bc_W Y (bi_A X) M') (k + c1) (n + s1) pc L q E)
    (kk : ∀ (v : Option Value) (M' : va_M), post v M' → bi_V Y.1 X (bc_W Y (bi_A X) M') (k + c1) (n + s1) (pc + 3) L (v.toList ++ rest)) : bi_V Y.1 X (bc_W Y (bi_A X) M) k n pc L st :=
  vr_callU (P1 := bc_W Y (bi_A X) M) (P2 := fun _ => True) (F := bc_F Y (bi_A X)) hE (hM (bi_A X)) hz hok hw (fun _ h => ⟨h, trivial⟩) (bi_st_T _) (bc_recv hE hC hm) (fun _ h => h.1) hs har hc hroom d (fun v u h => vr_P (fun _ z => z.1) (kk v u h)) (fun q E u h => vx_P (fun _ z => z.1) (kx q E u h))
end BCW
