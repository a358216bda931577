/-! calls of methods of a class above -/
set_option maxRecDepth 100000
section VP
variable {p : Program} {l : Launch} {e : Env} {R : Room} {s : State} {m : MethodId} {args : Array Value} {below : List Frame} {meth : Method} {c : Code} {T : State} {H : Heap} {locs : List Loc} {cells slots : Nat}
theorem vx_callVP (X : Stand p l e R s m args below meth c T locs cells slots) (hexec : p.tables.exec = Jvm.exec) {own : String} {index : Nat} {y : MethodName} {bytes : ByteArray} {maxL : Nat} {ret : Option FieldType}
    (hown : s.vm.findClass own = some m.cls) (hlink : (Cond.methodLink own index y).before args s = true) (hinst : (Cond.instanceMethod y).before args s = true) (hpriv : s.PrivateAt y) (hsame : (Cond.sameMethod y.cls y.cls y.name y.desc).before args s = true)
    (hcode : (Cond.code y bytes maxL ret).before args s = true) (hy : y.cls ≠ "java/lang/invoke/MethodHandle" ∧ y.cls ≠ "java/lang/invoke/VarHandle")
    {W9 : Nat} {Pre : Pt → Array Value → Prop} {Post : Pt → Array Value → Option Value → Pt → Prop} {PostX : Pt → Array Value → Addr → Pt → Prop} (hK : vx_Back l R p e below s args y 3 W9 Pre Post PostX)
    {b : Addr} {cellB : Cell} (hcell : T.heap[b]? = some cellB) (hobj : cellB.vm.isStatics = false)
    {g : JFrame} (hg : g.method = m) (hsize : g.locals.size = c.maxLocals) {argsL rest : List Value} (hlen : ∀ sig, parseMethodDescriptor y.desc = some sig → argsL.length = sig.parameters.length)
    (hstack : g.stack = argsL.reverse ++ .ref b :: rest) (hW : 2 * g.monitorRoom + (rest.map fun v => v.category).sum ≤ W9) (hdg : decode c.code g.pc = .ok (.invokevirtual index, 3))
    (hpre : ∀ vm₁, s.WarmedH vm₁ → Pre ⟨T.setVm vm₁, locs, cells, slots⟩ (Value.ref b :: argsL).toArray) :
    (∃ (v : Option Value) (vm₁ : Vm) (B : Pt), s.WarmedH vm₁ ∧ Stand p l e R s m args below meth c B.U B.locs B.cells B.slots ∧ Post ⟨T.setVm vm₁, locs, cells, slots⟩ (Value.ref b :: argsL).toArray v B ∧
      ∀ target, Steps p.tables e below (B.U.setTop { g with pc := g.pc + 3, stack := v.toList ++ rest }) target → Steps p.tables e below (T.setTop g) target) ∨
    (∃ (q : Addr) (vm₁ : Vm) (B : Pt), s.WarmedH vm₁ ∧ Stand p l e R s m args below meth c B.U B.locs B.cells B.slots ∧ PostX ⟨T.setVm vm₁, locs, cells, slots⟩ (Value.ref b :: argsL).toArray q B ∧
      Steps p.tables e below (T.setTop g) ((B.U.setTop { g with stack := rest }).pushFrame (.throwing q))) := by
  obtain ⟨mk, methM, hnamed, hmethM, hstM, habM⟩ := Cond.instanceMethod_spec hinst
  obtain ⟨methM', cM, hmethM', -, -, -, -, -, -, hsigM⟩ := Cond.code_spec hnamed hcode
  cases hmethM.symm.trans hmethM'
  obtain ⟨cn, kP, r1, hcn, hkP0, hkPi, hf, hn1⟩ := Cond.sameMethod_found hsame
  cases hcn.symm.trans (findClass_of_methodNamed hnamed)
  have hkP := hkP0
  have hselP : selectMethod e.platform s.vm cellB.cls mk = .method mk := selectMethod_private hmethM (hpriv mk methM hnamed hmethM)
  obtain ⟨vm₁, X₁, hstep₁⟩ := X.invokevirtual hexec hown hlink hnamed hmethM hstM hkP hkPi hy (a := b) (cell := cellB) hcell
    (fun z h => by rw [h] at hobj; cases hobj) hselP hmethM habM hkP hkPi (g := g) hg (argsL := argsL) (rest := rest) (hlen _ hsigM) hstack hdg
  rcases hK m meth c ⟨T.setVm vm₁, locs, cells, slots⟩ { g with stack := rest } (.invokevirtual index) mk (Value.ref b :: argsL).toArray X₁ hg hsize hdg hW (X₁.named hnamed) (hpre vm₁ X₁.warmed) with ⟨v, B, X', hpost, hsteps⟩ | ⟨q, B, X', hpost, hsteps⟩
  · exact Or.inl ⟨v, vm₁, B, X₁.warmed, X', hpost, fun target h => hstep₁ _ fun acts => by rw [doInvoke_state]; exact hsteps.trans h⟩
  · exact Or.inr ⟨q, vm₁, B, X₁.warmed, X', hpost, hstep₁ _ fun acts => by rw [doInvoke_state]; exact hsteps⟩
variable {y : MethodName} {bytes cc : ByteArray} {maxL nL mc ms n index : Nat} {ret : Option FieldType} {ws : List Cond} {rm : Room} {Pc : Array Value → State → Prop} {Qc : Array Value → State → Outcome → State → Prop} {XC : Addr → String → State → State → Prop} {free : Addr → Prop} {Ts : List Cond} {own : String} {As rest : List Value} {g : JFrame}
theorem vx_runVP {C : String} {b : Addr} (S : CallFix p m c cc nL s args Ts own) (hM : vx_Met l y ws rm Pc Qc XC mc ms free) (cw : (CallB R s args own index y bytes maxL ret ws rm mc ms n) ∧ (Cond.instanceMethod y).before args s = true ∧ s.PrivateAt y ∧ (Cond.sameMethod y.cls y.cls y.name y.desc).before args s = true) (hp : PreV s H C b Pc As)
    (hg : g.method = m) (hn : As.length = n) (hsize : g.locals.size = nL) (hstack : g.stack = As.reverse ++ .ref b :: rest) (hW : 2 * g.monitorRoom + (rest.map fun v => v.category).sum ≤ 8) (hdg : decode cc g.pc = .ok (.invokevirtual index, 3)) (hf : cells + mc ≤ R.cells ∧ slots + ms ≤ R.slots) :
    vx_Run p l e R s m args below meth c H locs cells slots mc ms g rest (Qc (Value.ref b :: As).toArray) XC free := by
  have hK : vx_Back l R p e below s args y 3 8 (PreOf R mc ms Pc) (PostOf Qc mc ms free) (vx_Post XC mc ms free) := vx_callBack cw.1 hM hp.1
  obtain ⟨⟨-, -, -, -, -, -, hcode, -, hy, hlen, hl⟩, hin, hse, hini9⟩ := cw
  obtain ⟨hx, hb, hml, ho, -⟩ := S
  obtain ⟨-, ⟨cellB, hcB, hoB, hclB⟩, hPc⟩ := hp
  intro T hT X
  rcases vx_callVP X hx (bytes := bytes) (maxL := maxL) (ret := ret) ho hl hin hse hini9 hcode hy hK (by rw [hT]; exact hcB) hoB hg (hsize.trans hml.symm) (argsL := As) (rest := rest) (fun sig h => hn.trans (hlen sig h)) hstack hW (by rw [hb]; exact hdg)
    (fun vm₁ hW₁ => ⟨hf.1, hf.2, hPc (T.setVm vm₁) hT hW₁⟩) with ⟨v, vm₁, ⟨U', l2, c2, s2⟩, hW₁, X', ⟨g', mk, t, L, e1, e2, hq, h1, hL, h2, h3⟩, st⟩ | ⟨q, vm₁, ⟨U', l2, c2, s2⟩, hW₁, X', ⟨g', mk, t, L, E, ce, e1, e2, hq, hce, hcv, hcl, h1, hL, h2, h3⟩, st⟩
  · dsimp only [Pt.U, Pt.locs, Pt.cells, Pt.slots] at X' e1 e2 h1 h2 h3 st
    subst h1; subst h2; subst h3
    exact Or.inl ⟨v, (T.setVm vm₁).calling g' mk (Value.ref b :: As).toArray, t, U', L, hT, X', hL, e1, e2, hq, st⟩
  · dsimp only [Pt.U, Pt.locs, Pt.cells, Pt.slots] at X' e1 e2 h1 h2 h3 st hcl
    subst h1; subst h2; subst h3
    exact Or.inr ⟨q, (T.setVm vm₁).calling g' mk (Value.ref b :: As).toArray, t, U', L, E, ce, hT, X', hL, e1, e2, hq, hce, hcv, vx_cls hW₁ hcl, st⟩
end VP
section BCP
variable {Y : bi_Y} {X : bi_X} {cc : ByteArray} {ret : Option FieldType} {own : String} {fr lo mc ms : Nat} {hh : List ExceptionTableEntry} {M : va_M} {P : Heap → Prop} {k n pc : Nat} {L : List (Option Value)} {rest st : List Value} {a : Nat}
theorem bi_E.priv (hE : bi_E Y X cc ret own fr lo mc ms hh) {y : MethodName} (h : Cond.privateMethod y ∈ lw_tbl) : (bi_s X).PrivateAt y := by
  have h0 := Cond.privateMethod_at (hE.GS.1 _ h)
  intro mk meth hn hm
  have e1 : (bi_s X).methodNamed? y = Y.2.2.1.methodNamed? y := by
    rw [State.methodNamed?_of_vm (U := bi_s X) (V := Y.2.2.1.setVm (bi_s X).vm) rfl]; exact State.methodNamed?_setVm hE.al _
  exact h0 mk meth (e1 ▸ hn) (by rw [← hE.al.method?]; exact hm)
variable {S : Type} {y : MethodName} {cy : ByteArray} {ny : Nat} {ry : Option FieldType} {f1 l1 c1 s1 : Nat} {P1 P2 : Heap → Prop} {F : Nat → Prop} {As : List Value} {idx : Nat} {C : String}
section VR
variable {post : Option Value → S → Prop} {px : Nat → String → S → Prop} {PU : S → Heap → Prop}
theorem vr_callVP (hE : bi_E Y X cc ret own fr lo mc ms hh) (hM : bi_Met Y y (ws_ y cy ny ry) f1 l1 c1 s1 P1 F (.ref a :: As) post px PU) {ar : Nat} (hok : y.cls ≠ "java/lang/invoke/MethodHandle" ∧ y.cls ≠ "java/lang/invoke/VarHandle" ∧ (parseMethodDescriptor y.desc).map (fun d => d.parameters.length) = some ar) (q1 : Cond.methodLink own idx y ∈ lw_all) (q2 : Cond.instanceMethod y ∈ lw_all) (q3 : Cond.initialized y.cls ∈ lw_all) (q4 : Cond.code y cy ny ry ∈ lw_all) (q5 : Cond.privateMethod y ∈ lw_tbl) (q6 : Cond.sameMethod y.cls y.cls y.name y.desc ∈ lw_all)
    (hP : ∀ H, P H → P1 H ∧ P2 H) (hst : bi_st P2 F) (hr : ∀ H, P H → ∃ cell : Cell, H[a]? = some cell ∧ cell.vm.isStatics = false ∧ (bi_s X).vm.findClass C = some cell.cls) (hF : ∀ q, F q → bi_A X q)
    (hs : st = As.reverse ++ .ref a :: rest) (har : As.length = ar) (hc : (rest.map fun v => v.category).sum ≤ 8) (hroom : f1 + 1 ≤ fr ∧ 8 + (ny + 11) + l1 ≤ lo ∧ k + c1 ≤ mc ∧ n + s1 ≤ ms) (d : decode cc pc = .ok (.invokevirtual idx, 3))
    (kk : ∀ (v : Option Value) (u : S), post v u → bi_V Y.1 X (fun H => PU u H ∧ P2 H) (k + c1) (n + s1) (pc + 3) L (v.toList ++ rest))
    (kx : ∀ (q : Nat) (E : String) (u : S), px q E u → bi_VX Y.1 X (fun H => PU u H ∧ P2 H) (k + c1) (n + s1) pc L q E) : bi_V Y.1 X P k n pc L st := fun H locs ls h1 h2 h3 => by
  have hrm := hE.rm
  have hl9 : ∀ sig, parseMethodDescriptor y.desc = some sig → ar = sig.parameters.length := fun sig h => by
    have h2 := hok.2.2
    rw [h] at h2
    exact (Option.some.inj h2).symm
  have hB9 : CallB (bi_R X) (bi_s X) (bi_ar X) own idx y cy ny ry (ws_ y cy ny ry) ({ frames := f1, cells := c1, slots := s1, locals := l1 } : Room) c1 s1 ar := ⟨rfl, rfl, by rw [hrm]; exact hroom.1, by rw [hrm]; exact hroom.2.1, pay_in hE.ts (lw_meth q4), List.mem_cons_self, hE.ts _ q4, hE.ts _ q3, ⟨hok.1, hok.2.1⟩, hl9, hE.ts _ q1⟩
  have hp9 : (bi_s X).PrivateAt y := hE.priv q5
  refine bi_after hE (vx_runVP (C := C) (As := As) (rest := rest) hE.fix (hM H.size) ⟨hB9, hE.ts _ q2, hp9, hE.ts _ q6⟩ (bi_preV hE h2 (hP H h1).1 (hr H h1)) rfl har h3.1 hs (lv_room hc) d ⟨by rw [hrm]; exact hroom.2.2.1, by rw [hrm]; exact hroom.2.2.2⟩) hF h2 h3 (hP H h1).2 hst kk kx
theorem vr_callSU (hE : bi_E Y X cc ret own fr lo mc ms hh) (hM : bi_Met Y y (ws_ y cy ny ry) f1 l1 c1 s1 P1 F (.ref a :: As) post px PU) {ar : Nat} {cC : ClassId} (hat : ClassAt (bi_s X) C cC) (hok : y.name ≠ "<init>" ∧ (parseMethodDescriptor y.desc).map (fun d => d.parameters.length) = some ar) (hw : GoodIn lw_all (va_wsSU own idx y (ws_ y cy ny ry)))
    (hP : ∀ H, P H → P1 H ∧ P2 H) (hst : bi_st P2 F) (hr : ∀ H, P H → ∃ cell : Cell, H[a]? = some cell ∧ cell.vm.isStatics = false ∧ (bi_s X).vm.findClass C = some cell.cls) (hF : ∀ q, F q → bi_A X q)
    (hs : st = As.reverse ++ .ref a :: rest) (har : As.length = ar) (hc : (rest.map fun v => v.category).sum ≤ 8) (hroom : f1 + 1 ≤ fr ∧ 8 + (ny + 11) + l1 ≤ lo ∧ k + c1 ≤ mc ∧ n + s1 ≤ ms) (d : decode cc pc = .ok (.invokespecial idx, 3))
    (kk : ∀ (v : Option Value) (u : S), post v u → bi_V Y.1 X (fun H => PU u H ∧ P2 H) (k + c1) (n + s1) (pc + 3) L (v.toList ++ rest))
    (kx : ∀ (q : Nat) (E : String) (u : S), px q E u → bi_VX Y.1 X (fun H => PU u H ∧ P2 H) (k + c1) (n + s1) pc L q E) : bi_V Y.1 X P k n pc L st := fun H locs ls h1 h2 h3 => by
  have hrm := hE.rm
  refine bi_after hE (vx_runSU (As := As) (rest := rest) hat hE.fix (hM H.size) (va_cwSU ar hE.ts hw rfl rfl rfl hok ⟨by rw [hrm]; exact hroom.1, by rw [hrm]; exact hroom.2.1⟩) (bi_preV hE h2 (hP H h1).1 (hr H h1)) rfl har h3.1 hs (lv_room hc) d ⟨by rw [hrm]; exact hroom.2.2.1, by rw [hrm]; exact hroom.2.2.2⟩) hF h2 h3 (hP H h1).2 hst kk kx
theorem vr_callO {x : MethodName} {owner : String} {post : Option Value → S → Prop} {px : Nat → String → S → Prop} {PU : S → Heap → Prop} (hE : bi_E Y X cc ret own fr lo mc ms hh) (hM : bi_Met Y y (ws_ y cy ny ry) f1 l1 c1 s1 P1 F (.ref a :: As) post px PU) {ar : Nat} (hz : y = ⟨owner, x.name, x.desc⟩) (hok : owner ≠ "java/lang/invoke/MethodHandle" ∧ owner ≠ "java/lang/invoke/VarHandle" ∧ (parseMethodDescriptor x.desc).map (fun d => d.parameters.length) = some ar) (hw : GoodIn lw_all (va_wsU own idx C owner x y (ws_ y cy ny ry)))
    (hP : ∀ H, P H → P1 H ∧ P2 H) (hst : bi_st P2 F) (hr : ∀ H, P H → ∃ cell : Cell, H[a]? = some cell ∧ cell.vm.isStatics = false ∧ (bi_s X).vm.findClass C = some cell.cls) (hF : ∀ q, F q → bi_A X q)
    (hs : st = As.reverse ++ .ref a :: rest) (har : As.length = ar) (hc : (rest.map fun v => v.category).sum ≤ 8) (hroom : f1 + 1 ≤ fr ∧ 8 + (ny + 11) + l1 ≤ lo ∧ k + c1 ≤ mc ∧ n + s1 ≤ ms) (d : decode cc pc = .ok (.invokevirtual idx, 3))
    (kk : ∀ (v : Option Value) (u : S), post v u → bi_V Y.1 X (fun H => PU u H ∧ P2 H) (k + c1) (n + s1) (pc + 3) L (v.toList ++ rest))
    (kx : ∀ (q : Nat) (E : String) (u : S), px q E u → bi_VX Y.1 X (fun H => PU u H ∧ P2 H) (k + c1) (n + s1) pc L q E) : bi_V Y.1 X P k n pc L st := fun H locs ls h1 h2 h3 => by
  have hrm := hE.rm
  refine bi_after hE (vx_runU (As := As) (rest := rest) hE.fix (hM H.size) (va_cwU ar hE.ts hw rfl rfl rfl hz hok ⟨by rw [hrm]; exact hroom.1, by rw [hrm]; exact hroom.2.1⟩) (bi_preV hE h2 (hP H h1).1 (hr H h1)) rfl har h3.1 hs (lv_room hc) d ⟨by rw [hrm]; exact hroom.2.2.1, by rw [hrm]; exact hroom.2.2.2⟩) hF h2 h3 (hP H h1).2 hst kk kx
end VR
theorem bc_callVP {post : Option Value → va_M → Prop} {px : Nat → String → va_M → Prop} (hE : bi_E Y X cc ret own fr lo mc ms hh) (hM : bc_Met Y y (ws_ y cy ny ry) f1 l1 c1 s1 M (.ref a :: As) post px) {ar ci N : Nat} {T : u_T} {ty : Nat → FieldType} {fs : List Value} (hC : bc_C ci C T N ty) (hm : M a = some (.inr (ci, fs))) (hok : y.cls ≠ "java/lang/invoke/MethodHandle" ∧ y.cls ≠ "java/lang/invoke/VarHandle" ∧ (parseMethodDescriptor y.desc).map (fun d => d.parameters.length) = some ar) (q1 : Cond.methodLink own idx y ∈ lw_all) (q2 : Cond.instanceMethod y ∈ lw_all) (q3 : Cond.initialized y.cls ∈ lw_all) (q4 : Cond.code y cy ny ry ∈ lw_all) (q5 : Cond.privateMethod y ∈ lw_tbl) (q6 : Cond.sameMethod y.cls y.cls y.name y.desc ∈ lw_all)
    (hs : st = As.reverse ++ .ref a :: rest) (har : As.length = ar) (hc : (rest.map fun v => v.category).sum ≤ 8) (hroom : f1 + 1 ≤ fr ∧ 8 + (ny + 11) + l1 ≤ lo ∧ k + c1 ≤ mc ∧ n + s1 ≤ ms) (d : decode cc pc = .ok (.invokevirtual idx, 3))
    (kx : ∀ (q : Nat) (E : String) (M' : va_M), px q E M' → bi_VX Y.1 X (bc_W Y (bi_A X) M') (k + c1) (n + s1) pc L q E)
    (kk : ∀ (v : Option Value) (M' : va_M), post v M' → bi_V Y.1 X (bc_W Y (bi_A X) M') (k + c1) (n + s1) (pc + 3) L (v.toList ++ rest)) : bi_V Y.1 X (bc_W Y (bi_A X) M) k n pc L st :=
  vr_callVP (P1 := bc_W Y (bi_A X) M) (P2 := fun _ => True) (F := bc_F Y (bi_A X)) hE (hM (bi_A X)) hok q1 q2 q3 q4 q5 q6 (fun _ h => ⟨h, trivial⟩) (bi_st_T _) (bc_recv hE hC hm) (fun _ h => h.1) hs har hc hroom d (fun v u h => vr_P (fun _ z => z.1) (kk v u h)) (fun q E u h => vx_P (fun _ z => z.1) (kx q E u h))
theorem bc_callSU {post : Option Value → va_M → Prop} {px : Nat → String → va_M → Prop} (hE : bi_E Y X cc ret own fr lo mc ms hh) (hM : bc_Met Y y (ws_ y cy ny ry) f1 l1 c1 s1 M (.ref a :: As) post px) {ar ci N : Nat} {T : u_T} {ty : Nat → FieldType} {fs : List Value} (hC : bc_C ci C T N ty) (hm : M a = some (.inr (ci, fs))) (hok : y.name ≠ "<init>" ∧ (parseMethodDescriptor y.desc).map (fun d => d.parameters.length) = some ar) (hw : GoodIn lw_all (va_wsSU own idx y (ws_ y cy ny ry)))
    (hs : st = As.reverse ++ .ref a :: rest) (har : As.length = ar) (hc : (rest.map fun v => v.category).sum ≤ 8) (hroom : f1 + 1 ≤ fr ∧ 8 + (ny + 11) + l1 ≤ lo ∧ k + c1 ≤ mc ∧ n + s1 ≤ ms) (d : decode cc pc = .ok (.invokespecial idx, 3))
    (kx : ∀ (q : Nat) (E : String) (M' : va_M), px q E M' → bi_VX Y.1 X (bc_W Y (bi_A X) M') (k + c1) (n + s1) pc L q E)
    (kk : ∀ (v : Option Value) (M' : va_M), post v M' → bi_V Y.1 X (bc_W Y (bi_A X) M') (k + c1) (n + s1) (pc + 3) L (v.toList ++ rest)) : bi_V Y.1 X (bc_W Y (bi_A X) M) k n pc L st :=
  vr_callSU (P1 := bc_W Y (bi_A X) M) (P2 := fun _ => True) (F := bc_F Y (bi_A X)) hE (hM (bi_A X)) (hE.K.1 ci _ hC.1).2 hok hw (fun _ h => ⟨h, trivial⟩) (bi_st_T _) (bc_recv hE hC hm) (fun _ h => h.1) hs har hc hroom d (fun v u h => vr_P (fun _ z => z.1) (kk v u h)) (fun q E u h => vx_P (fun _ z => z.1) (kx q E u h))
theorem bc_callO {x : MethodName} {owner : String} {post : Option Value → va_M → Prop} {px : Nat → String → va_M → Prop} (hE : bi_E Y X cc ret own fr lo mc ms hh) (hM : bc_Met Y y (ws_ y cy ny ry) f1 l1 c1 s1 M (.ref a :: As) post px) {ar ci N : Nat} {T : u_T} {ty : Nat → FieldType} {fs : List Value} (hC : bc_C ci C T N ty) (hm : M a = some (.inr (ci, fs))) (hz : y = ⟨owner, x.name, x.desc⟩) (hok : owner ≠ "java/lang/invoke/MethodHandle" ∧ owner ≠ "java/lang/invoke/VarHandle" ∧ (parseMethodDescriptor x.desc).map (fun d => d.parameters.length) = some ar) (hw : GoodIn lw_all (va_wsU own idx C owner x y (ws_ y cy ny ry)))
    (hs : st = As.reverse ++ .ref a :: rest) (har : As.length = ar) (hc : (rest.map fun v => v.category).sum ≤ 8) (hroom : f1 + 1 ≤ fr ∧ 8 + (ny + 11) + l1 ≤ lo ∧ k + c1 ≤ mc ∧ n + s1 ≤ ms) (d : decode cc pc = .ok (.invokevirtual idx, 3))
    (kx : ∀ (q : Nat) (E : String) (M' : va_M), px q E M' → bi_VX Y.1 X (bc_W Y (bi_A X) M') (k + c1) (n + s1) pc L q E)
    (kk : ∀ (v : Option Value) (M' : va_M), post v M' → bi_V Y.1 X (bc_W Y (bi_A X) M') (k + c1) (n + s1) (pc + 3) L (v.toList ++ rest)) : bi_V Y.1 X (bc_W Y (bi_A X) M) k n pc L st :=
  vr_callO (P1 := bc_W Y (bi_A X) M) (P2 := fun _ => True) (F := bc_F Y (bi_A X)) hE (hM (bi_A X)) hz hok hw (fun _ h => ⟨h, trivial⟩) (bi_st_T _) (bc_recv hE hC hm) (fun _ h => h.1) hs har hc hroom d (fun v u h => vr_P (fun _ z => z.1) (kk v u h)) (fun q E u h => vx_P (fun _ z => z.1) (kx q E u h))
end BCP
