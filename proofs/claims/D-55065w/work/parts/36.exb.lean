/-! exceptions: born, filled, asked for their causes, thrown, caught -/
set_option maxRecDepth 100000
theorem bc_fm.setX {M : va_M} {H0 H : Heap} {a : Nat} {e : va_E} (h : bc_fm M H0) (hm : bc_mon H0 H) (ha : ∃ c : Cell, H[a]? = some c ∧ c.monitor = {}) : bc_fm (bu M a e) H := by
  intro b ci fs hb hc
  by_cases hba : b = a
  · subst hba
    exact ha
  · rw [bu_ne hba] at hb
    obtain ⟨c, c1, c2⟩ := h b ci fs hb hc
    obtain ⟨c', d1, d2⟩ := hm b c c1
    exact ⟨c', d1, d2.trans c2⟩
/-- no traces are kept -/
theorem bi_nt {Y : bi_Y} (G : bi_GS Y) : Y.1.stackTraces = false := by
  have h := G.2.2.2
  simp only [Launch.stackTraces, h]
  decide +kernel
theorem zx_US {Y : bi_Y} (G : bi_GS Y) : vx_Zq "java/lang/Throwable" "UNASSIGNED_STACK" "[Ljava/lang/StackTraceElement;" (fun q => Y.2.2.1.heap.size ≤ q) Y.2.2.1 Y.2.2.1.heap :=
  vx_Zqof (G.1 _ q319) (G.1 _ (lw_all_tbl q83)) (bi_nl G ⟨[true, false, false, false, false, false, false, false, true, false, true, false], rfl⟩) bi_A0
theorem zx_SS {Y : bi_Y} (G : bi_GS Y) : vx_Zq "java/lang/Throwable" "SUPPRESSED_SENTINEL" "Ljava/util/List;" (fun q => Y.2.2.1.heap.size ≤ q) Y.2.2.1 Y.2.2.1.heap :=
  vx_Zqof (G.1 _ q321) (G.1 _ (lw_all_tbl q83)) (bi_nl G ⟨[true, false, false, false, false, false, false, false, true, false, true, true], rfl⟩) bi_A0
section EXB
variable {Y : bi_Y} {X : bi_X} {cc : ByteArray} {ret : Option FieldType} {own : String} {fr lo mc ms : Nat} {hh : List ExceptionTableEntry} {M : va_M} {P : Heap → Prop} {k n pc : Nat} {L : List (Option Value)} {rest st : List Value} {a : Nat}
theorem bi_E.Zx (hE : bi_E Y X cc ret own fr lo mc ms hh) {C n d : String} (h : vx_Zq C n d (fun q => Y.2.2.1.heap.size ≤ q) Y.2.2.1 Y.2.2.1.heap) : vx_Zq C n d (bi_A X) (bi_s X) (bi_s X).heap :=
  ((vx_Zq.moved hE.al h).kept (fun a h1 _ => hE.GI.2.2 a h1)).narrow (fun q z => hE.ab q z)
theorem zt_in (hE : bi_E Y X cc ret own fr lo mc ms hh) : ∀ w ∈ Bundle.throwableAtoms, w.before (bi_ar X) (bi_s X) = true := by
  intro w hw
  simp only [Bundle.throwableAtoms, List.mem_cons, List.not_mem_nil, or_false] at hw
  rcases hw with rfl | rfl | rfl | rfl | rfl | rfl | rfl | rfl | rfl | rfl | rfl | rfl | rfl | rfl | rfl | rfl | rfl | rfl | rfl | rfl | rfl | rfl | rfl | rfl
  · exact hE.ts _ q83
  · exact hE.ts _ q375
  · exact hE.ts _ q323
  · exact hE.ts _ q335
  · exact hE.ts _ q338
  · exact hE.ts _ q340
  · exact hE.ts _ q376
  · exact hE.ts _ q377
  · exact hE.ts _ q132
  · exact hE.ts _ q133
  · exact hE.ts _ q317
  · exact hE.ts _ q322
  · exact hE.ts _ q336
  · exact hE.ts _ q343
  · exact hE.ts _ q369
  · exact hE.ts _ q344
  · exact hE.ts _ q370
  · exact hE.ts _ q345
  · exact hE.ts _ q371
  · exact hE.ts _ q318
  · exact (hE.Zx (zx_US hE.GS)).2.word
  · exact hE.ts _ q320
  · exact (hE.Zx (zx_SS hE.GS)).2.word
  · exact hE.ts _ q372
/-- an exception of the component's own, born -/
theorem bc_newX (hE : bi_E Y X cc ret own fr lo mc ms hh) {ci N idx : Nat} {C : String} {T : u_T} {ty : Nat → FieldType} {fs : List Value} (hC : bc_C ci C T N ty) (q1 : Cond.classLink own idx C ∈ lw_all) (q2 : Cond.instantiable C N ∈ lw_all) (q3 : Cond.initialized C ∈ lw_all) (hfs : ∀ j, j < N → defaultValue (ty j) = vp_V fs j) (hroom : k + 1 ≤ mc ∧ n + N ≤ ms) (d : decode cc pc = .ok (.new idx, 3))
    (kk : ∀ q : Nat, M q = none → bi_V Y.1 X (bc_W Y (bi_A X) (bu M q (.inr (ci, fs)))) (k + 1) (n + N) (pc + 3) L (.ref q :: rest)) : bi_V Y.1 X (bc_W Y (bi_A X) M) k n pc L rest := by
  refine vr_mon hE ⟨by omega, by omega⟩ (fun R' s' H0 h1 hE' back => ?_)
  intro H locs ls g0 h2 h3
  subst g0
  obtain ⟨ws, hP, hD, hcov, -⟩ := bc_open h1
  have hrm := hE'.rm
  have hKn := hE'.K.1 ci _ hC.1
  refine W.newcK hE'.x hE'.b hE'.ow (hE'.ts _ q1) (hE'.ts _ q2) (hE'.ts _ q3) rfl d (by rw [hrm]; show 0 + 1 ≤ mc - k; omega) (by rw [hrm]; show 0 + N ≤ ms - n; omega) hKn.2.1 rfl fun H1 kC hkC e1 z1 o1 => ?_
  have hk : ∀ (i : Nat) (x : Nat × va_E), ws[i]? = some x → H1[x.1]? = H[x.1]? := fun i x hx => o1 x.1 ((hP i x hx).lt)
  have g1 : va_P Y.2.1 bi_CL (ws ++ [(H.size, .inr (ci, fs))]) H1 := (hP.kept hk).app (fun i x hx => by
    have hz : i < 1 := (List.getElem?_eq_some_iff.mp hx).1
    rw [show i = 0 by omega] at hx
    cases hx
    exact ⟨_, hC.1, (u_born ty hE'.ts hC.2.1 hKn hkC e1 hC.2.2.1).to hfs⟩)
  have g2 : va_D (bi_A X) (ws ++ [(H.size, .inr (ci, fs))]) := hD.push hP rfl (hE'.nw _ h2.1)
  have g3 : va_S (bi_A X) s'.heap H1 locs := ⟨Nat.le_trans h2.1 (by omega), fun x h4 h5 => (o1 x (Nat.lt_of_lt_of_le h4 h2.1)).trans (h2.2.1 x h4 h5), h2.2.2⟩
  obtain ⟨e1', e2⟩ := bc_born (H := H) hE' hcov g1 g2 g3
  rw [Nat.zero_add N]
  exact back (fun H9 => bc_W0 Y (bi_A X) (bu M H.size (.inr (ci, fs))) H9 ∧ ∃ c : Cell, H9[H.size]? = some c ∧ c.monitor = {}) 1 N _ _ _ (vr_P (fun H9 h9 => ⟨h9.1.1.1, h9.1.1.2, h1.2.2.setX h9.2 h9.1.2⟩) (kk H.size e1')) H1 locs ls ⟨e2, _, e1, rfl⟩ g3 h3
/-- an object's cell, by its fields -/
theorem bc_cell (hE : bi_E Y X cc ret own fr lo mc ms hh) {ci N : Nat} {C : String} {T : u_T} {ty : Nat → FieldType} {fs : List Value} (hC : bc_C ci C T N ty) (hm : M a = some (.inr (ci, fs))) {H : Heap} (h : bc_W Y (bi_A X) M H) :
    ∃ (cell : Cell) (kC : Class), H[a]? = some cell ∧ cell.vm = .none ∧ (bi_s X).vm.findClass C = some cell.cls ∧ (bi_s X).vm.classes[cell.cls]? = some kC ∧ kC.kind = .ordinary ∧
      ∀ z, z < N → ∃ (cf : ClassId) (kf : Class) (fi : Nat) (f : Field), (bi_s X).fieldFound? (T z).1 (T z).2.1 (T z).2.2.1 = some (cf, kf, fi, f) ∧ f.isStatic = false ∧ (bi_s X).vm.assignable cell.cls cf = true ∧ kC.instanceTypes[f.slot]? = some f.type ∧ cell.slots[f.slot]? = some (vp_V fs z) := by
  obtain ⟨r, h1, cell, q1, q2, q3, q4⟩ := (h.2.1 a _ hm).2
  have hr : r = (C, T, N) := Option.some.inj (h1.symm.trans hC.1)
  subst hr
  obtain ⟨hS, hfc, kC, hkC, hkind⟩ := hE.K.1 ci _ hC.1
  refine ⟨cell, kC, q1, q3, by rw [q2]; exact hfc, by rw [q2]; exact hkC, hkind, fun z hz => ?_⟩
  obtain ⟨cf, kf, fi, f, hi, hsl⟩ := hS z hz
  obtain ⟨u1, u2, u3⟩ := u_facts hfc hkC (u_lays hE.ts hC.2.1 hz) hi
  exact ⟨cf, kf, fi, f, hi, u1, by rw [q2]; exact u2, u3, by rw [hsl]; exact q4 z hz⟩
theorem bc_mon1 (hE : bi_E Y X cc ret own fr lo mc ms hh) {ci : Nat} {fs : List Value} (hm : M a = some (.inr (ci, fs))) (h517 : ci = 5 ∨ ci = 17) {H : Heap} (h : bc_W Y (bi_A X) M H) {cell : Cell} (hc : H[a]? = some cell) : cell.monitor = {} := by
  obtain ⟨c, c1, c2⟩ := h.2.2 a ci fs hm h517
  cases c1.symm.trans hc
  exact c2
end EXB
section VYC
variable {p : Program} {l : Launch} {e : Env} {R : Room} {s : State} {m : MethodId} {args : Array Value} {below : List Frame} {meth : Method} {c : Code} {T : State} {locs : List Loc} {cells slots : Nat}
/-- a synchronized method, called on an object -/
theorem vy_callV (X : Stand p l e R s m args below meth c T locs cells slots) (hexec : p.tables.exec = Jvm.exec) {own C : String} {index : Nat} {y : MethodName} {bytes : ByteArray} {maxL : Nat} {ret : Option FieldType}
    (hown : s.vm.findClass own = some m.cls) (hlink : (Cond.methodLink own index y).before args s = true) (hinst : (Cond.instanceMethod y).before args s = true) (hsel : (Cond.selects C y y).before args s = true)
    (hcode : (Cond.codeSync y bytes maxL ret).before args s = true) (hy : y.cls ≠ "java/lang/invoke/MethodHandle" ∧ y.cls ≠ "java/lang/invoke/VarHandle")
    {W : Nat} {Pre : Pt → Array Value → Prop} {Post : Pt → Array Value → Option Value → Pt → Prop} (hK : Back l R p e below s args y 3 W Pre Post)
    {b : Addr} {cellB : Cell} (hcell : T.heap[b]? = some cellB) (hobj : cellB.vm.isStatics = false) (hcls : s.vm.findClass C = some cellB.cls)
    {g : JFrame} (hg : g.method = m) (hsize : g.locals.size = c.maxLocals) {argsL rest : List Value} (hlen : ∀ sig, parseMethodDescriptor y.desc = some sig → argsL.length = sig.parameters.length)
    (hstack : g.stack = argsL.reverse ++ .ref b :: rest) (hW : 2 * g.monitorRoom + (rest.map fun v => v.category).sum ≤ W) (hdg : decode c.code g.pc = .ok (.invokevirtual index, 3))
    (hpre : ∀ vm₁, s.WarmedH vm₁ → Pre ⟨T.setVm vm₁, locs, cells, slots⟩ (Value.ref b :: argsL).toArray) :
    ∃ (v : Option Value) (vm₁ : Vm) (B : Pt), s.WarmedH vm₁ ∧ Stand p l e R s m args below meth c B.U B.locs B.cells B.slots ∧ Post ⟨T.setVm vm₁, locs, cells, slots⟩ (Value.ref b :: argsL).toArray v B ∧
      ∀ target, Steps p.tables e below (B.U.setTop { g with pc := g.pc + 3, stack := v.toList ++ rest }) target → Steps p.tables e below (T.setTop g) target := by
  obtain ⟨mk, methM, hnamed, hmethM, hstM, habM⟩ := Cond.instanceMethod_spec hinst
  obtain ⟨methM', cM, hmethM', -, -, -, -, -, -, hsigM⟩ := Cond.codeSync_spec hnamed hcode
  cases hmethM.symm.trans hmethM'
  obtain ⟨c2, r2, m2, q1, q2, q3, q4, kP, hkP, hkPi⟩ := Cond.selects_spec hsel
  cases hcls.symm.trans q1
  cases (State.methodFound?_of_named hnamed hy).symm.trans q2
  cases hnamed.symm.trans q3
  have hselP : selectMethod e.platform s.vm cellB.cls mk = .method mk := by rw [Launch.admits_selectMethod X.admits]; exact q4
  obtain ⟨vm₁, X₁, hstep₁⟩ := X.invokevirtual hexec hown hlink hnamed hmethM hstM hkP hkPi hy (a := b) (cell := cellB) hcell
    (fun z h => by rw [h] at hobj; cases hobj) hselP hmethM habM hkP hkPi (g := g) hg (argsL := argsL) (rest := rest) (hlen _ hsigM) hstack hdg
  obtain ⟨v, B, X', hpost, hsteps⟩ := hK m meth c ⟨T.setVm vm₁, locs, cells, slots⟩ { g with stack := rest } (.invokevirtual index) mk (Value.ref b :: argsL).toArray X₁ hg hsize hdg hW (X₁.named hnamed) (hpre vm₁ X₁.warmed)
  exact ⟨v, vm₁, B, X₁.warmed, X', hpost, fun target h => hstep₁ _ fun acts => by rw [doInvoke_state]; exact hsteps.trans h⟩
/-- .. found in a class above -/
theorem vy_callVU (X : Stand p l e R s m args below meth c T locs cells slots) (hexec : p.tables.exec = Jvm.exec) {own C owner : String} {index : Nat} {x y : MethodName} {bytes : ByteArray} {maxL : Nat} {ret : Option FieldType}
    (hown : s.vm.findClass own = some m.cls) (hlink : (Cond.methodLink own index x).before args s = true) (hsame : (Cond.sameMethod x.cls owner x.name x.desc).before args s = true)
    (hd0 : va_Decl s ⟨owner, x.name, x.desc⟩) (howner : owner ≠ "java/lang/invoke/MethodHandle" ∧ owner ≠ "java/lang/invoke/VarHandle")
    (hsel : (Cond.selects C x y).before args s = true) (hinst : (Cond.instanceMethod y).before args s = true)
    {W : Nat} {Pre : Pt → Array Value → Prop} {Post : Pt → Array Value → Option Value → Pt → Prop} (hK : Back l R p e below s args y 3 W Pre Post)
    {b : Addr} {cellB : Cell} (hcell : T.heap[b]? = some cellB) (hobj : cellB.vm.isStatics = false) (hcls : s.vm.findClass C = some cellB.cls)
    {g : JFrame} (hg : g.method = m) (hsize : g.locals.size = c.maxLocals) {argsL rest : List Value} (hlen : ∀ sig, parseMethodDescriptor x.desc = some sig → argsL.length = sig.parameters.length)
    (hstack : g.stack = argsL.reverse ++ .ref b :: rest) (hW : 2 * g.monitorRoom + (rest.map fun v => v.category).sum ≤ W) (hdg : decode c.code g.pc = .ok (.invokevirtual index, 3))
    (hpre : ∀ vm₁, s.WarmedH vm₁ → Pre ⟨T.setVm vm₁, locs, cells, slots⟩ (Value.ref b :: argsL).toArray) :
    ∃ (v : Option Value) (vm₁ : Vm) (B : Pt), s.WarmedH vm₁ ∧ Stand p l e R s m args below meth c B.U B.locs B.cells B.slots ∧ Post ⟨T.setVm vm₁, locs, cells, slots⟩ (Value.ref b :: argsL).toArray v B ∧
      ∀ target, Steps p.tables e below (B.U.setTop { g with pc := g.pc + 3, stack := v.toList ++ rest }) target → Steps p.tables e below (T.setTop g) target := by
  obtain ⟨r0, r, hn, hrm, hstR, hsigR⟩ := hd0
  obtain ⟨cn, ck, r1, hcn, hck, hni, hf, hn1⟩ := Cond.sameMethod_found hsame
  cases hn.symm.trans hn1
  obtain ⟨mk, methM, hnamed, hmethM, -, habM⟩ := Cond.instanceMethod_spec hinst
  obtain ⟨c2, r2, m2, q1, q2, q3, q4, kP, hkP, hkPi⟩ := Cond.selects_spec hsel
  cases hcls.symm.trans q1
  cases hf.symm.trans q2
  cases hnamed.symm.trans q3
  have hselP : selectMethod e.platform s.vm cellB.cls r0 = .method mk := by rw [Launch.admits_selectMethod X.admits]; exact q4
  obtain ⟨vm₁, X₁, hstep₁⟩ := X.invokevirtualUp hexec hown hlink hsame howner hn hrm hstR (a := b) (cell := cellB) hcell
    (fun z h => by rw [h] at hobj; cases hobj) hselP hmethM habM hkP hkPi (g := g) hg (argsL := argsL) (rest := rest) (hlen _ hsigR) hstack hdg
  obtain ⟨v, B, X', hpost, hsteps⟩ := hK m meth c ⟨T.setVm vm₁, locs, cells, slots⟩ { g with stack := rest } (.invokevirtual index) mk (Value.ref b :: argsL).toArray X₁ hg hsize hdg hW (X₁.named hnamed) (hpre vm₁ X₁.warmed)
  exact ⟨v, vm₁, B, X₁.warmed, X', hpost, fun target h => hstep₁ _ fun acts => by rw [doInvoke_state]; exact hsteps.trans h⟩
/-- fillInStackTrace(), no traces kept: nothing changes -/
theorem vz_fill {sargs : Array Value} {len W : Nat} (hexec : p.tables.exec = Jvm.exec) (htr : e.platform.stackTraces = false)
    (T : ThrowableC) (L : T.Links e.platform s) (hfillN : s.methodNamed? Bundle.tFill = some T.fill)
    {u0 : RefV} {self : Addr} {cell cellS : Cell}
    (hobj : ∀ k, cell.vm ≠ .statics k) (hknown : cell.vm ≠ .unknown) (hmon : cell.monitor = {})
    (hvS : cell.slots[T.fStack.slot]? = some u0.v) (hsel0 : selectMethod e.platform s.vm cell.cls T.fill0 = .method T.fill0)
    (hneS : T.aS ≠ self) (hknownS : cellS.vm ≠ .unknown) (hvU : cellS.slots[T.fUnassigned.slot]? = some u0.v) (htS : _root_.Jvm.Takes s cell T.fStack u0.v)
    (hback : ∃ B : BackC, B.Links T e.platform s ∧ cell.slots[B.fBack.slot]? = some .null)
    (hRframes : 2 < R.frames) (hRlocals : W + 42 ≤ R.locals) :
    Back l R p e below s sargs Bundle.tFill len W
      (fun A a => a = #[.ref self] ∧ A.U.heap[self]? = some cell ∧ A.U.heap[T.aS]? = some cellS)
      (fun A _ v B => v = some (.ref self) ∧ B.U.heap = A.U.heap ∧ B.locs = A.locs ∧ B.cells = A.cells ∧ B.slots = A.slots) := by
  intro m meth c A g ig mk a X hg hsize hdg hWd hmk hPre
  obtain ⟨T', locs, cells, slots⟩ := A
  obtain ⟨ha, hcell, hcellS⟩ := hPre
  dsimp only [Pt.U, Pt.locs, Pt.cells, Pt.slots] at X hmk hcell hcellS ⊢
  subst ha
  have hfree : cell.monitor.owner = none := by rw [hmon]
  have hcount : cell.monitor.count = 0 := by rw [hmon]
  have e1 : T'.methodNamed? Bundle.tFill = s.methodNamed? Bundle.tFill := by
    rw [State.methodNamed?_of_vm (U := T') (V := s.setVm T'.vm) rfl]; exact State.methodNamed?_setVm X.warmed.alike _
  obtain rfl : mk = T.fill := Option.some.inj ((hmk.symm.trans e1).trans hfillN)
  have h : At T' g.method c below := by rw [hg]; exact X.here
  have hfr' : T'.frames.length + 2 < (e.platform.stackLimits T'.me).1 := X.framesAbove hRframes
  have hwd' : (stackUse (.java g :: T'.frames.tail)).2 + 42 ≤ (e.platform.stackLimits T'.me).2 := X.stackAbove hsize (K := 42) (by omega)
  obtain ⟨g₀, hg0⟩ := Option.isSome_iff_exists.mp h.top
  obtain ⟨tl0, htl0⟩ := State.topJava?_eq_some.mp hg0
  have hlen0 : T'.frames.length = (Frame.java g :: T'.frames.tail).length := by rw [htl0]; rfl
  generalize hFr : (Frame.java g :: T'.frames.tail) = Fr at hlen0 hwd'
  have hlt : self < T'.heap.size := (Array.getElem?_eq_some_iff.mp hcell).1
  have hfg : (T'.setTop g).frames = [] ++ Fr := by rw [State.frames_setTop _ htl0, ← hFr, htl0]; rfl
  have hroom : e.platform.stackFull (((T'.setTop g).threads[(T'.setTop g).cur]?).getD { frames := [] }) (T'.setTop g).frames (1 + 2) = false :=
    _root_.Jvm.roomAbove (pushed := []) (base := Fr) (free := 42) (lim := e.platform.stackLimits T'.me) hfg (State.stackLimits_setTop _ h.top g) (by rw [← hlen0]; simp only [List.length_nil]; omega) hwd' (by simp only [stackUse_nil]; omega)
  have hw14 : (stackUse [Frame.java (fillJ T.fill self 16 [])]).2 = 14 := by
    rw [stackUse_java, stackUse_nil]
    simp [operandWords]
  obtain ⟨vm', hW', st⟩ := Steps.fillColdAnyV p (V := T') (g := g) (c := c) (self := self) h hexec T L X.warmed
    (Nn := fun u => u) heapOnly_id (fun _ _ => rfl) (fun _ => rfl) (fun u x y => setCell_twice _ _ _ _)
    (cell := cell) (cellS := cellS) (cN := cell.withEntry T'.cur) (u0 := u0) (ig := ig) (len := len) []
    hcell hobj hknown (Or.inl hfree) hvS hsel0 hcellS hneS hknownS hvU (fun u hu => hu) (fun u hu => hu) rfl rfl rfl rfl htS hdg
    (fun _ vm1 hW1 hAt t' hrest => by
      obtain ⟨g₁, hg1⟩ := Option.isSome_iff_exists.mp hAt.top
      obtain ⟨tl1, htl1⟩ := State.topJava?_eq_some.mp hg1
      have htail : (fillInside (T'.setVm vm1) g T.fill self cell).frames.tail = Fr := by rw [← hFr]; exact fillInside_tail (T'.setVm vm1) g T.fill self cell h.top
      have etl : tl1 = Fr := by rw [htl1] at htail; exact htail
      have htopE : ((T'.setVm vm1).setCell self (cell.withEntry (T'.setVm vm1).cur)).topJava?.isSome := h.top
      have hlimF : e.platform.stackLimits (fillInside (T'.setVm vm1) g T.fill self cell).me = e.platform.stackLimits T'.me := by
        rw [State.stackLimits_pushFrame, State.stackLimits_setTop _ htopE]; rfl
      exact L.nativeOff p htr hAt hW1 (self := self)
        (_root_.Jvm.roomAbove (pushed := [.java (fillJ T.fill self 16 [])]) (base := Fr) (free := 42) (lim := e.platform.stackLimits T'.me) (by rw [State.frames_setTop _ htl1, etl]; rfl) (by rw [State.stackLimits_setTop _ hAt.top]; exact hlimF)
          (by rw [← hlen0]; simp only [List.length_cons, List.length_nil]; omega) hwd' (by rw [hw14]; decide)) hrest)
    hroom (by obtain ⟨B, LB, hvB⟩ := hback; exact ⟨B, LB, hvB, fun _ _ => rfl⟩)
  have hend : ((cell.withEntry T'.cur).setSlot T.fStack.slot u0.v).left = cell.setSlot T.fStack.slot u0.v := by
    simp only [Cell.left_setSlot, Cell.left_withEntry T'.cur hfree hcount]
  rw [hend, Cell.setSlot_same hvS, State.setCell_asItLies (s := T'.setVm vm') hcell] at st
  exact ⟨some (.ref self), ⟨T'.setVm vm', locs, cells, slots⟩, X.noted hW', ⟨rfl, rfl, rfl, rfl, rfl⟩, st _ (Steps.refl _)⟩
end VYC
section EXC
variable {Y : bi_Y} {X : bi_X} {cc : ByteArray} {ret : Option FieldType} {own : String} {fr lo mc ms : Nat} {hh : List ExceptionTableEntry} {M : va_M} {P : Heap → Prop} {k n pc : Nat} {L : List (Option Value)} {rest st : List Value} {a : Nat}
variable {y : MethodName} {bytes : ByteArray} {maxL : Nat} {ryt : Option FieldType} {r : Value} {As : List Value} {PQ : Heap → Prop} {idx : Nat} {C : String}
/-- what is known behind a call that changes its receiver at most -/
abbrev vy_Post (a k n : Nat) (H : Heap) (r : Value) (PQ : Heap → Prop) : Pt → Array Value → Option Value → Pt → Prop := fun A _ v B => v = some r ∧ PQ B.U.heap ∧ B.U.heap.size = H.size ∧ (∀ q : Nat, q ≠ a → B.U.heap[q]? = H[q]?) ∧ (∃ L9, B.locs = A.locs ++ L9 ∧ ∀ x ∈ L9, x.base = a) ∧ B.cells = A.cells ∧ B.slots = A.slots
abbrev vy_Pre (a k n : Nat) (H : Heap) (As : List Value) : Pt → Array Value → Prop := fun A as => as = (Value.ref a :: As).toArray ∧ A.U.heap = H ∧ A.cells = k ∧ A.slots = n
theorem vr_callY (hE : bi_E Y X cc ret own fr lo mc ms hh) (hA : bi_A X a) {ar : Nat} (hok : y.cls ≠ "java/lang/invoke/MethodHandle" ∧ y.cls ≠ "java/lang/invoke/VarHandle") (hpd : (parseMethodDescriptor y.desc).map (fun d => d.parameters.length) = some ar) (q1 : Cond.methodLink own idx y ∈ lw_all) (q2 : Cond.instanceMethod y ∈ lw_all) (q3 : Cond.selects C y y ∈ lw_all) (q4 : Cond.codeSync y bytes maxL ryt ∈ lw_all)
    (hr : ∀ H, P H → ∃ cell : Cell, H[a]? = some cell ∧ cell.vm.isStatics = false ∧ (bi_s X).vm.findClass C = some cell.cls)
    (hK : ∀ (H : Heap) (locs : List Loc) (T : State), P H → va_S (bi_A X) (bi_s X).heap H locs → T.heap = H → Stand (bi_p X) Y.1 (bi_e X) (bi_R X) (bi_s X) (bi_m X) (bi_ar X) (bi_be X) (bi_me X) (bi_c X) T locs k n → Back Y.1 (bi_R X) (bi_p X) (bi_e X) (bi_be X) (bi_s X) (bi_ar X) y 3 8 (vy_Pre a k n H As) (vy_Post a k n H r PQ))
    (hs : st = As.reverse ++ .ref a :: rest) (har : As.length = ar) (hc : (rest.map fun v => v.category).sum ≤ 8) (d : decode cc pc = .ok (.invokevirtual idx, 3))
    (kk : bi_V Y.1 X PQ k n (pc + 3) L (r :: rest)) : bi_V Y.1 X P k n pc L st := by
  intro H locs ls h1 h2 h3 T hT Xs
  obtain ⟨cell, c1, c2, c3⟩ := hr H h1
  obtain ⟨v, vm₁, ⟨U, locs', k', n'⟩, hW, X', ⟨hv, hq, hz, ho, ⟨L9, hL, hb⟩, hk, hn⟩, stp⟩ := vy_callV Xs hE.x hE.ow (hE.ts _ q1) (hE.ts _ q2) (hE.ts _ q3) (hE.ts _ q4) hok (hK H locs T h1 h2 hT Xs) (b := a) (by rw [hT]; exact c1) c2 c3 (g := F0 (bi_m X) pc ls st) rfl (h3.1.trans hE.ml.symm) (argsL := As) (rest := rest)
    (fun sig hs9 => by rw [hs9] at hpd; exact har.trans (Option.some.inj hpd).symm) hs (lv_room hc) (by rw [hE.b]; exact d) (fun vm₁ hW₁ => ⟨rfl, hT, rfl, rfl⟩)
  dsimp only [Pt.U, Pt.locs, Pt.cells, Pt.slots] at X' hv hq hz ho hL hk hn stp
  subst hv hL hk hn
  obtain ⟨t2, a1, b1⟩ := kk U.heap (locs ++ L9) ls hq ⟨by rw [hz]; exact h2.1, fun q h4 h5 => (ho q (fun z => h5 (z ▸ hA))).trans (h2.2.1 q h4 h5), fun z hz9 => (List.mem_append.mp hz9).elim (h2.2.2 z) (fun z9 => by rw [hb z z9]; exact hA)⟩ h3 U rfl X'
  exact ⟨t2, stp t2 a1, b1⟩
theorem narrow_rf {t : FieldType} {v : Value} (h : v = .null ∨ ∃ b, v = .ref b) : narrow t v = v := by
  rcases h with rfl | ⟨b, rfl⟩ <;> exact narrow_isRef t rfl
theorem isRef_rf {v : Value} (h : v = .null ∨ ∃ b, v = .ref b) : v.isRef = true := by
  rcases h with rfl | ⟨b, rfl⟩ <;> rfl
theorem fits_rfA {t : FieldType} {v : Value} (h : v = .null ∨ ∃ b, v = .ref b) : fits (.array t) v = true := fits_refV_array t ⟨v, isRef_rf h⟩
theorem fits_rfO {t : String} {v : Value} (h : v = .null ∨ ∃ b, v = .ref b) : fits (.object t) v = true := fits_refV_object t ⟨v, isRef_rf h⟩
/-- fillInStackTrace(), in a constructor of Throwable -/
theorem bc_fill (hE : bi_E Y X cc ret own fr lo mc ms hh) {ci N : Nat} {T : u_T} {ty : Nat → FieldType} {fs : List Value} {v : Value} (hv : v = .null ∨ ∃ b, v = .ref b) (hZ : va_Z "java/lang/Throwable" "UNASSIGNED_STACK" "[Ljava/lang/StackTraceElement;" v (fun q => Y.2.2.1.heap.size ≤ q) Y.2.2.1 Y.2.2.1.heap)
    (hC : bc_C ci C T N ty) (h517 : ci = 5 ∨ ci = 17) (hN : 4 < N) (hT1 : T 1 = ("java/lang/Throwable", "stackTrace", "[Ljava/lang/StackTraceElement;", false)) (hT4 : T 4 = ("java/lang/Throwable", "backtrace", "Ljava/lang/Object;", false)) (hm : M a = some (.inr (ci, fs))) (h1 : vp_V fs 1 = v) (h4 : vp_V fs 4 = .null)
    (q1 : Cond.methodLink own idx Bundle.tFill ∈ lw_all) (q3 : Cond.selects C Bundle.tFill Bundle.tFill ∈ lw_all) (q5 : Cond.selects C Bundle.tFill0 Bundle.tFill0 ∈ lw_all) (hroom : 2 < fr ∧ 50 ≤ lo) (hc : (rest.map fun v => v.category).sum ≤ 8) (d : decode cc pc = .ok (.invokevirtual idx, 3))
    (kk : bi_V Y.1 X (bc_W Y (bi_A X) M) k n (pc + 3) L (.ref a :: rest)) : bi_V Y.1 X (bc_W Y (bi_A X) M) k n pc L (.ref a :: rest) := by
  have hfl : ∀ H, bc_W Y (bi_A X) M H → bi_A X a := fun H h => (h.2.1 a _ hm).1.1
  intro H locs ls g1 g2 g3
  refine vr_callY (y := Bundle.tFill) (C := C) (As := []) (r := .ref a) (PQ := bc_W Y (bi_A X) M) (ar := 0) hE (hfl H g1) (by decide) (by decide +kernel) q1 q323 q3 q335 (bc_recv hE hC hm) ?_ rfl rfl hc d kk H locs ls g1 g2 g3
  intro H locs Tt g1 g2 hT Xs
  have htr : (bi_e X).platform.stackTraces = false := (show (bi_e X).platform.stackTraces = Y.1.stackTraces by rw [Xs.admits.platform]).trans (bi_nt hE.GS)
  have howns : (bi_e X).platform.frameOwnsMonitors = true := by rw [Xs.admits.platform]
  have hfin : (bi_e X).platform.finalization = false := by rw [Xs.admits.platform]
  have hpl : (bi_e X).platform.magicAccessors = ({} : Platform).magicAccessors := by rw [Xs.admits.platform]
  obtain ⟨T9, Z0, L9, -, Y9⟩ := ThrowableC.of_atoms (args := bi_ar X) howns hfin hpl (zt_in hE)
  obtain ⟨cell, kC, c1, c2, c3, c4, c5, c6⟩ := bc_cell hE hC hm g1
  have cm := bc_mon1 hE hm h517 g1 c1
  obtain ⟨cf, kf, fi, f, a9, cellS, z1, z2, z3, z4, z5, z6, z7, z8⟩ := hE.Z hZ
  cases z1.symm.trans Y9.unassigned
  cases Option.some.inj (z4.symm.trans L9.statics)
  have hS9 : H[T9.aS]? = some cellS := (g2.2.1 _ (Array.getElem?_eq_some_iff.mp z5).1 z8).trans z5
  obtain ⟨cf1, kf1, fi1, f1, i1, s1, as1, ty1, v1⟩ := c6 1 (by omega)
  rw [hT1] at i1
  cases i1.symm.trans Y9.stack
  obtain ⟨cf4, kf4, fi4, f4, i4, s4, as4, ty4, v4⟩ := c6 4 hN
  rw [hT4] at i4
  obtain ⟨ci198, i198, fB, hk198, hg198, ha198, hsB, -, hnB, htB, hffB⟩ := Cond.ownField (args := bi_ar X) (t := .object "java/lang/Object") Y9.found L9.cls (by decide +kernel) (hE.ts _ q374) (hE.ts _ q373) (bi_e X).platform hpl
  cases i4.symm.trans hffB
  have hsel0 : selectMethod (bi_e X).platform (bi_s X).vm cell.cls T9.fill0 = .method T9.fill0 := by
    obtain ⟨c2', r2, m2, w1, w2, w3, w4, -⟩ := Cond.selects_spec (hE.ts _ q5)
    cases Option.some.inj (w1.symm.trans c3)
    cases Option.some.inj (w2.symm.trans (State.methodFound?_of_named Y9.fill0 (by decide)))
    cases Option.some.inj (w3.symm.trans Y9.fill0)
    rw [Launch.admits_selectMethod Xs.admits]; exact w4
  have hrm := hE.rm
  refine (vz_fill (len := 3) (W := 8) hE.x htr T9 L9 Y9.fill (u0 := ⟨v, isRef_rf hv⟩) (self := a) (cell := cell) (cellS := cellS) (fun k9 z9 => by rw [c2] at z9; cases z9) (fun z9 => by rw [c2] at z9; cases z9) cm (by have z := v1; rw [h1] at z; exact z) hsel0 (fun z9 => by
      have y9 := hS9
      rw [z9] at y9
      cases y9.symm.trans c1
      rw [c2] at z6
      cases z6) (fun z9 => by rw [z9] at z6; cases z6) z7 ⟨(Array.getElem?_eq_some_iff.mp v1).1, by
      have hft : fits T9.fStack.type v = true := by rw [Y9.stackType]; exact fits_rfA hv
      rw [c2]
      simp [State.fitsSlot, State.slotType?, c4, c5, ty1, hft]⟩ ⟨{ ci198 := ci198, i198 := fi4, fBack := f4 }, ⟨hk198, hg198, ha198, hsB⟩, by have z := v4; rw [h4] at z; exact z⟩ (by rw [hrm]; exact hroom.1) (by rw [hrm]; exact hroom.2)).mono (fun A as h => ⟨h.1, by rw [h.2.1]; exact c1, by rw [h.2.1]; exact hS9⟩) ?_
  intro A as v9 B h z
  exact ⟨z.1, by rw [z.2.1, h.2.1]; exact g1, by rw [z.2.1, h.2.1], fun q _ => by rw [z.2.1, h.2.1], ⟨[], by rw [z.2.2.1, List.append_nil], fun _ h9 => by cases h9⟩, z.2.2.2.1, z.2.2.2.2⟩
/-- 'throw x' of an object of the world -/
theorem bc_athrow (hE : bi_E Y X cc ret own fr lo mc ms hh) {ci N : Nat} {T : u_T} {ty : Nat → FieldType} {fs : List Value} (hC : bc_C ci C T N ty) (hm : M a = some (.inr (ci, fs))) (d : decode cc pc = .ok (.athrow, 1)) (kk : bi_VX Y.1 X (bc_W Y (bi_A X) M) k n pc L a C) : bi_V Y.1 X (bc_W Y (bi_A X) M) k n pc L (.ref a :: rest) := fun H locs ls h1 h2 h3 => by
  obtain ⟨r, e1, cell, c1, c2, c3, -⟩ := (h1.2.1 a _ hm).2
  have hr : r = (C, T, N) := Option.some.inj (e1.symm.trans hC.1)
  subst hr
  exact vx_athrow hE.x hE.b d (kk H locs ls rest cell h1 h2 h3 c1 c3 (by rw [c2]; exact (hE.K.1 ci _ hC.1).2.1))
/-- caught by the first row of the table -/
theorem vr_catch1 (hE : bi_E Y X cc ret own fr lo mc ms hh) {q : Nat} {E nm : String} (x : ExceptionTableEntry) (suf : List ExceptionTableEntry) (hx9 : hh = x :: suf) (hx : covers x pc = true) (h0 : x.catchType ≠ 0) (hl : Cond.classLink own x.catchType nm ∈ lw_all) (hca : Cond.castable E nm ∈ lw_tbl) (kk : bi_V Y.1 X P k n x.handlerPc L [.ref q]) : bi_VX Y.1 X P k n pc L q E := fun H locs ls rest ce h1 h2 h3 h4 h5 h6 =>
  vx_catch (own := own) (name := nm) hE.ow [] x suf (by rw [hE.tb, hx9]; rfl) (fun _ h => by cases h) hx h0 (hE.ts _ hl) ((hE.castT hca).use rfl) h4 h5 h6 (kk H locs ls h1 h2 h3)
end EXC
