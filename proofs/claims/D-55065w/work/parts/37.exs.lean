/-! the synchronized methods of Throwable -/
set_option maxRecDepth 100000
theorem bc_Met.mono {Y : bi_Y} {y : MethodName} {ws : List Cond} {fr lo mc ms : Nat} {M : va_M} {av : List Value} {post post' : Option Value → va_M → Prop} {px px' : Nat → String → va_M → Prop} (h : bc_Met Y y ws fr lo mc ms M av post px) (h1 : ∀ v M', post v M' → post' v M') (h2 : ∀ q E M', px q E M' → px' q E M') : bc_Met Y y ws fr lo mc ms M av post' px' := fun A sz =>
  MetFree.mono (h A sz) (fun _ _ z => z) (fun _ _ _ _ _ z => z) (fun a s o s' _ z => by
    rcases z with ⟨⟨⟨v, u, z1, z2, z3⟩, z4⟩, z5⟩ | ⟨q, z1, E, ce, locs, ⟨u, z2, z3⟩, z4⟩
    · exact Or.inl ⟨⟨⟨v, u, z1, h1 v u z2, z3⟩, z4⟩, z5⟩
    · exact Or.inr ⟨q, z1, E, ce, locs, ⟨u, h2 q E u z2, z3⟩, z4⟩)
theorem ar_back {H : Heap} {a : Nat} {x y : Cell} (h : H[a]? = some y) : (H.setIfInBounds a x).setIfInBounds a y = H := by
  obtain ⟨hlt, hv⟩ := Array.getElem?_eq_some_iff.mp h
  refine Array.ext_getElem? fun i => ?_
  by_cases hi : i = a
  · subst hi
    rw [Array.getElem?_setIfInBounds_self_of_lt (by simpa using hlt), h]
  · rw [Array.getElem?_setIfInBounds_ne (Ne.symm hi), Array.getElem?_setIfInBounds_ne (Ne.symm hi)]
section EXS
variable {p : Program} {l : Launch} {e : Env} {R : Room} {s : State} {m : MethodId} {args : Array Value} {below : List Frame} {meth : Method} {c : Code} {T : State} {locs : List Loc} {cells slots : Nat}
variable {cc : ByteArray} {a pc : Nat} {ls : Array Slot} {rest : List Value} {t : State}
/-- a synchronized method's frame -/
abbrev fs_ (m : MethodId) (a : Nat) (pc : Nat) (ls : Array Slot) (st : List Value) : JFrame := { method := m, pc := pc, locals := ls, stack := st, locked := some a, monitorRoom := 1 }
theorem fs_aload {k : Fin 4} {x : Nat} (X : Stand p l e R s m args below meth c T locs cells slots) (hexec : p.tables.exec = Jvm.exec) (hb : c.code = cc) (hdg : decode cc pc = .ok (.aload_n k, 1)) (hl : ls[(k : Nat)]? = some (.val (.ref x))) (h : Steps p.tables e below (T.setTop (fs_ m a (pc + 1) ls (.ref x :: rest))) t) : Steps p.tables e below (T.setTop (fs_ m a pc ls rest)) t := by
  jvm_step X.here [X.here.top, hexec, hb, hdg, hl, Value.isRef]
  exact h
theorem fs_null (X : Stand p l e R s m args below meth c T locs cells slots) (hexec : p.tables.exec = Jvm.exec) (hb : c.code = cc) (hdg : decode cc pc = .ok (.aconst_null, 1)) (h : Steps p.tables e below (T.setTop (fs_ m a (pc + 1) ls (.null :: rest))) t) : Steps p.tables e below (T.setTop (fs_ m a pc ls rest)) t := by
  jvm_step X.here [X.here.top, hexec, hb, hdg, Op.aconst_null.sem]
  exact h
theorem fs_goto {off : Int} {tgt : Nat} (X : Stand p l e R s m args below meth c T locs cells slots) (hexec : p.tables.exec = Jvm.exec) (hb : c.code = cc) (hdg : decode cc pc = .ok (.goto off, 3)) (ht : (pc : Int) + off = (tgt : Int)) (h : Steps p.tables e below (T.setTop (fs_ m a tgt ls rest)) t) : Steps p.tables e below (T.setTop (fs_ m a pc ls rest)) t := by
  jvm_step X.here [X.here.top, hexec, hb, hdg, ht]
  exact h
theorem fs_eqT {off : Int} {tgt b : Nat} (X : Stand p l e R s m args below meth c T locs cells slots) (hexec : p.tables.exec = Jvm.exec) (hb : c.code = cc) (hdg : decode cc pc = .ok (.if_acmp .eq off, 3)) (ht : (pc : Int) + off = (tgt : Int)) (h : Steps p.tables e below (T.setTop (fs_ m a tgt ls rest)) t) : Steps p.tables e below (T.setTop (fs_ m a pc ls (.ref b :: .ref b :: rest))) t := by
  jvm_step X.here [X.here.top, hexec, hb, hdg, va_rf, Value.asRef?, Op.if_acmp.holds, ht]
  exact h
theorem fs_neF {off : Int} {b : Nat} (X : Stand p l e R s m args below meth c T locs cells slots) (hexec : p.tables.exec = Jvm.exec) (hb : c.code = cc) (hdg : decode cc pc = .ok (.if_acmp .ne off, 3)) (h : Steps p.tables e below (T.setTop (fs_ m a (pc + 3) ls rest)) t) : Steps p.tables e below (T.setTop (fs_ m a pc ls (.ref b :: .ref b :: rest))) t := by
  jvm_step X.here [X.here.top, hexec, hb, hdg, va_rf, Value.asRef?, Op.if_acmp.holds]
  exact h
theorem fs_neT {off : Int} {tgt b : Nat} {v : Value} (X : Stand p l e R s m args below meth c T locs cells slots) (hexec : p.tables.exec = Jvm.exec) (hb : c.code = cc) (hv : v = .null ∨ ∃ d, v = .ref d) (hne : v ≠ .ref b) (hdg : decode cc pc = .ok (.if_acmp .ne off, 3)) (ht : (pc : Int) + off = (tgt : Int)) (h : Steps p.tables e below (T.setTop (fs_ m a tgt ls rest)) t) : Steps p.tables e below (T.setTop (fs_ m a pc ls (.ref b :: v :: rest))) t := by
  rcases hv with rfl | ⟨d, rfl⟩
  · jvm_step X.here [X.here.top, hexec, hb, hdg, va_rf, Value.asRef?, Op.if_acmp.holds, ht]
    exact h
  · have hdb : ¬ d = b := fun z => hne (by rw [z])
    jvm_step X.here [X.here.top, hexec, hb, hdg, va_rf, Value.asRef?, Op.if_acmp.holds, ht, hdb]
    exact h
theorem fs_aret {v : Value} {z : String} (X : Stand p l e R s m args below meth c T locs cells slots) (hexec : p.tables.exec = Jvm.exec) (hb : c.code = cc) (hv : v = .null ∨ ∃ d, v = .ref d) (hret : meth.sig.returnType = some (.object z)) (hdg : decode cc pc = .ok (.areturn, 1)) {Z : State}
    (hleave : ∀ (f : JFrame) (acts : List Action), f.method = m → f.locked = some a → f.entered = [] → (doReturn e (T.setTop f) acts (some v)).1 = Z) : Steps p.tables e below (T.setTop (fs_ m a pc ls [v])) Z := by
  have hm' : T.vm.method? m = some meth := X.method'
  rcases hv with rfl | ⟨d, rfl⟩
  · jvm_step X.here [X.here.top, hexec, hb, hdg, hm', hret, narrow, Value.isRef, FieldType.isReference]
    first | (intro acts; rw [hleave _ acts rfl rfl rfl]) | rw [hleave _ _ rfl rfl rfl]
    exact Steps.refl _
  · jvm_step X.here [X.here.top, hexec, hb, hdg, hm', hret, narrow, Value.isRef, FieldType.isReference]
    first | (intro acts; rw [hleave _ acts rfl rfl rfl]) | rw [hleave _ _ rfl rfl rfl]
    exact Steps.refl _
end EXS
abbrev gcY : MethodName := ⟨"java/lang/Throwable", "getCause", "()Ljava/lang/Throwable;"⟩
abbrev gcW : List Cond := [Cond.codeSync gcY prog_46_method_8_code 1 (some (.object "java/lang/Throwable")), Cond.instanceMethod gcY, Cond.fieldLink "java/lang/Throwable" 7 "java/lang/Throwable" "cause" "Ljava/lang/Throwable;"]
abbrev icY : MethodName := ⟨"java/lang/Throwable", "initCause", "(Ljava/lang/Throwable;)Ljava/lang/Throwable;"⟩
abbrev icW : List Cond := [Cond.codeSync icY prog_46_method_9_code 2 (some (.object "java/lang/Throwable")), Cond.instanceMethod icY, Cond.fieldLink "java/lang/Throwable" 7 "java/lang/Throwable" "cause" "Ljava/lang/Throwable;"]
abbrev rmS0 : Room := { frames := 0, cells := 0, slots := 0, locals := 0 }
/-- entry of a synchronized instance method whose monitor is free: the walk's start as a record over the start with the monitor entered -/
theorem vz_sync {l : Launch} {x : MethodName} {S : Spec} {P : Array Value → State → Prop} {K : Program → Env → List Frame → State → Array Value → Prop} {Q : Array Value → State → Outcome → State → Prop}
    {code : ByteArray} {maxL : Nat} {ret : Option FieldType} (hx : plainFor x = true)
    (hst : ∀ args (s : State) m, S.pre.before args s = true → s.methodNamed? x = some m → (Cond.codeSync x code maxL ret).before args s = true ∧ (Cond.instanceMethod x).before args s = true)
    (hrecv : ∀ args (s : State), S.pre.before args s = true → P args s → ∃ a cell, args[0]? = some (.ref a) ∧ s.heap[a]? = some cell ∧ cell.monitor.owner = none ∧ cell.monitor.count = 0)
    (body : ∀ p e s m args below meth c a cell s1, Stand p l e S.room (s.setCell a (cell.withEntry s.cur)) m args below meth c s1 [] 0 0 → p.tables.exec = Jvm.exec → s.methodNamed? x = some m → S.pre.before args s = true →
      meth.sig.returnType = ret → meth.locks = true → c.code = code → args[0]? = some (.ref a) → s.heap[a]? = some cell → cell.monitor.owner = none → cell.monitor.count = 0 → s1 = (s.setCell a (cell.withEntry s.cur)).setFrames (.java (entryFrameSync m args maxL a) :: below) → P args s →
      ∃ s2 o, Steps p.tables e below (s1.setTop (entryFrameSync m args maxL a)) s2 ∧ s2.status = .running ∧ Ended s2 below o ∧ Q args s o s2) : MetFree l x S P K Q := by
  intro p e ha hc hk s m args below hf happ hP hK
  obtain ⟨hrun, hable, halone, hname, hhears, hinit, hroom, hpre⟩ := (Spec.appliesLoose_iff hf).mp happ
  obtain ⟨k1, k2⟩ := hst args s m hpre hname
  obtain ⟨meth, c, hmeth, hcode, hbytes, hlocals, hret, hlocks, -, -⟩ := Cond.codeSync_spec hname k1
  have hstat : meth.isStatic = false := by
    simp only [Cond.before, Cond.holds, Cond.value, hname, hmeth, Option.bind_some, Option.map_some] at k2
    have h3 : meth.isStatic = false ∧ meth.isAbstract = false := by simpa using k2
    exact h3.1
  obtain ⟨a, cell, harg, hcell, hfree, hcount⟩ := hrecv args s hpre hP
  have hcur := State.cur_lt_of_frames hf
  obtain ⟨sm, hsm⟩ : ∃ u, u = s.setCell a (cell.withEntry s.cur) := ⟨_, rfl⟩
  have hcur' : sm.cur < sm.threads.size := by rw [hsm]; exact hcur
  have hf1 : (sm.setFrames (.java (entryFrameSync m args maxL a) :: below)).frames = .java (entryFrameSync m args maxL a) :: below := State.frames_setFrames _ hcur'
  have ht1 := State.topJava?_of_frames hf1
  have hplain : (sm.setFrames (.java (entryFrameSync m args maxL a) :: below)).plainMethod m := by subst hsm; exact State.plainMethod.of_named (s := s) hx hname hmeth
  have hAt : At (sm.setFrames (.java (entryFrameSync m args maxL a) :: below)) m c below :=
    ⟨by rw [ht1]; rfl, ⟨[], by rw [hf1]; rfl⟩, by subst hsm; exact hrun, by subst hsm; simpa using hable, by subst hsm; simpa using halone, by subst hsm; rw [State.code?_eq]; simp [State.setFrames, State.setCell, hmeth, hcode], hplain⟩
  obtain ⟨t, ht, -⟩ := State.frames_cons hf
  have X0 : Stand p l e S.room sm m args below meth c (sm.setFrames (.java (entryFrameSync m args maxL a) :: below)) [] 0 0 := by
    refine ⟨ha, hc, hk, by rw [hsm]; exact hf, by rw [hsm, State.hasRoom_setCell (x := cell.withEntry s.cur) hcell rfl]; exact hroom, by rw [hsm]; exact hhears, by rw [hsm]; exact hmeth, hcode, hAt, by rw [hf1]; rfl, State.WarmedH.refl sm, by rw [State.stackLimits_setFrames], by rw [State.stackBytes_setFrames], ?_⟩
    exact (State.sameButNew.refl sm (x := t) (by rw [hsm]; exact ht)).setFrames (.java (entryFrameSync m args maxL a) :: below) hcur'
  subst hsm
  obtain ⟨s2, o, w1, w2, w3, w4⟩ := body p e s m args below meth c a cell _ X0 (by cases p <;> rfl) hname hpre hret hlocks hbytes harg hcell hfree hcount rfl hP
  have hstep : (stepThread p.tables e s).1 = ((s.setCell a (cell.withEntry s.cur)).setFrames (.java (entryFrameSync m args maxL a) :: below)).setTop (entryFrameSync m args maxL a) := by
    have hfull : e.platform.stackFull (s.setFrames below).me (s.setFrames below).frames (c.maxLocals + 2) = false := by
      obtain ⟨-, r1, -, r2⟩ := State.hasRoom_stack hroom
      rw [hf, List.length_cons] at r1
      rw [State.localsInUse_invoking hf hmeth hcode] at r2
      have hw := stackUse_le_stackWeight below
      rw [State.frames_setFrames _ hcur]
      simp only [vmFrameWords] at r2
      exact Platform.stackFull_eq_false (by rw [State.stackLimits_setFrames]; omega) (by rw [State.stackLimits_setFrames]; omega)
    have z := (doInvoke_java_sync (s := s.setFrames below) (e := e) (meth := meth) (code := c) (a := a) (cell := cell) hmeth hcode hlocks hstat harg hcell (Or.inl hfree) hfull (acts := [])).1
    rw [stepThread_invoking hf, z, State.setTop_self ht1, hlocals]
    show (((s.setFrames below).setCell a (cell.withEntry s.cur)).setFrames (.java (entryFrameSync m args maxL a) :: ((s.setFrames below).setCell a (cell.withEntry s.cur)).frames)) = _
    rw [show ((s.setFrames below).setCell a (cell.withEntry s.cur)).frames = below from State.frames_setFrames _ hcur, State.setCell_setFrames, State.setFrames_setFrames]
  obtain ⟨n, hn, hw⟩ := Steps.head (tb := p.tables) (e := e) ⟨hrun, hable, halone⟩ ⟨[.invoking m args], hf, by simp, by simp⟩ (hstep ▸ w1)
  exact ⟨n, o, hw, hn ▸ w2, hn ▸ w3, hn ▸ w4⟩
theorem vz_gc (l : Launch) {s : State} {H : Heap} {a : Nat} {c0 : Value} {cell : Cell} (hcell : H[a]? = some cell) (hmon : cell.monitor = {}) (hvm : cell.vm = .none) {cf : ClassId} {kf : Class} {fi : Nat} {f : Field} (hi : s.fieldFound? "java/lang/Throwable" "cause" "Ljava/lang/Throwable;" = some (cf, kf, fi, f)) (hst : f.isStatic = false) (hsl : cell.slots[f.slot]? = some c0) (hc0 : c0 = .null ∨ ∃ d, c0 = .ref d) :
    MetFree l gcY (headSpec gcW rmS0) (fun as U => as = #[.ref a] ∧ U.heap = H ∧ s.WarmedH U.vm) (fun _ _ _ _ _ => True) (fun _ U o t => o = .returned (some (if c0 = .ref a then .null else c0)) ∧ t.heap = H ∧ FrameEnd U o t [] 0 0) := by
  have hent : cell.enterable = fun _ => _ := rfl
  refine vz_sync (code := prog_46_method_8_code) (maxL := 1) (ret := some (.object "java/lang/Throwable")) (by decide) (fun as U m h hn => ?_) (fun as U _ h => ⟨a, cell, by rw [h.1]; rfl, by rw [h.2.1]; exact hcell, by rw [hmon], by rw [hmon]⟩) ?_
  · have hts := atoms_spec (ws := gcW) h
    exact ⟨hts _ (by simp), hts _ (by simp)⟩
  intro p e s0 m args below meth c a' cell' s₁ X0 hx hnm hpre hret0 hsync hby hr hobj _ _ hst1 hP
  obtain ⟨rfl, hh, hW⟩ := hP
  obtain rfl : a = a' := by
    have z : some (Value.ref a) = some (Value.ref a') := hr
    cases z
    rfl
  obtain rfl : cell = cell' := Option.some.inj (hcell.symm.trans (by rw [← hh]; exact hobj))
  have hts := atoms_spec (ws := gcW) hpre
  have hfree : cell.monitor.owner = none := by rw [hmon]
  have hcount : cell.monitor.count = 0 := by rw [hmon]
  have hlt : a < H.size := (Array.getElem?_eq_some_iff.mp hcell).1
  have h1 : s₁.heap = H.setIfInBounds a (cell.withEntry s0.cur) := by rw [hst1, ← hh]; rfl
  have hc1 : s₁.heap[a]? = some (cell.withEntry s0.cur) := by rw [h1]; exact Array.getElem?_setIfInBounds_self_of_lt hlt
  have hown : (s0.setCell a (cell.withEntry s0.cur)).vm.findClass "java/lang/Throwable" = some m.cls := findClass_of_methodNamed hnm
  obtain ⟨k', hi', he'⟩ := State.fieldFound?_setVm hW.alike hi
  have hi2 : (s0.setCell a (cell.withEntry s0.cur)).fieldFound? "java/lang/Throwable" "cause" "Ljava/lang/Throwable;" = some (cf, k', fi, f) := hi'
  have hlk : (Cond.fieldLink "java/lang/Throwable" 7 "java/lang/Throwable" "cause" "Ljava/lang/Throwable;").before #[.ref a] (s0.setCell a (cell.withEntry s0.cur)) = true := va_tabs (A := #[.ref a]) (u := s0) rfl rfl (hts (Cond.fieldLink "java/lang/Throwable" 7 "java/lang/Throwable" "cause" "Ljava/lang/Throwable;") (by simp))
  have hko : (cell.withEntry s0.cur).vm ≠ .unknown := by show cell.vm ≠ .unknown; rw [hvm]; exact fun z => by cases z
  have hs9 : (cell.withEntry s0.cur).slots[f.slot]? = some c0 := hsl
  have d0 : decode prog_46_method_8_code 0 = .ok (.aload_n 0, 1) := by decide +kernel
  have d1 : decode prog_46_method_8_code 1 = .ok (.getfield 7, 3) := by decide +kernel
  have d4 : decode prog_46_method_8_code 4 = .ok (.aload_n 0, 1) := by decide +kernel
  have d5 : decode prog_46_method_8_code 5 = .ok (.if_acmp .ne 7, 3) := by decide +kernel
  have d8 : decode prog_46_method_8_code 8 = .ok (.aconst_null, 1) := by decide +kernel
  have d9 : decode prog_46_method_8_code 9 = .ok (.goto 7, 3) := by decide +kernel
  have d12 : decode prog_46_method_8_code 12 = .ok (.aload_n 0, 1) := by decide +kernel
  have d13 : decode prog_46_method_8_code 13 = .ok (.getfield 7, 3) := by decide +kernel
  have d16 : decode prog_46_method_8_code 16 = .ok (.areturn, 1) := by decide +kernel
  obtain ⟨vm1, X1, st1⟩ := X0.getfield hx hown hlk hi2 hst hc1 hko hs9 (g := fs_ m a 1 #[.val (.ref a)] [.ref a]) rfl rfl (by rw [hby]; exact d1)
  by_cases q : c0 = .ref a
  · subst q
    obtain ⟨fs, cellT, hT, hret, hrun, hended, hWe, hsame⟩ := X1.leaveSync (by rw [hh]; exact hcell) (Or.inl ⟨hfree, hcount⟩) hsync (v := some .null) (fun h => by rw [hret0] at h; cases h)
    have hcT : cellT = cell.withEntry s0.cur := Option.some.inj (hT.symm.trans hc1)
    refine ⟨_, _, ?_, hrun, hended, by rw [if_pos rfl], ?_, ⟨_, rfl⟩, hWe, hsame⟩
    · show Steps p.tables e below (s₁.setTop (fs_ m a 0 #[.val (.ref a)] [])) _
      refine fs_aload X0 hx hby d0 rfl ?_
      refine st1 _ ?_
      refine fs_aload X1 hx hby d4 rfl ?_
      refine fs_neF X1 hx hby d5 ?_
      refine fs_null X1 hx hby d8 ?_
      refine fs_goto (tgt := 16) X1 hx hby d9 rfl ?_
      exact fs_aret X1 hx hby (Or.inl rfl) hret0 d16 hret
    · show (s₁.heap.setIfInBounds a cellT.left) = H
      rw [hcT, Cell.left_withEntry s0.cur hfree hcount, h1]
      exact ar_back hcell
  · obtain ⟨vm2, X2, st2⟩ := X1.getfield hx hown hlk hi2 hst (show (s₁.setVm vm1).heap[a]? = _ from hc1) hko hs9 (g := fs_ m a 13 #[.val (.ref a)] [.ref a]) rfl rfl (by rw [hby]; exact d13)
    obtain ⟨fs, cellT, hT, hret, hrun, hended, hWe, hsame⟩ := X2.leaveSync (by rw [hh]; exact hcell) (Or.inl ⟨hfree, hcount⟩) hsync (v := some c0) (fun h => by rw [hret0] at h; cases h)
    have hcT : cellT = cell.withEntry s0.cur := Option.some.inj (hT.symm.trans hc1)
    refine ⟨_, _, ?_, hrun, hended, by rw [if_neg q], ?_, ⟨_, rfl⟩, hWe, hsame⟩
    · show Steps p.tables e below (s₁.setTop (fs_ m a 0 #[.val (.ref a)] [])) _
      refine fs_aload X0 hx hby d0 rfl ?_
      refine st1 _ ?_
      refine fs_aload X1 hx hby d4 rfl ?_
      refine fs_neT (tgt := 12) X1 hx hby hc0 q d5 rfl ?_
      refine fs_aload X1 hx hby d12 rfl ?_
      refine st2 _ ?_
      exact fs_aret X2 hx hby hc0 hret0 d16 hret
    · show (s₁.heap.setIfInBounds a cellT.left) = H
      rw [hcT, Cell.left_withEntry s0.cur hfree hcount, h1]
      exact ar_back hcell
/-- initCause(), of one that has no cause yet -/
theorem vz_ic (l : Launch) {s : State} {H : Heap} {a b : Nat} (hab : b ≠ a) {cell : Cell} (hcell : H[a]? = some cell) (hmon : cell.monitor = {}) (hvm : cell.vm = .none) {cf : ClassId} {kf : Class} {fi : Nat} {f : Field} (hi : s.fieldFound? "java/lang/Throwable" "cause" "Ljava/lang/Throwable;" = some (cf, kf, fi, f)) (hst : f.isStatic = false) (hsl : cell.slots[f.slot]? = some (.ref a)) (hft : narrow f.type (.ref b) = .ref b) (hfin : hasFlag f.accessFlags Acc.final = false) (hfit : s.fitsSlot cell.cls cell.vm f.slot (.ref b) = true) :
    MetFree l icY (headSpec icW rmS0) (fun as U => as = #[.ref a, .ref b] ∧ U.heap = H ∧ s.WarmedH U.vm) (fun _ _ _ _ _ => True) (fun _ U o t => o = .returned (some (.ref a)) ∧ t.heap = H.setIfInBounds a (cell.setSlot f.slot (.ref b)) ∧ FrameEnd U o t [⟨a, f.slot⟩] 0 0) := by
  refine vz_sync (code := prog_46_method_9_code) (maxL := 2) (ret := some (.object "java/lang/Throwable")) (by decide) (fun as U m h hn => ?_) (fun as U _ h => ⟨a, cell, by rw [h.1]; rfl, by rw [h.2.1]; exact hcell, by rw [hmon], by rw [hmon]⟩) ?_
  · have hts := atoms_spec (ws := icW) h
    exact ⟨hts _ (by simp), hts _ (by simp)⟩
  intro p e s0 m args below meth c a' cell' s₁ X0 hx hnm hpre hret0 hsync hby hr hobj _ _ hst1 hP
  obtain ⟨rfl, hh, hW⟩ := hP
  obtain rfl : a = a' := by
    have z : some (Value.ref a) = some (Value.ref a') := hr
    cases z
    rfl
  obtain rfl : cell = cell' := Option.some.inj (hcell.symm.trans (by rw [← hh]; exact hobj))
  have hts := atoms_spec (ws := icW) hpre
  have hfree : cell.monitor.owner = none := by rw [hmon]
  have hcount : cell.monitor.count = 0 := by rw [hmon]
  have hlt : a < H.size := (Array.getElem?_eq_some_iff.mp hcell).1
  have h1 : s₁.heap = H.setIfInBounds a (cell.withEntry s0.cur) := by rw [hst1, ← hh]; rfl
  have hc1 : s₁.heap[a]? = some (cell.withEntry s0.cur) := by rw [h1]; exact Array.getElem?_setIfInBounds_self_of_lt hlt
  have hown : (s0.setCell a (cell.withEntry s0.cur)).vm.findClass "java/lang/Throwable" = some m.cls := findClass_of_methodNamed hnm
  obtain ⟨k', hi', he'⟩ := State.fieldFound?_setVm hW.alike hi
  have hi2 : (s0.setCell a (cell.withEntry s0.cur)).fieldFound? "java/lang/Throwable" "cause" "Ljava/lang/Throwable;" = some (cf, k', fi, f) := hi'
  have hlk : (Cond.fieldLink "java/lang/Throwable" 7 "java/lang/Throwable" "cause" "Ljava/lang/Throwable;").before #[.ref a, .ref b] (s0.setCell a (cell.withEntry s0.cur)) = true := va_tabs (A := #[.ref a, .ref b]) (u := s0) rfl rfl (hts (Cond.fieldLink "java/lang/Throwable" 7 "java/lang/Throwable" "cause" "Ljava/lang/Throwable;") (by simp))
  have hko : (cell.withEntry s0.cur).vm ≠ .unknown := by show cell.vm ≠ .unknown; rw [hvm]; exact fun z => by cases z
  have hs9 : (cell.withEntry s0.cur).slots[f.slot]? = some (.ref a) := hsl
  have hsz : f.slot < (cell.withEntry s0.cur).slots.size := (Array.getElem?_eq_some_iff.mp hsl).1
  have hf9 : (s0.setCell a (cell.withEntry s0.cur)).fitsSlot (cell.withEntry s0.cur).cls (cell.withEntry s0.cur).vm f.slot (.ref b) = true := by rw [← hfit]; exact congrFun (congrFun (congrFun (congrFun (show (s0.setCell a (cell.withEntry s0.cur)).fitsSlot = s.fitsSlot from by rw [← State.fitsSlot_setVm hW.alike]; rfl) _) _) _) _
  have d0 : decode prog_46_method_9_code 0 = .ok (.aload_n 0, 1) := by decide +kernel
  have d1 : decode prog_46_method_9_code 1 = .ok (.getfield 7, 3) := by decide +kernel
  have d4 : decode prog_46_method_9_code 4 = .ok (.aload_n 0, 1) := by decide +kernel
  have d5 : decode prog_46_method_9_code 5 = .ok (.if_acmp .eq 36, 3) := by decide +kernel
  have d41 : decode prog_46_method_9_code 41 = .ok (.aload_n 1, 1) := by decide +kernel
  have d42 : decode prog_46_method_9_code 42 = .ok (.aload_n 0, 1) := by decide +kernel
  have d43 : decode prog_46_method_9_code 43 = .ok (.if_acmp .ne 14, 3) := by decide +kernel
  have d57 : decode prog_46_method_9_code 57 = .ok (.aload_n 0, 1) := by decide +kernel
  have d58 : decode prog_46_method_9_code 58 = .ok (.aload_n 1, 1) := by decide +kernel
  have d59 : decode prog_46_method_9_code 59 = .ok (.putfield 7, 3) := by decide +kernel
  have d62 : decode prog_46_method_9_code 62 = .ok (.aload_n 0, 1) := by decide +kernel
  have d63 : decode prog_46_method_9_code 63 = .ok (.areturn, 1) := by decide +kernel
  obtain ⟨vm1, X1, st1⟩ := X0.getfield hx hown hlk hi2 hst hc1 hko hs9 (g := fs_ m a 1 #[.val (.ref a), .val (.ref b)] [.ref a]) rfl rfl (by rw [hby]; exact d1)
  obtain ⟨vm2, X2, st2⟩ := X1.putfield hx hown hlk hi2 hst (Or.inl hfin) (show (s₁.setVm vm1).heap[a]? = _ from hc1) hko hsz hft hf9 (g := fs_ m a 59 #[.val (.ref a), .val (.ref b)] [.ref b, .ref a]) rfl rfl (by rw [hby]; exact d59)
  obtain ⟨fs, cellT, hT, hret, hrun, hended, hWe, hsame⟩ := X2.leaveSync (by rw [hh]; exact hcell) (Or.inl ⟨hfree, hcount⟩) hsync (v := some (.ref a)) (fun h => by rw [hret0] at h; cases h)
  have hT9 : (s₁.heap.setIfInBounds a ((cell.withEntry s0.cur).setSlot f.slot (.ref b)))[a]? = some cellT := hT
  have hcT : cellT = (cell.withEntry s0.cur).setSlot f.slot (.ref b) := by
    rw [Array.getElem?_setIfInBounds_self_of_lt (by rw [h1]; simpa using hlt)] at hT9
    exact (Option.some.inj hT9).symm
  refine ⟨_, _, ?_, hrun, hended, rfl, ?_, ⟨_, rfl⟩, hWe, hsame⟩
  · show Steps p.tables e below (s₁.setTop (fs_ m a 0 #[.val (.ref a), .val (.ref b)] [])) _
    refine fs_aload X0 hx hby d0 rfl ?_
    refine st1 _ ?_
    refine fs_aload X1 hx hby d4 rfl ?_
    refine fs_eqT (tgt := 41) X1 hx hby d5 rfl ?_
    refine fs_aload X1 hx hby d41 rfl ?_
    refine fs_aload X1 hx hby d42 rfl ?_
    refine fs_neT (tgt := 57) X1 hx hby (Or.inr ⟨_, rfl⟩) (fun z => hab (by cases z; rfl)) d43 rfl ?_
    refine fs_aload X1 hx hby d57 rfl ?_
    refine fs_aload X1 hx hby d58 rfl ?_
    refine st2 _ ?_
    refine fs_aload X2 hx hby d62 rfl ?_
    exact fs_aret X2 hx hby (Or.inr ⟨_, rfl⟩) hret0 d63 hret
  · show ((s₁.heap.setIfInBounds a ((cell.withEntry s0.cur).setSlot f.slot (.ref b))).setIfInBounds a cellT.left) = _
    rw [hcT, Cell.left_setSlot, Cell.left_withEntry s0.cur hfree hcount, h1]
    refine Array.ext_getElem? fun i => ?_
    by_cases hia : i = a
    · subst hia
      rw [Array.getElem?_setIfInBounds_self_of_lt (by simpa using hlt), Array.getElem?_setIfInBounds_self_of_lt hlt]
    · rw [Array.getElem?_setIfInBounds_ne (Ne.symm hia), Array.getElem?_setIfInBounds_ne (Ne.symm hia), Array.getElem?_setIfInBounds_ne (Ne.symm hia), Array.getElem?_setIfInBounds_ne (Ne.symm hia)]
section EXT
variable {l : Launch} {R : Room} {p : Program} {e : Env} {below : List Frame} {s : State} {sargs : Array Value} {y : MethodName} {len W : Nat}
/-- paid by a synchronized method's law (follows the library's back_of_sync) -/
theorem vy_back {S : Spec} {bytes : ByteArray} {maxL k n : Nat} {ret : Option FieldType} {Lx : List Loc} {av : Array Value} {H : Heap} {r : Value} {H1 : Heap}
    (hM : MetFree l y S (fun as U => as = av ∧ U.heap = H ∧ s.WarmedH U.vm) (fun _ _ _ _ _ => True) (fun _ U o t => o = .returned (some r) ∧ t.heap = H1 ∧ FrameEnd U o t Lx 0 0))
    (hframes : S.room.frames + 1 ≤ R.frames) (hlocals : W + (maxL + 11) + S.room.locals ≤ R.locals) (hz : S.room.cells = 0 ∧ S.room.slots = 0) (hk : k ≤ R.cells ∧ n ≤ R.slots)
    (hpre : ∀ (a : Array Value) (U : State), s.WarmedH U.vm → S.pre.before a U = true ∧ (Cond.codeSync y bytes maxL ret).before a U = true ∧ (Cond.initialized y.cls).before a U = true) :
    Back l R p e below s sargs y len W (fun A as => as = av ∧ A.U.heap = H ∧ A.cells = k ∧ A.slots = n) (fun A _ v B => v = some r ∧ B.U.heap = H1 ∧ B.locs = A.locs ++ Lx ∧ B.cells = A.cells ∧ B.slots = A.slots) := by
  intro m meth c A g ig mk a X hg hsize hdg hW hn hp
  obtain ⟨h1, h2, h3⟩ := hpre a A.U X.warmed
  obtain ⟨U, Ls, c0, s0⟩ := A
  obtain ⟨rfl, p2, rfl, rfl⟩ := hp
  dsimp only [Pt.U, Pt.locs, Pt.cells, Pt.slots] at h1 h2 h3 X hn hk p2 ⊢
  obtain ⟨methY, cY, hmY, hcY, -, hlY, -⟩ := Cond.codeSync_spec hn h2
  obtain ⟨kY, hkY, -⟩ := className_of_methodNamed hn
  have hinitY : kY.init = .initialized := Cond.initialized_spec (findClass_of_methodNamed hn) hkY h3
  have h : At U g.method c below := by rw [hg]; exact X.here
  have happ : S.appliesLoose y e.platform (U.calling g mk a) = true :=
    Spec.appliesLoose_calling (g := g) h hdg hn hkY hinitY
      (X.room_calling (g := g) (R' := S.room) hsize hmY hcY hframes (by rw [hlY]; omega) (by rw [hz.1]; exact hk.1) (by rw [hz.2]; exact hk.2)) h1
  obtain ⟨mid, hmid⟩ := h.above
  have hfr : (U.setTop g).frames = (.java g :: mid) ++ below := by rw [State.frames_setTop' g h.top, hmid]; rfl
  obtain ⟨o, s₂, hsteps, -, hend, hq⟩ := Steps.callFree hM p X.admits X.cas X.clock (acts := []) hfr happ (by exact ⟨rfl, p2, X.warmed⟩) trivial
  rw [State.frames_setTop' g h.top] at hend
  obtain ⟨rfl, hH1, hfe⟩ := hq
  obtain ⟨-, hW₂, e2, q2, q3, q4, q5, q6⟩ := id hfe
  have e3 : s₂ = ({ (U.calling g mk a).setFrames s₂.frames with heap := s₂.heap, slotsUsed := s₂.slotsUsed } : State).setVm s₂.vm := by
    have e2' : ({ s₂ with vm := (U.calling g mk a).vm } : State) = { (U.calling g mk a).setFrames s₂.frames with heap := s₂.heap, slotsUsed := s₂.slotsUsed } := e2
    have this : s₂ = ({ s₂ with vm := (U.calling g mk a).vm } : State).setVm s₂.vm := rfl
    exact this.trans (congrArg (fun z => State.setVm z s₂.vm) e2')
  obtain ⟨c₂, i₂, len₂, hc₂, hd₂, hf₂⟩ := hend
  have hW' : U.WarmedH s₂.vm := hW₂
  have hcc : c₂ = c := by
    have h1 : s₂.code? g.method = U.code? g.method := by
      rw [State.code?_eq, State.code?_eq, hW'.alike.method?]
    exact Option.some.inj (hc₂.symm.trans (h1.trans h.code))
  subst hcc
  have hlen : len₂ = len := by rw [hdg] at hd₂; cases hd₂; rfl
  subst hlen
  obtain ⟨g₀, hg0⟩ := Option.isSome_iff_exists.mp h.top
  obtain ⟨r9, hr⟩ := State.topJava?_eq_some.mp hg0
  have hs₂ : s₂ = (({ U with heap := s₂.heap, slotsUsed := s₂.slotsUsed } : State).setVm s₂.vm).setTop { g with pc := g.pc + len₂, stack := (some r).toList ++ g.stack } := by
    have hr' : (({ U with heap := s₂.heap, slotsUsed := s₂.slotsUsed } : State).setVm s₂.vm).frames = .java g₀ :: r9 := hr
    refine e3.trans ?_
    rw [hf₂, State.calling_eq h.top, State.setFrames_setFrames, State.setTop_of_frames _ hr', hr]
    rfl
  have hsame : U.sameButNew ({ U with heap := s₂.heap, slotsUsed := s₂.slotsUsed } : State) Lx 0 0 := by
    refine ⟨?_, q2, q3, q4, q5, q6⟩
    obtain ⟨t, ht, -⟩ := State.frames_cons hr
    show ({ U with heap := s₂.heap, slotsUsed := s₂.slotsUsed } : State) = { U.setFrames U.frames with heap := s₂.heap, slotsUsed := s₂.slotsUsed }
    rw [State.setFrames_self ht]
  subst hg
  refine ⟨some r, ⟨(({ U with heap := s₂.heap, slotsUsed := s₂.slotsUsed } : State).setVm s₂.vm), Ls ++ Lx, c0 + 0, s0 + 0⟩,
    ⟨X.admits, X.cas, X.clock, X.frames, X.room, X.hears, X.method, X.code, (X.here.setHeapUsed s₂.heap s₂.slotsUsed).setVm hW'.alike, X.tail, State.WarmedH.trans X.warmed hW', X.limits, X.bytes, X.same.trans (hsame.setVm s.vm)⟩,
    ⟨rfl, hH1, rfl, rfl, rfl⟩, ?_⟩
  show Steps p.tables e below _ ((({ U with heap := s₂.heap, slotsUsed := s₂.slotsUsed } : State).setVm s₂.vm).setTop { g with pc := g.pc + len₂, stack := (some r).toList ++ g.stack })
  rw [← hs₂]
  exact hsteps
end EXT
section EXR
variable {Y : bi_Y} {X : bi_X} {cc : ByteArray} {ret : Option FieldType} {own : String} {fr lo mc ms : Nat} {hh : List ExceptionTableEntry} {M : va_M} {P : Heap → Prop} {k n pc : Nat} {L : List (Option Value)} {rest st : List Value} {a : Nat}
variable {idx : Nat} {C : String}
/-- getCause() -/
theorem bc_getCause (hE : bi_E Y X cc ret own fr lo mc ms hh) {ci N : Nat} {T : u_T} {ty : Nat → FieldType} {fs : List Value} {c0 : Value} (hC : bc_C ci C T N ty) (h517 : ci = 5 ∨ ci = 17) (hN : 0 < N) (hT0 : T 0 = ("java/lang/Throwable", "cause", "Ljava/lang/Throwable;", false)) (hm : M a = some (.inr (ci, fs))) (h0 : vp_V fs 0 = c0) (hc0 : c0 = .null ∨ ∃ b, c0 = .ref b)
    (q1 : Cond.methodLink own idx gcY ∈ lw_all) (q3 : Cond.selects C gcY gcY ∈ lw_all) (hk : k ≤ mc ∧ n ≤ ms) (hroom : 1 ≤ fr ∧ 20 ≤ lo) (hc : (rest.map fun v => v.category).sum ≤ 8) (d : decode cc pc = .ok (.invokevirtual idx, 3))
    (kk : bi_V Y.1 X (bc_W Y (bi_A X) M) k n (pc + 3) L ((if c0 = .ref a then .null else c0) :: rest)) : bi_V Y.1 X (bc_W Y (bi_A X) M) k n pc L (.ref a :: rest) := by
  intro H locs ls g1 g2 g3
  refine vr_callY (y := gcY) (C := C) (As := []) (r := if c0 = .ref a then .null else c0) (PQ := bc_W Y (bi_A X) M) (ar := 0) hE ((g1.2.1 a _ hm).1.1) (by decide) (by decide +kernel) q1 q2344 q3 q2356 (bc_recv hE hC hm) ?_ rfl rfl hc d kk H locs ls g1 g2 g3
  intro H locs Tt g1 g2 hT Xs
  obtain ⟨cell, kC, c1, c2, c3, c4, c5, c6⟩ := bc_cell hE hC hm g1
  have cm := bc_mon1 hE hm h517 g1 c1
  obtain ⟨cf, kf, fi, f, i1, s1, as1, ty1, v1⟩ := c6 0 hN
  rw [hT0] at i1
  rw [h0] at v1
  have hrm := hE.rm
  have hpay := pay_in hE.ts (ws := Cond.initialized "java/lang/Throwable" :: gcW) (lw_good (fun w hw => by
    simp only [List.mem_cons, List.not_mem_nil, or_false] at hw
    rcases hw with rfl | rfl | rfl | rfl
    · exact q83
    · exact q2356
    · exact q2344
    · exact q343))
  refine (vy_back (len := 3) (W := 8) (k := k) (n := n) (bytes := prog_46_method_8_code) (maxL := 1) (ret := some (.object "java/lang/Throwable")) (vz_gc Y.1 (s := bi_s X) c1 cm c2 i1 s1 v1 hc0) (by rw [hrm]; exact hroom.1) (by rw [hrm]; exact hroom.2) ⟨rfl, rfl⟩ (by rw [hrm]; exact hk) (fun as U hW => ⟨atoms_intro (fun w hw => hpay w (List.mem_cons_of_mem _ hw) as U hW), hpay _ (by simp) as U hW, hpay _ (by simp) as U hW⟩)).mono (fun A as h => h) ?_
  intro A as v9 B h z
  exact ⟨z.1, by rw [z.2.1]; exact g1, by rw [z.2.1], fun q _ => by rw [z.2.1], ⟨[], by rw [z.2.2.1], fun _ h9 => by cases h9⟩, z.2.2.2.1, z.2.2.2.2⟩
/-- a call found in a class above, synchronized -/
theorem vr_callYU {x y : MethodName} {owner : String} (hE : bi_E Y X cc ret own fr lo mc ms hh) (hA : bi_A X a) {ar : Nat} (hz : Cond.declares ⟨owner, x.name, x.desc⟩ ∈ lw_tbl) (hok : owner ≠ "java/lang/invoke/MethodHandle" ∧ owner ≠ "java/lang/invoke/VarHandle") (hpd : (parseMethodDescriptor x.desc).map (fun d => d.parameters.length) = some ar) (q1 : Cond.methodLink own idx x ∈ lw_all) (q0 : Cond.sameMethod x.cls owner x.name x.desc ∈ lw_all) (q2 : Cond.instanceMethod y ∈ lw_all) (q3 : Cond.selects C x y ∈ lw_all) {r : Value} {As : List Value} {PQ : Heap → Prop}
    (hr : ∀ H, P H → ∃ cell : Cell, H[a]? = some cell ∧ cell.vm.isStatics = false ∧ (bi_s X).vm.findClass C = some cell.cls)
    (hK : ∀ (H : Heap) (locs : List Loc) (T : State), P H → va_S (bi_A X) (bi_s X).heap H locs → T.heap = H → Stand (bi_p X) Y.1 (bi_e X) (bi_R X) (bi_s X) (bi_m X) (bi_ar X) (bi_be X) (bi_me X) (bi_c X) T locs k n → Back Y.1 (bi_R X) (bi_p X) (bi_e X) (bi_be X) (bi_s X) (bi_ar X) y 3 8 (vy_Pre a k n H As) (vy_Post a k n H r PQ))
    (hs : st = As.reverse ++ .ref a :: rest) (har : As.length = ar) (hc : (rest.map fun v => v.category).sum ≤ 8) (d : decode cc pc = .ok (.invokevirtual idx, 3))
    (kk : bi_V Y.1 X PQ k n (pc + 3) L (r :: rest)) : bi_V Y.1 X P k n pc L st := by
  intro H locs ls h1 h2 h3 T hT Xs
  obtain ⟨cell, c1, c2, c3⟩ := hr H h1
  obtain ⟨v, vm₁, ⟨U, locs', k', n'⟩, hW, X', ⟨hv, hq, hz9, ho, ⟨L9, hL, hb⟩, hk, hn⟩, stp⟩ := vy_callVU (bytes := ByteArray.empty) (maxL := 0) (ret := none) Xs hE.x hE.ow (hE.ts _ q1) (hE.ts _ q0) (va_Decl.abs (va_Nw.warmD hE.GI.1 (va_Nw.of rfl (hE.GS.1 _ hz)))) hok (hE.ts _ q3) (hE.ts _ q2) (hK H locs T h1 h2 hT Xs) (b := a) (by rw [hT]; exact c1) c2 c3 (g := F0 (bi_m X) pc ls st) rfl (h3.1.trans hE.ml.symm) (argsL := As) (rest := rest)
    (fun sig hs9 => by rw [hs9] at hpd; exact har.trans (Option.some.inj hpd).symm) hs (lv_room hc) (by rw [hE.b]; exact d) (fun vm₁ hW₁ => ⟨rfl, hT, rfl, rfl⟩)
  dsimp only [Pt.U, Pt.locs, Pt.cells, Pt.slots] at X' hv hq hz9 ho hL hk hn stp
  subst hv hL hk hn
  obtain ⟨t2, a1, b1⟩ := kk U.heap (locs ++ L9) ls hq ⟨by rw [hz9]; exact h2.1, fun q h4 h5 => (ho q (fun z => h5 (z ▸ hA))).trans (h2.2.1 q h4 h5), fun z hz9 => (List.mem_append.mp hz9).elim (h2.2.2 z) (fun z9 => by rw [hb z z9]; exact hA)⟩ h3 U rfl X'
  exact ⟨t2, stp t2 a1, b1⟩
/-- initCause(), of one that has none yet -/
theorem bc_initCause (hE : bi_E Y X cc ret "BrassInspector" fr lo mc ms hh) {fs : List Value} {b : Nat} (hm : M a = some (.inr (5, fs))) (h0 : vp_V fs 0 = .ref a) (hl : 0 < fs.length) (hab : b ≠ a) (hk : k ≤ mc ∧ n ≤ ms) (hroom : 1 ≤ fr ∧ 21 ≤ lo) (hc : (rest.map fun v => v.category).sum ≤ 8) (d : decode cc pc = .ok (.invokevirtual 306, 3))
    (kk : bi_V Y.1 X (bc_W Y (bi_A X) (bu M a (.inr (5, fs.set 0 (.ref b))))) k n (pc + 3) L (.ref a :: rest)) : bi_V Y.1 X (bc_W Y (bi_A X) M) k n pc L (.ref b :: .ref a :: rest) := by
  have hC := kc_X8
  intro H locs ls g1 g2 g3
  refine vr_callYU (y := icY) (As := [.ref b]) (r := .ref a) (PQ := bc_W Y (bi_A X) (bu M a (.inr (5, fs.set 0 (.ref b))))) (ar := 1) hE ((g1.2.1 a _ hm).1.1) q1575 (by decide) (by decide +kernel) q1573 q1574 q1577 q1576 (bc_recv hE hC hm) ?_ rfl rfl hc d kk H locs ls g1 g2 g3
  intro H locs Tt g1 g2 hT Xs
  obtain ⟨r, r1, cell, q1, q2, q3, q4⟩ := (g1.2.1 a _ hm).2
  have hr : r = (_, _, _) := Option.some.inj (r1.symm.trans hC.1)
  subst hr
  have cm := bc_mon1 hE hm (Or.inl rfl) g1 q1
  have hap := va_apart (own := "BrassInspector") hE.ts hC.2.1 _ hC.2.2.1 hC.2.2.2 hE.K hC.1
  obtain ⟨hS, hfc, kC, hkC, hkind⟩ := hE.K.1 5 _ hC.1
  obtain ⟨cf, kf, fi, f, hi, hsl⟩ := hS 0 (by decide)
  have hlay := hE.ts _ (hC.2.1 _ (u_in_lay (k := 0) (by decide)))
  unfold u_lay at hlay
  rw [if_neg (by decide)] at hlay
  have hst := (u_facts hfc hkC (u_lays hE.ts hC.2.1 (by decide : 0 < _)) hi).1
  obtain ⟨w1, w2, w3⟩ := u_store (v := .ref b) hfc hkC hkind hlay hi (hC.2.2.1 0 (by decide)) (narrow_isRef _ rfl) (by rfl)
  have hrm := hE.rm
  have v1 : cell.slots[f.slot]? = some (.ref a) := by rw [hsl, ← h0]; exact q4 0 (by decide)
  have hpay := pay_in hE.ts (ws := Cond.initialized "java/lang/Throwable" :: icW) (lw_good (fun w hw => by
    simp only [List.mem_cons, List.not_mem_nil, or_false] at hw
    rcases hw with rfl | rfl | rfl | rfl
    · exact q83
    · exact q1578
    · exact q1577
    · exact q343))
  refine (vy_back (len := 3) (W := 8) (k := k) (n := n) (bytes := prog_46_method_9_code) (maxL := 2) (ret := some (.object "java/lang/Throwable")) (vz_ic Y.1 (s := bi_s X) hab q1 cm q3 hi hst v1 w2 w1 (by rw [q2, q3]; exact w3)) (by rw [hrm]; exact hroom.1) (by rw [hrm]; exact hroom.2) ⟨rfl, rfl⟩ (by rw [hrm]; exact hk) (fun as U hW => ⟨atoms_intro (fun w hw => hpay w (List.mem_cons_of_mem _ hw) as U hW), hpay _ (by simp) as U hW, hpay _ (by simp) as U hW⟩)).mono (fun A as h => h) ?_
  intro A as v9 B h z
  have hlt : a < H.size := (Array.getElem?_eq_some_iff.mp q1).1
  have hself : (H.setIfInBounds a (cell.setSlot f.slot (.ref b)))[a]? = some (cell.setSlot f.slot (.ref b)) := Array.getElem?_setIfInBounds_self_of_lt hlt
  have hoth : ∀ q : Nat, q ≠ a → (H.setIfInBounds a (cell.setSlot f.slot (.ref b)))[q]? = H[q]? := fun q hq => Array.getElem?_setIfInBounds_ne (Ne.symm hq)
  have hsz : (H.setIfInBounds a (cell.setSlot f.slot (.ref b))).size = H.size := by simp
  refine ⟨z.1, ?_, by rw [z.2.1, hsz], fun q hq => by rw [z.2.1]; exact hoth q hq, ⟨[⟨a, f.slot⟩], by rw [z.2.2.1], fun x9 h9 => by rw [List.mem_singleton.mp h9]⟩, z.2.2.2.1, z.2.2.2.2⟩
  rw [z.2.1]
  refine ⟨fun q hq => g1.1 q (by rw [hsz] at hq; exact hq), fun q e he => ?_, g1.2.2.setO (fun q c9 h9 => ?_) hm⟩
  · by_cases hqa : q = a
    · subst hqa
      rw [bu_self] at he
      cases he
      refine ⟨(g1.2.1 q _ hm).1, _, hC.1, t_OB.to (V := updV (vp_V fs) 0 (.ref b)) ⟨_, hself, q2, q3, ?_⟩ (fun j _ => vp_updV_set hl _ j)⟩
      rw [hsl]
      exact t_set q4 hap (by decide) _
    · rw [bu_ne hqa] at he
      exact ⟨(g1.2.1 q _ he).1, (g1.2.1 q _ he).2.kept (hoth q hqa)⟩
  · by_cases hqa : q = a
    · subst hqa
      cases q1.symm.trans h9
      exact ⟨_, hself, rfl⟩
    · exact ⟨c9, by rw [hoth q hqa]; exact h9, rfl⟩
end EXR
