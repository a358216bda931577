/-! THE LAYER: a judgement over worlds alone (heap, locals' slots and locations are quantified away), contracts that return or throw in one shape -/
set_option maxRecDepth 100000
/-- launch, class numbers, the state at the law's start, the script's address -/
abbrev bi_Y : Type := Launch × va_G × State × Nat
/-- what is fixed in one method's body -/
abbrev bi_X : Type := Program × Env × Room × State × MethodId × Array Value × List Frame × Method × Code × (State → Prop) × (Nat → Prop) × Nat
abbrev bi_p (X : bi_X) : Program := X.1
abbrev bi_e (X : bi_X) : Env := X.2.1
abbrev bi_R (X : bi_X) : Room := X.2.2.1
abbrev bi_s (X : bi_X) : State := X.2.2.2.1
abbrev bi_m (X : bi_X) : MethodId := X.2.2.2.2.1
abbrev bi_ar (X : bi_X) : Array Value := X.2.2.2.2.2.1
abbrev bi_be (X : bi_X) : List Frame := X.2.2.2.2.2.2.1
abbrev bi_me (X : bi_X) : Method := X.2.2.2.2.2.2.2.1
abbrev bi_c (X : bi_X) : Code := X.2.2.2.2.2.2.2.2.1
abbrev bi_Q (X : bi_X) : State → Prop := X.2.2.2.2.2.2.2.2.2.1
abbrev bi_A (X : bi_X) : Nat → Prop := X.2.2.2.2.2.2.2.2.2.2.1
abbrev bi_nL (X : bi_X) : Nat := X.2.2.2.2.2.2.2.2.2.2.2
/-- the array classes of the tables -/
def bi_tys (D : va_G) : List (ClassId × FieldType) := [(D.1 60, .int), (D.1 61, .byte), (D.1 62, .object "java/lang/Object"), (D.1 63, .long), (D.1 64, .double)]
/-- what is known of the law's start -/
def bi_GS (Y : bi_Y) : Prop := (∀ w ∈ lw_tbl, w.before #[Value.ref Y.2.2.2] Y.2.2.1 = true) ∧ (Jvm.Cond.and given_1 narrow_1).before #[Value.ref Y.2.2.2] Y.2.2.1 = true ∧ va_K Y.2.1 bi_CL (bi_tys Y.2.1) Y.2.2.1 ∧ Y.1.flags = flags0
/-- .. and of every later state: the tables are warmed, what was there before the law is as it was -/
def bi_GI (Y : bi_Y) (U : State) : Prop := Y.2.2.1.WarmedH U.vm ∧ Y.2.2.1.heap.size ≤ U.heap.size ∧ ∀ q : Nat, q < Y.2.2.1.heap.size → U.heap[q]? = Y.2.2.1.heap[q]?
/-- locals by their places -/
def bi_ls (ls : Array Slot) (nL : Nat) (L : List (Option Value)) : Prop := ls.size = nL ∧ lv_wf ls ∧ ∀ (i : Nat) (v : Value), L[i]? = some (some v) → ls[i]? = some (.val v)
def bi_pr (L : List (Option Value)) : List (Nat × Value) := L.zipIdx.filterMap (fun q => q.1.map (fun v => (q.2, v)))
theorem bi_pr_mem {L : List (Option Value)} {i : Nat} {v : Value} : (i, v) ∈ bi_pr L ↔ L[i]? = some (some v) := by
  unfold bi_pr
  rw [List.mem_filterMap]
  constructor
  · rintro ⟨⟨o, j⟩, h1, h2⟩
    rw [List.mem_zipIdx_iff_getElem?] at h1
    cases o with
    | none => simp at h2
    | some w =>
      simp only [Option.map_some, Option.some.injEq, Prod.mk.injEq] at h2
      obtain ⟨rfl, rfl⟩ := h2
      exact h1
  · intro h
    exact ⟨(some v, i), by rw [List.mem_zipIdx_iff_getElem?]; exact h, rfl⟩
theorem bi_ls.has {ls : Array Slot} {nL : Nat} {L : List (Option Value)} (h : bi_ls ls nL L) : lv_has ls nL (bi_pr L) := ⟨h.1, h.2.1, fun q hq => h.2.2 q.1 q.2 (bi_pr_mem.mp hq)⟩
theorem bi_ls.get {ls : Array Slot} {nL : Nat} {L : List (Option Value)} (h : bi_ls ls nL L) {i : Nat} {v : Value} (hi : L[i]? = some (some v)) : ls[i]? = some (.val v) := h.2.2 i v hi
/-- every local that is known is one slot wide -/
def bi_c1 (L : List (Option Value)) : Bool := L.all (fun o => match o with | none => true | some v => v.category == 1)
theorem bi_c1_at {L : List (Option Value)} (h : bi_c1 L = true) {i : Nat} {v : Value} (hi : L[i]? = some (some v)) : v.category = 1 := by
  have h1 := List.all_eq_true.mp h _ (List.mem_of_getElem? hi)
  simpa using h1
theorem bi_ls.set1 {ls' : Array Slot} {nL i : Nat} {L : List (Option Value)} {v : Value} (hc : bi_c1 L = true) (h : lv_has ls' nL ((i, v) :: (bi_pr L).filter (fun q => !(q.1 == i) && !(q.1 + 1 == i && q.2.category == 2)))) : bi_ls ls' nL (L.set i (some v)) := by
  refine ⟨h.1, h.2.1, fun j w hj => ?_⟩
  by_cases e : j = i
  · subst e
    rw [List.getElem?_set] at hj
    simp only [if_true] at hj
    split at hj
    · simp only [Option.some.injEq] at hj
      subst hj
      exact h.2.2 (j, v) List.mem_cons_self
    · cases hj
  · rw [List.getElem?_set_ne (Ne.symm e)] at hj
    refine h.2.2 (j, w) (List.mem_cons_of_mem _ (List.mem_filter.mpr ⟨bi_pr_mem.mpr hj, ?_⟩))
    have hw := bi_c1_at hc hj
    simp [e, hw]
theorem bi_ls.set2 {ls' : Array Slot} {nL i : Nat} {L : List (Option Value)} {v : Value} (hc : bi_c1 L = true) (h : lv_has ls' nL ((i, v) :: (bi_pr L).filter (fun q => !(q.1 == i) && (!(q.1 == i + 1) && !(q.1 + 1 == i && q.2.category == 2))))) : bi_ls ls' nL ((L.set i (some v)).set (i + 1) none) := by
  refine ⟨h.1, h.2.1, fun j w hj => ?_⟩
  by_cases e1 : j = i + 1
  · subst e1
    rw [List.getElem?_set] at hj
    simp only [if_true] at hj
    split at hj
    · simp at hj
    · cases hj
  · rw [List.getElem?_set_ne (Ne.symm e1)] at hj
    by_cases e : j = i
    · subst e
      rw [List.getElem?_set] at hj
      simp only [if_true] at hj
      split at hj
      · simp only [Option.some.injEq] at hj
        subst hj
        exact h.2.2 (j, v) List.mem_cons_self
      · cases hj
    · rw [List.getElem?_set_ne (Ne.symm e)] at hj
      refine h.2.2 (j, w) (List.mem_cons_of_mem _ (List.mem_filter.mpr ⟨bi_pr_mem.mpr hj, ?_⟩))
      have hw := bi_c1_at hc hj
      simp [e, e1, hw]
/-- the judgement: at pc with locals L and stack st, in any heap of the world P -/
def bi_V (l : Launch) (X : bi_X) (P : Heap → Prop) (k n pc : Nat) (L : List (Option Value)) (st : List Value) : Prop := ∀ (H : Heap) (locs : List Loc) (ls : Array Slot), P H → va_S (bi_A X) (bi_s X).heap H locs → bi_ls ls (bi_nL X) L → W (bi_p X) l (bi_e X) (bi_R X) (bi_s X) (bi_m X) (bi_ar X) (bi_be X) (bi_me X) (bi_c X) H locs k n (bi_Q X) (F0 (bi_m X) pc ls st)
/-- .. with the object q of class E thrown over it -/
def bi_VX (l : Launch) (X : bi_X) (P : Heap → Prop) (k n pc : Nat) (L : List (Option Value)) (q : Nat) (E : String) : Prop := ∀ (H : Heap) (locs : List Loc) (ls : Array Slot) (rest : List Value) (ce : Cell), P H → va_S (bi_A X) (bi_s X).heap H locs → bi_ls ls (bi_nL X) L → H[q]? = some ce → ce.vm = .none → (bi_s X).vm.findClass E = some ce.cls → vx_W (bi_p X) l (bi_e X) (bi_R X) (bi_s X) (bi_m X) (bi_ar X) (bi_be X) (bi_me X) (bi_c X) H locs k n (bi_Q X) (F0 (bi_m X) pc ls rest) q
/-- what a method's body may lean on: its code, answer, class, room, handlers -/
def bi_E (Y : bi_Y) (X : bi_X) (cc : ByteArray) (ret : Option FieldType) (own : String) (fr lo mc ms : Nat) (hh : List ExceptionTableEntry) : Prop :=
  (bi_p X).tables.exec = Jvm.exec ∧ (bi_c X).code = cc ∧ (bi_c X).maxLocals = bi_nL X ∧ (bi_me X).sig.returnType = ret ∧ (bi_me X).locks = false ∧ (bi_s X).vm.findClass own = some (bi_m X).cls ∧ (∀ w ∈ lw_all, w.before (bi_ar X) (bi_s X) = true) ∧ bi_GS Y ∧ bi_GI Y (bi_s X) ∧ (∀ q, (bi_s X).heap.size ≤ q → bi_A X q) ∧ (∀ q, bi_A X q → Y.2.2.1.heap.size ≤ q) ∧ bi_R X = { frames := fr, cells := mc, slots := ms, locals := lo } ∧ (bi_c X).exceptionTable.toList = hh
section BE
variable {Y : bi_Y} {X : bi_X} {cc : ByteArray} {ret : Option FieldType} {own : String} {fr lo mc ms : Nat} {hh : List ExceptionTableEntry}
theorem bi_E.x (h : bi_E Y X cc ret own fr lo mc ms hh) : (bi_p X).tables.exec = Jvm.exec := h.1
theorem bi_E.b (h : bi_E Y X cc ret own fr lo mc ms hh) : (bi_c X).code = cc := h.2.1
theorem bi_E.ml (h : bi_E Y X cc ret own fr lo mc ms hh) : (bi_c X).maxLocals = bi_nL X := h.2.2.1
theorem bi_E.r (h : bi_E Y X cc ret own fr lo mc ms hh) : (bi_me X).sig.returnType = ret := h.2.2.2.1
theorem bi_E.lk (h : bi_E Y X cc ret own fr lo mc ms hh) : (bi_me X).locks = false := h.2.2.2.2.1
theorem bi_E.ow (h : bi_E Y X cc ret own fr lo mc ms hh) : (bi_s X).vm.findClass own = some (bi_m X).cls := h.2.2.2.2.2.1
theorem bi_E.ts (h : bi_E Y X cc ret own fr lo mc ms hh) : ∀ w ∈ lw_all, w.before (bi_ar X) (bi_s X) = true := h.2.2.2.2.2.2.1
theorem bi_E.GS (h : bi_E Y X cc ret own fr lo mc ms hh) : bi_GS Y := h.2.2.2.2.2.2.2.1
theorem bi_E.GI (h : bi_E Y X cc ret own fr lo mc ms hh) : bi_GI Y (bi_s X) := h.2.2.2.2.2.2.2.2.1
theorem bi_E.nw (h : bi_E Y X cc ret own fr lo mc ms hh) : ∀ q, (bi_s X).heap.size ≤ q → bi_A X q := h.2.2.2.2.2.2.2.2.2.1
theorem bi_E.ab (h : bi_E Y X cc ret own fr lo mc ms hh) : ∀ q, bi_A X q → Y.2.2.1.heap.size ≤ q := h.2.2.2.2.2.2.2.2.2.2.1
theorem bi_E.rm (h : bi_E Y X cc ret own fr lo mc ms hh) : bi_R X = { frames := fr, cells := mc, slots := ms, locals := lo } := h.2.2.2.2.2.2.2.2.2.2.2.1
theorem bi_E.tb (h : bi_E Y X cc ret own fr lo mc ms hh) : (bi_c X).exceptionTable.toList = hh := h.2.2.2.2.2.2.2.2.2.2.2.2
theorem bi_E.K (h : bi_E Y X cc ret own fr lo mc ms hh) : va_K Y.2.1 bi_CL (bi_tys Y.2.1) (bi_s X) := va_K.moved h.GI.1.alike h.GS.2.2.1
theorem bi_E.fix (h : bi_E Y X cc ret own fr lo mc ms hh) : CallFix (bi_p X) (bi_m X) (bi_c X) cc (bi_nL X) (bi_s X) (bi_ar X) lw_all own := ⟨h.x, h.b, h.ml, h.ow, h.ts⟩
/-- the start's world, seen from any heap of this body -/
theorem bi_E.giH (h : bi_E Y X cc ret own fr lo mc ms hh) {H : Heap} {locs : List Loc} (hS : va_S (bi_A X) (bi_s X).heap H locs) {U : State} (hU : U.heap = H) (hW : (bi_s X).WarmedH U.vm) : bi_GI Y U := by
  refine ⟨State.WarmedH.trans h.GI.1 hW, by rw [hU]; exact Nat.le_trans h.GI.2.1 hS.1, fun q hq => ?_⟩
  rw [hU, hS.2.1 q (Nat.lt_of_lt_of_le hq h.GI.2.1) (fun z => absurd (h.ab q z) (by omega))]
  exact h.GI.2.2 q hq
end BE
/-! contracts -/
def bi_Af (F : Nat → Prop) (sz : Nat) : Nat → Prop := fun q => F q ∨ sz ≤ q
def bi_PC (Y : bi_Y) (P : Heap → Prop) (sz : Nat) (av : List Value) : Array Value → State → Prop := va_Pc av (fun U => U.heap.size = sz ∧ bi_GI Y U ∧ P U.heap)
theorem bi_PC.blind {Y : bi_Y} {P : Heap → Prop} {sz : Nat} {av : List Value} : FrameBlind (bi_PC Y P sz av) := fun _ _ _ _ q => q
def bi_Qc {S : Type} (post : Option Value → S → Prop) (PU : S → Heap → Prop) (A : Nat → Prop) : Array Value → State → Outcome → State → Prop := fun _ st oc t => (∃ (v : Option Value) (u : S), oc = .returned v ∧ post v u ∧ PU u t.heap) ∧ va_F A st t
def bi_Xc {S : Type} (px : Nat → String → S → Prop) (PU : S → Heap → Prop) (A : Nat → Prop) : Addr → String → State → State → Prop := fun q E st t => ∃ u : S, px q E u ∧ PU u t.heap ∧ va_F A st t
/-- a contract: called with av in any heap of the world P it returns (post) or throws (px), in a world PU; of what was there it changes F alone -/
def bi_Met {S : Type} (Y : bi_Y) (y : MethodName) (ws : List Cond) (fr lo mc ms : Nat) (P : Heap → Prop) (F : Nat → Prop) (av : List Value) (post : Option Value → S → Prop) (px : Nat → String → S → Prop) (PU : S → Heap → Prop) : Prop :=
  ∀ sz : Nat, vx_Met Y.1 y ws ({ frames := fr, cells := mc, slots := ms, locals := lo } : Room) (bi_PC Y P sz av) (bi_Qc post PU (bi_Af F sz)) (bi_Xc px PU (bi_Af F sz)) mc ms (bi_Af F sz)
/-- nothing is thrown -/
def bi_nx {S : Type} : Nat → String → S → Prop := fun _ _ _ => False
/-- a body's end, named -/
def bi_end {S : Type} (X : bi_X) (F : Nat → Prop) (mc ms : Nat) (post : Option Value → S → Prop) (px : Nat → String → S → Prop) (PU : S → Heap → Prop) : Prop :=
  bi_A X = bi_Af F (bi_s X).heap.size ∧ bi_Q X = vx_MQ (bi_be X) (bi_Qc post PU (bi_A X)) (bi_Xc px PU (bi_A X)) (bi_ar X) (bi_s X) mc ms (bi_A X)
/-- a method's locals at its entry -/
def bi_L0 (av : List Value) (nL : Nat) : List (Option Value) := (List.range nL).map (fun i => ((lv_args 0 av).find? (fun q => q.1 == i)).map (fun q => q.2))
theorem bi_L0_ok {av : List Value} {nL : Nat} {ls : Array Slot} (h : lv_has ls nL (lv_args 0 av)) : bi_ls ls nL (bi_L0 av nL) := by
  refine ⟨h.1, h.2.1, fun i v hi => ?_⟩
  unfold bi_L0 at hi
  rw [List.getElem?_map] at hi
  cases hr : (List.range nL)[i]? with
  | none => rw [hr] at hi; cases hi
  | some j =>
    rw [hr] at hi
    have hj : j = i := by
      rw [List.getElem?_range (by have := (List.getElem?_eq_some_iff.mp hr).1; simpa using this)] at hr
      exact (Option.some.inj hr).symm
    subst hj
    simp only [Option.map_some, Option.some.injEq] at hi
    cases hf : (lv_args 0 av).find? (fun q => q.1 == j) with
    | none => rw [hf] at hi; cases hi
    | some q =>
      rw [hf] at hi
      simp only [Option.map_some, Option.some.injEq] at hi
      have h1 := List.find?_some hf
      have h2 := List.mem_of_find?_eq_some hf
      have h3 : q.1 = j := by simpa using h1
      have h4 := h.2.2 q h2
      rw [h3, hi] at h4
      exact h4
section BM
variable {Y : bi_Y} {S : Type} {y : MethodName} {cc : ByteArray} {nL : Nat} {ret : Option FieldType} {fr lo mc ms : Nat} {P : Heap → Prop} {F : Nat → Prop} {av : List Value} {post : Option Value → S → Prop} {px : Nat → String → S → Prop} {PU : S → Heap → Prop}
/-- a contract out of a walk -/
theorem bi_Met.of {own : String} (hown9 : y.cls = own) (hy : plainName y.cls = true) (G : bi_GS Y) (hF : ∀ q, F q → Y.2.2.1.heap.size ≤ q) (hl : (lg_sl av).length ≤ nL) {L0 : List (Option Value)} (hL0 : bi_L0 av nL = L0)
    (body : ∀ X : bi_X, bi_E Y X cc ret own fr lo mc ms [] → bi_end X F mc ms post px PU → (∀ q, F q → bi_A X q) → bi_nL X = nL → (∀ m : Method, m = bi_me X → m.name = y.name) → bi_V Y.1 X P 0 0 0 L0 []) : bi_Met Y y (ws_ y cc nL ret) fr lo mc ms P F av post px PU := by
  intro sz
  refine vx_ofW (cc := cc) (maxL := nL) (ret := ret) hy rfl ?_
  intro p e s m args below meth c s₁ B hml htab hv
  obtain ⟨rfl, hsz, hGI, hP⟩ := hv
  subst hsz
  have hts := atoms_spec (ws := ws_ y cc nL ret) B.pre
  have hts : ∀ w ∈ lw_all, w.before _ s = true := fun w h => hts w (List.mem_cons_of_mem _ h)
  have hown : s.vm.findClass own = some m.cls := by rw [← hown9]; exact findClass_of_methodNamed B.named
  have hent := lv_entry av (n := nL) hl
  rw [lg_entry_eq]
  have htab' : c.exceptionTable.toList = [] := by
    cases ht : c.exceptionTable.toList with
    | nil => rfl
    | cons a t => exact (htab a (by rw [ht]; exact List.mem_cons_self)).elim
  have K := body (p, e, ({ frames := fr, cells := mc, slots := ms, locals := lo } : Room), s, m, av.toArray, below, meth, c, vx_MQ below (bi_Qc post PU (bi_Af F s.heap.size)) (bi_Xc px PU (bi_Af F s.heap.size)) av.toArray s mc ms (bi_Af F s.heap.size), bi_Af F s.heap.size, nL)
    ⟨B.exec, B.bytes, hml, B.returns, B.notSynchronized, hown, hts, G, hGI, fun q h => Or.inr h, fun q h => h.elim (hF q) (fun z => Nat.le_trans hGI.2.1 z), rfl, htab'⟩ ⟨rfl, rfl⟩ (fun q h => Or.inl h) rfl (fun m9 h9 => by rw [h9]; exact (name_of_methodNamed B.named B.method).1)
  exact K s.heap [] _ hP va_S.rf (by rw [← hL0]; exact bi_L0_ok hent)
theorem bi_Met.ofH {own : String} (hown9 : y.cls = own) {hh : List (Nat × Nat × Nat × Nat)} (hy : plainName y.cls = true) (G : bi_GS Y) (hF : ∀ q, F q → Y.2.2.1.heap.size ≤ q) (hl : (lg_sl av).length ≤ nL) {L0 : List (Option Value)} (hL0 : bi_L0 av nL = L0)
    (body : ∀ X : bi_X, bi_E Y X cc ret own fr lo mc ms (tableOf hh) → bi_end X F mc ms post px PU → (∀ q, F q → bi_A X q) → bi_nL X = nL → bi_V Y.1 X P 0 0 0 L0 []) : bi_Met Y y (wsW_ y cc nL ret hh) fr lo mc ms P F av post px PU := by
  intro sz
  refine vx_ofWH (cc := cc) (maxL := nL) (ret := ret) (hh := hh) hy rfl ?_
  intro p e s m args below meth c s₁ B hml hv
  obtain ⟨rfl, hsz, hGI, hP⟩ := hv
  subst hsz
  have hts0 := atoms_spec (ws := wsW_ y cc nL ret hh) B.pre
  have hts : ∀ w ∈ lw_all, w.before _ s = true := fun w h => hts0 w (List.mem_cons_of_mem _ h)
  have hown : s.vm.findClass own = some m.cls := by rw [← hown9]; exact findClass_of_methodNamed B.named
  have hent := lv_entry av (n := nL) hl
  rw [lg_entry_eq]
  have htab' : c.exceptionTable.toList = tableOf hh := vx_table (x := y) B (hts0 _ List.mem_cons_self)
  have K := body (p, e, ({ frames := fr, cells := mc, slots := ms, locals := lo } : Room), s, m, av.toArray, below, meth, c, vx_MQ below (bi_Qc post PU (bi_Af F s.heap.size)) (bi_Xc px PU (bi_Af F s.heap.size)) av.toArray s mc ms (bi_Af F s.heap.size), bi_Af F s.heap.size, nL)
    ⟨B.exec, B.bytes, hml, B.returns, B.notSynchronized, hown, hts, G, hGI, fun q h => Or.inr h, fun q h => h.elim (hF q) (fun z => Nat.le_trans hGI.2.1 z), rfl, htab'⟩ ⟨rfl, rfl⟩ (fun q h => Or.inl h) rfl
  exact K s.heap [] _ hP va_S.rf (by rw [← hL0]; exact bi_L0_ok hent)
end BM
