/-! THE COMPONENT's WORLD: a map of addresses to what stands there; a contract holds for every map -/
set_option maxRecDepth 100000
/-- a body's contract, with what holds at its entry -/
theorem bi_Met.ofP {Y : bi_Y} {S : Type} {y : MethodName} {cc : ByteArray} {nL : Nat} {ret : Option FieldType} {fr lo mc ms : Nat} {P : Heap → Prop} {F : Nat → Prop} {av : List Value} {post : Option Value → S → Prop} {px : Nat → String → S → Prop} {PU : S → Heap → Prop} {own : String} (hown9 : y.cls = own) (hy : plainName y.cls = true) (G : bi_GS Y) (hF : ∀ q, F q → Y.2.2.1.heap.size ≤ q) (hl : (lg_sl av).length ≤ nL) {L0 : List (Option Value)} (hL0 : bi_L0 av nL = L0)
    (body : ∀ X : bi_X, bi_E Y X cc ret own fr lo mc ms [] → bi_end X F mc ms post px PU → P (bi_s X).heap → bi_nL X = nL → (∀ m : Method, m = bi_me X → m.name = y.name) → bi_V Y.1 X P 0 0 0 L0 []) : bi_Met Y y (ws_ y cc nL ret) fr lo mc ms P F av post px PU := by
  intro sz
  refine vx_ofW (cc := cc) (maxL := nL) (ret := ret) hy rfl ?_
  intro p e s m args below meth c s₁ B hml htab hv
  obtain ⟨rfl, hsz, hGI, hP⟩ := hv
  subst hsz
  have hts := atoms_spec (ws := ws_ y cc nL ret) B.pre
  have hts : ∀ w ∈ lw_all, w.before _ s = true := fun w h => hts w (List.mem_cons_of_mem _ h)
  have hown : s.vm.findClass own = some m.cls := by rw [← hown9]; exact findClass_of_methodNamed B.named
  have hent := lv_entry av (n := nL) hl
  rw [lg_entry_eq]
  have htab' : c.exceptionTable.toList = [] := by
    cases ht : c.exceptionTable.toList with
    | nil => rfl
    | cons a t => exact (htab a (by rw [ht]; exact List.mem_cons_self)).elim
  have K := body (p, e, ({ frames := fr, cells := mc, slots := ms, locals := lo } : Room), s, m, av.toArray, below, meth, c, vx_MQ below (bi_Qc post PU (bi_Af F s.heap.size)) (bi_Xc px PU (bi_Af F s.heap.size)) av.toArray s mc ms (bi_Af F s.heap.size), bi_Af F s.heap.size, nL)
    ⟨B.exec, B.bytes, hml, B.returns, B.notSynchronized, hown, hts, G, hGI, fun q h => Or.inr h, fun q h => h.elim (hF q) (fun z => Nat.le_trans hGI.2.1 z), rfl, htab'⟩ ⟨rfl, rfl⟩ hP rfl (fun m9 h9 => by rw [h9]; exact (name_of_methodNamed B.named B.method).1)
  exact K s.heap [] _ hP va_S.rf (by rw [← hL0]; exact bi_L0_ok hent)
theorem bi_Met.ofPH {Y : bi_Y} {S : Type} {y : MethodName} {cc : ByteArray} {nL : Nat} {ret : Option FieldType} {fr lo mc ms : Nat} {P : Heap → Prop} {F : Nat → Prop} {av : List Value} {post : Option Value → S → Prop} {px : Nat → String → S → Prop} {PU : S → Heap → Prop} {own : String} (hown9 : y.cls = own) {hh : List (Nat × Nat × Nat × Nat)} (hy : plainName y.cls = true) (G : bi_GS Y) (hF : ∀ q, F q → Y.2.2.1.heap.size ≤ q) (hl : (lg_sl av).length ≤ nL) {L0 : List (Option Value)} (hL0 : bi_L0 av nL = L0)
    (body : ∀ X : bi_X, bi_E Y X cc ret own fr lo mc ms (tableOf hh) → bi_end X F mc ms post px PU → P (bi_s X).heap → bi_nL X = nL → bi_V Y.1 X P 0 0 0 L0 []) : bi_Met Y y (wsW_ y cc nL ret hh) fr lo mc ms P F av post px PU := by
  intro sz
  refine vx_ofWH (cc := cc) (maxL := nL) (ret := ret) (hh := hh) hy rfl ?_
  intro p e s m args below meth c s₁ B hml hv
  obtain ⟨rfl, hsz, hGI, hP⟩ := hv
  subst hsz
  have hts0 := atoms_spec (ws := wsW_ y cc nL ret hh) B.pre
  have hts : ∀ w ∈ lw_all, w.before _ s = true := fun w h => hts0 w (List.mem_cons_of_mem _ h)
  have hown : s.vm.findClass own = some m.cls := by rw [← hown9]; exact findClass_of_methodNamed B.named
  have hent := lv_entry av (n := nL) hl
  rw [lg_entry_eq]
  have htab' : c.exceptionTable.toList = tableOf hh := vx_table (x := y) B (hts0 _ List.mem_cons_self)
  have K := body (p, e, ({ frames := fr, cells := mc, slots := ms, locals := lo } : Room), s, m, av.toArray, below, meth, c, vx_MQ below (bi_Qc post PU (bi_Af F s.heap.size)) (bi_Xc px PU (bi_Af F s.heap.size)) av.toArray s mc ms (bi_Af F s.heap.size), bi_Af F s.heap.size, nL)
    ⟨B.exec, B.bytes, hml, B.returns, B.notSynchronized, hown, hts, G, hGI, fun q h => Or.inr h, fun q h => h.elim (hF q) (fun z => Nat.le_trans hGI.2.1 z), rfl, htab'⟩ ⟨rfl, rfl⟩ hP rfl
  exact K s.heap [] _ hP va_S.rf (by rw [← hL0]; exact bi_L0_ok hent)
abbrev va_M : Type := Nat → Option va_E
def bu (M : va_M) (a : Nat) (e : va_E) : va_M := fun q => if q = a then some e else M q
theorem bu_self (M : va_M) (a : Nat) (e : va_E) : bu M a e a = some e := by simp [bu]
theorem bu_ne {M : va_M} {a q : Nat} {e : va_E} (h : q ≠ a) : bu M a e q = M q := by simp [bu, h]
theorem bu_bu (M : va_M) (a : Nat) (e e' : va_E) : bu (bu M a e) a e' = bu M a e' := by funext q; simp only [bu]; split <;> rfl
theorem bu_comm {M : va_M} {a b : Nat} (e e' : va_E) (h : a ≠ b) : bu (bu M a e) b e' = bu (bu M b e') a e := by
  funext q
  simp only [bu]
  by_cases h1 : q = b
  · subst h1; simp [Ne.symm h]
  · simp [h1]
theorem bc_dist {M : va_M} {a b : Nat} {e e' : va_E} (h1 : M a = some e) (h2 : M b = some e') (h : e ≠ e') : a ≠ b := fun z => h (Option.some.inj (h1.symm.trans ((congrArg M z).trans h2)))
theorem bc_new_ne {M : va_M} {a q : Nat} {e : va_E} (h1 : M a = some e) (h2 : M q = none) : a ≠ q := fun z => by rw [z, h2] at h1; cases h1
theorem bc_ci {a b : Nat} {x y : List Value} (h : a ≠ b) : (Sum.inr (a, x) : va_E) ≠ .inr (b, y) := fun z => h (by cases z; rfl)
theorem bc_io {x : ClassId × vp_A} {y : Nat × List Value} : (Sum.inl x : va_E) ≠ .inr y := fun z => by cases z
theorem bc_oi {x : ClassId × vp_A} {y : Nat × List Value} : (Sum.inr y : va_E) ≠ .inl x := fun z => by cases z
/-- what may be changed -/
def bc_F (Y : bi_Y) (A : Nat → Prop) : Nat → Prop := fun q => A q ∧ Y.2.2.1.heap.size ≤ q
def bc_W0 (Y : bi_Y) (A : Nat → Prop) (M : va_M) (H : Heap) : Prop := (∀ q : Nat, H.size ≤ q → bc_F Y A q) ∧ ∀ a e, M a = some e → bc_F Y A a ∧ va_at Y.2.1 bi_CL (a, e) H
/-- monitors as they were -/
def bc_mon (H0 H : Heap) : Prop := ∀ (a : Nat) (c : Cell), H0[a]? = some c → ∃ c' : Cell, H[a]? = some c' ∧ c'.monitor = c.monitor
/-- nobody holds the monitor of what was thrown, or may be -/
def bc_fm (M : va_M) (H : Heap) : Prop := ∀ (a ci : Nat) (fs : List Value), M a = some (.inr (ci, fs)) → ci = 5 ∨ ci = 17 → ∃ c : Cell, H[a]? = some c ∧ c.monitor = {}
theorem bc_fm.set {M : va_M} {H0 H : Heap} {a : Nat} {e : va_E} (h : bc_fm M H0) (hm : bc_mon H0 H) (he : ∀ (ci : Nat) (fs : List Value), e = .inr (ci, fs) → ci = 5 ∨ ci = 17 → ∃ fs', M a = some (.inr (ci, fs'))) : bc_fm (bu M a e) H := by
  intro b ci fs hb hc
  have : ∃ fs', M b = some (.inr (ci, fs')) := by
    by_cases hba : b = a
    · subst hba
      rw [bu_self] at hb
      exact he ci fs (Option.some.inj hb) hc
    · rw [bu_ne hba] at hb
      exact ⟨fs, hb⟩
  obtain ⟨fs', h1⟩ := this
  obtain ⟨c, c1, c2⟩ := h b ci fs' h1 hc
  obtain ⟨c', d1, d2⟩ := hm b c c1
  exact ⟨c', d1, d2.trans c2⟩
theorem bc_fm.setA {M : va_M} {H0 H : Heap} {a : Nat} {x : ClassId × vp_A} (h : bc_fm M H0) (hm : bc_mon H0 H) : bc_fm (bu M a (.inl x)) H := h.set hm (fun _ _ e => by cases e)
theorem bc_fm.setO {M : va_M} {H0 H : Heap} {a ci : Nat} {fs fs' : List Value} (h : bc_fm M H0) (hm : bc_mon H0 H) (ha : M a = some (.inr (ci, fs))) : bc_fm (bu M a (.inr (ci, fs'))) H := h.set hm (fun _ _ e _ => by cases e; exact ⟨_, ha⟩)
theorem bc_fm.setN {M : va_M} {H0 H : Heap} {a ci : Nat} {fs : List Value} (h : bc_fm M H0) (hm : bc_mon H0 H) (hc : ¬ (ci = 5 ∨ ci = 17)) : bc_fm (bu M a (.inr (ci, fs))) H := h.set hm (fun _ _ e z => by cases e; exact (hc z).elim)
def bc_W (Y : bi_Y) (A : Nat → Prop) (M : va_M) (H : Heap) : Prop := (∀ q : Nat, H.size ≤ q → bc_F Y A q) ∧ (∀ a e, M a = some e → bc_F Y A a ∧ va_at Y.2.1 bi_CL (a, e) H) ∧ bc_fm M H
section VMON
variable {p : Program} {l : Launch} {e : Env} {R : Room} {s : State} {m : MethodId} {args : Array Value} {below : List Frame} {meth : Method} {c : Code} {locs : List Loc} {cells slots : Nat}
theorem vx_back9L {T S : State} {R' : Room} {k n : Nat} {locs1 : List Loc} (X : Stand p l e R s m args below meth c T locs cells slots) (Y : Stand p l e R' ((T.setVm s.vm).setFrames (.invoking m args :: below)) m args below meth c T [] 0 0) (Z : Stand p l e R' ((T.setVm s.vm).setFrames (.invoking m args :: below)) m args below meth c S locs1 k n) :
    Stand p l e R s m args below meth c S (locs ++ locs1) (cells + k) (slots + n) := by
  have hW0 : s.WarmedH ((T.setVm s.vm).setFrames (.invoking m args :: below)).vm := State.WarmedH.refl s
  refine { admits := X.admits, cas := X.cas, clock := X.clock, frames := X.frames, room := X.room, hears := X.hears, method := X.method, code := X.code, here := Z.here, tail := Z.tail, warmed := State.WarmedH.trans hW0 Z.warmed, limits := Z.limits.trans (Y.limits.symm.trans X.limits), bytes := Z.bytes.trans (Y.bytes.symm.trans X.bytes), same := ?_ }
  obtain ⟨e1, e2⟩ := Z.same
  rw [State.setFrames_setFrames] at e1
  have h2 : (T.setVm s.vm).sameButNew (S.setVm s.vm) locs1 k n := ⟨e1, e2⟩
  exact X.same.trans h2
end VMON
/-- the same body, as if begun in another state -/
abbrev bi_rb (X : bi_X) (R' : Room) (s' : State) : bi_X := (bi_p X, bi_e X, R', s', bi_m X, bi_ar X, bi_be X, bi_me X, bi_c X, bi_Q X, bi_A X, bi_nL X)
/-- seen from here: as if the body began in this heap; behind each step the monitors are as they were -/
theorem vr_mon {Y : bi_Y} {X : bi_X} {cc : ByteArray} {ret : Option FieldType} {own : String} {fr lo mc ms : Nat} {hh : List ExceptionTableEntry} {P : Heap → Prop} {k n pc : Nat} {L : List (Option Value)} {st : List Value} (hE : bi_E Y X cc ret own fr lo mc ms hh) (hk : k ≤ mc ∧ n ≤ ms)
    (h : ∀ (R' : Room) (s' : State) (H0 : Heap), P H0 → bi_E Y (bi_rb X R' s') cc ret own fr lo (mc - k) (ms - n) hh →
      (∀ (P' : Heap → Prop) (k' n' pc' : Nat) (L' : List (Option Value)) (st' : List Value), bi_V Y.1 X (fun H => P' H ∧ bc_mon H0 H) (k + k') (n + n') pc' L' st' → bi_V Y.1 (bi_rb X R' s') P' k' n' pc' L' st') →
      bi_V Y.1 (bi_rb X R' s') (fun H => H = H0) 0 0 pc L st) : bi_V Y.1 X P k n pc L st := by
  intro H locs ls h1 h2 h3 T hT Xs
  have hrm := hE.rm
  have Y0 := vx_rebase Xs (R' := { frames := fr, cells := mc - k, slots := ms - n, locals := lo }) (by rw [hrm]; exact Nat.le_refl _) (by rw [hrm]; exact Nat.le_refl _) (by rw [hrm]; show k + (mc - k) ≤ mc; omega) (by rw [hrm]; show n + (ms - n) ≤ ms; omega)
  have hW0 : (bi_s X).WarmedH ((T.setVm (bi_s X).vm).setFrames (.invoking (bi_m X) (bi_ar X) :: bi_be X)).vm := State.WarmedH.refl _
  have hhp : ((T.setVm (bi_s X).vm).setFrames (.invoking (bi_m X) (bi_ar X) :: bi_be X)).heap = H := hT
  have hE' : bi_E Y (bi_rb X { frames := fr, cells := mc - k, slots := ms - n, locals := lo } ((T.setVm (bi_s X).vm).setFrames (.invoking (bi_m X) (bi_ar X) :: bi_be X))) cc ret own fr lo (mc - k) (ms - n) hh :=
    ⟨hE.x, hE.b, hE.ml, hE.r, hE.lk, hE.ow, fun w hw => vx_ot_at hW0 rfl (by unfold vx_ot; rw [(List.mem_filter.mp hw).2, Bool.or_true]) (hE.ts w hw), hE.GS, hE.giH h2 hhp hW0, fun q hq => hE.nw q (Nat.le_trans h2.1 (by rw [← hhp]; exact hq)), hE.ab, rfl, hE.tb⟩
  refine h _ _ H h1 hE' (fun P' k' n' pc' L' st' kk => ?_) H [] ls rfl ⟨by rw [hhp]; exact Nat.le_refl _, fun q _ _ => by rw [hhp], fun _ h9 => by cases h9⟩ h3 T hT Y0
  intro H1 locs1 ls1 g1 g2 g3 T1 hT1 Z
  have Z9 := vx_back9L Xs Y0 Z
  have gs : H.size ≤ H1.size := by have := g2.1; rw [hhp] at this; exact this
  refine kk H1 (locs ++ locs1) ls1 ⟨g1, fun a c9 h9 => ?_⟩ ⟨Nat.le_trans h2.1 gs, fun q h9 hA => ?_, fun l hl => (List.mem_append.mp hl).elim (h2.2.2 l) (g2.2.2 l)⟩ g3 T1 hT1 Z9
  · obtain ⟨c', q1, q2, -, -⟩ := Z.same.2.2.2.2.2 a c9 (by rw [hhp]; exact h9)
    exact ⟨c', by rw [← hT1]; exact q1, (congrArg Cell.monitor q2).trans rfl⟩
  · have z := g2.2.1 q (by rw [hhp]; exact Nat.lt_of_lt_of_le h9 h2.1) hA
    rw [hhp] at z
    exact z.trans (h2.2.1 q h9 hA)
def bc_Met (Y : bi_Y) (y : MethodName) (ws : List Cond) (fr lo mc ms : Nat) (M : va_M) (av : List Value) (post : Option Value → va_M → Prop) (px : Nat → String → va_M → Prop) : Prop :=
  ∀ A : Nat → Prop, bi_Met Y y ws fr lo mc ms (bc_W Y A M) (bc_F Y A) av post px (bc_W Y A)
/-- less is known -/
theorem bc_W.less {Y : bi_Y} {A : Nat → Prop} {M M' : va_M} {H : Heap} (h : bc_W Y A M H) (hs : ∀ a e, M' a = some e → M a = some e) : bc_W Y A M' H := ⟨h.1, fun a e z => h.2.1 a e (hs a e z), fun a ci fs z hc => h.2.2 a ci fs (hs a _ z) hc⟩
/-- what is told of a class -/
def bc_C (ci : Nat) (C : String) (T : u_T) (N : Nat) (ty : Nat → FieldType) : Prop := bi_CL[ci]? = some (C, T, N) ∧ (∀ w ∈ u_ws C T N, w ∈ lw_all) ∧ (∀ k, k < N → parseFieldDescriptor (T k).2.2.1 = some (ty k)) ∧ ∀ a, a < N → ∀ b, b < N → a ≠ b → (T a).2.1 ≠ (T b).2.1
/-- the field is found under that name -/
def bc_hs (own : String) (T : u_T) (z : Nat) (ref : String) : Prop := (T z).1 = ref ∨ Cond.sameField ref (T z).1 (T z).2.1 (T z).2.2.1 ∈ lw_all
section BCM
variable {Y : bi_Y} {y : MethodName} {cc : ByteArray} {nL : Nat} {ret : Option FieldType} {fr lo mc ms : Nat} {M : va_M} {av : List Value} {post : Option Value → va_M → Prop} {px : Nat → String → va_M → Prop}
theorem bc_start {X : bi_X} {A : Nat → Prop} {k n pc : Nat} {L : List (Option Value)} {st : List Value} (hA : ∀ q, bc_F Y A q → bi_A X q) (kk : bi_V Y.1 X (bc_W Y (bi_A X) M) k n pc L st) : bi_V Y.1 X (bc_W Y A M) k n pc L st :=
  vr_P (fun H h => ⟨fun q hq => ⟨hA q (h.1 q hq), (h.1 q hq).2⟩, fun a e z => ⟨⟨hA a (h.2.1 a e z).1, (h.2.1 a e z).1.2⟩, (h.2.1 a e z).2⟩, h.2.2⟩) kk
theorem bc_close {X : bi_X} {A : Nat → Prop} (e : bi_A X = bi_Af (bc_F Y A) (bi_s X).heap.size) (h0 : bc_W Y A M (bi_s X).heap) : ∀ M' H, bc_W Y (bi_A X) M' H → bc_W Y A M' H := by
  intro M' H h
  have hb : ∀ q, bc_F Y (bi_A X) q → bc_F Y A q := by
    intro q hq
    have h1 := hq.1
    rw [e] at h1
    exact h1.elim (fun z => z) (fun z => h0.1 q z)
  exact ⟨fun q hq => hb q (h.1 q hq), fun a e z => ⟨hb a (h.2.1 a e z).1, (h.2.1 a e z).2⟩, h.2.2⟩
/-- a contract out of a walk -/
theorem bc_Met.of {own : String} (hown9 : y.cls = own) (hy : plainName y.cls = true) (G : bi_GS Y) (hl : (lg_sl av).length ≤ nL) {L0 : List (Option Value)} (hL0 : bi_L0 av nL = L0)
    (body : ∀ (X : bi_X) (A : Nat → Prop), bi_E Y X cc ret own fr lo mc ms [] → bi_end X (bc_F Y A) mc ms post px (bc_W Y A) → (∀ M' H, bc_W Y (bi_A X) M' H → bc_W Y A M' H) → bi_nL X = nL → (∀ m : Method, m = bi_me X → m.name = y.name) → bi_V Y.1 X (bc_W Y (bi_A X) M) 0 0 0 L0 []) : bc_Met Y y (ws_ y cc nL ret) fr lo mc ms M av post px :=
  fun A => bi_Met.ofP hown9 hy G (fun _ h => h.2) hl hL0 (fun X hE hQ h0 hnl hnm => bc_start (fun q h => by rw [hQ.1]; exact Or.inl h) (body X A hE hQ (bc_close hQ.1 h0) hnl hnm))
theorem bc_Met.ofH {own : String} (hown9 : y.cls = own) {hh : List (Nat × Nat × Nat × Nat)} (hy : plainName y.cls = true) (G : bi_GS Y) (hl : (lg_sl av).length ≤ nL) {L0 : List (Option Value)} (hL0 : bi_L0 av nL = L0)
    (body : ∀ (X : bi_X) (A : Nat → Prop), bi_E Y X cc ret own fr lo mc ms (tableOf hh) → bi_end X (bc_F Y A) mc ms post px (bc_W Y A) → (∀ M' H, bc_W Y (bi_A X) M' H → bc_W Y A M' H) → bi_nL X = nL → bi_V Y.1 X (bc_W Y (bi_A X) M) 0 0 0 L0 []) : bc_Met Y y (wsW_ y cc nL ret hh) fr lo mc ms M av post px :=
  fun A => bi_Met.ofPH hown9 hy G (fun _ h => h.2) hl hL0 (fun X hE hQ h0 hnl => bc_start (fun q h => by rw [hQ.1]; exact Or.inl h) (body X A hE hQ (bc_close hQ.1 h0) hnl))
end BCM
/-- the map as a list: what the kit's rows take -/
theorem bc_open {Y : bi_Y} {A : Nat → Prop} {M : va_M} {H : Heap} (h : bc_W Y A M H) : ∃ ws : va_W, va_P Y.2.1 bi_CL ws H ∧ va_D A ws ∧ (∀ a e, M a = some e → ∃ k : Nat, ws[k]? = some (a, e)) ∧ ∀ (k : Nat) (q : Nat × va_E), ws[k]? = some q → M q.1 = some q.2 := by
  have hf : ∀ a e, M a = some e → a < H.size := fun a e z => ((h.2.1 a e z).2).lt
  let g : Nat → Option (Nat × va_E) := fun a => (M a).map (fun e => (a, e))
  have hmem : ∀ q : Nat × va_E, q ∈ (List.range H.size).filterMap g ↔ M q.1 = some q.2 := by
    intro q
    rw [List.mem_filterMap]
    constructor
    · rintro ⟨a, -, h2⟩
      simp only [g] at h2
      cases hM : M a with
      | none => rw [hM] at h2; cases h2
      | some e =>
        rw [hM] at h2
        cases h2
        exact hM
    · intro hq
      exact ⟨q.1, List.mem_range.mpr (hf _ _ hq), by simp [g, hq]⟩
  have hin : ∀ (k : Nat) (q : Nat × va_E), ((List.range H.size).filterMap g)[k]? = some q → M q.1 = some q.2 := fun k q hk => (hmem q).mp (List.mem_of_getElem? hk)
  refine ⟨(List.range H.size).filterMap g, fun k q hk => ?_, ⟨fun i j p q hi hj e => ?_, fun k q hk => (h.2.1 _ _ (hin k q hk)).1.1⟩, fun a e hM => List.getElem?_of_mem ((hmem (a, e)).mpr hM), hin⟩
  · exact (h.2.1 _ _ (hin k q hk)).2
  · have hnd : ((List.range H.size).filterMap g).Pairwise (fun p q => p.1 ≠ q.1) := by
      rw [List.pairwise_filterMap]
      refine List.Pairwise.imp ?_ (List.nodup_range (n := H.size))
      intro a b hab x hx y hy
      simp only [g] at hx hy
      cases hA : M a with
      | none => rw [hA] at hx; cases hx
      | some ea =>
        cases hB : M b with
        | none => rw [hB] at hy; cases hy
        | some eb =>
          rw [hA] at hx; rw [hB] at hy
          cases hx; cases hy
          exact hab
    rw [List.pairwise_iff_getElem] at hnd
    obtain ⟨li, rfl⟩ := List.getElem?_eq_some_iff.mp hi
    obtain ⟨lj, rfl⟩ := List.getElem?_eq_some_iff.mp hj
    rcases Nat.lt_trichotomy i j with z | z | z
    · exact absurd e (hnd i j li lj z)
    · exact z
    · exact absurd e.symm (hnd j i lj li z)
section BCR
variable {Y : bi_Y} {X : bi_X} {cc : ByteArray} {ret : Option FieldType} {own : String} {fr lo mc ms : Nat} {hh : List ExceptionTableEntry} {M : va_M} {k n pc : Nat} {L : List (Option Value)} {rest st : List Value} {a : Nat}
theorem bc_up (hE : bi_E Y X cc ret own fr lo mc ms hh) {H H1 : Heap} {locs1 : List Loc} {M' : va_M} (hS : va_S (bi_A X) (bi_s X).heap H1 locs1) (h : ∀ a e, M' a = some e → bi_A X a ∧ va_at Y.2.1 bi_CL (a, e) H1) : bc_W0 Y (bi_A X) M' H1 :=
  ⟨fun q hq => ⟨hE.nw q (Nat.le_trans hS.1 hq), hE.ab q (hE.nw q (Nat.le_trans hS.1 hq))⟩, fun a e z => ⟨⟨(h a e z).1, hE.ab a (h a e z).1⟩, (h a e z).2⟩⟩
/-- behind a store -/
theorem bc_set (hE : bi_E Y X cc ret own fr lo mc ms hh) {H H1 : Heap} {locs1 : List Loc} {ws : va_W} {j : Nat} {e0 e : va_E} (hD : va_D (bi_A X) ws) (hcov : ∀ a e, M a = some e → ∃ k : Nat, ws[k]? = some (a, e)) (hj : ws[j]? = some (a, e0)) (hP1 : va_P Y.2.1 bi_CL (ws.set j (a, e)) H1) (hS1 : va_S (bi_A X) (bi_s X).heap H1 locs1) : bc_W0 Y (bi_A X) (bu M a e) H1 := by
  refine bc_up (H := H) hE hS1 (fun b e' hb => ?_)
  have hjl := (List.getElem?_eq_some_iff.mp hj).1
  by_cases hba : b = a
  · subst hba
    rw [bu_self] at hb
    cases hb
    exact ⟨hD.2 j _ hj, hP1 j _ (by rw [List.getElem?_set_self hjl])⟩
  · rw [bu_ne hba] at hb
    obtain ⟨i, hi⟩ := hcov b e' hb
    have hij : j ≠ i := fun z => hba (by rw [z, hi] at hj; exact congrArg Prod.fst (Option.some.inj hj))
    exact ⟨hD.2 i _ hi, hP1 i _ (by rw [List.getElem?_set_ne hij]; exact hi)⟩
/-- behind a birth -/
theorem bc_born (hE : bi_E Y X cc ret own fr lo mc ms hh) {H H1 : Heap} {locs1 : List Loc} {ws : va_W} {q : Nat} {e : va_E} (hcov : ∀ a e, M a = some e → ∃ k : Nat, ws[k]? = some (a, e)) (hP1 : va_P Y.2.1 bi_CL (ws ++ [(q, e)]) H1) (hD1 : va_D (bi_A X) (ws ++ [(q, e)])) (hS1 : va_S (bi_A X) (bi_s X).heap H1 locs1) : M q = none ∧ bc_W0 Y (bi_A X) (bu M q e) H1 := by
  have hlast : (ws ++ [(q, e)])[ws.length]? = some (q, e) := by simp
  have hq : M q = none := by
    cases hM : M q with
    | none => rfl
    | some e' =>
      obtain ⟨i, hi⟩ := hcov q e' hM
      have hil := (List.getElem?_eq_some_iff.mp hi).1
      have h2 : (ws ++ [(q, e)])[i]? = some (q, e') := by rw [List.getElem?_append_left hil]; exact hi
      have := hD1.1 i ws.length _ _ h2 hlast rfl
      omega
  refine ⟨hq, bc_up (H := H) hE hS1 (fun b e' hb => ?_)⟩
  by_cases hbq : b = q
  · subst hbq
    rw [bu_self] at hb
    cases hb
    exact ⟨hD1.2 _ _ hlast, hP1 _ _ hlast⟩
  · rw [bu_ne hbq] at hb
    obtain ⟨i, hi⟩ := hcov b e' hb
    have hil := (List.getElem?_eq_some_iff.mp hi).1
    have h2 : (ws ++ [(q, e)])[i]? = some (b, e') := by rw [List.getElem?_append_left hil]; exact hi
    exact ⟨hD1.2 _ _ h2, hP1 _ _ h2⟩
theorem bc_same (hE : bi_E Y X cc ret own fr lo mc ms hh) {T : u_T} {z : Nat} {ref : String} (h : bc_hs own T z ref) : ∀ x, (bi_s X).fieldFound? (T z).1 (T z).2.1 (T z).2.2.1 = some x → (bi_s X).fieldFound? ref (T z).2.1 (T z).2.2.1 = some x := by
  rcases h with h | h
  · rw [h]; exact fun _ h => h
  · exact u_same (hE.ts _ h)
theorem bc_get (hE : bi_E Y X cc ret own fr lo mc ms hh) {ci N z idx : Nat} {C ref : String} {T : u_T} {ty : Nat → FieldType} {fs : List Value} {v : Value} (hC : bc_C ci C T N ty) (hz : z < N) (hl : Cond.fieldLink own idx ref (T z).2.1 (T z).2.2.1 ∈ lw_all) (hO : bc_hs own T z ref) (hm : M a = some (.inr (ci, fs))) (hv : fs[z]? = some v) (d : decode cc pc = .ok (.getfield idx, 3))
    (kk : bi_V Y.1 X (bc_W Y (bi_A X) M) k n (pc + 3) L (v :: rest)) : bi_V Y.1 X (bc_W Y (bi_A X) M) k n pc L (.ref a :: rest) := fun H locs ls h1 h2 h3 => by
  obtain ⟨ws, hP, hD, hcov, -⟩ := bc_open h1
  obtain ⟨j, hj⟩ := hcov _ _ hm
  exact va_get (D := Y.2.1) (ci := ci) (C := C) (T := T) (N := N) hE.x hE.b hE.ts hC.2.1 hE.ow hE.K hP j hj hC.1 z hz (hE.ts _ hl) (bc_same hE hO) hv d (kk H locs ls h1 h2 h3)
theorem bc_getN (hE : bi_E Y X cc ret own fr lo mc ms hh) {ci N z idx : Nat} {C ref host : String} {T : u_T} {ty : Nat → FieldType} {fs : List Value} {v : Value} (hC : bc_C ci C T N ty) (hz : z < N) (hl : Cond.fieldLinkNest own idx ref (T z).2.1 (T z).2.2.1 host ∈ lw_tbl) (hO : bc_hs own T z ref) (hm : M a = some (.inr (ci, fs))) (hv : fs[z]? = some v) (d : decode cc pc = .ok (.getfield idx, 3))
    (kk : bi_V Y.1 X (bc_W Y (bi_A X) M) k n (pc + 3) L (v :: rest)) : bi_V Y.1 X (bc_W Y (bi_A X) M) k n pc L (.ref a :: rest) := fun H locs ls h1 h2 h3 => by
  obtain ⟨ws, hP, hD, hcov, -⟩ := bc_open h1
  obtain ⟨j, hj⟩ := hcov _ _ hm
  exact va_getN (D := Y.2.1) (ci := ci) (C := C) (T := T) (N := N) hE.x hE.b hE.ts hC.2.1 hE.ow hE.K hP j hj hC.1 z hz ((hE.nestF hl).use rfl) (bc_same hE hO) hv d (kk H locs ls h1 h2 h3)
theorem bc_put (hE : bi_E Y X cc ret own fr lo mc ms hh) {ci N z idx : Nat} {C ref : String} {T : u_T} {ty : Nat → FieldType} {fs : List Value} {v : Value} (hC : bc_C ci C T N ty) (hz : z < N) (hl : Cond.fieldLink own idx ref (T z).2.1 (T z).2.2.1 ∈ lw_all) (hO : bc_hs own T z ref) (hfin : (T z).2.2.2 = false) (hm : M a = some (.inr (ci, fs))) (hn : narrow (ty z) v = v) (hf : fits (ty z) v = true) (hlen : z < fs.length) (d : decode cc pc = .ok (.putfield idx, 3)) (hk : k ≤ mc ∧ n ≤ ms)
    (kk : bi_V Y.1 X (bc_W Y (bi_A X) (bu M a (.inr (ci, fs.set z v)))) k n (pc + 3) L rest) : bi_V Y.1 X (bc_W Y (bi_A X) M) k n pc L (v :: .ref a :: rest) := by
  refine vr_mon hE hk (fun R' s' H0 h1 hE' back => ?_)
  intro H locs ls g0 h2 h3
  subst g0
  obtain ⟨ws, hP, hD, hcov, -⟩ := bc_open h1
  obtain ⟨j, hj⟩ := hcov _ _ hm
  refine va_put (D := Y.2.1) (ci := ci) (C := C) (T := T) (N := N) (ty := ty z) (v := v) (fs := fs) hE'.x hE'.b hE'.ts hC.2.1 ty hC.2.2.1 hC.2.2.2 hE'.ow hE'.K hP hD h2 j hj hC.1 z hz (hE'.ts _ hl) (bc_same hE' hO) hfin (hC.2.2.1 z hz) hn hf hlen d (fun H1 locs1 g1 _ g3 => ?_)
  exact back (bc_W0 Y (bi_A X) _) 0 0 _ _ _ (vr_P (fun H9 h9 => ⟨h9.1.1, h9.1.2, h1.2.2.setO h9.2 hm⟩) kk) H1 locs1 ls (bc_set (H := H) hE' hD hcov hj g1 g3) g3 h3
theorem bc_putN (hE : bi_E Y X cc ret own fr lo mc ms hh) {ci N z idx : Nat} {C ref host : String} {T : u_T} {ty : Nat → FieldType} {fs : List Value} {v : Value} (hC : bc_C ci C T N ty) (hz : z < N) (hl : Cond.fieldLinkNest own idx ref (T z).2.1 (T z).2.2.1 host ∈ lw_tbl) (hO : bc_hs own T z ref) (hfin : (T z).2.2.2 = false) (hm : M a = some (.inr (ci, fs))) (hn : narrow (ty z) v = v) (hf : fits (ty z) v = true) (hlen : z < fs.length) (d : decode cc pc = .ok (.putfield idx, 3)) (hk : k ≤ mc ∧ n ≤ ms)
    (kk : bi_V Y.1 X (bc_W Y (bi_A X) (bu M a (.inr (ci, fs.set z v)))) k n (pc + 3) L rest) : bi_V Y.1 X (bc_W Y (bi_A X) M) k n pc L (v :: .ref a :: rest) := by
  refine vr_mon hE hk (fun R' s' H0 h1 hE' back => ?_)
  intro H locs ls g0 h2 h3
  subst g0
  obtain ⟨ws, hP, hD, hcov, -⟩ := bc_open h1
  obtain ⟨j, hj⟩ := hcov _ _ hm
  refine va_putN (D := Y.2.1) (ci := ci) (C := C) (T := T) (N := N) (ty := ty z) (v := v) (fs := fs) hE'.x hE'.b hE'.ts hC.2.1 ty hC.2.2.1 hC.2.2.2 hE'.ow hE'.K hP hD h2 j hj hC.1 z hz ((hE'.nestF hl).use rfl) (bc_same hE' hO) hfin (hC.2.2.1 z hz) hn hf hlen d (fun H1 locs1 g1 _ g3 => ?_)
  exact back (bc_W0 Y (bi_A X) _) 0 0 _ _ _ (vr_P (fun H9 h9 => ⟨h9.1.1, h9.1.2, h1.2.2.setO h9.2 hm⟩) kk) H1 locs1 ls (bc_set (H := H) hE' hD hcov hj g1 g3) g3 h3
theorem bc_putF (hE : bi_E Y X cc ret own fr lo mc ms hh) {ci N z idx : Nat} {C : String} {T : u_T} {ty : Nat → FieldType} {fs : List Value} {v : Value} (hC : bc_C ci C T N ty) (hz : z < N) (hl : Cond.fieldLink own idx own (T z).2.1 (T z).2.2.1 ∈ lw_all) (hO : (T z).1 = own) (hfin : (T z).2.2.2 = true) (hnm : (bi_me X).name = "<init>") (hm : M a = some (.inr (ci, fs))) (hn : narrow (ty z) v = v) (hf : fits (ty z) v = true) (hlen : z < fs.length) (d : decode cc pc = .ok (.putfield idx, 3)) (hk : k ≤ mc ∧ n ≤ ms)
    (kk : bi_V Y.1 X (bc_W Y (bi_A X) (bu M a (.inr (ci, fs.set z v)))) k n (pc + 3) L rest) : bi_V Y.1 X (bc_W Y (bi_A X) M) k n pc L (v :: .ref a :: rest) := by
  refine vr_mon hE hk (fun R' s' H0 h1 hE' back => ?_)
  intro H locs ls g0 h2 h3
  subst g0
  obtain ⟨ws, hP, hD, hcov, -⟩ := bc_open h1
  obtain ⟨j, hj⟩ := hcov _ _ hm
  refine va_putF (D := Y.2.1) (ci := ci) (C := C) (T := T) (N := N) (ty := ty z) (v := v) (fs := fs) hE'.x hE'.b hE'.ts hC.2.1 ty hC.2.2.1 hC.2.2.2 hE'.ow hE'.K hP hD h2 j hj hC.1 z hz (hE'.ts _ hl) (by rw [hO]; exact fun _ h => h) hfin hnm hO (hC.2.2.1 z hz) hn hf hlen d (fun H1 locs1 g1 _ g3 => ?_)
  exact back (bc_W0 Y (bi_A X) _) 0 0 _ _ _ (vr_P (fun H9 h9 => ⟨h9.1.1, h9.1.2, h1.2.2.setO h9.2 hm⟩) kk) H1 locs1 ls (bc_set (H := H) hE' hD hcov hj g1 g3) g3 h3
theorem bc_new (hE : bi_E Y X cc ret own fr lo mc ms hh) {ci N idx : Nat} {C : String} {T : u_T} {ty : Nat → FieldType} {fs : List Value} (hC : bc_C ci C T N ty) (q1 : Cond.classLink own idx C ∈ lw_all) (q2 : Cond.instantiable C N ∈ lw_all) (q3 : Cond.initialized C ∈ lw_all) (hfs : ∀ j, j < N → defaultValue (ty j) = vp_V fs j) (h517 : ¬ (ci = 5 ∨ ci = 17)) (hroom : k + 1 ≤ mc ∧ n + N ≤ ms) (d : decode cc pc = .ok (.new idx, 3))
    (kk : ∀ q : Nat, M q = none → bi_V Y.1 X (bc_W Y (bi_A X) (bu M q (.inr (ci, fs)))) (k + 1) (n + N) (pc + 3) L (.ref q :: rest)) : bi_V Y.1 X (bc_W Y (bi_A X) M) k n pc L rest := by
  refine vr_mon hE ⟨by omega, by omega⟩ (fun R' s' H0 h1 hE' back => ?_)
  intro H locs ls g0 h2 h3
  subst g0
  obtain ⟨ws, hP, hD, hcov, -⟩ := bc_open h1
  have hrm := hE'.rm
  refine va_new (D := Y.2.1) (ci := ci) (C := C) (T := T) (N := N) (fs := fs) hE'.x hE'.b hE'.ts hC.2.1 ty hC.2.2.1 hE'.ow (hE'.ts _ q1) (hE'.ts _ q2) (hE'.ts _ q3) hE'.K hP hD h2 hE'.nw hC.1 hfs (by rw [hrm]; show 0 + 1 ≤ mc - k; omega) (by rw [hrm]; show 0 + N ≤ ms - n; omega) d (fun q H1 g1 g2 g3 => ?_)
  obtain ⟨e1, e2⟩ := bc_born (H := H) hE' hcov g1 g2 g3
  rw [Nat.zero_add N]
  exact back (bc_W0 Y (bi_A X) _) 1 N _ _ _ (vr_P (fun H9 h9 => ⟨h9.1.1, h9.1.2, h1.2.2.setN h9.2 h517⟩) (kk q e1)) H1 locs ls e2 g3 h3
theorem bc_recv (hE : bi_E Y X cc ret own fr lo mc ms hh) {ci N : Nat} {C : String} {T : u_T} {ty : Nat → FieldType} {fs : List Value} (hC : bc_C ci C T N ty) (hm : M a = some (.inr (ci, fs))) : ∀ H, bc_W Y (bi_A X) M H → ∃ cell : Cell, H[a]? = some cell ∧ cell.vm.isStatics = false ∧ (bi_s X).vm.findClass C = some cell.cls := fun H h => by
  obtain ⟨ws, hP, hD, hcov, -⟩ := bc_open h
  obtain ⟨j, hj⟩ := hcov _ _ hm
  exact va_recv hE.K hP hC.1 hj
end BCR
