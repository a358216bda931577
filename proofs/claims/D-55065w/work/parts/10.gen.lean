/-! facts of single cells, read in any world; statics; Strings -/
set_option maxRecDepth 100000
/-- what was there before the law is as it was -/
def bi_B (Y : bi_Y) (H : Heap) : Prop := Y.2.2.1.heap.size ≤ H.size ∧ ∀ q : Nat, q < Y.2.2.1.heap.size → H[q]? = Y.2.2.1.heap[q]?
def bi_fld (Y : bi_Y) (ci a z : Nat) (v : Value) (H : Heap) : Prop := ∃ cell : Cell, H[a]? = some cell ∧ cell.vm ≠ .unknown ∧ cell.slots[Y.2.1.2 ci z]? = some v
def bi_cls (Y : bi_Y) (ci a : Nat) (H : Heap) : Prop := ∃ cell : Cell, H[a]? = some cell ∧ cell.vm.isStatics = false ∧ cell.cls = Y.2.1.1 ci
def bi_arr (Y : bi_Y) (ty : FieldType) (a n : Nat) (f : Nat → Value) (H : Heap) : Prop := ∃ cell : Cell, H[a]? = some cell ∧ Y.2.2.1.isArrayOf cell ty ∧ cell.vm ≠ .unknown ∧ n ≤ cell.slots.size ∧ cell.slots.size.toInt32 = Int32.ofNat n ∧ ∀ j, j < n → cell.slots[j]? = some (f j)
theorem bi_fld.kept {Y : bi_Y} {ci a z : Nat} {v : Value} {H H1 : Heap} (h : bi_fld Y ci a z v H) (e : H1[a]? = H[a]?) : bi_fld Y ci a z v H1 := by
  obtain ⟨cell, h1, h2⟩ := h
  exact ⟨cell, e.trans h1, h2⟩
theorem bi_cls.kept {Y : bi_Y} {ci a : Nat} {H H1 : Heap} (h : bi_cls Y ci a H) (e : H1[a]? = H[a]?) : bi_cls Y ci a H1 := by
  obtain ⟨cell, h1, h2⟩ := h
  exact ⟨cell, e.trans h1, h2⟩
theorem bi_arr.kept {Y : bi_Y} {ty : FieldType} {a n : Nat} {f : Nat → Value} {H H1 : Heap} (h : bi_arr Y ty a n f H) (e : H1[a]? = H[a]?) : bi_arr Y ty a n f H1 := by
  obtain ⟨cell, h1, h2⟩ := h
  exact ⟨cell, e.trans h1, h2⟩
theorem bi_fld.lt {Y : bi_Y} {ci a z : Nat} {v : Value} {H : Heap} (h : bi_fld Y ci a z v H) : a < H.size := by
  obtain ⟨cell, h1, h2⟩ := h
  exact (Array.getElem?_eq_some_iff.mp h1).1
theorem bi_arr.lt {Y : bi_Y} {ty : FieldType} {a n : Nat} {f : Nat → Value} {H : Heap} (h : bi_arr Y ty a n f H) : a < H.size := by
  obtain ⟨cell, h1, h2⟩ := h
  exact (Array.getElem?_eq_some_iff.mp h1).1
theorem bi_cls.lt {Y : bi_Y} {ci a : Nat} {H : Heap} (h : bi_cls Y ci a H) : a < H.size := by
  obtain ⟨cell, h1, h2⟩ := h
  exact (Array.getElem?_eq_some_iff.mp h1).1
/-- a String of Latin-1 letters t, its bytes at v -/
def bi_Str (Y : bi_Y) (a v : Nat) (t : List Nat) (H : Heap) : Prop := bi_cls Y 22 a H ∧ bi_fld Y 22 a 0 (.ref v) H ∧ bi_fld Y 22 a 1 (.int 0) H ∧ bi_arr Y .byte v t.length (fun j => .int (sb_b (t.getD j 0))) H ∧ ∀ c ∈ t, c < 256
theorem bi_Str.kept {Y : bi_Y} {a v : Nat} {t : List Nat} {H H1 : Heap} (h : bi_Str Y a v t H) (e : H1[a]? = H[a]?) (e2 : H1[v]? = H[v]?) : bi_Str Y a v t H1 := ⟨h.1.kept e, h.2.1.kept e, h.2.2.1.kept e, h.2.2.2.1.kept e2, h.2.2.2.2⟩
section WR
variable {Y : bi_Y} {X : bi_X} {cc : ByteArray} {ret : Option FieldType} {own : String} {fr lo mc ms : Nat} {hh : List ExceptionTableEntry} {P : Heap → Prop} {k n pc : Nat} {L : List (Option Value)} {rest st : List Value}
theorem bi_E.B (hE : bi_E Y X cc ret own fr lo mc ms hh) {H : Heap} {locs : List Loc} (hS : va_S (bi_A X) (bi_s X).heap H locs) : bi_B Y H := by
  refine ⟨Nat.le_trans hE.GI.2.1 hS.1, fun q hq => ?_⟩
  rw [hS.2.1 q (Nat.lt_of_lt_of_le hq hE.GI.2.1) (fun z => absurd (hE.ab q z) (by omega))]
  exact hE.GI.2.2 q hq
theorem bi_E.al (hE : bi_E Y X cc ret own fr lo mc ms hh) : Y.2.2.1.vm.Alike (bi_s X).vm := hE.GI.1.alike
/-- a fact of the start's heap, of a cell that nobody changes -/
theorem bi_E.Z (hE : bi_E Y X cc ret own fr lo mc ms hh) {C n d : String} {v : Value} (h : va_Z C n d v (fun q => Y.2.2.1.heap.size ≤ q) Y.2.2.1 Y.2.2.1.heap) : va_Z C n d v (bi_A X) (bi_s X) (bi_s X).heap :=
  ((va_Z.moved hE.al h).kept (fun a h1 _ => hE.GI.2.2 a h1)).narrow (fun q z => hE.ab q z)
theorem bi_E.T (hE : bi_E Y X cc ret own fr lo mc ms hh) {ty : FieldType} {t n : Nat} {f : Nat → Value} (h : va_T ty t n f (fun q => Y.2.2.1.heap.size ≤ q) Y.2.2.1 Y.2.2.1.heap) : va_T ty t n f (bi_A X) (bi_s X) (bi_s X).heap :=
  ((va_T.moved hE.al h).kept (fun a h1 _ => hE.GI.2.2 a h1)).narrow (fun q z => hE.ab q z)
/-- a word that the tables alone decide -/
theorem bi_E.nestF (hE : bi_E Y X cc ret own fr lo mc ms hh) {a : String} {i : Nat} {b n d h : String} (hw : Cond.fieldLinkNest a i b n d h ∈ lw_tbl) : va_Nw (.fieldLinkNest a i b n d h) (bi_s X) := va_Nw.warmF hE.GI.1 (va_Nw.of rfl (hE.GS.1 _ hw))
theorem bi_E.nestM (hE : bi_E Y X cc ret own fr lo mc ms hh) {a : String} {i : Nat} {x : MethodName} {h : String} (hw : Cond.methodLinkNest a i x h ∈ lw_tbl) : va_Nw (.methodLinkNest a i x h) (bi_s X) := va_Nw.warmM hE.GI.1 (va_Nw.of rfl (hE.GS.1 _ hw))
/-- a field of a class of the world -/
theorem wr_get (hE : bi_E Y X cc ret own fr lo mc ms hh) {ci a N z idx : Nat} {C ref : String} {T : u_T} {v : Value} (hc : bi_CL[ci]? = some (C, T, N)) (hin : ∀ w ∈ u_ws C T N, w ∈ lw_all) (hz : z < N) (hl : Cond.fieldLink own idx ref (T z).2.1 (T z).2.2.1 ∈ lw_all) (hO : (T z).1 = ref) (hf : ∀ H, bi_B Y H → P H → bi_fld Y ci a z v H) (d : decode cc pc = .ok (.getfield idx, 3))
    (kk : bi_V Y.1 X P k n (pc + 3) L (v :: rest)) : bi_V Y.1 X P k n pc L (.ref a :: rest) := fun H locs ls h1 h2 h3 => by
  obtain ⟨cell, q1, q2, q3⟩ := hf H (hE.B h2) h1
  obtain ⟨hS, hfc, kC, hkC, hkind⟩ := hE.K.1 ci _ hc
  obtain ⟨cf, kf, fi, f, hi, hsl⟩ := hS z hz
  refine W.getf hE.x hE.b hE.ow (hE.ts _ hl) (by rw [hO] at hi; exact hi) (u_facts hfc hkC (u_lays hE.ts hin hz) hi).1 q1 q2 (v := v) ?_ rfl rfl d (kk H locs ls h1 h2 h3)
  rw [hsl]
  exact q3
/-- .. inherited, under another class's name -/
theorem wr_getI (hE : bi_E Y X cc ret own fr lo mc ms hh) {ci a N z idx : Nat} {C ref : String} {T : u_T} {v : Value} (hc : bi_CL[ci]? = some (C, T, N)) (hin : ∀ w ∈ u_ws C T N, w ∈ lw_all) (hz : z < N) (hl : Cond.fieldLink own idx ref (T z).2.1 (T z).2.2.1 ∈ lw_all) (hO : Cond.sameField ref (T z).1 (T z).2.1 (T z).2.2.1 ∈ lw_all) (hf : ∀ H, bi_B Y H → P H → bi_fld Y ci a z v H) (d : decode cc pc = .ok (.getfield idx, 3))
    (kk : bi_V Y.1 X P k n (pc + 3) L (v :: rest)) : bi_V Y.1 X P k n pc L (.ref a :: rest) := fun H locs ls h1 h2 h3 => by
  obtain ⟨cell, q1, q2, q3⟩ := hf H (hE.B h2) h1
  obtain ⟨hS, hfc, kC, hkC, hkind⟩ := hE.K.1 ci _ hc
  obtain ⟨cf, kf, fi, f, hi, hsl⟩ := hS z hz
  refine W.getf hE.x hE.b hE.ow (hE.ts _ hl) (u_same (hE.ts _ hO) _ hi) (u_facts hfc hkC (u_lays hE.ts hin hz) hi).1 q1 q2 (v := v) ?_ rfl rfl d (kk H locs ls h1 h2 h3)
  rw [hsl]
  exact q3
/-- .. a nest mate's -/
theorem wr_getN (hE : bi_E Y X cc ret own fr lo mc ms hh) {ci a N z idx : Nat} {C ref host : String} {T : u_T} {v : Value} (hc : bi_CL[ci]? = some (C, T, N)) (hin : ∀ w ∈ u_ws C T N, w ∈ lw_all) (hz : z < N) (hl : Cond.fieldLinkNest own idx ref (T z).2.1 (T z).2.2.1 host ∈ lw_tbl) (hO : (T z).1 = ref) (hf : ∀ H, bi_B Y H → P H → bi_fld Y ci a z v H) (d : decode cc pc = .ok (.getfield idx, 3))
    (kk : bi_V Y.1 X P k n (pc + 3) L (v :: rest)) : bi_V Y.1 X P k n pc L (.ref a :: rest) := fun H locs ls h1 h2 h3 => by
  obtain ⟨cell, q1, q2, q3⟩ := hf H (hE.B h2) h1
  obtain ⟨hS, hfc, kC, hkC, hkind⟩ := hE.K.1 ci _ hc
  obtain ⟨cf, kf, fi, f, hi, hsl⟩ := hS z hz
  refine va_Wgetf hE.x hE.b hE.ow ((hE.nestF hl).use rfl) (by rw [hO] at hi; exact hi) (u_facts hfc hkC (u_lays hE.ts hin hz) hi).1 q1 q2 (v := v) ?_ rfl rfl d (kk H locs ls h1 h2 h3)
  rw [hsl]
  exact q3
theorem wr_alen (hE : bi_E Y X cc ret own fr lo mc ms hh) {a N : Nat} {ty : FieldType} {f : Nat → Value} (hf : ∀ H, bi_B Y H → P H → bi_arr Y ty a N f H) (d : decode cc pc = .ok (.arraylength, 1))
    (kk : bi_V Y.1 X P k n (pc + 1) L (.int (nI N) :: rest)) : bi_V Y.1 X P k n pc L (.ref a :: rest) := fun H locs ls h1 h2 h3 => by
  obtain ⟨cell, q1, q2, q3, q4, q6, q5⟩ := hf H (hE.B h2) h1
  exact W.alen (n := nI N) hE.x hE.b q1 (State.isArrayOf_alike hE.al q2) q6 rfl rfl d (kk H locs ls h1 h2 h3)
theorem wr_bald (hE : bi_E Y X cc ret own fr lo mc ms hh) {a N j : Nat} {i : Int32} {f : Nat → Value} (hf : ∀ H, bi_B Y H → P H → bi_arr Y .byte a N f H) (hi : i = nI j) (hj : j < N) (hN : N < 2 ^ 31) (d : decode cc pc = .ok (.baload, 1))
    (kk : bi_V Y.1 X P k n (pc + 1) L (f j :: rest)) : bi_V Y.1 X P k n pc L (.int i :: .ref a :: rest) := fun H locs ls h1 h2 h3 => by
  obtain ⟨cell, q1, q2, q3, q4, q6, q5⟩ := hf H (hE.B h2) h1
  have hc : i.toNatClampNeg = j := by rw [hi]; exact nI_clamp (by omega)
  exact W.bald (v := f j) hE.x hE.b q1 (State.isArrayOf_alike hE.al q2) q3 (by rw [hc]; exact fun z => z.elim (fun z => vp_in_nI hj hN (Or.inl (by rw [← hi]; exact z))) (fun z => by omega)) (by rw [hc]; exact q5 j hj) rfl rfl d (kk H locs ls h1 h2 h3)
theorem wr_iald (hE : bi_E Y X cc ret own fr lo mc ms hh) {a N j : Nat} {i : Int32} {f : Nat → Value} (hf : ∀ H, bi_B Y H → P H → bi_arr Y .int a N f H) (hi : i = nI j) (hj : j < N) (hN : N < 2 ^ 31) (d : decode cc pc = .ok (.iaload, 1))
    (kk : bi_V Y.1 X P k n (pc + 1) L (f j :: rest)) : bi_V Y.1 X P k n pc L (.int i :: .ref a :: rest) := fun H locs ls h1 h2 h3 => by
  obtain ⟨cell, q1, q2, q3, q4, q6, q5⟩ := hf H (hE.B h2) h1
  have hc : i.toNatClampNeg = j := by rw [hi]; exact nI_clamp (by omega)
  exact W.iald (v := f j) hE.x hE.b q1 (State.isArrayOf_alike hE.al q2) q3 (by rw [hc]; exact fun z => z.elim (fun z => vp_in_nI hj hN (Or.inl (by rw [← hi]; exact z))) (fun z => by omega)) (by rw [hc]; exact q5 j hj) rfl rfl d (kk H locs ls h1 h2 h3)
/-- a static that nobody writes -/
theorem wr_gets (hE : bi_E Y X cc ret own fr lo mc ms hh) {C nm ds : String} {v : Value} {idx : Nat} (hZ : va_Z C nm ds v (fun q => Y.2.2.1.heap.size ≤ q) Y.2.2.1 Y.2.2.1.heap) (hl : Cond.fieldLink own idx C nm ds ∈ lw_all) (d : decode cc pc = .ok (.getstatic idx, 3))
    (kk : bi_V Y.1 X P k n (pc + 3) L (v :: rest)) : bi_V Y.1 X P k n pc L rest := fun H locs ls h1 h2 h3 =>
  va_gets hE.x hE.b (hE.Z hZ) h2 hE.ow (hE.ts _ hl) (fun _ h => h) d (kk H locs ls h1 h2 h3)
theorem bi_recv (hE : bi_E Y X cc ret own fr lo mc ms hh) {ci a N : Nat} {C : String} {T : u_T} (hc : bi_CL[ci]? = some (C, T, N)) (hf : ∀ H, bi_B Y H → P H → bi_cls Y ci a H) {H : Heap} (hB : bi_B Y H) (h : P H) : ∃ cell : Cell, H[a]? = some cell ∧ cell.vm.isStatics = false ∧ (bi_s X).vm.findClass C = some cell.cls := by
  obtain ⟨cell, q1, q2, q3⟩ := hf H hB h
  exact ⟨cell, q1, q2, by rw [q3]; exact (hE.K.1 ci _ hc).2.1⟩
end WR
