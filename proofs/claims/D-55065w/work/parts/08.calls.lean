/-! calls over the judgement bi_V -/
set_option maxRecDepth 100000
/-- what the callee leaves as it was -/
def bi_st (P2 : Heap → Prop) (F : Nat → Prop) : Prop := ∀ H H1 : Heap, H.size ≤ H1.size → (∀ q : Nat, q < H.size → ¬ F q → H1[q]? = H[q]?) → P2 H → P2 H1
section BC
variable {Y : bi_Y} {X : bi_X} {cc : ByteArray} {ret : Option FieldType} {own : String} {fr lo mc ms : Nat} {hh : List ExceptionTableEntry} {P : Heap → Prop} {k n pc : Nat} {L : List (Option Value)} {rest st : List Value}
variable {S : Type} {y : MethodName} {cy : ByteArray} {ny : Nat} {ry : Option FieldType} {f1 l1 c1 s1 : Nat} {P1 P2 : Heap → Prop} {F : Nat → Prop} {As : List Value} {post : Option Value → S → Prop} {px : Nat → String → S → Prop} {PU : S → Heap → Prop} {idx a : Nat} {C : String} {ws : List Cond}
/-- behind a run: what goes on when it returned, and when it threw -/
theorem bi_after (hE : bi_E Y X cc ret own fr lo mc ms hh) {H : Heap} {locs : List Loc} {ls : Array Slot} {av : Array Value}
    (hr : vx_Run (bi_p X) Y.1 (bi_e X) (bi_R X) (bi_s X) (bi_m X) (bi_ar X) (bi_be X) (bi_me X) (bi_c X) H locs k n c1 s1 (F0 (bi_m X) pc ls st) rest (bi_Qc post PU (bi_Af F H.size) av) (bi_Xc px PU (bi_Af F H.size)) (bi_Af F H.size))
    (hF : ∀ q, F q → bi_A X q) (hS : va_S (bi_A X) (bi_s X).heap H locs) (h3 : bi_ls ls (bi_nL X) L) (h2 : P2 H) (hst : bi_st P2 F)
    (kk : ∀ (v : Option Value) (u : S), post v u → bi_V Y.1 X (fun H => PU u H ∧ P2 H) (k + c1) (n + s1) (pc + 3) L (v.toList ++ rest))
    (kx : ∀ (q : Nat) (E : String) (u : S), px q E u → bi_VX Y.1 X (fun H => PU u H ∧ P2 H) (k + c1) (n + s1) pc L q E) :
    W (bi_p X) Y.1 (bi_e X) (bi_R X) (bi_s X) (bi_m X) (bi_ar X) (bi_be X) (bi_me X) (bi_c X) H locs k n (bi_Q X) (F0 (bi_m X) pc ls st) := by
  intro T hT X0
  have hA : ∀ q, bi_Af F H.size q → bi_A X q := fun q h => h.elim (hF q) (fun z => hE.nw q (Nat.le_trans hS.1 z))
  have hAF : ∀ (H1 : Heap), (∀ q : Nat, q < H.size → ¬ bi_Af F H.size q → H1[q]? = H[q]?) → ∀ q : Nat, q < H.size → ¬ F q → H1[q]? = H[q]? := fun H1 h q h1 h2 => h q h1 (fun z => z.elim h2 (fun z => absurd h1 (Nat.not_lt.mpr z)))
  rcases hr T hT X0 with ⟨v, st₀, t, T', L', h0, X', hL, e1, e2, ⟨⟨v', u, hv, hp, hb⟩, hFr⟩, stp⟩ | ⟨q, st₀, t, T', L', E, ce, h0, X', hL, e1, e2, ⟨u, hp, hb, hFr⟩, hce, hcv, hcl, stp⟩
  · cases hv
    obtain ⟨k1, k2, k3⟩ := vx_keep h0 e1 hS (fun q _ h => hA q h) hA hL hFr
    obtain ⟨t2, a1, b1⟩ := kk _ u hp T'.heap (locs ++ L') ls ⟨by rw [e1]; exact hb, hst H _ k1 (hAF _ k2) h2⟩ k3 h3 T' rfl X'
    exact ⟨t2, stp t2 a1, b1⟩
  · obtain ⟨k1, k2, k3⟩ := vx_keep h0 e1 hS (fun q _ h => hA q h) hA hL hFr
    obtain ⟨t2, a1, b1⟩ := kx q E u hp T'.heap (locs ++ L') ls rest ce ⟨by rw [e1]; exact hb, hst H _ k1 (hAF _ k2) h2⟩ k3 h3 (by rw [e1]; exact hce) hcv hcl T' rfl X'
    exact ⟨t2, stp.trans a1, b1⟩
theorem bi_preV (hE : bi_E Y X cc ret own fr lo mc ms hh) {H : Heap} {locs : List Loc} (hS : va_S (bi_A X) (bi_s X).heap H locs) (h1 : P1 H) (hr : ∃ cell : Cell, H[a]? = some cell ∧ cell.vm.isStatics = false ∧ (bi_s X).vm.findClass C = some cell.cls) : PreV (bi_s X) H C a (bi_PC Y P1 H.size (.ref a :: As)) As :=
  ⟨bi_PC.blind, hr, fun U hU hW => ⟨rfl, by rw [hU], hE.giH hS hU hW, by rw [hU]; exact h1⟩⟩
theorem bi_preS (hE : bi_E Y X cc ret own fr lo mc ms hh) {H : Heap} {locs : List Loc} (hS : va_S (bi_A X) (bi_s X).heap H locs) (h1 : P1 H) : PreS (bi_s X) H (bi_PC Y P1 H.size As) As :=
  ⟨bi_PC.blind, fun U hU hW => ⟨rfl, by rw [hU], hE.giH hS hU hW, by rw [hU]; exact h1⟩⟩
abbrev bi_ok (y : MethodName) (C : String) (ar : Nat) : Prop := y.cls = C ∧ y.cls ≠ "java/lang/invoke/MethodHandle" ∧ y.cls ≠ "java/lang/invoke/VarHandle" ∧ (parseMethodDescriptor y.desc).map (fun d => d.parameters.length) = some ar
/-- invokevirtual -/
theorem vr_callV (hE : bi_E Y X cc ret own fr lo mc ms hh) (hM : bi_Met Y y (ws_ y cy ny ry) f1 l1 c1 s1 P1 F (.ref a :: As) post px PU) {ar : Nat} (hok : bi_ok y C ar) (hw : GoodIn lw_all (wsV own idx C y (ws_ y cy ny ry)))
    (hP : ∀ H, P H → P1 H ∧ P2 H) (hst : bi_st P2 F) (hr : ∀ H, P H → ∃ cell : Cell, H[a]? = some cell ∧ cell.vm.isStatics = false ∧ (bi_s X).vm.findClass C = some cell.cls) (hF : ∀ q, F q → bi_A X q)
    (hs : st = As.reverse ++ .ref a :: rest) (har : As.length = ar) (hc : (rest.map fun v => v.category).sum ≤ 8) (hroom : f1 + 1 ≤ fr ∧ 8 + (ny + 11) + l1 ≤ lo ∧ k + c1 ≤ mc ∧ n + s1 ≤ ms) (d : decode cc pc = .ok (.invokevirtual idx, 3))
    (kk : ∀ (v : Option Value) (u : S), post v u → bi_V Y.1 X (fun H => PU u H ∧ P2 H) (k + c1) (n + s1) (pc + 3) L (v.toList ++ rest))
    (kx : ∀ (q : Nat) (E : String) (u : S), px q E u → bi_VX Y.1 X (fun H => PU u H ∧ P2 H) (k + c1) (n + s1) pc L q E) : bi_V Y.1 X P k n pc L st := fun H locs ls h1 h2 h3 => by
  have hrm := hE.rm
  refine bi_after hE (vx_runV (As := As) (rest := rest) hE.fix (hM H.size) (cwV ar hE.ts hw rfl rfl rfl hok ⟨by rw [hrm]; exact hroom.1, by rw [hrm]; exact hroom.2.1⟩) (bi_preV hE h2 (hP H h1).1 (hr H h1)) rfl har h3.1 hs (lv_room hc) d ⟨by rw [hrm]; exact hroom.2.2.1, by rw [hrm]; exact hroom.2.2.2⟩) hF h2 h3 (hP H h1).2 hst kk kx
/-- invokestatic -/
theorem vr_callS (hE : bi_E Y X cc ret own fr lo mc ms hh) (hM : bi_Met Y y (ws_ y cy ny ry) f1 l1 c1 s1 P1 F As post px PU) {ar : Nat} (hok : bi_ok y C ar) (hw : GoodIn lw_all (va_wsS own idx y (ws_ y cy ny ry)))
    (hP : ∀ H, P H → P1 H ∧ P2 H) (hst : bi_st P2 F) (hF : ∀ q, F q → bi_A X q)
    (hs : st = As.reverse ++ rest) (har : As.length = ar) (hc : (rest.map fun v => v.category).sum ≤ 8) (hroom : f1 + 1 ≤ fr ∧ 8 + (ny + 11) + l1 ≤ lo ∧ k + c1 ≤ mc ∧ n + s1 ≤ ms) (d : decode cc pc = .ok (.invokestatic idx, 3))
    (kk : ∀ (v : Option Value) (u : S), post v u → bi_V Y.1 X (fun H => PU u H ∧ P2 H) (k + c1) (n + s1) (pc + 3) L (v.toList ++ rest))
    (kx : ∀ (q : Nat) (E : String) (u : S), px q E u → bi_VX Y.1 X (fun H => PU u H ∧ P2 H) (k + c1) (n + s1) pc L q E) : bi_V Y.1 X P k n pc L st := fun H locs ls h1 h2 h3 => by
  have hrm := hE.rm
  refine bi_after hE (vx_runS (As := As) (rest := rest) hE.fix (hM H.size) (va_cwS ar hE.ts hw rfl rfl rfl hok.2 ⟨by rw [hrm]; exact hroom.1, by rw [hrm]; exact hroom.2.1⟩) (bi_preS hE h2 (hP H h1).1) rfl har h3.1 hs (lv_room hc) d ⟨by rw [hrm]; exact hroom.2.2.1, by rw [hrm]; exact hroom.2.2.2⟩) hF h2 h3 (hP H h1).2 hst kk kx
/-- invokespecial <init> -/
theorem vr_callI (hE : bi_E Y X cc ret own fr lo mc ms hh) (hM : bi_Met Y y (ws_ y cy ny none) f1 l1 c1 s1 P1 F (.ref a :: As) post px PU) {ar : Nat} (hok : bi_ok y C ar) (hy1 : y.name = "<init>") (q1 : Cond.methodLink own idx y ∈ lw_all) (q2 : Cond.instanceMethod y ∈ lw_all) (q3 : Cond.initialized y.cls ∈ lw_all) (q4 : Cond.code y cy ny none ∈ lw_all)
    (hP : ∀ H, P H → P1 H ∧ P2 H) (hst : bi_st P2 F) (hF : ∀ q, F q → bi_A X q)
    (hs : st = As.reverse ++ .ref a :: rest) (har : As.length = ar) (hc : (rest.map fun v => v.category).sum ≤ 8) (hroom : f1 + 1 ≤ fr ∧ 8 + (ny + 11) + l1 ≤ lo ∧ k + c1 ≤ mc ∧ n + s1 ≤ ms) (d : decode cc pc = .ok (.invokespecial idx, 3))
    (kk : ∀ (v : Option Value) (u : S), post v u → bi_V Y.1 X (fun H => PU u H ∧ P2 H) (k + c1) (n + s1) (pc + 3) L (v.toList ++ rest))
    (kx : ∀ (q : Nat) (E : String) (u : S), px q E u → bi_VX Y.1 X (fun H => PU u H ∧ P2 H) (k + c1) (n + s1) pc L q E) : bi_V Y.1 X P k n pc L st := fun H locs ls h1 h2 h3 => by
  have hrm := hE.rm
  refine bi_after hE (vx_runI (As := As) (rest := rest) hE.fix (hM H.size) (cwI ar hE.ts (lw_meth q4) rfl rfl rfl (hE.ts _ q3) (hE.ts _ q1) (hE.ts _ q2) hy1 hok.2 ⟨by rw [hrm]; exact hroom.1, by rw [hrm]; exact hroom.2.1⟩) (bi_preS hE h2 (hP H h1).1) rfl har h3.1 hs (lv_room hc) d ⟨by rw [hrm]; exact hroom.2.2.1, by rw [hrm]; exact hroom.2.2.2⟩) hF h2 h3 (hP H h1).2 hst kk kx
end BC
theorem bi_st_T (F : Nat → Prop) : bi_st (fun _ => True) F := fun _ _ _ _ _ => trivial
