/-! THE REFERENCE's WORLD: one object of class BrassInspectorModel and its nine rows of ints; its state is a pair: its int fields by their places, its rows by their numbers -/
set_option maxRecDepth 100000
abbrev bi_S : Type := (Nat → Int32) × (Nat → Nat → Int32)
def mo_fs (ad : Nat → Nat) (f : Nat → Int32) : List Value := [.int (f 0), .ref (ad 0), .ref (ad 1), .ref (ad 2), .ref (ad 3), .int (f 5), .int (f 6), .ref (ad 4), .ref (ad 5), .ref (ad 6), .ref (ad 7), .ref (ad 8), .int (f 12), .int (f 13), .int (f 14), .int (f 15), .int (f 16), .int (f 17), .int (f 18), .int (f 19), .int (f 20), .int (f 21), .int (f 22)]
def mo_len : Nat → Nat := fun j => if j = 3 then 936 else if j < 3 then 117 else if j = 4 then 60 else if j = 5 then 80 else if j = 6 then 60 else 3
theorem mo_len_le : ∀ j, j < 9 → mo_len j ≤ 936 := by decide
def mo_el (D : va_G) (ad : Nat → Nat) (g : Nat → Nat → Int32) (j : Nat) : Nat × va_E := (ad j, .inl (D.1 60, mo_len j, .inl (g j)))
def mo_ws (D : va_G) (mo : Nat) (ad : Nat → Nat) (σ : bi_S) : va_W := [(mo, .inr (2, mo_fs ad σ.1)), mo_el D ad σ.2 0, mo_el D ad σ.2 1, mo_el D ad σ.2 2, mo_el D ad σ.2 3, mo_el D ad σ.2 4, mo_el D ad σ.2 5, mo_el D ad σ.2 6, mo_el D ad σ.2 7, mo_el D ad σ.2 8]
def mo_F (mo : Nat) (ad : Nat → Nat) : Nat → Prop := fun q => q = mo ∨ ∃ j, j < 9 ∧ q = ad j
def mo_P (D : va_G) (mo : Nat) (ad : Nat → Nat) (σ : bi_S) (H : Heap) : Prop := va_P D bi_CL (mo_ws D mo ad σ) H ∧ va_D (mo_F mo ad) (mo_ws D mo ad σ)
/-- σ with int field k, with row j's place i -/
def sF (σ : bi_S) (k : Nat) (v : Int32) : bi_S := (upd σ.1 k v, σ.2)
def sA (σ : bi_S) (j i : Nat) (v : Int32) : bi_S := (σ.1, fun j' => if j' = j then upd (σ.2 j) i v else σ.2 j')
/-- what the reference's contracts stand on -/
def mo_G (Y : bi_Y) (mo : Nat) (ad : Nat → Nat) : Prop := bi_GS Y ∧ ∀ q, mo_F mo ad q → Y.2.2.1.heap.size ≤ q
theorem mo_ws_at {D : va_G} {mo : Nat} {ad : Nat → Nat} {σ : bi_S} {j : Nat} (hj : j < 9) : (mo_ws D mo ad σ)[j + 1]? = some (ad j, .inl (D.1 60, mo_len j, .inl (σ.2 j))) := by
  rcases (show j = 0 ∨ j = 1 ∨ j = 2 ∨ j = 3 ∨ j = 4 ∨ j = 5 ∨ j = 6 ∨ j = 7 ∨ j = 8 by omega) with rfl | rfl | rfl | rfl | rfl | rfl | rfl | rfl | rfl <;> rfl
theorem mo_ws_set {D : va_G} {mo : Nat} {ad : Nat → Nat} {σ : bi_S} {j i : Nat} {v : Int32} (hj : j < 9) : (mo_ws D mo ad σ).set (j + 1) (ad j, .inl (D.1 60, mo_len j, .inl (upd (σ.2 j) i v))) = mo_ws D mo ad (sA σ j i v) := by
  rcases (show j = 0 ∨ j = 1 ∨ j = 2 ∨ j = 3 ∨ j = 4 ∨ j = 5 ∨ j = 6 ∨ j = 7 ∨ j = 8 by omega) with rfl | rfl | rfl | rfl | rfl | rfl | rfl | rfl | rfl <;> rfl
section MR
variable {Y : bi_Y} {X : bi_X} {cc : ByteArray} {ret : Option FieldType} {own : String} {fr lo mc ms : Nat} {hh : List ExceptionTableEntry} {k n pc : Nat} {L : List (Option Value)} {rest st : List Value} {mo : Nat} {ad : Nat → Nat} {σ : bi_S}
theorem mr_get (hE : bi_E Y X cc ret RX3 fr lo mc ms hh) {z idx : Nat} {v : Value} (hz : z < 23) (hl : Cond.fieldLink RX3 idx RX3 (TX3 z).2.1 (TX3 z).2.2.1 ∈ lw_all) (hv : (mo_fs ad σ.1)[z]? = some v) (hO : (TX3 z).1 = RX3) (d : decode cc pc = .ok (.getfield idx, 3))
    (kk : bi_V Y.1 X (mo_P Y.2.1 mo ad σ) k n (pc + 3) L (v :: rest)) : bi_V Y.1 X (mo_P Y.2.1 mo ad σ) k n pc L (.ref mo :: rest) := fun H locs ls h1 h2 h3 =>
  va_get (D := Y.2.1) (ci := 2) (C := RX3) (T := TX3) (N := 23) hE.x hE.b hE.ts in_X3 hE.ow hE.K h1.1 0 rfl rfl z hz (hE.ts _ hl) (by rw [hO]; exact fun _ h => h) hv d (kk H locs ls h1 h2 h3)
theorem mr_put (hE : bi_E Y X cc ret RX3 fr lo mc ms hh) (hA : ∀ q, mo_F mo ad q → bi_A X q) {z idx : Nat} {v : Int32} (hz : z < 23) (hl : Cond.fieldLink RX3 idx RX3 (TX3 z).2.1 (TX3 z).2.2.1 ∈ lw_all) (hO : (TX3 z).1 = RX3) (hfin : (TX3 z).2.2.2 = false) (hn : narrow (tyX3 z) (.int v) = .int v) (hf : fits (tyX3 z) (.int v) = true) (hs : ∀ f : Nat → Int32, (mo_fs ad f).set z (.int v) = mo_fs ad (upd f z v)) (d : decode cc pc = .ok (.putfield idx, 3))
    (kk : bi_V Y.1 X (mo_P Y.2.1 mo ad (sF σ z v)) k n (pc + 3) L rest) : bi_V Y.1 X (mo_P Y.2.1 mo ad σ) k n pc L (.int v :: .ref mo :: rest) := fun H locs ls h1 h2 h3 => by
  have hD : va_D (bi_A X) (mo_ws Y.2.1 mo ad σ) := h1.2.weaken (fun _ q _ h => hA q.1 h)
  refine va_put (D := Y.2.1) (ci := 2) (C := RX3) (T := TX3) (N := 23) (ty := tyX3 z) (v := .int v) (fs := mo_fs ad σ.1) hE.x hE.b hE.ts in_X3 tyX3 tyX3_ok nmX3 hE.ow hE.K h1.1 hD h2 0 rfl rfl z hz (hE.ts _ hl) (by rw [hO]; exact fun _ h => h) hfin (tyX3_ok z hz) hn hf hz d (fun H1 locs1 g1 _ g3 => ?_)
  have e : (mo_ws Y.2.1 mo ad σ).set 0 (mo, .inr (2, (mo_fs ad σ.1).set z (.int v))) = mo_ws Y.2.1 mo ad (sF σ z v) := by rw [hs]; rfl
  have h5 := h1.2.set (e := .inr (2, (mo_fs ad σ.1).set z (.int v))) (p := 0) rfl
  rw [e] at g1 h5
  exact kk H1 locs1 ls ⟨g1, h5⟩ g3 h3
theorem mr_ald (hE : bi_E Y X cc ret RX3 fr lo mc ms hh) {j i' : Nat} {i : Int32} (hj : j < 9) (hi : i = nI i') (hlt : i' < mo_len j) (d : decode cc pc = .ok (.iaload, 1))
    (kk : bi_V Y.1 X (mo_P Y.2.1 mo ad σ) k n (pc + 1) L (.int (σ.2 j i') :: rest)) : bi_V Y.1 X (mo_P Y.2.1 mo ad σ) k n pc L (.int i :: .ref (ad j) :: rest) := fun H locs ls h1 h2 h3 => by
  have hl : mo_len j ≤ 936 := mo_len_le j hj
  have hc : i.toNatClampNeg = i' := by rw [hi]; exact nI_clamp (by omega)
  refine va_iald hE.x hE.b hE.K h1.1 (j + 1) 0 (mo_ws_at hj) rfl (by rw [hi]; exact vp_in_nI hlt (by omega)) d ?_
  rw [hc]
  exact kk H locs ls h1 h2 h3
theorem mr_ast (hE : bi_E Y X cc ret RX3 fr lo mc ms hh) (hA : ∀ q, mo_F mo ad q → bi_A X q) {j i' : Nat} {i v : Int32} (hj : j < 9) (hi : i = nI i') (hlt : i' < mo_len j) (d : decode cc pc = .ok (.iastore, 1))
    (kk : bi_V Y.1 X (mo_P Y.2.1 mo ad (sA σ j i' v)) k n (pc + 1) L rest) : bi_V Y.1 X (mo_P Y.2.1 mo ad σ) k n pc L (.int v :: .int i :: .ref (ad j) :: rest) := fun H locs ls h1 h2 h3 => by
  have hl : mo_len j ≤ 936 := mo_len_le j hj
  have hc : i.toNatClampNeg = i' := by rw [hi]; exact nI_clamp (by omega)
  have hD : va_D (bi_A X) (mo_ws Y.2.1 mo ad σ) := h1.2.weaken (fun _ q _ h => hA q.1 h)
  refine va_iast hE.x hE.b hE.K h1.1 hD h2 (j + 1) 0 (mo_ws_at hj) rfl (by rw [hi]; exact vp_in_nI hlt (by omega)) d (fun H1 locs1 g1 _ g3 => ?_)
  have h5 := h1.2.set (e := .inl (Y.2.1.1 60, mo_len j, .inl (upd (σ.2 j) i.toNatClampNeg v))) (mo_ws_at (D := Y.2.1) (mo := mo) (ad := ad) (σ := σ) hj)
  rw [mo_ws_set hj, hc] at g1 h5
  exact kk H1 locs1 ls ⟨g1, h5⟩ g3 h3
theorem mo_recv (hE : bi_E Y X cc ret RX3 fr lo mc ms hh) : ∀ H, mo_P Y.2.1 mo ad σ H → ∃ cell : Cell, H[mo]? = some cell ∧ cell.vm.isStatics = false ∧ (bi_s X).vm.findClass RX3 = some cell.cls := fun H h => va_recv hE.K h.1 (ci := 2) (q0 := 0) rfl rfl
/-- the reference's methods among themselves -/
theorem mr_call (hE : bi_E Y X cc ret RX3 fr lo mc ms hh) (hA : ∀ q, mo_F mo ad q → bi_A X q) {y : MethodName} {cy : ByteArray} {ny idx f1 l1 ar : Nat} {ry : Option FieldType} {As : List Value} {post : Option Value → bi_S → Prop} (hM : bi_Met Y y (ws_ y cy ny ry) f1 l1 0 0 (mo_P Y.2.1 mo ad σ) (mo_F mo ad) (.ref mo :: As) post bi_nx (mo_P Y.2.1 mo ad)) (hok : bi_ok y RX3 ar) (hw : GoodIn lw_all (wsV RX3 idx RX3 y (ws_ y cy ny ry)))
    (hs : st = As.reverse ++ .ref mo :: rest) (har : As.length = ar) (hc : (rest.map fun v => v.category).sum ≤ 8) (hroom : f1 + 1 ≤ fr ∧ 8 + (ny + 11) + l1 ≤ lo ∧ k ≤ mc ∧ n ≤ ms) (d : decode cc pc = .ok (.invokevirtual idx, 3))
    (kk : ∀ (v : Option Value) (u : bi_S), post v u → bi_V Y.1 X (mo_P Y.2.1 mo ad u) k n (pc + 3) L (v.toList ++ rest)) : bi_V Y.1 X (mo_P Y.2.1 mo ad σ) k n pc L st :=
  vr_callV (P2 := fun _ => True) hE hM hok hw (fun _ h => ⟨h, trivial⟩) (bi_st_T _) (mo_recv hE) hA hs har hc hroom d (fun v u h => vr_P (fun _ z => z.1) (kk v u h)) (fun _ _ _ h => h.elim)
/-- .. of a static method that touches nothing -/
theorem mr_callS (hE : bi_E Y X cc ret own fr lo mc ms hh) {P : Heap → Prop} {C : String} {y : MethodName} {cy : ByteArray} {ny idx f1 l1 ar : Nat} {ry : Option FieldType} {As : List Value} {post : Option Value → Unit → Prop} (hM : bi_Met Y y (ws_ y cy ny ry) f1 l1 0 0 P (fun _ => False) As post bi_nx (fun _ => P)) (hok : bi_ok y C ar) (hw : GoodIn lw_all (va_wsS own idx y (ws_ y cy ny ry)))
    (hs : st = As.reverse ++ rest) (har : As.length = ar) (hc : (rest.map fun v => v.category).sum ≤ 8) (hroom : f1 + 1 ≤ fr ∧ 8 + (ny + 11) + l1 ≤ lo ∧ k ≤ mc ∧ n ≤ ms) (d : decode cc pc = .ok (.invokestatic idx, 3))
    (kk : ∀ (v : Option Value), post v () → bi_V Y.1 X P k n (pc + 3) L (v.toList ++ rest)) : bi_V Y.1 X P k n pc L st :=
  vr_callS (P2 := fun _ => True) hE hM hok hw (fun _ h => ⟨h, trivial⟩) (bi_st_T _) (fun _ h => h.elim) hs har hc hroom d (fun v u h => vr_P (fun _ z => z.1) (kk v h)) (fun _ _ _ h => h.elim)
end MR
