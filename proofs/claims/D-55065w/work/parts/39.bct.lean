/-! exceptions of the library, thrown or made by the component -/
set_option maxRecDepth 100000
theorem bc_W.grow {Y : bi_Y} {A : Nat → Prop} {M : va_M} {H H1 : Heap} (h : bc_W Y A M H) (hs : H.size ≤ H1.size) (ho : ∀ q : Nat, q < H.size → H1[q]? = H[q]?) : bc_W Y A M H1 := by
  refine ⟨fun q hq => h.1 q (Nat.le_trans hs hq), fun a e he => ⟨(h.2.1 a e he).1, ?_⟩, fun a ci fs ha hc => ?_⟩
  · exact (h.2.1 a e he).2.kept (ho a (h.2.1 a e he).2.lt)
  · obtain ⟨c, c1, c2⟩ := h.2.2 a ci fs ha hc
    exact ⟨c, by rw [ho a (Array.getElem?_eq_some_iff.mp c1).1]; exact c1, c2⟩
/-- the words of an exception that is made without arguments -/
def at_in (w : Cond) : Prop := w ∈ Bundle.throwableAtoms ∨ w ∈ lw_all ∨ (∃ E nm, w = .castable E nm ∧ w ∈ lw_tbl) ∨ ∃ y, w = .declares y ∧ w ∈ lw_tbl
theorem thr_ot : (Bundle.throwableAtoms.filter vx_no).all vx_ot = true := by decide +kernel
theorem fa_cons {p : Cond → Prop} {a : Cond} {l : List Cond} (h : p a) (t : ∀ w ∈ l, p w) : ∀ w ∈ a :: l, p w := fun w hw => by
  rcases List.mem_cons.mp hw with rfl | hw
  · exact h
  · exact t w hw
theorem fa_nil {p : Cond → Prop} : ∀ w ∈ ([] : List Cond), p w := fun w hw => by cases hw
theorem fa_app {p : Cond → Prop} {a b : List Cond} (h : ∀ w ∈ a, p w) (t : ∀ w ∈ b, p w) : ∀ w ∈ a ++ b, p w := fun w hw => (List.mem_append.mp hw).elim (h w) (t w)
theorem at_good {own cls : String} {ic : Nat} {names : List String} (h : ∀ w ∈ Bundle.ownAtoms0 own ic cls names, vx_no w = true → at_in w) : ∀ w ∈ vx_at0 own ic cls names, vx_ot w = true := by
  intro w hw
  obtain ⟨h1, h2⟩ := List.mem_filter.mp hw
  rcases h w h1 h2 with h3 | h3 | ⟨E, nm, rfl, h3⟩ | ⟨y, rfl, h3⟩
  · exact List.all_eq_true.mp thr_ot w (List.mem_filter.mpr ⟨h3, h2⟩)
  · unfold vx_ot
    rw [(List.mem_filter.mp h3).2, Bool.or_true]
  · rfl
  · rfl
section BCT
variable {Y : bi_Y} {X : bi_X} {cc : ByteArray} {ret : Option FieldType} {own : String} {fr lo mc ms : Nat} {hh : List ExceptionTableEntry} {M : va_M} {P : Heap → Prop} {k n pc : Nat} {L : List (Option Value)} {rest st : List Value} {a : Nat}
theorem at_ok (hE : bi_E Y X cc ret own fr lo mc ms hh) {own9 cls : String} {ic : Nat} {names : List String} (h : ∀ w ∈ Bundle.ownAtoms0 own9 ic cls names, vx_no w = true → at_in w) : ∀ w ∈ vx_at0 own9 ic cls names, w.before (bi_ar X) (bi_s X) = true := by
  intro w hw
  obtain ⟨h1, h2⟩ := List.mem_filter.mp hw
  rcases h w h1 h2 with h3 | h3 | ⟨E, nm, rfl, h3⟩ | ⟨y, rfl, h3⟩
  · exact zt_in hE w h3
  · exact hE.ts w h3
  · exact (hE.castT h3).use rfl
  · exact (va_Nw.warmD hE.GI.1 (va_Nw.of rfl (hE.GS.1 _ h3))).use rfl
theorem vr_throw0 {S : Type} {F : Nat → Prop} {post : Option Value → S → Prop} {px : Nat → String → S → Prop} {PU : S → Heap → Prop} (hE : bi_E Y X cc ret own fr lo mc ms hh) (hQ : bi_end X F mc ms post px PU) {cls : String} {names : List String} {ik ic : Nat} (hat : ∀ w ∈ Bundle.ownAtoms0 own ic cls names, vx_no w = true → at_in w) (hfit : Bundle.fit cls = true ∧ ∀ n ∈ names, Bundle.fit n = true) (q1 : Cond.classLink own ik cls ∈ lw_all) (q3 : Cond.initialized cls ∈ lw_all)
    (d0 : decode cc pc = .ok (.new ik, 3)) (d3 : decode cc (pc + 3) = .ok (.dup, 1)) (d4 : decode cc (pc + 4) = .ok (.invokespecial ic, 3)) (d7 : decode cc (pc + 7) = .ok (.athrow, 1)) (hout : ∀ x ∈ hh, covers x (pc + 7) = false)
    (hroom : names.length + 3 < fr ∧ (rest.map fun v => v.category).sum + (13 * (names.length + 1) + 42) ≤ lo ∧ k + 1 ≤ mc ∧ n + 6 ≤ ms)
    (kk : ∀ q : Nat, ∃ u, px q cls u ∧ ∀ H H1 : Heap, P H → H.size ≤ H1.size → (∀ q : Nat, q < H.size → H1[q]? = H[q]?) → PU u H1) : bi_V Y.1 X P k n pc L rest := fun H locs ls h1 h2 h3 => by
  have hrm := hE.rm
  rw [hQ.2]
  refine vx_throw0 (A := bi_A X) hE.x hE.b (bi_nt hE.GS) hE.ow hfit.1 hfit.2 (hE.ts _ q1) (hE.ts _ q3) (at_ok hE hat) ?_ (hE.Zx (zx_US hE.GS)) (hE.Zx (zx_SS hE.GS)) h2 (h3.1.trans hE.ml.symm) d0 d3 d4 d7 (by rw [hE.tb]; exact hout) (by rw [hrm]; exact hroom.1) (by rw [hrm]; exact hroom.2.1) (by rw [hrm]; exact hroom.2.2.1) (by rw [hrm]; exact hroom.2.2.2) hE.lk ?_ h2.2.2 hroom.2.2.1 hroom.2.2.2
  · intro w hw
    rcases List.mem_cons.mp hw with rfl | hw
    · rfl
    · rcases List.mem_cons.mp hw with rfl | hw
      · exact (show vx_ot (Cond.initialized cls) = true from by unfold vx_ot; rw [(List.mem_filter.mp q3).2, Bool.or_true])
      · exact at_good hat w hw
  · intro t _ hs ho
    obtain ⟨u, hp, hU⟩ := kk H.size
    have hS : va_S (bi_A X) (bi_s X).heap t.heap locs := ⟨Nat.le_trans h2.1 hs, fun q h4 h5 => (ho q (Nat.lt_of_lt_of_le h4 h2.1)).trans (h2.2.1 q h4 h5), h2.2.2⟩
    exact ⟨u, hp, hU H t.heap h1 hs ho, hS.F rfl⟩
theorem bc_make0 (hE : bi_E Y X cc ret own fr lo mc ms hh) {cls : String} {names : List String} {ik ic ci : Nat} {T0 : u_T} (hc : bi_CL[ci]? = some (cls, T0, 0)) (h517 : ¬ (ci = 5 ∨ ci = 17)) (hat : ∀ w ∈ Bundle.ownAtoms0 own ic cls names, vx_no w = true → at_in w) (hfit : Bundle.fit cls = true ∧ ∀ n ∈ names, Bundle.fit n = true) (q1 : Cond.classLink own ik cls ∈ lw_all) (q3 : Cond.initialized cls ∈ lw_all)
    (d0 : decode cc pc = .ok (.new ik, 3)) (d3 : decode cc (pc + 3) = .ok (.dup, 1)) (d4 : decode cc (pc + 4) = .ok (.invokespecial ic, 3))
    (hroom : names.length + 3 < fr ∧ (rest.map fun v => v.category).sum + (13 * (names.length + 1) + 42) ≤ lo ∧ k + 1 ≤ mc ∧ n + 6 ≤ ms)
    (kk : ∀ q : Nat, M q = none → bi_V Y.1 X (bc_W Y (bi_A X) (bu M q (.inr (ci, [])))) (k + 1) (n + 6) (pc + 7) L (.ref q :: rest)) : bi_V Y.1 X (bc_W Y (bi_A X) M) k n pc L rest := by
  refine vr_mon hE ⟨by omega, by omega⟩ (fun R' s' H0 h1 hE' back => ?_)
  intro H locs ls g0 h2 h3
  subst g0
  obtain ⟨ws, hP, hD, hcov, -⟩ := bc_open h1
  have hrm := hE'.rm
  refine vx_make0 (A := bi_A X) hE'.x hE'.b (bi_nt hE'.GS) hE'.ow hfit.1 hfit.2 (hE'.ts _ q1) (hE'.ts _ q3) (at_ok hE' hat) ?_ (hE'.Zx (zx_US hE'.GS)) (hE'.Zx (zx_SS hE'.GS)) h2 (h3.1.trans hE'.ml.symm) d0 d3 d4 hE'.K hP hD hE'.nw hc (by rw [hrm]; exact hroom.1) (by rw [hrm]; exact hroom.2.1) (by rw [hrm]; show 0 + 1 ≤ mc - k; omega) (by rw [hrm]; show 0 + 6 ≤ ms - n; omega) (fun q H1 g1 g2 g3 => ?_)
  · intro w hw
    rcases List.mem_cons.mp hw with rfl | hw
    · rfl
    · rcases List.mem_cons.mp hw with rfl | hw
      · exact (show vx_ot (Cond.initialized cls) = true from by unfold vx_ot; rw [(List.mem_filter.mp q3).2, Bool.or_true])
      · exact at_good hat w hw
  · obtain ⟨e1, e2⟩ := bc_born (H := H) hE' hcov g1 g2 g3
    exact back (bc_W0 Y (bi_A X) _) 1 6 _ _ _ (vr_P (fun H9 h9 => ⟨h9.1.1, h9.1.2, h1.2.2.setN h9.2 h517⟩) (kk q e1)) H1 locs ls e2 g3 h3
/-- thrown, its class being known -/
theorem bc_athrow0 (hE : bi_E Y X cc ret own fr lo mc ms hh) {ci : Nat} {T0 : u_T} {C : String} {fs : List Value} {N : Nat} (hC : bi_CL[ci]? = some (C, T0, N)) (hm : M a = some (.inr (ci, fs))) (d : decode cc pc = .ok (.athrow, 1)) (kk : bi_VX Y.1 X (bc_W Y (bi_A X) M) k n pc L a C) : bi_V Y.1 X (bc_W Y (bi_A X) M) k n pc L (.ref a :: rest) := fun H locs ls h1 h2 h3 => by
  obtain ⟨r, e1, cell, c1, c2, c3, -⟩ := (h1.2.1 a _ hm).2
  have hr : r = (C, T0, N) := Option.some.inj (e1.symm.trans hC)
  subst hr
  exact vx_athrow hE.x hE.b d (kk H locs ls rest cell h1 h2 h3 c1 c3 (by rw [c2]; exact (hE.K.1 ci _ hC).2.1))
end BCT
theorem at_J14_51 : ∀ w ∈ Bundle.ownAtoms0 RX1 51 "java/lang/IllegalArgumentException" ["java/lang/RuntimeException", "java/lang/Exception"], vx_no w = true → at_in w :=
  fa_app (fa_app (fun w h _ => Or.inl h) (fa_cons (fun _ => Or.inr (Or.inl q431)) (fa_cons (fun _ => Or.inr (Or.inl q432)) (fa_cons (fun _ => Or.inr (Or.inl q433)) (fa_cons (fun _ => Or.inr (Or.inl q410)) (fa_cons (fun _ => Or.inr (Or.inr (Or.inr ⟨_, rfl, q362⟩))) (fa_cons (fun _ => Or.inr (Or.inl q410)) (fa_cons (fun _ => Or.inr (Or.inl q411)) (fa_cons (fun _ => Or.inr (Or.inl q412)) (fa_cons (fun _ => Or.inr (Or.inl q413)) (fa_cons (fun _ => Or.inr (Or.inr (Or.inr ⟨_, rfl, q364⟩))) (fa_cons (fun _ => Or.inr (Or.inl q413)) (fa_cons (fun _ => Or.inr (Or.inl q414)) (fa_cons (fun _ => Or.inr (Or.inl q415)) (fa_cons (fun _ => Or.inr (Or.inl q376)) (fa_cons (fun _ => Or.inr (Or.inr (Or.inr ⟨_, rfl, q366⟩))) fa_nil)))))))))))))))) (fa_cons (fun _ => Or.inr (Or.inl q430)) (fa_cons (fun _ => Or.inr (Or.inl q422)) (fa_cons (fun _ => Or.inr (Or.inr (Or.inl ⟨_, _, rfl, q423⟩))) (fa_cons (fun _ => Or.inr (Or.inl q424)) (fa_cons (fun _ => Or.inr (Or.inl q329)) (fa_cons (fun _ => Or.inr (Or.inl q425)) (fa_cons (fun _ => Or.inr (Or.inl q426)) (fa_cons (fun _ => Or.inr (Or.inl q427)) (fa_cons (fun _ => Or.inr (Or.inl q428)) (fa_cons (fun h => absurd h (by decide +kernel)) (fa_cons (fun h => absurd h (by decide +kernel)) (fa_cons (fun _ => Or.inr (Or.inl q374)) (fa_cons (fun _ => Or.inr (Or.inl q373)) (fa_cons (fun _ => Or.inr (Or.inl q429)) fa_nil))))))))))))))
theorem fit_J14 : Bundle.fit "java/lang/IllegalArgumentException" = true ∧ ∀ n ∈ ["java/lang/RuntimeException", "java/lang/Exception"], Bundle.fit n = true := by decide +kernel
theorem at_J29_106 : ∀ w ∈ Bundle.ownAtoms0 RX1 106 "java/lang/UnsupportedOperationException" ["java/lang/RuntimeException", "java/lang/Exception"], vx_no w = true → at_in w :=
  fa_app (fa_app (fun w h _ => Or.inl h) (fa_cons (fun _ => Or.inr (Or.inl q1681)) (fa_cons (fun _ => Or.inr (Or.inl q1682)) (fa_cons (fun _ => Or.inr (Or.inl q1683)) (fa_cons (fun _ => Or.inr (Or.inl q410)) (fa_cons (fun _ => Or.inr (Or.inr (Or.inr ⟨_, rfl, q362⟩))) (fa_cons (fun _ => Or.inr (Or.inl q410)) (fa_cons (fun _ => Or.inr (Or.inl q411)) (fa_cons (fun _ => Or.inr (Or.inl q412)) (fa_cons (fun _ => Or.inr (Or.inl q413)) (fa_cons (fun _ => Or.inr (Or.inr (Or.inr ⟨_, rfl, q364⟩))) (fa_cons (fun _ => Or.inr (Or.inl q413)) (fa_cons (fun _ => Or.inr (Or.inl q414)) (fa_cons (fun _ => Or.inr (Or.inl q415)) (fa_cons (fun _ => Or.inr (Or.inl q376)) (fa_cons (fun _ => Or.inr (Or.inr (Or.inr ⟨_, rfl, q366⟩))) fa_nil)))))))))))))))) (fa_cons (fun _ => Or.inr (Or.inl q1680)) (fa_cons (fun _ => Or.inr (Or.inl q1672)) (fa_cons (fun _ => Or.inr (Or.inr (Or.inl ⟨_, _, rfl, q1673⟩))) (fa_cons (fun _ => Or.inr (Or.inl q1674)) (fa_cons (fun _ => Or.inr (Or.inl q333)) (fa_cons (fun _ => Or.inr (Or.inl q1675)) (fa_cons (fun _ => Or.inr (Or.inl q1676)) (fa_cons (fun _ => Or.inr (Or.inl q1677)) (fa_cons (fun _ => Or.inr (Or.inl q1678)) (fa_cons (fun h => absurd h (by decide +kernel)) (fa_cons (fun h => absurd h (by decide +kernel)) (fa_cons (fun _ => Or.inr (Or.inl q374)) (fa_cons (fun _ => Or.inr (Or.inl q373)) (fa_cons (fun _ => Or.inr (Or.inl q1679)) fa_nil))))))))))))))
theorem fit_J29 : Bundle.fit "java/lang/UnsupportedOperationException" = true ∧ ∀ n ∈ ["java/lang/RuntimeException", "java/lang/Exception"], Bundle.fit n = true := by decide +kernel
theorem at_J12_54 : ∀ w ∈ Bundle.ownAtoms0 RX1 54 "java/lang/IndexOutOfBoundsException" ["java/lang/RuntimeException", "java/lang/Exception"], vx_no w = true → at_in w :=
  fa_app (fa_app (fun w h _ => Or.inl h) (fa_cons (fun _ => Or.inr (Or.inl q407)) (fa_cons (fun _ => Or.inr (Or.inl q408)) (fa_cons (fun _ => Or.inr (Or.inl q409)) (fa_cons (fun _ => Or.inr (Or.inl q410)) (fa_cons (fun _ => Or.inr (Or.inr (Or.inr ⟨_, rfl, q362⟩))) (fa_cons (fun _ => Or.inr (Or.inl q410)) (fa_cons (fun _ => Or.inr (Or.inl q411)) (fa_cons (fun _ => Or.inr (Or.inl q412)) (fa_cons (fun _ => Or.inr (Or.inl q413)) (fa_cons (fun _ => Or.inr (Or.inr (Or.inr ⟨_, rfl, q364⟩))) (fa_cons (fun _ => Or.inr (Or.inl q413)) (fa_cons (fun _ => Or.inr (Or.inl q414)) (fa_cons (fun _ => Or.inr (Or.inl q415)) (fa_cons (fun _ => Or.inr (Or.inl q376)) (fa_cons (fun _ => Or.inr (Or.inr (Or.inr ⟨_, rfl, q366⟩))) fa_nil)))))))))))))))) (fa_cons (fun _ => Or.inr (Or.inl q406)) (fa_cons (fun _ => Or.inr (Or.inl q398)) (fa_cons (fun _ => Or.inr (Or.inr (Or.inl ⟨_, _, rfl, q399⟩))) (fa_cons (fun _ => Or.inr (Or.inl q400)) (fa_cons (fun _ => Or.inr (Or.inl q331)) (fa_cons (fun _ => Or.inr (Or.inl q401)) (fa_cons (fun _ => Or.inr (Or.inl q402)) (fa_cons (fun _ => Or.inr (Or.inl q403)) (fa_cons (fun _ => Or.inr (Or.inl q404)) (fa_cons (fun h => absurd h (by decide +kernel)) (fa_cons (fun h => absurd h (by decide +kernel)) (fa_cons (fun _ => Or.inr (Or.inl q374)) (fa_cons (fun _ => Or.inr (Or.inl q373)) (fa_cons (fun _ => Or.inr (Or.inl q405)) fa_nil))))))))))))))
theorem fit_J12 : Bundle.fit "java/lang/IndexOutOfBoundsException" = true ∧ ∀ n ∈ ["java/lang/RuntimeException", "java/lang/Exception"], Bundle.fit n = true := by decide +kernel
theorem at_J25_60 : ∀ w ∈ Bundle.ownAtoms0 RX1 60 "java/util/NoSuchElementException" ["java/lang/RuntimeException", "java/lang/Exception"], vx_no w = true → at_in w :=
  fa_app (fa_app (fun w h _ => Or.inl h) (fa_cons (fun _ => Or.inr (Or.inl q886)) (fa_cons (fun _ => Or.inr (Or.inl q887)) (fa_cons (fun _ => Or.inr (Or.inl q888)) (fa_cons (fun _ => Or.inr (Or.inl q410)) (fa_cons (fun _ => Or.inr (Or.inr (Or.inr ⟨_, rfl, q362⟩))) (fa_cons (fun _ => Or.inr (Or.inl q410)) (fa_cons (fun _ => Or.inr (Or.inl q411)) (fa_cons (fun _ => Or.inr (Or.inl q412)) (fa_cons (fun _ => Or.inr (Or.inl q413)) (fa_cons (fun _ => Or.inr (Or.inr (Or.inr ⟨_, rfl, q364⟩))) (fa_cons (fun _ => Or.inr (Or.inl q413)) (fa_cons (fun _ => Or.inr (Or.inl q414)) (fa_cons (fun _ => Or.inr (Or.inl q415)) (fa_cons (fun _ => Or.inr (Or.inl q376)) (fa_cons (fun _ => Or.inr (Or.inr (Or.inr ⟨_, rfl, q366⟩))) fa_nil)))))))))))))))) (fa_cons (fun _ => Or.inr (Or.inl q1814)) (fa_cons (fun _ => Or.inr (Or.inl q877)) (fa_cons (fun _ => Or.inr (Or.inr (Or.inl ⟨_, _, rfl, q878⟩))) (fa_cons (fun _ => Or.inr (Or.inl q879)) (fa_cons (fun _ => Or.inr (Or.inl q334)) (fa_cons (fun _ => Or.inr (Or.inl q880)) (fa_cons (fun _ => Or.inr (Or.inl q881)) (fa_cons (fun _ => Or.inr (Or.inl q882)) (fa_cons (fun _ => Or.inr (Or.inl q883)) (fa_cons (fun h => absurd h (by decide +kernel)) (fa_cons (fun h => absurd h (by decide +kernel)) (fa_cons (fun _ => Or.inr (Or.inl q374)) (fa_cons (fun _ => Or.inr (Or.inl q373)) (fa_cons (fun _ => Or.inr (Or.inl q884)) fa_nil))))))))))))))
theorem fit_J25 : Bundle.fit "java/util/NoSuchElementException" = true ∧ ∀ n ∈ ["java/lang/RuntimeException", "java/lang/Exception"], Bundle.fit n = true := by decide +kernel
theorem at_J28_57 : ∀ w ∈ Bundle.ownAtoms0 RX1 57 "java/lang/IllegalStateException" ["java/lang/RuntimeException", "java/lang/Exception"], vx_no w = true → at_in w :=
  fa_app (fa_app (fun w h _ => Or.inl h) (fa_cons (fun _ => Or.inr (Or.inl q2063)) (fa_cons (fun _ => Or.inr (Or.inl q2064)) (fa_cons (fun _ => Or.inr (Or.inl q2065)) (fa_cons (fun _ => Or.inr (Or.inl q410)) (fa_cons (fun _ => Or.inr (Or.inr (Or.inr ⟨_, rfl, q362⟩))) (fa_cons (fun _ => Or.inr (Or.inl q410)) (fa_cons (fun _ => Or.inr (Or.inl q411)) (fa_cons (fun _ => Or.inr (Or.inl q412)) (fa_cons (fun _ => Or.inr (Or.inl q413)) (fa_cons (fun _ => Or.inr (Or.inr (Or.inr ⟨_, rfl, q364⟩))) (fa_cons (fun _ => Or.inr (Or.inl q413)) (fa_cons (fun _ => Or.inr (Or.inl q414)) (fa_cons (fun _ => Or.inr (Or.inl q415)) (fa_cons (fun _ => Or.inr (Or.inl q376)) (fa_cons (fun _ => Or.inr (Or.inr (Or.inr ⟨_, rfl, q366⟩))) fa_nil)))))))))))))))) (fa_cons (fun _ => Or.inr (Or.inl q2062)) (fa_cons (fun _ => Or.inr (Or.inl q1580)) (fa_cons (fun _ => Or.inr (Or.inr (Or.inl ⟨_, _, rfl, q1581⟩))) (fa_cons (fun _ => Or.inr (Or.inl q1582)) (fa_cons (fun _ => Or.inr (Or.inl q330)) (fa_cons (fun _ => Or.inr (Or.inl q1583)) (fa_cons (fun _ => Or.inr (Or.inl q1584)) (fa_cons (fun _ => Or.inr (Or.inl q1585)) (fa_cons (fun _ => Or.inr (Or.inl q1586)) (fa_cons (fun h => absurd h (by decide +kernel)) (fa_cons (fun h => absurd h (by decide +kernel)) (fa_cons (fun _ => Or.inr (Or.inl q374)) (fa_cons (fun _ => Or.inr (Or.inl q373)) (fa_cons (fun _ => Or.inr (Or.inl q1587)) fa_nil))))))))))))))
theorem fit_J28 : Bundle.fit "java/lang/IllegalStateException" = true ∧ ∀ n ∈ ["java/lang/RuntimeException", "java/lang/Exception"], Bundle.fit n = true := by decide +kernel
theorem at_J32_381 : ∀ w ∈ Bundle.ownAtoms0 RX1 381 "java/lang/ArithmeticException" ["java/lang/RuntimeException", "java/lang/Exception"], vx_no w = true → at_in w :=
  fa_app (fa_app (fun w h _ => Or.inl h) (fa_cons (fun _ => Or.inr (Or.inl q2458)) (fa_cons (fun _ => Or.inr (Or.inl q2459)) (fa_cons (fun _ => Or.inr (Or.inl q2460)) (fa_cons (fun _ => Or.inr (Or.inl q410)) (fa_cons (fun _ => Or.inr (Or.inr (Or.inr ⟨_, rfl, q362⟩))) (fa_cons (fun _ => Or.inr (Or.inl q410)) (fa_cons (fun _ => Or.inr (Or.inl q411)) (fa_cons (fun _ => Or.inr (Or.inl q412)) (fa_cons (fun _ => Or.inr (Or.inl q413)) (fa_cons (fun _ => Or.inr (Or.inr (Or.inr ⟨_, rfl, q364⟩))) (fa_cons (fun _ => Or.inr (Or.inl q413)) (fa_cons (fun _ => Or.inr (Or.inl q414)) (fa_cons (fun _ => Or.inr (Or.inl q415)) (fa_cons (fun _ => Or.inr (Or.inl q376)) (fa_cons (fun _ => Or.inr (Or.inr (Or.inr ⟨_, rfl, q366⟩))) fa_nil)))))))))))))))) (fa_cons (fun _ => Or.inr (Or.inl q2457)) (fa_cons (fun _ => Or.inr (Or.inl q2435)) (fa_cons (fun _ => Or.inr (Or.inr (Or.inl ⟨_, _, rfl, q2446⟩))) (fa_cons (fun _ => Or.inr (Or.inl q2447)) (fa_cons (fun _ => Or.inr (Or.inl q327)) (fa_cons (fun _ => Or.inr (Or.inl q2441)) (fa_cons (fun _ => Or.inr (Or.inl q2442)) (fa_cons (fun _ => Or.inr (Or.inl q2444)) (fa_cons (fun _ => Or.inr (Or.inl q2440)) (fa_cons (fun h => absurd h (by decide +kernel)) (fa_cons (fun h => absurd h (by decide +kernel)) (fa_cons (fun _ => Or.inr (Or.inl q374)) (fa_cons (fun _ => Or.inr (Or.inl q373)) (fa_cons (fun _ => Or.inr (Or.inl q2439)) fa_nil))))))))))))))
theorem fit_J32 : Bundle.fit "java/lang/ArithmeticException" = true ∧ ∀ n ∈ ["java/lang/RuntimeException", "java/lang/Exception"], Bundle.fit n = true := by decide +kernel
