/-! requirements; deeds tried -/
set_option maxRecDepth 100000
abbrev pxE (c : Prop) (E0 : String) (M : va_M) : Nat → String → va_M → Prop := fun _ E M' => c ∧ E = E0 ∧ M' = M
abbrev xL (r : Nat) (sv : Value) (pl bf : Nat) (er : Int32) (lt ln : Value) : List Value := [.ref r, sv, .ref pl, .ref bf, .int er, lt, ln]
/-- what may stand in a round or in a refusal -/
def c_okc : va_E → Prop
  | .inl (_, N, .inl _) => N = 5
  | .inl (_, _, .inr _) => True
  | .inr (ci, _) => ci = 1 ∨ ci = 3 ∨ ci = 4 ∨ ci = 18 ∨ ci = 5
def kpR (M M' : va_M) : Prop := ∀ q e, M q = some e → c_okc e → M' q = some e
theorem RoundM.kpR {Y : bi_Y} {M M' : va_M} {R : cR} {n w : Nat} {s : Nat → Int32} (h : RoundM Y M R n w s) (k : kpR M M') : RoundM Y M' R n w s :=
  h.keep (fun q hq => by
    obtain ⟨e, he⟩ := h.known q hq
    rw [he]
    refine k q e he ?_
    rcases hq with rfl | rfl | rfl | rfl | rfl | ⟨z, rfl⟩ | ⟨z, rfl⟩ | ⟨j, hj, rfl⟩ | ⟨j, hj, rfl⟩
    · cases h.hr.symm.trans he; exact Or.inl rfl
    · cases h.hra.symm.trans he; exact rfl
    · cases h.hfi.symm.trans he; exact rfl
    · cases h.htl.symm.trans he; exact Or.inr (Or.inr (Or.inr (Or.inl rfl)))
    · cases h.hwl.symm.trans he; exact Or.inr (Or.inr (Or.inr (Or.inl rfl)))
    · cases (h.te_ z).symm.trans he; exact trivial
    · cases (h.we_ z).symm.trans he; exact trivial
    · cases (h.htr j hj).symm.trans he; exact Or.inr (Or.inl rfl)
    · cases (h.hbr j hj).symm.trans he; exact Or.inr (Or.inr (Or.inl rfl)))
theorem c_Rf.kpR {M M' : va_M} (k : kpR M M') : ∀ {L : List (Int32 × Int32)} {q : Nat}, c_Rf M L q → c_Rf M' L q := by
  intro L
  induction L with
  | nil => exact fun h => h
  | cons x t ih =>
    intro q h
    cases t with
    | nil =>
      obtain ⟨u, w, h1, h2, h3⟩ := h
      exact ⟨u, w, h1, h2, k _ _ h3 (Or.inr (Or.inr (Or.inr (Or.inr rfl))))⟩
    | cons y t =>
      obtain ⟨u, w, q', h1, h2, h3, h4, h5⟩ := h
      exact ⟨u, w, q', h1, h2, h3, k _ _ h4 (Or.inr (Or.inr (Or.inr (Or.inr rfl)))), ih h5⟩
theorem kpR.rf {M : va_M} : kpR M M := fun _ _ z _ => z
theorem kpR.tr {M M1 M2 : va_M} (h : kpR M M1) (h' : kpR M1 M2) : kpR M M2 := fun q e z o => h' q e (h q e z o) o
theorem kpR.ext {M M' : va_M} (h : ∀ q e, M q = some e → M' q = some e) : kpR M M' := fun q e z _ => h q e z
theorem LLM.nfl {M : va_M} {pl k : Nat} {nd it : Nat → Nat} (h : LLM M pl k nd it) {q : Nat} {e : va_E} (he : M q = some e) (hc : ∀ fs, e ≠ .inr (19, fs) ∧ e ≠ .inr (20, fs)) : ¬ flp pl k nd q := by
  rintro (rfl | ⟨i, hi, rfl⟩)
  · obtain ⟨⟨m, h1⟩, -⟩ := h
    cases he.symm.trans h1
    exact (hc _).1 rfl
  · cases he.symm.trans (h.2.1 i hi)
    exact (hc _).2 rfl
theorem okc_19 {e : va_E} (h : c_okc e) : ∀ fs, e ≠ .inr (19, fs) ∧ e ≠ .inr (20, fs) := fun fs => ⟨fun z => by subst z; revert h; simp [c_okc], fun z => by subst z; revert h; simp [c_okc]⟩
theorem okc_0 {e : va_E} (h : c_okc e) : ∀ fs, e ≠ .inr (0, fs) := fun fs z => by subst z; revert h; simp [c_okc]
theorem ok_X1_require : bi_ok yX1_require RX1 1 := by decide +kernel
theorem bk_X1_require {Y : bi_Y} (G : bi_GS Y) (M : va_M) (b : Int32) : bc_Met Y yX1_require (ws_ yX1_require cX1_require 1 none) 6 90 1 6 M [.int b] (fun v M' => ¬ b = 0 ∧ v = none ∧ M' = M) (pxE (b = 0) "java/lang/IllegalArgumentException" M) := by
  refine bc_Met.of (own := RX1) (L0 := [some (.int b)]) rfl (by decide) G (Nat.le_of_ble_eq_true rfl) rfl (fun X A hE hQ hW hnl hnm => ?_)
  have hnl : ∀ q, q < 1 → q < bi_nL X := fun q h => by rw [hnl]; exact h
  refine vr_iload_n hE dX1_require_0 rfl ?_
  refine vr_if_ne (tgt := 12) hE dX1_require_1 (by decide) (fun c_1 => ?_) (fun c_1 => ?_)
  · skip
    refine vr_return hE hQ dX1_require_12 (by decide) ⟨_, ?_, fun H h => hW _ H h⟩
    exact ⟨c_1, rfl, rfl⟩
  · have hb : b = 0 := c_1
    refine vr_throw0 hE hQ at_J14_51 fit_J14 q421 q88 dX1_require_4 dX1_require_7 dX1_require_8 dX1_require_11 (fun _ z9 => by cases z9) ⟨by decide, by decide, by first | decide | omega, by first | decide | omega⟩ (fun q9 => ⟨_, ?_, fun H9 H8 g7 g8 g9 => hW _ H8 (g7.grow g8 g9)⟩)
    exact ⟨hb, rfl, rfl⟩
theorem ok_X1_requireIndex : bi_ok yX1_requireIndex RX1 1 := by decide +kernel
theorem bk_X1_requireIndex {Y : bi_Y} (G : bi_GS Y) (M : va_M) (b : Int32) : bc_Met Y yX1_requireIndex (ws_ yX1_requireIndex cX1_requireIndex 1 none) 6 90 1 6 M [.int b] (fun v M' => ¬ b = 0 ∧ v = none ∧ M' = M) (pxE (b = 0) "java/lang/IndexOutOfBoundsException" M) := by
  refine bc_Met.of (own := RX1) (L0 := [some (.int b)]) rfl (by decide) G (Nat.le_of_ble_eq_true rfl) rfl (fun X A hE hQ hW hnl hnm => ?_)
  have hnl : ∀ q, q < 1 → q < bi_nL X := fun q h => by rw [hnl]; exact h
  refine vr_iload_n hE dX1_requireIndex_0 rfl ?_
  refine vr_if_ne (tgt := 12) hE dX1_requireIndex_1 (by decide) (fun c_1 => ?_) (fun c_1 => ?_)
  · skip
    refine vr_return hE hQ dX1_requireIndex_12 (by decide) ⟨_, ?_, fun H h => hW _ H h⟩
    exact ⟨c_1, rfl, rfl⟩
  · have hb : b = 0 := c_1
    refine vr_throw0 hE hQ at_J12_54 fit_J12 q397 q86 dX1_requireIndex_4 dX1_requireIndex_7 dX1_requireIndex_8 dX1_requireIndex_11 (fun _ z9 => by cases z9) ⟨by decide, by decide, by first | decide | omega, by first | decide | omega⟩ (fun q9 => ⟨_, ?_, fun H9 H8 g7 g8 g9 => hW _ H8 (g7.grow g8 g9)⟩)
    exact ⟨hb, rfl, rfl⟩
theorem ok_X1_requireState : bi_ok yX1_requireState RX1 1 := by decide +kernel
theorem bk_X1_requireState {Y : bi_Y} (G : bi_GS Y) (M : va_M) (b : Int32) : bc_Met Y yX1_requireState (ws_ yX1_requireState cX1_requireState 1 none) 6 90 1 6 M [.int b] (fun v M' => ¬ b = 0 ∧ v = none ∧ M' = M) (pxE (b = 0) "java/lang/IllegalStateException" M) := by
  refine bc_Met.of (own := RX1) (L0 := [some (.int b)]) rfl (by decide) G (Nat.le_of_ble_eq_true rfl) rfl (fun X A hE hQ hW hnl hnm => ?_)
  have hnl : ∀ q, q < 1 → q < bi_nL X := fun q h => by rw [hnl]; exact h
  refine vr_iload_n hE dX1_requireState_0 rfl ?_
  refine vr_if_ne (tgt := 12) hE dX1_requireState_1 (by decide) (fun c_1 => ?_) (fun c_1 => ?_)
  · skip
    refine vr_return hE hQ dX1_requireState_12 (by decide) ⟨_, ?_, fun H h => hW _ H h⟩
    exact ⟨c_1, rfl, rfl⟩
  · have hb : b = 0 := c_1
    refine vr_throw0 hE hQ at_J28_57 fit_J28 q2061 q112 dX1_requireState_4 dX1_requireState_7 dX1_requireState_8 dX1_requireState_11 (fun _ z9 => by cases z9) ⟨by decide, by decide, by first | decide | omega, by first | decide | omega⟩ (fun q9 => ⟨_, ?_, fun H9 H8 g7 g8 g9 => hW _ H8 (g7.grow g8 g9)⟩)
    exact ⟨hb, rfl, rfl⟩
theorem ok_X1_requireElement : bi_ok yX1_requireElement RX1 1 := by decide +kernel
theorem bk_X1_requireElement {Y : bi_Y} (G : bi_GS Y) (M : va_M) (b : Int32) : bc_Met Y yX1_requireElement (ws_ yX1_requireElement cX1_requireElement 1 none) 6 90 1 6 M [.int b] (fun v M' => ¬ b = 0 ∧ v = none ∧ M' = M) (pxE (b = 0) "java/util/NoSuchElementException" M) := by
  refine bc_Met.of (own := RX1) (L0 := [some (.int b)]) rfl (by decide) G (Nat.le_of_ble_eq_true rfl) rfl (fun X A hE hQ hW hnl hnm => ?_)
  have hnl : ∀ q, q < 1 → q < bi_nL X := fun q h => by rw [hnl]; exact h
  refine vr_iload_n hE dX1_requireElement_0 rfl ?_
  refine vr_if_ne (tgt := 12) hE dX1_requireElement_1 (by decide) (fun c_1 => ?_) (fun c_1 => ?_)
  · skip
    refine vr_return hE hQ dX1_requireElement_12 (by decide) ⟨_, ?_, fun H h => hW _ H h⟩
    exact ⟨c_1, rfl, rfl⟩
  · have hb : b = 0 := c_1
    refine vr_throw0 hE hQ at_J25_60 fit_J25 q1813 q104 dX1_requireElement_4 dX1_requireElement_7 dX1_requireElement_8 dX1_requireElement_11 (fun _ z9 => by cases z9) ⟨by decide, by decide, by first | decide | omega, by first | decide | omega⟩ (fun q9 => ⟨_, ?_, fun H9 H8 g7 g8 g9 => hW _ H8 (g7.grow g8 g9)⟩)
    exact ⟨hb, rfl, rfl⟩
theorem ok_X1_requireFair : bi_ok yX1_requireFair RX1 1 := by decide +kernel
theorem bk_X1_requireFair {Y : bi_Y} (G : bi_GS Y) (M : va_M) (f : Int32) : bc_Met Y yX1_requireFair (ws_ yX1_requireFair cX1_requireFair 1 none) 7 110 1 6 M [.int f] (fun v M' => ¬ in_ f 0 4 = 0 ∧ v = none ∧ M' = M) (pxE (in_ f 0 4 = 0) "java/lang/IndexOutOfBoundsException" M) := by
  refine bc_Met.of (own := RX1) (L0 := [some (.int f)]) rfl (by decide) G (Nat.le_of_ble_eq_true rfl) rfl (fun X A hE hQ hW hnl hnm => ?_)
  have hnl : ∀ q, q < 1 → q < bi_nL X := fun q h => by rw [hnl]; exact h
  refine vr_iload_n hE dX1_requireFair_0 rfl ?_
  refine vr_iconst (v := 0) hE dX1_requireFair_1 (by decide) ?_
  refine vr_iconst (v := 4) hE dX1_requireFair_2 (by decide) ?_
  refine bc_callS hE (bk_X1_isIn G _ f 0 4) ok_X1_isIn (lw_S q391 q392 q71 q393) rfl rfl (Nat.le_of_ble_eq_true rfl) (by decide) dX1_requireFair_3 (fun _ _ _ h => h.elim) ?_
  rintro v_3 M_3 ⟨rfl, hu_3⟩
  obtain rfl := hu_3.symm
  refine bc_callS hE (bk_X1_requireIndex G _ _) ok_X1_requireIndex (lw_S q394 q395 q71 q396) rfl rfl (Nat.le_of_ble_eq_true rfl) (by decide) dX1_requireFair_6 (fun q9 E9 M9 h9 => vr_out hE hQ (fun _ z9 => by cases z9) (by first | decide | exact ⟨by omega, by omega⟩) ⟨M9, ⟨h9.1, h9.2.1, h9.2.2⟩, fun H h => hW _ H h⟩) ?_
  rintro v_6 M_6 ⟨hb_6, rfl, hu_6⟩
  obtain rfl := hu_6.symm
  
  refine vr_return hE hQ dX1_requireFair_9 (by decide) ⟨_, ?_, fun H h => hW _ H h⟩
  exact ⟨hb_6, rfl, rfl⟩
theorem ok_X1_traderIn : bi_ok yX1_traderIn RX1 1 := by decide +kernel
theorem bk_X1_traderIn {Y : bi_Y} (G : bi_GS Y) (M : va_M) (x : Nat) (R : cR) (n w : Nat) (s : Nat → Int32) (hR : RoundM Y M R n w s) (sv lt ln : Value) (pl bf : Nat) (er : Int32) (h_x : M x = some (.inr (0, xL R.r sv pl bf er lt ln))) (a : Int32) : bc_Met Y yX1_traderIn (ws_ yX1_traderIn cX1_traderIn 2 (some (.object "BrassInspector$Round$Trader"))) 7 110 1 6 M [.ref x, .int a] (fun v M' => ∃ t, t < n ∧ a = nI t ∧ ¬ in_ a 0 (nI n - 1) = 0 ∧ v = some (.ref (R.tr t)) ∧ M' = M) (pxE (in_ a 0 (nI n - 1) = 0) "java/lang/IndexOutOfBoundsException" M) := by
  refine bc_Met.of (own := RX1) (L0 := [some (.ref x), some (.int a)]) rfl (by decide) G (Nat.le_of_ble_eq_true rfl) rfl (fun X A hE hQ hW hnl hnm => ?_)
  have hnl : ∀ q, q < 2 → q < bi_nL X := fun q h => by rw [hnl]; exact h
  refine vr_iload_n hE dX1_traderIn_0 rfl ?_
  refine vr_iconst (v := 0) hE dX1_traderIn_1 (by decide) ?_
  refine vr_aload_n hE dX1_traderIn_2 rfl ?_
  refine bc_get (z := 0) hE kc_X1 (by decide) q256 (Or.inl rfl) h_x rfl dX1_traderIn_3 ?_
  refine bc_callV hE (bk_X2_traders G _ R.r _ _ _ _ _ _ _ hR.hr) kc_X2 hR.hr ok_X2_traders (lw_V q1724 q1410 q1411 q72 q1412) rfl rfl (Nat.le_of_ble_eq_true rfl) (by decide) dX1_traderIn_6 (fun _ _ _ h => h.elim) ?_
  rintro v_6 M_6 ⟨rfl, hu_6⟩
  obtain rfl := hu_6.symm
  refine bc_callF (ar := 0) hE (bk_J2_size G _ R.tl R.te n _ hR.htl) kc_J2 hR.htl (by decide +kernel) (lw_Fg q1726 q826 q828 q75 q830) ⟨q825, q824, q829, q827, q477⟩ rfl rfl (Nat.le_of_ble_eq_true rfl) (by decide) dX1_traderIn_9 (fun _ _ _ h => h.elim) ?_
  rintro v_9 M_9 ⟨rfl, hu_9⟩
  obtain rfl := hu_9.symm
  refine vr_iconst (v := 1) hE dX1_traderIn_14 (by decide) ?_
  refine vr_isub hE dX1_traderIn_15 ?_
  refine bc_callS hE (bk_X1_isIn G _ a 0 (nI n - 1)) ok_X1_isIn (lw_S q391 q392 q71 q393) rfl rfl (Nat.le_of_ble_eq_true rfl) (by decide) dX1_traderIn_16 (fun _ _ _ h => h.elim) ?_
  rintro v_16 M_16 ⟨rfl, hu_16⟩
  obtain rfl := hu_16.symm
  refine bc_callS hE (bk_X1_requireIndex G _ _) ok_X1_requireIndex (lw_S q394 q395 q71 q396) rfl rfl (Nat.le_of_ble_eq_true rfl) (by decide) dX1_traderIn_19 (fun q9 E9 M9 h9 => vr_out hE hQ (fun _ z9 => by cases z9) (by first | decide | exact ⟨by omega, by omega⟩) ⟨M9, ⟨h9.1, h9.2.1, h9.2.2⟩, fun H h => hW _ H h⟩) ?_
  rintro v_19 M_19 ⟨hb_19, rfl, hu_19⟩
  obtain rfl := hu_19.symm
  have hn9 := hR.hn
  obtain ⟨t, ht, rfl⟩ := in_T (n := n) (x := nI n) rfl (by omega) hb_19
  refine vr_aload_n hE dX1_traderIn_22 rfl ?_
  refine bc_get (z := 0) hE kc_X1 (by decide) q256 (Or.inl rfl) h_x rfl dX1_traderIn_23 ?_
  refine vr_iload_n hE dX1_traderIn_26 rfl ?_
  refine bc_callV hE (bk_X2_trader G _ R n w s hR t ht) kc_X2 hR.hr ok_X2_trader (lw_V q1727 q1257 q1258 q72 q1259) rfl rfl (Nat.le_of_ble_eq_true rfl) (by decide) dX1_traderIn_27 (fun _ _ _ h => h.elim) ?_
  rintro v_27 M_27 ⟨rfl, hu_27⟩
  obtain rfl := hu_27.symm
  refine vr_areturn hE hQ (Or.inl ⟨_, rfl⟩) (Or.inr ⟨_, rfl⟩) dX1_traderIn_30 (by decide) ⟨_, ?_, fun H h => hW _ H h⟩
  exact ⟨t, ht, rfl, hb_19, rfl, rfl⟩
theorem ok_X1_weightIn : bi_ok yX1_weightIn RX1 1 := by decide +kernel
theorem bk_X1_weightIn {Y : bi_Y} (G : bi_GS Y) (M : va_M) (x : Nat) (R : cR) (n w : Nat) (s : Nat → Int32) (hR : RoundM Y M R n w s) (sv lt ln : Value) (pl bf : Nat) (er : Int32) (h_x : M x = some (.inr (0, xL R.r sv pl bf er lt ln))) (a : Int32) : bc_Met Y yX1_weightIn (ws_ yX1_weightIn cX1_weightIn 2 (some (.object "BrassInspector$Brass"))) 7 110 1 6 M [.ref x, .int a] (fun v M' => ∃ t, t < w ∧ a = nI t ∧ ¬ in_ a 0 (nI w - 1) = 0 ∧ v = some (.ref (R.br t)) ∧ M' = M) (pxE (in_ a 0 (nI w - 1) = 0) "java/lang/IndexOutOfBoundsException" M) := by
  refine bc_Met.of (own := RX1) (L0 := [some (.ref x), some (.int a)]) rfl (by decide) G (Nat.le_of_ble_eq_true rfl) rfl (fun X A hE hQ hW hnl hnm => ?_)
  have hnl : ∀ q, q < 2 → q < bi_nL X := fun q h => by rw [hnl]; exact h
  refine vr_iload_n hE dX1_weightIn_0 rfl ?_
  refine vr_iconst (v := 0) hE dX1_weightIn_1 (by decide) ?_
  refine vr_aload_n hE dX1_weightIn_2 rfl ?_
  refine bc_get (z := 0) hE kc_X1 (by decide) q256 (Or.inl rfl) h_x rfl dX1_weightIn_3 ?_
  refine bc_callV hE (bk_X2_weights G _ R.r _ _ _ _ _ _ _ hR.hr) kc_X2 hR.hr ok_X2_weights (lw_V q1905 q1481 q1482 q72 q1483) rfl rfl (Nat.le_of_ble_eq_true rfl) (by decide) dX1_weightIn_6 (fun _ _ _ h => h.elim) ?_
  rintro v_6 M_6 ⟨rfl, hu_6⟩
  obtain rfl := hu_6.symm
  refine bc_callF (ar := 0) hE (bk_J2_size G _ R.wl R.we w _ hR.hwl) kc_J2 hR.hwl (by decide +kernel) (lw_Fg q1726 q826 q828 q75 q830) ⟨q825, q824, q829, q827, q477⟩ rfl rfl (Nat.le_of_ble_eq_true rfl) (by decide) dX1_weightIn_9 (fun _ _ _ h => h.elim) ?_
  rintro v_9 M_9 ⟨rfl, hu_9⟩
  obtain rfl := hu_9.symm
  refine vr_iconst (v := 1) hE dX1_weightIn_14 (by decide) ?_
  refine vr_isub hE dX1_weightIn_15 ?_
  refine bc_callS hE (bk_X1_isIn G _ a 0 (nI w - 1)) ok_X1_isIn (lw_S q391 q392 q71 q393) rfl rfl (Nat.le_of_ble_eq_true rfl) (by decide) dX1_weightIn_16 (fun _ _ _ h => h.elim) ?_
  rintro v_16 M_16 ⟨rfl, hu_16⟩
  obtain rfl := hu_16.symm
  refine bc_callS hE (bk_X1_requireIndex G _ _) ok_X1_requireIndex (lw_S q394 q395 q71 q396) rfl rfl (Nat.le_of_ble_eq_true rfl) (by decide) dX1_weightIn_19 (fun q9 E9 M9 h9 => vr_out hE hQ (fun _ z9 => by cases z9) (by first | decide | exact ⟨by omega, by omega⟩) ⟨M9, ⟨h9.1, h9.2.1, h9.2.2⟩, fun H h => hW _ H h⟩) ?_
  rintro v_19 M_19 ⟨hb_19, rfl, hu_19⟩
  obtain rfl := hu_19.symm
  have hn9 := hR.hw
  obtain ⟨t, ht, rfl⟩ := in_T (n := w) (x := nI w) rfl (by omega) hb_19
  refine vr_aload_n hE dX1_weightIn_22 rfl ?_
  refine bc_get (z := 0) hE kc_X1 (by decide) q256 (Or.inl rfl) h_x rfl dX1_weightIn_23 ?_
  refine vr_iload_n hE dX1_weightIn_26 rfl ?_
  refine bc_callV hE (bk_X2_weight G _ R n w s hR t ht) kc_X2 hR.hr ok_X2_weight (lw_V q1906 q1283 q1284 q72 q1285) rfl rfl (Nat.le_of_ble_eq_true rfl) (by decide) dX1_weightIn_27 (fun _ _ _ h => h.elim) ?_
  rintro v_27 M_27 ⟨rfl, hu_27⟩
  obtain rfl := hu_27.symm
  refine vr_areturn hE hQ (Or.inl ⟨_, rfl⟩) (Or.inr ⟨_, rfl⟩) dX1_weightIn_30 (by decide) ⟨_, ?_, fun H h => hW _ H h⟩
  exact ⟨t, ht, rfl, hb_19, rfl, rfl⟩
theorem ok_X1_tradersMany : bi_ok yX1_tradersMany RX1 0 := by decide +kernel
theorem bk_X1_tradersMany {Y : bi_Y} (G : bi_GS Y) (M : va_M) (x : Nat) (R : cR) (n w : Nat) (s : Nat → Int32) (hR : RoundM Y M R n w s) (sv lt ln : Value) (pl bf : Nat) (er : Int32) (h_x : M x = some (.inr (0, xL R.r sv pl bf er lt ln))) : bc_Met Y yX1_tradersMany (ws_ yX1_tradersMany cX1_tradersMany 2 (some .int)) 6 90 1 6 M [.ref x] (fun v M' => ¬ n = 0 ∧ v = some (.int (nI n)) ∧ M' = M) (pxE (n = 0) "java/lang/ArithmeticException" M) := by
  refine bc_Met.of (own := RX1) (L0 := [some (.ref x), none]) rfl (by decide) G (Nat.le_of_ble_eq_true rfl) rfl (fun X A hE hQ hW hnl hnm => ?_)
  have hnl : ∀ q, q < 2 → q < bi_nL X := fun q h => by rw [hnl]; exact h
  refine vr_aload_n hE dX1_tradersMany_0 rfl ?_
  refine bc_get (z := 0) hE kc_X1 (by decide) q256 (Or.inl rfl) h_x rfl dX1_tradersMany_1 ?_
  refine bc_callV hE (bk_X2_traders G _ R.r _ _ _ _ _ _ _ hR.hr) kc_X2 hR.hr ok_X2_traders (lw_V q1724 q1410 q1411 q72 q1412) rfl rfl (Nat.le_of_ble_eq_true rfl) (by decide) dX1_tradersMany_4 (fun _ _ _ h => h.elim) ?_
  rintro v_4 M_4 ⟨rfl, hu_4⟩
  obtain rfl := hu_4.symm
  refine bc_callF (ar := 0) hE (bk_J2_size G _ R.tl R.te n _ hR.htl) kc_J2 hR.htl (by decide +kernel) (lw_Fg q1726 q826 q828 q75 q830) ⟨q825, q824, q829, q827, q477⟩ rfl rfl (Nat.le_of_ble_eq_true rfl) (by decide) dX1_tradersMany_7 (fun _ _ _ h => h.elim) ?_
  rintro v_7 M_7 ⟨rfl, hu_7⟩
  obtain rfl := hu_7.symm
  refine vr_istore_n hE dX1_tradersMany_12 (hnl _ (by decide)) rfl ?_
  refine vr_iload_n hE dX1_tradersMany_13 rfl ?_
  refine vr_if_ne (tgt := 25) hE dX1_tradersMany_14 (by decide) (fun c_14 => ?_) (fun c_14 => ?_)
  · skip
    refine vr_iload_n hE dX1_tradersMany_25 rfl ?_
    refine vr_ireturn hE hQ rfl dX1_tradersMany_26 (by decide) ⟨_, ?_, fun H h => hW _ H h⟩
    exact ⟨fun z => c_14 (by rw [z]; rfl), rfl, rfl⟩
  · have hn9 := hR.hn
    have hz : n = 0 := (nI_eq (a := n) (b := 0) (by omega) (by decide)).mp c_14
    refine vr_throw0 hE hQ at_J32_381 fit_J32 q2456 q125 dX1_tradersMany_17 dX1_tradersMany_20 dX1_tradersMany_21 dX1_tradersMany_24 (fun _ z9 => by cases z9) ⟨by decide, by decide, by first | decide | omega, by first | decide | omega⟩ (fun q9 => ⟨_, ?_, fun H9 H8 g7 g8 g9 => hW _ H8 (g7.grow g8 g9)⟩)
    exact ⟨hz, rfl, rfl⟩
theorem ok_X1_become : bi_ok yX1_become RX1 1 := by decide +kernel
theorem bk_X1_becomeL {Y : bi_Y} (G : bi_GS Y) (M : va_M) (x r r1 pl bf : Nat) (sv lt ln : Value) (er : Int32) (h_x : M x = some (.inr (0, xL r sv pl bf er lt ln))) (k : Nat) (nd it : Nat → Nat) (hL : LLM M pl k nd it) (hk8 : k < 8) : bc_Met Y yX1_become (ws_ yX1_become cX1_become 2 none) 4 95 1 3 M [.ref x, .ref r1] (fun v M' => v = none ∧ ∃ nd' it', LLM M' pl (m_kept k) nd' it' ∧ (∀ i, i + 1 < m_kept k → it' i = it (if k = 8 then i + 1 else i)) ∧ it' (m_kept k - 1) = r ∧ M' x = some (.inr (0, xL r1 sv pl bf er lt ln)) ∧ ∀ q e, M q = some e → q ≠ x → ¬ flp pl k nd q → M' q = some e) bi_nx := by
  obtain ⟨⟨m, hpl⟩, h2, h3⟩ := id hL
  have hxf : ¬ flp pl k nd x := hL.nfl h_x (fun fs => ⟨fun z => (by cases z), fun z => (by cases z)⟩)
  refine bc_Met.of (own := RX1) (L0 := [some (.ref x), some (.ref r1)]) rfl (by decide) G (Nat.le_of_ble_eq_true rfl) rfl (fun X A hE hQ hW hnl hnm => ?_)
  have hnl : ∀ q, q < 2 → q < bi_nL X := fun q h => by rw [hnl]; exact h
  refine vr_aload_n hE dX1_become_0 rfl ?_
  refine bc_get (z := 2) hE kc_X1 (by decide) q258 (Or.inl rfl) h_x rfl dX1_become_1 ?_
  refine bc_callV hE (bk_J4_size G _ pl m _ _ _ hpl) kc_J4 hpl ok_J4_size (lw_V q1647 q833 q2907 q77 q835) rfl rfl (Nat.le_of_ble_eq_true rfl) (by decide) dX1_become_4 (fun _ _ _ h => h.elim) ?_
  rintro v_4 M_4 ⟨rfl, hu_4⟩
  obtain rfl := hu_4.symm
  refine vr_bipush (v := 8) hE dX1_become_7 (by decide) ?_
  refine vr_icmp_ne (tgt := 20) hE dX1_become_9 (by decide) (fun c_9 => ?_) (fun c_9 => ?_)
  · skip
    refine vr_aload_n hE dX1_become_20 rfl ?_
    refine bc_get (z := 2) hE kc_X1 (by decide) q258 (Or.inl rfl) h_x rfl dX1_become_21 ?_
    refine vr_aload_n hE dX1_become_24 rfl ?_
    refine bc_get (z := 0) hE kc_X1 (by decide) q256 (Or.inl rfl) h_x rfl dX1_become_25 ?_
    refine bc_callV hE (LL_add G _ pl k nd it hL r) kc_J4 hpl ok_J4_addLast (lw_V q1658 q1659 q1660 q77 q1661) rfl rfl (Nat.le_of_ble_eq_true rfl) (by decide) dX1_become_28 (fun _ _ _ h => h.elim) ?_
    rintro v_28 M_28 ⟨rfl, q, hq0, hL_28, hk_28⟩
    refine vr_aload_n hE dX1_become_31 rfl ?_
    refine vr_aload_n hE dX1_become_32 rfl ?_
    refine bc_put (z := 0) hE kc_X1 (by decide) q256 (Or.inl rfl) rfl (hk_28 _ _ h_x hxf) rfl rfl (Nat.le_of_ble_eq_true rfl) dX1_become_33 (by first | decide | omega) ?_
    refine bc_nm (fun M_33 e_33 => ?_)
    have hx_33 := (congrFun e_33 x).trans (bu_self _ _ _)
    refine vr_return hE hQ dX1_become_36 (by decide) ⟨_, ?_, fun H h => hW _ H h⟩
    refine ⟨rfl, (fun i => if i = k then q else nd i), (fun i => if i = k then r else it i), ?_, ?_, ?_, hx_33, ?_⟩
    rotate_left
    · intro i hi
      unfold m_kept at hi
      rw [if_neg (show ¬ k = 8 by omega)] at hi
      rw [if_neg (show ¬ k = 8 by omega)]
      exact if_neg (show ¬ i = k by omega)
    · unfold m_kept
      rw [if_neg (show ¬ k = 8 by omega), Nat.add_sub_cancel]
      exact if_pos rfl
    · intro y e hy hyx hyf
      rw [e_33, bu_ne hyx]
      exact hk_28 y e hy hyf
    · unfold m_kept
      rw [if_neg (show ¬ k = 8 by omega), e_33]
      exact hL_28.keep (fun y hy => bu_ne (fun z => by
        subst z
        exact (hL_28.nfl (hk_28 _ _ h_x hxf) (fun fs => ⟨fun z => (by cases z), fun z => (by cases z)⟩)) hy))
  · exact absurd ((nI_eq (a := k) (b := 8) (by omega) (by decide)).mp c_9) (by omega)
theorem bk_X1_become8 {Y : bi_Y} (G : bi_GS Y) (M : va_M) (x r r1 pl bf : Nat) (sv lt ln : Value) (er : Int32) (h_x : M x = some (.inr (0, xL r sv pl bf er lt ln))) (nd it : Nat → Nat) (hL : LLM M pl 8 nd it) : bc_Met Y yX1_become (ws_ yX1_become cX1_become 2 none) 4 95 1 3 M [.ref x, .ref r1] (fun v M' => v = none ∧ ∃ nd' it', LLM M' pl (m_kept 8) nd' it' ∧ (∀ i, i + 1 < m_kept 8 → it' i = it (if 8 = 8 then i + 1 else i)) ∧ it' (m_kept 8 - 1) = r ∧ M' x = some (.inr (0, xL r1 sv pl bf er lt ln)) ∧ ∀ q e, M q = some e → q ≠ x → ¬ flp pl 8 nd q → M' q = some e) bi_nx := by
  obtain ⟨⟨m, hpl⟩, h2, h3⟩ := id hL
  have hxf : ¬ flp pl 8 nd x := hL.nfl h_x (fun fs => ⟨fun z => (by cases z), fun z => (by cases z)⟩)
  refine bc_Met.of (own := RX1) (L0 := [some (.ref x), some (.ref r1)]) rfl (by decide) G (Nat.le_of_ble_eq_true rfl) rfl (fun X A hE hQ hW hnl hnm => ?_)
  have hnl : ∀ q, q < 2 → q < bi_nL X := fun q h => by rw [hnl]; exact h
  refine vr_aload_n hE dX1_become_0 rfl ?_
  refine bc_get (z := 2) hE kc_X1 (by decide) q258 (Or.inl rfl) h_x rfl dX1_become_1 ?_
  refine bc_callV hE (bk_J4_size G _ pl m _ _ _ hpl) kc_J4 hpl ok_J4_size (lw_V q1647 q833 q2907 q77 q835) rfl rfl (Nat.le_of_ble_eq_true rfl) (by decide) dX1_become_4 (fun _ _ _ h => h.elim) ?_
  rintro v_4 M_4 ⟨rfl, hu_4⟩
  obtain rfl := hu_4.symm
  refine vr_bipush (v := 8) hE dX1_become_7 (by decide) ?_
  refine vr_icmp_ne (tgt := 20) hE dX1_become_9 (by decide) (fun c_9 => ?_) (fun c_9 => ?_)
  · exact absurd rfl c_9
  refine vr_aload_n hE dX1_become_12 rfl ?_
  refine bc_get (z := 2) hE kc_X1 (by decide) q258 (Or.inl rfl) h_x rfl dX1_become_13 ?_
  refine bc_callV hE (LL_removeFirst G _ pl 6 nd it hL) kc_J4 hpl ok_J4_removeFirst (lw_V q1648 q1649 q1650 q77 q1651) rfl rfl (Nat.le_of_ble_eq_true rfl) (by decide) dX1_become_16 (fun _ _ _ h => h.elim) ?_
  rintro v_16 M_16 ⟨rfl, hL_16, hk_16⟩
  obtain ⟨⟨m9, hpl9⟩, -⟩ := id hL_16
  have hxf9 : ¬ flp pl (6 + 1) (fun i => nd (i + 1)) x := hL_16.nfl (hk_16 _ _ h_x hxf) (fun fs => ⟨fun z => (by cases z), fun z => (by cases z)⟩)
  refine vr_pop hE dX1_become_19 rfl ?_
  refine vr_aload_n hE dX1_become_20 rfl ?_
  refine bc_get (z := 2) hE kc_X1 (by decide) q258 (Or.inl rfl) (hk_16 _ _ h_x hxf) rfl dX1_become_21 ?_
  refine vr_aload_n hE dX1_become_24 rfl ?_
  refine bc_get (z := 0) hE kc_X1 (by decide) q256 (Or.inl rfl) (hk_16 _ _ h_x hxf) rfl dX1_become_25 ?_
  refine bc_callV hE (LL_add G _ pl 7 _ _ hL_16 r) kc_J4 hpl9 ok_J4_addLast (lw_V q1658 q1659 q1660 q77 q1661) rfl rfl (Nat.le_of_ble_eq_true rfl) (by decide) dX1_become_28 (fun _ _ _ h => h.elim) ?_
  rintro v_28 M_28 ⟨rfl, q, hq0, hL_28, hk_28⟩
  refine vr_aload_n hE dX1_become_31 rfl ?_
  refine vr_aload_n hE dX1_become_32 rfl ?_
  refine bc_put (z := 0) hE kc_X1 (by decide) q256 (Or.inl rfl) rfl (hk_28 _ _ (hk_16 _ _ h_x hxf) hxf9) rfl rfl (Nat.le_of_ble_eq_true rfl) dX1_become_33 (by first | decide | omega) ?_
  refine bc_nm (fun M_33 e_33 => ?_)
  have hx_33 := (congrFun e_33 x).trans (bu_self _ _ _)
  refine vr_return hE hQ dX1_become_36 (by decide) ⟨_, ?_, fun H h => hW _ H h⟩
  refine ⟨rfl, (fun i => if i = 7 then q else nd (i + 1)), (fun i => if i = 7 then r else it (i + 1)), ?_, ?_, ?_, hx_33, ?_⟩
  rotate_left
  · intro i hi
    rw [show m_kept 8 = 8 from rfl] at hi
    rw [if_pos (show 8 = 8 from rfl)]
    exact if_neg (show ¬ i = 7 by omega)
  · exact if_pos rfl
  · intro y e hy hyx hyf
    rw [e_33, bu_ne hyx]
    refine hk_28 y e (hk_16 y e hy hyf) ?_
    rintro (z | ⟨i, hi, z⟩)
    · exact hyf (Or.inl z)
    · exact hyf (Or.inr ⟨i + 1, by omega, z⟩)
  · rw [e_33]
    exact hL_28.keep (fun y hy => bu_ne (fun z => by
      subst z
      exact (hL_28.nfl (hk_28 _ _ (hk_16 _ _ h_x hxf) hxf9) (fun fs => ⟨fun z => (by cases z), fun z => (by cases z)⟩)) hy))
theorem bk_X1_become {Y : bi_Y} (G : bi_GS Y) (M : va_M) (x r r1 pl bf : Nat) (sv lt ln : Value) (er : Int32) (h_x : M x = some (.inr (0, xL r sv pl bf er lt ln))) (k : Nat) (nd it : Nat → Nat) (hL : LLM M pl k nd it) (hk8 : k ≤ 8) : bc_Met Y yX1_become (ws_ yX1_become cX1_become 2 none) 4 95 1 3 M [.ref x, .ref r1] (fun v M' => v = none ∧ ∃ nd' it', LLM M' pl (m_kept k) nd' it' ∧ (∀ i, i + 1 < m_kept k → it' i = it (if k = 8 then i + 1 else i)) ∧ it' (m_kept k - 1) = r ∧ M' x = some (.inr (0, xL r1 sv pl bf er lt ln)) ∧ ∀ q e, M q = some e → q ≠ x → ¬ flp pl k nd q → M' q = some e) bi_nx := by
  by_cases h8 : k = 8
  · subst h8
    exact bk_X1_become8 G M x r r1 pl bf sv lt ln er h_x nd it hL
  · exact bk_X1_becomeL G M x r r1 pl bf sv lt ln er h_x k nd it hL (by omega)
