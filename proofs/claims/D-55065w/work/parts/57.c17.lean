/-! the component's exceptions -/
set_option maxRecDepth 100000
abbrev xR (c : Value) (u w : Value) (r d : Int32) : List Value := [c, u, w, .null, .null, .int 0, .int r, .int d]
abbrev xT (u w : Value) (p : Int32) : List Value := [.null, u, w, .null, .null, .int 0, .int p]
def rf_ (v : Value) : Prop := v = .null ∨ ∃ b, v = .ref b
/-- a refusal with its causes, outermost first -/
def c_Rf (M : va_M) : List (Int32 × Int32) → Nat → Prop
  | [], _ => False
  | [(r, d)], q => ∃ u w, rf_ u ∧ rf_ w ∧ M q = some (.inr (5, xR (.ref q) u w r d))
  | (r, d) :: x :: t, q => ∃ u w q', rf_ u ∧ rf_ w ∧ q' ≠ q ∧ M q = some (.inr (5, xR (.ref q') u w r d)) ∧ c_Rf M (x :: t) q'
theorem c_Rf.ext {M M' : va_M} (k : ∀ a e, M a = some e → M' a = some e) : ∀ {L : List (Int32 × Int32)} {q : Nat}, c_Rf M L q → c_Rf M' L q := by
  intro L
  induction L with
  | nil => exact fun h => h
  | cons x t ih =>
    intro q h
    cases t with
    | nil =>
      obtain ⟨u, w, h1, h2, h3⟩ := h
      exact ⟨u, w, h1, h2, k _ _ h3⟩
    | cons y t =>
      obtain ⟨u, w, q', h1, h2, h3, h4, h5⟩ := h
      exact ⟨u, w, q', h1, h2, h3, k _ _ h4, ih h5⟩
theorem ok_J9_init_2 : bi_ok yJ9_init_2 RJ9 0 := by decide +kernel
theorem bk_J9_init_2_X8 {Y : bi_Y} (G : bi_GS Y) (M : va_M) (a : Nat) (h_a : M a = some (.inr (5, [.null, .null, .null, .null, .null, .int 0, .int 0, .int 0]))) : bc_Met Y yJ9_init_2 (ws_ yJ9_init_2 cJ9_init_2 1 none) 3 60 0 0 M [.ref a] (fun v M' => v = none ∧ ∃ u w, rf_ u ∧ rf_ w ∧ M' = bu M a (.inr (5, [.ref a, u, w, .null, .null, .int 0, .int 0, .int 0]))) bi_nx := by
  obtain ⟨u, hu, hZu⟩ := zr_US G
  obtain ⟨w, hw, hZw⟩ := zr_SS G
  refine bc_Met.of (own := RJ9) (L0 := [some (.ref a)]) rfl (by decide) G (Nat.le_of_ble_eq_true rfl) rfl (fun X A hE hQ hW hnl hnm => ?_)
  have hnl : ∀ q, q < 1 → q < bi_nL X := fun q h => by rw [hnl]; exact h
  refine vr_aload_n hE dJ9_init_2_0 rfl ?_
  refine vr_objInit hE q317 q132 q133 dJ9_init_2_1 ⟨by decide, Nat.le_of_ble_eq_true rfl⟩ ?_
  refine vr_aload_n hE dJ9_init_2_4 rfl ?_
  refine vr_aload_n hE dJ9_init_2_5 rfl ?_
  refine bc_put (z := 0) hE kc_X8 (by decide) q343 (Or.inl rfl) rfl h_a rfl rfl (Nat.le_of_ble_eq_true rfl) dJ9_init_2_6 (by first | decide | omega) ?_
  refine bc_nm (fun M_6 e_6 => ?_)
  have ha_6 := (congrFun e_6 a).trans (bu_self _ _ _)
  refine vr_aload_n hE dJ9_init_2_9 rfl ?_
  refine wr_gets hE hZu q318 dJ9_init_2_10 ?_
  refine bc_put (z := 1) hE kc_X8 (by decide) q344 (Or.inl rfl) rfl ha_6 (narrow_rf hu) (fits_rfA hu) (Nat.le_of_ble_eq_true rfl) dJ9_init_2_13 (by first | decide | omega) ?_
  refine bc_nm (fun M_13 e_13 => ?_)
  have ha_13 := (congrFun e_13 a).trans (bu_self _ _ _)
  refine vr_aload_n hE dJ9_init_2_16 rfl ?_
  refine wr_gets hE hZw q320 dJ9_init_2_17 ?_
  refine bc_put (z := 2) hE kc_X8 (by decide) q345 (Or.inl rfl) rfl ha_13 (narrow_rf hw) (fits_rfO hw) (Nat.le_of_ble_eq_true rfl) dJ9_init_2_20 (by first | decide | omega) ?_
  refine bc_nm (fun M_20 e_20 => ?_)
  have ha_20 := (congrFun e_20 a).trans (bu_self _ _ _)
  refine vr_aload_n hE dJ9_init_2_23 rfl ?_
  refine bc_fill hE hu hZu kc_X8 (Or.inl rfl) (by decide) rfl rfl ha_20 rfl rfl q322 q325 q1234 ⟨by decide, by decide⟩ (by decide) dJ9_init_2_24 ?_
  skip
  refine vr_pop hE dJ9_init_2_27 rfl ?_
  refine vr_return hE hQ dJ9_init_2_28 (by decide) ⟨_, ?_, fun H h => hW _ H h⟩
  subst e_20
  subst e_13
  subst e_6
  exact ⟨rfl, u, w, hu, hw, by simp only [bu_bu] <;> rfl⟩
theorem ok_J9_init_4 : bi_ok yJ9_init_4 RJ9 2 := by decide +kernel
theorem bk_J9_init_4_X8 {Y : bi_Y} (G : bi_GS Y) (M : va_M) (a : Nat) (h_a : M a = some (.inr (5, [.null, .null, .null, .null, .null, .int 0, .int 0, .int 0]))) (c : Nat) : bc_Met Y yJ9_init_4 (ws_ yJ9_init_4 cJ9_init_4 3 none) 3 60 0 0 M [.ref a, .null, .ref c] (fun v M' => v = none ∧ ∃ u w, rf_ u ∧ rf_ w ∧ M' = bu M a (.inr (5, [.ref c, u, w, .null, .null, .int 0, .int 0, .int 0]))) bi_nx := by
  obtain ⟨u, hu, hZu⟩ := zr_US G
  obtain ⟨w, hw, hZw⟩ := zr_SS G
  refine bc_Met.of (own := RJ9) (L0 := [some (.ref a), some (.null), some (.ref c)]) rfl (by decide) G (Nat.le_of_ble_eq_true rfl) rfl (fun X A hE hQ hW hnl hnm => ?_)
  have hnl : ∀ q, q < 3 → q < bi_nL X := fun q h => by rw [hnl]; exact h
  refine vr_aload_n hE dJ9_init_4_0 rfl ?_
  refine vr_objInit hE q317 q132 q133 dJ9_init_4_1 ⟨by decide, Nat.le_of_ble_eq_true rfl⟩ ?_
  refine vr_aload_n hE dJ9_init_4_4 rfl ?_
  refine vr_aload_n hE dJ9_init_4_5 rfl ?_
  refine bc_put (z := 0) hE kc_X8 (by decide) q343 (Or.inl rfl) rfl h_a rfl rfl (Nat.le_of_ble_eq_true rfl) dJ9_init_4_6 (by first | decide | omega) ?_
  refine bc_nm (fun M_6 e_6 => ?_)
  have ha_6 := (congrFun e_6 a).trans (bu_self _ _ _)
  refine vr_aload_n hE dJ9_init_4_9 rfl ?_
  refine wr_gets hE hZu q318 dJ9_init_4_10 ?_
  refine bc_put (z := 1) hE kc_X8 (by decide) q344 (Or.inl rfl) rfl ha_6 (narrow_rf hu) (fits_rfA hu) (Nat.le_of_ble_eq_true rfl) dJ9_init_4_13 (by first | decide | omega) ?_
  refine bc_nm (fun M_13 e_13 => ?_)
  have ha_13 := (congrFun e_13 a).trans (bu_self _ _ _)
  refine vr_aload_n hE dJ9_init_4_16 rfl ?_
  refine wr_gets hE hZw q320 dJ9_init_4_17 ?_
  refine bc_put (z := 2) hE kc_X8 (by decide) q345 (Or.inl rfl) rfl ha_13 (narrow_rf hw) (fits_rfO hw) (Nat.le_of_ble_eq_true rfl) dJ9_init_4_20 (by first | decide | omega) ?_
  refine bc_nm (fun M_20 e_20 => ?_)
  have ha_20 := (congrFun e_20 a).trans (bu_self _ _ _)
  refine vr_aload_n hE dJ9_init_4_23 rfl ?_
  refine bc_fill hE hu hZu kc_X8 (Or.inl rfl) (by decide) rfl rfl ha_20 rfl rfl q322 q325 q1234 ⟨by decide, by decide⟩ (by decide) dJ9_init_4_24 ?_
  skip
  refine vr_pop hE dJ9_init_4_27 rfl ?_
  refine vr_aload_n hE dJ9_init_4_28 rfl ?_
  refine vr_aload_nN hE dJ9_init_4_29 rfl ?_
  refine bc_put (z := 3) hE kc_X8 (by decide) q342 (Or.inl rfl) rfl ha_20 rfl rfl (Nat.le_of_ble_eq_true rfl) dJ9_init_4_30 (by first | decide | omega) ?_
  refine bc_nm (fun M_30 e_30 => ?_)
  have ha_30 := (congrFun e_30 a).trans (bu_self _ _ _)
  refine vr_aload_n hE dJ9_init_4_33 rfl ?_
  refine vr_aload_n hE dJ9_init_4_34 rfl ?_
  refine bc_put (z := 0) hE kc_X8 (by decide) q343 (Or.inl rfl) rfl ha_30 rfl rfl (Nat.le_of_ble_eq_true rfl) dJ9_init_4_35 (by first | decide | omega) ?_
  refine bc_nm (fun M_35 e_35 => ?_)
  have ha_35 := (congrFun e_35 a).trans (bu_self _ _ _)
  refine vr_return hE hQ dJ9_init_4_38 (by decide) ⟨_, ?_, fun H h => hW _ H h⟩
  subst e_35
  subst e_30
  subst e_20
  subst e_13
  subst e_6
  exact ⟨rfl, u, w, hu, hw, by simp only [bu_bu] <;> rfl⟩
theorem bk_J9_init_4_X18 {Y : bi_Y} (G : bi_GS Y) (M : va_M) (a : Nat) (h_a : M a = some (.inr (17, [.null, .null, .null, .null, .null, .int 0, .int 0]))) : bc_Met Y yJ9_init_4 (ws_ yJ9_init_4 cJ9_init_4 3 none) 3 60 0 0 M [.ref a, .null, .null] (fun v M' => v = none ∧ ∃ u w, rf_ u ∧ rf_ w ∧ M' = bu M a (.inr (17, [.null, u, w, .null, .null, .int 0, .int 0]))) bi_nx := by
  obtain ⟨u, hu, hZu⟩ := zr_US G
  obtain ⟨w, hw, hZw⟩ := zr_SS G
  refine bc_Met.of (own := RJ9) (L0 := [some (.ref a), some (.null), some (.null)]) rfl (by decide) G (Nat.le_of_ble_eq_true rfl) rfl (fun X A hE hQ hW hnl hnm => ?_)
  have hnl : ∀ q, q < 3 → q < bi_nL X := fun q h => by rw [hnl]; exact h
  refine vr_aload_n hE dJ9_init_4_0 rfl ?_
  refine vr_objInit hE q317 q132 q133 dJ9_init_4_1 ⟨by decide, Nat.le_of_ble_eq_true rfl⟩ ?_
  refine vr_aload_n hE dJ9_init_4_4 rfl ?_
  refine vr_aload_n hE dJ9_init_4_5 rfl ?_
  refine bc_put (z := 0) hE kc_X18 (by decide) q343 (Or.inl rfl) rfl h_a rfl rfl (Nat.le_of_ble_eq_true rfl) dJ9_init_4_6 (by first | decide | omega) ?_
  refine bc_nm (fun M_6 e_6 => ?_)
  have ha_6 := (congrFun e_6 a).trans (bu_self _ _ _)
  refine vr_aload_n hE dJ9_init_4_9 rfl ?_
  refine wr_gets hE hZu q318 dJ9_init_4_10 ?_
  refine bc_put (z := 1) hE kc_X18 (by decide) q344 (Or.inl rfl) rfl ha_6 (narrow_rf hu) (fits_rfA hu) (Nat.le_of_ble_eq_true rfl) dJ9_init_4_13 (by first | decide | omega) ?_
  refine bc_nm (fun M_13 e_13 => ?_)
  have ha_13 := (congrFun e_13 a).trans (bu_self _ _ _)
  refine vr_aload_n hE dJ9_init_4_16 rfl ?_
  refine wr_gets hE hZw q320 dJ9_init_4_17 ?_
  refine bc_put (z := 2) hE kc_X18 (by decide) q345 (Or.inl rfl) rfl ha_13 (narrow_rf hw) (fits_rfO hw) (Nat.le_of_ble_eq_true rfl) dJ9_init_4_20 (by first | decide | omega) ?_
  refine bc_nm (fun M_20 e_20 => ?_)
  have ha_20 := (congrFun e_20 a).trans (bu_self _ _ _)
  refine vr_aload_n hE dJ9_init_4_23 rfl ?_
  refine bc_fill hE hu hZu kc_X18 (Or.inr rfl) (by decide) rfl rfl ha_20 rfl rfl q322 q326 q2146 ⟨by decide, by decide⟩ (by decide) dJ9_init_4_24 ?_
  skip
  refine vr_pop hE dJ9_init_4_27 rfl ?_
  refine vr_aload_n hE dJ9_init_4_28 rfl ?_
  refine vr_aload_nN hE dJ9_init_4_29 rfl ?_
  refine bc_put (z := 3) hE kc_X18 (by decide) q342 (Or.inl rfl) rfl ha_20 rfl rfl (Nat.le_of_ble_eq_true rfl) dJ9_init_4_30 (by first | decide | omega) ?_
  refine bc_nm (fun M_30 e_30 => ?_)
  have ha_30 := (congrFun e_30 a).trans (bu_self _ _ _)
  refine vr_aload_n hE dJ9_init_4_33 rfl ?_
  refine vr_aload_nN hE dJ9_init_4_34 rfl ?_
  refine bc_put (z := 0) hE kc_X18 (by decide) q343 (Or.inl rfl) rfl ha_30 rfl rfl (Nat.le_of_ble_eq_true rfl) dJ9_init_4_35 (by first | decide | omega) ?_
  refine bc_nm (fun M_35 e_35 => ?_)
  have ha_35 := (congrFun e_35 a).trans (bu_self _ _ _)
  refine vr_return hE hQ dJ9_init_4_38 (by decide) ⟨_, ?_, fun H h => hW _ H h⟩
  subst e_35
  subst e_30
  subst e_20
  subst e_13
  subst e_6
  exact ⟨rfl, u, w, hu, hw, by simp only [bu_bu] <;> rfl⟩
theorem ok_J10_init_2 : bi_ok yJ10_init_2 RJ10 0 := by decide +kernel
theorem bk_J10_init_2_X8 {Y : bi_Y} (G : bi_GS Y) (M : va_M) (a : Nat) (h_a : M a = some (.inr (5, [.null, .null, .null, .null, .null, .int 0, .int 0, .int 0]))) : bc_Met Y yJ10_init_2 (ws_ yJ10_init_2 cJ10_init_2 1 none) 4 80 0 0 M [.ref a] (fun v M' => v = none ∧ ∃ u w, rf_ u ∧ rf_ w ∧ M' = bu M a (.inr (5, [.ref a, u, w, .null, .null, .int 0, .int 0, .int 0]))) bi_nx := by
  refine bc_Met.of (own := RJ10) (L0 := [some (.ref a)]) rfl (by decide) G (Nat.le_of_ble_eq_true rfl) rfl (fun X A hE hQ hW hnl hnm => ?_)
  have hnl : ∀ q, q < 1 → q < bi_nL X := fun q h => by rw [hnl]; exact h
  refine vr_aload_n hE dJ10_init_2_0 rfl ?_
  refine bc_callI hE (bk_J9_init_2_X8 G _ a h_a) ok_J9_init_2 rfl q415 q376 q83 q377 rfl rfl (Nat.le_of_ble_eq_true rfl) (by decide) dJ10_init_2_1 (fun _ _ _ h => h.elim) ?_
  rintro v_1 M_1 ⟨rfl, u, w, hu, hw, e_1⟩
  have ha_1 := (congrFun e_1 a).trans (bu_self _ _ _)
  refine vr_return hE hQ dJ10_init_2_4 (by decide) ⟨_, ?_, fun H h => hW _ H h⟩
  subst e_1
  exact ⟨rfl, u, w, hu, hw, rfl⟩
theorem ok_J10_init_4 : bi_ok yJ10_init_4 RJ10 2 := by decide +kernel
theorem bk_J10_init_4_X8 {Y : bi_Y} (G : bi_GS Y) (M : va_M) (a : Nat) (h_a : M a = some (.inr (5, [.null, .null, .null, .null, .null, .int 0, .int 0, .int 0]))) (c : Nat) : bc_Met Y yJ10_init_4 (ws_ yJ10_init_4 cJ10_init_4 3 none) 4 82 0 0 M [.ref a, .null, .ref c] (fun v M' => v = none ∧ ∃ u w, rf_ u ∧ rf_ w ∧ M' = bu M a (.inr (5, [.ref c, u, w, .null, .null, .int 0, .int 0, .int 0]))) bi_nx := by
  refine bc_Met.of (own := RJ10) (L0 := [some (.ref a), some (.null), some (.ref c)]) rfl (by decide) G (Nat.le_of_ble_eq_true rfl) rfl (fun X A hE hQ hW hnl hnm => ?_)
  have hnl : ∀ q, q < 3 → q < bi_nL X := fun q h => by rw [hnl]; exact h
  refine vr_aload_n hE dJ10_init_4_0 rfl ?_
  refine vr_aload_nN hE dJ10_init_4_1 rfl ?_
  refine vr_aload_n hE dJ10_init_4_2 rfl ?_
  refine bc_callI hE (bk_J9_init_4_X8 G _ a h_a c) ok_J9_init_4 rfl q1506 q1507 q83 q1508 rfl rfl (Nat.le_of_ble_eq_true rfl) (by decide) dJ10_init_4_3 (fun _ _ _ h => h.elim) ?_
  rintro v_3 M_3 ⟨rfl, u, w, hu, hw, e_3⟩
  have ha_3 := (congrFun e_3 a).trans (bu_self _ _ _)
  refine vr_return hE hQ dJ10_init_4_6 (by decide) ⟨_, ?_, fun H h => hW _ H h⟩
  subst e_3
  exact ⟨rfl, u, w, hu, hw, rfl⟩
theorem bk_J10_init_4_X18 {Y : bi_Y} (G : bi_GS Y) (M : va_M) (a : Nat) (h_a : M a = some (.inr (17, [.null, .null, .null, .null, .null, .int 0, .int 0]))) : bc_Met Y yJ10_init_4 (ws_ yJ10_init_4 cJ10_init_4 3 none) 4 82 0 0 M [.ref a, .null, .null] (fun v M' => v = none ∧ ∃ u w, rf_ u ∧ rf_ w ∧ M' = bu M a (.inr (17, [.null, u, w, .null, .null, .int 0, .int 0]))) bi_nx := by
  refine bc_Met.of (own := RJ10) (L0 := [some (.ref a), some (.null), some (.null)]) rfl (by decide) G (Nat.le_of_ble_eq_true rfl) rfl (fun X A hE hQ hW hnl hnm => ?_)
  have hnl : ∀ q, q < 3 → q < bi_nL X := fun q h => by rw [hnl]; exact h
  refine vr_aload_n hE dJ10_init_4_0 rfl ?_
  refine vr_aload_nN hE dJ10_init_4_1 rfl ?_
  refine vr_aload_nN hE dJ10_init_4_2 rfl ?_
  refine bc_callI hE (bk_J9_init_4_X18 G _ a h_a) ok_J9_init_4 rfl q1506 q1507 q83 q1508 rfl rfl (Nat.le_of_ble_eq_true rfl) (by decide) dJ10_init_4_3 (fun _ _ _ h => h.elim) ?_
  rintro v_3 M_3 ⟨rfl, u, w, hu, hw, e_3⟩
  have ha_3 := (congrFun e_3 a).trans (bu_self _ _ _)
  refine vr_return hE hQ dJ10_init_4_6 (by decide) ⟨_, ?_, fun H h => hW _ H h⟩
  subst e_3
  exact ⟨rfl, u, w, hu, hw, rfl⟩
theorem ok_X8_init : bi_ok yX8_init RX8 2 := by decide +kernel
theorem bk_X8_init {Y : bi_Y} (G : bi_GS Y) (M : va_M) (a : Nat) (h_a : M a = some (.inr (5, [.null, .null, .null, .null, .null, .int 0, .int 0, .int 0]))) (r d : Int32) : bc_Met Y yX8_init (ws_ yX8_init cX8_init 3 none) 5 100 0 0 M [.ref a, .int r, .int d] (fun v M' => v = none ∧ ∃ u w, rf_ u ∧ rf_ w ∧ M' = bu M a (.inr (5, xR (.ref a) u w r d))) bi_nx := by
  refine bc_Met.of (own := RX8) (L0 := [some (.ref a), some (.int r), some (.int d)]) rfl (by decide) G (Nat.le_of_ble_eq_true rfl) rfl (fun X A hE hQ hW hnl hnm => ?_)
  have hnl : ∀ q, q < 3 → q < bi_nL X := fun q h => by rw [hnl]; exact h
  refine vr_aload_n hE dX8_init_0 rfl ?_
  refine bc_callI hE (bk_J10_init_2_X8 G _ a h_a) ok_J10_init_2 rfl q1243 q413 q84 q414 rfl rfl (Nat.le_of_ble_eq_true rfl) (by decide) dX8_init_1 (fun _ _ _ h => h.elim) ?_
  rintro v_1 M_1 ⟨rfl, u, w, hu, hw, e_1⟩
  have ha_1 := (congrFun e_1 a).trans (bu_self _ _ _)
  refine vr_aload_n hE dX8_init_4 rfl ?_
  refine vr_iload_n hE dX8_init_5 rfl ?_
  refine bc_putF (z := 6) hE kc_X8 (by decide) q1244 rfl rfl (hnm _ rfl) ha_1 rfl rfl (Nat.le_of_ble_eq_true rfl) dX8_init_6 (by first | decide | omega) ?_
  refine bc_nm (fun M_6 e_6 => ?_)
  have ha_6 := (congrFun e_6 a).trans (bu_self _ _ _)
  refine vr_aload_n hE dX8_init_9 rfl ?_
  refine vr_iload_n hE dX8_init_10 rfl ?_
  refine bc_putF (z := 7) hE kc_X8 (by decide) q1245 rfl rfl (hnm _ rfl) ha_6 rfl rfl (Nat.le_of_ble_eq_true rfl) dX8_init_11 (by first | decide | omega) ?_
  refine bc_nm (fun M_11 e_11 => ?_)
  have ha_11 := (congrFun e_11 a).trans (bu_self _ _ _)
  refine vr_return hE hQ dX8_init_14 (by decide) ⟨_, ?_, fun H h => hW _ H h⟩
  subst e_11
  subst e_6
  subst e_1
  exact ⟨rfl, u, w, hu, hw, by simp only [bu_bu] <;> rfl⟩
theorem ok_X8_init_2 : bi_ok yX8_init_2 RX8 3 := by decide +kernel
theorem bk_X8_init_2 {Y : bi_Y} (G : bi_GS Y) (M : va_M) (a : Nat) (h_a : M a = some (.inr (5, [.null, .null, .null, .null, .null, .int 0, .int 0, .int 0]))) (r d : Int32) (c : Nat) : bc_Met Y yX8_init_2 (ws_ yX8_init_2 cX8_init_2 4 none) 5 104 0 0 M [.ref a, .int r, .int d, .ref c] (fun v M' => v = none ∧ ∃ u w, rf_ u ∧ rf_ w ∧ M' = bu M a (.inr (5, xR (.ref c) u w r d))) bi_nx := by
  refine bc_Met.of (own := RX8) (L0 := [some (.ref a), some (.int r), some (.int d), some (.ref c)]) rfl (by decide) G (Nat.le_of_ble_eq_true rfl) rfl (fun X A hE hQ hW hnl hnm => ?_)
  have hnl : ∀ q, q < 4 → q < bi_nL X := fun q h => by rw [hnl]; exact h
  refine vr_aload_n hE dX8_init_2_0 rfl ?_
  refine vr_null hE dX8_init_2_1 ?_
  refine vr_aload_n hE dX8_init_2_2 rfl ?_
  refine bc_callI hE (bk_J10_init_4_X8 G _ a h_a c) ok_J10_init_4 rfl q1503 q1504 q84 q1505 rfl rfl (Nat.le_of_ble_eq_true rfl) (by decide) dX8_init_2_3 (fun _ _ _ h => h.elim) ?_
  rintro v_3 M_3 ⟨rfl, u, w, hu, hw, e_3⟩
  have ha_3 := (congrFun e_3 a).trans (bu_self _ _ _)
  refine vr_aload_n hE dX8_init_2_6 rfl ?_
  refine vr_iload_n hE dX8_init_2_7 rfl ?_
  refine bc_putF (z := 6) hE kc_X8 (by decide) q1244 rfl rfl (hnm _ rfl) ha_3 rfl rfl (Nat.le_of_ble_eq_true rfl) dX8_init_2_8 (by first | decide | omega) ?_
  refine bc_nm (fun M_8 e_8 => ?_)
  have ha_8 := (congrFun e_8 a).trans (bu_self _ _ _)
  refine vr_aload_n hE dX8_init_2_11 rfl ?_
  refine vr_iload_n hE dX8_init_2_12 rfl ?_
  refine bc_putF (z := 7) hE kc_X8 (by decide) q1245 rfl rfl (hnm _ rfl) ha_8 rfl rfl (Nat.le_of_ble_eq_true rfl) dX8_init_2_13 (by first | decide | omega) ?_
  refine bc_nm (fun M_13 e_13 => ?_)
  have ha_13 := (congrFun e_13 a).trans (bu_self _ _ _)
  refine vr_return hE hQ dX8_init_2_16 (by decide) ⟨_, ?_, fun H h => hW _ H h⟩
  subst e_13
  subst e_8
  subst e_3
  exact ⟨rfl, u, w, hu, hw, by simp only [bu_bu] <;> rfl⟩
theorem ok_X18_init : bi_ok yX18_init RX18 1 := by decide +kernel
theorem bk_X18_init {Y : bi_Y} (G : bi_GS Y) (M : va_M) (a : Nat) (h_a : M a = some (.inr (17, [.null, .null, .null, .null, .null, .int 0, .int 0]))) (p : Int32) : bc_Met Y yX18_init (ws_ yX18_init cX18_init 2 none) 5 104 0 0 M [.ref a, .int p] (fun v M' => v = none ∧ ∃ u w, rf_ u ∧ rf_ w ∧ M' = bu M a (.inr (17, xT u w p))) bi_nx := by
  refine bc_Met.of (own := RX18) (L0 := [some (.ref a), some (.int p)]) rfl (by decide) G (Nat.le_of_ble_eq_true rfl) rfl (fun X A hE hQ hW hnl hnm => ?_)
  have hnl : ∀ q, q < 2 → q < bi_nL X := fun q h => by rw [hnl]; exact h
  refine vr_aload_n hE dX18_init_0 rfl ?_
  refine vr_null hE dX18_init_1 ?_
  refine vr_null hE dX18_init_2 ?_
  refine bc_callI hE (bk_J10_init_4_X18 G _ a h_a) ok_J10_init_4 rfl q2155 q1504 q84 q1505 rfl rfl (Nat.le_of_ble_eq_true rfl) (by decide) dX18_init_3 (fun _ _ _ h => h.elim) ?_
  rintro v_3 M_3 ⟨rfl, u, w, hu, hw, e_3⟩
  have ha_3 := (congrFun e_3 a).trans (bu_self _ _ _)
  refine vr_aload_n hE dX18_init_6 rfl ?_
  refine vr_iload_n hE dX18_init_7 rfl ?_
  refine bc_putF (z := 6) hE kc_X18 (by decide) q2156 rfl rfl (hnm _ rfl) ha_3 rfl rfl (Nat.le_of_ble_eq_true rfl) dX18_init_8 (by first | decide | omega) ?_
  refine bc_nm (fun M_8 e_8 => ?_)
  have ha_8 := (congrFun e_8 a).trans (bu_self _ _ _)
  refine vr_return hE hQ dX18_init_11 (by decide) ⟨_, ?_, fun H h => hW _ H h⟩
  subst e_8
  subst e_3
  exact ⟨rfl, u, w, hu, hw, by simp only [bu_bu] <;> rfl⟩
theorem ok_X8_reason : bi_ok yX8_reason RX8 0 := by decide +kernel
theorem bk_X8_reason {Y : bi_Y} (G : bi_GS Y) (M : va_M) (a : Nat) (c u w : Value) (r d : Int32) (h_a : M a = some (.inr (5, xR c u w r d))) : bc_Met Y yX8_reason (ws_ yX8_reason cX8_reason 1 (some .int)) 0 0 0 0 M [.ref a] (fun v M' => v = some (.int r) ∧ M' = M) bi_nx := by
  refine bc_Met.of (own := RX8) (L0 := [some (.ref a)]) rfl (by decide) G (Nat.le_of_ble_eq_true rfl) rfl (fun X A hE hQ hW hnl hnm => ?_)
  have hnl : ∀ q, q < 1 → q < bi_nL X := fun q h => by rw [hnl]; exact h
  refine vr_aload_n hE dX8_reason_0 rfl ?_
  refine bc_get (z := 6) hE kc_X8 (by decide) q1244 (Or.inl rfl) h_a rfl dX8_reason_1 ?_
  refine vr_ireturn hE hQ rfl dX8_reason_4 (by decide) ⟨_, ?_, fun H h => hW _ H h⟩
  exact ⟨rfl, rfl⟩
theorem ok_X8_detail : bi_ok yX8_detail RX8 0 := by decide +kernel
theorem bk_X8_detail {Y : bi_Y} (G : bi_GS Y) (M : va_M) (a : Nat) (c u w : Value) (r d : Int32) (h_a : M a = some (.inr (5, xR c u w r d))) : bc_Met Y yX8_detail (ws_ yX8_detail cX8_detail 1 (some .int)) 0 0 0 0 M [.ref a] (fun v M' => v = some (.int d) ∧ M' = M) bi_nx := by
  refine bc_Met.of (own := RX8) (L0 := [some (.ref a)]) rfl (by decide) G (Nat.le_of_ble_eq_true rfl) rfl (fun X A hE hQ hW hnl hnm => ?_)
  have hnl : ∀ q, q < 1 → q < bi_nL X := fun q h => by rw [hnl]; exact h
  refine vr_aload_n hE dX8_detail_0 rfl ?_
  refine bc_get (z := 7) hE kc_X8 (by decide) q1245 (Or.inl rfl) h_a rfl dX8_detail_1 ?_
  refine vr_ireturn hE hQ rfl dX8_detail_4 (by decide) ⟨_, ?_, fun H h => hW _ H h⟩
  exact ⟨rfl, rfl⟩
theorem ok_X18_position : bi_ok yX18_position RX18 0 := by decide +kernel
theorem bk_X18_position {Y : bi_Y} (G : bi_GS Y) (M : va_M) (a : Nat) (u w : Value) (p : Int32) (h_a : M a = some (.inr (17, xT u w p))) : bc_Met Y yX18_position (ws_ yX18_position cX18_position 1 (some .int)) 0 0 0 0 M [.ref a] (fun v M' => v = some (.int p) ∧ M' = M) bi_nx := by
  refine bc_Met.of (own := RX18) (L0 := [some (.ref a)]) rfl (by decide) G (Nat.le_of_ble_eq_true rfl) rfl (fun X A hE hQ hW hnl hnm => ?_)
  have hnl : ∀ q, q < 1 → q < bi_nL X := fun q h => by rw [hnl]; exact h
  refine vr_aload_n hE dX18_position_0 rfl ?_
  refine bc_get (z := 6) hE kc_X18 (by decide) q2156 (Or.inl rfl) h_a rfl dX18_position_1 ?_
  refine vr_ireturn hE hQ rfl dX18_position_4 (by decide) ⟨_, ?_, fun H h => hW _ H h⟩
  exact ⟨rfl, rfl⟩
theorem ok_X1_meet : bi_ok yX1_meet RX1 3 := by decide +kernel
theorem bk_X1_meet {Y : bi_Y} (G : bi_GS Y) (M : va_M) (b r d : Int32) : bc_Met Y yX1_meet (ws_ yX1_meet cX1_meet 3 none) 6 122 1 8 M [.int b, .int r, .int d] (fun v M' => ¬ b = 0 ∧ v = none ∧ M' = M) (fun q E M' => b = 0 ∧ E = "BrassInspector$Refusal" ∧ M q = none ∧ ∃ u w, rf_ u ∧ rf_ w ∧ M' = bu M q (.inr (5, xR (.ref q) u w r d))) := by
  refine bc_Met.of (own := RX1) (L0 := [some (.int b), some (.int r), some (.int d)]) rfl (by decide) G (Nat.le_of_ble_eq_true rfl) rfl (fun X A hE hQ hW hnl hnm => ?_)
  have hnl : ∀ q, q < 3 → q < bi_nL X := fun q h => by rw [hnl]; exact h
  refine vr_iload_n hE dX1_meet_0 rfl ?_
  refine vr_if_ne (tgt := 14) hE dX1_meet_1 (by decide) (fun c_1 => ?_) (fun c_1 => ?_)
  · skip
    refine vr_return hE hQ dX1_meet_14 (by decide) ⟨_, ?_, fun H h => hW _ H h⟩
    exact ⟨c_1, rfl, rfl⟩
  · skip
    refine bc_newX (fs := [.null, .null, .null, .null, .null, .int 0, .int 0, .int 0]) hE kc_X8 q459 q1232 q109 df_X8 (by decide) dX1_meet_4 (fun q hn_q => ?_)
    refine bc_nm (fun M_4 e_4 => ?_)
    have hz_q : M q = none := hn_q
    have hq_4 := (congrFun e_4 q).trans (bu_self _ _ _)
    refine vr_dup hE dX1_meet_7 rfl ?_
    refine vr_iload_n hE dX1_meet_8 rfl ?_
    refine vr_iload_n hE dX1_meet_9 rfl ?_
    refine bc_callI hE (bk_X8_init G _ q hq_4 r d) ok_X8_init rfl q1240 q1241 q109 q1242 rfl rfl (Nat.le_of_ble_eq_true rfl) (by decide) dX1_meet_10 (fun _ _ _ h => h.elim) ?_
    rintro v_10 M_10 ⟨rfl, u, w, hu, hw, e_10⟩
    have hq_10 := (congrFun e_10 q).trans (bu_self _ _ _)
    refine bc_athrow hE kc_X8 hq_10 dX1_meet_13 ?_
    refine vr_out hE hQ (fun _ z9 => by cases z9) (by decide) ⟨_, ?_, fun H h => hW _ H h⟩
    subst e_10
    subst e_4
    exact ⟨c_1, rfl, hn_q, u, w, hu, hw, by simp only [bu_bu]⟩
