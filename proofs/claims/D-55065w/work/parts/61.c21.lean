/-! deeds -/
set_option maxRecDepth 100000
abbrev c_P : Type := List (Int32 × Int32) ⊕ (Nat × Nat × (Nat → Int32) × Int32)
def c_up (n w : Nat) : c_O → c_P
  | .inl L => .inl L
  | .inr (s, x) => .inr (n, w, s, x)
/-- a deed done to a copy -/
def c_DP (Y : bi_Y) (M : va_M) (R : cR) (n w : Nat) (o : c_P) (v : Option Value) (M' : va_M) : Prop := ∃ n' w' s' x R', o = .inr (n', w', s', x) ∧ v = some (.int x) ∧ R'.r = R.r ∧ RoundM Y M' R' n' w' s' ∧ cKeep M M' R n w ∧ ∀ q, fpr R' n' w' q → fpr R n w q ∨ M q = none
def c_DX (M : va_M) (R : cR) (n w : Nat) (o : c_P) (q : Nat) (E : String) (M' : va_M) : Prop := ∃ L, o = .inl L ∧ E = "BrassInspector$Refusal" ∧ c_Rf M' L q ∧ cKeep M M' R n w
theorem c_DP.of {Y : bi_Y} {M : va_M} {R : cR} {n w : Nat} {o : c_O} {v : Option Value} {M' : va_M} (h : ∃ s' x, o = .inr (s', x) ∧ v = some (.int x) ∧ RoundM Y M' R n w s' ∧ cKeep M M' R n w) : c_DP Y M R n w (c_up n w o) v M' := by
  obtain ⟨s', x, rfl, h1, h2, h3⟩ := h
  exact ⟨n, w, s', x, R, rfl, h1, rfl, h2, h3, fun _ z => Or.inl z⟩
theorem c_DX.of {M : va_M} {R : cR} {n w n1 w1 : Nat} {o : c_O} {q : Nat} {E : String} {M' : va_M} (h : c_PX M o q E M') : c_DX M R n w (c_up n1 w1 o) q E M' := by
  obtain ⟨L, rfl, h1, h2, h3⟩ := h
  exact ⟨L, rfl, h1, h2, fun x e z _ => h3 x e z⟩
theorem c_DP.ofG {Y : bi_Y} {M : va_M} {R : cR} {n w n' w' : Nat} {o : c_O} {v : Option Value} {M' : va_M} (h : ∃ R' s' x', o = .inr (s', x') ∧ v = some (.int x') ∧ R'.r = R.r ∧ RoundM Y M' R' n' w' s' ∧ cKeep M M' R n w ∧ ∀ q, fpr R' n' w' q → fpr R n w q ∨ M q = none) : c_DP Y M R n w (c_up n' w' o) v M' := by
  obtain ⟨R', s', x, rfl, h1, h2, h3, h4, h5⟩ := h
  exact ⟨n', w', s', x, R', rfl, h1, h2, h3, h4, h5⟩
def c_rateS (s : Nat → Int32) (f : Nat) (r : Int32) : c_O := .inr (upd s (5 + f) r, s (5 + f))
def c_getsS (s : Nat → Int32) (t : Nat) (m : Int32) : c_O := .inr (upd s (25 + t) (c_min 999 (s (25 + t) + m)), c_min 999 (s (25 + t) + m))
theorem ok_X4_init : bi_ok yX4_init RX4 0 := by decide +kernel
theorem bk_X4_init {Y : bi_Y} (G : bi_GS Y) (M : va_M) (a : Nat) : bc_Met Y yX4_init (ws_ yX4_init cX4_init 1 none) 1 28 0 0 M [.ref a] (fun v M' => v = none ∧ M' = M) bi_nx := by
  refine bc_Met.of (own := RX4) (L0 := [some (.ref a)]) rfl (by decide) G (Nat.le_of_ble_eq_true rfl) rfl (fun X A hE hQ hW hnl hnm => ?_)
  have hnl : ∀ q, q < 1 → q < bi_nL X := fun q h => by rw [hnl]; exact h
  refine vr_aload_n hE dX4_init_0 rfl ?_
  refine vr_objInit hE q444 q132 q133 dX4_init_1 ⟨by decide, Nat.le_of_ble_eq_true rfl⟩ ?_
  refine vr_return hE hQ dX4_init_4 (by decide) ⟨_, ?_, fun H h => hW _ H h⟩
  exact ⟨rfl, rfl⟩
theorem ok_X5_init : bi_ok yX5_init RX5 3 := by decide +kernel
theorem bk_X5_init {Y : bi_Y} (G : bi_GS Y) (M : va_M) (a x : Nat) (f : Int32) (r : Int32) (h_a : M a = some (.inr (8, [.int 0, .int 0, .null]))) : bc_Met Y yX5_init (ws_ yX5_init cX5_init 4 none) 2 48 0 0 M [.ref a, .ref x, .int f, .int r] (fun v M' => v = none ∧ M' = bu M a (.inr (8, [.int f, .int r, .ref x]))) bi_nx := by
  refine bc_Met.of (own := RX5) (L0 := [some (.ref a), some (.ref x), some (.int f), some (.int r)]) rfl (by decide) G (Nat.le_of_ble_eq_true rfl) rfl (fun X A hE hQ hW hnl hnm => ?_)
  have hnl : ∀ q, q < 4 → q < bi_nL X := fun q h => by rw [hnl]; exact h
  refine vr_aload_n hE dX5_init_0 rfl ?_
  refine vr_aload_n hE dX5_init_1 rfl ?_
  refine bc_putF (z := 2) hE kc_X5 (by decide) q447 rfl rfl (hnm _ rfl) h_a rfl rfl (Nat.le_of_ble_eq_true rfl) dX5_init_2 (by first | decide | omega) ?_
  refine bc_nm (fun M_2 e_2 => ?_)
  have ha_2 := (congrFun e_2 a).trans (bu_self _ _ _)
  refine vr_aload_n hE dX5_init_5 rfl ?_
  refine vr_iload_n hE dX5_init_6 rfl ?_
  refine bc_putF (z := 0) hE kc_X5 (by decide) q445 rfl rfl (hnm _ rfl) ha_2 rfl rfl (Nat.le_of_ble_eq_true rfl) dX5_init_7 (by first | decide | omega) ?_
  refine bc_nm (fun M_7 e_7 => ?_)
  have ha_7 := (congrFun e_7 a).trans (bu_self _ _ _)
  refine vr_aload_n hE dX5_init_10 rfl ?_
  refine vr_iload_n hE dX5_init_11 rfl ?_
  refine bc_putF (z := 1) hE kc_X5 (by decide) q446 rfl rfl (hnm _ rfl) ha_7 rfl rfl (Nat.le_of_ble_eq_true rfl) dX5_init_12 (by first | decide | omega) ?_
  refine bc_nm (fun M_12 e_12 => ?_)
  have ha_12 := (congrFun e_12 a).trans (bu_self _ _ _)
  refine vr_aload_n hE dX5_init_15 rfl ?_
  refine bc_callIN hE (bk_X4_init G _ a) ok_X4_init rfl q441 q442 q89 q443 rfl rfl (Nat.le_of_ble_eq_true rfl) (by decide) dX5_init_16 (fun _ _ _ h => h.elim) ?_
  rintro v_16 M_16 ⟨rfl, hu_16⟩
  obtain rfl := hu_16.symm
  refine vr_return hE hQ dX5_init_19 (by decide) ⟨_, ?_, fun H h => hW _ H h⟩
  subst e_12
  subst e_7
  subst e_2
  exact ⟨rfl, by first | rfl | (simp only [bu_bu] <;> rfl)⟩
theorem ok_X11_init : bi_ok yX11_init RX11 4 := by decide +kernel
theorem bk_X11_init {Y : bi_Y} (G : bi_GS Y) (M : va_M) (a x : Nat) (f : Int32) (c : Int32) (d : Int32) (h_a : M a = some (.inr (9, [.int 0, .int 0, .int 0, .null]))) : bc_Met Y yX11_init (ws_ yX11_init cX11_init 5 none) 2 48 0 0 M [.ref a, .ref x, .int f, .int c, .int d] (fun v M' => v = none ∧ M' = bu M a (.inr (9, [.int f, .int c, .int d, .ref x]))) bi_nx := by
  refine bc_Met.of (own := RX11) (L0 := [some (.ref a), some (.ref x), some (.int f), some (.int c), some (.int d)]) rfl (by decide) G (Nat.le_of_ble_eq_true rfl) rfl (fun X A hE hQ hW hnl hnm => ?_)
  have hnl : ∀ q, q < 5 → q < bi_nL X := fun q h => by rw [hnl]; exact h
  refine vr_aload_n hE dX11_init_0 rfl ?_
  refine vr_aload_n hE dX11_init_1 rfl ?_
  refine bc_putF (z := 3) hE kc_X11 (by decide) q1703 rfl rfl (hnm _ rfl) h_a rfl rfl (Nat.le_of_ble_eq_true rfl) dX11_init_2 (by first | decide | omega) ?_
  refine bc_nm (fun M_2 e_2 => ?_)
  have ha_2 := (congrFun e_2 a).trans (bu_self _ _ _)
  refine vr_aload_n hE dX11_init_5 rfl ?_
  refine vr_iload_n hE dX11_init_6 rfl ?_
  refine bc_putF (z := 0) hE kc_X11 (by decide) q1700 rfl rfl (hnm _ rfl) ha_2 rfl rfl (Nat.le_of_ble_eq_true rfl) dX11_init_7 (by first | decide | omega) ?_
  refine bc_nm (fun M_7 e_7 => ?_)
  have ha_7 := (congrFun e_7 a).trans (bu_self _ _ _)
  refine vr_aload_n hE dX11_init_10 rfl ?_
  refine vr_iload_n hE dX11_init_11 rfl ?_
  refine bc_putF (z := 1) hE kc_X11 (by decide) q1701 rfl rfl (hnm _ rfl) ha_7 rfl rfl (Nat.le_of_ble_eq_true rfl) dX11_init_12 (by first | decide | omega) ?_
  refine bc_nm (fun M_12 e_12 => ?_)
  have ha_12 := (congrFun e_12 a).trans (bu_self _ _ _)
  refine vr_aload_n hE dX11_init_15 rfl ?_
  refine vr_iload hE dX11_init_16 rfl ?_
  refine bc_putF (z := 2) hE kc_X11 (by decide) q1702 rfl rfl (hnm _ rfl) ha_12 rfl rfl (Nat.le_of_ble_eq_true rfl) dX11_init_18 (by first | decide | omega) ?_
  refine bc_nm (fun M_18 e_18 => ?_)
  have ha_18 := (congrFun e_18 a).trans (bu_self _ _ _)
  refine vr_aload_n hE dX11_init_21 rfl ?_
  refine bc_callIN hE (bk_X4_init G _ a) ok_X4_init rfl q1699 q442 q89 q443 rfl rfl (Nat.le_of_ble_eq_true rfl) (by decide) dX11_init_22 (fun _ _ _ h => h.elim) ?_
  rintro v_22 M_22 ⟨rfl, hu_22⟩
  obtain rfl := hu_22.symm
  refine vr_return hE hQ dX11_init_25 (by decide) ⟨_, ?_, fun H h => hW _ H h⟩
  subst e_18
  subst e_12
  subst e_7
  subst e_2
  exact ⟨rfl, by first | rfl | (simp only [bu_bu] <;> rfl)⟩
theorem ok_X13_init : bi_ok yX13_init RX13 3 := by decide +kernel
theorem bk_X13_init {Y : bi_Y} (G : bi_GS Y) (M : va_M) (a x : Nat) (t : Int32) (m : Int32) (h_a : M a = some (.inr (10, [.int 0, .int 0, .null]))) : bc_Met Y yX13_init (ws_ yX13_init cX13_init 4 none) 2 48 0 0 M [.ref a, .ref x, .int t, .int m] (fun v M' => v = none ∧ M' = bu M a (.inr (10, [.int t, .int m, .ref x]))) bi_nx := by
  refine bc_Met.of (own := RX13) (L0 := [some (.ref a), some (.ref x), some (.int t), some (.int m)]) rfl (by decide) G (Nat.le_of_ble_eq_true rfl) rfl (fun X A hE hQ hW hnl hnm => ?_)
  have hnl : ∀ q, q < 4 → q < bi_nL X := fun q h => by rw [hnl]; exact h
  refine vr_aload_n hE dX13_init_0 rfl ?_
  refine vr_aload_n hE dX13_init_1 rfl ?_
  refine bc_putF (z := 2) hE kc_X13 (by decide) q1760 rfl rfl (hnm _ rfl) h_a rfl rfl (Nat.le_of_ble_eq_true rfl) dX13_init_2 (by first | decide | omega) ?_
  refine bc_nm (fun M_2 e_2 => ?_)
  have ha_2 := (congrFun e_2 a).trans (bu_self _ _ _)
  refine vr_aload_n hE dX13_init_5 rfl ?_
  refine vr_iload_n hE dX13_init_6 rfl ?_
  refine bc_putF (z := 0) hE kc_X13 (by decide) q1758 rfl rfl (hnm _ rfl) ha_2 rfl rfl (Nat.le_of_ble_eq_true rfl) dX13_init_7 (by first | decide | omega) ?_
  refine bc_nm (fun M_7 e_7 => ?_)
  have ha_7 := (congrFun e_7 a).trans (bu_self _ _ _)
  refine vr_aload_n hE dX13_init_10 rfl ?_
  refine vr_iload_n hE dX13_init_11 rfl ?_
  refine bc_putF (z := 1) hE kc_X13 (by decide) q1759 rfl rfl (hnm _ rfl) ha_7 rfl rfl (Nat.le_of_ble_eq_true rfl) dX13_init_12 (by first | decide | omega) ?_
  refine bc_nm (fun M_12 e_12 => ?_)
  have ha_12 := (congrFun e_12 a).trans (bu_self _ _ _)
  refine vr_aload_n hE dX13_init_15 rfl ?_
  refine bc_callIN hE (bk_X4_init G _ a) ok_X4_init rfl q1757 q442 q89 q443 rfl rfl (Nat.le_of_ble_eq_true rfl) (by decide) dX13_init_16 (fun _ _ _ h => h.elim) ?_
  rintro v_16 M_16 ⟨rfl, hu_16⟩
  obtain rfl := hu_16.symm
  refine vr_return hE hQ dX13_init_19 (by decide) ⟨_, ?_, fun H h => hW _ H h⟩
  subst e_12
  subst e_7
  subst e_2
  exact ⟨rfl, by first | rfl | (simp only [bu_bu] <;> rfl)⟩
theorem ok_X15_init : bi_ok yX15_init RX15 2 := by decide +kernel
theorem bk_X15_init {Y : bi_Y} (G : bi_GS Y) (M : va_M) (a x : Nat) (z : Int32) (h_a : M a = some (.inr (11, [.int 0, .null]))) : bc_Met Y yX15_init (ws_ yX15_init cX15_init 3 none) 2 48 0 0 M [.ref a, .ref x, .int z] (fun v M' => v = none ∧ M' = bu M a (.inr (11, [.int z, .ref x]))) bi_nx := by
  refine bc_Met.of (own := RX15) (L0 := [some (.ref a), some (.ref x), some (.int z)]) rfl (by decide) G (Nat.le_of_ble_eq_true rfl) rfl (fun X A hE hQ hW hnl hnm => ?_)
  have hnl : ∀ q, q < 3 → q < bi_nL X := fun q h => by rw [hnl]; exact h
  refine vr_aload_n hE dX15_init_0 rfl ?_
  refine vr_aload_n hE dX15_init_1 rfl ?_
  refine bc_putF (z := 1) hE kc_X15 (by decide) q1888 rfl rfl (hnm _ rfl) h_a rfl rfl (Nat.le_of_ble_eq_true rfl) dX15_init_2 (by first | decide | omega) ?_
  refine bc_nm (fun M_2 e_2 => ?_)
  have ha_2 := (congrFun e_2 a).trans (bu_self _ _ _)
  refine vr_aload_n hE dX15_init_5 rfl ?_
  refine vr_iload_n hE dX15_init_6 rfl ?_
  refine bc_putF (z := 0) hE kc_X15 (by decide) q1887 rfl rfl (hnm _ rfl) ha_2 rfl rfl (Nat.le_of_ble_eq_true rfl) dX15_init_7 (by first | decide | omega) ?_
  refine bc_nm (fun M_7 e_7 => ?_)
  have ha_7 := (congrFun e_7 a).trans (bu_self _ _ _)
  refine vr_aload_n hE dX15_init_10 rfl ?_
  refine bc_callIN hE (bk_X4_init G _ a) ok_X4_init rfl q1886 q442 q89 q443 rfl rfl (Nat.le_of_ble_eq_true rfl) (by decide) dX15_init_11 (fun _ _ _ h => h.elim) ?_
  rintro v_11 M_11 ⟨rfl, hu_11⟩
  obtain rfl := hu_11.symm
  refine vr_return hE hQ dX15_init_14 (by decide) ⟨_, ?_, fun H h => hW _ H h⟩
  subst e_7
  subst e_2
  exact ⟨rfl, by first | rfl | (simp only [bu_bu] <;> rfl)⟩
theorem ok_X16_init : bi_ok yX16_init RX16 2 := by decide +kernel
theorem bk_X16_init {Y : bi_Y} (G : bi_GS Y) (M : va_M) (a x : Nat) (z : Int32) (h_a : M a = some (.inr (12, [.int 0, .null]))) : bc_Met Y yX16_init (ws_ yX16_init cX16_init 3 none) 2 48 0 0 M [.ref a, .ref x, .int z] (fun v M' => v = none ∧ M' = bu M a (.inr (12, [.int z, .ref x]))) bi_nx := by
  refine bc_Met.of (own := RX16) (L0 := [some (.ref a), some (.ref x), some (.int z)]) rfl (by decide) G (Nat.le_of_ble_eq_true rfl) rfl (fun X A hE hQ hW hnl hnm => ?_)
  have hnl : ∀ q, q < 3 → q < bi_nL X := fun q h => by rw [hnl]; exact h
  refine vr_aload_n hE dX16_init_0 rfl ?_
  refine vr_aload_n hE dX16_init_1 rfl ?_
  refine bc_putF (z := 1) hE kc_X16 (by decide) q1914 rfl rfl (hnm _ rfl) h_a rfl rfl (Nat.le_of_ble_eq_true rfl) dX16_init_2 (by first | decide | omega) ?_
  refine bc_nm (fun M_2 e_2 => ?_)
  have ha_2 := (congrFun e_2 a).trans (bu_self _ _ _)
  refine vr_aload_n hE dX16_init_5 rfl ?_
  refine vr_iload_n hE dX16_init_6 rfl ?_
  refine bc_putF (z := 0) hE kc_X16 (by decide) q1913 rfl rfl (hnm _ rfl) ha_2 rfl rfl (Nat.le_of_ble_eq_true rfl) dX16_init_7 (by first | decide | omega) ?_
  refine bc_nm (fun M_7 e_7 => ?_)
  have ha_7 := (congrFun e_7 a).trans (bu_self _ _ _)
  refine vr_aload_n hE dX16_init_10 rfl ?_
  refine bc_callIN hE (bk_X4_init G _ a) ok_X4_init rfl q1912 q442 q89 q443 rfl rfl (Nat.le_of_ble_eq_true rfl) (by decide) dX16_init_11 (fun _ _ _ h => h.elim) ?_
  rintro v_11 M_11 ⟨rfl, hu_11⟩
  obtain rfl := hu_11.symm
  refine vr_return hE hQ dX16_init_14 (by decide) ⟨_, ?_, fun H h => hW _ H h⟩
  subst e_7
  subst e_2
  exact ⟨rfl, by first | rfl | (simp only [bu_bu] <;> rfl)⟩
theorem ok_X19_init : bi_ok yX19_init RX19 2 := by decide +kernel
theorem bk_X19_init {Y : bi_Y} (G : bi_GS Y) (M : va_M) (a x : Nat) (l : Nat) (h_a : M a = some (.inr (13, [.null, .null]))) : bc_Met Y yX19_init (ws_ yX19_init cX19_init 3 none) 2 48 0 0 M [.ref a, .ref x, .ref l] (fun v M' => v = none ∧ M' = bu M a (.inr (13, [.ref l, .ref x]))) bi_nx := by
  refine bc_Met.of (own := RX19) (L0 := [some (.ref a), some (.ref x), some (.ref l)]) rfl (by decide) G (Nat.le_of_ble_eq_true rfl) rfl (fun X A hE hQ hW hnl hnm => ?_)
  have hnl : ∀ q, q < 3 → q < bi_nL X := fun q h => by rw [hnl]; exact h
  refine vr_aload_n hE dX19_init_0 rfl ?_
  refine vr_aload_n hE dX19_init_1 rfl ?_
  refine bc_putF (z := 1) hE kc_X19 (by decide) q2267 rfl rfl (hnm _ rfl) h_a rfl rfl (Nat.le_of_ble_eq_true rfl) dX19_init_2 (by first | decide | omega) ?_
  refine bc_nm (fun M_2 e_2 => ?_)
  have ha_2 := (congrFun e_2 a).trans (bu_self _ _ _)
  refine vr_aload_n hE dX19_init_5 rfl ?_
  refine vr_aload_n hE dX19_init_6 rfl ?_
  refine bc_putF (z := 0) hE kc_X19 (by decide) q2266 rfl rfl (hnm _ rfl) ha_2 rfl rfl (Nat.le_of_ble_eq_true rfl) dX19_init_7 (by first | decide | omega) ?_
  refine bc_nm (fun M_7 e_7 => ?_)
  have ha_7 := (congrFun e_7 a).trans (bu_self _ _ _)
  refine vr_aload_n hE dX19_init_10 rfl ?_
  refine bc_callIN hE (bk_X4_init G _ a) ok_X4_init rfl q2265 q442 q89 q443 rfl rfl (Nat.le_of_ble_eq_true rfl) (by decide) dX19_init_11 (fun _ _ _ h => h.elim) ?_
  rintro v_11 M_11 ⟨rfl, hu_11⟩
  obtain rfl := hu_11.symm
  refine vr_return hE hQ dX19_init_14 (by decide) ⟨_, ?_, fun H h => hW _ H h⟩
  subst e_7
  subst e_2
  exact ⟨rfl, by first | rfl | (simp only [bu_bu] <;> rfl)⟩
theorem ok_X5_does : bi_ok yX5_does RX5 1 := by decide +kernel
theorem bk_X5_does {Y : bi_Y} (G : bi_GS Y) (M : va_M) (R : cR) (n w : Nat) (s : Nat → Int32) (hR : RoundM Y M R n w s) (dd x : Nat) (f : Nat) (r : Int32) (h_d : M dd = some (.inr (8, [.int (nI f), .int r, .ref x]))) (hf : f < 5) : bc_Met Y yX5_does (ws_ yX5_does cX5_does 2 (some .int)) 40 1000 1000 2600 M [.ref dd, .ref R.r] (fun v M' => c_DP Y M R n w (c_up n w (c_rateS s f r)) v M') (c_DX M R n w (c_up n w (c_rateS s f r))) := by
  refine bc_Met.of (own := RX5) (L0 := [some (.ref dd), some (.ref R.r)]) rfl (by decide) G (Nat.le_of_ble_eq_true rfl) rfl (fun X A hE hQ hW hnl hnm => ?_)
  have hnl : ∀ q, q < 2 → q < bi_nL X := fun q h => by rw [hnl]; exact h
  refine vr_aload_n hE dX5_does_0 rfl ?_
  refine vr_aload_n hE dX5_does_1 rfl ?_
  refine bc_get (z := 0) hE kc_X5 (by decide) q445 (Or.inl rfl) h_d rfl dX5_does_2 ?_
  refine vr_aload_n hE dX5_does_5 rfl ?_
  refine bc_get (z := 1) hE kc_X5 (by decide) q446 (Or.inl rfl) h_d rfl dX5_does_6 ?_
  refine bc_callV hE (bk_X2_rate G _ R n w s hR f hf r) kc_X2 hR.hr ok_X2_rate (lw_V q1216 q1217 q1218 q72 q1219) rfl rfl (Nat.le_of_ble_eq_true rfl) (by decide) dX5_does_9 (fun _ _ _ h => h.elim) ?_
  rintro v_9 M_9 h_9
  obtain ⟨rfl, e_9⟩ := h_9
  refine vr_ireturn hE hQ rfl dX5_does_12 (by decide) ⟨_, ?_, fun H h => hW _ H h⟩
  refine c_DP.of ⟨_, _, rfl, rfl, ?_, cKeep.rf.bu (Or.inl (Or.inr (Or.inl rfl))) e_9⟩
  rw [e_9]
  exact hR.rates hf r
theorem ok_X11_does : bi_ok yX11_does RX11 1 := by decide +kernel
theorem bk_X11_does {Y : bi_Y} (G : bi_GS Y) (M : va_M) (R : cR) (n w : Nat) (s : Nat → Int32) (hR : RoundM Y M R n w s) (dd x : Nat) (f c d : Int32) (h_d : M dd = some (.inr (9, [.int f, .int c, .int d, .ref x]))) (hz : c_zt s n) : bc_Met Y yX11_does (ws_ yX11_does cX11_does 2 (some .int)) 40 1000 1000 2600 M [.ref dd, .ref R.r] (fun v M' => c_DP Y M R n w (c_up (n + 1) w (c_comes s n f c d)) v M') (c_DX M R n w (c_up (n + 1) w (c_comes s n f c d))) := by
  refine bc_Met.of (own := RX11) (L0 := [some (.ref dd), some (.ref R.r)]) rfl (by decide) G (Nat.le_of_ble_eq_true rfl) rfl (fun X A hE hQ hW hnl hnm => ?_)
  have hnl : ∀ q, q < 2 → q < bi_nL X := fun q h => by rw [hnl]; exact h
  refine vr_aload_n hE dX11_does_0 rfl ?_
  refine vr_aload_n hE dX11_does_1 rfl ?_
  refine bc_get (z := 0) hE kc_X11 (by decide) q1700 (Or.inl rfl) h_d rfl dX11_does_2 ?_
  refine vr_aload_n hE dX11_does_5 rfl ?_
  refine bc_get (z := 1) hE kc_X11 (by decide) q1701 (Or.inl rfl) h_d rfl dX11_does_6 ?_
  refine vr_aload_n hE dX11_does_9 rfl ?_
  refine bc_get (z := 2) hE kc_X11 (by decide) q1702 (Or.inl rfl) h_d rfl dX11_does_10 ?_
  refine bc_callV hE (bk_X2_comes G _ R n w s hR hz f c d) kc_X2 hR.hr ok_X2_comes (lw_V q1223 q1224 q1225 q72 q1226) rfl rfl (Nat.le_of_ble_eq_true rfl) (by decide) dX11_does_13 (fun q9 E9 M9 h9 => vr_out hE hQ (fun _ z9 => by cases z9) (by first | decide | exact ⟨by omega, by omega⟩) ⟨M9, c_DX.of h9, fun H h => hW _ H h⟩) ?_
  rintro v_13 M_13 h_13
  obtain ⟨R9, s9, x9, h1, rfl, h2⟩ := h_13
  refine vr_ireturn hE hQ rfl dX11_does_16 (by decide) ⟨_, ?_, fun H h => hW _ H h⟩
  exact c_DP.ofG ⟨R9, s9, x9, h1, rfl, h2⟩
theorem ok_X13_does : bi_ok yX13_does RX13 1 := by decide +kernel
theorem bk_X13_does {Y : bi_Y} (G : bi_GS Y) (M : va_M) (R : cR) (n w : Nat) (s : Nat → Int32) (hR : RoundM Y M R n w s) (dd x : Nat) (t : Nat) (m : Int32) (h_d : M dd = some (.inr (10, [.int (nI t), .int m, .ref x]))) (ht : t < n) : bc_Met Y yX13_does (ws_ yX13_does cX13_does 2 (some .int)) 40 1000 1000 2600 M [.ref dd, .ref R.r] (fun v M' => c_DP Y M R n w (c_up n w (c_getsS s t m)) v M') (c_DX M R n w (c_up n w (c_getsS s t m))) := by
  refine bc_Met.of (own := RX13) (L0 := [some (.ref dd), some (.ref R.r)]) rfl (by decide) G (Nat.le_of_ble_eq_true rfl) rfl (fun X A hE hQ hW hnl hnm => ?_)
  have hnl : ∀ q, q < 2 → q < bi_nL X := fun q h => by rw [hnl]; exact h
  refine vr_aload_n hE dX13_does_0 rfl ?_
  refine vr_aload_n hE dX13_does_1 rfl ?_
  refine bc_get (z := 0) hE kc_X13 (by decide) q1758 (Or.inl rfl) h_d rfl dX13_does_2 ?_
  refine bc_callV hE (bk_X2_trader G _ R n w s hR t ht) kc_X2 hR.hr ok_X2_trader (lw_V q1256 q1257 q1258 q72 q1259) rfl rfl (Nat.le_of_ble_eq_true rfl) (by decide) dX13_does_5 (fun _ _ _ h => h.elim) ?_
  rintro v_5 M_5 ⟨rfl, hu_5⟩
  obtain rfl := hu_5.symm
  have htr9 := hR.htr t ht
  refine vr_aload_n hE dX13_does_8 rfl ?_
  refine bc_get (z := 1) hE kc_X13 (by decide) q1759 (Or.inl rfl) h_d rfl dX13_does_9 ?_
  refine bc_callV hE (bk_X6_gets G _ (R.tr t) R.r _ _ _ _ _ _ _ _ _ _ htr9 m) kc_X6 htr9 ok_X6_gets (lw_V q1262 q1263 q1264 q106 q1265) rfl rfl (Nat.le_of_ble_eq_true rfl) (by decide) dX13_does_12 (fun _ _ _ h => h.elim) ?_
  rintro v_12 M_12 h_12
  obtain ⟨rfl, e_12⟩ := h_12
  refine vr_ireturn hE hQ rfl dX13_does_15 (by decide) ⟨_, ?_, fun H h => hW _ H h⟩
  have ht10 : t < 10 := Nat.lt_of_lt_of_le ht hR.hn
  refine c_DP.of ⟨_, _, rfl, rfl, ?_, cKeep.rf.bu (Or.inl (fpr.tr ht)) e_12⟩
  have z := hR.trader ht (s' := upd s (25 + t) (c_min 999 (s (25 + t) + m))) (fun k9 hk9 => by simp (disch := omega) only [pk_un])
  have e : tS (upd s (25 + t) (c_min 999 (s (25 + t) + m))) R.r t = tL (nI t) (s (15 + t)) (c_min 999 (s (25 + t) + m)) (s (35 + t)) (s (45 + t)) (s (55 + t)) (s (65 + t)) (s (75 + t)) (s (85 + t)) (s (95 + t)) R.r := by
    simp (disch := omega) only [tS, pk_un, pk_us]
  rw [e] at z
  rw [e_12]
  exact z
theorem ok_X15_does : bi_ok yX15_does RX15 1 := by decide +kernel
theorem bk_X15_does {Y : bi_Y} (G : bi_GS Y) (M : va_M) (R : cR) (n w : Nat) (s : Nat → Int32) (hR : RoundM Y M R n w s) (dd x : Nat) (z : Int32) (h_d : M dd = some (.inr (11, [.int z, .ref x]))) (hz : c_zw s w) : bc_Met Y yX15_does (ws_ yX15_does cX15_does 2 (some .int)) 40 1000 1000 2600 M [.ref dd, .ref R.r] (fun v M' => c_DP Y M R n w (c_up n (w + 1) (c_cast s w z)) v M') (c_DX M R n w (c_up n (w + 1) (c_cast s w z))) := by
  refine bc_Met.of (own := RX15) (L0 := [some (.ref dd), some (.ref R.r)]) rfl (by decide) G (Nat.le_of_ble_eq_true rfl) rfl (fun X A hE hQ hW hnl hnm => ?_)
  have hnl : ∀ q, q < 2 → q < bi_nL X := fun q h => by rw [hnl]; exact h
  refine vr_aload_n hE dX15_does_0 rfl ?_
  refine vr_aload_n hE dX15_does_1 rfl ?_
  refine bc_get (z := 0) hE kc_X15 (by decide) q1887 (Or.inl rfl) h_d rfl dX15_does_2 ?_
  refine bc_callV hE (bk_X2_cast G _ R n w s hR hz z) kc_X2 hR.hr ok_X2_cast (lw_V q1270 q1271 q1272 q72 q1273) rfl rfl (Nat.le_of_ble_eq_true rfl) (by decide) dX15_does_5 (fun q9 E9 M9 h9 => vr_out hE hQ (fun _ z9 => by cases z9) (by first | decide | exact ⟨by omega, by omega⟩) ⟨M9, c_DX.of h9, fun H h => hW _ H h⟩) ?_
  rintro v_5 M_5 h_5
  obtain ⟨R9, s9, x9, h1, rfl, h2⟩ := h_5
  refine vr_ireturn hE hQ rfl dX15_does_8 (by decide) ⟨_, ?_, fun H h => hW _ H h⟩
  exact c_DP.ofG ⟨R9, s9, x9, h1, rfl, h2⟩
theorem ok_X16_does : bi_ok yX16_does RX16 1 := by decide +kernel
theorem bk_X16_does {Y : bi_Y} (G : bi_GS Y) (M : va_M) (R : cR) (n w : Nat) (s : Nat → Int32) (hR : RoundM Y M R n w s) (dd x : Nat) (t : Nat) (h_d : M dd = some (.inr (12, [.int (nI t), .ref x]))) (ht : t < w) : bc_Met Y yX16_does (ws_ yX16_does cX16_does 2 (some .int)) 40 1000 1000 2600 M [.ref dd, .ref R.r] (fun v M' => c_DP Y M R n w (c_up n w (c_pol s t)) v M') (c_DX M R n w (c_up n w (c_pol s t))) := by
  refine bc_Met.of (own := RX16) (L0 := [some (.ref dd), some (.ref R.r)]) rfl (by decide) G (Nat.le_of_ble_eq_true rfl) rfl (fun X A hE hQ hW hnl hnm => ?_)
  have hnl : ∀ q, q < 2 → q < bi_nL X := fun q h => by rw [hnl]; exact h
  refine vr_aload_n hE dX16_does_0 rfl ?_
  refine vr_aload_n hE dX16_does_1 rfl ?_
  refine bc_get (z := 0) hE kc_X16 (by decide) q1913 (Or.inl rfl) h_d rfl dX16_does_2 ?_
  refine bc_callV hE (bk_X2_polish G _ R n w s hR t ht) kc_X2 hR.hr ok_X2_polish (lw_V q1278 q1279 q1280 q72 q1281) rfl rfl (Nat.le_of_ble_eq_true rfl) (by decide) dX16_does_5 (fun q9 E9 M9 h9 => vr_out hE hQ (fun _ z9 => by cases z9) (by first | decide | exact ⟨by omega, by omega⟩) ⟨M9, c_DX.of h9, fun H h => hW _ H h⟩) ?_
  rintro v_5 M_5 h_5
  obtain ⟨s9, x9, h1, rfl, h2⟩ := h_5
  refine vr_ireturn hE hQ rfl dX16_does_8 (by decide) ⟨_, ?_, fun H h => hW _ H h⟩
  exact c_DP.of ⟨s9, x9, h1, rfl, h2⟩
