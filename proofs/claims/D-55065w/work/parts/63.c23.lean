/-! LinkedList -/
set_option maxRecDepth 100000
abbrev llL (m sz : Int32) (f l : Value) : List Value := [.int m, .int sz, f, l]
abbrev ndL (x n p : Value) : List Value := [x, n, p]
def LLM (M : va_M) (pl k : Nat) (nd it : Nat → Nat) : Prop :=
  (∃ m, M pl = some (.inr (19, llL m (nI k) (if k = 0 then .null else .ref (nd 0)) (if k = 0 then .null else .ref (nd (k - 1)))))) ∧
  (∀ i, i < k → M (nd i) = some (.inr (20, ndL (.ref (it i)) (if i + 1 = k then .null else .ref (nd (i + 1))) (if i = 0 then .null else .ref (nd (i - 1)))))) ∧
  ∀ i j, i < k → j < k → nd i = nd j → i = j
def flp (pl k : Nat) (nd : Nat → Nat) (q : Nat) : Prop := q = pl ∨ ∃ i, i < k ∧ q = nd i
theorem LLM.keep {M M' : va_M} {pl k : Nat} {nd it : Nat → Nat} (h : LLM M pl k nd it) (e : ∀ q, flp pl k nd q → M' q = M q) : LLM M' pl k nd it := by
  obtain ⟨⟨m, h1⟩, h2, h3⟩ := h
  exact ⟨⟨m, (e _ (Or.inl rfl)).trans h1⟩, fun i hi => (e _ (Or.inr ⟨i, hi, rfl⟩)).trans (h2 i hi), h3⟩
theorem LLM.ext {M M' : va_M} {pl k : Nat} {nd it : Nat → Nat} (h : LLM M pl k nd it) (e : ∀ q x, M q = some x → M' q = some x) : LLM M' pl k nd it := by
  obtain ⟨⟨m, h1⟩, h2, h3⟩ := h
  exact ⟨⟨m, e _ _ h1⟩, fun i hi => e _ _ (h2 i hi), h3⟩
theorem bk_J1_init_J4 {Y : bi_Y} (G : bi_GS Y) (M : va_M) (l : Nat) (h_l : M l = some (.inr (19, [.int 0, .int 0, .null, .null]))) : bc_Met Y yJ1_init (ws_ yJ1_init cJ1_init 1 none) 2 48 0 0 M [.ref l] (fun v M' => v = none ∧ M' = bu M l (.inr (19, [.int 0, .int 0, .null, .null]))) bi_nx := by
  refine bc_Met.of (own := RJ1) (L0 := [some (.ref l)]) rfl (by decide) G (Nat.le_of_ble_eq_true rfl) rfl (fun X A hE hQ hW hnl hnm => ?_)
  have hnl : ∀ q, q < 1 → q < bi_nL X := fun q h => by rw [hnl]; exact h
  refine vr_aload_n hE dJ1_init_0 rfl ?_
  refine bc_callI hE (bk_J0_init G _ l) ok_J0_init rfl q148 q149 q73 q150 rfl rfl (Nat.le_of_ble_eq_true rfl) (by decide) dJ1_init_1 (fun _ _ _ h => h.elim) ?_
  rintro v_1 M_1 ⟨rfl, hu_1⟩
  obtain rfl := hu_1.symm
  refine vr_aload_n hE dJ1_init_4 rfl ?_
  refine vr_iconst (v := 0) hE dJ1_init_5 (by decide) ?_
  refine bc_put (z := 0) hE kc_J4 (by decide) q158 (Or.inl rfl) rfl h_l rfl rfl (Nat.le_of_ble_eq_true rfl) dJ1_init_6 (by first | decide | omega) ?_
  refine bc_nm (fun M_6 e_6 => ?_)
  have hl_6 := (congrFun e_6 l).trans (bu_self _ _ _)
  refine vr_return hE hQ dJ1_init_9 (by decide) ⟨_, ?_, fun H h => hW _ H h⟩
  subst e_6
  exact ⟨rfl, by first | rfl | (simp only [bu_bu] <;> rfl)⟩
theorem ok_J3_init : bi_ok yJ3_init RJ3 0 := by decide +kernel
theorem bk_J3_init {Y : bi_Y} (G : bi_GS Y) (M : va_M) (l : Nat) (h_l : M l = some (.inr (19, [.int 0, .int 0, .null, .null]))) : bc_Met Y yJ3_init (ws_ yJ3_init cJ3_init 1 none) 3 68 0 0 M [.ref l] (fun v M' => v = none ∧ M' = bu M l (.inr (19, [.int 0, .int 0, .null, .null]))) bi_nx := by
  refine bc_Met.of (own := RJ3) (L0 := [some (.ref l)]) rfl (by decide) G (Nat.le_of_ble_eq_true rfl) rfl (fun X A hE hQ hW hnl hnm => ?_)
  have hnl : ∀ q, q < 1 → q < bi_nL X := fun q h => by rw [hnl]; exact h
  refine vr_aload_n hE dJ3_init_0 rfl ?_
  refine bc_callI hE (bk_J1_init_J4 G _ l h_l) ok_J1_init rfl q209 q146 q74 q147 rfl rfl (Nat.le_of_ble_eq_true rfl) (by decide) dJ3_init_1 (fun _ _ _ h => h.elim) ?_
  rintro v_1 M_1 ⟨rfl, e_1⟩
  have hl_1 := (congrFun e_1 l).trans (bu_self _ _ _)
  refine vr_return hE hQ dJ3_init_4 (by decide) ⟨_, ?_, fun H h => hW _ H h⟩
  subst e_1
  exact ⟨rfl, rfl⟩
theorem ok_J4_init : bi_ok yJ4_init RJ4 0 := by decide +kernel
theorem bk_J4_init {Y : bi_Y} (G : bi_GS Y) (M : va_M) (l : Nat) (h_l : M l = some (.inr (19, [.int 0, .int 0, .null, .null]))) : bc_Met Y yJ4_init (ws_ yJ4_init cJ4_init 1 none) 4 88 0 0 M [.ref l] (fun v M' => v = none ∧ M' = bu M l (.inr (19, [.int 0, .int 0, .null, .null]))) bi_nx := by
  refine bc_Met.of (own := RJ4) (L0 := [some (.ref l)]) rfl (by decide) G (Nat.le_of_ble_eq_true rfl) rfl (fun X A hE hQ hW hnl hnm => ?_)
  have hnl : ∀ q, q < 1 → q < bi_nL X := fun q h => by rw [hnl]; exact h
  refine vr_aload_n hE dJ4_init_0 rfl ?_
  refine bc_callI hE (bk_J3_init G _ l h_l) ok_J3_init rfl q206 q207 q76 q208 rfl rfl (Nat.le_of_ble_eq_true rfl) (by decide) dJ4_init_1 (fun _ _ _ h => h.elim) ?_
  rintro v_1 M_1 ⟨rfl, e_1⟩
  have hl_1 := (congrFun e_1 l).trans (bu_self _ _ _)
  refine vr_aload_n hE dJ4_init_4 rfl ?_
  refine vr_iconst (v := 0) hE dJ4_init_5 (by decide) ?_
  refine bc_put (z := 1) hE kc_J4 (by decide) q210 (Or.inl rfl) rfl hl_1 rfl rfl (Nat.le_of_ble_eq_true rfl) dJ4_init_6 (by first | decide | omega) ?_
  refine bc_nm (fun M_6 e_6 => ?_)
  have hl_6 := (congrFun e_6 l).trans (bu_self _ _ _)
  refine vr_return hE hQ dJ4_init_9 (by decide) ⟨_, ?_, fun H h => hW _ H h⟩
  subst e_6
  subst e_1
  exact ⟨rfl, by first | rfl | (simp only [bu_bu] <;> rfl)⟩
theorem ok_J4_size : bi_ok yJ4_size RJ4 0 := by decide +kernel
theorem bk_J4_size {Y : bi_Y} (G : bi_GS Y) (M : va_M) (pl : Nat) (m z : Int32) (f l : Value) (h_pl : M pl = some (.inr (19, llL m z f l))) : bc_Met Y yJ4_size (ws_ yJ4_size cJ4_size 1 (some .int)) 0 0 0 0 M [.ref pl] (fun v M' => v = some (.int z) ∧ M' = M) bi_nx := by
  refine bc_Met.of (own := RJ4) (L0 := [some (.ref pl)]) rfl (by decide) G (Nat.le_of_ble_eq_true rfl) rfl (fun X A hE hQ hW hnl hnm => ?_)
  have hnl : ∀ q, q < 1 → q < bi_nL X := fun q h => by rw [hnl]; exact h
  refine vr_aload_n hE dJ4_size_0 rfl ?_
  refine bc_get (z := 1) hE kc_J4 (by decide) q210 (Or.inl rfl) h_pl rfl dJ4_size_1 ?_
  refine vr_ireturn hE hQ rfl dJ4_size_4 (by decide) ⟨_, ?_, fun H h => hW _ H h⟩
  exact ⟨rfl, rfl⟩
theorem ok_J27_init : bi_ok yJ27_init RJ27 3 := by decide +kernel
theorem bk_J27_init1 {Y : bi_Y} (G : bi_GS Y) (M : va_M) (a p x : Nat) (h_a : M a = some (.inr (20, ndL .null .null .null))) : bc_Met Y yJ27_init (ws_ yJ27_init cJ27_init 4 none) 1 28 0 0 M [.ref a, .ref p, .ref x, .null] (fun v M' => v = none ∧ M' = bu M a (.inr (20, ndL (.ref x) .null (.ref p)))) bi_nx := by
  refine bc_Met.of (own := RJ27) (L0 := [some (.ref a), some (.ref p), some (.ref x), some (.null)]) rfl (by decide) G (Nat.le_of_ble_eq_true rfl) rfl (fun X A hE hQ hW hnl hnm => ?_)
  have hnl : ∀ q, q < 4 → q < bi_nL X := fun q h => by rw [hnl]; exact h
  refine vr_aload_n hE dJ27_init_0 rfl ?_
  refine vr_objInit hE q1170 q132 q133 dJ27_init_1 ⟨by decide, Nat.le_of_ble_eq_true rfl⟩ ?_
  refine vr_aload_n hE dJ27_init_4 rfl ?_
  refine vr_aload_n hE dJ27_init_5 rfl ?_
  refine bc_put (z := 0) hE kc_J27 (by decide) q1171 (Or.inl rfl) rfl h_a rfl rfl (Nat.le_of_ble_eq_true rfl) dJ27_init_6 (by first | decide | omega) ?_
  refine bc_nm (fun M_6 e_6 => ?_)
  have ha_6 := (congrFun e_6 a).trans (bu_self _ _ _)
  refine vr_aload_n hE dJ27_init_9 rfl ?_
  refine vr_aload_nN hE dJ27_init_10 rfl ?_
  refine bc_put (z := 1) hE kc_J27 (by decide) q1174 (Or.inl rfl) rfl ha_6 rfl rfl (Nat.le_of_ble_eq_true rfl) dJ27_init_11 (by first | decide | omega) ?_
  refine bc_nm (fun M_11 e_11 => ?_)
  have ha_11 := (congrFun e_11 a).trans (bu_self _ _ _)
  refine vr_aload_n hE dJ27_init_14 rfl ?_
  refine vr_aload_n hE dJ27_init_15 rfl ?_
  refine bc_put (z := 2) hE kc_J27 (by decide) q1177 (Or.inl rfl) rfl ha_11 rfl rfl (Nat.le_of_ble_eq_true rfl) dJ27_init_16 (by first | decide | omega) ?_
  refine bc_nm (fun M_16 e_16 => ?_)
  have ha_16 := (congrFun e_16 a).trans (bu_self _ _ _)
  refine vr_return hE hQ dJ27_init_19 (by decide) ⟨_, ?_, fun H h => hW _ H h⟩
  subst e_16
  subst e_11
  subst e_6
  exact ⟨rfl, by first | rfl | (simp only [bu_bu] <;> rfl)⟩
theorem bk_J27_init0 {Y : bi_Y} (G : bi_GS Y) (M : va_M) (a x : Nat) (h_a : M a = some (.inr (20, ndL .null .null .null))) : bc_Met Y yJ27_init (ws_ yJ27_init cJ27_init 4 none) 1 28 0 0 M [.ref a, .null, .ref x, .null] (fun v M' => v = none ∧ M' = bu M a (.inr (20, ndL (.ref x) .null .null))) bi_nx := by
  refine bc_Met.of (own := RJ27) (L0 := [some (.ref a), some (.null), some (.ref x), some (.null)]) rfl (by decide) G (Nat.le_of_ble_eq_true rfl) rfl (fun X A hE hQ hW hnl hnm => ?_)
  have hnl : ∀ q, q < 4 → q < bi_nL X := fun q h => by rw [hnl]; exact h
  refine vr_aload_n hE dJ27_init_0 rfl ?_
  refine vr_objInit hE q1170 q132 q133 dJ27_init_1 ⟨by decide, Nat.le_of_ble_eq_true rfl⟩ ?_
  refine vr_aload_n hE dJ27_init_4 rfl ?_
  refine vr_aload_n hE dJ27_init_5 rfl ?_
  refine bc_put (z := 0) hE kc_J27 (by decide) q1171 (Or.inl rfl) rfl h_a rfl rfl (Nat.le_of_ble_eq_true rfl) dJ27_init_6 (by first | decide | omega) ?_
  refine bc_nm (fun M_6 e_6 => ?_)
  have ha_6 := (congrFun e_6 a).trans (bu_self _ _ _)
  refine vr_aload_n hE dJ27_init_9 rfl ?_
  refine vr_aload_nN hE dJ27_init_10 rfl ?_
  refine bc_put (z := 1) hE kc_J27 (by decide) q1174 (Or.inl rfl) rfl ha_6 rfl rfl (Nat.le_of_ble_eq_true rfl) dJ27_init_11 (by first | decide | omega) ?_
  refine bc_nm (fun M_11 e_11 => ?_)
  have ha_11 := (congrFun e_11 a).trans (bu_self _ _ _)
  refine vr_aload_n hE dJ27_init_14 rfl ?_
  refine vr_aload_nN hE dJ27_init_15 rfl ?_
  refine bc_put (z := 2) hE kc_J27 (by decide) q1177 (Or.inl rfl) rfl ha_11 rfl rfl (Nat.le_of_ble_eq_true rfl) dJ27_init_16 (by first | decide | omega) ?_
  refine bc_nm (fun M_16 e_16 => ?_)
  have ha_16 := (congrFun e_16 a).trans (bu_self _ _ _)
  refine vr_return hE hQ dJ27_init_19 (by decide) ⟨_, ?_, fun H h => hW _ H h⟩
  subst e_16
  subst e_11
  subst e_6
  exact ⟨rfl, by first | rfl | (simp only [bu_bu] <;> rfl)⟩
theorem ok_J4_linkLast : bi_ok yJ4_linkLast RJ4 1 := by decide +kernel
theorem bk_J4_linkLast0 {Y : bi_Y} (G : bi_GS Y) (M : va_M) (pl x : Nat) (m z : Int32) (h_pl : M pl = some (.inr (19, llL m z .null .null))) : bc_Met Y yJ4_linkLast (ws_ yJ4_linkLast cJ4_linkLast 4 none) 2 51 1 3 M [.ref pl, .ref x] (fun v M' => v = none ∧ ∃ q, M q = none ∧ M' pl = some (.inr (19, llL (m + 1) (z + 1) (.ref q) (.ref q))) ∧ M' q = some (.inr (20, ndL (.ref x) .null .null)) ∧ ∀ y, y ≠ pl → y ≠ q → M' y = M y) bi_nx := by
  refine bc_Met.of (own := RJ4) (L0 := [some (.ref pl), some (.ref x), none, none]) rfl (by decide) G (Nat.le_of_ble_eq_true rfl) rfl (fun X A hE hQ hW hnl hnm => ?_)
  have hnl : ∀ q, q < 4 → q < bi_nL X := fun q h => by rw [hnl]; exact h
  refine vr_aload_n hE dJ4_linkLast_0 rfl ?_
  refine bc_get (z := 3) hE kc_J4 (by decide) q213 (Or.inl rfl) h_pl rfl dJ4_linkLast_1 ?_
  refine vr_astore_nN hE dJ4_linkLast_4 (hnl _ (by decide)) rfl ?_
  refine bc_new (fs := [.null, .null, .null]) hE kc_J27 q1165 q1166 q107 df_J27 (by decide) (by decide) dJ4_linkLast_5 (fun q hn_q => ?_)
  refine bc_nm (fun M_5 e_5 => ?_)
  have npl_q := bc_new_ne h_pl hn_q
  have hz_q : M q = none := hn_q
  have hpl_5 := (congrFun e_5 pl).trans ((bu_ne npl_q).trans h_pl)
  have hq_5 := (congrFun e_5 q).trans (bu_self _ _ _)
  refine vr_dup hE dJ4_linkLast_8 rfl ?_
  refine vr_aload_nN hE dJ4_linkLast_9 rfl ?_
  refine vr_aload_n hE dJ4_linkLast_10 rfl ?_
  refine vr_null hE dJ4_linkLast_11 ?_
  refine bc_callI hE (bk_J27_init0 G _ q x hq_5) ok_J27_init rfl q1167 q1168 q107 q1169 rfl rfl (Nat.le_of_ble_eq_true rfl) (by decide) dJ4_linkLast_12 (fun _ _ _ h => h.elim) ?_
  rintro v_12 M_12 ⟨rfl, e_12⟩
  have hpl_12 := (congrFun e_12 pl).trans ((bu_ne npl_q).trans hpl_5)
  have hq_12 := (congrFun e_12 q).trans (bu_self _ _ _)
  refine vr_astore_n hE dJ4_linkLast_15 (hnl _ (by decide)) rfl ?_
  refine vr_aload_n hE dJ4_linkLast_16 rfl ?_
  refine vr_aload_n hE dJ4_linkLast_17 rfl ?_
  refine bc_put (z := 3) hE kc_J4 (by decide) q213 (Or.inl rfl) rfl hpl_12 rfl rfl (Nat.le_of_ble_eq_true rfl) dJ4_linkLast_18 (by first | decide | omega) ?_
  refine bc_nm (fun M_18 e_18 => ?_)
  have hq_18 := (congrFun e_18 q).trans ((bu_ne (Ne.symm npl_q)).trans hq_12)
  have hpl_18 := (congrFun e_18 pl).trans (bu_self _ _ _)
  refine vr_aload_nN hE dJ4_linkLast_21 rfl ?_
  refine vr_ifnonnullN hE dJ4_linkLast_22 ?_
  refine vr_aload_n hE dJ4_linkLast_25 rfl ?_
  refine vr_aload_n hE dJ4_linkLast_26 rfl ?_
  refine bc_put (z := 2) hE kc_J4 (by decide) q212 (Or.inl rfl) rfl hpl_18 rfl rfl (Nat.le_of_ble_eq_true rfl) dJ4_linkLast_27 (by first | decide | omega) ?_
  refine bc_nm (fun M_27 e_27 => ?_)
  have hq_27 := (congrFun e_27 q).trans ((bu_ne (Ne.symm npl_q)).trans hq_18)
  have hpl_27 := (congrFun e_27 pl).trans (bu_self _ _ _)
  refine vr_goto (tgt := 38) hE dJ4_linkLast_30 (by decide) ?_
  refine vr_aload_n hE dJ4_linkLast_38 rfl ?_
  refine vr_dup hE dJ4_linkLast_39 rfl ?_
  refine bc_get (z := 1) hE kc_J4 (by decide) q210 (Or.inl rfl) hpl_27 rfl dJ4_linkLast_40 ?_
  refine vr_iconst (v := 1) hE dJ4_linkLast_43 (by decide) ?_
  refine vr_iadd hE dJ4_linkLast_44 ?_
  refine bc_put (z := 1) hE kc_J4 (by decide) q210 (Or.inl rfl) rfl hpl_27 rfl rfl (Nat.le_of_ble_eq_true rfl) dJ4_linkLast_45 (by first | decide | omega) ?_
  refine bc_nm (fun M_45 e_45 => ?_)
  have hq_45 := (congrFun e_45 q).trans ((bu_ne (Ne.symm npl_q)).trans hq_27)
  have hpl_45 := (congrFun e_45 pl).trans (bu_self _ _ _)
  refine vr_aload_n hE dJ4_linkLast_48 rfl ?_
  refine vr_dup hE dJ4_linkLast_49 rfl ?_
  refine bc_get (z := 0) hE kc_J4 (by decide) q164 (Or.inr q160) hpl_45 rfl dJ4_linkLast_50 ?_
  refine vr_iconst (v := 1) hE dJ4_linkLast_53 (by decide) ?_
  refine vr_iadd hE dJ4_linkLast_54 ?_
  refine bc_put (z := 0) hE kc_J4 (by decide) q164 (Or.inr q160) rfl hpl_45 rfl rfl (Nat.le_of_ble_eq_true rfl) dJ4_linkLast_55 (by first | decide | omega) ?_
  refine bc_nm (fun M_55 e_55 => ?_)
  have hq_55 := (congrFun e_55 q).trans ((bu_ne (Ne.symm npl_q)).trans hq_45)
  have hpl_55 := (congrFun e_55 pl).trans (bu_self _ _ _)
  refine vr_return hE hQ dJ4_linkLast_58 (by decide) ⟨_, ?_, fun H h => hW _ H h⟩
  subst e_55
  subst e_45
  subst e_27
  subst e_18
  subst e_12
  subst e_5
  exact ⟨rfl, q, hn_q, hpl_55, hq_55, fun y h1 h2 => by simp only [bu_ne h1, bu_ne h2]⟩
theorem bk_J4_linkLast1 {Y : bi_Y} (G : bi_GS Y) (M : va_M) (pl x l : Nat) (f : Value) (m z : Int32) (h_pl : M pl = some (.inr (19, llL m z f (.ref l)))) (y pv : Value) (h_l : M l = some (.inr (20, ndL y .null pv))) : bc_Met Y yJ4_linkLast (ws_ yJ4_linkLast cJ4_linkLast 4 none) 2 51 1 3 M [.ref pl, .ref x] (fun v M' => v = none ∧ ∃ q, M q = none ∧ M' pl = some (.inr (19, llL (m + 1) (z + 1) f (.ref q))) ∧ M' q = some (.inr (20, ndL (.ref x) .null (.ref l))) ∧ M' l = some (.inr (20, ndL y (.ref q) pv)) ∧ ∀ y, y ≠ pl → y ≠ q → y ≠ l → M' y = M y) bi_nx := by
  refine bc_Met.of (own := RJ4) (L0 := [some (.ref pl), some (.ref x), none, none]) rfl (by decide) G (Nat.le_of_ble_eq_true rfl) rfl (fun X A hE hQ hW hnl hnm => ?_)
  have hnl : ∀ q, q < 4 → q < bi_nL X := fun q h => by rw [hnl]; exact h
  refine vr_aload_n hE dJ4_linkLast_0 rfl ?_
  refine bc_get (z := 3) hE kc_J4 (by decide) q213 (Or.inl rfl) h_pl rfl dJ4_linkLast_1 ?_
  refine vr_astore_n hE dJ4_linkLast_4 (hnl _ (by decide)) rfl ?_
  refine bc_new (fs := [.null, .null, .null]) hE kc_J27 q1165 q1166 q107 df_J27 (by decide) (by decide) dJ4_linkLast_5 (fun q hn_q => ?_)
  refine bc_nm (fun M_5 e_5 => ?_)
  have npl_q := bc_new_ne h_pl hn_q
  have nl_q := bc_new_ne h_l hn_q
  have hz_q : M q = none := hn_q
  have hpl_5 := (congrFun e_5 pl).trans ((bu_ne npl_q).trans h_pl)
  have hl_5 := (congrFun e_5 l).trans ((bu_ne nl_q).trans h_l)
  have hq_5 := (congrFun e_5 q).trans (bu_self _ _ _)
  refine vr_dup hE dJ4_linkLast_8 rfl ?_
  refine vr_aload_n hE dJ4_linkLast_9 rfl ?_
  refine vr_aload_n hE dJ4_linkLast_10 rfl ?_
  refine vr_null hE dJ4_linkLast_11 ?_
  refine bc_callI hE (bk_J27_init1 G _ q l x hq_5) ok_J27_init rfl q1167 q1168 q107 q1169 rfl rfl (Nat.le_of_ble_eq_true rfl) (by decide) dJ4_linkLast_12 (fun _ _ _ h => h.elim) ?_
  rintro v_12 M_12 ⟨rfl, e_12⟩
  have hpl_12 := (congrFun e_12 pl).trans ((bu_ne npl_q).trans hpl_5)
  have hl_12 := (congrFun e_12 l).trans ((bu_ne nl_q).trans hl_5)
  have hq_12 := (congrFun e_12 q).trans (bu_self _ _ _)
  refine vr_astore_n hE dJ4_linkLast_15 (hnl _ (by decide)) rfl ?_
  refine vr_aload_n hE dJ4_linkLast_16 rfl ?_
  refine vr_aload_n hE dJ4_linkLast_17 rfl ?_
  refine bc_put (z := 3) hE kc_J4 (by decide) q213 (Or.inl rfl) rfl hpl_12 rfl rfl (Nat.le_of_ble_eq_true rfl) dJ4_linkLast_18 (by first | decide | omega) ?_
  refine bc_nm (fun M_18 e_18 => ?_)
  have hl_18 := (congrFun e_18 l).trans ((bu_ne (bc_dist hl_12 hpl_12 (bc_ci (by decide)))).trans hl_12)
  have hq_18 := (congrFun e_18 q).trans ((bu_ne (Ne.symm npl_q)).trans hq_12)
  have hpl_18 := (congrFun e_18 pl).trans (bu_self _ _ _)
  refine vr_aload_n hE dJ4_linkLast_21 rfl ?_
  refine vr_ifnonnull (tgt := 33) hE dJ4_linkLast_22 (by decide) ?_
  refine vr_aload_n hE dJ4_linkLast_33 rfl ?_
  refine vr_aload_n hE dJ4_linkLast_34 rfl ?_
  refine bc_put (z := 1) hE kc_J27 (by decide) q1176 (Or.inl rfl) rfl hl_18 rfl rfl (Nat.le_of_ble_eq_true rfl) dJ4_linkLast_35 (by first | decide | omega) ?_
  refine bc_nm (fun M_35 e_35 => ?_)
  have hq_35 := (congrFun e_35 q).trans ((bu_ne (Ne.symm nl_q)).trans hq_18)
  have hpl_35 := (congrFun e_35 pl).trans ((bu_ne (bc_dist hpl_18 hl_18 (bc_ci (by decide)))).trans hpl_18)
  have hl_35 := (congrFun e_35 l).trans (bu_self _ _ _)
  refine vr_aload_n hE dJ4_linkLast_38 rfl ?_
  refine vr_dup hE dJ4_linkLast_39 rfl ?_
  refine bc_get (z := 1) hE kc_J4 (by decide) q210 (Or.inl rfl) hpl_35 rfl dJ4_linkLast_40 ?_
  refine vr_iconst (v := 1) hE dJ4_linkLast_43 (by decide) ?_
  refine vr_iadd hE dJ4_linkLast_44 ?_
  refine bc_put (z := 1) hE kc_J4 (by decide) q210 (Or.inl rfl) rfl hpl_35 rfl rfl (Nat.le_of_ble_eq_true rfl) dJ4_linkLast_45 (by first | decide | omega) ?_
  refine bc_nm (fun M_45 e_45 => ?_)
  have hq_45 := (congrFun e_45 q).trans ((bu_ne (Ne.symm npl_q)).trans hq_35)
  have hl_45 := (congrFun e_45 l).trans ((bu_ne (bc_dist hl_35 hpl_35 (bc_ci (by decide)))).trans hl_35)
  have hpl_45 := (congrFun e_45 pl).trans (bu_self _ _ _)
  refine vr_aload_n hE dJ4_linkLast_48 rfl ?_
  refine vr_dup hE dJ4_linkLast_49 rfl ?_
  refine bc_get (z := 0) hE kc_J4 (by decide) q164 (Or.inr q160) hpl_45 rfl dJ4_linkLast_50 ?_
  refine vr_iconst (v := 1) hE dJ4_linkLast_53 (by decide) ?_
  refine vr_iadd hE dJ4_linkLast_54 ?_
  refine bc_put (z := 0) hE kc_J4 (by decide) q164 (Or.inr q160) rfl hpl_45 rfl rfl (Nat.le_of_ble_eq_true rfl) dJ4_linkLast_55 (by first | decide | omega) ?_
  refine bc_nm (fun M_55 e_55 => ?_)
  have hq_55 := (congrFun e_55 q).trans ((bu_ne (Ne.symm npl_q)).trans hq_45)
  have hl_55 := (congrFun e_55 l).trans ((bu_ne (bc_dist hl_45 hpl_45 (bc_ci (by decide)))).trans hl_45)
  have hpl_55 := (congrFun e_55 pl).trans (bu_self _ _ _)
  refine vr_return hE hQ dJ4_linkLast_58 (by decide) ⟨_, ?_, fun H h => hW _ H h⟩
  subst e_55
  subst e_45
  subst e_35
  subst e_18
  subst e_12
  subst e_5
  exact ⟨rfl, q, hn_q, hpl_55, hq_55, hl_55, fun y h1 h2 h3 => by simp only [bu_ne h1, bu_ne h2, bu_ne h3]⟩
theorem ok_J4_addLast : bi_ok yJ4_addLast RJ4 1 := by decide +kernel
theorem bk_J4_addLast0 {Y : bi_Y} (G : bi_GS Y) (M : va_M) (pl x : Nat) (m z : Int32) (h_pl : M pl = some (.inr (19, llL m z .null .null))) : bc_Met Y yJ4_addLast (ws_ yJ4_addLast cJ4_addLast 2 none) 3 74 1 3 M [.ref pl, .ref x] (fun v M' => v = none ∧ ∃ q, M q = none ∧ M' pl = some (.inr (19, llL (m + 1) (z + 1) (.ref q) (.ref q))) ∧ M' q = some (.inr (20, ndL (.ref x) .null .null)) ∧ ∀ y, y ≠ pl → y ≠ q → M' y = M y) bi_nx := by
  refine bc_Met.of (own := RJ4) (L0 := [some (.ref pl), some (.ref x)]) rfl (by decide) G (Nat.le_of_ble_eq_true rfl) rfl (fun X A hE hQ hW hnl hnm => ?_)
  have hnl : ∀ q, q < 2 → q < bi_nL X := fun q h => by rw [hnl]; exact h
  refine vr_aload_n hE dJ4_addLast_0 rfl ?_
  refine vr_aload_n hE dJ4_addLast_1 rfl ?_
  refine bc_callV hE (bk_J4_linkLast0 G _ pl x m z h_pl) kc_J4 h_pl ok_J4_linkLast (lw_V q1161 q1162 q1163 q77 q1164) rfl rfl (Nat.le_of_ble_eq_true rfl) (by decide) dJ4_addLast_2 (fun _ _ _ h => h.elim) ?_
  rintro v_2 M_2 ⟨rfl, h_2⟩
  refine vr_return hE hQ dJ4_addLast_5 (by decide) ⟨_, ?_, fun H h => hW _ H h⟩
  exact ⟨rfl, h_2⟩
theorem bk_J4_addLast1 {Y : bi_Y} (G : bi_GS Y) (M : va_M) (pl x l : Nat) (f : Value) (m z : Int32) (h_pl : M pl = some (.inr (19, llL m z f (.ref l)))) (y pv : Value) (h_l : M l = some (.inr (20, ndL y .null pv))) : bc_Met Y yJ4_addLast (ws_ yJ4_addLast cJ4_addLast 2 none) 3 74 1 3 M [.ref pl, .ref x] (fun v M' => v = none ∧ ∃ q, M q = none ∧ M' pl = some (.inr (19, llL (m + 1) (z + 1) f (.ref q))) ∧ M' q = some (.inr (20, ndL (.ref x) .null (.ref l))) ∧ M' l = some (.inr (20, ndL y (.ref q) pv)) ∧ ∀ y, y ≠ pl → y ≠ q → y ≠ l → M' y = M y) bi_nx := by
  refine bc_Met.of (own := RJ4) (L0 := [some (.ref pl), some (.ref x)]) rfl (by decide) G (Nat.le_of_ble_eq_true rfl) rfl (fun X A hE hQ hW hnl hnm => ?_)
  have hnl : ∀ q, q < 2 → q < bi_nL X := fun q h => by rw [hnl]; exact h
  refine vr_aload_n hE dJ4_addLast_0 rfl ?_
  refine vr_aload_n hE dJ4_addLast_1 rfl ?_
  refine bc_callV hE (bk_J4_linkLast1 G _ pl x l f m z h_pl y pv h_l) kc_J4 h_pl ok_J4_linkLast (lw_V q1161 q1162 q1163 q77 q1164) rfl rfl (Nat.le_of_ble_eq_true rfl) (by decide) dJ4_addLast_2 (fun _ _ _ h => h.elim) ?_
  rintro v_2 M_2 ⟨rfl, h_2⟩
  refine vr_return hE hQ dJ4_addLast_5 (by decide) ⟨_, ?_, fun H h => hW _ H h⟩
  exact ⟨rfl, h_2⟩
theorem ok_J4_unlinkLast : bi_ok yJ4_unlinkLast RJ4 1 := by decide +kernel
theorem bk_J4_unlinkLast0 {Y : bi_Y} (G : bi_GS Y) (M : va_M) (pl l x : Nat) (m z : Int32) (h_pl : M pl = some (.inr (19, llL m z (.ref l) (.ref l)))) (h_l : M l = some (.inr (20, ndL (.ref x) .null .null))) : bc_Met Y yJ4_unlinkLast (ws_ yJ4_unlinkLast cJ4_unlinkLast 4 (some (.object "java/lang/Object"))) 0 0 0 0 M [.ref pl, .ref l] (fun v M' => v = some (.ref x) ∧ M' pl = some (.inr (19, llL (m + 1) (z - 1) .null .null)) ∧ ∀ y, y ≠ pl → y ≠ l → M' y = M y) bi_nx := by
  refine bc_Met.of (own := RJ4) (L0 := [some (.ref pl), some (.ref l), none, none]) rfl (by decide) G (Nat.le_of_ble_eq_true rfl) rfl (fun X A hE hQ hW hnl hnm => ?_)
  have hnl : ∀ q, q < 4 → q < bi_nL X := fun q h => by rw [hnl]; exact h
  refine vr_aload_n hE dJ4_unlinkLast_0 rfl ?_
  refine bc_get (z := 0) hE kc_J27 (by decide) q1173 (Or.inl rfl) h_l rfl dJ4_unlinkLast_1 ?_
  refine vr_astore_n hE dJ4_unlinkLast_4 (hnl _ (by decide)) rfl ?_
  refine vr_aload_n hE dJ4_unlinkLast_5 rfl ?_
  refine bc_get (z := 2) hE kc_J27 (by decide) q1178 (Or.inl rfl) h_l rfl dJ4_unlinkLast_6 ?_
  refine vr_astore_nN hE dJ4_unlinkLast_9 (hnl _ (by decide)) rfl ?_
  refine vr_aload_n hE dJ4_unlinkLast_10 rfl ?_
  refine vr_null hE dJ4_unlinkLast_11 ?_
  refine bc_put (z := 0) hE kc_J27 (by decide) q1173 (Or.inl rfl) rfl h_l rfl rfl (Nat.le_of_ble_eq_true rfl) dJ4_unlinkLast_12 (by first | decide | omega) ?_
  refine bc_nm (fun M_12 e_12 => ?_)
  have hpl_12 := (congrFun e_12 pl).trans ((bu_ne (bc_dist h_pl h_l (bc_ci (by decide)))).trans h_pl)
  have hl_12 := (congrFun e_12 l).trans (bu_self _ _ _)
  refine vr_aload_n hE dJ4_unlinkLast_15 rfl ?_
  refine vr_null hE dJ4_unlinkLast_16 ?_
  refine bc_put (z := 2) hE kc_J27 (by decide) q1178 (Or.inl rfl) rfl hl_12 rfl rfl (Nat.le_of_ble_eq_true rfl) dJ4_unlinkLast_17 (by first | decide | omega) ?_
  refine bc_nm (fun M_17 e_17 => ?_)
  have hpl_17 := (congrFun e_17 pl).trans ((bu_ne (bc_dist hpl_12 hl_12 (bc_ci (by decide)))).trans hpl_12)
  have hl_17 := (congrFun e_17 l).trans (bu_self _ _ _)
  refine vr_aload_n hE dJ4_unlinkLast_20 rfl ?_
  refine vr_aload_nN hE dJ4_unlinkLast_21 rfl ?_
  refine bc_put (z := 3) hE kc_J4 (by decide) q213 (Or.inl rfl) rfl hpl_17 rfl rfl (Nat.le_of_ble_eq_true rfl) dJ4_unlinkLast_22 (by first | decide | omega) ?_
  refine bc_nm (fun M_22 e_22 => ?_)
  have hl_22 := (congrFun e_22 l).trans ((bu_ne (bc_dist hl_17 hpl_17 (bc_ci (by decide)))).trans hl_17)
  have hpl_22 := (congrFun e_22 pl).trans (bu_self _ _ _)
  refine vr_aload_nN hE dJ4_unlinkLast_25 rfl ?_
  refine vr_ifnonnullN hE dJ4_unlinkLast_26 ?_
  refine vr_aload_n hE dJ4_unlinkLast_29 rfl ?_
  refine vr_null hE dJ4_unlinkLast_30 ?_
  refine bc_put (z := 2) hE kc_J4 (by decide) q212 (Or.inl rfl) rfl hpl_22 rfl rfl (Nat.le_of_ble_eq_true rfl) dJ4_unlinkLast_31 (by first | decide | omega) ?_
  refine bc_nm (fun M_31 e_31 => ?_)
  have hl_31 := (congrFun e_31 l).trans ((bu_ne (bc_dist hl_22 hpl_22 (bc_ci (by decide)))).trans hl_22)
  have hpl_31 := (congrFun e_31 pl).trans (bu_self _ _ _)
  refine vr_goto (tgt := 42) hE dJ4_unlinkLast_34 (by decide) ?_
  refine vr_aload_n hE dJ4_unlinkLast_42 rfl ?_
  refine vr_dup hE dJ4_unlinkLast_43 rfl ?_
  refine bc_get (z := 1) hE kc_J4 (by decide) q210 (Or.inl rfl) hpl_31 rfl dJ4_unlinkLast_44 ?_
  refine vr_iconst (v := 1) hE dJ4_unlinkLast_47 (by decide) ?_
  refine vr_isub hE dJ4_unlinkLast_48 ?_
  refine bc_put (z := 1) hE kc_J4 (by decide) q210 (Or.inl rfl) rfl hpl_31 rfl rfl (Nat.le_of_ble_eq_true rfl) dJ4_unlinkLast_49 (by first | decide | omega) ?_
  refine bc_nm (fun M_49 e_49 => ?_)
  have hl_49 := (congrFun e_49 l).trans ((bu_ne (bc_dist hl_31 hpl_31 (bc_ci (by decide)))).trans hl_31)
  have hpl_49 := (congrFun e_49 pl).trans (bu_self _ _ _)
  refine vr_aload_n hE dJ4_unlinkLast_52 rfl ?_
  refine vr_dup hE dJ4_unlinkLast_53 rfl ?_
  refine bc_get (z := 0) hE kc_J4 (by decide) q164 (Or.inr q160) hpl_49 rfl dJ4_unlinkLast_54 ?_
  refine vr_iconst (v := 1) hE dJ4_unlinkLast_57 (by decide) ?_
  refine vr_iadd hE dJ4_unlinkLast_58 ?_
  refine bc_put (z := 0) hE kc_J4 (by decide) q164 (Or.inr q160) rfl hpl_49 rfl rfl (Nat.le_of_ble_eq_true rfl) dJ4_unlinkLast_59 (by first | decide | omega) ?_
  refine bc_nm (fun M_59 e_59 => ?_)
  have hl_59 := (congrFun e_59 l).trans ((bu_ne (bc_dist hl_49 hpl_49 (bc_ci (by decide)))).trans hl_49)
  have hpl_59 := (congrFun e_59 pl).trans (bu_self _ _ _)
  refine vr_aload_n hE dJ4_unlinkLast_62 rfl ?_
  refine vr_areturn hE hQ (Or.inl ⟨_, rfl⟩) (Or.inr ⟨_, rfl⟩) dJ4_unlinkLast_63 (by decide) ⟨_, ?_, fun H h => hW _ H h⟩
  subst e_59
  subst e_49
  subst e_31
  subst e_22
  subst e_17
  subst e_12
  exact ⟨rfl, hpl_59, fun y h1 h2 => by simp only [bu_ne h1, bu_ne h2]⟩
theorem ok_J4_removeLast : bi_ok yJ4_removeLast RJ4 0 := by decide +kernel
theorem bk_J4_removeLast0 {Y : bi_Y} (G : bi_GS Y) (M : va_M) (pl l x : Nat) (m z : Int32) (h_pl : M pl = some (.inr (19, llL m z (.ref l) (.ref l)))) (h_l : M l = some (.inr (20, ndL (.ref x) .null .null))) : bc_Met Y yJ4_removeLast (ws_ yJ4_removeLast cJ4_removeLast 2 (some (.object "java/lang/Object"))) 1 23 0 0 M [.ref pl] (fun v M' => v = some (.ref x) ∧ M' pl = some (.inr (19, llL (m + 1) (z - 1) .null .null)) ∧ ∀ y, y ≠ pl → y ≠ l → M' y = M y) bi_nx := by
  refine bc_Met.of (own := RJ4) (L0 := [some (.ref pl), none]) rfl (by decide) G (Nat.le_of_ble_eq_true rfl) rfl (fun X A hE hQ hW hnl hnm => ?_)
  have hnl : ∀ q, q < 2 → q < bi_nL X := fun q h => by rw [hnl]; exact h
  refine vr_aload_n hE dJ4_removeLast_0 rfl ?_
  refine bc_get (z := 3) hE kc_J4 (by decide) q213 (Or.inl rfl) h_pl rfl dJ4_removeLast_1 ?_
  refine vr_astore_n hE dJ4_removeLast_4 (hnl _ (by decide)) rfl ?_
  refine vr_aload_n hE dJ4_removeLast_5 rfl ?_
  refine vr_ifnonnull (tgt := 17) hE dJ4_removeLast_6 (by decide) ?_
  refine vr_aload_n hE dJ4_removeLast_17 rfl ?_
  refine vr_aload_n hE dJ4_removeLast_18 rfl ?_
  refine bc_callV hE (bk_J4_unlinkLast0 G _ pl l x m z h_pl h_l) kc_J4 h_pl ok_J4_unlinkLast (lw_V q2486 q2488 qs32 q77 q2489) rfl rfl (Nat.le_of_ble_eq_true rfl) (by decide) dJ4_removeLast_19 (fun _ _ _ h => h.elim) ?_
  rintro v_19 M_19 ⟨rfl, h_19⟩
  refine vr_areturn hE hQ (Or.inl ⟨_, rfl⟩) (Or.inr ⟨_, rfl⟩) dJ4_removeLast_22 (by decide) ⟨_, ?_, fun H h => hW _ H h⟩
  exact ⟨rfl, h_19⟩
theorem bk_J4_unlinkLast1 {Y : bi_Y} (G : bi_GS Y) (M : va_M) (pl l x p : Nat) (f y pv : Value) (m z : Int32) (h_pl : M pl = some (.inr (19, llL m z f (.ref l)))) (h_l : M l = some (.inr (20, ndL (.ref x) .null (.ref p)))) (h_p : M p = some (.inr (20, ndL y (.ref l) pv))) (hne : p ≠ l) : bc_Met Y yJ4_unlinkLast (ws_ yJ4_unlinkLast cJ4_unlinkLast 4 (some (.object "java/lang/Object"))) 0 0 0 0 M [.ref pl, .ref l] (fun v M' => v = some (.ref x) ∧ M' pl = some (.inr (19, llL (m + 1) (z - 1) f (.ref p))) ∧ M' p = some (.inr (20, ndL y .null pv)) ∧ ∀ y, y ≠ pl → y ≠ l → y ≠ p → M' y = M y) bi_nx := by
  refine bc_Met.of (own := RJ4) (L0 := [some (.ref pl), some (.ref l), none, none]) rfl (by decide) G (Nat.le_of_ble_eq_true rfl) rfl (fun X A hE hQ hW hnl hnm => ?_)
  have hnl : ∀ q, q < 4 → q < bi_nL X := fun q h => by rw [hnl]; exact h
  refine vr_aload_n hE dJ4_unlinkLast_0 rfl ?_
  refine bc_get (z := 0) hE kc_J27 (by decide) q1173 (Or.inl rfl) h_l rfl dJ4_unlinkLast_1 ?_
  refine vr_astore_n hE dJ4_unlinkLast_4 (hnl _ (by decide)) rfl ?_
  refine vr_aload_n hE dJ4_unlinkLast_5 rfl ?_
  refine bc_get (z := 2) hE kc_J27 (by decide) q1178 (Or.inl rfl) h_l rfl dJ4_unlinkLast_6 ?_
  refine vr_astore_n hE dJ4_unlinkLast_9 (hnl _ (by decide)) rfl ?_
  refine vr_aload_n hE dJ4_unlinkLast_10 rfl ?_
  refine vr_null hE dJ4_unlinkLast_11 ?_
  refine bc_put (z := 0) hE kc_J27 (by decide) q1173 (Or.inl rfl) rfl h_l rfl rfl (Nat.le_of_ble_eq_true rfl) dJ4_unlinkLast_12 (by first | decide | omega) ?_
  refine bc_nm (fun M_12 e_12 => ?_)
  have hpl_12 := (congrFun e_12 pl).trans ((bu_ne (bc_dist h_pl h_l (bc_ci (by decide)))).trans h_pl)
  have hp_12 := (congrFun e_12 p).trans ((bu_ne hne).trans h_p)
  have hl_12 := (congrFun e_12 l).trans (bu_self _ _ _)
  refine vr_aload_n hE dJ4_unlinkLast_15 rfl ?_
  refine vr_null hE dJ4_unlinkLast_16 ?_
  refine bc_put (z := 2) hE kc_J27 (by decide) q1178 (Or.inl rfl) rfl hl_12 rfl rfl (Nat.le_of_ble_eq_true rfl) dJ4_unlinkLast_17 (by first | decide | omega) ?_
  refine bc_nm (fun M_17 e_17 => ?_)
  have hpl_17 := (congrFun e_17 pl).trans ((bu_ne (bc_dist hpl_12 hl_12 (bc_ci (by decide)))).trans hpl_12)
  have hp_17 := (congrFun e_17 p).trans ((bu_ne hne).trans hp_12)
  have hl_17 := (congrFun e_17 l).trans (bu_self _ _ _)
  refine vr_aload_n hE dJ4_unlinkLast_20 rfl ?_
  refine vr_aload_n hE dJ4_unlinkLast_21 rfl ?_
  refine bc_put (z := 3) hE kc_J4 (by decide) q213 (Or.inl rfl) rfl hpl_17 rfl rfl (Nat.le_of_ble_eq_true rfl) dJ4_unlinkLast_22 (by first | decide | omega) ?_
  refine bc_nm (fun M_22 e_22 => ?_)
  have hp_22 := (congrFun e_22 p).trans ((bu_ne (bc_dist hp_17 hpl_17 (bc_ci (by decide)))).trans hp_17)
  have hl_22 := (congrFun e_22 l).trans ((bu_ne (bc_dist hl_17 hpl_17 (bc_ci (by decide)))).trans hl_17)
  have hpl_22 := (congrFun e_22 pl).trans (bu_self _ _ _)
  refine vr_aload_n hE dJ4_unlinkLast_25 rfl ?_
  refine vr_ifnonnull (tgt := 37) hE dJ4_unlinkLast_26 (by decide) ?_
  refine vr_aload_n hE dJ4_unlinkLast_37 rfl ?_
  refine vr_null hE dJ4_unlinkLast_38 ?_
  refine bc_put (z := 1) hE kc_J27 (by decide) q1176 (Or.inl rfl) rfl hp_22 rfl rfl (Nat.le_of_ble_eq_true rfl) dJ4_unlinkLast_39 (by first | decide | omega) ?_
  refine bc_nm (fun M_39 e_39 => ?_)
  have hl_39 := (congrFun e_39 l).trans ((bu_ne (Ne.symm hne)).trans hl_22)
  have hpl_39 := (congrFun e_39 pl).trans ((bu_ne (bc_dist hpl_22 hp_22 (bc_ci (by decide)))).trans hpl_22)
  have hp_39 := (congrFun e_39 p).trans (bu_self _ _ _)
  refine vr_aload_n hE dJ4_unlinkLast_42 rfl ?_
  refine vr_dup hE dJ4_unlinkLast_43 rfl ?_
  refine bc_get (z := 1) hE kc_J4 (by decide) q210 (Or.inl rfl) hpl_39 rfl dJ4_unlinkLast_44 ?_
  refine vr_iconst (v := 1) hE dJ4_unlinkLast_47 (by decide) ?_
  refine vr_isub hE dJ4_unlinkLast_48 ?_
  refine bc_put (z := 1) hE kc_J4 (by decide) q210 (Or.inl rfl) rfl hpl_39 rfl rfl (Nat.le_of_ble_eq_true rfl) dJ4_unlinkLast_49 (by first | decide | omega) ?_
  refine bc_nm (fun M_49 e_49 => ?_)
  have hl_49 := (congrFun e_49 l).trans ((bu_ne (bc_dist hl_39 hpl_39 (bc_ci (by decide)))).trans hl_39)
  have hp_49 := (congrFun e_49 p).trans ((bu_ne (bc_dist hp_39 hpl_39 (bc_ci (by decide)))).trans hp_39)
  have hpl_49 := (congrFun e_49 pl).trans (bu_self _ _ _)
  refine vr_aload_n hE dJ4_unlinkLast_52 rfl ?_
  refine vr_dup hE dJ4_unlinkLast_53 rfl ?_
  refine bc_get (z := 0) hE kc_J4 (by decide) q164 (Or.inr q160) hpl_49 rfl dJ4_unlinkLast_54 ?_
  refine vr_iconst (v := 1) hE dJ4_unlinkLast_57 (by decide) ?_
  refine vr_iadd hE dJ4_unlinkLast_58 ?_
  refine bc_put (z := 0) hE kc_J4 (by decide) q164 (Or.inr q160) rfl hpl_49 rfl rfl (Nat.le_of_ble_eq_true rfl) dJ4_unlinkLast_59 (by first | decide | omega) ?_
  refine bc_nm (fun M_59 e_59 => ?_)
  have hl_59 := (congrFun e_59 l).trans ((bu_ne (bc_dist hl_49 hpl_49 (bc_ci (by decide)))).trans hl_49)
  have hp_59 := (congrFun e_59 p).trans ((bu_ne (bc_dist hp_49 hpl_49 (bc_ci (by decide)))).trans hp_49)
  have hpl_59 := (congrFun e_59 pl).trans (bu_self _ _ _)
  refine vr_aload_n hE dJ4_unlinkLast_62 rfl ?_
  refine vr_areturn hE hQ (Or.inl ⟨_, rfl⟩) (Or.inr ⟨_, rfl⟩) dJ4_unlinkLast_63 (by decide) ⟨_, ?_, fun H h => hW _ H h⟩
  subst e_59
  subst e_49
  subst e_39
  subst e_22
  subst e_17
  subst e_12
  exact ⟨rfl, hpl_59, hp_59, fun y h1 h2 h3 => by simp only [bu_ne h1, bu_ne h2, bu_ne h3]⟩
theorem bk_J4_removeLast1 {Y : bi_Y} (G : bi_GS Y) (M : va_M) (pl l x p : Nat) (f y pv : Value) (m z : Int32) (h_pl : M pl = some (.inr (19, llL m z f (.ref l)))) (h_l : M l = some (.inr (20, ndL (.ref x) .null (.ref p)))) (h_p : M p = some (.inr (20, ndL y (.ref l) pv))) (hne : p ≠ l) : bc_Met Y yJ4_removeLast (ws_ yJ4_removeLast cJ4_removeLast 2 (some (.object "java/lang/Object"))) 1 23 0 0 M [.ref pl] (fun v M' => v = some (.ref x) ∧ M' pl = some (.inr (19, llL (m + 1) (z - 1) f (.ref p))) ∧ M' p = some (.inr (20, ndL y .null pv)) ∧ ∀ y, y ≠ pl → y ≠ l → y ≠ p → M' y = M y) bi_nx := by
  refine bc_Met.of (own := RJ4) (L0 := [some (.ref pl), none]) rfl (by decide) G (Nat.le_of_ble_eq_true rfl) rfl (fun X A hE hQ hW hnl hnm => ?_)
  have hnl : ∀ q, q < 2 → q < bi_nL X := fun q h => by rw [hnl]; exact h
  refine vr_aload_n hE dJ4_removeLast_0 rfl ?_
  refine bc_get (z := 3) hE kc_J4 (by decide) q213 (Or.inl rfl) h_pl rfl dJ4_removeLast_1 ?_
  refine vr_astore_n hE dJ4_removeLast_4 (hnl _ (by decide)) rfl ?_
  refine vr_aload_n hE dJ4_removeLast_5 rfl ?_
  refine vr_ifnonnull (tgt := 17) hE dJ4_removeLast_6 (by decide) ?_
  refine vr_aload_n hE dJ4_removeLast_17 rfl ?_
  refine vr_aload_n hE dJ4_removeLast_18 rfl ?_
  refine bc_callV hE (bk_J4_unlinkLast1 G _ pl l x p f y pv m z h_pl h_l h_p hne) kc_J4 h_pl ok_J4_unlinkLast (lw_V q2486 q2488 qs32 q77 q2489) rfl rfl (Nat.le_of_ble_eq_true rfl) (by decide) dJ4_removeLast_19 (fun _ _ _ h => h.elim) ?_
  rintro v_19 M_19 ⟨rfl, h_19⟩
  refine vr_areturn hE hQ (Or.inl ⟨_, rfl⟩) (Or.inr ⟨_, rfl⟩) dJ4_removeLast_22 (by decide) ⟨_, ?_, fun H h => hW _ H h⟩
  exact ⟨rfl, h_19⟩
theorem ok_J4_unlinkFirst : bi_ok yJ4_unlinkFirst RJ4 1 := by decide +kernel
theorem bk_J4_unlinkFirst {Y : bi_Y} (G : bi_GS Y) (M : va_M) (pl l x p : Nat) (la y nx : Value) (m z : Int32) (h_pl : M pl = some (.inr (19, llL m z (.ref l) la))) (h_l : M l = some (.inr (20, ndL (.ref x) (.ref p) .null))) (h_p : M p = some (.inr (20, ndL y nx (.ref l)))) (hne : p ≠ l) : bc_Met Y yJ4_unlinkFirst (ws_ yJ4_unlinkFirst cJ4_unlinkFirst 4 (some (.object "java/lang/Object"))) 0 0 0 0 M [.ref pl, .ref l] (fun v M' => v = some (.ref x) ∧ M' pl = some (.inr (19, llL (m + 1) (z - 1) (.ref p) la)) ∧ M' p = some (.inr (20, ndL y nx .null)) ∧ ∀ y, y ≠ pl → y ≠ l → y ≠ p → M' y = M y) bi_nx := by
  refine bc_Met.of (own := RJ4) (L0 := [some (.ref pl), some (.ref l), none, none]) rfl (by decide) G (Nat.le_of_ble_eq_true rfl) rfl (fun X A hE hQ hW hnl hnm => ?_)
  have hnl : ∀ q, q < 4 → q < bi_nL X := fun q h => by rw [hnl]; exact h
  refine vr_aload_n hE dJ4_unlinkFirst_0 rfl ?_
  refine bc_get (z := 0) hE kc_J27 (by decide) q1173 (Or.inl rfl) h_l rfl dJ4_unlinkFirst_1 ?_
  refine vr_astore_n hE dJ4_unlinkFirst_4 (hnl _ (by decide)) rfl ?_
  refine vr_aload_n hE dJ4_unlinkFirst_5 rfl ?_
  refine bc_get (z := 1) hE kc_J27 (by decide) q1176 (Or.inl rfl) h_l rfl dJ4_unlinkFirst_6 ?_
  refine vr_astore_n hE dJ4_unlinkFirst_9 (hnl _ (by decide)) rfl ?_
  refine vr_aload_n hE dJ4_unlinkFirst_10 rfl ?_
  refine vr_null hE dJ4_unlinkFirst_11 ?_
  refine bc_put (z := 0) hE kc_J27 (by decide) q1173 (Or.inl rfl) rfl h_l rfl rfl (Nat.le_of_ble_eq_true rfl) dJ4_unlinkFirst_12 (by first | decide | omega) ?_
  refine bc_nm (fun M_12 e_12 => ?_)
  have hpl_12 := (congrFun e_12 pl).trans ((bu_ne (bc_dist h_pl h_l (bc_ci (by decide)))).trans h_pl)
  have hp_12 := (congrFun e_12 p).trans ((bu_ne hne).trans h_p)
  have hl_12 := (congrFun e_12 l).trans (bu_self _ _ _)
  refine vr_aload_n hE dJ4_unlinkFirst_15 rfl ?_
  refine vr_null hE dJ4_unlinkFirst_16 ?_
  refine bc_put (z := 1) hE kc_J27 (by decide) q1176 (Or.inl rfl) rfl hl_12 rfl rfl (Nat.le_of_ble_eq_true rfl) dJ4_unlinkFirst_17 (by first | decide | omega) ?_
  refine bc_nm (fun M_17 e_17 => ?_)
  have hpl_17 := (congrFun e_17 pl).trans ((bu_ne (bc_dist hpl_12 hl_12 (bc_ci (by decide)))).trans hpl_12)
  have hp_17 := (congrFun e_17 p).trans ((bu_ne hne).trans hp_12)
  have hl_17 := (congrFun e_17 l).trans (bu_self _ _ _)
  refine vr_aload_n hE dJ4_unlinkFirst_20 rfl ?_
  refine vr_aload_n hE dJ4_unlinkFirst_21 rfl ?_
  refine bc_put (z := 2) hE kc_J4 (by decide) q212 (Or.inl rfl) rfl hpl_17 rfl rfl (Nat.le_of_ble_eq_true rfl) dJ4_unlinkFirst_22 (by first | decide | omega) ?_
  refine bc_nm (fun M_22 e_22 => ?_)
  have hp_22 := (congrFun e_22 p).trans ((bu_ne (bc_dist hp_17 hpl_17 (bc_ci (by decide)))).trans hp_17)
  have hl_22 := (congrFun e_22 l).trans ((bu_ne (bc_dist hl_17 hpl_17 (bc_ci (by decide)))).trans hl_17)
  have hpl_22 := (congrFun e_22 pl).trans (bu_self _ _ _)
  refine vr_aload_n hE dJ4_unlinkFirst_25 rfl ?_
  refine vr_ifnonnull (tgt := 37) hE dJ4_unlinkFirst_26 (by decide) ?_
  refine vr_aload_n hE dJ4_unlinkFirst_37 rfl ?_
  refine vr_null hE dJ4_unlinkFirst_38 ?_
  refine bc_put (z := 2) hE kc_J27 (by decide) q1178 (Or.inl rfl) rfl hp_22 rfl rfl (Nat.le_of_ble_eq_true rfl) dJ4_unlinkFirst_39 (by first | decide | omega) ?_
  refine bc_nm (fun M_39 e_39 => ?_)
  have hl_39 := (congrFun e_39 l).trans ((bu_ne (Ne.symm hne)).trans hl_22)
  have hpl_39 := (congrFun e_39 pl).trans ((bu_ne (bc_dist hpl_22 hp_22 (bc_ci (by decide)))).trans hpl_22)
  have hp_39 := (congrFun e_39 p).trans (bu_self _ _ _)
  refine vr_aload_n hE dJ4_unlinkFirst_42 rfl ?_
  refine vr_dup hE dJ4_unlinkFirst_43 rfl ?_
  refine bc_get (z := 1) hE kc_J4 (by decide) q210 (Or.inl rfl) hpl_39 rfl dJ4_unlinkFirst_44 ?_
  refine vr_iconst (v := 1) hE dJ4_unlinkFirst_47 (by decide) ?_
  refine vr_isub hE dJ4_unlinkFirst_48 ?_
  refine bc_put (z := 1) hE kc_J4 (by decide) q210 (Or.inl rfl) rfl hpl_39 rfl rfl (Nat.le_of_ble_eq_true rfl) dJ4_unlinkFirst_49 (by first | decide | omega) ?_
  refine bc_nm (fun M_49 e_49 => ?_)
  have hl_49 := (congrFun e_49 l).trans ((bu_ne (bc_dist hl_39 hpl_39 (bc_ci (by decide)))).trans hl_39)
  have hp_49 := (congrFun e_49 p).trans ((bu_ne (bc_dist hp_39 hpl_39 (bc_ci (by decide)))).trans hp_39)
  have hpl_49 := (congrFun e_49 pl).trans (bu_self _ _ _)
  refine vr_aload_n hE dJ4_unlinkFirst_52 rfl ?_
  refine vr_dup hE dJ4_unlinkFirst_53 rfl ?_
  refine bc_get (z := 0) hE kc_J4 (by decide) q164 (Or.inr q160) hpl_49 rfl dJ4_unlinkFirst_54 ?_
  refine vr_iconst (v := 1) hE dJ4_unlinkFirst_57 (by decide) ?_
  refine vr_iadd hE dJ4_unlinkFirst_58 ?_
  refine bc_put (z := 0) hE kc_J4 (by decide) q164 (Or.inr q160) rfl hpl_49 rfl rfl (Nat.le_of_ble_eq_true rfl) dJ4_unlinkFirst_59 (by first | decide | omega) ?_
  refine bc_nm (fun M_59 e_59 => ?_)
  have hl_59 := (congrFun e_59 l).trans ((bu_ne (bc_dist hl_49 hpl_49 (bc_ci (by decide)))).trans hl_49)
  have hp_59 := (congrFun e_59 p).trans ((bu_ne (bc_dist hp_49 hpl_49 (bc_ci (by decide)))).trans hp_49)
  have hpl_59 := (congrFun e_59 pl).trans (bu_self _ _ _)
  refine vr_aload_n hE dJ4_unlinkFirst_62 rfl ?_
  refine vr_areturn hE hQ (Or.inl ⟨_, rfl⟩) (Or.inr ⟨_, rfl⟩) dJ4_unlinkFirst_63 (by decide) ⟨_, ?_, fun H h => hW _ H h⟩
  subst e_59
  subst e_49
  subst e_39
  subst e_22
  subst e_17
  subst e_12
  exact ⟨rfl, hpl_59, hp_59, fun y h1 h2 h3 => by simp only [bu_ne h1, bu_ne h2, bu_ne h3]⟩
theorem ok_J4_removeFirst : bi_ok yJ4_removeFirst RJ4 0 := by decide +kernel
theorem bk_J4_removeFirst {Y : bi_Y} (G : bi_GS Y) (M : va_M) (pl l x p : Nat) (la y nx : Value) (m z : Int32) (h_pl : M pl = some (.inr (19, llL m z (.ref l) la))) (h_l : M l = some (.inr (20, ndL (.ref x) (.ref p) .null))) (h_p : M p = some (.inr (20, ndL y nx (.ref l)))) (hne : p ≠ l) : bc_Met Y yJ4_removeFirst (ws_ yJ4_removeFirst cJ4_removeFirst 2 (some (.object "java/lang/Object"))) 1 23 0 0 M [.ref pl] (fun v M' => v = some (.ref x) ∧ M' pl = some (.inr (19, llL (m + 1) (z - 1) (.ref p) la)) ∧ M' p = some (.inr (20, ndL y nx .null)) ∧ ∀ y, y ≠ pl → y ≠ l → y ≠ p → M' y = M y) bi_nx := by
  refine bc_Met.of (own := RJ4) (L0 := [some (.ref pl), none]) rfl (by decide) G (Nat.le_of_ble_eq_true rfl) rfl (fun X A hE hQ hW hnl hnm => ?_)
  have hnl : ∀ q, q < 2 → q < bi_nL X := fun q h => by rw [hnl]; exact h
  refine vr_aload_n hE dJ4_removeFirst_0 rfl ?_
  refine bc_get (z := 2) hE kc_J4 (by decide) q212 (Or.inl rfl) h_pl rfl dJ4_removeFirst_1 ?_
  refine vr_astore_n hE dJ4_removeFirst_4 (hnl _ (by decide)) rfl ?_
  refine vr_aload_n hE dJ4_removeFirst_5 rfl ?_
  refine vr_ifnonnull (tgt := 17) hE dJ4_removeFirst_6 (by decide) ?_
  refine vr_aload_n hE dJ4_removeFirst_17 rfl ?_
  refine vr_aload_n hE dJ4_removeFirst_18 rfl ?_
  refine bc_callV hE (bk_J4_unlinkFirst G _ pl l x p la y nx m z h_pl h_l h_p hne) kc_J4 h_pl ok_J4_unlinkFirst (lw_V q1654 q1656 qs16 q77 q1657) rfl rfl (Nat.le_of_ble_eq_true rfl) (by decide) dJ4_removeFirst_19 (fun _ _ _ h => h.elim) ?_
  rintro v_19 M_19 ⟨rfl, h_19⟩
  refine vr_areturn hE hQ (Or.inl ⟨_, rfl⟩) (Or.inr ⟨_, rfl⟩) dJ4_removeFirst_22 (by decide) ⟨_, ?_, fun H h => hW _ H h⟩
  exact ⟨rfl, h_19⟩
theorem LL_add {Y : bi_Y} (G : bi_GS Y) (M : va_M) (pl k : Nat) (nd it : Nat → Nat) (hL : LLM M pl k nd it) (x : Nat) : bc_Met Y yJ4_addLast (ws_ yJ4_addLast cJ4_addLast 2 none) 3 74 1 3 M [.ref pl, .ref x] (fun v M' => v = none ∧ ∃ q, M q = none ∧ LLM M' pl (k + 1) (fun i => if i = k then q else nd i) (fun i => if i = k then x else it i) ∧ ∀ y e, M y = some e → ¬ flp pl k nd y → M' y = some e) bi_nx := by
  obtain ⟨⟨m, h1⟩, h2, h3⟩ := hL
  cases k with
  | zero =>
    refine (bk_J4_addLast0 G M pl x m (nI 0) h1).mono (fun v M' z => ?_) (fun q E M' z => z.elim)
    obtain ⟨hv, q, z1, z2, z3, z4⟩ := z
    refine ⟨hv, q, z1, ⟨⟨m + 1, ?_⟩, fun i hi => ?_, fun i j hi hj _ => by omega⟩, fun y e hy hn => ?_⟩
    · rw [z2]; rfl
    · obtain rfl : i = 0 := by omega
      exact z3
    · rw [z4 y (fun w => hn (Or.inl w)) (bc_new_ne hy z1)]; exact hy
  | succ k =>
    rw [if_neg (by omega), if_neg (by omega), Nat.add_sub_cancel] at h1
    have hl := h2 k (by omega)
    rw [if_pos rfl] at hl
    refine (bk_J4_addLast1 G M pl x (nd k) _ m _ h1 _ _ hl).mono (fun v M' z => ?_) (fun q E M' z => z.elim)
    obtain ⟨hv, q, z1, z2, z3, z4, z5⟩ := z
    have hq : ∀ i, i < k + 1 → nd i ≠ q := fun i hi => bc_new_ne (h2 i hi) z1
    refine ⟨hv, q, z1, ⟨⟨m + 1, ?_⟩, fun i hi => ?_, fun i j hi hj e => ?_⟩, fun y e hy hn => ?_⟩
    · rw [z2, if_neg (show ¬ k + 1 + 1 = 0 by omega), if_neg (show ¬ k + 1 + 1 = 0 by omega)]
      dsimp only
      rw [if_neg (show ¬ 0 = k + 1 by omega), if_pos (show k + 1 + 1 - 1 = k + 1 by omega), nI_1]
    · dsimp only
      by_cases hik : i = k + 1
      · subst hik
        rw [if_pos rfl, if_pos rfl, if_pos rfl, if_neg (show ¬ k + 1 = 0 by omega), Nat.add_sub_cancel, if_neg (show ¬ k = k + 1 by omega)]
        exact z3
      · rw [if_neg hik, if_neg hik, if_neg (show ¬ i + 1 = k + 1 + 1 by omega)]
        by_cases hk2 : i = k
        · subst hk2
          rw [z4, if_pos rfl]
          by_cases h0 : i = 0
          · rw [if_pos h0, if_pos h0]
          · rw [if_neg h0, if_neg h0, if_neg (by omega)]
        · rw [z5 (nd i) (bc_dist (h2 i (by omega)) h1 (bc_ci (by decide))) (hq i (by omega)) (fun w => hk2 (h3 i k (by omega) (by omega) w)), h2 i (by omega), if_neg (show ¬ i + 1 = k + 1 by omega), if_neg (show ¬ i + 1 = k + 1 by omega)]
          by_cases h0 : i = 0
          · rw [if_pos h0, if_pos h0]
          · rw [if_neg h0, if_neg h0, if_neg (by omega)]
    · by_cases hi9 : i = k + 1
      · by_cases hj9 : j = k + 1
        · omega
        · simp only [if_pos hi9, if_neg hj9] at e
          exact absurd e.symm (hq j (by omega))
      · by_cases hj9 : j = k + 1
        · simp only [if_neg hi9, if_pos hj9] at e
          exact absurd e (hq i (by omega))
        · simp only [if_neg hi9, if_neg hj9] at e
          exact h3 i j (by omega) (by omega) e
    · rw [z5 y (fun w => hn (Or.inl w)) (bc_new_ne hy z1) (fun w => hn (Or.inr ⟨k, by omega, w⟩))]; exact hy
theorem LL_removeLast {Y : bi_Y} (G : bi_GS Y) (M : va_M) (pl k : Nat) (nd it : Nat → Nat) (hL : LLM M pl (k + 1) nd it) : bc_Met Y yJ4_removeLast (ws_ yJ4_removeLast cJ4_removeLast 2 (some (.object "java/lang/Object"))) 1 23 0 0 M [.ref pl] (fun v M' => v = some (.ref (it k)) ∧ LLM M' pl k nd it ∧ ∀ y e, M y = some e → ¬ flp pl (k + 1) nd y → M' y = some e) bi_nx := by
  obtain ⟨⟨m, h1⟩, h2, h3⟩ := hL
  rw [if_neg (by omega), if_neg (by omega), Nat.add_sub_cancel] at h1
  have hl := h2 k (by omega)
  rw [if_pos rfl] at hl
  cases k with
  | zero =>
    rw [if_pos rfl] at hl
    refine (bk_J4_removeLast0 G M pl (nd 0) (it 0) m _ h1 hl).mono (fun v M' z => ?_) (fun q E M' z => z.elim)
    obtain ⟨hv, z2, z4⟩ := z
    refine ⟨hv, ⟨⟨m + 1, by rw [z2]; rfl⟩, fun i hi => by omega, fun i j hi => by omega⟩, fun y e hy hn => ?_⟩
    rw [z4 y (fun w => hn (Or.inl w)) (fun w => hn (Or.inr ⟨0, by omega, w⟩))]; exact hy
  | succ k =>
    rw [if_neg (by omega), Nat.add_sub_cancel] at hl
    have hp := h2 k (by omega)
    rw [if_neg (by omega)] at hp
    have hne : nd k ≠ nd (k + 1) := fun w => by have := h3 _ _ (by omega) (by omega) w; omega
    refine (bk_J4_removeLast1 G M pl (nd (k + 1)) (it (k + 1)) (nd k) _ _ _ m _ h1 hl hp hne).mono (fun v M' z => ?_) (fun q E M' z => z.elim)
    obtain ⟨hv, z2, z3, z4⟩ := z
    refine ⟨hv, ⟨⟨m + 1, ?_⟩, fun i hi => ?_, fun i j hi hj e => h3 i j (by omega) (by omega) e⟩, fun y e hy hn => ?_⟩
    · rw [z2, if_neg (by omega), if_neg (by omega), Nat.add_sub_cancel, nI_succ, Int32.add_sub_cancel]
    · by_cases hk2 : i = k
      · subst hk2
        rw [z3, if_pos rfl]
      · rw [z4 (nd i) (bc_dist (h2 i (by omega)) h1 (bc_ci (by decide))) (fun w => by have := h3 _ _ (by omega) (by omega) w; omega) (fun w => hk2 (h3 i k (by omega) (by omega) w)), h2 i (by omega), if_neg (show ¬ i + 1 = k + 1 + 1 by omega), if_neg (show ¬ i + 1 = k + 1 by omega)]
    · rw [z4 y (fun w => hn (Or.inl w)) (fun w => hn (Or.inr ⟨k + 1, by omega, w⟩)) (fun w => hn (Or.inr ⟨k, by omega, w⟩))]; exact hy
theorem LL_removeFirst {Y : bi_Y} (G : bi_GS Y) (M : va_M) (pl k : Nat) (nd it : Nat → Nat) (hL : LLM M pl (k + 2) nd it) : bc_Met Y yJ4_removeFirst (ws_ yJ4_removeFirst cJ4_removeFirst 2 (some (.object "java/lang/Object"))) 1 23 0 0 M [.ref pl] (fun v M' => v = some (.ref (it 0)) ∧ LLM M' pl (k + 1) (fun i => nd (i + 1)) (fun i => it (i + 1)) ∧ ∀ y e, M y = some e → ¬ flp pl (k + 2) nd y → M' y = some e) bi_nx := by
  obtain ⟨⟨m, h1⟩, h2, h3⟩ := hL
  rw [if_neg (by omega), if_neg (by omega), show k + 2 - 1 = k + 1 by omega] at h1
  have hl := h2 0 (by omega)
  rw [if_neg (by omega), if_pos rfl] at hl
  have hp := h2 1 (by omega)
  rw [if_neg (show ¬ 1 = 0 by omega)] at hp
  have hne : nd 1 ≠ nd 0 := fun w => by have := h3 _ _ (by omega) (by omega) w; omega
  refine (bk_J4_removeFirst G M pl (nd 0) (it 0) (nd 1) _ _ _ m _ h1 hl hp hne).mono (fun v M' z => ?_) (fun q E M' z => z.elim)
  obtain ⟨hv, z2, z3, z4⟩ := z
  refine ⟨hv, ⟨⟨m + 1, ?_⟩, fun i hi => ?_, fun i j hi hj e => by have := h3 (i + 1) (j + 1) (by omega) (by omega) e; omega⟩, fun y e hy hn => ?_⟩
  · rw [z2, if_neg (by omega), if_neg (by omega), Nat.add_sub_cancel, show k + 2 = (k + 1) + 1 from rfl, nI_succ (k + 1), Int32.add_sub_cancel]
  · by_cases h0 : i = 0
    · subst h0
      show M' (nd 1) = _
      rw [z3, if_pos (show 0 = 0 from rfl)]
      by_cases hk0 : k = 0
      · subst hk0; rfl
      · rw [if_neg (by omega), if_neg (by omega)]
    · show M' (nd (i + 1)) = _
      rw [z4 (nd (i + 1)) (bc_dist (h2 (i + 1) (by omega)) h1 (bc_ci (by decide))) (fun w => by have := h3 _ _ (by omega) (by omega) w; omega) (fun w => by have := h3 _ _ (by omega) (by omega) w; omega), h2 (i + 1) (by omega), if_neg (show ¬ i + 1 = 0 by omega), if_neg h0]
      dsimp only
      rw [show i - 1 + 1 = i + 1 - 1 by omega]
      by_cases hk0 : i + 1 = k + 1
      · rw [if_pos (by omega), if_pos hk0]
      · rw [if_neg (by omega), if_neg hk0]
  · rw [z4 y (fun w => hn (Or.inl w)) (fun w => hn (Or.inr ⟨0, by omega, w⟩)) (fun w => hn (Or.inr ⟨1, by omega, w⟩))]; exact hy
