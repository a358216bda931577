/-! a list grown, whatever it held -/
set_option maxRecDepth 100000
theorem lsf_0 (tr : Nat → Nat) : lsf tr 0 = fun _ => none := funext fun j => if_neg (Nat.not_lt_zero j)
theorem bk_J2_addXS {Y : bi_Y} (G : bi_GS Y) (M : va_M) (l ed n : Nat) (mc : Int32) (h_l : M l = some (.inr (18, alL mc ed n))) (tr : Nat → Nat) (hn0 : 0 < n) (h_ed : M ed = some (eQ Y 10 (lsf tr n))) (hn : n < 10) (e ci Nc : Nat) (C : String) (T : u_T) (ty : Nat → FieldType) (vs : List Value) (hC : bc_C ci C T Nc ty) (hca : Cond.castable C "java/lang/Object" ∈ lw_tbl) (h_e : M e = some (.inr (ci, vs))) (hel : e ≠ l) : bc_Met Y yJ2_add (ws_ yJ2_add cJ2_add 2 (some .boolean)) 4 94 1 10 M [.ref l, .ref e] (fun v M' => ∃ te', v = some (.int 1) ∧ ((0 < n ∧ te' = ed) ∨ (n = 0 ∧ M te' = none)) ∧ M' = bu (bu M te' (eQ Y 10 (va_up (lsf tr n) n (some e)))) l (.inr (18, alL (mc + 1) te' (n + 1)))) bi_nx := by
  refine bc_Met.of (own := RJ2) (L0 := [some (.ref l), some (.ref e)]) rfl (by decide) G (Nat.le_of_ble_eq_true rfl) rfl (fun X A hE hQ hW hnl hnm => ?_)
  have hnl : ∀ q, q < 2 → q < bi_nL X := fun q h => by rw [hnl]; exact h
  refine vr_aload_n hE dJ2_add_0 rfl ?_
  refine vr_dup hE dJ2_add_1 rfl ?_
  refine bc_get (z := 0) hE kc_J2 (by decide) q165 (Or.inr q162) h_l rfl dJ2_add_2 ?_
  refine vr_iconst (v := 1) hE dJ2_add_5 (by decide) ?_
  refine vr_iadd hE dJ2_add_6 ?_
  refine bc_put (z := 0) hE kc_J2 (by decide) q165 (Or.inr q162) rfl h_l rfl rfl (Nat.le_of_ble_eq_true rfl) dJ2_add_7 (by first | decide | omega) ?_
  refine bc_nm (fun M_7 e_7 => ?_)
  have hed_7 := (congrFun e_7 ed).trans ((bu_ne (bc_dist h_ed h_l bc_io)).trans h_ed)
  have he_7 := (congrFun e_7 e).trans ((bu_ne hel).trans h_e)
  have hl_7 := (congrFun e_7 l).trans (bu_self _ _ _)
  refine vr_aload_n hE dJ2_add_10 rfl ?_
  refine vr_aload_n hE dJ2_add_11 rfl ?_
  refine vr_aload_n hE dJ2_add_12 rfl ?_
  refine bc_get (z := 1) hE kc_J2 (by decide) q154 (Or.inl rfl) hl_7 rfl dJ2_add_13 ?_
  refine vr_aload_n hE dJ2_add_16 rfl ?_
  refine bc_get (z := 2) hE kc_J2 (by decide) q157 (Or.inl rfl) hl_7 rfl dJ2_add_17 ?_
  refine bc_callV hE (bk_J2_add2S G _ l ed n _ hl_7 (lsf tr n) hed_7 hn e ci Nc C T ty vs hC hca he_7 hel) kc_J2 hl_7 ok_J2_add_2 (lw_V q1131 q1133 qs11 q75 q1134) rfl rfl (Nat.le_of_ble_eq_true rfl) (by decide) dJ2_add_20 (fun _ _ _ h => h.elim) ?_
  rintro v_20 M_20 ⟨rfl, e_20⟩
  refine vr_iconst (v := 1) hE dJ2_add_23 (by decide) ?_
  refine vr_ireturn hE hQ rfl dJ2_add_24 (by decide) ⟨_, ?_, fun H h => hW _ H h⟩
  subst e_20
  subst e_7
  exact ⟨ed, rfl, Or.inl ⟨hn0, rfl⟩, by rw [bu_comm (M := M) _ _ (bc_dist h_l h_ed bc_oi), bu_bu] <;> rfl⟩
theorem bk_J2_addX0 {Y : bi_Y} (G : bi_GS Y) (M : va_M) (l ed n : Nat) (mc : Int32) (hn0 : n = 0) (h_l : M l = some (.inr (18, alL mc ed 0))) (hea : isEA Y ed) (tr : Nat → Nat) (e ci Nc : Nat) (C : String) (T : u_T) (ty : Nat → FieldType) (vs : List Value) (hC : bc_C ci C T Nc ty) (hca : Cond.castable C "java/lang/Object" ∈ lw_tbl) (h_e : M e = some (.inr (ci, vs))) (hel : e ≠ l) : bc_Met Y yJ2_add (ws_ yJ2_add cJ2_add 2 (some .boolean)) 4 94 1 10 M [.ref l, .ref e] (fun v M' => ∃ te', v = some (.int 1) ∧ ((0 < n ∧ te' = ed) ∨ (n = 0 ∧ M te' = none)) ∧ M' = bu (bu M te' (eQ Y 10 (va_up (lsf tr n) n (some e)))) l (.inr (18, alL (mc + 1) te' (n + 1)))) bi_nx := by
  refine bc_Met.of (own := RJ2) (L0 := [some (.ref l), some (.ref e)]) rfl (by decide) G (Nat.le_of_ble_eq_true rfl) rfl (fun X A hE hQ hW hnl hnm => ?_)
  have hnl : ∀ q, q < 2 → q < bi_nL X := fun q h => by rw [hnl]; exact h
  refine vr_aload_n hE dJ2_add_0 rfl ?_
  refine vr_dup hE dJ2_add_1 rfl ?_
  refine bc_get (z := 0) hE kc_J2 (by decide) q165 (Or.inr q162) h_l rfl dJ2_add_2 ?_
  refine vr_iconst (v := 1) hE dJ2_add_5 (by decide) ?_
  refine vr_iadd hE dJ2_add_6 ?_
  refine bc_put (z := 0) hE kc_J2 (by decide) q165 (Or.inr q162) rfl h_l rfl rfl (Nat.le_of_ble_eq_true rfl) dJ2_add_7 (by first | decide | omega) ?_
  refine bc_nm (fun M_7 e_7 => ?_)
  have he_7 := (congrFun e_7 e).trans ((bu_ne hel).trans h_e)
  have hl_7 := (congrFun e_7 l).trans (bu_self _ _ _)
  refine vr_aload_n hE dJ2_add_10 rfl ?_
  refine vr_aload_n hE dJ2_add_11 rfl ?_
  refine vr_aload_n hE dJ2_add_12 rfl ?_
  refine bc_get (z := 1) hE kc_J2 (by decide) q154 (Or.inl rfl) hl_7 rfl dJ2_add_13 ?_
  refine vr_aload_n hE dJ2_add_16 rfl ?_
  refine bc_get (z := 2) hE kc_J2 (by decide) q157 (Or.inl rfl) hl_7 rfl dJ2_add_17 ?_
  refine bc_callV hE (bk_J2_add20 G _ l ed _ hl_7 hea e ci Nc C T ty vs hC hca he_7 hel) kc_J2 hl_7 ok_J2_add_2 (lw_V q1131 q1133 qs11 q75 q1134) rfl rfl (Nat.le_of_ble_eq_true rfl) (by decide) dJ2_add_20 (fun _ _ _ h => h.elim) ?_
  rintro v_20 M_20 ⟨q, rfl, hn_20, hql, e_20⟩
  have hn_q : M q = none := by
    have z := hn_20
    rw [e_7, bu_ne hql] at z
    exact z
  refine vr_iconst (v := 1) hE dJ2_add_23 (by decide) ?_
  refine vr_ireturn hE hQ rfl dJ2_add_24 (by decide) ⟨_, ?_, fun H h => hW _ H h⟩
  subst e_20
  subst e_7
  exact ⟨q, rfl, Or.inr ⟨hn0, hn_q⟩, by subst hn0; rw [lsf_0, bu_comm (M := M) _ _ (Ne.symm hql), bu_bu] <;> rfl⟩
theorem bk_J2_addX {Y : bi_Y} (G : bi_GS Y) (M : va_M) (l ed n : Nat) (mc : Int32) (h_l : M l = some (.inr (18, alL mc ed n))) (tr : Nat → Nat) (hte : lsM Y M ed n tr) (hn : n < 10) (e ci Nc : Nat) (C : String) (T : u_T) (ty : Nat → FieldType) (vs : List Value) (hC : bc_C ci C T Nc ty) (hca : Cond.castable C "java/lang/Object" ∈ lw_tbl) (h_e : M e = some (.inr (ci, vs))) (hel : e ≠ l) : bc_Met Y yJ2_add (ws_ yJ2_add cJ2_add 2 (some .boolean)) 4 94 1 10 M [.ref l, .ref e] (fun v M' => ∃ te', v = some (.int 1) ∧ ((0 < n ∧ te' = ed) ∨ (n = 0 ∧ M te' = none)) ∧ M' = bu (bu M te' (eQ Y 10 (va_up (lsf tr n) n (some e)))) l (.inr (18, alL (mc + 1) te' (n + 1)))) bi_nx := by
  rcases hte with ⟨hn0, hea⟩ | ⟨hn0, h_ed⟩
  · exact bk_J2_addX0 G M l ed n mc hn0 (by rw [h_l, hn0]) hea tr e ci Nc C T ty vs hC hca h_e hel
  · exact bk_J2_addXS G M l ed n mc h_l tr hn0 h_ed hn e ci Nc C T ty vs hC hca h_e hel
theorem ok_J26_requireNonNull : bi_ok yJ26_requireNonNull RJ26 1 := by decide +kernel
theorem bk_J26_requireNonNull {Y : bi_Y} (G : bi_GS Y) (M : va_M) (x : Nat) : bc_Met Y yJ26_requireNonNull (ws_ yJ26_requireNonNull cJ26_requireNonNull 1 (some (.object "java/lang/Object"))) 0 0 0 0 M [.ref x] (fun v M' => v = some (.ref x) ∧ M' = M) bi_nx := by
  refine bc_Met.of (own := RJ26) (L0 := [some (.ref x)]) rfl (by decide) G (Nat.le_of_ble_eq_true rfl) rfl (fun X A hE hQ hW hnl hnm => ?_)
  have hnl : ∀ q, q < 1 → q < bi_nL X := fun q h => by rw [hnl]; exact h
  refine vr_aload_n hE dJ26_requireNonNull_0 rfl ?_
  refine vr_ifnonnull (tgt := 12) hE dJ26_requireNonNull_1 (by decide) ?_
  refine vr_aload_n hE dJ26_requireNonNull_12 rfl ?_
  refine vr_areturn hE hQ (Or.inl ⟨_, rfl⟩) (Or.inr ⟨_, rfl⟩) dJ26_requireNonNull_13 (by decide) ⟨_, ?_, fun H h => hW _ H h⟩
  exact ⟨rfl, rfl⟩
