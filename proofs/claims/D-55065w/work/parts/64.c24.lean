/-! the list cleared -/
set_option maxRecDepth 100000
theorem ok_J4_clear : bi_ok yJ4_clear RJ4 0 := by decide +kernel
theorem bk_J4_clear1 {Y : bi_Y} (G : bi_GS Y) (M : va_M) (pl k : Nat) (nd it : Nat → Nat) (m : Int32) (f0 l0 : Value) (hk0 : 0 < k) (hf0 : f0 = .ref (nd 0)) (h_pl : M pl = some (.inr (19, llL m (nI k) f0 l0))) (h2 : ∀ i, i < k → M (nd i) = some (.inr (20, ndL (.ref (it i)) (if i + 1 = k then .null else .ref (nd (i + 1))) (if i = 0 then .null else .ref (nd (i - 1)))))) (h3 : ∀ i j, i < k → j < k → nd i = nd j → i = j) : bc_Met Y yJ4_clear (ws_ yJ4_clear cJ4_clear 3 none) 0 0 0 0 M [.ref pl] (fun v M' => v = none ∧ LLM M' pl 0 nd it ∧ ∀ y e, M y = some e → ¬ flp pl k nd y → M' y = some e) bi_nx := by
  refine bc_Met.of (own := RJ4) (L0 := [some (.ref pl), none, none]) rfl (by decide) G (Nat.le_of_ble_eq_true rfl) rfl (fun X A hE hQ hW hnl hnm => ?_)
  have hnl : ∀ q, q < 3 → q < bi_nL X := fun q h => by rw [hnl]; exact h
  refine vr_aload_n hE dJ4_clear_0 rfl ?_
  subst hf0
  refine bc_get (z := 2) hE kc_J4 (by decide) q212 (Or.inl rfl) h_pl rfl dJ4_clear_1 ?_
  refine vr_astore_n hE dJ4_clear_4 (hnl _ (by decide)) rfl ?_
  have hlp : ∀ (c i : Nat) (M1 : va_M), i + c = k → M1 pl = some (.inr (19, llL m (nI k) (.ref (nd 0)) l0)) → (∀ j, i ≤ j → j < k → M1 (nd j) = some (.inr (20, ndL (.ref (it j)) (if j + 1 = k then .null else .ref (nd (j + 1))) (if j = 0 then .null else .ref (nd (j - 1)))))) → (∀ y e, M y = some e → ¬ flp pl k nd y → M1 y = some e) → bi_V Y.1 X (bc_W Y (bi_A X) M1) 0 0 5 [some (.ref pl), some (if i < k then .ref (nd i) else .null), none] [] := by
    intro c
    induction c with
    | zero =>
      intro i M1 hi hpl1 hnd1 hk1
      rw [if_neg (show ¬ i < k by omega)]
      refine vr_aload_nN hE dJ4_clear_5 rfl ?_
      refine vr_ifnullN (tgt := 34) hE dJ4_clear_6 (by decide) ?_
      refine vr_aload_n hE dJ4_clear_34 rfl ?_
      refine vr_aload_n hE dJ4_clear_35 rfl ?_
      refine vr_null hE dJ4_clear_36 ?_
      refine vr_dup_x1 hE dJ4_clear_37 rfl rfl ?_
      refine bc_put (z := 3) hE kc_J4 (by decide) q213 (Or.inl rfl) rfl hpl1 rfl rfl (Nat.le_of_ble_eq_true rfl) dJ4_clear_38 (by first | decide | omega) ?_
      refine bc_nm (fun M_38 e_38 => ?_)
      have hpl_38 := (congrFun e_38 pl).trans (bu_self _ _ _)
      refine bc_put (z := 2) hE kc_J4 (by decide) q212 (Or.inl rfl) rfl hpl_38 rfl rfl (Nat.le_of_ble_eq_true rfl) dJ4_clear_41 (by first | decide | omega) ?_
      refine bc_nm (fun M_41 e_41 => ?_)
      have hpl_41 := (congrFun e_41 pl).trans (bu_self _ _ _)
      refine vr_aload_n hE dJ4_clear_44 rfl ?_
      refine vr_iconst (v := 0) hE dJ4_clear_45 (by decide) ?_
      refine bc_put (z := 1) hE kc_J4 (by decide) q210 (Or.inl rfl) rfl hpl_41 rfl rfl (Nat.le_of_ble_eq_true rfl) dJ4_clear_46 (by first | decide | omega) ?_
      refine bc_nm (fun M_46 e_46 => ?_)
      have hpl_46 := (congrFun e_46 pl).trans (bu_self _ _ _)
      refine vr_aload_n hE dJ4_clear_49 rfl ?_
      refine vr_dup hE dJ4_clear_50 rfl ?_
      refine bc_get (z := 0) hE kc_J4 (by decide) q164 (Or.inr q160) hpl_46 rfl dJ4_clear_51 ?_
      refine vr_iconst (v := 1) hE dJ4_clear_54 (by decide) ?_
      refine vr_iadd hE dJ4_clear_55 ?_
      refine bc_put (z := 0) hE kc_J4 (by decide) q164 (Or.inr q160) rfl hpl_46 rfl rfl (Nat.le_of_ble_eq_true rfl) dJ4_clear_56 (by first | decide | omega) ?_
      refine bc_nm (fun M_56 e_56 => ?_)
      have hpl_56 := (congrFun e_56 pl).trans (bu_self _ _ _)
      refine vr_return hE hQ dJ4_clear_59 (by decide) ⟨_, ?_, fun H h => hW _ H h⟩
      refine ⟨rfl, ⟨⟨_, hpl_56⟩, fun i hi => by omega, fun i j hi => by omega⟩, fun y e hy hn => ?_⟩
      have hyp : y ≠ pl := fun w => hn (Or.inl w)
      simp only [e_56, e_46, e_41, e_38, bu_ne hyp]
      exact hk1 y e hy hn
    | succ c ih =>
      intro i M1 hi hpl1 hnd1 hk1
      have hx1 := hnd1 i (Nat.le_refl _) (by omega)
      rw [if_pos (show i < k by omega)]
      by_cases hz : i + 1 = k
      · rw [if_pos hz] at hx1
        refine vr_aload_n hE dJ4_clear_5 rfl ?_
        refine vr_ifnull hE dJ4_clear_6 ?_
        refine vr_aload_n hE dJ4_clear_9 rfl ?_
        refine bc_get (z := 1) hE kc_J27 (by decide) q1176 (Or.inl rfl) hx1 rfl dJ4_clear_10 ?_
        refine vr_astore_nN hE dJ4_clear_13 (hnl _ (by decide)) rfl ?_
        refine vr_aload_n hE dJ4_clear_14 rfl ?_
        refine vr_null hE dJ4_clear_15 ?_
        refine bc_put (z := 0) hE kc_J27 (by decide) q1173 (Or.inl rfl) rfl hx1 rfl rfl (Nat.le_of_ble_eq_true rfl) dJ4_clear_16 (by first | decide | omega) ?_
        refine bc_nm (fun M_16 e_16 => ?_)
        have hpl_16 := (congrFun e_16 pl).trans ((bu_ne (bc_dist hpl1 hx1 (bc_ci (by decide)))).trans hpl1)
        have h_nd_i__16 := (congrFun e_16 (nd i)).trans (bu_self _ _ _)
        refine vr_aload_n hE dJ4_clear_19 rfl ?_
        refine vr_null hE dJ4_clear_20 ?_
        refine bc_put (z := 1) hE kc_J27 (by decide) q1176 (Or.inl rfl) rfl h_nd_i__16 rfl rfl (Nat.le_of_ble_eq_true rfl) dJ4_clear_21 (by first | decide | omega) ?_
        refine bc_nm (fun M_21 e_21 => ?_)
        have hpl_21 := (congrFun e_21 pl).trans ((bu_ne (bc_dist hpl_16 h_nd_i__16 (bc_ci (by decide)))).trans hpl_16)
        have h_nd_i__21 := (congrFun e_21 (nd i)).trans (bu_self _ _ _)
        refine vr_aload_n hE dJ4_clear_24 rfl ?_
        refine vr_null hE dJ4_clear_25 ?_
        refine bc_put (z := 2) hE kc_J27 (by decide) q1178 (Or.inl rfl) rfl h_nd_i__21 rfl rfl (Nat.le_of_ble_eq_true rfl) dJ4_clear_26 (by first | decide | omega) ?_
        refine bc_nm (fun M_26 e_26 => ?_)
        have hpl_26 := (congrFun e_26 pl).trans ((bu_ne (bc_dist hpl_21 h_nd_i__21 (bc_ci (by decide)))).trans hpl_21)
        have h_nd_i__26 := (congrFun e_26 (nd i)).trans (bu_self _ _ _)
        refine vr_aload_nN hE dJ4_clear_29 rfl ?_
        refine vr_astore_nN hE dJ4_clear_30 (hnl _ (by decide)) rfl ?_
        refine vr_goto (tgt := 5) hE dJ4_clear_31 (by decide) ?_
        refine vr_drop 2 ?_
        have hz9 := ih (i + 1) M_26 (by omega) hpl_26 (fun j h1 h2 => by
          have hne : nd j ≠ nd i := fun w => by have := h3 j i (by omega) (by omega) w; omega
          simp only [e_26, e_21, e_16, bu_ne hne]
          exact hnd1 j (by omega) h2) (fun y e hy hn => by
          have hne : y ≠ nd i := fun w => hn (Or.inr ⟨i, by omega, w⟩)
          simp only [e_26, e_21, e_16, bu_ne hne]
          exact hk1 y e hy hn)
        rw [if_neg (show ¬ i + 1 < k by omega)] at hz9
        exact hz9
      · rw [if_neg hz] at hx1
        refine vr_aload_n hE dJ4_clear_5 rfl ?_
        refine vr_ifnull hE dJ4_clear_6 ?_
        refine vr_aload_n hE dJ4_clear_9 rfl ?_
        refine bc_get (z := 1) hE kc_J27 (by decide) q1176 (Or.inl rfl) hx1 rfl dJ4_clear_10 ?_
        refine vr_astore_n hE dJ4_clear_13 (hnl _ (by decide)) rfl ?_
        refine vr_aload_n hE dJ4_clear_14 rfl ?_
        refine vr_null hE dJ4_clear_15 ?_
        refine bc_put (z := 0) hE kc_J27 (by decide) q1173 (Or.inl rfl) rfl hx1 rfl rfl (Nat.le_of_ble_eq_true rfl) dJ4_clear_16 (by first | decide | omega) ?_
        refine bc_nm (fun M_16 e_16 => ?_)
        have hpl_16 := (congrFun e_16 pl).trans ((bu_ne (bc_dist hpl1 hx1 (bc_ci (by decide)))).trans hpl1)
        have h_nd_i__16 := (congrFun e_16 (nd i)).trans (bu_self _ _ _)
        refine vr_aload_n hE dJ4_clear_19 rfl ?_
        refine vr_null hE dJ4_clear_20 ?_
        refine bc_put (z := 1) hE kc_J27 (by decide) q1176 (Or.inl rfl) rfl h_nd_i__16 rfl rfl (Nat.le_of_ble_eq_true rfl) dJ4_clear_21 (by first | decide | omega) ?_
        refine bc_nm (fun M_21 e_21 => ?_)
        have hpl_21 := (congrFun e_21 pl).trans ((bu_ne (bc_dist hpl_16 h_nd_i__16 (bc_ci (by decide)))).trans hpl_16)
        have h_nd_i__21 := (congrFun e_21 (nd i)).trans (bu_self _ _ _)
        refine vr_aload_n hE dJ4_clear_24 rfl ?_
        refine vr_null hE dJ4_clear_25 ?_
        refine bc_put (z := 2) hE kc_J27 (by decide) q1178 (Or.inl rfl) rfl h_nd_i__21 rfl rfl (Nat.le_of_ble_eq_true rfl) dJ4_clear_26 (by first | decide | omega) ?_
        refine bc_nm (fun M_26 e_26 => ?_)
        have hpl_26 := (congrFun e_26 pl).trans ((bu_ne (bc_dist hpl_21 h_nd_i__21 (bc_ci (by decide)))).trans hpl_21)
        have h_nd_i__26 := (congrFun e_26 (nd i)).trans (bu_self _ _ _)
        refine vr_aload_n hE dJ4_clear_29 rfl ?_
        refine vr_astore_n hE dJ4_clear_30 (hnl _ (by decide)) rfl ?_
        refine vr_goto (tgt := 5) hE dJ4_clear_31 (by decide) ?_
        refine vr_drop 2 ?_
        have hz9 := ih (i + 1) M_26 (by omega) hpl_26 (fun j h1 h2 => by
          have hne : nd j ≠ nd i := fun w => by have := h3 j i (by omega) (by omega) w; omega
          simp only [e_26, e_21, e_16, bu_ne hne]
          exact hnd1 j (by omega) h2) (fun y e hy hn => by
          have hne : y ≠ nd i := fun w => hn (Or.inr ⟨i, by omega, w⟩)
          simp only [e_26, e_21, e_16, bu_ne hne]
          exact hk1 y e hy hn)
        rw [if_pos (show i + 1 < k by omega)] at hz9
        exact hz9
  have hz9 := hlp k 0 M (by omega) h_pl (fun j _ h => h2 j h) (fun y e hy _ => hy)
  rw [if_pos hk0] at hz9
  exact hz9
theorem bk_J4_clear0 {Y : bi_Y} (G : bi_GS Y) (M : va_M) (pl : Nat) (nd it : Nat → Nat) (m : Int32) (h_pl : M pl = some (.inr (19, llL m (nI 0) .null .null))) : bc_Met Y yJ4_clear (ws_ yJ4_clear cJ4_clear 3 none) 0 0 0 0 M [.ref pl] (fun v M' => v = none ∧ LLM M' pl 0 nd it ∧ ∀ y e, M y = some e → ¬ flp pl 0 nd y → M' y = some e) bi_nx := by
  refine bc_Met.of (own := RJ4) (L0 := [some (.ref pl), none, none]) rfl (by decide) G (Nat.le_of_ble_eq_true rfl) rfl (fun X A hE hQ hW hnl hnm => ?_)
  have hnl : ∀ q, q < 3 → q < bi_nL X := fun q h => by rw [hnl]; exact h
  refine vr_aload_n hE dJ4_clear_0 rfl ?_
  refine bc_get (z := 2) hE kc_J4 (by decide) q212 (Or.inl rfl) h_pl rfl dJ4_clear_1 ?_
  refine vr_astore_nN hE dJ4_clear_4 (hnl _ (by decide)) rfl ?_
  refine vr_aload_nN hE dJ4_clear_5 rfl ?_
  refine vr_ifnullN (tgt := 34) hE dJ4_clear_6 (by decide) ?_
  refine vr_aload_n hE dJ4_clear_34 rfl ?_
  refine vr_aload_n hE dJ4_clear_35 rfl ?_
  refine vr_null hE dJ4_clear_36 ?_
  refine vr_dup_x1 hE dJ4_clear_37 rfl rfl ?_
  refine bc_put (z := 3) hE kc_J4 (by decide) q213 (Or.inl rfl) rfl h_pl rfl rfl (Nat.le_of_ble_eq_true rfl) dJ4_clear_38 (by first | decide | omega) ?_
  refine bc_nm (fun M_38 e_38 => ?_)
  have hpl_38 := (congrFun e_38 pl).trans (bu_self _ _ _)
  refine bc_put (z := 2) hE kc_J4 (by decide) q212 (Or.inl rfl) rfl hpl_38 rfl rfl (Nat.le_of_ble_eq_true rfl) dJ4_clear_41 (by first | decide | omega) ?_
  refine bc_nm (fun M_41 e_41 => ?_)
  have hpl_41 := (congrFun e_41 pl).trans (bu_self _ _ _)
  refine vr_aload_n hE dJ4_clear_44 rfl ?_
  refine vr_iconst (v := 0) hE dJ4_clear_45 (by decide) ?_
  refine bc_put (z := 1) hE kc_J4 (by decide) q210 (Or.inl rfl) rfl hpl_41 rfl rfl (Nat.le_of_ble_eq_true rfl) dJ4_clear_46 (by first | decide | omega) ?_
  refine bc_nm (fun M_46 e_46 => ?_)
  have hpl_46 := (congrFun e_46 pl).trans (bu_self _ _ _)
  refine vr_aload_n hE dJ4_clear_49 rfl ?_
  refine vr_dup hE dJ4_clear_50 rfl ?_
  refine bc_get (z := 0) hE kc_J4 (by decide) q164 (Or.inr q160) hpl_46 rfl dJ4_clear_51 ?_
  refine vr_iconst (v := 1) hE dJ4_clear_54 (by decide) ?_
  refine vr_iadd hE dJ4_clear_55 ?_
  refine bc_put (z := 0) hE kc_J4 (by decide) q164 (Or.inr q160) rfl hpl_46 rfl rfl (Nat.le_of_ble_eq_true rfl) dJ4_clear_56 (by first | decide | omega) ?_
  refine bc_nm (fun M_56 e_56 => ?_)
  have hpl_56 := (congrFun e_56 pl).trans (bu_self _ _ _)
  refine vr_return hE hQ dJ4_clear_59 (by decide) ⟨_, ?_, fun H h => hW _ H h⟩
  refine ⟨rfl, ⟨⟨_, hpl_56⟩, fun i hi => by omega, fun i j hi => by omega⟩, fun y e hy hn => ?_⟩
  have hyp : y ≠ pl := fun w => hn (Or.inl w)
  simp only [e_56, e_46, e_41, e_38, bu_ne hyp]
  exact hy
theorem LL_clear {Y : bi_Y} (G : bi_GS Y) (M : va_M) (pl k : Nat) (nd it : Nat → Nat) (hL : LLM M pl k nd it) : bc_Met Y yJ4_clear (ws_ yJ4_clear cJ4_clear 3 none) 0 0 0 0 M [.ref pl] (fun v M' => v = none ∧ LLM M' pl 0 nd it ∧ ∀ y e, M y = some e → ¬ flp pl k nd y → M' y = some e) bi_nx := by
  obtain ⟨⟨m, h1⟩, h2, h3⟩ := hL
  cases k with
  | zero => exact bk_J4_clear0 G M pl nd it m h1
  | succ k =>
    rw [if_neg (by omega), if_neg (by omega)] at h1
    exact bk_J4_clear1 G M pl (k + 1) nd it m _ _ (by omega) rfl h1 h2 h3
theorem ok_J0_isEmpty : bi_ok yJ0_isEmpty RJ0 0 := by decide +kernel
theorem bk_J0_isEmpty_J4 {Y : bi_Y} (G : bi_GS Y) (M : va_M) (pl : Nat) (m z : Int32) (f l : Value) (h_pl : M pl = some (.inr (19, llL m z f l))) : bc_Met Y yJ0_isEmpty (ws_ yJ0_isEmpty cJ0_isEmpty 1 (some .boolean)) 1 20 0 0 M [.ref pl] (fun v M' => v = some (.int (if ¬ z = 0 then 0 else 1)) ∧ M' = M) bi_nx := by
  refine bc_Met.of (own := RJ0) (L0 := [some (.ref pl)]) rfl (by decide) G (Nat.le_of_ble_eq_true rfl) rfl (fun X A hE hQ hW hnl hnm => ?_)
  have hnl : ∀ q, q < 1 → q < bi_nL X := fun q h => by rw [hnl]; exact h
  refine vr_aload_n hE dJ0_isEmpty_0 rfl ?_
  refine bc_callU (ar := 0) hE (bk_J4_size G _ pl m z f l h_pl) kc_J4 h_pl q844 ⟨by decide, by decide, by decide +kernel⟩ (lw_U q2481 q2912 q2914 q833 q77 q835) rfl rfl (Nat.le_of_ble_eq_true rfl) (by decide) dJ0_isEmpty_1 (fun _ _ _ h => h.elim) ?_
  rintro v_1 M_1 ⟨rfl, hu_1⟩
  obtain rfl := hu_1.symm
  apply vt_if_ne (tgt := 11) (J := 12) hE dJ0_isEmpty_4 (by decide)
  · intro c_4 kt1
    refine vr_iconst (v := 0) hE dJ0_isEmpty_11 (by decide) ?_
    exact kt1
  · intro c_4 kf1
    refine vr_iconst (v := 1) hE dJ0_isEmpty_7 (by decide) ?_
    refine vr_goto (tgt := 12) hE dJ0_isEmpty_8 (by decide) ?_
    exact kf1
  refine vr_ireturn hE hQ (by split <;> rfl) dJ0_isEmpty_12 (by decide) ⟨_, ?_, fun H h => hW _ H h⟩
  exact ⟨rfl, rfl⟩
