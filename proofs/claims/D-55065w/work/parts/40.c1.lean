/-! the component's weights and traders, walked -/
set_option maxRecDepth 100000
abbrev tL (nu fa co de er dr se sh fn ic : Int32) (r : Nat) : List Value := [.int nu, .int fa, .int co, .int de, .int er, .int dr, .int se, .int sh, .int fn, .int ic, .ref r]
abbrev rL (ra fi tl wl : Nat) (dy ip ls : Int32) : List Value := [.ref ra, .ref fi, .ref tl, .ref wl, .int dy, .int ip, .int ls]
abbrev bL (nu oz we us : Int32) : List Value := [.int nu, .int oz, .int we, .int us]
theorem ok_X7_number : bi_ok yX7_number RX7 0 := by decide +kernel
theorem bk_X7_number {Y : bi_Y} (G : bi_GS Y) (M : va_M) (b : Nat) (nb oz we us : Int32) (h_b : M b = some (.inr (4, bL nb oz we us))) : bc_Met Y yX7_number (ws_ yX7_number cX7_number 1 (some .int)) 0 0 0 0 M [.ref b] (fun v M' => v = some (.int nb) ∧ M' = M) bi_nx := by
  refine bc_Met.of (own := RX7) (L0 := [some (.ref b)]) rfl (by decide) G (Nat.le_of_ble_eq_true rfl) rfl (fun X A hE hQ hW hnl hnm => ?_)
  have hnl : ∀ q, q < 1 → q < bi_nL X := fun q h => by rw [hnl]; exact h
  refine vr_aload_n hE dX7_number_0 rfl ?_
  refine bc_get (z := 0) hE kc_X7 (by decide) q1197 (Or.inl rfl) h_b rfl dX7_number_1 ?_
  refine vr_ireturn hE hQ rfl dX7_number_4 (by decide) ⟨_, ?_, fun H h => hW _ H h⟩
  exact ⟨rfl, rfl⟩
theorem ok_X7_ounces : bi_ok yX7_ounces RX7 0 := by decide +kernel
theorem bk_X7_ounces {Y : bi_Y} (G : bi_GS Y) (M : va_M) (b : Nat) (nb oz we us : Int32) (h_b : M b = some (.inr (4, bL nb oz we us))) : bc_Met Y yX7_ounces (ws_ yX7_ounces cX7_ounces 1 (some .int)) 0 0 0 0 M [.ref b] (fun v M' => v = some (.int oz) ∧ M' = M) bi_nx := by
  refine bc_Met.of (own := RX7) (L0 := [some (.ref b)]) rfl (by decide) G (Nat.le_of_ble_eq_true rfl) rfl (fun X A hE hQ hW hnl hnm => ?_)
  have hnl : ∀ q, q < 1 → q < bi_nL X := fun q h => by rw [hnl]; exact h
  refine vr_aload_n hE dX7_ounces_0 rfl ?_
  refine bc_get (z := 1) hE kc_X7 (by decide) q1198 (Or.inl rfl) h_b rfl dX7_ounces_1 ?_
  refine vr_ireturn hE hQ rfl dX7_ounces_4 (by decide) ⟨_, ?_, fun H h => hW _ H h⟩
  exact ⟨rfl, rfl⟩
theorem ok_X7_wear : bi_ok yX7_wear RX7 0 := by decide +kernel
theorem bk_X7_wear {Y : bi_Y} (G : bi_GS Y) (M : va_M) (b : Nat) (nb oz we us : Int32) (h_b : M b = some (.inr (4, bL nb oz we us))) : bc_Met Y yX7_wear (ws_ yX7_wear cX7_wear 1 (some .int)) 0 0 0 0 M [.ref b] (fun v M' => v = some (.int we) ∧ M' = M) bi_nx := by
  refine bc_Met.of (own := RX7) (L0 := [some (.ref b)]) rfl (by decide) G (Nat.le_of_ble_eq_true rfl) rfl (fun X A hE hQ hW hnl hnm => ?_)
  have hnl : ∀ q, q < 1 → q < bi_nL X := fun q h => by rw [hnl]; exact h
  refine vr_aload_n hE dX7_wear_0 rfl ?_
  refine bc_get (z := 2) hE kc_X7 (by decide) q1199 (Or.inl rfl) h_b rfl dX7_wear_1 ?_
  refine vr_ireturn hE hQ rfl dX7_wear_4 (by decide) ⟨_, ?_, fun H h => hW _ H h⟩
  exact ⟨rfl, rfl⟩
theorem ok_X7_uses : bi_ok yX7_uses RX7 0 := by decide +kernel
theorem bk_X7_uses {Y : bi_Y} (G : bi_GS Y) (M : va_M) (b : Nat) (nb oz we us : Int32) (h_b : M b = some (.inr (4, bL nb oz we us))) : bc_Met Y yX7_uses (ws_ yX7_uses cX7_uses 1 (some .int)) 0 0 0 0 M [.ref b] (fun v M' => v = some (.int us) ∧ M' = M) bi_nx := by
  refine bc_Met.of (own := RX7) (L0 := [some (.ref b)]) rfl (by decide) G (Nat.le_of_ble_eq_true rfl) rfl (fun X A hE hQ hW hnl hnm => ?_)
  have hnl : ∀ q, q < 1 → q < bi_nL X := fun q h => by rw [hnl]; exact h
  refine vr_aload_n hE dX7_uses_0 rfl ?_
  refine bc_get (z := 3) hE kc_X7 (by decide) q1200 (Or.inl rfl) h_b rfl dX7_uses_1 ?_
  refine vr_ireturn hE hQ rfl dX7_uses_4 (by decide) ⟨_, ?_, fun H h => hW _ H h⟩
  exact ⟨rfl, rfl⟩
theorem ok_X7_isUsed : bi_ok yX7_isUsed RX7 0 := by decide +kernel
theorem bk_X7_isUsed {Y : bi_Y} (G : bi_GS Y) (M : va_M) (b : Nat) (nb oz we us : Int32) (h_b : M b = some (.inr (4, bL nb oz we us))) : bc_Met Y yX7_isUsed (ws_ yX7_isUsed cX7_isUsed 1 none) 0 0 0 0 M [.ref b] (fun v M' => v = none ∧ M' = bu M b (.inr (4, bL nb oz (we + (if ¬ jmod (oz + (us + 1)) 4 = 0 then 0 else 1)) (us + 1)))) bi_nx := by
  refine bc_Met.of (own := RX7) (L0 := [some (.ref b)]) rfl (by decide) G (Nat.le_of_ble_eq_true rfl) rfl (fun X A hE hQ hW hnl hnm => ?_)
  have hnl : ∀ q, q < 1 → q < bi_nL X := fun q h => by rw [hnl]; exact h
  refine vr_aload_n hE dX7_isUsed_0 rfl ?_
  refine vr_dup hE dX7_isUsed_1 rfl ?_
  refine bc_get (z := 3) hE kc_X7 (by decide) q1200 (Or.inl rfl) h_b rfl dX7_isUsed_2 ?_
  refine vr_iconst (v := 1) hE dX7_isUsed_5 (by decide) ?_
  refine vr_iadd hE dX7_isUsed_6 ?_
  refine bc_put (z := 3) hE kc_X7 (by decide) q1200 (Or.inl rfl) rfl h_b rfl rfl (Nat.le_of_ble_eq_true rfl) dX7_isUsed_7 (by first | decide | omega) ?_
  refine bc_nm (fun M_7 e_7 => ?_)
  have hb_7 := (congrFun e_7 b).trans (bu_self _ _ _)
  refine vr_aload_n hE dX7_isUsed_10 rfl ?_
  refine vr_dup hE dX7_isUsed_11 rfl ?_
  refine bc_get (z := 2) hE kc_X7 (by decide) q1199 (Or.inl rfl) hb_7 rfl dX7_isUsed_12 ?_
  refine vr_aload_n hE dX7_isUsed_15 rfl ?_
  refine bc_get (z := 1) hE kc_X7 (by decide) q1198 (Or.inl rfl) hb_7 rfl dX7_isUsed_16 ?_
  refine vr_aload_n hE dX7_isUsed_19 rfl ?_
  refine bc_get (z := 3) hE kc_X7 (by decide) q1200 (Or.inl rfl) hb_7 rfl dX7_isUsed_20 ?_
  refine vr_iadd hE dX7_isUsed_23 ?_
  refine vr_iconst (v := 4) hE dX7_isUsed_24 (by decide) ?_
  refine vr_irem hE dX7_isUsed_25 (by decide) ?_
  apply vt_if_ne (tgt := 33) (J := 34) hE dX7_isUsed_26 (by decide)
  · intro c_26 kt1
    refine vr_iconst (v := 0) hE dX7_isUsed_33 (by decide) ?_
    exact kt1
  · intro c_26 kf1
    refine vr_iconst (v := 1) hE dX7_isUsed_29 (by decide) ?_
    refine vr_goto (tgt := 34) hE dX7_isUsed_30 (by decide) ?_
    exact kf1
  refine vr_iadd hE dX7_isUsed_34 ?_
  refine bc_put (z := 2) hE kc_X7 (by decide) q1199 (Or.inl rfl) rfl hb_7 rfl rfl (Nat.le_of_ble_eq_true rfl) dX7_isUsed_35 (by first | decide | omega) ?_
  refine bc_nm (fun M_35 e_35 => ?_)
  have hb_35 := (congrFun e_35 b).trans (bu_self _ _ _)
  refine vr_return hE hQ dX7_isUsed_38 (by decide) ⟨_, ?_, fun H h => hW _ H h⟩
  subst e_35
  subst e_7
  exact ⟨rfl, by first | rfl | (simp only [bu_bu] <;> rfl)⟩
theorem ok_X7_renewed : bi_ok yX7_renewed RX7 0 := by decide +kernel
theorem bk_X7_renewed {Y : bi_Y} (G : bi_GS Y) (M : va_M) (b : Nat) (nb oz we us : Int32) (h_b : M b = some (.inr (4, bL nb oz we us))) : bc_Met Y yX7_renewed (ws_ yX7_renewed cX7_renewed 2 (some .int)) 0 0 0 0 M [.ref b] (fun v M' => v = some (.int we) ∧ M' = bu M b (.inr (4, bL nb oz 0 us))) bi_nx := by
  refine bc_Met.of (own := RX7) (L0 := [some (.ref b), none]) rfl (by decide) G (Nat.le_of_ble_eq_true rfl) rfl (fun X A hE hQ hW hnl hnm => ?_)
  have hnl : ∀ q, q < 2 → q < bi_nL X := fun q h => by rw [hnl]; exact h
  refine vr_aload_n hE dX7_renewed_0 rfl ?_
  refine bc_get (z := 2) hE kc_X7 (by decide) q1199 (Or.inl rfl) h_b rfl dX7_renewed_1 ?_
  refine vr_istore_n hE dX7_renewed_4 (hnl _ (by decide)) rfl ?_
  refine vr_aload_n hE dX7_renewed_5 rfl ?_
  refine vr_iconst (v := 0) hE dX7_renewed_6 (by decide) ?_
  refine bc_put (z := 2) hE kc_X7 (by decide) q1199 (Or.inl rfl) rfl h_b rfl rfl (Nat.le_of_ble_eq_true rfl) dX7_renewed_7 (by first | decide | omega) ?_
  refine bc_nm (fun M_7 e_7 => ?_)
  have hb_7 := (congrFun e_7 b).trans (bu_self _ _ _)
  refine vr_iload_n hE dX7_renewed_10 rfl ?_
  refine vr_ireturn hE hQ rfl dX7_renewed_11 (by decide) ⟨_, ?_, fun H h => hW _ H h⟩
  subst e_7
  exact ⟨rfl, by first | rfl | (simp only [bu_bu] <;> rfl)⟩
theorem ok_X7_isBetter : bi_ok yX7_isBetter RX7 1 := by decide +kernel
theorem bk_X7_isBetter {Y : bi_Y} (G : bi_GS Y) (M : va_M) (b : Nat) (nb oz we us : Int32) (h_b : M b = some (.inr (4, bL nb oz we us))) (b2 : Nat) (nb2 oz2 we2 us2 : Int32) (h_b2 : M b2 = some (.inr (4, bL nb2 oz2 we2 us2))) : bc_Met Y yX7_isBetter (ws_ yX7_isBetter cX7_isBetter 2 (some .boolean)) 0 0 0 0 M [.ref b, .ref b2] (fun v M' => v = some (.int (if we = we2 then (if oz ≤ oz2 then 0 else 1) else if we2 ≤ we then 0 else 1)) ∧ M' = M) bi_nx := by
  refine bc_Met.of (own := RX7) (L0 := [some (.ref b), some (.ref b2)]) rfl (by decide) G (Nat.le_of_ble_eq_true rfl) rfl (fun X A hE hQ hW hnl hnm => ?_)
  have hnl : ∀ q, q < 2 → q < bi_nL X := fun q h => by rw [hnl]; exact h
  refine vr_aload_n hE dX7_isBetter_0 rfl ?_
  refine bc_get (z := 2) hE kc_X7 (by decide) q1199 (Or.inl rfl) h_b rfl dX7_isBetter_1 ?_
  refine vr_aload_n hE dX7_isBetter_4 rfl ?_
  refine bc_get (z := 2) hE kc_X7 (by decide) q1199 (Or.inl rfl) h_b2 rfl dX7_isBetter_5 ?_
  refine vr_icmp_eq (tgt := 28) hE dX7_isBetter_8 (by decide) (fun c_8 => ?_) (fun c_8 => ?_)
  · skip
    refine vr_aload_n hE dX7_isBetter_28 rfl ?_
    refine bc_get (z := 1) hE kc_X7 (by decide) q1198 (Or.inl rfl) h_b rfl dX7_isBetter_29 ?_
    refine vr_aload_n hE dX7_isBetter_32 rfl ?_
    refine bc_get (z := 1) hE kc_X7 (by decide) q1198 (Or.inl rfl) h_b2 rfl dX7_isBetter_33 ?_
    apply vt_icmp_le (tgt := 43) (J := 44) hE dX7_isBetter_36 (by decide)
    · intro c_36 kt1
      refine vr_iconst (v := 0) hE dX7_isBetter_43 (by decide) ?_
      exact kt1
    · intro c_36 kf1
      refine vr_iconst (v := 1) hE dX7_isBetter_39 (by decide) ?_
      refine vr_goto (tgt := 44) hE dX7_isBetter_40 (by decide) ?_
      exact kf1
    refine vr_to (w := .int (if we = we2 then (if oz ≤ oz2 then 0 else 1) else if we2 ≤ we then 0 else 1)) (by rw [if_pos c_8]) ?_
    refine vr_ireturn hE hQ (by split <;> split <;> rfl) dX7_isBetter_44 (by decide) ⟨_, ?_, fun H h => hW _ H h⟩
    exact ⟨rfl, rfl⟩
  · skip
    refine vr_aload_n hE dX7_isBetter_11 rfl ?_
    refine bc_get (z := 2) hE kc_X7 (by decide) q1199 (Or.inl rfl) h_b rfl dX7_isBetter_12 ?_
    refine vr_aload_n hE dX7_isBetter_15 rfl ?_
    refine bc_get (z := 2) hE kc_X7 (by decide) q1199 (Or.inl rfl) h_b2 rfl dX7_isBetter_16 ?_
    apply vt_icmp_ge (tgt := 26) (J := 27) hE dX7_isBetter_19 (by decide)
    · intro c_19 kt2
      refine vr_iconst (v := 0) hE dX7_isBetter_26 (by decide) ?_
      exact kt2
    · intro c_19 kf2
      refine vr_iconst (v := 1) hE dX7_isBetter_22 (by decide) ?_
      refine vr_goto (tgt := 27) hE dX7_isBetter_23 (by decide) ?_
      exact kf2
    refine vr_to (w := .int (if we = we2 then (if oz ≤ oz2 then 0 else 1) else if we2 ≤ we then 0 else 1)) (by rw [if_neg c_8]) ?_
    refine vr_ireturn hE hQ (by split <;> split <;> rfl) dX7_isBetter_27 (by decide) ⟨_, ?_, fun H h => hW _ H h⟩
    exact ⟨rfl, rfl⟩
theorem ok_X6_number : bi_ok yX6_number RX6 0 := by decide +kernel
theorem bk_X6_number {Y : bi_Y} (G : bi_GS Y) (M : va_M) (a r : Nat) (nu fa co de er dr se sh fn ic : Int32) (h_a : M a = some (.inr (3, tL nu fa co de er dr se sh fn ic r))) : bc_Met Y yX6_number (ws_ yX6_number cX6_number 1 (some .int)) 0 0 0 0 M [.ref a] (fun v M' => v = some (.int nu) ∧ M' = M) bi_nx := by
  refine bc_Met.of (own := RX6) (L0 := [some (.ref a)]) rfl (by decide) G (Nat.le_of_ble_eq_true rfl) rfl (fun X A hE hQ hW hnl hnm => ?_)
  have hnl : ∀ q, q < 1 → q < bi_nL X := fun q h => by rw [hnl]; exact h
  refine vr_aload_n hE dX6_number_0 rfl ?_
  refine bc_get (z := 0) hE kc_X6 (by decide) q1088 (Or.inl rfl) h_a rfl dX6_number_1 ?_
  refine vr_ireturn hE hQ rfl dX6_number_4 (by decide) ⟨_, ?_, fun H h => hW _ H h⟩
  exact ⟨rfl, rfl⟩
theorem ok_X6_fair : bi_ok yX6_fair RX6 0 := by decide +kernel
theorem bk_X6_fair {Y : bi_Y} (G : bi_GS Y) (M : va_M) (a r : Nat) (nu fa co de er dr se sh fn ic : Int32) (h_a : M a = some (.inr (3, tL nu fa co de er dr se sh fn ic r))) : bc_Met Y yX6_fair (ws_ yX6_fair cX6_fair 1 (some .int)) 0 0 0 0 M [.ref a] (fun v M' => v = some (.int fa) ∧ M' = M) bi_nx := by
  refine bc_Met.of (own := RX6) (L0 := [some (.ref a)]) rfl (by decide) G (Nat.le_of_ble_eq_true rfl) rfl (fun X A hE hQ hW hnl hnm => ?_)
  have hnl : ∀ q, q < 1 → q < bi_nL X := fun q h => by rw [hnl]; exact h
  refine vr_aload_n hE dX6_fair_0 rfl ?_
  refine bc_get (z := 1) hE kc_X6 (by decide) q1089 (Or.inl rfl) h_a rfl dX6_fair_1 ?_
  refine vr_ireturn hE hQ rfl dX6_fair_4 (by decide) ⟨_, ?_, fun H h => hW _ H h⟩
  exact ⟨rfl, rfl⟩
theorem ok_X6_coins : bi_ok yX6_coins RX6 0 := by decide +kernel
theorem bk_X6_coins {Y : bi_Y} (G : bi_GS Y) (M : va_M) (a r : Nat) (nu fa co de er dr se sh fn ic : Int32) (h_a : M a = some (.inr (3, tL nu fa co de er dr se sh fn ic r))) : bc_Met Y yX6_coins (ws_ yX6_coins cX6_coins 1 (some .int)) 0 0 0 0 M [.ref a] (fun v M' => v = some (.int co) ∧ M' = M) bi_nx := by
  refine bc_Met.of (own := RX6) (L0 := [some (.ref a)]) rfl (by decide) G (Nat.le_of_ble_eq_true rfl) rfl (fun X A hE hQ hW hnl hnm => ?_)
  have hnl : ∀ q, q < 1 → q < bi_nL X := fun q h => by rw [hnl]; exact h
  refine vr_aload_n hE dX6_coins_0 rfl ?_
  refine bc_get (z := 2) hE kc_X6 (by decide) q1090 (Or.inl rfl) h_a rfl dX6_coins_1 ?_
  refine vr_ireturn hE hQ rfl dX6_coins_4 (by decide) ⟨_, ?_, fun H h => hW _ H h⟩
  exact ⟨rfl, rfl⟩
theorem ok_X6_debt : bi_ok yX6_debt RX6 0 := by decide +kernel
theorem bk_X6_debt {Y : bi_Y} (G : bi_GS Y) (M : va_M) (a r : Nat) (nu fa co de er dr se sh fn ic : Int32) (h_a : M a = some (.inr (3, tL nu fa co de er dr se sh fn ic r))) : bc_Met Y yX6_debt (ws_ yX6_debt cX6_debt 1 (some .int)) 0 0 0 0 M [.ref a] (fun v M' => v = some (.int de) ∧ M' = M) bi_nx := by
  refine bc_Met.of (own := RX6) (L0 := [some (.ref a)]) rfl (by decide) G (Nat.le_of_ble_eq_true rfl) rfl (fun X A hE hQ hW hnl hnm => ?_)
  have hnl : ∀ q, q < 1 → q < bi_nL X := fun q h => by rw [hnl]; exact h
  refine vr_aload_n hE dX6_debt_0 rfl ?_
  refine bc_get (z := 3) hE kc_X6 (by decide) q1091 (Or.inl rfl) h_a rfl dX6_debt_1 ?_
  refine vr_ireturn hE hQ rfl dX6_debt_4 (by decide) ⟨_, ?_, fun H h => hW _ H h⟩
  exact ⟨rfl, rfl⟩
theorem ok_X6_error : bi_ok yX6_error RX6 0 := by decide +kernel
theorem bk_X6_error {Y : bi_Y} (G : bi_GS Y) (M : va_M) (a r : Nat) (nu fa co de er dr se sh fn ic : Int32) (h_a : M a = some (.inr (3, tL nu fa co de er dr se sh fn ic r))) : bc_Met Y yX6_error (ws_ yX6_error cX6_error 1 (some .int)) 0 0 0 0 M [.ref a] (fun v M' => v = some (.int er) ∧ M' = M) bi_nx := by
  refine bc_Met.of (own := RX6) (L0 := [some (.ref a)]) rfl (by decide) G (Nat.le_of_ble_eq_true rfl) rfl (fun X A hE hQ hW hnl hnm => ?_)
  have hnl : ∀ q, q < 1 → q < bi_nL X := fun q h => by rw [hnl]; exact h
  refine vr_aload_n hE dX6_error_0 rfl ?_
  refine bc_get (z := 4) hE kc_X6 (by decide) q1092 (Or.inl rfl) h_a rfl dX6_error_1 ?_
  refine vr_ireturn hE hQ rfl dX6_error_4 (by decide) ⟨_, ?_, fun H h => hW _ H h⟩
  exact ⟨rfl, rfl⟩
theorem ok_X6_drift_2 : bi_ok yX6_drift_2 RX6 0 := by decide +kernel
theorem bk_X6_drift_2 {Y : bi_Y} (G : bi_GS Y) (M : va_M) (a r : Nat) (nu fa co de er dr se sh fn ic : Int32) (h_a : M a = some (.inr (3, tL nu fa co de er dr se sh fn ic r))) : bc_Met Y yX6_drift_2 (ws_ yX6_drift_2 cX6_drift_2 1 (some .int)) 0 0 0 0 M [.ref a] (fun v M' => v = some (.int dr) ∧ M' = M) bi_nx := by
  refine bc_Met.of (own := RX6) (L0 := [some (.ref a)]) rfl (by decide) G (Nat.le_of_ble_eq_true rfl) rfl (fun X A hE hQ hW hnl hnm => ?_)
  have hnl : ∀ q, q < 1 → q < bi_nL X := fun q h => by rw [hnl]; exact h
  refine vr_aload_n hE dX6_drift_2_0 rfl ?_
  refine bc_get (z := 5) hE kc_X6 (by decide) q1093 (Or.inl rfl) h_a rfl dX6_drift_2_1 ?_
  refine vr_ireturn hE hQ rfl dX6_drift_2_4 (by decide) ⟨_, ?_, fun H h => hW _ H h⟩
  exact ⟨rfl, rfl⟩
theorem ok_X6_seal : bi_ok yX6_seal RX6 0 := by decide +kernel
theorem bk_X6_seal {Y : bi_Y} (G : bi_GS Y) (M : va_M) (a r : Nat) (nu fa co de er dr se sh fn ic : Int32) (h_a : M a = some (.inr (3, tL nu fa co de er dr se sh fn ic r))) : bc_Met Y yX6_seal (ws_ yX6_seal cX6_seal 1 (some .int)) 0 0 0 0 M [.ref a] (fun v M' => v = some (.int se) ∧ M' = M) bi_nx := by
  refine bc_Met.of (own := RX6) (L0 := [some (.ref a)]) rfl (by decide) G (Nat.le_of_ble_eq_true rfl) rfl (fun X A hE hQ hW hnl hnm => ?_)
  have hnl : ∀ q, q < 1 → q < bi_nL X := fun q h => by rw [hnl]; exact h
  refine vr_aload_n hE dX6_seal_0 rfl ?_
  refine bc_get (z := 6) hE kc_X6 (by decide) q1094 (Or.inl rfl) h_a rfl dX6_seal_1 ?_
  refine vr_ireturn hE hQ rfl dX6_seal_4 (by decide) ⟨_, ?_, fun H h => hW _ H h⟩
  exact ⟨rfl, rfl⟩
theorem ok_X6_shave : bi_ok yX6_shave RX6 0 := by decide +kernel
theorem bk_X6_shave {Y : bi_Y} (G : bi_GS Y) (M : va_M) (a r : Nat) (nu fa co de er dr se sh fn ic : Int32) (h_a : M a = some (.inr (3, tL nu fa co de er dr se sh fn ic r))) : bc_Met Y yX6_shave (ws_ yX6_shave cX6_shave 1 (some .int)) 0 0 0 0 M [.ref a] (fun v M' => v = some (.int sh) ∧ M' = M) bi_nx := by
  refine bc_Met.of (own := RX6) (L0 := [some (.ref a)]) rfl (by decide) G (Nat.le_of_ble_eq_true rfl) rfl (fun X A hE hQ hW hnl hnm => ?_)
  have hnl : ∀ q, q < 1 → q < bi_nL X := fun q h => by rw [hnl]; exact h
  refine vr_aload_n hE dX6_shave_0 rfl ?_
  refine bc_get (z := 7) hE kc_X6 (by decide) q1095 (Or.inl rfl) h_a rfl dX6_shave_1 ?_
  refine vr_ireturn hE hQ rfl dX6_shave_4 (by decide) ⟨_, ?_, fun H h => hW _ H h⟩
  exact ⟨rfl, rfl⟩
theorem ok_X6_fined : bi_ok yX6_fined RX6 0 := by decide +kernel
theorem bk_X6_fined {Y : bi_Y} (G : bi_GS Y) (M : va_M) (a r : Nat) (nu fa co de er dr se sh fn ic : Int32) (h_a : M a = some (.inr (3, tL nu fa co de er dr se sh fn ic r))) : bc_Met Y yX6_fined (ws_ yX6_fined cX6_fined 1 (some .int)) 0 0 0 0 M [.ref a] (fun v M' => v = some (.int fn) ∧ M' = M) bi_nx := by
  refine bc_Met.of (own := RX6) (L0 := [some (.ref a)]) rfl (by decide) G (Nat.le_of_ble_eq_true rfl) rfl (fun X A hE hQ hW hnl hnm => ?_)
  have hnl : ∀ q, q < 1 → q < bi_nL X := fun q h => by rw [hnl]; exact h
  refine vr_aload_n hE dX6_fined_0 rfl ?_
  refine bc_get (z := 8) hE kc_X6 (by decide) q1096 (Or.inl rfl) h_a rfl dX6_fined_1 ?_
  refine vr_ireturn hE hQ rfl dX6_fined_4 (by decide) ⟨_, ?_, fun H h => hW _ H h⟩
  exact ⟨rfl, rfl⟩
theorem ok_X6_inspected : bi_ok yX6_inspected RX6 0 := by decide +kernel
theorem bk_X6_inspected {Y : bi_Y} (G : bi_GS Y) (M : va_M) (a r : Nat) (nu fa co de er dr se sh fn ic : Int32) (h_a : M a = some (.inr (3, tL nu fa co de er dr se sh fn ic r))) : bc_Met Y yX6_inspected (ws_ yX6_inspected cX6_inspected 1 (some .int)) 0 0 0 0 M [.ref a] (fun v M' => v = some (.int ic) ∧ M' = M) bi_nx := by
  refine bc_Met.of (own := RX6) (L0 := [some (.ref a)]) rfl (by decide) G (Nat.le_of_ble_eq_true rfl) rfl (fun X A hE hQ hW hnl hnm => ?_)
  have hnl : ∀ q, q < 1 → q < bi_nL X := fun q h => by rw [hnl]; exact h
  refine vr_aload_n hE dX6_inspected_0 rfl ?_
  refine bc_get (z := 9) hE kc_X6 (by decide) q1097 (Or.inl rfl) h_a rfl dX6_inspected_1 ?_
  refine vr_ireturn hE hQ rfl dX6_inspected_4 (by decide) ⟨_, ?_, fun H h => hW _ H h⟩
  exact ⟨rfl, rfl⟩
theorem ok_X6_drift : bi_ok yX6_drift RX6 1 := by decide +kernel
theorem bk_X6_drift {Y : bi_Y} (G : bi_GS Y) (M : va_M) (a r : Nat) (nu fa co de er dr se sh fn ic : Int32) (h_a : M a = some (.inr (3, tL nu fa co de er dr se sh fn ic r))) (x : Int32) : bc_Met Y yX6_drift (ws_ yX6_drift cX6_drift 3 (some .int)) 0 0 0 0 M [.ref a, .int x] (fun v M' => v = some (.int dr) ∧ M' = bu M a (.inr (3, tL nu fa co de er x se sh fn ic r))) bi_nx := by
  refine bc_Met.of (own := RX6) (L0 := [some (.ref a), some (.int x), none]) rfl (by decide) G (Nat.le_of_ble_eq_true rfl) rfl (fun X A hE hQ hW hnl hnm => ?_)
  have hnl : ∀ q, q < 3 → q < bi_nL X := fun q h => by rw [hnl]; exact h
  refine vr_aload_n hE dX6_drift_0 rfl ?_
  refine bc_get (z := 5) hE kc_X6 (by decide) q1093 (Or.inl rfl) h_a rfl dX6_drift_1 ?_
  refine vr_istore_n hE dX6_drift_4 (hnl _ (by decide)) rfl ?_
  refine vr_aload_n hE dX6_drift_5 rfl ?_
  refine vr_iload_n hE dX6_drift_6 rfl ?_
  refine bc_put (z := 5) hE kc_X6 (by decide) q1093 (Or.inl rfl) rfl h_a rfl rfl (Nat.le_of_ble_eq_true rfl) dX6_drift_7 (by first | decide | omega) ?_
  refine bc_nm (fun M_7 e_7 => ?_)
  have ha_7 := (congrFun e_7 a).trans (bu_self _ _ _)
  refine vr_iload_n hE dX6_drift_10 rfl ?_
  refine vr_ireturn hE hQ rfl dX6_drift_11 (by decide) ⟨_, ?_, fun H h => hW _ H h⟩
  subst e_7
  exact ⟨rfl, by first | rfl | (simp only [bu_bu] <;> rfl)⟩
theorem ok_X6_isSealed : bi_ok yX6_isSealed RX6 0 := by decide +kernel
theorem bk_X6_isSealed {Y : bi_Y} (G : bi_GS Y) (M : va_M) (a r : Nat) (nu fa co de er dr se sh fn ic : Int32) (h_a : M a = some (.inr (3, tL nu fa co de er dr se sh fn ic r))) : bc_Met Y yX6_isSealed (ws_ yX6_isSealed cX6_isSealed 1 (some .boolean)) 0 0 0 0 M [.ref a] (fun v M' => v = some (.int (if se = -1 then 0 else 1)) ∧ M' = M) bi_nx := by
  refine bc_Met.of (own := RX6) (L0 := [some (.ref a)]) rfl (by decide) G (Nat.le_of_ble_eq_true rfl) rfl (fun X A hE hQ hW hnl hnm => ?_)
  have hnl : ∀ q, q < 1 → q < bi_nL X := fun q h => by rw [hnl]; exact h
  refine vr_aload_n hE dX6_isSealed_0 rfl ?_
  refine bc_get (z := 6) hE kc_X6 (by decide) q1094 (Or.inl rfl) h_a rfl dX6_isSealed_1 ?_
  refine vr_iconst (v := -1) hE dX6_isSealed_4 (by decide) ?_
  apply vt_icmp_eq (tgt := 12) (J := 13) hE dX6_isSealed_5 (by decide)
  · intro c_5 kt1
    refine vr_iconst (v := 0) hE dX6_isSealed_12 (by decide) ?_
    exact kt1
  · intro c_5 kf1
    refine vr_iconst (v := 1) hE dX6_isSealed_8 (by decide) ?_
    refine vr_goto (tgt := 13) hE dX6_isSealed_9 (by decide) ?_
    exact kf1
  refine vr_ireturn hE hQ (by split <;> rfl) dX6_isSealed_13 (by decide) ⟨_, ?_, fun H h => hW _ H h⟩
  exact ⟨rfl, rfl⟩
theorem ok_X6_isBarred : bi_ok yX6_isBarred RX6 0 := by decide +kernel
theorem bk_X6_isBarred {Y : bi_Y} (G : bi_GS Y) (M : va_M) (a r : Nat) (nu fa co de er dr se sh fn ic : Int32) (h_a : M a = some (.inr (3, tL nu fa co de er dr se sh fn ic r))) : bc_Met Y yX6_isBarred (ws_ yX6_isBarred cX6_isBarred 1 (some .boolean)) 0 0 0 0 M [.ref a] (fun v M' => v = some (.int (if de ≤ 30 then 0 else 1)) ∧ M' = M) bi_nx := by
  refine bc_Met.of (own := RX6) (L0 := [some (.ref a)]) rfl (by decide) G (Nat.le_of_ble_eq_true rfl) rfl (fun X A hE hQ hW hnl hnm => ?_)
  have hnl : ∀ q, q < 1 → q < bi_nL X := fun q h => by rw [hnl]; exact h
  refine vr_aload_n hE dX6_isBarred_0 rfl ?_
  refine bc_get (z := 3) hE kc_X6 (by decide) q1091 (Or.inl rfl) h_a rfl dX6_isBarred_1 ?_
  refine vr_bipush (v := 30) hE dX6_isBarred_4 (by decide) ?_
  apply vt_icmp_le (tgt := 13) (J := 14) hE dX6_isBarred_6 (by decide)
  · intro c_6 kt1
    refine vr_iconst (v := 0) hE dX6_isBarred_13 (by decide) ?_
    exact kt1
  · intro c_6 kf1
    refine vr_iconst (v := 1) hE dX6_isBarred_9 (by decide) ?_
    refine vr_goto (tgt := 14) hE dX6_isBarred_10 (by decide) ?_
    exact kf1
  refine vr_ireturn hE hQ (by split <;> rfl) dX6_isBarred_14 (by decide) ⟨_, ?_, fun H h => hW _ H h⟩
  exact ⟨rfl, rfl⟩
theorem ok_X6_isInspectedNow : bi_ok yX6_isInspectedNow RX6 0 := by decide +kernel
theorem bk_X6_isInspectedNow {Y : bi_Y} (G : bi_GS Y) (M : va_M) (a r : Nat) (nu fa co de er dr se sh fn ic : Int32) (h_a : M a = some (.inr (3, tL nu fa co de er dr se sh fn ic r))) (ra fi tl wl : Nat) (dy ip ls : Int32) (h_r : M r = some (.inr (1, rL ra fi tl wl dy ip ls))) : bc_Met Y yX6_isInspectedNow (ws_ yX6_isInspectedNow cX6_isInspectedNow 1 (some .boolean)) 0 0 0 0 M [.ref a] (fun v M' => v = some (.int (if ¬ ic = dy then 0 else 1)) ∧ M' = M) bi_nx := by
  refine bc_Met.of (own := RX6) (L0 := [some (.ref a)]) rfl (by decide) G (Nat.le_of_ble_eq_true rfl) rfl (fun X A hE hQ hW hnl hnm => ?_)
  have hnl : ∀ q, q < 1 → q < bi_nL X := fun q h => by rw [hnl]; exact h
  refine vr_aload_n hE dX6_isInspectedNow_0 rfl ?_
  refine bc_get (z := 9) hE kc_X6 (by decide) q1097 (Or.inl rfl) h_a rfl dX6_isInspectedNow_1 ?_
  refine vr_aload_n hE dX6_isInspectedNow_4 rfl ?_
  refine bc_get (z := 10) hE kc_X6 (by decide) q1098 (Or.inl rfl) h_a rfl dX6_isInspectedNow_5 ?_
  refine bc_getN (z := 4) hE kc_X2 (by decide) q183 (Or.inl rfl) h_r rfl dX6_isInspectedNow_8 ?_
  apply vt_icmp_ne (tgt := 18) (J := 19) hE dX6_isInspectedNow_11 (by decide)
  · intro c_11 kt1
    refine vr_iconst (v := 0) hE dX6_isInspectedNow_18 (by decide) ?_
    exact kt1
  · intro c_11 kf1
    refine vr_iconst (v := 1) hE dX6_isInspectedNow_14 (by decide) ?_
    refine vr_goto (tgt := 19) hE dX6_isInspectedNow_15 (by decide) ?_
    exact kf1
  refine vr_ireturn hE hQ (by split <;> rfl) dX6_isInspectedNow_19 (by decide) ⟨_, ?_, fun H h => hW _ H h⟩
  exact ⟨rfl, rfl⟩
theorem ok_X2_day : bi_ok yX2_day RX2 0 := by decide +kernel
theorem bk_X2_day {Y : bi_Y} (G : bi_GS Y) (M : va_M) (r : Nat) (ra fi tl wl : Nat) (dy ip ls : Int32) (h_r : M r = some (.inr (1, rL ra fi tl wl dy ip ls))) : bc_Met Y yX2_day (ws_ yX2_day cX2_day 1 (some .int)) 0 0 0 0 M [.ref r] (fun v M' => v = some (.int dy) ∧ M' = M) bi_nx := by
  refine bc_Met.of (own := RX2) (L0 := [some (.ref r)]) rfl (by decide) G (Nat.le_of_ble_eq_true rfl) rfl (fun X A hE hQ hW hnl hnm => ?_)
  have hnl : ∀ q, q < 1 → q < bi_nL X := fun q h => by rw [hnl]; exact h
  refine vr_aload_n hE dX2_day_0 rfl ?_
  refine bc_get (z := 4) hE kc_X2 (by decide) q182 (Or.inl rfl) h_r rfl dX2_day_1 ?_
  refine vr_ireturn hE hQ rfl dX2_day_4 (by decide) ⟨_, ?_, fun H h => hW _ H h⟩
  exact ⟨rfl, rfl⟩
theorem ok_X2_inspections : bi_ok yX2_inspections RX2 0 := by decide +kernel
theorem bk_X2_inspections {Y : bi_Y} (G : bi_GS Y) (M : va_M) (r : Nat) (ra fi tl wl : Nat) (dy ip ls : Int32) (h_r : M r = some (.inr (1, rL ra fi tl wl dy ip ls))) : bc_Met Y yX2_inspections (ws_ yX2_inspections cX2_inspections 1 (some .int)) 0 0 0 0 M [.ref r] (fun v M' => v = some (.int ip) ∧ M' = M) bi_nx := by
  refine bc_Met.of (own := RX2) (L0 := [some (.ref r)]) rfl (by decide) G (Nat.le_of_ble_eq_true rfl) rfl (fun X A hE hQ hW hnl hnm => ?_)
  have hnl : ∀ q, q < 1 → q < bi_nL X := fun q h => by rw [hnl]; exact h
  refine vr_aload_n hE dX2_inspections_0 rfl ?_
  refine bc_get (z := 5) hE kc_X2 (by decide) q184 (Or.inl rfl) h_r rfl dX2_inspections_1 ?_
  refine vr_ireturn hE hQ rfl dX2_inspections_4 (by decide) ⟨_, ?_, fun H h => hW _ H h⟩
  exact ⟨rfl, rfl⟩
theorem ok_X2_lost : bi_ok yX2_lost RX2 0 := by decide +kernel
theorem bk_X2_lost {Y : bi_Y} (G : bi_GS Y) (M : va_M) (r : Nat) (ra fi tl wl : Nat) (dy ip ls : Int32) (h_r : M r = some (.inr (1, rL ra fi tl wl dy ip ls))) : bc_Met Y yX2_lost (ws_ yX2_lost cX2_lost 1 (some .int)) 0 0 0 0 M [.ref r] (fun v M' => v = some (.int ls) ∧ M' = M) bi_nx := by
  refine bc_Met.of (own := RX2) (L0 := [some (.ref r)]) rfl (by decide) G (Nat.le_of_ble_eq_true rfl) rfl (fun X A hE hQ hW hnl hnm => ?_)
  have hnl : ∀ q, q < 1 → q < bi_nL X := fun q h => by rw [hnl]; exact h
  refine vr_aload_n hE dX2_lost_0 rfl ?_
  refine bc_get (z := 6) hE kc_X2 (by decide) q185 (Or.inl rfl) h_r rfl dX2_lost_1 ?_
  refine vr_ireturn hE hQ rfl dX2_lost_4 (by decide) ⟨_, ?_, fun H h => hW _ H h⟩
  exact ⟨rfl, rfl⟩
theorem ok_X2_fairNow : bi_ok yX2_fairNow RX2 0 := by decide +kernel
theorem bk_X2_fairNow {Y : bi_Y} (G : bi_GS Y) (M : va_M) (r : Nat) (ra fi tl wl : Nat) (dy ip ls : Int32) (h_r : M r = some (.inr (1, rL ra fi tl wl dy ip ls))) : bc_Met Y yX2_fairNow (ws_ yX2_fairNow cX2_fairNow 1 (some .int)) 0 0 0 0 M [.ref r] (fun v M' => v = some (.int (jmod dy 5)) ∧ M' = M) bi_nx := by
  refine bc_Met.of (own := RX2) (L0 := [some (.ref r)]) rfl (by decide) G (Nat.le_of_ble_eq_true rfl) rfl (fun X A hE hQ hW hnl hnm => ?_)
  have hnl : ∀ q, q < 1 → q < bi_nL X := fun q h => by rw [hnl]; exact h
  refine vr_aload_n hE dX2_fairNow_0 rfl ?_
  refine bc_get (z := 4) hE kc_X2 (by decide) q182 (Or.inl rfl) h_r rfl dX2_fairNow_1 ?_
  refine vr_iconst (v := 5) hE dX2_fairNow_4 (by decide) ?_
  refine vr_irem hE dX2_fairNow_5 (by decide) ?_
  refine vr_ireturn hE hQ rfl dX2_fairNow_6 (by decide) ⟨_, ?_, fun H h => hW _ H h⟩
  exact ⟨rfl, rfl⟩
theorem ok_X6_isHere : bi_ok yX6_isHere RX6 0 := by decide +kernel
theorem bk_X6_isHere {Y : bi_Y} (G : bi_GS Y) (M : va_M) (a r : Nat) (nu fa co de er dr se sh fn ic : Int32) (h_a : M a = some (.inr (3, tL nu fa co de er dr se sh fn ic r))) (ra fi tl wl : Nat) (dy ip ls : Int32) (h_r : M r = some (.inr (1, rL ra fi tl wl dy ip ls))) : bc_Met Y yX6_isHere (ws_ yX6_isHere cX6_isHere 1 (some .boolean)) 1 20 0 0 M [.ref a] (fun v M' => v = some (.int (if ¬ fa = jmod dy 5 then 0 else 1)) ∧ M' = M) bi_nx := by
  refine bc_Met.of (own := RX6) (L0 := [some (.ref a)]) rfl (by decide) G (Nat.le_of_ble_eq_true rfl) rfl (fun X A hE hQ hW hnl hnm => ?_)
  have hnl : ∀ q, q < 1 → q < bi_nL X := fun q h => by rw [hnl]; exact h
  refine vr_aload_n hE dX6_isHere_0 rfl ?_
  refine bc_get (z := 1) hE kc_X6 (by decide) q1089 (Or.inl rfl) h_a rfl dX6_isHere_1 ?_
  refine vr_aload_n hE dX6_isHere_4 rfl ?_
  refine bc_get (z := 10) hE kc_X6 (by decide) q1098 (Or.inl rfl) h_a rfl dX6_isHere_5 ?_
  refine bc_callV hE (bk_X2_fairNow G _ r ra fi tl wl dy ip ls h_r) kc_X2 h_r ok_X2_fairNow (lw_V q1494 q1332 q1333 q72 q1334) rfl rfl (Nat.le_of_ble_eq_true rfl) (by decide) dX6_isHere_8 (fun _ _ _ h => h.elim) ?_
  rintro v_8 M_8 ⟨rfl, hu_8⟩
  obtain rfl := hu_8.symm
  apply vt_icmp_ne (tgt := 18) (J := 19) hE dX6_isHere_11 (by decide)
  · intro c_11 kt1
    refine vr_iconst (v := 0) hE dX6_isHere_18 (by decide) ?_
    exact kt1
  · intro c_11 kf1
    refine vr_iconst (v := 1) hE dX6_isHere_14 (by decide) ?_
    refine vr_goto (tgt := 19) hE dX6_isHere_15 (by decide) ?_
    exact kf1
  refine vr_ireturn hE hQ (by split <;> rfl) dX6_isHere_19 (by decide) ⟨_, ?_, fun H h => hW _ H h⟩
  exact ⟨rfl, rfl⟩
theorem ok_X6_shows : bi_ok yX6_shows RX6 1 := by decide +kernel
theorem bk_X6_shows {Y : bi_Y} (G : bi_GS Y) (M : va_M) (a r : Nat) (nu fa co de er dr se sh fn ic : Int32) (h_a : M a = some (.inr (3, tL nu fa co de er dr se sh fn ic r))) (b : Nat) (nb oz we us : Int32) (h_b : M b = some (.inr (4, bL nb oz we us))) : bc_Met Y yX6_shows (ws_ yX6_shows cX6_shows 2 (some .int)) 1 20 0 0 M [.ref a, .ref b] (fun v M' => v = some (.int (er - we)) ∧ M' = M) bi_nx := by
  refine bc_Met.of (own := RX6) (L0 := [some (.ref a), some (.ref b)]) rfl (by decide) G (Nat.le_of_ble_eq_true rfl) rfl (fun X A hE hQ hW hnl hnm => ?_)
  have hnl : ∀ q, q < 2 → q < bi_nL X := fun q h => by rw [hnl]; exact h
  refine vr_aload_n hE dX6_shows_0 rfl ?_
  refine bc_get (z := 4) hE kc_X6 (by decide) q1092 (Or.inl rfl) h_a rfl dX6_shows_1 ?_
  refine vr_aload_n hE dX6_shows_4 rfl ?_
  refine bc_callV hE (bk_X7_wear G _ b nb oz we us h_b) kc_X7 h_b ok_X7_wear (lw_V q1521 q1287 q1288 q108 q1289) rfl rfl (Nat.le_of_ble_eq_true rfl) (by decide) dX6_shows_5 (fun _ _ _ h => h.elim) ?_
  rintro v_5 M_5 ⟨rfl, hu_5⟩
  obtain rfl := hu_5.symm
  refine vr_isub hE dX6_shows_8 ?_
  refine vr_ireturn hE hQ rfl dX6_shows_9 (by decide) ⟨_, ?_, fun H h => hW _ H h⟩
  exact ⟨rfl, rfl⟩
theorem ok_X2_traders : bi_ok yX2_traders RX2 0 := by decide +kernel
theorem bk_X2_traders {Y : bi_Y} (G : bi_GS Y) (M : va_M) (r : Nat) (ra fi tl wl : Nat) (dy ip ls : Int32) (h_r : M r = some (.inr (1, rL ra fi tl wl dy ip ls))) : bc_Met Y yX2_traders (ws_ yX2_traders cX2_traders 1 (some (.object "java/util/List"))) 0 0 0 0 M [.ref r] (fun v M' => v = some (.ref tl) ∧ M' = M) bi_nx := by
  refine bc_Met.of (own := RX2) (L0 := [some (.ref r)]) rfl (by decide) G (Nat.le_of_ble_eq_true rfl) rfl (fun X A hE hQ hW hnl hnm => ?_)
  have hnl : ∀ q, q < 1 → q < bi_nL X := fun q h => by rw [hnl]; exact h
  refine vr_aload_n hE dX2_traders_0 rfl ?_
  refine bc_get (z := 2) hE kc_X2 (by decide) q178 (Or.inl rfl) h_r rfl dX2_traders_1 ?_
  refine vr_areturn hE hQ (Or.inl ⟨_, rfl⟩) (Or.inr ⟨_, rfl⟩) dX2_traders_4 (by decide) ⟨_, ?_, fun H h => hW _ H h⟩
  exact ⟨rfl, rfl⟩
theorem ok_X2_weights : bi_ok yX2_weights RX2 0 := by decide +kernel
theorem bk_X2_weights {Y : bi_Y} (G : bi_GS Y) (M : va_M) (r : Nat) (ra fi tl wl : Nat) (dy ip ls : Int32) (h_r : M r = some (.inr (1, rL ra fi tl wl dy ip ls))) : bc_Met Y yX2_weights (ws_ yX2_weights cX2_weights 1 (some (.object "java/util/List"))) 0 0 0 0 M [.ref r] (fun v M' => v = some (.ref wl) ∧ M' = M) bi_nx := by
  refine bc_Met.of (own := RX2) (L0 := [some (.ref r)]) rfl (by decide) G (Nat.le_of_ble_eq_true rfl) rfl (fun X A hE hQ hW hnl hnm => ?_)
  have hnl : ∀ q, q < 1 → q < bi_nL X := fun q h => by rw [hnl]; exact h
  refine vr_aload_n hE dX2_weights_0 rfl ?_
  refine bc_get (z := 3) hE kc_X2 (by decide) q180 (Or.inl rfl) h_r rfl dX2_weights_1 ?_
  refine vr_areturn hE hQ (Or.inl ⟨_, rfl⟩) (Or.inr ⟨_, rfl⟩) dX2_weights_4 (by decide) ⟨_, ?_, fun H h => hW _ H h⟩
  exact ⟨rfl, rfl⟩
theorem ok_X1_isIn : bi_ok yX1_isIn RX1 3 := by decide +kernel
theorem bk_X1_isIn {Y : bi_Y} (G : bi_GS Y) (M : va_M) (x y z : Int32) : bc_Met Y yX1_isIn (ws_ yX1_isIn cX1_isIn 3 (some .boolean)) 0 0 0 0 M [.int x, .int y, .int z] (fun v M' => v = some (.int (in_ x y z)) ∧ M' = M) bi_nx := by
  refine bc_Met.of (own := RX1) (L0 := [some (.int x), some (.int y), some (.int z)]) rfl (by decide) G (Nat.le_of_ble_eq_true rfl) rfl (fun X A hE hQ hW hnl hnm => ?_)
  have hnl : ∀ q, q < 3 → q < bi_nL X := fun q h => by rw [hnl]; exact h
  refine vr_iload_n hE dX1_isIn_0 rfl ?_
  refine vr_iload_n hE dX1_isIn_1 rfl ?_
  apply vt_icmp_lt (tgt := 14) (J := 15) hE dX1_isIn_2 (by decide)
  · intro c_2 kt1
    refine vr_iconst (v := 0) hE dX1_isIn_14 (by decide) ?_
    exact kt1
  · intro c_2 kf1
    refine vr_iload_n hE dX1_isIn_5 rfl ?_
    refine vr_iload_n hE dX1_isIn_6 rfl ?_
    apply vt_icmp_gt (tgt := 14) (J := 15) hE dX1_isIn_7 (by decide)
    · intro c_7 kt2
      refine vr_iconst (v := 0) hE dX1_isIn_14 (by decide) ?_
      exact kt2
    · intro c_7 kf2
      refine vr_iconst (v := 1) hE dX1_isIn_10 (by decide) ?_
      refine vr_goto (tgt := 15) hE dX1_isIn_11 (by decide) ?_
      exact kf2
    exact kf1
  refine vr_ireturn hE hQ (in_b _ _ _) dX1_isIn_15 (by decide) ⟨_, ?_, fun H h => hW _ H h⟩
  exact ⟨rfl, rfl⟩
