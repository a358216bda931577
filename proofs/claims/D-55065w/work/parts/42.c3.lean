/-! a trader inspected, aged; births of traders and weights -/
set_option maxRecDepth 100000
theorem c_le1 : ∀ j, j < 101 → ∀ i, i < 6 → nI (10 * (i + 1)) ≤ nI j - 50 → i < 5 := by decide +kernel
theorem c_le2 : ∀ j, j < 101 → ∀ i, i < 6 → ¬ nI (10 * (i + 1)) ≤ nI j - 50 → (i = 0 ∨ nI (10 * i) ≤ nI j - 50) → c_tens (nI j - 50) = nI i := by decide +kernel
theorem ok_X6_looksAt : bi_ok yX6_looksAt RX6 1 := by decide +kernel
theorem bk_X6_looksAt {Y : bi_Y} (G : bi_GS Y) (M : va_M) (a r : Nat) (nu fa co de er dr se sh fn ic : Int32) (h_a : M a = some (.inr (3, tL nu fa co de er dr se sh fn ic r))) (ra fi tl wl : Nat) (dy ip ls : Int32) (h_r : M r = some (.inr (1, rL ra fi tl wl dy ip ls))) (b : Nat) (nb oz we us : Int32) (h_b : M b = some (.inr (4, bL nb oz we us))) (rt : Nat → Int32) (h_ra : M ra = some (eI Y 5 rt)) (f : Nat) (hf5 : f < 5) (hf : fa = nI f) (gt : Nat → Int32) (h_fi : M fi = some (eI Y 5 gt)) (hrf : ra ≠ fi) : bc_Met Y yX6_looksAt (ws_ yX6_looksAt cX6_looksAt 4 (some .int)) 3 65 1 2 M [.ref a, .ref b] (fun v M' => v = some (.int (c_fine (rt f) (er - we) sh)) ∧ M' = bu (bu M fi (eI Y 5 (upd gt f (gt f + c_fine (rt f) (er - we) sh)))) a (.inr (3, tL nu fa (co - c_min co (c_fine (rt f) (er - we) sh)) (de + (c_fine (rt f) (er - we) sh - c_min co (c_fine (rt f) (er - we) sh))) er dr (if in_ (er - we) (-4) 4 = 0 then -1 else dy) (if sh ≤ 2 then sh else 0) (fn + c_fine (rt f) (er - we) sh) dy r))) bi_nx := by
  refine bc_Met.of (own := RX6) (L0 := [some (.ref a), some (.ref b), none, none]) rfl (by decide) G (Nat.le_of_ble_eq_true rfl) rfl (fun X A hE hQ hW hnl hnm => ?_)
  have hnl : ∀ q, q < 4 → q < bi_nL X := fun q h => by rw [hnl]; exact h
  refine vr_aload_n hE dX6_looksAt_0 rfl ?_
  refine vr_aload_n hE dX6_looksAt_1 rfl ?_
  refine bc_callV hE (bk_X6_fineFor G _ a r nu fa co de er dr se sh fn ic h_a ra fi tl wl dy ip ls h_r b nb oz we us h_b rt h_ra f hf5 hf) kc_X6 h_a ok_X6_fineFor (lw_V q1513 q1514 q1515 q106 q1516) rfl rfl (Nat.le_of_ble_eq_true rfl) (by decide) dX6_looksAt_2 (fun _ _ _ h => h.elim) ?_
  rintro v_2 M_2 ⟨rfl, hu_2⟩
  obtain rfl := hu_2.symm
  refine vr_istore_n hE dX6_looksAt_5 (hnl _ (by decide)) rfl ?_
  refine vr_aload_n hE dX6_looksAt_6 rfl ?_
  refine vr_aload_n hE dX6_looksAt_7 rfl ?_
  refine vr_aload_n hE dX6_looksAt_8 rfl ?_
  refine bc_callV hE (bk_X6_shows G _ a r nu fa co de er dr se sh fn ic h_a b nb oz we us h_b) kc_X6 h_a ok_X6_shows (lw_V q1517 q1518 q1519 q106 q1520) rfl rfl (Nat.le_of_ble_eq_true rfl) (by decide) dX6_looksAt_9 (fun _ _ _ h => h.elim) ?_
  rintro v_9 M_9 ⟨rfl, hu_9⟩
  obtain rfl := hu_9.symm
  refine vr_bipush (v := -4) hE dX6_looksAt_12 (by decide) ?_
  refine vr_iconst (v := 4) hE dX6_looksAt_14 (by decide) ?_
  refine bc_callSN hE (bk_X1_isIn G _ _ _ _) ok_X1_isIn q1522 q392 q71 q393 rfl rfl (Nat.le_of_ble_eq_true rfl) (by decide) dX6_looksAt_15 (fun _ _ _ h => h.elim) ?_
  rintro v_15 M_15 ⟨rfl, hu_15⟩
  obtain rfl := hu_15.symm
  apply vt_if_eq (tgt := 31) (J := 32) hE dX6_looksAt_18 (by decide)
  · intro c_18 kt1
    refine vr_iconst (v := -1) hE dX6_looksAt_31 (by decide) ?_
    exact kt1
  · intro c_18 kf1
    refine vr_aload_n hE dX6_looksAt_21 rfl ?_
    refine bc_get (z := 10) hE kc_X6 (by decide) q1098 (Or.inl rfl) h_a rfl dX6_looksAt_22 ?_
    refine bc_getN (z := 4) hE kc_X2 (by decide) q183 (Or.inl rfl) h_r rfl dX6_looksAt_25 ?_
    refine vr_goto (tgt := 32) hE dX6_looksAt_28 (by decide) ?_
    exact kf1
  refine bc_put (z := 6) hE kc_X6 (by decide) q1094 (Or.inl rfl) rfl h_a rfl rfl (Nat.le_of_ble_eq_true rfl) dX6_looksAt_32 (by first | decide | omega) ?_
  refine bc_nm (fun M_32 e_32 => ?_)
  have hb_32 := (congrFun e_32 b).trans ((bu_ne (bc_dist h_b h_a (bc_ci (by decide)))).trans h_b)
  have hr_32 := (congrFun e_32 r).trans ((bu_ne (bc_dist h_r h_a (bc_ci (by decide)))).trans h_r)
  have hra_32 := (congrFun e_32 ra).trans ((bu_ne (bc_dist h_ra h_a bc_io)).trans h_ra)
  have hfi_32 := (congrFun e_32 fi).trans ((bu_ne (bc_dist h_fi h_a bc_io)).trans h_fi)
  have ha_32 := (congrFun e_32 a).trans (bu_self _ _ _)
  refine vr_aload_n hE dX6_looksAt_35 rfl ?_
  refine vr_aload_n hE dX6_looksAt_36 rfl ?_
  refine bc_get (z := 7) hE kc_X6 (by decide) q1095 (Or.inl rfl) ha_32 rfl dX6_looksAt_37 ?_
  refine vr_iconst (v := 2) hE dX6_looksAt_40 (by decide) ?_
  apply vt_icmp_le (tgt := 48) (J := 52) hE dX6_looksAt_41 (by decide)
  · intro c_41 kt2
    refine vr_aload_n hE dX6_looksAt_48 rfl ?_
    refine bc_get (z := 7) hE kc_X6 (by decide) q1095 (Or.inl rfl) ha_32 rfl dX6_looksAt_49 ?_
    exact kt2
  · intro c_41 kf2
    refine vr_iconst (v := 0) hE dX6_looksAt_44 (by decide) ?_
    refine vr_goto (tgt := 52) hE dX6_looksAt_45 (by decide) ?_
    exact kf2
  refine bc_put (z := 7) hE kc_X6 (by decide) q1095 (Or.inl rfl) rfl ha_32 rfl rfl (Nat.le_of_ble_eq_true rfl) dX6_looksAt_52 (by first | decide | omega) ?_
  refine bc_nm (fun M_52 e_52 => ?_)
  have hb_52 := (congrFun e_52 b).trans ((bu_ne (bc_dist hb_32 ha_32 (bc_ci (by decide)))).trans hb_32)
  have hr_52 := (congrFun e_52 r).trans ((bu_ne (bc_dist hr_32 ha_32 (bc_ci (by decide)))).trans hr_32)
  have hra_52 := (congrFun e_52 ra).trans ((bu_ne (bc_dist hra_32 ha_32 bc_io)).trans hra_32)
  have hfi_52 := (congrFun e_52 fi).trans ((bu_ne (bc_dist hfi_32 ha_32 bc_io)).trans hfi_32)
  have ha_52 := (congrFun e_52 a).trans (bu_self _ _ _)
  refine vr_aload_n hE dX6_looksAt_55 rfl ?_
  refine bc_get (z := 2) hE kc_X6 (by decide) q1090 (Or.inl rfl) ha_52 rfl dX6_looksAt_56 ?_
  refine vr_iload_n hE dX6_looksAt_59 rfl ?_
  refine vr_mmin hE q1266 q575 q94 q576 ⟨by decide, Nat.le_of_ble_eq_true rfl, by decide, by decide⟩ dX6_looksAt_60 ?_
  refine vr_istore_n hE dX6_looksAt_63 (hnl _ (by decide)) rfl ?_
  refine vr_aload_n hE dX6_looksAt_64 rfl ?_
  refine vr_dup hE dX6_looksAt_65 rfl ?_
  refine bc_get (z := 2) hE kc_X6 (by decide) q1090 (Or.inl rfl) ha_52 rfl dX6_looksAt_66 ?_
  refine vr_iload_n hE dX6_looksAt_69 rfl ?_
  refine vr_isub hE dX6_looksAt_70 ?_
  refine bc_put (z := 2) hE kc_X6 (by decide) q1090 (Or.inl rfl) rfl ha_52 rfl rfl (Nat.le_of_ble_eq_true rfl) dX6_looksAt_71 (by first | decide | omega) ?_
  refine bc_nm (fun M_71 e_71 => ?_)
  have hb_71 := (congrFun e_71 b).trans ((bu_ne (bc_dist hb_52 ha_52 (bc_ci (by decide)))).trans hb_52)
  have hr_71 := (congrFun e_71 r).trans ((bu_ne (bc_dist hr_52 ha_52 (bc_ci (by decide)))).trans hr_52)
  have hra_71 := (congrFun e_71 ra).trans ((bu_ne (bc_dist hra_52 ha_52 bc_io)).trans hra_52)
  have hfi_71 := (congrFun e_71 fi).trans ((bu_ne (bc_dist hfi_52 ha_52 bc_io)).trans hfi_52)
  have ha_71 := (congrFun e_71 a).trans (bu_self _ _ _)
  refine vr_aload_n hE dX6_looksAt_74 rfl ?_
  refine vr_dup hE dX6_looksAt_75 rfl ?_
  refine bc_get (z := 3) hE kc_X6 (by decide) q1091 (Or.inl rfl) ha_71 rfl dX6_looksAt_76 ?_
  refine vr_iload_n hE dX6_looksAt_79 rfl ?_
  refine vr_iload_n hE dX6_looksAt_80 rfl ?_
  refine vr_isub hE dX6_looksAt_81 ?_
  refine vr_iadd hE dX6_looksAt_82 ?_
  refine bc_put (z := 3) hE kc_X6 (by decide) q1091 (Or.inl rfl) rfl ha_71 rfl rfl (Nat.le_of_ble_eq_true rfl) dX6_looksAt_83 (by first | decide | omega) ?_
  refine bc_nm (fun M_83 e_83 => ?_)
  have hb_83 := (congrFun e_83 b).trans ((bu_ne (bc_dist hb_71 ha_71 (bc_ci (by decide)))).trans hb_71)
  have hr_83 := (congrFun e_83 r).trans ((bu_ne (bc_dist hr_71 ha_71 (bc_ci (by decide)))).trans hr_71)
  have hra_83 := (congrFun e_83 ra).trans ((bu_ne (bc_dist hra_71 ha_71 bc_io)).trans hra_71)
  have hfi_83 := (congrFun e_83 fi).trans ((bu_ne (bc_dist hfi_71 ha_71 bc_io)).trans hfi_71)
  have ha_83 := (congrFun e_83 a).trans (bu_self _ _ _)
  refine vr_aload_n hE dX6_looksAt_86 rfl ?_
  refine vr_dup hE dX6_looksAt_87 rfl ?_
  refine bc_get (z := 8) hE kc_X6 (by decide) q1096 (Or.inl rfl) ha_83 rfl dX6_looksAt_88 ?_
  refine vr_iload_n hE dX6_looksAt_91 rfl ?_
  refine vr_iadd hE dX6_looksAt_92 ?_
  refine bc_put (z := 8) hE kc_X6 (by decide) q1096 (Or.inl rfl) rfl ha_83 rfl rfl (Nat.le_of_ble_eq_true rfl) dX6_looksAt_93 (by first | decide | omega) ?_
  refine bc_nm (fun M_93 e_93 => ?_)
  have hb_93 := (congrFun e_93 b).trans ((bu_ne (bc_dist hb_83 ha_83 (bc_ci (by decide)))).trans hb_83)
  have hr_93 := (congrFun e_93 r).trans ((bu_ne (bc_dist hr_83 ha_83 (bc_ci (by decide)))).trans hr_83)
  have hra_93 := (congrFun e_93 ra).trans ((bu_ne (bc_dist hra_83 ha_83 bc_io)).trans hra_83)
  have hfi_93 := (congrFun e_93 fi).trans ((bu_ne (bc_dist hfi_83 ha_83 bc_io)).trans hfi_83)
  have ha_93 := (congrFun e_93 a).trans (bu_self _ _ _)
  refine vr_aload_n hE dX6_looksAt_96 rfl ?_
  refine bc_get (z := 10) hE kc_X6 (by decide) q1098 (Or.inl rfl) ha_93 rfl dX6_looksAt_97 ?_
  refine bc_getN (z := 1) hE kc_X2 (by decide) q177 (Or.inl rfl) hr_93 rfl dX6_looksAt_100 ?_
  refine vr_aload_n hE dX6_looksAt_103 rfl ?_
  refine bc_get (z := 1) hE kc_X6 (by decide) q1089 (Or.inl rfl) ha_93 rfl dX6_looksAt_104 ?_
  refine vr_dup2 hE dX6_looksAt_107 rfl rfl ?_
  refine bc_iald hE hfi_93 hf (by omega) (by omega) dX6_looksAt_108 ?_
  refine vr_iload_n hE dX6_looksAt_109 rfl ?_
  refine vr_iadd hE dX6_looksAt_110 ?_
  refine bc_iast hE hfi_93 hf (by omega) (by omega) dX6_looksAt_111 (by first | decide | omega) ?_
  refine bc_nm (fun M_111 e_111 => ?_)
  have hb_111 := (congrFun e_111 b).trans ((bu_ne (bc_dist hb_93 hfi_93 bc_oi)).trans hb_93)
  have hr_111 := (congrFun e_111 r).trans ((bu_ne (bc_dist hr_93 hfi_93 bc_oi)).trans hr_93)
  have hra_111 := (congrFun e_111 ra).trans ((bu_ne hrf).trans hra_93)
  have ha_111 := (congrFun e_111 a).trans ((bu_ne (bc_dist ha_93 hfi_93 bc_oi)).trans ha_93)
  have hfi_111 := (congrFun e_111 fi).trans (bu_self _ _ _)
  refine vr_aload_n hE dX6_looksAt_112 rfl ?_
  refine vr_aload_n hE dX6_looksAt_113 rfl ?_
  refine bc_get (z := 10) hE kc_X6 (by decide) q1098 (Or.inl rfl) ha_111 rfl dX6_looksAt_114 ?_
  refine bc_getN (z := 4) hE kc_X2 (by decide) q183 (Or.inl rfl) hr_111 rfl dX6_looksAt_117 ?_
  refine bc_put (z := 9) hE kc_X6 (by decide) q1097 (Or.inl rfl) rfl ha_111 rfl rfl (Nat.le_of_ble_eq_true rfl) dX6_looksAt_120 (by first | decide | omega) ?_
  refine bc_nm (fun M_120 e_120 => ?_)
  have hb_120 := (congrFun e_120 b).trans ((bu_ne (bc_dist hb_111 ha_111 (bc_ci (by decide)))).trans hb_111)
  have hr_120 := (congrFun e_120 r).trans ((bu_ne (bc_dist hr_111 ha_111 (bc_ci (by decide)))).trans hr_111)
  have hra_120 := (congrFun e_120 ra).trans ((bu_ne (bc_dist hra_111 ha_111 bc_io)).trans hra_111)
  have hfi_120 := (congrFun e_120 fi).trans ((bu_ne (bc_dist hfi_111 ha_111 bc_io)).trans hfi_111)
  have ha_120 := (congrFun e_120 a).trans (bu_self _ _ _)
  refine vr_iload_n hE dX6_looksAt_123 rfl ?_
  refine vr_ireturn hE hQ rfl dX6_looksAt_124 (by decide) ⟨_, ?_, fun H h => hW _ H h⟩
  subst e_120
  subst e_111
  subst e_93
  subst e_83
  subst e_71
  subst e_52
  subst e_32
  exact ⟨rfl, by simp only [bu_bu]; rw [bu_comm (M := M) _ _ (bc_dist h_a h_fi bc_oi), bu_bu] <;> rfl⟩
theorem ok_X6_sealAges : bi_ok yX6_sealAges RX6 0 := by decide +kernel
theorem bk_X6_sealAges {Y : bi_Y} (G : bi_GS Y) (M : va_M) (a r : Nat) (nu fa co de er dr se sh fn ic : Int32) (h_a : M a = some (.inr (3, tL nu fa co de er dr se sh fn ic r))) (ra fi tl wl : Nat) (dy ip ls : Int32) (h_r : M r = some (.inr (1, rL ra fi tl wl dy ip ls))) : bc_Met Y yX6_sealAges (ws_ yX6_sealAges cX6_sealAges 1 none) 1 20 0 0 M [.ref a] (fun v M' => v = none ∧ M' = bu M a (.inr (3, tL nu fa co de er dr (if se = -1 then se else if dy - se < 30 then se else -1) sh fn ic r))) bi_nx := by
  refine bc_Met.of (own := RX6) (L0 := [some (.ref a)]) rfl (by decide) G (Nat.le_of_ble_eq_true rfl) rfl (fun X A hE hQ hW hnl hnm => ?_)
  have hnl : ∀ q, q < 1 → q < bi_nL X := fun q h => by rw [hnl]; exact h
  refine vr_aload_n hE dX6_sealAges_0 rfl ?_
  refine vr_aload_n hE dX6_sealAges_1 rfl ?_
  refine bc_callV hE (bk_X6_isSealed G _ a r nu fa co de er dr se sh fn ic h_a) kc_X6 h_a ok_X6_isSealed (lw_V q1405 q1406 q1407 q106 q1408) rfl rfl (Nat.le_of_ble_eq_true rfl) (by decide) dX6_sealAges_2 (fun _ _ _ h => h.elim) ?_
  rintro v_2 M_2 ⟨rfl, hu_2⟩
  obtain rfl := hu_2.symm
  refine vr_if_eq (tgt := 29) hE dX6_sealAges_5 (by decide) (fun c_5 => ?_) (fun c_5 => ?_)
  · have hs1 : se = -1 := Classical.byContradiction fun z => absurd c_5 (by rw [if_neg z]; decide)
    refine vr_aload_n hE dX6_sealAges_29 rfl ?_
    refine bc_get (z := 6) hE kc_X6 (by decide) q1094 (Or.inl rfl) h_a rfl dX6_sealAges_30 ?_
    refine vr_to (w := .int (if se = -1 then se else if dy - se < 30 then se else -1)) (by rw [if_pos hs1]) ?_
    refine bc_put (z := 6) hE kc_X6 (by decide) q1094 (Or.inl rfl) rfl h_a rfl rfl (Nat.le_of_ble_eq_true rfl) dX6_sealAges_33 (by first | decide | omega) ?_
    refine bc_nm (fun M_33 e_33 => ?_)
    have hr_33 := (congrFun e_33 r).trans ((bu_ne (bc_dist h_r h_a (bc_ci (by decide)))).trans h_r)
    have ha_33 := (congrFun e_33 a).trans (bu_self _ _ _)
    refine vr_return hE hQ dX6_sealAges_36 (by decide) ⟨_, ?_, fun H h => hW _ H h⟩
    subst e_33
    exact ⟨rfl, by first | rfl | (simp only [bu_bu] <;> rfl)⟩
  · have hs1 : ¬ se = -1 := fun z => c_5 (if_pos z)
    refine vr_aload_n hE dX6_sealAges_8 rfl ?_
    refine bc_get (z := 10) hE kc_X6 (by decide) q1098 (Or.inl rfl) h_a rfl dX6_sealAges_9 ?_
    refine bc_getN (z := 4) hE kc_X2 (by decide) q183 (Or.inl rfl) h_r rfl dX6_sealAges_12 ?_
    refine vr_aload_n hE dX6_sealAges_15 rfl ?_
    refine bc_get (z := 6) hE kc_X6 (by decide) q1094 (Or.inl rfl) h_a rfl dX6_sealAges_16 ?_
    refine vr_isub hE dX6_sealAges_19 ?_
    refine vr_bipush (v := 30) hE dX6_sealAges_20 (by decide) ?_
    refine vr_icmp_lt (tgt := 29) hE dX6_sealAges_22 (by decide) (fun c_22 => ?_) (fun c_22 => ?_)
    · skip
      refine vr_aload_n hE dX6_sealAges_29 rfl ?_
      refine bc_get (z := 6) hE kc_X6 (by decide) q1094 (Or.inl rfl) h_a rfl dX6_sealAges_30 ?_
      refine vr_to (w := .int (if se = -1 then se else if dy - se < 30 then se else -1)) (by rw [if_neg hs1, if_pos c_22]) ?_
      refine bc_put (z := 6) hE kc_X6 (by decide) q1094 (Or.inl rfl) rfl h_a rfl rfl (Nat.le_of_ble_eq_true rfl) dX6_sealAges_33 (by first | decide | omega) ?_
      refine bc_nm (fun M_33 e_33 => ?_)
      have hr_33 := (congrFun e_33 r).trans ((bu_ne (bc_dist h_r h_a (bc_ci (by decide)))).trans h_r)
      have ha_33 := (congrFun e_33 a).trans (bu_self _ _ _)
      refine vr_return hE hQ dX6_sealAges_36 (by decide) ⟨_, ?_, fun H h => hW _ H h⟩
      subst e_33
      exact ⟨rfl, by first | rfl | (simp only [bu_bu] <;> rfl)⟩
    · skip
      refine vr_iconst (v := -1) hE dX6_sealAges_25 (by decide) ?_
      refine vr_goto (tgt := 33) hE dX6_sealAges_26 (by decide) ?_
      refine vr_to (w := .int (if se = -1 then se else if dy - se < 30 then se else -1)) (by rw [if_neg hs1, if_neg c_22]) ?_
      refine bc_put (z := 6) hE kc_X6 (by decide) q1094 (Or.inl rfl) rfl h_a rfl rfl (Nat.le_of_ble_eq_true rfl) dX6_sealAges_33 (by first | decide | omega) ?_
      refine bc_nm (fun M_33 e_33 => ?_)
      have hr_33 := (congrFun e_33 r).trans ((bu_ne (bc_dist h_r h_a (bc_ci (by decide)))).trans h_r)
      have ha_33 := (congrFun e_33 a).trans (bu_self _ _ _)
      refine vr_return hE hQ dX6_sealAges_36 (by decide) ⟨_, ?_, fun H h => hW _ H h⟩
      subst e_33
      exact ⟨rfl, by first | rfl | (simp only [bu_bu] <;> rfl)⟩
theorem ok_X6_isFalse : bi_ok yX6_isFalse RX6 0 := by decide +kernel
theorem bk_X6_isFalse {Y : bi_Y} (G : bi_GS Y) (M : va_M) (a r : Nat) (nu fa co de er dr se sh fn ic : Int32) (h_a : M a = some (.inr (3, tL nu fa co de er dr se sh fn ic r))) : bc_Met Y yX6_isFalse (ws_ yX6_isFalse cX6_isFalse 1 (some .boolean)) 1 22 0 0 M [.ref a] (fun v M' => v = some (.int (if ¬ in_ er (-4) 4 = 0 then 0 else 1)) ∧ M' = M) bi_nx := by
  refine bc_Met.of (own := RX6) (L0 := [some (.ref a)]) rfl (by decide) G (Nat.le_of_ble_eq_true rfl) rfl (fun X A hE hQ hW hnl hnm => ?_)
  have hnl : ∀ q, q < 1 → q < bi_nL X := fun q h => by rw [hnl]; exact h
  refine vr_aload_n hE dX6_isFalse_0 rfl ?_
  refine bc_get (z := 4) hE kc_X6 (by decide) q1092 (Or.inl rfl) h_a rfl dX6_isFalse_1 ?_
  refine vr_bipush (v := -4) hE dX6_isFalse_4 (by decide) ?_
  refine vr_iconst (v := 4) hE dX6_isFalse_6 (by decide) ?_
  refine bc_callSN hE (bk_X1_isIn G _ _ _ _) ok_X1_isIn q1522 q392 q71 q393 rfl rfl (Nat.le_of_ble_eq_true rfl) (by decide) dX6_isFalse_7 (fun _ _ _ h => h.elim) ?_
  rintro v_7 M_7 ⟨rfl, hu_7⟩
  obtain rfl := hu_7.symm
  apply vt_if_ne (tgt := 17) (J := 18) hE dX6_isFalse_10 (by decide)
  · intro c_10 kt1
    refine vr_iconst (v := 0) hE dX6_isFalse_17 (by decide) ?_
    exact kt1
  · intro c_10 kf1
    refine vr_iconst (v := 1) hE dX6_isFalse_13 (by decide) ?_
    refine vr_goto (tgt := 18) hE dX6_isFalse_14 (by decide) ?_
    exact kf1
  refine vr_ireturn hE hQ (by split <;> rfl) dX6_isFalse_18 (by decide) ⟨_, ?_, fun H h => hW _ H h⟩
  exact ⟨rfl, rfl⟩
theorem ok_X6_lossAgain : bi_ok yX6_lossAgain RX6 0 := by decide +kernel
theorem bk_X6_lossAgain {Y : bi_Y} (G : bi_GS Y) (M : va_M) (a r : Nat) (nu fa co de er dr se sh fn ic : Int32) (h_a : M a = some (.inr (3, tL nu fa co de er dr se sh fn ic r))) (j : Nat) (hj : j < 101) (hej : er = nI j - 50) (h : Nat) (hh20 : h ≤ 20) (hsh : sh = nI h) : bc_Met Y yX6_lossAgain (ws_ yX6_lossAgain cX6_lossAgain 3 (some .int)) 0 0 0 0 M [.ref a] (fun v M' => v = some (.int (c_tens er + sh / 5)) ∧ M' = M) bi_nx := by
  refine bc_Met.of (own := RX6) (L0 := [some (.ref a), none, none]) rfl (by decide) G (Nat.le_of_ble_eq_true rfl) rfl (fun X A hE hQ hW hnl hnm => ?_)
  have hnl : ∀ q, q < 3 → q < bi_nL X := fun q h => by rw [hnl]; exact h
  refine vr_iconst (v := 0) hE dX6_lossAgain_0 (by decide) ?_
  refine vr_istore_n hE dX6_lossAgain_1 (hnl _ (by decide)) rfl ?_
  refine vr_bipush (v := 10) hE dX6_lossAgain_2 (by decide) ?_
  refine vr_istore_n hE dX6_lossAgain_4 (hnl _ (by decide)) rfl ?_
  have hJ : ∀ i0, i0 ≤ 5 → c_tens er = nI i0 → bi_V Y.1 X (bc_W Y (bi_A X) M) 0 0 22 [some (.ref a), some (.int (nI i0)), some (.int (nI (10 * (i0 + 1))))] [] := by
    intro i0 hi0 hei
    have hlp_24 : ∀ (c : Nat) (i : Nat), i + c = 4 → 5 * i ≤ h → bi_V Y.1 X (bc_W Y (bi_A X) M) 0 0 24 [some (.ref a), some (.int (nI (i0 + i))), some (.int (nI (5 * (i + 1))))] [] := by
      intro c
      induction c with
      | zero =>
        intro i hi h5
        refine vr_iload_n hE dX6_lossAgain_24 rfl ?_
        refine vr_aload_n hE dX6_lossAgain_25 rfl ?_
        refine bc_get (z := 7) hE kc_X6 (by decide) q1095 (Or.inl rfl) h_a rfl dX6_lossAgain_26 ?_
        refine vr_icmp_gt (tgt := 41) hE dX6_lossAgain_29 (by decide) (fun c_29 => ?_) (fun c_29 => ?_)
        · skip
          refine vr_iload_n hE dX6_lossAgain_41 rfl ?_
          refine vr_ireturn hE hQ rfl dX6_lossAgain_42 (by decide) ⟨_, ?_, fun H h => hW _ H h⟩
          have hq : h / 5 = i := by omega
          exact ⟨by rw [hei, hsh, show (5 : Int32) = nI 5 from rfl, pk_div (by omega) (by decide) (by decide), hq, nI_add], rfl⟩
        · exact absurd (show sh < nI (5 * (i + 1)) from by rw [hsh]; exact nI_lt (by omega) (by omega)) c_29
      | succ c ih =>
        intro i hi h5
        refine vr_iload_n hE dX6_lossAgain_24 rfl ?_
        refine vr_aload_n hE dX6_lossAgain_25 rfl ?_
        refine bc_get (z := 7) hE kc_X6 (by decide) q1095 (Or.inl rfl) h_a rfl dX6_lossAgain_26 ?_
        refine vr_icmp_gt (tgt := 41) hE dX6_lossAgain_29 (by decide) (fun c_29 => ?_) (fun c_29 => ?_)
        · have hlt : h < 5 * (i + 1) := Nat.lt_of_not_le (fun z => absurd (show nI (5 * (i + 1)) ≤ sh from by rw [hsh]; exact nI_le z (by omega)) (Int32.not_le.mpr c_29))
          refine vr_iload_n hE dX6_lossAgain_41 rfl ?_
          refine vr_ireturn hE hQ rfl dX6_lossAgain_42 (by decide) ⟨_, ?_, fun H h => hW _ H h⟩
          have hq : h / 5 = i := by omega
          exact ⟨by rw [hei, hsh, show (5 : Int32) = nI 5 from rfl, pk_div (by omega) (by decide) (by decide), hq, nI_add], rfl⟩
        · have hle : 5 * (i + 1) ≤ h := Nat.le_of_not_lt (fun z => c_29 (show sh < nI (5 * (i + 1)) from by rw [hsh]; exact nI_lt z (by omega)))
          refine vr_iinc hE dX6_lossAgain_32 rfl (iinc_1 _) (hnl _ (by decide)) rfl ?_
          refine vr_iinc hE dX6_lossAgain_35 rfl (show nI (5 * (i + 1)) + Int32.ofInt 5 = nI (5 * (i + 1 + 1)) from (congrArg (nI (5 * (i + 1)) + ·) (show Int32.ofInt 5 = nI 5 from rfl)).trans (nI_add _ 5)) (hnl _ (by decide)) rfl ?_
          refine vr_goto (tgt := 24) hE dX6_lossAgain_38 (by decide) ?_
          exact ih (i + 1) (by omega) hle
    refine vr_iconst (v := 5) hE dX6_lossAgain_22 (by decide) ?_
    refine vr_istore_n hE dX6_lossAgain_23 (hnl _ (by decide)) rfl ?_
    exact hlp_24 4 0 rfl (Nat.zero_le _)
  have hlp_5 : ∀ (c : Nat) (i : Nat), i + c = 5 → (i = 0 ∨ nI (10 * i) ≤ er) → bi_V Y.1 X (bc_W Y (bi_A X) M) 0 0 5 [some (.ref a), some (.int (nI i)), some (.int (nI (10 * (i + 1))))] [] := by
    intro c
    induction c with
    | zero =>
      intro i hi hge
      refine vr_iload_n hE dX6_lossAgain_5 rfl ?_
      refine vr_aload_n hE dX6_lossAgain_6 rfl ?_
      refine bc_get (z := 4) hE kc_X6 (by decide) q1092 (Or.inl rfl) h_a rfl dX6_lossAgain_7 ?_
      refine vr_icmp_gt (tgt := 22) hE dX6_lossAgain_10 (by decide) (fun c_10 => ?_) (fun c_10 => ?_)
      · have hx := c_le2 j hj i (by omega) (by rw [← hej]; exact Int32.not_le.mpr c_10) (by rw [← hej]; exact hge)
        rw [← hej] at hx
        exact hJ i (by omega) hx
      · exact absurd (c_le1 j hj i (by omega) (by rw [← hej]; exact Int32.not_lt.mp c_10)) (by omega)
    | succ c ih =>
      intro i hi hge
      refine vr_iload_n hE dX6_lossAgain_5 rfl ?_
      refine vr_aload_n hE dX6_lossAgain_6 rfl ?_
      refine bc_get (z := 4) hE kc_X6 (by decide) q1092 (Or.inl rfl) h_a rfl dX6_lossAgain_7 ?_
      refine vr_icmp_gt (tgt := 22) hE dX6_lossAgain_10 (by decide) (fun c_10 => ?_) (fun c_10 => ?_)
      · have hx := c_le2 j hj i (by omega) (by rw [← hej]; exact Int32.not_le.mpr c_10) (by rw [← hej]; exact hge)
        rw [← hej] at hx
        exact hJ i (by omega) hx
      · have hle : nI (10 * (i + 1)) ≤ er := Int32.not_lt.mp c_10
        refine vr_iinc hE dX6_lossAgain_13 rfl (iinc_1 _) (hnl _ (by decide)) rfl ?_
        refine vr_iinc hE dX6_lossAgain_16 rfl (show nI (10 * (i + 1)) + Int32.ofInt 10 = nI (10 * (i + 1 + 1)) from (congrArg (nI (10 * (i + 1)) + ·) (show Int32.ofInt 10 = nI 10 from rfl)).trans (nI_add _ 10)) (hnl _ (by decide)) rfl ?_
        refine vr_goto (tgt := 5) hE dX6_lossAgain_19 (by decide) ?_
        exact ih (i + 1) (by omega) (Or.inr hle)
  exact hlp_5 5 0 rfl (Or.inl rfl)
theorem ok_X6_init_2 : bi_ok yX6_init_2 RX6 5 := by decide +kernel
theorem bk_X6_init_2 {Y : bi_Y} (G : bi_GS Y) (M : va_M) (a r : Nat) (h_a : M a = some (.inr (3, [.int 0, .int 0, .int 0, .int 0, .int 0, .int 0, .int 0, .int 0, .int 0, .int 0, .null]))) (x y z w : Int32) : bc_Met Y yX6_init_2 (ws_ yX6_init_2 cX6_init_2 6 none) 1 28 0 0 M [.ref a, .ref r, .int x, .int y, .int z, .int w] (fun v M' => v = none ∧ M' = bu M a (.inr (3, tL x y z 0 0 w (-1) 0 0 (-1) r))) bi_nx := by
  refine bc_Met.of (own := RX6) (L0 := [some (.ref a), some (.ref r), some (.int x), some (.int y), some (.int z), some (.int w)]) rfl (by decide) G (Nat.le_of_ble_eq_true rfl) rfl (fun X A hE hQ hW hnl hnm => ?_)
  have hnl : ∀ q, q < 6 → q < bi_nL X := fun q h => by rw [hnl]; exact h
  refine vr_aload_n hE dX6_init_2_0 rfl ?_
  refine vr_aload_n hE dX6_init_2_1 rfl ?_
  refine bc_putF (z := 10) hE kc_X6 (by decide) q1098 rfl rfl (hnm _ rfl) h_a rfl rfl (Nat.le_of_ble_eq_true rfl) dX6_init_2_2 (by first | decide | omega) ?_
  refine bc_nm (fun M_2 e_2 => ?_)
  have ha_2 := (congrFun e_2 a).trans (bu_self _ _ _)
  refine vr_aload_n hE dX6_init_2_5 rfl ?_
  refine vr_objInit hE q1087 q132 q133 dX6_init_2_6 ⟨by decide, Nat.le_of_ble_eq_true rfl⟩ ?_
  refine vr_aload_n hE dX6_init_2_9 rfl ?_
  refine vr_iconst (v := -1) hE dX6_init_2_10 (by decide) ?_
  refine bc_put (z := 6) hE kc_X6 (by decide) q1094 (Or.inl rfl) rfl ha_2 rfl rfl (Nat.le_of_ble_eq_true rfl) dX6_init_2_11 (by first | decide | omega) ?_
  refine bc_nm (fun M_11 e_11 => ?_)
  have ha_11 := (congrFun e_11 a).trans (bu_self _ _ _)
  refine vr_aload_n hE dX6_init_2_14 rfl ?_
  refine vr_iconst (v := -1) hE dX6_init_2_15 (by decide) ?_
  refine bc_put (z := 9) hE kc_X6 (by decide) q1097 (Or.inl rfl) rfl ha_11 rfl rfl (Nat.le_of_ble_eq_true rfl) dX6_init_2_16 (by first | decide | omega) ?_
  refine bc_nm (fun M_16 e_16 => ?_)
  have ha_16 := (congrFun e_16 a).trans (bu_self _ _ _)
  refine vr_aload_n hE dX6_init_2_19 rfl ?_
  refine vr_iload_n hE dX6_init_2_20 rfl ?_
  refine bc_putF (z := 0) hE kc_X6 (by decide) q1088 rfl rfl (hnm _ rfl) ha_16 rfl rfl (Nat.le_of_ble_eq_true rfl) dX6_init_2_21 (by first | decide | omega) ?_
  refine bc_nm (fun M_21 e_21 => ?_)
  have ha_21 := (congrFun e_21 a).trans (bu_self _ _ _)
  refine vr_aload_n hE dX6_init_2_24 rfl ?_
  refine vr_iload_n hE dX6_init_2_25 rfl ?_
  refine bc_putF (z := 1) hE kc_X6 (by decide) q1089 rfl rfl (hnm _ rfl) ha_21 rfl rfl (Nat.le_of_ble_eq_true rfl) dX6_init_2_26 (by first | decide | omega) ?_
  refine bc_nm (fun M_26 e_26 => ?_)
  have ha_26 := (congrFun e_26 a).trans (bu_self _ _ _)
  refine vr_aload_n hE dX6_init_2_29 rfl ?_
  refine vr_iload hE dX6_init_2_30 rfl ?_
  refine bc_put (z := 2) hE kc_X6 (by decide) q1090 (Or.inl rfl) rfl ha_26 rfl rfl (Nat.le_of_ble_eq_true rfl) dX6_init_2_32 (by first | decide | omega) ?_
  refine bc_nm (fun M_32 e_32 => ?_)
  have ha_32 := (congrFun e_32 a).trans (bu_self _ _ _)
  refine vr_aload_n hE dX6_init_2_35 rfl ?_
  refine vr_iload hE dX6_init_2_36 rfl ?_
  refine bc_put (z := 5) hE kc_X6 (by decide) q1093 (Or.inl rfl) rfl ha_32 rfl rfl (Nat.le_of_ble_eq_true rfl) dX6_init_2_38 (by first | decide | omega) ?_
  refine bc_nm (fun M_38 e_38 => ?_)
  have ha_38 := (congrFun e_38 a).trans (bu_self _ _ _)
  refine vr_return hE hQ dX6_init_2_41 (by decide) ⟨_, ?_, fun H h => hW _ H h⟩
  subst e_38
  subst e_32
  subst e_26
  subst e_21
  subst e_16
  subst e_11
  subst e_2
  exact ⟨rfl, by first | rfl | (simp only [bu_bu] <;> rfl)⟩
theorem ok_X6_init : bi_ok yX6_init RX6 2 := by decide +kernel
theorem bk_X6_init {Y : bi_Y} (G : bi_GS Y) (M : va_M) (a r : Nat) (h_a : M a = some (.inr (3, [.int 0, .int 0, .int 0, .int 0, .int 0, .int 0, .int 0, .int 0, .int 0, .int 0, .null]))) (c r0 : Nat) (nu fa co de er dr se sh fn ic : Int32) (h_c : M c = some (.inr (3, tL nu fa co de er dr se sh fn ic r0))) (hac : c ≠ a) : bc_Met Y yX6_init (ws_ yX6_init cX6_init 3 none) 2 53 0 0 M [.ref a, .ref r, .ref c] (fun v M' => v = none ∧ M' = bu M a (.inr (3, tL nu fa co de er dr se sh fn ic r))) bi_nx := by
  refine bc_Met.of (own := RX6) (L0 := [some (.ref a), some (.ref r), some (.ref c)]) rfl (by decide) G (Nat.le_of_ble_eq_true rfl) rfl (fun X A hE hQ hW hnl hnm => ?_)
  have hnl : ∀ q, q < 3 → q < bi_nL X := fun q h => by rw [hnl]; exact h
  refine vr_aload_n hE dX6_init_0 rfl ?_
  refine vr_aload_n hE dX6_init_1 rfl ?_
  refine vr_aload_n hE dX6_init_2 rfl ?_
  refine bc_get (z := 0) hE kc_X6 (by decide) q1088 (Or.inl rfl) h_c rfl dX6_init_3 ?_
  refine vr_aload_n hE dX6_init_6 rfl ?_
  refine bc_get (z := 1) hE kc_X6 (by decide) q1089 (Or.inl rfl) h_c rfl dX6_init_7 ?_
  refine vr_aload_n hE dX6_init_10 rfl ?_
  refine bc_get (z := 2) hE kc_X6 (by decide) q1090 (Or.inl rfl) h_c rfl dX6_init_11 ?_
  refine vr_aload_n hE dX6_init_14 rfl ?_
  refine bc_get (z := 5) hE kc_X6 (by decide) q1093 (Or.inl rfl) h_c rfl dX6_init_15 ?_
  refine bc_callI hE (bk_X6_init_2 G _ a r h_a _ _ _ _) ok_X6_init_2 rfl q1084 q1085 q106 q1086 rfl rfl (Nat.le_of_ble_eq_true rfl) (by decide) dX6_init_18 (fun _ _ _ h => h.elim) ?_
  rintro v_18 M_18 ⟨rfl, e_18⟩
  have hc_18 := (congrFun e_18 c).trans ((bu_ne hac).trans h_c)
  have ha_18 := (congrFun e_18 a).trans (bu_self _ _ _)
  refine vr_aload_n hE dX6_init_21 rfl ?_
  refine vr_aload_n hE dX6_init_22 rfl ?_
  refine bc_get (z := 3) hE kc_X6 (by decide) q1091 (Or.inl rfl) hc_18 rfl dX6_init_23 ?_
  refine bc_put (z := 3) hE kc_X6 (by decide) q1091 (Or.inl rfl) rfl ha_18 rfl rfl (Nat.le_of_ble_eq_true rfl) dX6_init_26 (by first | decide | omega) ?_
  refine bc_nm (fun M_26 e_26 => ?_)
  have hc_26 := (congrFun e_26 c).trans ((bu_ne hac).trans hc_18)
  have ha_26 := (congrFun e_26 a).trans (bu_self _ _ _)
  refine vr_aload_n hE dX6_init_29 rfl ?_
  refine vr_aload_n hE dX6_init_30 rfl ?_
  refine bc_get (z := 4) hE kc_X6 (by decide) q1092 (Or.inl rfl) hc_26 rfl dX6_init_31 ?_
  refine bc_put (z := 4) hE kc_X6 (by decide) q1092 (Or.inl rfl) rfl ha_26 rfl rfl (Nat.le_of_ble_eq_true rfl) dX6_init_34 (by first | decide | omega) ?_
  refine bc_nm (fun M_34 e_34 => ?_)
  have hc_34 := (congrFun e_34 c).trans ((bu_ne hac).trans hc_26)
  have ha_34 := (congrFun e_34 a).trans (bu_self _ _ _)
  refine vr_aload_n hE dX6_init_37 rfl ?_
  refine vr_aload_n hE dX6_init_38 rfl ?_
  refine bc_get (z := 6) hE kc_X6 (by decide) q1094 (Or.inl rfl) hc_34 rfl dX6_init_39 ?_
  refine bc_put (z := 6) hE kc_X6 (by decide) q1094 (Or.inl rfl) rfl ha_34 rfl rfl (Nat.le_of_ble_eq_true rfl) dX6_init_42 (by first | decide | omega) ?_
  refine bc_nm (fun M_42 e_42 => ?_)
  have hc_42 := (congrFun e_42 c).trans ((bu_ne hac).trans hc_34)
  have ha_42 := (congrFun e_42 a).trans (bu_self _ _ _)
  refine vr_aload_n hE dX6_init_45 rfl ?_
  refine vr_aload_n hE dX6_init_46 rfl ?_
  refine bc_get (z := 7) hE kc_X6 (by decide) q1095 (Or.inl rfl) hc_42 rfl dX6_init_47 ?_
  refine bc_put (z := 7) hE kc_X6 (by decide) q1095 (Or.inl rfl) rfl ha_42 rfl rfl (Nat.le_of_ble_eq_true rfl) dX6_init_50 (by first | decide | omega) ?_
  refine bc_nm (fun M_50 e_50 => ?_)
  have hc_50 := (congrFun e_50 c).trans ((bu_ne hac).trans hc_42)
  have ha_50 := (congrFun e_50 a).trans (bu_self _ _ _)
  refine vr_aload_n hE dX6_init_53 rfl ?_
  refine vr_aload_n hE dX6_init_54 rfl ?_
  refine bc_get (z := 8) hE kc_X6 (by decide) q1096 (Or.inl rfl) hc_50 rfl dX6_init_55 ?_
  refine bc_put (z := 8) hE kc_X6 (by decide) q1096 (Or.inl rfl) rfl ha_50 rfl rfl (Nat.le_of_ble_eq_true rfl) dX6_init_58 (by first | decide | omega) ?_
  refine bc_nm (fun M_58 e_58 => ?_)
  have hc_58 := (congrFun e_58 c).trans ((bu_ne hac).trans hc_50)
  have ha_58 := (congrFun e_58 a).trans (bu_self _ _ _)
  refine vr_aload_n hE dX6_init_61 rfl ?_
  refine vr_aload_n hE dX6_init_62 rfl ?_
  refine bc_get (z := 9) hE kc_X6 (by decide) q1097 (Or.inl rfl) hc_58 rfl dX6_init_63 ?_
  refine bc_put (z := 9) hE kc_X6 (by decide) q1097 (Or.inl rfl) rfl ha_58 rfl rfl (Nat.le_of_ble_eq_true rfl) dX6_init_66 (by first | decide | omega) ?_
  refine bc_nm (fun M_66 e_66 => ?_)
  have hc_66 := (congrFun e_66 c).trans ((bu_ne hac).trans hc_58)
  have ha_66 := (congrFun e_66 a).trans (bu_self _ _ _)
  refine vr_return hE hQ dX6_init_69 (by decide) ⟨_, ?_, fun H h => hW _ H h⟩
  subst e_66
  subst e_58
  subst e_50
  subst e_42
  subst e_34
  subst e_26
  subst e_18
  exact ⟨rfl, by first | rfl | (simp only [bu_bu] <;> rfl)⟩
theorem ok_X7_init : bi_ok yX7_init RX7 2 := by decide +kernel
theorem bk_X7_init {Y : bi_Y} (G : bi_GS Y) (M : va_M) (b : Nat) (h_b : M b = some (.inr (4, [.int 0, .int 0, .int 0, .int 0]))) (x y : Int32) : bc_Met Y yX7_init (ws_ yX7_init cX7_init 3 none) 1 28 0 0 M [.ref b, .int x, .int y] (fun v M' => v = none ∧ M' = bu M b (.inr (4, bL x y 0 0))) bi_nx := by
  refine bc_Met.of (own := RX7) (L0 := [some (.ref b), some (.int x), some (.int y)]) rfl (by decide) G (Nat.le_of_ble_eq_true rfl) rfl (fun X A hE hQ hW hnl hnm => ?_)
  have hnl : ∀ q, q < 3 → q < bi_nL X := fun q h => by rw [hnl]; exact h
  refine vr_aload_n hE dX7_init_0 rfl ?_
  refine vr_objInit hE q1196 q132 q133 dX7_init_1 ⟨by decide, Nat.le_of_ble_eq_true rfl⟩ ?_
  refine vr_aload_n hE dX7_init_4 rfl ?_
  refine vr_iload_n hE dX7_init_5 rfl ?_
  refine bc_putF (z := 0) hE kc_X7 (by decide) q1197 rfl rfl (hnm _ rfl) h_b rfl rfl (Nat.le_of_ble_eq_true rfl) dX7_init_6 (by first | decide | omega) ?_
  refine bc_nm (fun M_6 e_6 => ?_)
  have hb_6 := (congrFun e_6 b).trans (bu_self _ _ _)
  refine vr_aload_n hE dX7_init_9 rfl ?_
  refine vr_iload_n hE dX7_init_10 rfl ?_
  refine bc_putF (z := 1) hE kc_X7 (by decide) q1198 rfl rfl (hnm _ rfl) hb_6 rfl rfl (Nat.le_of_ble_eq_true rfl) dX7_init_11 (by first | decide | omega) ?_
  refine bc_nm (fun M_11 e_11 => ?_)
  have hb_11 := (congrFun e_11 b).trans (bu_self _ _ _)
  refine vr_return hE hQ dX7_init_14 (by decide) ⟨_, ?_, fun H h => hW _ H h⟩
  subst e_11
  subst e_6
  exact ⟨rfl, by first | rfl | (simp only [bu_bu] <;> rfl)⟩
theorem ok_X7_copy : bi_ok yX7_copy RX7 0 := by decide +kernel
theorem bk_X7_copy {Y : bi_Y} (G : bi_GS Y) (M : va_M) (b : Nat) (nb oz we us : Int32) (h_b : M b = some (.inr (4, bL nb oz we us))) : bc_Met Y yX7_copy (ws_ yX7_copy cX7_copy 2 (some (.object "BrassInspector$Brass"))) 2 50 1 4 M [.ref b] (fun v M' => ∃ q, v = some (.ref q) ∧ M q = none ∧ M' = bu M q (.inr (4, bL nb oz we us))) bi_nx := by
  refine bc_Met.of (own := RX7) (L0 := [some (.ref b), none]) rfl (by decide) G (Nat.le_of_ble_eq_true rfl) rfl (fun X A hE hQ hW hnl hnm => ?_)
  have hnl : ∀ q, q < 2 → q < bi_nL X := fun q h => by rw [hnl]; exact h
  refine bc_new (fs := [.int 0, .int 0, .int 0, .int 0]) hE kc_X7 q1191 q1192 q108 df_X7 (by decide) (by decide) dX7_copy_0 (fun q hn_q => ?_)
  refine bc_nm (fun M_0 e_0 => ?_)
  have nb_q := bc_new_ne h_b hn_q
  have hz_q : M q = none := hn_q
  have hb_0 := (congrFun e_0 b).trans ((bu_ne nb_q).trans h_b)
  have hq_0 := (congrFun e_0 q).trans (bu_self _ _ _)
  refine vr_dup hE dX7_copy_3 rfl ?_
  refine vr_aload_n hE dX7_copy_4 rfl ?_
  refine bc_get (z := 0) hE kc_X7 (by decide) q1197 (Or.inl rfl) hb_0 rfl dX7_copy_5 ?_
  refine vr_aload_n hE dX7_copy_8 rfl ?_
  refine bc_get (z := 1) hE kc_X7 (by decide) q1198 (Or.inl rfl) hb_0 rfl dX7_copy_9 ?_
  refine bc_callI hE (bk_X7_init G _ q hq_0 _ _) ok_X7_init rfl q1193 q1194 q108 q1195 rfl rfl (Nat.le_of_ble_eq_true rfl) (by decide) dX7_copy_12 (fun _ _ _ h => h.elim) ?_
  rintro v_12 M_12 ⟨rfl, e_12⟩
  have hb_12 := (congrFun e_12 b).trans ((bu_ne nb_q).trans hb_0)
  have hq_12 := (congrFun e_12 q).trans (bu_self _ _ _)
  refine vr_astore_n hE dX7_copy_15 (hnl _ (by decide)) rfl ?_
  refine vr_aload_n hE dX7_copy_16 rfl ?_
  refine vr_aload_n hE dX7_copy_17 rfl ?_
  refine bc_get (z := 2) hE kc_X7 (by decide) q1199 (Or.inl rfl) hb_12 rfl dX7_copy_18 ?_
  refine bc_put (z := 2) hE kc_X7 (by decide) q1199 (Or.inl rfl) rfl hq_12 rfl rfl (Nat.le_of_ble_eq_true rfl) dX7_copy_21 (by first | decide | omega) ?_
  refine bc_nm (fun M_21 e_21 => ?_)
  have hb_21 := (congrFun e_21 b).trans ((bu_ne nb_q).trans hb_12)
  have hq_21 := (congrFun e_21 q).trans (bu_self _ _ _)
  refine vr_aload_n hE dX7_copy_24 rfl ?_
  refine vr_aload_n hE dX7_copy_25 rfl ?_
  refine bc_get (z := 3) hE kc_X7 (by decide) q1200 (Or.inl rfl) hb_21 rfl dX7_copy_26 ?_
  refine bc_put (z := 3) hE kc_X7 (by decide) q1200 (Or.inl rfl) rfl hq_21 rfl rfl (Nat.le_of_ble_eq_true rfl) dX7_copy_29 (by first | decide | omega) ?_
  refine bc_nm (fun M_29 e_29 => ?_)
  have hb_29 := (congrFun e_29 b).trans ((bu_ne nb_q).trans hb_21)
  have hq_29 := (congrFun e_29 q).trans (bu_self _ _ _)
  refine vr_aload_n hE dX7_copy_32 rfl ?_
  refine vr_areturn hE hQ (Or.inl ⟨_, rfl⟩) (Or.inr ⟨_, rfl⟩) dX7_copy_33 (by decide) ⟨_, ?_, fun H h => hW _ H h⟩
  subst e_29
  subst e_21
  subst e_12
  subst e_0
  exact ⟨q, rfl, hn_q, by simp only [bu_bu] <;> rfl⟩
