/-! StringBuilder: append(char), setLength(0), born -/
set_option maxRecDepth 100000
def bTL (T : Nat → Nat) (e : Nat) (f : Nat → Int32) : Prop := ∀ j, j < e → T j < 256 ∧ f j = sb_b (T j)
def bTU (T : Nat → Nat) (e : Nat) (f : Nat → Int32) : Prop := ∀ j, j < e → T j < 65536 ∧ f (2 * j) = sb_b (T j) ∧ f (2 * j + 1) = sb_b (T j / 256)
/-- a builder that holds the e letters T -/
def BufT (Y : bi_Y) (M : va_M) (sb v : Nat) (T : Nat → Nat) (e : Nat) : Prop := (∃ mb c f, BfL Y M sb v mb c e f ∧ bTL T e f) ∨ (∃ mb c f, BfU Y M sb v mb c e f ∧ bTU T e f)
theorem BufT.keep {Y : bi_Y} {M M' : va_M} {sb v : Nat} {T : Nat → Nat} {e : Nat} (h : BufT Y M sb v T e) (k1 : M' sb = M sb) (k2 : M' v = M v) : BufT Y M' sb v T e := by
  rcases h with ⟨mb, c, f, ⟨h1, h2, h3⟩, h4⟩ | ⟨mb, c, f, ⟨h1, h2, h3⟩, h4⟩
  · exact Or.inl ⟨mb, c, f, ⟨k1.trans h1, k2.trans h2, h3⟩, h4⟩
  · exact Or.inr ⟨mb, c, f, ⟨k1.trans h1, k2.trans h2, h3⟩, h4⟩
theorem bTL.put {T : Nat → Nat} {e x : Nat} {f f1 : Nat → Int32} (h : bTL T e f) (hf : ∀ j, j < e → f1 j = f j) (hx : x < 256) : bTL (updN T e x) (e + 1) (upd f1 e (vp_nar .byte (sb_b x))) := fun j hj => by
  by_cases hje : j = e
  · subst hje
    rw [updN_s, pk_us]
    exact ⟨hx, pk_vb _⟩
  · rw [updN_n hje, pk_un (by omega), hf j (by omega)]
    exact h j (by omega)
theorem bTU.put {T : Nat → Nat} {e x : Nat} {f1 : Nat → Int32} (h : bTU T e f1) (hx : x < 65536) : bTU (updN T e x) (e + 1) (upd (upd f1 (2 * e) (vp_nar .byte (sb_b x))) (2 * e + 1) (vp_nar .byte (sb_b (x / 256)))) := fun j hj => by
  by_cases hje : j = e
  · subst hje
    rw [updN_s]
    exact ⟨hx, fx_0, fx_1⟩
  · rw [updN_n hje, fx_n (by omega) (by omega), fx_n (by omega) (by omega)]
    exact h j (by omega)
theorem ok_J5_append_3 : bi_ok yJ5_append_3 RJ5 1 := by decide +kernel
theorem bk_J5_appendLS {Y : bi_Y} (G : bi_GS Y) (M : va_M) (sb v c e x : Nat) (mb : Int32) (T : Nat → Nat) (f : Nat → Int32) (hB : BfL Y M sb v mb c e f) (hT : bTL T e f) (he34 : e < 34) (hx : x < 256) : bc_Met Y yJ5_append_3 (ws_ yJ5_append_3 cJ5_append_3 2 (some (.object "java/lang/AbstractStringBuilder"))) 10 250 2 300 M [.ref sb, .int (nI x)] (fun v9 M' => v9 = some (.ref sb) ∧ ∃ v', BufT Y M' sb v' (updN T e x) (e + 1) ∧ (∀ q y, M q = some y → q ≠ sb → q ≠ v → M' q = some y) ∧ (v' = v ∨ M v' = none)) bi_nx := by
  obtain ⟨h_sb, h_v, hF, hc, he⟩ := id hB
  refine bc_Met.of (own := RJ5) (L0 := [some (.ref sb), some (.int (nI x))]) rfl (by decide) G (Nat.le_of_ble_eq_true rfl) rfl (fun X A hE hQ hW hnl hnm => ?_)
  have hnl : ∀ q, q < 2 → q < bi_nL X := fun q h => by rw [hnl]; exact h
  refine vr_aload_n hE dJ5_append_3_0 rfl ?_
  refine vr_aload_n hE dJ5_append_3_1 rfl ?_
  refine bc_get (z := 3) hE kc_J6 (by decide) q244 (Or.inl rfl) h_sb rfl dJ5_append_3_2 ?_
  refine vr_iconst (v := 1) hE dJ5_append_3_5 (by decide) ?_
  refine vr_iadd hE dJ5_append_3_6 ?_
  refine vr_to (w := .int (nI (e + 1))) (congrArg Value.int (nI_1 _)) ?_
  refine bc_callVP (ar := 1) hE (J5_ensL G _ sb v (e + 1) c e mb f hB (by omega)) kc_J6 h_sb ⟨by decide, by decide, by decide +kernel⟩ q545 q547 q78 q548 q546 q2899 rfl rfl (Nat.le_of_ble_eq_true rfl) (by decide) dJ5_append_3_7 (fun _ _ _ h => h.elim) ?_
  rintro v_7 M_7 ⟨rfl, v1, c1, f1, hB1, hc1, hf1, hk1, hv1⟩
  obtain ⟨h_sb1, h_v1, hF1, hcc1, hce1⟩ := id hB1
  refine vr_aload_n hE dJ5_append_3_10 rfl ?_
  refine bc_callO (ar := 0) hE (bk_J5_isLatin1L G _ sb v1 mb _ h_sb1) kc_J6 h_sb1 rfl ⟨by decide, by decide, by decide +kernel⟩ (lw_U q578 q580 q581 q579 q78 q582) rfl rfl (Nat.le_of_ble_eq_true rfl) (by decide) dJ5_append_3_11 (fun _ _ _ h => h.elim) ?_
  rintro v_11 M_11 ⟨rfl, hu_11⟩
  obtain rfl := hu_11.symm
  refine vr_if_eq (tgt := 45) hE dJ5_append_3_14 (by decide) (fun c_14 => ?_) (fun c_14 => ?_)
  · exact absurd c_14 (by decide)
  skip
  refine vr_iload_n hE dJ5_append_3_17 rfl ?_
  refine bc_callS hE (bk_J20_canEncode G _ x (by omega)) ok_J20_canEncode (lw_S q2073 q2074 q97 q2075) rfl rfl (Nat.le_of_ble_eq_true rfl) (by decide) dJ5_append_3_18 (fun _ _ _ h => h.elim) ?_
  rintro v_18 M_18 ⟨rfl, hu_18⟩
  obtain rfl := hu_18.symm
  refine vr_if_eq (tgt := 45) hE dJ5_append_3_21 (by decide) (fun c_21 => ?_) (fun c_21 => ?_)
  · exact absurd c_21 (by rw [if_pos hx]; decide)
  skip
  refine vr_aload_n hE dJ5_append_3_24 rfl ?_
  refine bc_get (z := 0) hE kc_J6 (by decide) q240 (Or.inl rfl) h_sb1 rfl dJ5_append_3_25 ?_
  refine vr_aload_n hE dJ5_append_3_28 rfl ?_
  refine vr_dup hE dJ5_append_3_29 rfl ?_
  refine bc_get (z := 3) hE kc_J6 (by decide) q244 (Or.inl rfl) h_sb1 rfl dJ5_append_3_30 ?_
  refine vr_dup_x1 hE dJ5_append_3_33 rfl rfl ?_
  refine vr_iconst (v := 1) hE dJ5_append_3_34 (by decide) ?_
  refine vr_iadd hE dJ5_append_3_35 ?_
  refine vr_to (w := .int (nI (e + 1))) (congrArg Value.int (nI_1 _)) ?_
  refine bc_put (z := 3) hE kc_J6 (by decide) q244 (Or.inl rfl) rfl h_sb1 rfl rfl (Nat.le_of_ble_eq_true rfl) dJ5_append_3_36 (by first | decide | omega) ?_
  refine bc_nm (fun M_36 e_36 => ?_)
  have hv1_36 := (congrFun e_36 v1).trans ((bu_ne (bc_dist h_v1 h_sb1 bc_io)).trans h_v1)
  have hsb_36 := (congrFun e_36 sb).trans (bu_self _ _ _)
  refine vr_iload_n hE dJ5_append_3_39 rfl ?_
  refine vr_i2b (v := (sb_b x)) hE dJ5_append_3_40 rfl ?_
  refine bc_bast hE hv1_36 rfl (by omega) (by omega) dJ5_append_3_41 (by first | decide | omega) ?_
  refine bc_nm (fun M_41 e_41 => ?_)
  have hsb_41 := (congrFun e_41 sb).trans ((bu_ne (bc_dist hsb_36 hv1_36 bc_oi)).trans hsb_36)
  have hv1_41 := (congrFun e_41 v1).trans (bu_self _ _ _)
  refine vr_goto (tgt := 75) hE dJ5_append_3_42 (by decide) ?_
  refine vr_aload_n hE dJ5_append_3_75 rfl ?_
  refine vr_areturn hE hQ (Or.inl ⟨_, rfl⟩) (Or.inr ⟨_, rfl⟩) dJ5_append_3_76 (by decide) ⟨_, ?_, fun H h => hW _ H h⟩
  refine ⟨rfl, v1, Or.inl ⟨mb, c1, _, ⟨hsb_41, hv1_41, fit_fx hF1, hcc1, by omega⟩, hT.put hf1 hx⟩, fun y z hy hys hyv => ?_, hv1⟩
  have hyv1 : y ≠ v1 := fun w => by
    rcases hv1 with h | h
    · exact hyv (w.trans h)
    · rw [← w, hy] at h; cases h
  exact (congrFun e_41 y).trans ((bu_ne hyv1).trans ((congrFun e_36 y).trans ((bu_ne hys).trans (hk1 y z hy hys))))
theorem bk_J5_appendLW {Y : bi_Y} (G : bi_GS Y) (M : va_M) (sb v c e x : Nat) (mb : Int32) (T : Nat → Nat) (f : Nat → Int32) (hB : BfL Y M sb v mb c e f) (hT : bTL T e f) (he34 : e < 34) (hx : 256 ≤ x) (hx2 : x < 65536) : bc_Met Y yJ5_append_3 (ws_ yJ5_append_3 cJ5_append_3 2 (some (.object "java/lang/AbstractStringBuilder"))) 10 250 2 300 M [.ref sb, .int (nI x)] (fun v9 M' => v9 = some (.ref sb) ∧ ∃ v', BufT Y M' sb v' (updN T e x) (e + 1) ∧ (∀ q y, M q = some y → q ≠ sb → q ≠ v → M' q = some y) ∧ (v' = v ∨ M v' = none)) bi_nx := by
  obtain ⟨h_sb, h_v, hF, hc, he⟩ := id hB
  refine bc_Met.of (own := RJ5) (L0 := [some (.ref sb), some (.int (nI x))]) rfl (by decide) G (Nat.le_of_ble_eq_true rfl) rfl (fun X A hE hQ hW hnl hnm => ?_)
  have hnl : ∀ q, q < 2 → q < bi_nL X := fun q h => by rw [hnl]; exact h
  refine vr_aload_n hE dJ5_append_3_0 rfl ?_
  refine vr_aload_n hE dJ5_append_3_1 rfl ?_
  refine bc_get (z := 3) hE kc_J6 (by decide) q244 (Or.inl rfl) h_sb rfl dJ5_append_3_2 ?_
  refine vr_iconst (v := 1) hE dJ5_append_3_5 (by decide) ?_
  refine vr_iadd hE dJ5_append_3_6 ?_
  refine vr_to (w := .int (nI (e + 1))) (congrArg Value.int (nI_1 _)) ?_
  refine bc_callVP (ar := 1) hE (J5_ensL G _ sb v (e + 1) c e mb f hB (by omega)) kc_J6 h_sb ⟨by decide, by decide, by decide +kernel⟩ q545 q547 q78 q548 q546 q2899 rfl rfl (Nat.le_of_ble_eq_true rfl) (by decide) dJ5_append_3_7 (fun _ _ _ h => h.elim) ?_
  rintro v_7 M_7 ⟨rfl, v1, c1, f1, hB1, hc1, hf1, hk1, hv1⟩
  obtain ⟨h_sb1, h_v1, hF1, hcc1, hce1⟩ := id hB1
  refine vr_aload_n hE dJ5_append_3_10 rfl ?_
  refine bc_callO (ar := 0) hE (bk_J5_isLatin1L G _ sb v1 mb _ h_sb1) kc_J6 h_sb1 rfl ⟨by decide, by decide, by decide +kernel⟩ (lw_U q578 q580 q581 q579 q78 q582) rfl rfl (Nat.le_of_ble_eq_true rfl) (by decide) dJ5_append_3_11 (fun _ _ _ h => h.elim) ?_
  rintro v_11 M_11 ⟨rfl, hu_11⟩
  obtain rfl := hu_11.symm
  refine vr_if_eq (tgt := 45) hE dJ5_append_3_14 (by decide) (fun c_14 => ?_) (fun c_14 => ?_)
  · exact absurd c_14 (by decide)
  skip
  refine vr_iload_n hE dJ5_append_3_17 rfl ?_
  refine bc_callS hE (bk_J20_canEncode G _ x hx2) ok_J20_canEncode (lw_S q2073 q2074 q97 q2075) rfl rfl (Nat.le_of_ble_eq_true rfl) (by decide) dJ5_append_3_18 (fun _ _ _ h => h.elim) ?_
  rintro v_18 M_18 ⟨rfl, hu_18⟩
  obtain rfl := hu_18.symm
  refine vr_if_eq (tgt := 45) hE dJ5_append_3_21 (by decide) (fun c_21 => ?_) (fun c_21 => ?_)
  · skip
    refine vr_aload_n hE dJ5_append_3_45 rfl ?_
    refine bc_callO (ar := 0) hE (bk_J5_isLatin1L G _ sb v1 mb _ h_sb1) kc_J6 h_sb1 rfl ⟨by decide, by decide, by decide +kernel⟩ (lw_U q578 q580 q581 q579 q78 q582) rfl rfl (Nat.le_of_ble_eq_true rfl) (by decide) dJ5_append_3_46 (fun _ _ _ h => h.elim) ?_
    rintro v_46 M_46 ⟨rfl, hu_46⟩
    obtain rfl := hu_46.symm
    refine vr_if_eq (tgt := 56) hE dJ5_append_3_49 (by decide) (fun c_49 => ?_) (fun c_49 => ?_)
    · exact absurd c_49 (by decide)
    skip
    refine vr_aload_n hE dJ5_append_3_52 rfl ?_
    refine bc_callVP (ar := 0) hE (bk_J5_inflate G _ sb v1 c1 e mb T f1 hB1 (fun j hj => ⟨(hT j hj).1, (hf1 j hj).trans (hT j hj).2⟩)) kc_J6 h_sb1 ⟨by decide, by decide, by decide +kernel⟩ q627 q629 q78 q630 q628 q2903 rfl rfl (Nat.le_of_ble_eq_true rfl) ⟨by decide, by decide, by omega, by omega⟩ dJ5_append_3_53 (fun _ _ _ h => h.elim) ?_
    rintro v_53 M_53 ⟨rfl, v2, f2, hB2, hb2, hk2, hv2⟩
    obtain ⟨h_sb2, h_v2, hF2, -, hce2⟩ := id hB2
    refine vr_aload_n hE dJ5_append_3_56 rfl ?_
    refine bc_get (z := 0) hE kc_J6 (by decide) q240 (Or.inl rfl) h_sb2 rfl dJ5_append_3_57 ?_
    refine vr_aload_n hE dJ5_append_3_60 rfl ?_
    refine vr_dup hE dJ5_append_3_61 rfl ?_
    refine bc_get (z := 3) hE kc_J6 (by decide) q244 (Or.inl rfl) h_sb2 rfl dJ5_append_3_62 ?_
    refine vr_dup_x1 hE dJ5_append_3_65 rfl rfl ?_
    refine vr_iconst (v := 1) hE dJ5_append_3_66 (by decide) ?_
    refine vr_iadd hE dJ5_append_3_67 ?_
    refine vr_to (w := .int (nI (e + 1))) (congrArg Value.int (nI_1 _)) ?_
    refine bc_put (z := 3) hE kc_J6 (by decide) q244 (Or.inl rfl) rfl h_sb2 rfl rfl (Nat.le_of_ble_eq_true rfl) dJ5_append_3_68 (by first | decide | omega) ?_
    refine bc_nm (fun M_68 e_68 => ?_)
    have hv2_68 := (congrFun e_68 v2).trans ((bu_ne (bc_dist h_v2 h_sb2 bc_io)).trans h_v2)
    have hsb_68 := (congrFun e_68 sb).trans (bu_self _ _ _)
    refine vr_iload_n hE dJ5_append_3_71 rfl ?_
    refine bc_callS hE (bk_J8_putCharSB G _ v2 c1 e x f2 hv2_68 (by omega) (by omega) hx2) ok_J8_putCharSB (lw_S q2076 q2077 q81 q2078) rfl rfl (Nat.le_of_ble_eq_true rfl) (by decide) dJ5_append_3_72 (fun _ _ _ h => h.elim) ?_
    rintro v_72 M_72 ⟨rfl, e_72⟩
    have hsb_72 := (congrFun e_72 sb).trans ((bu_ne (bc_dist hsb_68 hv2_68 bc_oi)).trans hsb_68)
    have hv2_72 := (congrFun e_72 v2).trans (bu_self _ _ _)
    refine vr_aload_n hE dJ5_append_3_75 rfl ?_
    refine vr_areturn hE hQ (Or.inl ⟨_, rfl⟩) (Or.inr ⟨_, rfl⟩) dJ5_append_3_76 (by decide) ⟨_, ?_, fun H h => hW _ H h⟩
    refine ⟨rfl, v2, Or.inr ⟨mb, c1, _, ⟨hsb_72, hv2_72, fit_fx (fit_fx hF2), hcc1, by omega⟩, bTU.put (fun j hj => ⟨Nat.lt_trans (hT j hj).1 (by decide), (hb2 j hj).1, (hb2 j hj).2⟩) hx2⟩, fun y z hy hys hyv => ?_, ?_⟩
    · have h8 := hk2 y z (hk1 y z hy hys) hys
      have hyv2 : y ≠ v2 := bc_new_ne (hk1 y z hy hys) hv2
      exact (congrFun e_72 y).trans ((bu_ne hyv2).trans ((congrFun e_68 y).trans ((bu_ne hys).trans h8)))
    · refine Or.inr ?_
      cases hz : M v2 with
      | none => rfl
      | some z =>
        by_cases hvs : v2 = sb
        · subst hvs
          rw [h_sb1] at hv2
          cases hv2
        · have := hk1 v2 z hz hvs
          rw [hv2] at this
          cases this
  · exact absurd (if_neg (by omega)) c_21
theorem bk_J5_appendU {Y : bi_Y} (G : bi_GS Y) (M : va_M) (sb v c e x : Nat) (mb : Int32) (T : Nat → Nat) (f : Nat → Int32) (hB : BfU Y M sb v mb c e f) (hT : bTU T e f) (he34 : e < 34) (hx2 : x < 65536) : bc_Met Y yJ5_append_3 (ws_ yJ5_append_3 cJ5_append_3 2 (some (.object "java/lang/AbstractStringBuilder"))) 10 250 2 300 M [.ref sb, .int (nI x)] (fun v9 M' => v9 = some (.ref sb) ∧ ∃ v', BufT Y M' sb v' (updN T e x) (e + 1) ∧ (∀ q y, M q = some y → q ≠ sb → q ≠ v → M' q = some y) ∧ (v' = v ∨ M v' = none)) bi_nx := by
  obtain ⟨h_sb, h_v, hF, hc, he⟩ := id hB
  refine bc_Met.of (own := RJ5) (L0 := [some (.ref sb), some (.int (nI x))]) rfl (by decide) G (Nat.le_of_ble_eq_true rfl) rfl (fun X A hE hQ hW hnl hnm => ?_)
  have hnl : ∀ q, q < 2 → q < bi_nL X := fun q h => by rw [hnl]; exact h
  refine vr_aload_n hE dJ5_append_3_0 rfl ?_
  refine vr_aload_n hE dJ5_append_3_1 rfl ?_
  refine bc_get (z := 3) hE kc_J6 (by decide) q244 (Or.inl rfl) h_sb rfl dJ5_append_3_2 ?_
  refine vr_iconst (v := 1) hE dJ5_append_3_5 (by decide) ?_
  refine vr_iadd hE dJ5_append_3_6 ?_
  refine vr_to (w := .int (nI (e + 1))) (congrArg Value.int (nI_1 _)) ?_
  refine bc_callVP (ar := 1) hE (J5_ensU G _ sb v (e + 1) c e mb f hB (by omega)) kc_J6 h_sb ⟨by decide, by decide, by decide +kernel⟩ q545 q547 q78 q548 q546 q2899 rfl rfl (Nat.le_of_ble_eq_true rfl) (by decide) dJ5_append_3_7 (fun _ _ _ h => h.elim) ?_
  rintro v_7 M_7 ⟨rfl, v1, c1, f1, hB1, hc1, hf1, hk1, hv1⟩
  obtain ⟨h_sb1, h_v1, hF1, hcc1, hce1⟩ := id hB1
  refine vr_aload_n hE dJ5_append_3_10 rfl ?_
  refine bc_callO (ar := 0) hE (bk_J5_isLatin1U G _ sb v1 mb _ h_sb1) kc_J6 h_sb1 rfl ⟨by decide, by decide, by decide +kernel⟩ (lw_U q578 q580 q581 q579 q78 q582) rfl rfl (Nat.le_of_ble_eq_true rfl) (by decide) dJ5_append_3_11 (fun _ _ _ h => h.elim) ?_
  rintro v_11 M_11 ⟨rfl, hu_11⟩
  obtain rfl := hu_11.symm
  refine vr_if_eq (tgt := 45) hE dJ5_append_3_14 (by decide) (fun c_14 => ?_) (fun c_14 => ?_)
  · skip
    refine vr_aload_n hE dJ5_append_3_45 rfl ?_
    refine bc_callO (ar := 0) hE (bk_J5_isLatin1U G _ sb v1 mb _ h_sb1) kc_J6 h_sb1 rfl ⟨by decide, by decide, by decide +kernel⟩ (lw_U q578 q580 q581 q579 q78 q582) rfl rfl (Nat.le_of_ble_eq_true rfl) (by decide) dJ5_append_3_46 (fun _ _ _ h => h.elim) ?_
    rintro v_46 M_46 ⟨rfl, hu_46⟩
    obtain rfl := hu_46.symm
    refine vr_if_eq (tgt := 56) hE dJ5_append_3_49 (by decide) (fun c_49 => ?_) (fun c_49 => ?_)
    · skip
      refine vr_aload_n hE dJ5_append_3_56 rfl ?_
      refine bc_get (z := 0) hE kc_J6 (by decide) q240 (Or.inl rfl) h_sb1 rfl dJ5_append_3_57 ?_
      refine vr_aload_n hE dJ5_append_3_60 rfl ?_
      refine vr_dup hE dJ5_append_3_61 rfl ?_
      refine bc_get (z := 3) hE kc_J6 (by decide) q244 (Or.inl rfl) h_sb1 rfl dJ5_append_3_62 ?_
      refine vr_dup_x1 hE dJ5_append_3_65 rfl rfl ?_
      refine vr_iconst (v := 1) hE dJ5_append_3_66 (by decide) ?_
      refine vr_iadd hE dJ5_append_3_67 ?_
      refine vr_to (w := .int (nI (e + 1))) (congrArg Value.int (nI_1 _)) ?_
      refine bc_put (z := 3) hE kc_J6 (by decide) q244 (Or.inl rfl) rfl h_sb1 rfl rfl (Nat.le_of_ble_eq_true rfl) dJ5_append_3_68 (by first | decide | omega) ?_
      refine bc_nm (fun M_68 e_68 => ?_)
      have hv1_68 := (congrFun e_68 v1).trans ((bu_ne (bc_dist h_v1 h_sb1 bc_io)).trans h_v1)
      have hsb_68 := (congrFun e_68 sb).trans (bu_self _ _ _)
      refine vr_iload_n hE dJ5_append_3_71 rfl ?_
      refine bc_callS hE (bk_J8_putCharSB G _ v1 c1 e x f1 hv1_68 (by omega) (by omega) hx2) ok_J8_putCharSB (lw_S q2076 q2077 q81 q2078) rfl rfl (Nat.le_of_ble_eq_true rfl) (by decide) dJ5_append_3_72 (fun _ _ _ h => h.elim) ?_
      rintro v_72 M_72 ⟨rfl, e_72⟩
      have hsb_72 := (congrFun e_72 sb).trans ((bu_ne (bc_dist hsb_68 hv1_68 bc_oi)).trans hsb_68)
      have hv1_72 := (congrFun e_72 v1).trans (bu_self _ _ _)
      refine vr_aload_n hE dJ5_append_3_75 rfl ?_
      refine vr_areturn hE hQ (Or.inl ⟨_, rfl⟩) (Or.inr ⟨_, rfl⟩) dJ5_append_3_76 (by decide) ⟨_, ?_, fun H h => hW _ H h⟩
      refine ⟨rfl, v1, Or.inr ⟨mb, c1, _, ⟨hsb_72, hv1_72, fit_fx (fit_fx hF1), hcc1, by omega⟩, bTU.put (fun j hj => ⟨(hT j hj).1, by rw [hf1 _ (by omega)]; exact (hT j hj).2.1, by rw [hf1 _ (by omega)]; exact (hT j hj).2.2⟩) hx2⟩, fun y z hy hys hyv => ?_, hv1⟩
      have hyv1 : y ≠ v1 := fun w => by
        rcases hv1 with h | h
        · exact hyv (w.trans h)
        · rw [← w, hy] at h; cases h
      exact (congrFun e_72 y).trans ((bu_ne hyv1).trans ((congrFun e_68 y).trans ((bu_ne hys).trans (hk1 y z hy hys))))
    · exact absurd rfl c_49
  · exact absurd rfl c_14
theorem bk_J5_append {Y : bi_Y} (G : bi_GS Y) (M : va_M) (sb v e x : Nat) (T : Nat → Nat) (hB : BufT Y M sb v T e) (he34 : e < 34) (hx : x < 65536) : bc_Met Y yJ5_append_3 (ws_ yJ5_append_3 cJ5_append_3 2 (some (.object "java/lang/AbstractStringBuilder"))) 10 250 2 300 M [.ref sb, .int (nI x)] (fun v9 M' => v9 = some (.ref sb) ∧ ∃ v', BufT Y M' sb v' (updN T e x) (e + 1) ∧ (∀ q y, M q = some y → q ≠ sb → q ≠ v → M' q = some y) ∧ (v' = v ∨ M v' = none)) bi_nx := by
  rcases hB with ⟨mb, c, f, hB, hT⟩ | ⟨mb, c, f, hB, hT⟩
  · by_cases h : x < 256
    · exact bk_J5_appendLS G M sb v c e x mb T f hB hT he34 h
    · exact bk_J5_appendLW G M sb v c e x mb T f hB hT he34 (by omega) hx
  · exact bk_J5_appendU G M sb v c e x mb T f hB hT he34 hx
theorem ok_J6_append_3 : bi_ok yJ6_append_3 RJ6 1 := by decide +kernel
theorem bk_J6_append_3 {Y : bi_Y} (G : bi_GS Y) (M : va_M) (sb v e x : Nat) (T : Nat → Nat) (hB : BufT Y M sb v T e) (he34 : e < 34) (hx : x < 65536) : bc_Met Y yJ6_append_3 (ws_ yJ6_append_3 cJ6_append_3 2 (some (.object "java/lang/StringBuilder"))) 11 300 2 300 M [.ref sb, .int (nI x)] (fun v9 M' => v9 = some (.ref sb) ∧ ∃ v', BufT Y M' sb v' (updN T e x) (e + 1) ∧ (∀ q y, M q = some y → q ≠ sb → q ≠ v → M' q = some y) ∧ (v' = v ∨ M v' = none)) bi_nx := by
  have hsbo : ∃ cd mb ct v0, M sb = some (.inr (21, sbL v0 cd mb ct)) := by
    rcases hB with ⟨mb, c, f, ⟨h1, h2, h3⟩, h4⟩ | ⟨mb, c, f, ⟨h1, h2, h3⟩, h4⟩
    · exact ⟨_, _, _, _, h1⟩
    · exact ⟨_, _, _, _, h1⟩
  obtain ⟨cd0, mb0, ct0, v0, h_sb⟩ := hsbo
  refine bc_Met.of (own := RJ6) (L0 := [some (.ref sb), some (.int (nI x))]) rfl (by decide) G (Nat.le_of_ble_eq_true rfl) rfl (fun X A hE hQ hW hnl hnm => ?_)
  have hnl : ∀ q, q < 2 → q < bi_nL X := fun q h => by rw [hnl]; exact h
  refine vr_aload_n hE dJ6_append_3_0 rfl ?_
  refine vr_iload_n hE dJ6_append_3_1 rfl ?_
  refine bc_callSU (ar := 1) hE (bk_J5_append G _ sb v e x T hB he34 hx) kc_J6 h_sb ⟨by decide, by decide +kernel⟩ (lw_SUP q2070 q2909 q253 q2071 q78 q2072) rfl rfl (Nat.le_of_ble_eq_true rfl) (by decide) dJ6_append_3_2 (fun _ _ _ h => h.elim) ?_
  rintro v_2 M_2 ⟨rfl, h_2⟩
  refine vr_pop hE dJ6_append_3_5 rfl ?_
  refine vr_aload_n hE dJ6_append_3_6 rfl ?_
  refine vr_areturn hE hQ (Or.inl ⟨_, rfl⟩) (Or.inr ⟨_, rfl⟩) dJ6_append_3_7 (by decide) ⟨_, ?_, fun H h => hW _ H h⟩
  exact ⟨rfl, h_2⟩
theorem bk_J6_charAt {Y : bi_Y} (G : bi_GS Y) (M : va_M) (sb v e i : Nat) (T : Nat → Nat) (hB : BufT Y M sb v T e) (hi : i < e) : bc_Met Y yJ6_charAt (ws_ yJ6_charAt cJ6_charAt 2 (some .char)) 3 67 0 0 M [.ref sb, .int (nI i)] (fun v9 M' => v9 = some (.int (nI (T i))) ∧ M' = M) bi_nx := by
  rcases hB with ⟨mb, c, f, ⟨h1, h2, h3, h4, h5⟩, hT⟩ | ⟨mb, c, f, ⟨h1, h2, h3, h4, h5⟩, hT⟩
  · exact bk_J6_charAtL G M sb v c e i (T i) mb f h1 h2 (by omega) h5 hi (hT i hi).1 (hT i hi).2
  · exact bk_J6_charAtU G M sb v c e i (T i) mb f h1 h2 (by omega) h5 hi (hT i hi).1 (hT i hi).2.1 (hT i hi).2.2
theorem BufT_length {Y : bi_Y} (G : bi_GS Y) (M : va_M) (sb v e : Nat) (T : Nat → Nat) (hB : BufT Y M sb v T e) : bc_Met Y yJ6_length (ws_ yJ6_length cJ6_length 1 (some .int)) 1 20 0 0 M [.ref sb] (fun v9 M' => v9 = some (.int (nI e)) ∧ M' = M) bi_nx := by
  rcases hB with ⟨mb, c, f, ⟨h1, h2, h3, h4, h5⟩, hT⟩ | ⟨mb, c, f, ⟨h1, h2, h3, h4, h5⟩, hT⟩
  · exact bk_J6_length G M sb v 0 mb _ h1
  · exact bk_J6_length G M sb v 1 mb _ h1
theorem ok_J5_setLength : bi_ok yJ5_setLength RJ5 1 := by decide +kernel
theorem bk_J5_setLengthL {Y : bi_Y} (G : bi_GS Y) (M : va_M) (sb v c e : Nat) (mb : Int32) (f : Nat → Int32) (h_sb : M sb = some (.inr (21, sbL v 0 mb (nI e)))) (h_v : M v = some (eB Y c f)) (hc : c < 100) (he : e ≤ c) : bc_Met Y yJ5_setLength (ws_ yJ5_setLength cJ5_setLength 2 none) 7 162 1 100 M [.ref sb, .int 0] (fun v9 M' => v9 = none ∧ ∃ mb', M' = bu M sb (.inr (21, sbL v 0 mb' 0))) bi_nx := by
  refine bc_Met.of (own := RJ5) (L0 := [some (.ref sb), some (.int 0)]) rfl (by decide) G (Nat.le_of_ble_eq_true rfl) rfl (fun X A hE hQ hW hnl hnm => ?_)
  have hnl : ∀ q, q < 2 → q < bi_nL X := fun q h => by rw [hnl]; exact h
  refine vr_iload_n hE dJ5_setLength_0 rfl ?_
  refine vr_if_ge (tgt := 13) hE dJ5_setLength_1 (by decide) (fun c_1 => ?_) (fun c_1 => ?_)
  · skip
    refine vr_aload_n hE dJ5_setLength_13 rfl ?_
    refine vr_iload_n hE dJ5_setLength_14 rfl ?_
    refine bc_callVP (ar := 1) hE (bk_J5_ensNL G _ sb v 0 c mb (nI e) f h_sb h_v hc (Nat.zero_le _)) kc_J6 h_sb ⟨by decide, by decide, by decide +kernel⟩ q545 q547 q78 q548 q546 q2899 rfl rfl (Nat.le_of_ble_eq_true rfl) (by decide) dJ5_setLength_15 (fun _ _ _ h => h.elim) ?_
    rintro v_15 M_15 ⟨rfl, hu_15⟩
    obtain rfl := hu_15.symm
    refine vr_aload_n hE dJ5_setLength_18 rfl ?_
    refine bc_get (z := 3) hE kc_J6 (by decide) q244 (Or.inl rfl) h_sb rfl dJ5_setLength_19 ?_
    refine vr_iload_n hE dJ5_setLength_22 rfl ?_
    refine vr_icmp_ge (tgt := 63) hE dJ5_setLength_23 (by decide) (fun c_23 => ?_) (fun c_23 => ?_)
    · skip
      refine vr_aload_n hE dJ5_setLength_63 rfl ?_
      refine bc_get (z := 3) hE kc_J6 (by decide) q244 (Or.inl rfl) h_sb rfl dJ5_setLength_64 ?_
      refine vr_iload_n hE dJ5_setLength_67 rfl ?_
      refine vr_icmp_le (tgt := 76) hE dJ5_setLength_68 (by decide) (fun c_68 => ?_) (fun c_68 => ?_)
      · skip
        refine vr_aload_n hE dJ5_setLength_76 rfl ?_
        refine vr_iload_n hE dJ5_setLength_77 rfl ?_
        refine bc_put (z := 3) hE kc_J6 (by decide) q244 (Or.inl rfl) rfl h_sb rfl rfl (Nat.le_of_ble_eq_true rfl) dJ5_setLength_78 (by first | decide | omega) ?_
        refine bc_nm (fun M_78 e_78 => ?_)
        have hv_78 := (congrFun e_78 v).trans ((bu_ne (bc_dist h_v h_sb bc_io)).trans h_v)
        have hsb_78 := (congrFun e_78 sb).trans (bu_self _ _ _)
        refine vr_return hE hQ dJ5_setLength_81 (by decide) ⟨_, ?_, fun H h => hW _ H h⟩
        subst e_78
        exact ⟨rfl, _, rfl⟩
      · skip
        refine vr_aload_n hE dJ5_setLength_71 rfl ?_
        refine vr_iconst (v := 1) hE dJ5_setLength_72 (by decide) ?_
        refine bc_put (z := 2) hE kc_J6 (by decide) q242 (Or.inl rfl) rfl h_sb rfl rfl (Nat.le_of_ble_eq_true rfl) dJ5_setLength_73 (by first | decide | omega) ?_
        refine bc_nm (fun M_73 e_73 => ?_)
        have hv_73 := (congrFun e_73 v).trans ((bu_ne (bc_dist h_v h_sb bc_io)).trans h_v)
        have hsb_73 := (congrFun e_73 sb).trans (bu_self _ _ _)
        refine vr_aload_n hE dJ5_setLength_76 rfl ?_
        refine vr_iload_n hE dJ5_setLength_77 rfl ?_
        refine bc_put (z := 3) hE kc_J6 (by decide) q244 (Or.inl rfl) rfl hsb_73 rfl rfl (Nat.le_of_ble_eq_true rfl) dJ5_setLength_78 (by first | decide | omega) ?_
        refine bc_nm (fun M_78 e_78 => ?_)
        have hv_78 := (congrFun e_78 v).trans ((bu_ne (bc_dist hv_73 hsb_73 bc_io)).trans hv_73)
        have hsb_78 := (congrFun e_78 sb).trans (bu_self _ _ _)
        refine vr_return hE hQ dJ5_setLength_81 (by decide) ⟨_, ?_, fun H h => hW _ H h⟩
        subst e_78
        subst e_73
        exact ⟨rfl, _, bu_bu _ _ _ _⟩
    · exact absurd (nI_le (a := 0) (b := e) (Nat.zero_le _) (by omega)) c_23
  · exact absurd (by decide) c_1
theorem bk_J5_setLengthU {Y : bi_Y} (G : bi_GS Y) (M : va_M) (sb v c e : Nat) (mb : Int32) (f : Nat → Int32) (h_sb : M sb = some (.inr (21, sbL v 1 mb (nI e)))) (h_v : M v = some (eB Y (2 * c) f)) (hc : c < 100) (he : e ≤ c) : bc_Met Y yJ5_setLength (ws_ yJ5_setLength cJ5_setLength 2 none) 7 162 1 100 M [.ref sb, .int 0] (fun v9 M' => v9 = none ∧ ∃ mb', M' = bu M sb (.inr (21, sbL v 1 mb' 0))) bi_nx := by
  refine bc_Met.of (own := RJ5) (L0 := [some (.ref sb), some (.int 0)]) rfl (by decide) G (Nat.le_of_ble_eq_true rfl) rfl (fun X A hE hQ hW hnl hnm => ?_)
  have hnl : ∀ q, q < 2 → q < bi_nL X := fun q h => by rw [hnl]; exact h
  refine vr_iload_n hE dJ5_setLength_0 rfl ?_
  refine vr_if_ge (tgt := 13) hE dJ5_setLength_1 (by decide) (fun c_1 => ?_) (fun c_1 => ?_)
  · skip
    refine vr_aload_n hE dJ5_setLength_13 rfl ?_
    refine vr_iload_n hE dJ5_setLength_14 rfl ?_
    refine bc_callVP (ar := 1) hE (bk_J5_ensNU G _ sb v 0 c mb (nI e) f h_sb h_v hc (Nat.zero_le _)) kc_J6 h_sb ⟨by decide, by decide, by decide +kernel⟩ q545 q547 q78 q548 q546 q2899 rfl rfl (Nat.le_of_ble_eq_true rfl) (by decide) dJ5_setLength_15 (fun _ _ _ h => h.elim) ?_
    rintro v_15 M_15 ⟨rfl, hu_15⟩
    obtain rfl := hu_15.symm
    refine vr_aload_n hE dJ5_setLength_18 rfl ?_
    refine bc_get (z := 3) hE kc_J6 (by decide) q244 (Or.inl rfl) h_sb rfl dJ5_setLength_19 ?_
    refine vr_iload_n hE dJ5_setLength_22 rfl ?_
    refine vr_icmp_ge (tgt := 63) hE dJ5_setLength_23 (by decide) (fun c_23 => ?_) (fun c_23 => ?_)
    · skip
      refine vr_aload_n hE dJ5_setLength_63 rfl ?_
      refine bc_get (z := 3) hE kc_J6 (by decide) q244 (Or.inl rfl) h_sb rfl dJ5_setLength_64 ?_
      refine vr_iload_n hE dJ5_setLength_67 rfl ?_
      refine vr_icmp_le (tgt := 76) hE dJ5_setLength_68 (by decide) (fun c_68 => ?_) (fun c_68 => ?_)
      · skip
        refine vr_aload_n hE dJ5_setLength_76 rfl ?_
        refine vr_iload_n hE dJ5_setLength_77 rfl ?_
        refine bc_put (z := 3) hE kc_J6 (by decide) q244 (Or.inl rfl) rfl h_sb rfl rfl (Nat.le_of_ble_eq_true rfl) dJ5_setLength_78 (by first | decide | omega) ?_
        refine bc_nm (fun M_78 e_78 => ?_)
        have hv_78 := (congrFun e_78 v).trans ((bu_ne (bc_dist h_v h_sb bc_io)).trans h_v)
        have hsb_78 := (congrFun e_78 sb).trans (bu_self _ _ _)
        refine vr_return hE hQ dJ5_setLength_81 (by decide) ⟨_, ?_, fun H h => hW _ H h⟩
        subst e_78
        exact ⟨rfl, _, rfl⟩
      · skip
        refine vr_aload_n hE dJ5_setLength_71 rfl ?_
        refine vr_iconst (v := 1) hE dJ5_setLength_72 (by decide) ?_
        refine bc_put (z := 2) hE kc_J6 (by decide) q242 (Or.inl rfl) rfl h_sb rfl rfl (Nat.le_of_ble_eq_true rfl) dJ5_setLength_73 (by first | decide | omega) ?_
        refine bc_nm (fun M_73 e_73 => ?_)
        have hv_73 := (congrFun e_73 v).trans ((bu_ne (bc_dist h_v h_sb bc_io)).trans h_v)
        have hsb_73 := (congrFun e_73 sb).trans (bu_self _ _ _)
        refine vr_aload_n hE dJ5_setLength_76 rfl ?_
        refine vr_iload_n hE dJ5_setLength_77 rfl ?_
        refine bc_put (z := 3) hE kc_J6 (by decide) q244 (Or.inl rfl) rfl hsb_73 rfl rfl (Nat.le_of_ble_eq_true rfl) dJ5_setLength_78 (by first | decide | omega) ?_
        refine bc_nm (fun M_78 e_78 => ?_)
        have hv_78 := (congrFun e_78 v).trans ((bu_ne (bc_dist hv_73 hsb_73 bc_io)).trans hv_73)
        have hsb_78 := (congrFun e_78 sb).trans (bu_self _ _ _)
        refine vr_return hE hQ dJ5_setLength_81 (by decide) ⟨_, ?_, fun H h => hW _ H h⟩
        subst e_78
        subst e_73
        exact ⟨rfl, _, bu_bu _ _ _ _⟩
    · exact absurd (nI_le (a := 0) (b := e) (Nat.zero_le _) (by omega)) c_23
  · exact absurd (by decide) c_1
theorem bk_J5_setLength {Y : bi_Y} (G : bi_GS Y) (M : va_M) (sb v e : Nat) (T : Nat → Nat) (hB : BufT Y M sb v T e) : bc_Met Y yJ5_setLength (ws_ yJ5_setLength cJ5_setLength 2 none) 7 162 1 100 M [.ref sb, .int 0] (fun v9 M' => v9 = none ∧ BufT Y M' sb v T 0 ∧ ∀ q, q ≠ sb → M' q = M q) bi_nx := by
  rcases hB with ⟨mb, c, f, ⟨h1, h2, h3, h4, h5⟩, hT⟩ | ⟨mb, c, f, ⟨h1, h2, h3, h4, h5⟩, hT⟩
  · refine (bk_J5_setLengthL G M sb v c e mb f h1 h2 (by omega) h5).mono (fun v9 M' z => ?_) (fun _ _ _ z => z.elim)
    obtain ⟨z1, mb', rfl⟩ := z
    exact ⟨z1, Or.inl ⟨mb', c, f, ⟨bu_self _ _ _, (bu_ne (bc_dist h2 h1 bc_io)).trans h2, h3, h4, Nat.zero_le _⟩, fun j hj => absurd hj (Nat.not_lt_zero _)⟩, fun q hq => bu_ne hq⟩
  · refine (bk_J5_setLengthU G M sb v c e mb f h1 h2 (by omega) h5).mono (fun v9 M' z => ?_) (fun _ _ _ z => z.elim)
    obtain ⟨z1, mb', rfl⟩ := z
    exact ⟨z1, Or.inr ⟨mb', c, f, ⟨bu_self _ _ _, (bu_ne (bc_dist h2 h1 bc_io)).trans h2, h3, h4, Nat.zero_le _⟩, fun j hj => absurd hj (Nat.not_lt_zero _)⟩, fun q hq => bu_ne hq⟩
theorem ok_J6_setLength : bi_ok yJ6_setLength RJ6 1 := by decide +kernel
theorem bk_J6_setLength {Y : bi_Y} (G : bi_GS Y) (M : va_M) (sb v e : Nat) (T : Nat → Nat) (hB : BufT Y M sb v T e) : bc_Met Y yJ6_setLength (ws_ yJ6_setLength cJ6_setLength 2 none) 8 183 1 100 M [.ref sb, .int 0] (fun v9 M' => v9 = none ∧ BufT Y M' sb v T 0 ∧ ∀ q, q ≠ sb → M' q = M q) bi_nx := by
  have hsbo : ∃ cd mb ct v0, M sb = some (.inr (21, sbL v0 cd mb ct)) := by
    rcases hB with ⟨mb, c, f, ⟨h1, h2, h3⟩, h4⟩ | ⟨mb, c, f, ⟨h1, h2, h3⟩, h4⟩
    · exact ⟨_, _, _, _, h1⟩
    · exact ⟨_, _, _, _, h1⟩
  obtain ⟨cd0, mb0, ct0, v0, h_sb⟩ := hsbo
  refine bc_Met.of (own := RJ6) (L0 := [some (.ref sb), some (.int 0)]) rfl (by decide) G (Nat.le_of_ble_eq_true rfl) rfl (fun X A hE hQ hW hnl hnm => ?_)
  have hnl : ∀ q, q < 2 → q < bi_nL X := fun q h => by rw [hnl]; exact h
  refine vr_aload_n hE dJ6_setLength_0 rfl ?_
  refine vr_iload_n hE dJ6_setLength_1 rfl ?_
  refine bc_callSU (ar := 1) hE (bk_J5_setLength G _ sb v e T hB) kc_J6 h_sb ⟨by decide, by decide +kernel⟩ (lw_SUP q2277 q2911 q253 q2278 q78 q2279) rfl rfl (Nat.le_of_ble_eq_true rfl) (by decide) dJ6_setLength_2 (fun _ _ _ h => h.elim) ?_
  rintro v_2 M_2 ⟨rfl, h_2⟩
  refine vr_return hE hQ dJ6_setLength_5 (by decide) ⟨_, ?_, fun H h => hW _ H h⟩
  exact ⟨rfl, h_2⟩
theorem ok_J5_init : bi_ok yJ5_init RJ5 1 := by decide +kernel
theorem bk_J5_init {Y : bi_Y} (G : bi_GS Y) (M : va_M) (sb : Nat) (h_sb : M sb = some (.inr (21, [.null, .int 0, .int 0, .int 0]))) : bc_Met Y yJ5_init (ws_ yJ5_init cJ5_init 2 none) 1 28 1 16 M [.ref sb, .int 16] (fun v9 M' => v9 = none ∧ ∃ q, M q = none ∧ M' = bu (bu M q (eB Y 16 (fun _ => 0))) sb (.inr (21, sbL q 0 0 0))) bi_nx := by
  refine bc_Met.of (own := RJ5) (L0 := [some (.ref sb), some (.int 16)]) rfl (by decide) G (Nat.le_of_ble_eq_true rfl) rfl (fun X A hE hQ hW hnl hnm => ?_)
  have hnl : ∀ q, q < 2 → q < bi_nL X := fun q h => by rw [hnl]; exact h
  refine vr_aload_n hE dJ5_init_0 rfl ?_
  refine vr_objInit hE q230 q132 q133 dJ5_init_1 ⟨by decide, Nat.le_of_ble_eq_true rfl⟩ ?_
  refine wr_gets hE (zs_CS G) q231 dJ5_init_4 ?_
  refine vr_if_eq (tgt := 25) hE dJ5_init_7 (by decide) (fun c_7 => ?_) (fun c_7 => ?_)
  · exact absurd c_7 (by decide)
  skip
  refine vr_aload_n hE dJ5_init_10 rfl ?_
  refine vr_iload_n hE dJ5_init_11 rfl ?_
  refine bc_newb (N := 16) hE q254 rfl (by decide) (by decide) dJ5_init_12 (fun q hn_q => ?_)
  refine bc_nm (fun M_12 e_12 => ?_)
  have nsb_q := bc_new_ne h_sb hn_q
  have hz_q : M q = none := hn_q
  have hsb_12 := (congrFun e_12 sb).trans ((bu_ne nsb_q).trans h_sb)
  have hq_12 := (congrFun e_12 q).trans (bu_self _ _ _)
  refine bc_put (z := 0) hE kc_J6 (by decide) q240 (Or.inl rfl) rfl hsb_12 rfl rfl (Nat.le_of_ble_eq_true rfl) dJ5_init_14 (by first | decide | omega) ?_
  refine bc_nm (fun M_14 e_14 => ?_)
  have hq_14 := (congrFun e_14 q).trans ((bu_ne (Ne.symm nsb_q)).trans hq_12)
  have hsb_14 := (congrFun e_14 sb).trans (bu_self _ _ _)
  refine vr_aload_n hE dJ5_init_17 rfl ?_
  refine vr_iconst (v := 0) hE dJ5_init_18 (by decide) ?_
  refine bc_put (z := 1) hE kc_J6 (by decide) q241 (Or.inl rfl) rfl hsb_14 rfl rfl (Nat.le_of_ble_eq_true rfl) dJ5_init_19 (by first | decide | omega) ?_
  refine bc_nm (fun M_19 e_19 => ?_)
  have hq_19 := (congrFun e_19 q).trans ((bu_ne (Ne.symm nsb_q)).trans hq_14)
  have hsb_19 := (congrFun e_19 sb).trans (bu_self _ _ _)
  refine vr_goto (tgt := 38) hE dJ5_init_22 (by decide) ?_
  refine vr_return hE hQ dJ5_init_38 (by decide) ⟨_, ?_, fun H h => hW _ H h⟩
  subst e_19
  subst e_14
  subst e_12
  exact ⟨rfl, q, hn_q, bu_bu _ _ _ _⟩
theorem ok_J6_init : bi_ok yJ6_init RJ6 0 := by decide +kernel
theorem bk_J6_init {Y : bi_Y} (G : bi_GS Y) (M : va_M) (sb : Nat) (h_sb : M sb = some (.inr (21, [.null, .int 0, .int 0, .int 0]))) : bc_Met Y yJ6_init (ws_ yJ6_init cJ6_init 1 none) 2 49 1 16 M [.ref sb] (fun v9 M' => v9 = none ∧ ∃ q, M q = none ∧ M' = bu (bu M q (eB Y 16 (fun _ => 0))) sb (.inr (21, sbL q 0 0 0))) bi_nx := by
  refine bc_Met.of (own := RJ6) (L0 := [some (.ref sb)]) rfl (by decide) G (Nat.le_of_ble_eq_true rfl) rfl (fun X A hE hQ hW hnl hnm => ?_)
  have hnl : ∀ q, q < 1 → q < bi_nL X := fun q h => by rw [hnl]; exact h
  refine vr_aload_n hE dJ6_init_0 rfl ?_
  refine vr_bipush (v := 16) hE dJ6_init_1 (by decide) ?_
  refine bc_callI hE (bk_J5_init G _ sb h_sb) ok_J5_init rfl q227 q228 q78 q229 rfl rfl (Nat.le_of_ble_eq_true rfl) (by decide) dJ6_init_3 (fun _ _ _ h => h.elim) ?_
  rintro v_3 M_3 ⟨rfl, h_3⟩
  refine vr_return hE hQ dJ6_init_6 (by decide) ⟨_, ?_, fun H h => hW _ H h⟩
  exact ⟨rfl, h_3⟩
