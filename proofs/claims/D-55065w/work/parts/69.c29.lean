/-! StringBuilder, typed into -/
set_option maxRecDepth 100000
def BfL (Y : bi_Y) (M : va_M) (sb v : Nat) (mb : Int32) (c e : Nat) (f : Nat → Int32) : Prop := M sb = some (.inr (21, sbL v 0 mb (nI e))) ∧ M v = some (eB Y c f) ∧ sb_Fit f ∧ (c = 16 ∨ c = 34) ∧ e ≤ c
def BfU (Y : bi_Y) (M : va_M) (sb v : Nat) (mb : Int32) (c e : Nat) (f : Nat → Int32) : Prop := M sb = some (.inr (21, sbL v 1 mb (nI e))) ∧ M v = some (eB Y (2 * c) f) ∧ sb_Fit f ∧ (c = 16 ∨ c = 34) ∧ e ≤ c
theorem sub_le0 {m c : Nat} (h : m ≤ c) (hc : c < 2 ^ 30) : nI m - nI c ≤ 0 := by
  rw [Int32.le_iff_toInt_le, pk_sub_toInt (by omega) (by omega), Int32.toInt_zero]
  omega
theorem sub_le1 {m c : Nat} (h : c < m) (hm : m < 2 ^ 30) : ¬ nI m - nI c ≤ 0 := by
  rw [Int32.le_iff_toInt_le, pk_sub_toInt (by omega) (by omega), Int32.toInt_zero]
  omega
theorem fit_fx {f : Nat → Int32} {i x : Nat} (h : sb_Fit f) : sb_Fit (upd f i (vp_nar .byte (sb_b x))) := by
  rw [show vp_nar .byte (sb_b x) = sb_b x from pk_vb _]
  exact sb_fitU h (sb_fitB x)
theorem ok_J5_ensureCapacityInternal : bi_ok yJ5_ensureCapacityInternal RJ5 1 := by decide +kernel
theorem bk_J5_ensNL {Y : bi_Y} (G : bi_GS Y) (M : va_M) (sb v m c : Nat) (mb ct : Int32) (f : Nat → Int32) (h_sb : M sb = some (.inr (21, sbL v 0 mb ct))) (h_v : M v = some (eB Y c f)) (hc : c < 100) (hm : m ≤ c) : bc_Met Y yJ5_ensureCapacityInternal (ws_ yJ5_ensureCapacityInternal cJ5_ensureCapacityInternal 3 none) 6 140 1 100 M [.ref sb, .int (nI m)] (fun v9 M' => v9 = none ∧ M' = M) bi_nx := by
  refine bc_Met.of (own := RJ5) (L0 := [some (.ref sb), some (.int (nI m)), none]) rfl (by decide) G (Nat.le_of_ble_eq_true rfl) rfl (fun X A hE hQ hW hnl hnm => ?_)
  have hnl : ∀ q, q < 3 → q < bi_nL X := fun q h => by rw [hnl]; exact h
  refine vr_aload_n hE dJ5_ensureCapacityInternal_0 rfl ?_
  refine bc_get (z := 0) hE kc_J6 (by decide) q240 (Or.inl rfl) h_sb rfl dJ5_ensureCapacityInternal_1 ?_
  refine bc_alen (t0 := 1) hE rfl h_v dJ5_ensureCapacityInternal_4 ?_
  refine vr_aload_n hE dJ5_ensureCapacityInternal_5 rfl ?_
  refine bc_get (z := 1) hE kc_J6 (by decide) q241 (Or.inl rfl) h_sb rfl dJ5_ensureCapacityInternal_6 ?_
  refine vr_ishr (v := (nI c)) hE dJ5_ensureCapacityInternal_9 (sb_shr0 _) ?_
  refine vr_istore_n hE dJ5_ensureCapacityInternal_10 (hnl _ (by decide)) rfl ?_
  refine vr_iload_n hE dJ5_ensureCapacityInternal_11 rfl ?_
  refine vr_iload_n hE dJ5_ensureCapacityInternal_12 rfl ?_
  refine vr_isub hE dJ5_ensureCapacityInternal_13 ?_
  refine vr_if_le (tgt := 38) hE dJ5_ensureCapacityInternal_14 (by decide) (fun c_14 => ?_) (fun c_14 => ?_)
  · skip
    refine vr_return hE hQ dJ5_ensureCapacityInternal_38 (by decide) ⟨_, ?_, fun H h => hW _ H h⟩
    exact ⟨rfl, rfl⟩
  · exact absurd (sub_le0 hm (by omega)) c_14
theorem bk_J5_ensGL {Y : bi_Y} (G : bi_GS Y) (M : va_M) (sb v m : Nat) (mb ct : Int32) (f : Nat → Int32) (h_sb : M sb = some (.inr (21, sbL v 0 mb ct))) (h_v : M v = some (eB Y 16 f)) (hF : sb_Fit f) (hm : 16 < m) (hm2 : m ≤ 34) : bc_Met Y yJ5_ensureCapacityInternal (ws_ yJ5_ensureCapacityInternal cJ5_ensureCapacityInternal 3 none) 6 140 1 100 M [.ref sb, .int (nI m)] (fun v9 M' => v9 = none ∧ ∃ q, M q = none ∧ M' = bu (bu M q (eB Y 34 (va_cpy f (fun _ => 0) 0 0 16))) sb (.inr (21, sbL q 0 mb ct))) bi_nx := by
  refine bc_Met.of (own := RJ5) (L0 := [some (.ref sb), some (.int (nI m)), none]) rfl (by decide) G (Nat.le_of_ble_eq_true rfl) rfl (fun X A hE hQ hW hnl hnm => ?_)
  have hnl : ∀ q, q < 3 → q < bi_nL X := fun q h => by rw [hnl]; exact h
  refine vr_aload_n hE dJ5_ensureCapacityInternal_0 rfl ?_
  refine bc_get (z := 0) hE kc_J6 (by decide) q240 (Or.inl rfl) h_sb rfl dJ5_ensureCapacityInternal_1 ?_
  refine bc_alen (t0 := 1) hE rfl h_v dJ5_ensureCapacityInternal_4 ?_
  refine vr_aload_n hE dJ5_ensureCapacityInternal_5 rfl ?_
  refine bc_get (z := 1) hE kc_J6 (by decide) q241 (Or.inl rfl) h_sb rfl dJ5_ensureCapacityInternal_6 ?_
  refine vr_ishr (v := (nI 16)) hE dJ5_ensureCapacityInternal_9 (by decide) ?_
  refine vr_istore_n hE dJ5_ensureCapacityInternal_10 (hnl _ (by decide)) rfl ?_
  refine vr_iload_n hE dJ5_ensureCapacityInternal_11 rfl ?_
  refine vr_iload_n hE dJ5_ensureCapacityInternal_12 rfl ?_
  refine vr_isub hE dJ5_ensureCapacityInternal_13 ?_
  refine vr_if_le (tgt := 38) hE dJ5_ensureCapacityInternal_14 (by decide) (fun c_14 => ?_) (fun c_14 => ?_)
  · exact absurd c_14 (sub_le1 hm (by omega))
  skip
  refine vr_aload_n hE dJ5_ensureCapacityInternal_17 rfl ?_
  refine vr_aload_n hE dJ5_ensureCapacityInternal_18 rfl ?_
  refine bc_get (z := 0) hE kc_J6 (by decide) q240 (Or.inl rfl) h_sb rfl dJ5_ensureCapacityInternal_19 ?_
  refine vr_aload_n hE dJ5_ensureCapacityInternal_22 rfl ?_
  refine vr_iload_n hE dJ5_ensureCapacityInternal_23 rfl ?_
  refine bc_callVP (ar := 1) hE (bk_J5_newCapacityL G _ sb v m mb ct f h_sb h_v hm hm2) kc_J6 h_sb ⟨by decide, by decide, by decide +kernel⟩ q549 q551 q78 q552 q550 q2900 rfl rfl (Nat.le_of_ble_eq_true rfl) (by decide) dJ5_ensureCapacityInternal_24 (fun _ _ _ h => h.elim) ?_
  rintro v_24 M_24 ⟨rfl, hu_24⟩
  obtain rfl := hu_24.symm
  refine vr_aload_n hE dJ5_ensureCapacityInternal_27 rfl ?_
  refine bc_get (z := 1) hE kc_J6 (by decide) q241 (Or.inl rfl) h_sb rfl dJ5_ensureCapacityInternal_28 ?_
  refine vr_ishl (v := (nI 34)) hE dJ5_ensureCapacityInternal_31 (by decide) ?_
  refine bc_callS hE (bk_J18_copyOf G _ v 16 34 f h_v hF (by decide) (by decide)) ok_J18_copyOf (lw_S q564 q565 q95 q566) rfl rfl (Nat.le_of_ble_eq_true rfl) (by decide) dJ5_ensureCapacityInternal_32 (fun _ _ _ h => h.elim) ?_
  rintro v_32 M_32 ⟨q, rfl, hnq, e_32⟩
  have hq_32 := (congrFun e_32 q).trans (bu_self _ _ _)
  have hsb_32 := (congrFun e_32 sb).trans ((bu_ne (bc_new_ne h_sb hnq)).trans h_sb)
  refine bc_put (z := 0) hE kc_J6 (by decide) q240 (Or.inl rfl) rfl hsb_32 rfl rfl (Nat.le_of_ble_eq_true rfl) dJ5_ensureCapacityInternal_35 (by first | decide | omega) ?_
  refine bc_nm (fun M_35 e_35 => ?_)
  have hq_35 := (congrFun e_35 q).trans ((bu_ne (Ne.symm (bc_new_ne h_sb hnq))).trans hq_32)
  have hsb_35 := (congrFun e_35 sb).trans (bu_self _ _ _)
  refine vr_return hE hQ dJ5_ensureCapacityInternal_38 (by decide) ⟨_, ?_, fun H h => hW _ H h⟩
  subst e_35
  subst e_32
  exact ⟨rfl, q, hnq, rfl⟩
theorem J5_ensL {Y : bi_Y} (G : bi_GS Y) (M : va_M) (sb v m c e : Nat) (mb : Int32) (f : Nat → Int32) (hB : BfL Y M sb v mb c e f) (hm2 : m ≤ 34) : bc_Met Y yJ5_ensureCapacityInternal (ws_ yJ5_ensureCapacityInternal cJ5_ensureCapacityInternal 3 none) 6 140 1 100 M [.ref sb, .int (nI m)] (fun v9 M' => v9 = none ∧ ∃ v' c' f', BfL Y M' sb v' mb c' e f' ∧ m ≤ c' ∧ (∀ j, j < e → f' j = f j) ∧ (∀ q x, M q = some x → q ≠ sb → M' q = some x) ∧ (v' = v ∨ M v' = none)) bi_nx := by
  obtain ⟨h1, h2, h3, h4, h5⟩ := hB
  by_cases hm : m ≤ c
  · exact (bk_J5_ensNL G M sb v m c mb (nI e) f h1 h2 (by omega) hm).mono (fun v9 M' z => by
      obtain ⟨z1, rfl⟩ := z
      exact ⟨z1, v, c, f, ⟨h1, h2, h3, h4, h5⟩, hm, fun _ _ => rfl, fun _ _ z _ => z, Or.inl rfl⟩) (fun _ _ _ z => z.elim)
  · obtain rfl : c = 16 := by omega
    exact (bk_J5_ensGL G M sb v m mb (nI e) f h1 h2 h3 (by omega) hm2).mono (fun v9 M' z => by
      obtain ⟨z1, q, hq, rfl⟩ := z
      have hsq : q ≠ sb := Ne.symm (bc_new_ne h1 hq)
      exact ⟨z1, q, 34, _, ⟨bu_self _ _ _, (bu_ne hsq).trans (bu_self _ _ _), sb_fitC h3 sb_fit0, Or.inr rfl, by omega⟩, hm2, fun j hj => sb_cpy0 (by omega), fun y x hy hys => (bu_ne hys).trans ((bu_ne (bc_new_ne hy hq)).trans hy), Or.inr hq⟩) (fun _ _ _ z => z.elim)
theorem bk_J5_ensNU {Y : bi_Y} (G : bi_GS Y) (M : va_M) (sb v m c : Nat) (mb ct : Int32) (f : Nat → Int32) (h_sb : M sb = some (.inr (21, sbL v 1 mb ct))) (h_v : M v = some (eB Y (2 * c) f)) (hc : c < 100) (hm : m ≤ c) : bc_Met Y yJ5_ensureCapacityInternal (ws_ yJ5_ensureCapacityInternal cJ5_ensureCapacityInternal 3 none) 6 140 1 100 M [.ref sb, .int (nI m)] (fun v9 M' => v9 = none ∧ M' = M) bi_nx := by
  refine bc_Met.of (own := RJ5) (L0 := [some (.ref sb), some (.int (nI m)), none]) rfl (by decide) G (Nat.le_of_ble_eq_true rfl) rfl (fun X A hE hQ hW hnl hnm => ?_)
  have hnl : ∀ q, q < 3 → q < bi_nL X := fun q h => by rw [hnl]; exact h
  refine vr_aload_n hE dJ5_ensureCapacityInternal_0 rfl ?_
  refine bc_get (z := 0) hE kc_J6 (by decide) q240 (Or.inl rfl) h_sb rfl dJ5_ensureCapacityInternal_1 ?_
  refine bc_alen (t0 := 1) hE rfl h_v dJ5_ensureCapacityInternal_4 ?_
  refine vr_aload_n hE dJ5_ensureCapacityInternal_5 rfl ?_
  refine bc_get (z := 1) hE kc_J6 (by decide) q241 (Or.inl rfl) h_sb rfl dJ5_ensureCapacityInternal_6 ?_
  refine vr_ishr (v := (nI c)) hE dJ5_ensureCapacityInternal_9 (shr1 c (by omega)) ?_
  refine vr_istore_n hE dJ5_ensureCapacityInternal_10 (hnl _ (by decide)) rfl ?_
  refine vr_iload_n hE dJ5_ensureCapacityInternal_11 rfl ?_
  refine vr_iload_n hE dJ5_ensureCapacityInternal_12 rfl ?_
  refine vr_isub hE dJ5_ensureCapacityInternal_13 ?_
  refine vr_if_le (tgt := 38) hE dJ5_ensureCapacityInternal_14 (by decide) (fun c_14 => ?_) (fun c_14 => ?_)
  · skip
    refine vr_return hE hQ dJ5_ensureCapacityInternal_38 (by decide) ⟨_, ?_, fun H h => hW _ H h⟩
    exact ⟨rfl, rfl⟩
  · exact absurd (sub_le0 hm (by omega)) c_14
theorem bk_J5_ensGU {Y : bi_Y} (G : bi_GS Y) (M : va_M) (sb v m : Nat) (mb ct : Int32) (f : Nat → Int32) (h_sb : M sb = some (.inr (21, sbL v 1 mb ct))) (h_v : M v = some (eB Y 32 f)) (hF : sb_Fit f) (hm : 16 < m) (hm2 : m ≤ 34) : bc_Met Y yJ5_ensureCapacityInternal (ws_ yJ5_ensureCapacityInternal cJ5_ensureCapacityInternal 3 none) 6 140 1 100 M [.ref sb, .int (nI m)] (fun v9 M' => v9 = none ∧ ∃ q, M q = none ∧ M' = bu (bu M q (eB Y 68 (va_cpy f (fun _ => 0) 0 0 32))) sb (.inr (21, sbL q 1 mb ct))) bi_nx := by
  refine bc_Met.of (own := RJ5) (L0 := [some (.ref sb), some (.int (nI m)), none]) rfl (by decide) G (Nat.le_of_ble_eq_true rfl) rfl (fun X A hE hQ hW hnl hnm => ?_)
  have hnl : ∀ q, q < 3 → q < bi_nL X := fun q h => by rw [hnl]; exact h
  refine vr_aload_n hE dJ5_ensureCapacityInternal_0 rfl ?_
  refine bc_get (z := 0) hE kc_J6 (by decide) q240 (Or.inl rfl) h_sb rfl dJ5_ensureCapacityInternal_1 ?_
  refine bc_alen (t0 := 1) hE rfl h_v dJ5_ensureCapacityInternal_4 ?_
  refine vr_aload_n hE dJ5_ensureCapacityInternal_5 rfl ?_
  refine bc_get (z := 1) hE kc_J6 (by decide) q241 (Or.inl rfl) h_sb rfl dJ5_ensureCapacityInternal_6 ?_
  refine vr_ishr (v := (nI 16)) hE dJ5_ensureCapacityInternal_9 (by decide) ?_
  refine vr_istore_n hE dJ5_ensureCapacityInternal_10 (hnl _ (by decide)) rfl ?_
  refine vr_iload_n hE dJ5_ensureCapacityInternal_11 rfl ?_
  refine vr_iload_n hE dJ5_ensureCapacityInternal_12 rfl ?_
  refine vr_isub hE dJ5_ensureCapacityInternal_13 ?_
  refine vr_if_le (tgt := 38) hE dJ5_ensureCapacityInternal_14 (by decide) (fun c_14 => ?_) (fun c_14 => ?_)
  · exact absurd c_14 (sub_le1 hm (by omega))
  skip
  refine vr_aload_n hE dJ5_ensureCapacityInternal_17 rfl ?_
  refine vr_aload_n hE dJ5_ensureCapacityInternal_18 rfl ?_
  refine bc_get (z := 0) hE kc_J6 (by decide) q240 (Or.inl rfl) h_sb rfl dJ5_ensureCapacityInternal_19 ?_
  refine vr_aload_n hE dJ5_ensureCapacityInternal_22 rfl ?_
  refine vr_iload_n hE dJ5_ensureCapacityInternal_23 rfl ?_
  refine bc_callVP (ar := 1) hE (bk_J5_newCapacityU G _ sb v m mb ct f h_sb h_v hm hm2) kc_J6 h_sb ⟨by decide, by decide, by decide +kernel⟩ q549 q551 q78 q552 q550 q2900 rfl rfl (Nat.le_of_ble_eq_true rfl) (by decide) dJ5_ensureCapacityInternal_24 (fun _ _ _ h => h.elim) ?_
  rintro v_24 M_24 ⟨rfl, hu_24⟩
  obtain rfl := hu_24.symm
  refine vr_aload_n hE dJ5_ensureCapacityInternal_27 rfl ?_
  refine bc_get (z := 1) hE kc_J6 (by decide) q241 (Or.inl rfl) h_sb rfl dJ5_ensureCapacityInternal_28 ?_
  refine vr_ishl (v := (nI 68)) hE dJ5_ensureCapacityInternal_31 (by decide) ?_
  refine bc_callS hE (bk_J18_copyOf G _ v 32 68 f h_v hF (by decide) (by decide)) ok_J18_copyOf (lw_S q564 q565 q95 q566) rfl rfl (Nat.le_of_ble_eq_true rfl) (by decide) dJ5_ensureCapacityInternal_32 (fun _ _ _ h => h.elim) ?_
  rintro v_32 M_32 ⟨q, rfl, hnq, e_32⟩
  have hq_32 := (congrFun e_32 q).trans (bu_self _ _ _)
  have hsb_32 := (congrFun e_32 sb).trans ((bu_ne (bc_new_ne h_sb hnq)).trans h_sb)
  refine bc_put (z := 0) hE kc_J6 (by decide) q240 (Or.inl rfl) rfl hsb_32 rfl rfl (Nat.le_of_ble_eq_true rfl) dJ5_ensureCapacityInternal_35 (by first | decide | omega) ?_
  refine bc_nm (fun M_35 e_35 => ?_)
  have hq_35 := (congrFun e_35 q).trans ((bu_ne (Ne.symm (bc_new_ne h_sb hnq))).trans hq_32)
  have hsb_35 := (congrFun e_35 sb).trans (bu_self _ _ _)
  refine vr_return hE hQ dJ5_ensureCapacityInternal_38 (by decide) ⟨_, ?_, fun H h => hW _ H h⟩
  subst e_35
  subst e_32
  exact ⟨rfl, q, hnq, rfl⟩
theorem J5_ensU {Y : bi_Y} (G : bi_GS Y) (M : va_M) (sb v m c e : Nat) (mb : Int32) (f : Nat → Int32) (hB : BfU Y M sb v mb c e f) (hm2 : m ≤ 34) : bc_Met Y yJ5_ensureCapacityInternal (ws_ yJ5_ensureCapacityInternal cJ5_ensureCapacityInternal 3 none) 6 140 1 100 M [.ref sb, .int (nI m)] (fun v9 M' => v9 = none ∧ ∃ v' c' f', BfU Y M' sb v' mb c' e f' ∧ m ≤ c' ∧ (∀ j, j < 2 * e → f' j = f j) ∧ (∀ q x, M q = some x → q ≠ sb → M' q = some x) ∧ (v' = v ∨ M v' = none)) bi_nx := by
  obtain ⟨h1, h2, h3, h4, h5⟩ := hB
  by_cases hm : m ≤ c
  · exact (bk_J5_ensNU G M sb v m c mb (nI e) f h1 h2 (by omega) hm).mono (fun v9 M' z => by
      obtain ⟨z1, rfl⟩ := z
      exact ⟨z1, v, c, f, ⟨h1, h2, h3, h4, h5⟩, hm, fun _ _ => rfl, fun _ _ z _ => z, Or.inl rfl⟩) (fun _ _ _ z => z.elim)
  · obtain rfl : c = 16 := by omega
    exact (bk_J5_ensGU G M sb v m mb (nI e) f h1 h2 h3 (by omega) hm2).mono (fun v9 M' z => by
      obtain ⟨z1, q, hq, rfl⟩ := z
      have hsq : q ≠ sb := Ne.symm (bc_new_ne h1 hq)
      exact ⟨z1, q, 34, _, ⟨bu_self _ _ _, (bu_ne hsq).trans (bu_self _ _ _), sb_fitC h3 sb_fit0, Or.inr rfl, by omega⟩, hm2, fun j hj => sb_cpy0 (by omega), fun y x hy hys => (bu_ne hys).trans ((bu_ne (bc_new_ne hy hq)).trans hy), Or.inr hq⟩) (fun _ _ _ z => z.elim)
theorem ok_J8_putChar : bi_ok yJ8_putChar RJ8 3 := by decide +kernel
theorem bk_J8_putChar {Y : bi_Y} (G : bi_GS Y) (M : va_M) (v c i x : Nat) (f : Nat → Int32) (h_v : M v = some (eB Y (2 * c) f)) (hc : c < 100) (hi : i < c) (hx : x < 65536) : bc_Met Y yJ8_putChar (ws_ yJ8_putChar cJ8_putChar 3 none) 0 0 0 0 M [.ref v, .int (nI i), .int (nI x)] (fun v9 M' => v9 = none ∧ M' = bu M v (eB Y (2 * c) (upd (upd f (2 * i) (vp_nar .byte (sb_b x))) (2 * i + 1) (vp_nar .byte (sb_b (x / 256)))))) bi_nx := by
  refine bc_Met.of (own := RJ8) (L0 := [some (.ref v), some (.int (nI i)), some (.int (nI x))]) rfl (by decide) G (Nat.le_of_ble_eq_true rfl) rfl (fun X A hE hQ hW hnl hnm => ?_)
  have hnl : ∀ q, q < 3 → q < bi_nL X := fun q h => by rw [hnl]; exact h
  refine wr_gets hE (zs_AS G) q603 dJ8_putChar_0 ?_
  refine vr_if_ne (tgt := 28) hE dJ8_putChar_3 (by decide) (fun c_3 => ?_) (fun c_3 => ?_)
  · skip
    refine vr_iload_n hE dJ8_putChar_28 rfl ?_
    refine vr_iconst (v := 1) hE dJ8_putChar_29 (by decide) ?_
    refine vr_ishl (v := (nI (2 * i))) hE dJ8_putChar_30 (shl1 i (by omega)) ?_
    refine vr_istore_n hE dJ8_putChar_31 (hnl _ (by decide)) rfl ?_
    refine vr_aload_n hE dJ8_putChar_32 rfl ?_
    refine vr_iload_n hE dJ8_putChar_33 rfl ?_
    refine vr_iinc hE dJ8_putChar_34 rfl (iinc_1 _) (hnl _ (by decide)) rfl ?_
    refine vr_iload_n hE dJ8_putChar_37 rfl ?_
    refine wr_gets hE (zs_HI G) q605 dJ8_putChar_38 ?_
    refine vr_ishr (v := (nI x)) hE dJ8_putChar_41 (sb_shr0 _) ?_
    refine vr_i2b (v := (sb_b x)) hE dJ8_putChar_42 rfl ?_
    refine bc_bast hE h_v rfl (by omega) (by omega) dJ8_putChar_43 (by first | decide | omega) ?_
    refine bc_nm (fun M_43 e_43 => ?_)
    have hv_43 := (congrFun e_43 v).trans (bu_self _ _ _)
    refine vr_aload_n hE dJ8_putChar_44 rfl ?_
    refine vr_iload_n hE dJ8_putChar_45 rfl ?_
    refine vr_iload_n hE dJ8_putChar_46 rfl ?_
    refine wr_gets hE (zs_LO G) q607 dJ8_putChar_47 ?_
    refine vr_ishr (v := (nI (x / 256))) hE dJ8_putChar_50 (nI_shr8 x hx) ?_
    refine vr_i2b (v := (sb_b (x / 256))) hE dJ8_putChar_51 rfl ?_
    refine bc_bast hE hv_43 rfl (by omega) (by omega) dJ8_putChar_52 (by first | decide | omega) ?_
    refine bc_nm (fun M_52 e_52 => ?_)
    have hv_52 := (congrFun e_52 v).trans (bu_self _ _ _)
    refine vr_return hE hQ dJ8_putChar_53 (by decide) ⟨_, ?_, fun H h => hW _ H h⟩
    subst e_52
    subst e_43
    exact ⟨rfl, bu_bu _ _ _ _⟩
  · exact absurd c_3 (by decide)
theorem ok_J8_checkIndex : bi_ok yJ8_checkIndex RJ8 2 := by decide +kernel
theorem bk_J8_checkIndex {Y : bi_Y} (G : bi_GS Y) (M : va_M) (v c i : Nat) (f : Nat → Int32) (h_v : M v = some (eB Y (2 * c) f)) (hc : c < 100) (hi : i < c) : bc_Met Y yJ8_checkIndex (ws_ yJ8_checkIndex cJ8_checkIndex 2 none) 2 43 0 0 M [.int (nI i), .ref v] (fun v9 M' => v9 = none ∧ M' = M) bi_nx := by
  refine bc_Met.of (own := RJ8) (L0 := [some (.int (nI i)), some (.ref v)]) rfl (by decide) G (Nat.le_of_ble_eq_true rfl) rfl (fun X A hE hQ hW hnl hnm => ?_)
  have hnl : ∀ q, q < 2 → q < bi_nL X := fun q h => by rw [hnl]; exact h
  refine vr_iload_n hE dJ8_checkIndex_0 rfl ?_
  refine vr_aload_n hE dJ8_checkIndex_1 rfl ?_
  refine bc_callS hE (bk_J8_length G _ v c f h_v (by omega)) ok_J8_length (lw_S q589 q590 q81 q591) rfl rfl (Nat.le_of_ble_eq_true rfl) (by decide) dJ8_checkIndex_2 (fun _ _ _ h => h.elim) ?_
  rintro v_2 M_2 ⟨rfl, hu_2⟩
  obtain rfl := hu_2.symm
  refine ro_callS hE (ro_ck G _ i c hi (by omega)) ok_J7_checkIndex (lw_S q2082 q2083 q80 q2084) rfl rfl (Nat.le_of_ble_eq_true rfl) (by decide) dJ8_checkIndex_5 ?_
  rintro v_5 rfl
  refine vr_return hE hQ dJ8_checkIndex_8 (by decide) ⟨_, ?_, fun H h => hW _ H h⟩
  exact ⟨rfl, rfl⟩
theorem ok_J8_putCharSB : bi_ok yJ8_putCharSB RJ8 3 := by decide +kernel
theorem bk_J8_putCharSB {Y : bi_Y} (G : bi_GS Y) (M : va_M) (v c i x : Nat) (f : Nat → Int32) (h_v : M v = some (eB Y (2 * c) f)) (hc : c < 100) (hi : i < c) (hx : x < 65536) : bc_Met Y yJ8_putCharSB (ws_ yJ8_putCharSB cJ8_putCharSB 3 none) 3 64 0 0 M [.ref v, .int (nI i), .int (nI x)] (fun v9 M' => v9 = none ∧ M' = bu M v (eB Y (2 * c) (upd (upd f (2 * i) (vp_nar .byte (sb_b x))) (2 * i + 1) (vp_nar .byte (sb_b (x / 256)))))) bi_nx := by
  refine bc_Met.of (own := RJ8) (L0 := [some (.ref v), some (.int (nI i)), some (.int (nI x))]) rfl (by decide) G (Nat.le_of_ble_eq_true rfl) rfl (fun X A hE hQ hW hnl hnm => ?_)
  have hnl : ∀ q, q < 3 → q < bi_nL X := fun q h => by rw [hnl]; exact h
  refine vr_iload_n hE dJ8_putCharSB_0 rfl ?_
  refine vr_aload_n hE dJ8_putCharSB_1 rfl ?_
  refine bc_callS hE (bk_J8_checkIndex G _ v c i f h_v hc hi) ok_J8_checkIndex (lw_S q2079 q2080 q81 q2081) rfl rfl (Nat.le_of_ble_eq_true rfl) (by decide) dJ8_putCharSB_2 (fun _ _ _ h => h.elim) ?_
  rintro v_2 M_2 ⟨rfl, hu_2⟩
  obtain rfl := hu_2.symm
  refine vr_aload_n hE dJ8_putCharSB_5 rfl ?_
  refine vr_iload_n hE dJ8_putCharSB_6 rfl ?_
  refine vr_iload_n hE dJ8_putCharSB_7 rfl ?_
  refine bc_callS hE (bk_J8_putChar G _ v c i x f h_v hc hi hx) ok_J8_putChar (lw_S q600 q601 q81 q602) rfl rfl (Nat.le_of_ble_eq_true rfl) (by decide) dJ8_putCharSB_8 (fun _ _ _ h => h.elim) ?_
  rintro v_8 M_8 ⟨rfl, e_8⟩
  have hv_8 := (congrFun e_8 v).trans (bu_self _ _ _)
  refine vr_return hE hQ dJ8_putCharSB_11 (by decide) ⟨_, ?_, fun H h => hW _ H h⟩
  subst e_8
  exact ⟨rfl, rfl⟩
theorem ok_J20_canEncode : bi_ok yJ20_canEncode RJ20 1 := by decide +kernel
theorem bk_J20_canEncode {Y : bi_Y} (G : bi_GS Y) (M : va_M) (x : Nat) (hx : x < 65536) : bc_Met Y yJ20_canEncode (ws_ yJ20_canEncode cJ20_canEncode 1 (some .boolean)) 0 0 0 0 M [.int (nI x)] (fun v9 M' => v9 = some (.int (if x < 256 then 1 else 0)) ∧ M' = M) bi_nx := by
  refine bc_Met.of (own := RJ20) (L0 := [some (.int (nI x))]) rfl (by decide) G (Nat.le_of_ble_eq_true rfl) rfl (fun X A hE hQ hW hnl hnm => ?_)
  have hnl : ∀ q, q < 1 → q < bi_nL X := fun q h => by rw [hnl]; exact h
  refine vr_iload_n hE dJ20_canEncode_0 rfl ?_
  refine vr_sipush (v := 255) hE dJ20_canEncode_1 (by decide) ?_
  refine vr_icmp_gt (tgt := 11) hE dJ20_canEncode_4 (by decide) (fun c_4 => ?_) (fun c_4 => ?_)
  · have hn : ¬ x < 256 := fun z => absurd c_4 (nI_nlt (a := 255) (b := x) (by omega) (by decide))
    refine vr_iconst (v := 0) hE dJ20_canEncode_11 (by decide) ?_
    refine vr_ireturn hE hQ rfl dJ20_canEncode_12 (by decide) ⟨_, ?_, fun H h => hW _ H h⟩
    exact ⟨by rw [if_neg hn], rfl⟩
  · have hn : x < 256 := Classical.byContradiction fun z => c_4 (nI_lt (a := 255) (b := x) (by omega) (by omega))
    skip
    refine vr_iconst (v := 1) hE dJ20_canEncode_7 (by decide) ?_
    refine vr_goto (tgt := 12) hE dJ20_canEncode_8 (by decide) ?_
    refine vr_ireturn hE hQ rfl dJ20_canEncode_12 (by decide) ⟨_, ?_, fun H h => hW _ H h⟩
    exact ⟨by rw [if_pos hn], rfl⟩
