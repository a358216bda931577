/-! words compared; an order done -/
set_option maxRecDepth 100000
abbrev ev_ (Y : bi_Y) (t : Term) (a : Nat) : Prop := t.eval #[Value.ref Y.2.2.2] Y.2.2.1 none [] Y.2.2.1 = some (.ref a)
/-- the words of orders: look, mend, shave, drift, pay, days -/
def wd_ (Y : bi_Y) : Nat → Nat → Prop
  | 0, a => ev_ Y (.string RX12 60) a
  | 1, a => ev_ Y (.string RX12 62) a
  | 2, a => ev_ Y (.string RX12 64) a
  | 3, a => ev_ Y (.string RX12 66) a
  | 4, a => ev_ Y (.string RX1 282) a
  | _, a => ev_ Y (.string RX12 25) a
theorem ev_inj {Y : bi_Y} {t : Term} {a b : Nat} (h : ev_ Y t a) (h' : ev_ Y t b) : a = b := by
  have := h.symm.trans h'
  cases this
  rfl
theorem bi_SA.ne {Y : bi_Y} {a v a2 v2 : Nat} {t t2 : List Nat} {h z h2 z2 : Int32} (hs : bi_SA Y a v t h z) (hs2 : bi_SA Y a2 v2 t2 h2 z2) (hh : h ≠ h2) : a ≠ a2 := by
  intro e
  subst e
  obtain ⟨c, c1, -, c3⟩ := hs.2.1
  obtain ⟨d, d1, -, d3⟩ := hs2.2.1
  cases c1.symm.trans d1
  have := c3.symm.trans d3
  cases this
  exact hh rfl
def c_ord (s : Nat → Int32) (n w : Nat) (kind a : Nat) (oth : Int32) : c_O :=
  if kind = 5 then (if in_ (nI a) 1 40 = 0 then .inl [(13, 0)] else .inr ((m_days s n a).1, (m_days s n a).2))
  else if n ≤ a then .inl [(13, 0)]
  else if kind = 0 then (if nI w ≤ oth then .inl [(13, 0)] else c_insp s a (ix oth) (m_fr s a))
  else if kind = 1 then c_mend s a
  else if kind = 2 then (if in_ oth 1 9 = 0 then .inl [(13, 0)] else c_shave s a oth)
  else if kind = 3 then (if in_ oth (-3) 3 = 0 then .inl [(13, 0)] else .inr (upd s (55 + a) oth, s (55 + a)))
  else (if in_ oth 1 99 = 0 then .inl [(13, 0)] else c_pay s a oth)
def c_ft (s : Nat → Int32) (n : Nat) : Prop := ∀ t, t < n → ∃ f, f < 5 ∧ s (15 + t) = nI f
theorem ok_J20_equals : bi_ok yJ20_equals RJ20 2 := by decide +kernel
theorem ro_eqB {Y : bi_Y} (G : bi_GS Y) (P : Heap → Prop) (x y : Nat) (s t : List Nat) (hx : ∀ H, bi_B Y H → P H → bi_arr Y .byte x s.length (fun j => .int (sb_b (s.getD j 0))) H) (hy : ∀ H, bi_B Y H → P H → bi_arr Y .byte y t.length (fun j => .int (sb_b (t.getD j 0))) H) (hsl : s.length < 2 ^ 31) (htl : t.length < 2 ^ 31) (h0 : 0 < s.length) (hd : s.length = t.length → sb_b (s.getD 0 0) ≠ sb_b (t.getD 0 0)) : bi_Met Y yJ20_equals (ws_ yJ20_equals cJ20_equals 3 (some .boolean)) 0 0 0 0 P (fun _ => False) [.ref x, .ref y] (fun v (_ : Unit) => v = some (.int 0)) bi_nx (fun _ => P) := by
  refine bi_Met.of (own := RJ20) (L0 := [some (.ref x), some (.ref y), none]) rfl (by decide) G (fun _ h => h.elim) (Nat.le_of_ble_eq_true rfl) rfl (fun X hE hQ hA hnl hnm => ?_)
  have hnl : ∀ q, q < 3 → q < bi_nL X := fun q h => by rw [hnl]; exact h
  refine vr_aload_n hE dJ20_equals_0 rfl ?_
  refine wr_alen hE hx dJ20_equals_1 ?_
  refine vr_aload_n hE dJ20_equals_2 rfl ?_
  refine wr_alen hE hy dJ20_equals_3 ?_
  refine vr_icmp_ne (tgt := 34) hE dJ20_equals_4 (by decide) (fun c_4 => ?_) (fun c_4 => ?_)
  · skip
    refine vr_iconst (v := 0) hE dJ20_equals_34 (by decide) ?_
    refine vr_ireturn hE hQ rfl dJ20_equals_35 (by decide) ⟨(), ?_, fun H h => h⟩
    exact rfl
  · have hl : s.length = t.length := (nI_eq hsl htl).mp (Classical.byContradiction fun z => z c_4)
    refine vr_iconst (v := 0) hE dJ20_equals_7 (by decide) ?_
    refine vr_istore_n hE dJ20_equals_8 (hnl _ (by decide)) rfl ?_
    refine vr_iload_n hE dJ20_equals_9 rfl ?_
    refine vr_aload_n hE dJ20_equals_10 rfl ?_
    refine wr_alen hE hx dJ20_equals_11 ?_
    refine vr_icmp_ge (tgt := 32) hE dJ20_equals_12 (by decide) (fun c_12 => ?_) (fun c_12 => ?_)
    · exact absurd (show nI s.length ≤ nI 0 from c_12) (nI_ge h0 hsl)
    refine vr_aload_n hE dJ20_equals_15 rfl ?_
    refine vr_iload_n hE dJ20_equals_16 rfl ?_
    refine wr_bald hE hx (show (0 : Int32) = nI 0 from rfl) h0 hsl dJ20_equals_17 ?_
    refine vr_aload_n hE dJ20_equals_18 rfl ?_
    refine vr_iload_n hE dJ20_equals_19 rfl ?_
    refine wr_bald hE hy (show (0 : Int32) = nI 0 from rfl) (by omega) htl dJ20_equals_20 ?_
    refine vr_icmp_eq (tgt := 26) hE dJ20_equals_21 (by decide) (fun c_21 => ?_) (fun c_21 => ?_)
    · exact absurd c_21 (hd hl)
    refine vr_iconst (v := 0) hE dJ20_equals_24 (by decide) ?_
    refine vr_ireturn hE hQ rfl dJ20_equals_25 (by decide) ⟨(), ?_, fun H h => h⟩
    exact rfl
theorem ok_J7_equals : bi_ok yJ7_equals RJ7 1 := by decide +kernel
theorem ro_eqF {Y : bi_Y} (G : bi_GS Y) (P : Heap → Prop) (a v : Nat) (t : List Nat) (h z : Int32) (hs : bi_SA Y a v t h z) (a2 v2 : Nat) (t2 : List Nat) (h2 z2 : Int32) (hs2 : bi_SA Y a2 v2 t2 h2 z2) (hne : a ≠ a2) (hsl : t.length < 2 ^ 31) (htl : t2.length < 2 ^ 31) (h0 : 0 < t.length) (hd : t.length = t2.length → sb_b (t.getD 0 0) ≠ sb_b (t2.getD 0 0)) : bi_Met Y yJ7_equals (ws_ yJ7_equals cJ7_equals 3 (some .boolean)) 1 22 0 0 P (fun _ => False) [.ref a, .ref a2] (fun v (_ : Unit) => v = some (.int 0)) bi_nx (fun _ => P) := by
  refine bi_Met.of (own := RJ7) (L0 := [some (.ref a), some (.ref a2), none]) rfl (by decide) G (fun _ h => h.elim) (Nat.le_of_ble_eq_true rfl) rfl (fun X hE hQ hA hnl hnm => ?_)
  have hnl : ∀ q, q < 3 → q < bi_nL X := fun q h => by rw [hnl]; exact h
  refine vr_aload_n hE dJ7_equals_0 rfl ?_
  refine vr_aload_n hE dJ7_equals_1 rfl ?_
  refine vr_acmp_ne (tgt := 7) hE (some a) (some a2) rfl rfl dJ7_equals_2 (by decide) (fun c_2 => ?_) (fun c_2 => ?_)
  rotate_left
  · exact absurd (Option.some.inj c_2) hne
  refine vr_aload_n hE dJ7_equals_7 rfl ?_
  refine vr_instS (ci := 22) hE rfl (fun H hB hP => (hs2.any _ H hB hP).1) q1314 dJ7_equals_8 ?_
  refine vr_if_eq (tgt := 54) hE dJ7_equals_11 (by decide) (fun c_11 => ?_) (fun c_11 => ?_)
  · exact absurd c_11 (by decide)
  refine vr_aload_n hE dJ7_equals_14 rfl ?_
  refine vr_castS (ci := 22) hE rfl (fun H hB hP => (hs2.any _ H hB hP).1) q1314 dJ7_equals_15 ?_
  refine vr_astore_n hE dJ7_equals_18 (hnl _ (by decide)) rfl ?_
  refine wr_gets hE (zs_CS G) q617 dJ7_equals_19 ?_
  refine vr_if_eq (tgt := 36) hE dJ7_equals_22 (by decide) (fun c_22 => ?_) (fun c_22 => ?_)
  · exact absurd c_22 (by decide)
  refine vr_aload_n hE dJ7_equals_25 rfl ?_
  refine wr_get (ci := 22) hE rfl in_J7 (z := 1) (by decide) q738 rfl (fun H hB hP => (hs.any _ H hB hP).2.2.1) dJ7_equals_26 ?_
  refine vr_aload_n hE dJ7_equals_29 rfl ?_
  refine wr_get (ci := 22) hE rfl in_J7 (z := 1) (by decide) q738 rfl (fun H hB hP => (hs2.any _ H hB hP).2.2.1) dJ7_equals_30 ?_
  refine vr_icmp_ne (tgt := 54) hE dJ7_equals_33 (by decide) (fun c_33 => ?_) (fun c_33 => ?_)
  · exact absurd rfl c_33
  refine vr_aload_n hE dJ7_equals_36 rfl ?_
  refine wr_get (ci := 22) hE rfl in_J7 (z := 0) (by decide) q737 rfl (fun H hB hP => (hs.any _ H hB hP).2.1) dJ7_equals_37 ?_
  refine vr_aload_n hE dJ7_equals_40 rfl ?_
  refine wr_get (ci := 22) hE rfl in_J7 (z := 0) (by decide) q737 rfl (fun H hB hP => (hs2.any _ H hB hP).2.1) dJ7_equals_41 ?_
  refine ro_callS hE (ro_eqB G P v v2 t t2 (fun H hB hP => (hs.any _ H hB hP).2.2.2.1) (fun H hB hP => (hs2.any _ H hB hP).2.2.2.1) hsl htl h0 hd) ok_J20_equals (lw_S q1315 q1316 q97 q1317) rfl rfl (Nat.le_of_ble_eq_true rfl) (by decide) dJ7_equals_44 ?_
  rintro v_44 rfl
  refine vr_if_eq (tgt := 54) hE dJ7_equals_47 (by decide) (fun c_47 => ?_) (fun c_47 => ?_)
  · skip
    refine vr_iconst (v := 0) hE dJ7_equals_54 (by decide) ?_
    refine vr_ireturn hE hQ rfl dJ7_equals_55 (by decide) ⟨(), ?_, fun H h => h⟩
    exact rfl
  · exact absurd rfl c_47
theorem ro_eqT {Y : bi_Y} (G : bi_GS Y) (P : Heap → Prop) (a : Nat) : bi_Met Y yJ7_equals (ws_ yJ7_equals cJ7_equals 3 (some .boolean)) 0 0 0 0 P (fun _ => False) [.ref a, .ref a] (fun v (_ : Unit) => v = some (.int 1)) bi_nx (fun _ => P) := by
  refine bi_Met.of (own := RJ7) (L0 := [some (.ref a), some (.ref a), none]) rfl (by decide) G (fun _ h => h.elim) (Nat.le_of_ble_eq_true rfl) rfl (fun X hE hQ hA hnl hnm => ?_)
  have hnl : ∀ q, q < 3 → q < bi_nL X := fun q h => by rw [hnl]; exact h
  refine vr_aload_n hE dJ7_equals_0 rfl ?_
  refine vr_aload_n hE dJ7_equals_1 rfl ?_
  refine vr_acmp_ne (tgt := 7) hE (some a) (some a) rfl rfl dJ7_equals_2 (by decide) (fun c_2 => ?_) (fun c_2 => ?_)
  · exact absurd rfl c_2
  refine vr_iconst (v := 1) hE dJ7_equals_5 (by decide) ?_
  refine vr_ireturn hE hQ rfl dJ7_equals_6 (by decide) ⟨(), ?_, fun H h => h⟩
  exact rfl
theorem ok_J7_hashCode : bi_ok yJ7_hashCode RJ7 0 := by decide +kernel
theorem ro_hash {Y : bi_Y} (G : bi_GS Y) (P : Heap → Prop) (a v : Nat) (t : List Nat) (h z : Int32) (hs : bi_SA Y a v t h z) (hh : ¬ h = 0) : bi_Met Y yJ7_hashCode (ws_ yJ7_hashCode cJ7_hashCode 2 (some .int)) 0 0 0 0 P (fun _ => False) [.ref a] (fun v (_ : Unit) => v = some (.int h)) bi_nx (fun _ => P) := by
  refine bi_Met.of (own := RJ7) (L0 := [some (.ref a), none]) rfl (by decide) G (fun _ h => h.elim) (Nat.le_of_ble_eq_true rfl) rfl (fun X hE hQ hA hnl hnm => ?_)
  have hnl : ∀ q, q < 2 → q < bi_nL X := fun q h => by rw [hnl]; exact h
  refine vr_aload_n hE dJ7_hashCode_0 rfl ?_
  refine wr_get (ci := 22) hE rfl in_J7 (z := 2) (by decide) q739 rfl (fun H hB _ => bi_fldB hs.2.1 hB) dJ7_hashCode_1 ?_
  refine vr_istore_n hE dJ7_hashCode_4 (hnl _ (by decide)) rfl ?_
  refine vr_iload_n hE dJ7_hashCode_5 rfl ?_
  refine vr_if_ne (tgt := 58) hE dJ7_hashCode_6 (by decide) (fun c_6 => ?_) (fun c_6 => ?_)
  · skip
    refine vr_iload_n hE dJ7_hashCode_58 rfl ?_
    refine vr_ireturn hE hQ rfl dJ7_hashCode_59 (by decide) ⟨(), ?_, fun H h => h⟩
    exact rfl
  · exact absurd c_6 hh
theorem ok_X1_call : bi_ok yX1_call RX1 1 := by decide +kernel
theorem bk_X1_call {Y : bi_Y} (G : bi_GS Y) (M : va_M) (b : Int32) : bc_Met Y yX1_call (ws_ yX1_call cX1_call 1 none) 7 144 1 8 M [.int b] (fun v M' => ¬ b = 0 ∧ v = none ∧ M' = M) (fun q E M' => b = 0 ∧ E = "BrassInspector$Refusal" ∧ M q = none ∧ ∃ u w, rf_ u ∧ rf_ w ∧ M' = bu M q (.inr (5, xR (.ref q) u w 13 0))) := by
  refine bc_Met.of (own := RX1) (L0 := [some (.int b)]) rfl (by decide) G (Nat.le_of_ble_eq_true rfl) rfl (fun X A hE hQ hW hnl hnm => ?_)
  have hnl : ∀ q, q < 1 → q < bi_nL X := fun q h => by rw [hnl]; exact h
  refine vr_iload_n hE dX1_call_0 rfl ?_
  refine vr_bipush (v := 13) hE dX1_call_1 (by decide) ?_
  refine vr_iconst (v := 0) hE dX1_call_3 (by decide) ?_
  refine bc_callS hE (bk_X1_meet G _ b 13 0) ok_X1_meet (lw_S q1322 q1230 q71 q1231) rfl rfl (Nat.le_of_ble_eq_true rfl) (by decide) dX1_call_4 (fun q9 E9 M9 h9 => vr_out hE hQ (fun _ z9 => by cases z9) (by first | decide | exact ⟨by omega, by omega⟩) ⟨M9, h9, fun H h => hW _ H h⟩) ?_
  rintro v_4 M_4 ⟨hb_4, rfl, hu_4⟩
  obtain rfl := hu_4.symm
  refine vr_return hE hQ dX1_call_7 (by decide) ⟨_, ?_, fun H h => hW _ H h⟩
  exact ⟨hb_4, rfl, rfl⟩
theorem ok_X12_does : bi_ok yX12_does RX12 1 := by decide +kernel
theorem bk_X12_does1 {Y : bi_Y} (G : bi_GS Y) (M : va_M) (R : cR) (n w : Nat) (s : Nat → Int32) (hR : RoundM Y M R n w s) (o wa a : Nat) (oth : Int32) (h_o : M o = some (.inr (14, [.ref wa, .int (nI a), .int oth]))) (hwa : wd_ Y 1 wa) (ha : a < 2 ^ 31) : bc_Met Y yX12_does (ws_ yX12_does cX12_does 4 (some .int)) 40 1000 1000 2600 M [.ref o, .ref R.r] (fun v M' => ∃ s' x, c_ord s n w 1 a oth = .inr (s', x) ∧ v = some (.int x) ∧ RoundM Y M' R n w s' ∧ cKeep M M' R n w) (c_PX M (c_ord s n w 1 a oth)) := by
  obtain ⟨s25, v25, e25, hs25⟩ := sk_X12_25 G
  obtain ⟨s60, v60, e60, hs60⟩ := sk_X12_60 G
  obtain ⟨s62, v62, e62, hs62⟩ := sk_X12_62 G
  obtain ⟨s64, v64, e64, hs64⟩ := sk_X12_64 G
  obtain ⟨s66, v66, e66, hs66⟩ := sk_X12_66 G
  obtain rfl : s62 = wa := ev_inj e62 hwa
  refine bc_Met.of (own := RX12) (L0 := [some (.ref o), some (.ref R.r), none, none]) rfl (by decide) G (Nat.le_of_ble_eq_true rfl) rfl (fun X A hE hQ hW hnl hnm => ?_)
  have hnl : ∀ q, q < 4 → q < bi_nL X := fun q h => by rw [hnl]; exact h
  refine vr_aload_n hE dX12_does_0 rfl ?_
  refine bc_get (z := 0) hE kc_X12 (by decide) q1735 (Or.inl rfl) h_o rfl dX12_does_1 ?_
  refine wr_ldcS (idx := 25) hE q1309 e25 dX12_does_4 ?_
  refine ro_callV (ci := 22) hE (ro_eqF G _ s62 v62 _ _ _ hs62 s25 v25 _ _ _ hs25 (hs62.ne hs25 (by decide)) (by decide) (by decide) (by decide) (by decide)) rfl (fun H hB hP => (hs62.any _ H hB hP).1) ok_J7_equals (lw_V q1310 q1311 q1312 q80 q1313) rfl rfl (Nat.le_of_ble_eq_true rfl) (by decide) dX12_does_6 ?_
  rintro v_6 rfl
  refine vr_if_eq (tgt := 34) hE dX12_does_9 (by decide) (fun c_9 => ?_) (fun c_9 => ?_)
  · skip
    refine vr_aload_n hE dX12_does_34 rfl ?_
    refine bc_get (z := 1) hE kc_X12 (by decide) q1736 (Or.inl rfl) h_o rfl dX12_does_35 ?_
    refine vr_aload_n hE dX12_does_38 rfl ?_
    refine bc_callV hE (bk_X2_traders G _ R.r _ _ _ _ _ _ _ hR.hr) kc_X2 hR.hr ok_X2_traders (lw_V q1409 q1410 q1411 q72 q1412) rfl rfl (Nat.le_of_ble_eq_true rfl) (by decide) dX12_does_39 (fun _ _ _ h => h.elim) ?_
    rintro v_39 M_39 ⟨rfl, hu_39⟩
    obtain rfl := hu_39.symm
    refine bc_callF (ar := 0) hE (bk_J2_size G _ R.tl R.te n _ hR.htl) kc_J2 hR.htl (by decide +kernel) (lw_Fg q1414 q826 q828 q75 q830) ⟨q825, q824, q829, q827, q477⟩ rfl rfl (Nat.le_of_ble_eq_true rfl) (by decide) dX12_does_42 (fun _ _ _ h => h.elim) ?_
    rintro v_42 M_42 ⟨rfl, hu_42⟩
    obtain rfl := hu_42.symm
    apply vt_icmp_ge (tgt := 54) (J := 55) hE dX12_does_47 (by decide)
    · intro c_47 kt1
      refine vr_iconst (v := 0) hE dX12_does_54 (by decide) ?_
      exact kt1
    · intro c_47 kf1
      refine vr_iconst (v := 1) hE dX12_does_50 (by decide) ?_
      refine vr_goto (tgt := 55) hE dX12_does_51 (by decide) ?_
      exact kf1
    refine bc_callSN hE (bk_X1_call G _ _) ok_X1_call q1319 q1320 q71 q1321 rfl rfl (Nat.le_of_ble_eq_true rfl) (by decide) dX12_does_55 (fun q9 E9 M9 h9 => vr_out hE hQ (fun _ z9 => by cases z9) (by first | decide | exact ⟨by omega, by omega⟩) ⟨M9, (c_PX.of h9 (by unfold c_ord; rw [if_neg (by decide), if_pos (show n ≤ a from Nat.le_of_not_lt fun z => absurd h9.1 (by rw [if_neg (show ¬ nI n ≤ nI a from nI_ge z (by have := hR.hn; omega))]; decide))])), fun H h => hW _ H h⟩) ?_
    rintro v_55 M_55 ⟨hb_55, rfl, hu_55⟩
    obtain rfl := hu_55.symm
    have hn9 := hR.hn
    have hlt : a < n := Nat.lt_of_not_le fun z => hb_55 (if_pos (show nI n ≤ nI a from nI_le z ha))
    refine vr_aload_n hE dX12_does_58 rfl ?_
    refine bc_get (z := 0) hE kc_X12 (by decide) q1735 (Or.inl rfl) h_o rfl dX12_does_59 ?_
    refine vr_astore_n hE dX12_does_62 (hnl _ (by decide)) rfl ?_
    refine vr_iconst (v := -1) hE dX12_does_63 (by decide) ?_
    refine vr_istore_n hE dX12_does_64 (hnl _ (by decide)) rfl ?_
    refine vr_aload_n hE dX12_does_65 rfl ?_
    refine ro_callV (ci := 22) hE (ro_hash G _ s62 v62 _ _ _ hs62 (by decide)) rfl (fun H hB hP => (hs62.any _ H hB hP).1) ok_J7_hashCode (lw_V q1415 q1416 q1417 q80 q1418) rfl rfl (Nat.le_of_ble_eq_true rfl) (by decide) dX12_does_66 ?_
    rintro v_66 rfl
    refine vr_topi (fun sw_69 e_sw_69 => ?_)
    by_cases s_69_3327647 : sw_69 = 3327647
    · exact absurd (e_sw_69.symm.trans s_69_3327647) (by decide)
    by_cases s_69_3347790 : sw_69 = 3347790
    · refine vr_lkp (off := 57) (tgt := 126) hE dX12_does_69 (by decide) (by rw [s_69_3347790]; decide) (by decide) ?_
      refine vr_aload_n hE dX12_does_126 rfl ?_
      refine wr_ldcS (idx := 62) hE q1477 e62 dX12_does_127 ?_
      refine ro_callV (ci := 22) hE (ro_eqT G _ s62) rfl (fun H hB hP => (hs62.any _ H hB hP).1) ok_J7_equals (lw_V q1310 q1311 q1312 q80 q1313) rfl rfl (Nat.le_of_ble_eq_true rfl) (by decide) dX12_does_129 ?_
      rintro v_129 rfl
      refine vr_if_eq (tgt := 165) hE dX12_does_132 (by decide) (fun c_132 => ?_) (fun c_132 => ?_)
      · exact absurd c_132 (by decide)
      refine vr_iconst (v := 1) hE dX12_does_135 (by decide) ?_
      refine vr_istore_n hE dX12_does_136 (hnl _ (by decide)) rfl ?_
      refine vr_goto (tgt := 165) hE dX12_does_137 (by decide) ?_
      refine vr_iload_n hE dX12_does_165 rfl ?_
      refine vr_topi (fun sw_166 e_sw_166 => ?_)
      by_cases s_166_0 : sw_166 = 0
      · exact absurd (e_sw_166.symm.trans s_166_0) (by decide)
      by_cases s_166_1 : sw_166 = 1
      · refine vr_tab (z := 1) (tgt := 233) hE dX12_does_166 (by rw [s_166_1]; decide) (by decide) (by decide) (off := 67) (by decide) (by decide) ?_
        refine vr_aload_n hE dX12_does_233 rfl ?_
        refine vr_aload_n hE dX12_does_234 rfl ?_
        refine bc_get (z := 1) hE kc_X12 (by decide) q1736 (Or.inl rfl) h_o rfl dX12_does_235 ?_
        refine bc_callV hE (bk_X2_mend G _ R n w s hR a hlt) kc_X2 hR.hr ok_X2_mend (lw_V q1527 q1528 q1529 q72 q1530) rfl rfl (Nat.le_of_ble_eq_true rfl) (by decide) dX12_does_238 (fun q9 E9 M9 h9 => vr_out hE hQ (fun _ z9 => by cases z9) (by first | decide | exact ⟨by omega, by omega⟩) ⟨M9, (show c_PX M (c_ord s n w 1 a oth) q9 E9 M9 from by
              have z9 : c_ord s n w 1 a oth = c_mend s a := by
                unfold c_ord
                rw [if_neg (show ¬ 1 = 5 by decide), if_neg (show ¬ n ≤ a by omega), if_neg (show ¬ 1 = 0 by decide), if_pos (show 1 = 1 from rfl)]
              rw [z9]
              exact h9), fun H h => hW _ H h⟩) ?_
        rintro v_238 M_238 ⟨s9, x9, hsp9, rfl, hR9, hk9⟩
        refine vr_ireturn hE hQ rfl dX12_does_241 (by decide) ⟨_, ?_, fun H h => hW _ H h⟩
        refine ⟨s9, x9, ?_, rfl, hR9, hk9⟩
        unfold c_ord
        rw [if_neg (show ¬ 1 = 5 by decide), if_neg (show ¬ n ≤ a by omega), if_neg (show ¬ 1 = 0 by decide), if_pos (show 1 = 1 from rfl)]
        exact hsp9
      by_cases s_166_2 : sw_166 = 2
      · exact absurd (e_sw_166.symm.trans s_166_2) (by decide)
      by_cases s_166_3 : sw_166 = 3
      · exact absurd (e_sw_166.symm.trans s_166_3) (by decide)
      exact absurd e_sw_166 s_166_1
    by_cases s_69_95852457 : sw_69 = 95852457
    · exact absurd (e_sw_69.symm.trans s_69_95852457) (by decide)
    by_cases s_69_109400155 : sw_69 = 109400155
    · exact absurd (e_sw_69.symm.trans s_69_109400155) (by decide)
    exact absurd e_sw_69 s_69_3347790
  · exact absurd rfl c_9
theorem bk_X12_does2 {Y : bi_Y} (G : bi_GS Y) (M : va_M) (R : cR) (n w : Nat) (s : Nat → Int32) (hR : RoundM Y M R n w s) (o wa a : Nat) (oth : Int32) (h_o : M o = some (.inr (14, [.ref wa, .int (nI a), .int oth]))) (hwa : wd_ Y 2 wa) (ha : a < 2 ^ 31) : bc_Met Y yX12_does (ws_ yX12_does cX12_does 4 (some .int)) 40 1000 1000 2600 M [.ref o, .ref R.r] (fun v M' => ∃ s' x, c_ord s n w 2 a oth = .inr (s', x) ∧ v = some (.int x) ∧ RoundM Y M' R n w s' ∧ cKeep M M' R n w) (c_PX M (c_ord s n w 2 a oth)) := by
  obtain ⟨s25, v25, e25, hs25⟩ := sk_X12_25 G
  obtain ⟨s60, v60, e60, hs60⟩ := sk_X12_60 G
  obtain ⟨s62, v62, e62, hs62⟩ := sk_X12_62 G
  obtain ⟨s64, v64, e64, hs64⟩ := sk_X12_64 G
  obtain ⟨s66, v66, e66, hs66⟩ := sk_X12_66 G
  obtain rfl : s64 = wa := ev_inj e64 hwa
  refine bc_Met.of (own := RX12) (L0 := [some (.ref o), some (.ref R.r), none, none]) rfl (by decide) G (Nat.le_of_ble_eq_true rfl) rfl (fun X A hE hQ hW hnl hnm => ?_)
  have hnl : ∀ q, q < 4 → q < bi_nL X := fun q h => by rw [hnl]; exact h
  refine vr_aload_n hE dX12_does_0 rfl ?_
  refine bc_get (z := 0) hE kc_X12 (by decide) q1735 (Or.inl rfl) h_o rfl dX12_does_1 ?_
  refine wr_ldcS (idx := 25) hE q1309 e25 dX12_does_4 ?_
  refine ro_callV (ci := 22) hE (ro_eqF G _ s64 v64 _ _ _ hs64 s25 v25 _ _ _ hs25 (hs64.ne hs25 (by decide)) (by decide) (by decide) (by decide) (by decide)) rfl (fun H hB hP => (hs64.any _ H hB hP).1) ok_J7_equals (lw_V q1310 q1311 q1312 q80 q1313) rfl rfl (Nat.le_of_ble_eq_true rfl) (by decide) dX12_does_6 ?_
  rintro v_6 rfl
  refine vr_if_eq (tgt := 34) hE dX12_does_9 (by decide) (fun c_9 => ?_) (fun c_9 => ?_)
  · skip
    refine vr_aload_n hE dX12_does_34 rfl ?_
    refine bc_get (z := 1) hE kc_X12 (by decide) q1736 (Or.inl rfl) h_o rfl dX12_does_35 ?_
    refine vr_aload_n hE dX12_does_38 rfl ?_
    refine bc_callV hE (bk_X2_traders G _ R.r _ _ _ _ _ _ _ hR.hr) kc_X2 hR.hr ok_X2_traders (lw_V q1409 q1410 q1411 q72 q1412) rfl rfl (Nat.le_of_ble_eq_true rfl) (by decide) dX12_does_39 (fun _ _ _ h => h.elim) ?_
    rintro v_39 M_39 ⟨rfl, hu_39⟩
    obtain rfl := hu_39.symm
    refine bc_callF (ar := 0) hE (bk_J2_size G _ R.tl R.te n _ hR.htl) kc_J2 hR.htl (by decide +kernel) (lw_Fg q1414 q826 q828 q75 q830) ⟨q825, q824, q829, q827, q477⟩ rfl rfl (Nat.le_of_ble_eq_true rfl) (by decide) dX12_does_42 (fun _ _ _ h => h.elim) ?_
    rintro v_42 M_42 ⟨rfl, hu_42⟩
    obtain rfl := hu_42.symm
    apply vt_icmp_ge (tgt := 54) (J := 55) hE dX12_does_47 (by decide)
    · intro c_47 kt1
      refine vr_iconst (v := 0) hE dX12_does_54 (by decide) ?_
      exact kt1
    · intro c_47 kf1
      refine vr_iconst (v := 1) hE dX12_does_50 (by decide) ?_
      refine vr_goto (tgt := 55) hE dX12_does_51 (by decide) ?_
      exact kf1
    refine bc_callSN hE (bk_X1_call G _ _) ok_X1_call q1319 q1320 q71 q1321 rfl rfl (Nat.le_of_ble_eq_true rfl) (by decide) dX12_does_55 (fun q9 E9 M9 h9 => vr_out hE hQ (fun _ z9 => by cases z9) (by first | decide | exact ⟨by omega, by omega⟩) ⟨M9, (c_PX.of h9 (by unfold c_ord; rw [if_neg (by decide), if_pos (show n ≤ a from Nat.le_of_not_lt fun z => absurd h9.1 (by rw [if_neg (show ¬ nI n ≤ nI a from nI_ge z (by have := hR.hn; omega))]; decide))])), fun H h => hW _ H h⟩) ?_
    rintro v_55 M_55 ⟨hb_55, rfl, hu_55⟩
    obtain rfl := hu_55.symm
    have hn9 := hR.hn
    have hlt : a < n := Nat.lt_of_not_le fun z => hb_55 (if_pos (show nI n ≤ nI a from nI_le z ha))
    refine vr_aload_n hE dX12_does_58 rfl ?_
    refine bc_get (z := 0) hE kc_X12 (by decide) q1735 (Or.inl rfl) h_o rfl dX12_does_59 ?_
    refine vr_astore_n hE dX12_does_62 (hnl _ (by decide)) rfl ?_
    refine vr_iconst (v := -1) hE dX12_does_63 (by decide) ?_
    refine vr_istore_n hE dX12_does_64 (hnl _ (by decide)) rfl ?_
    refine vr_aload_n hE dX12_does_65 rfl ?_
    refine ro_callV (ci := 22) hE (ro_hash G _ s64 v64 _ _ _ hs64 (by decide)) rfl (fun H hB hP => (hs64.any _ H hB hP).1) ok_J7_hashCode (lw_V q1415 q1416 q1417 q80 q1418) rfl rfl (Nat.le_of_ble_eq_true rfl) (by decide) dX12_does_66 ?_
    rintro v_66 rfl
    refine vr_topi (fun sw_69 e_sw_69 => ?_)
    by_cases s_69_3327647 : sw_69 = 3327647
    · exact absurd (e_sw_69.symm.trans s_69_3327647) (by decide)
    by_cases s_69_3347790 : sw_69 = 3347790
    · exact absurd (e_sw_69.symm.trans s_69_3347790) (by decide)
    by_cases s_69_95852457 : sw_69 = 95852457
    · exact absurd (e_sw_69.symm.trans s_69_95852457) (by decide)
    by_cases s_69_109400155 : sw_69 = 109400155
    · refine vr_lkp (off := 71) (tgt := 140) hE dX12_does_69 (by decide) (by rw [s_69_109400155]; decide) (by decide) ?_
      refine vr_aload_n hE dX12_does_140 rfl ?_
      refine wr_ldcS (idx := 64) hE q1478 e64 dX12_does_141 ?_
      refine ro_callV (ci := 22) hE (ro_eqT G _ s64) rfl (fun H hB hP => (hs64.any _ H hB hP).1) ok_J7_equals (lw_V q1310 q1311 q1312 q80 q1313) rfl rfl (Nat.le_of_ble_eq_true rfl) (by decide) dX12_does_143 ?_
      rintro v_143 rfl
      refine vr_if_eq (tgt := 165) hE dX12_does_146 (by decide) (fun c_146 => ?_) (fun c_146 => ?_)
      · exact absurd c_146 (by decide)
      refine vr_iconst (v := 2) hE dX12_does_149 (by decide) ?_
      refine vr_istore_n hE dX12_does_150 (hnl _ (by decide)) rfl ?_
      refine vr_goto (tgt := 165) hE dX12_does_151 (by decide) ?_
      refine vr_iload_n hE dX12_does_165 rfl ?_
      refine vr_topi (fun sw_166 e_sw_166 => ?_)
      by_cases s_166_0 : sw_166 = 0
      · exact absurd (e_sw_166.symm.trans s_166_0) (by decide)
      by_cases s_166_1 : sw_166 = 1
      · exact absurd (e_sw_166.symm.trans s_166_1) (by decide)
      by_cases s_166_2 : sw_166 = 2
      · refine vr_tab (z := 2) (tgt := 242) hE dX12_does_166 (by rw [s_166_2]; decide) (by decide) (by decide) (off := 76) (by decide) (by decide) ?_
        refine vr_aload_n hE dX12_does_242 rfl ?_
        refine bc_get (z := 2) hE kc_X12 (by decide) q1737 (Or.inl rfl) h_o rfl dX12_does_243 ?_
        refine vr_iconst (v := 1) hE dX12_does_246 (by decide) ?_
        refine vr_bipush (v := 9) hE dX12_does_247 (by decide) ?_
        refine bc_callSN hE (bk_X1_isIn G _ oth (1) (9)) ok_X1_isIn q1318 q392 q71 q393 rfl rfl (Nat.le_of_ble_eq_true rfl) (by decide) dX12_does_249 (fun _ _ _ h => h.elim) ?_
        rintro v_249 M_249 ⟨rfl, hu_249⟩
        obtain rfl := hu_249.symm
        refine bc_callSN hE (bk_X1_call G _ _) ok_X1_call q1319 q1320 q71 q1321 rfl rfl (Nat.le_of_ble_eq_true rfl) (by decide) dX12_does_252 (fun q9 E9 M9 h9 => vr_out hE hQ (fun _ z9 => by cases z9) (by first | decide | exact ⟨by omega, by omega⟩) ⟨M9, (c_PX.of h9 (by unfold c_ord; rw [if_neg (show ¬ 2 = 5 by decide), if_neg (show ¬ n ≤ a by omega), if_neg (show ¬ 2 = 0 by decide), if_neg (show ¬ 2 = 1 by decide), if_pos (show 2 = 2 from rfl), if_pos (show in_ oth 1 9 = 0 from h9.1)])), fun H h => hW _ H h⟩) ?_
        rintro v_252 M_252 ⟨hb_252, rfl, hu_252⟩
        obtain rfl := hu_252.symm
        
        refine vr_aload_n hE dX12_does_255 rfl ?_
        refine vr_aload_n hE dX12_does_256 rfl ?_
        refine bc_get (z := 1) hE kc_X12 (by decide) q1736 (Or.inl rfl) h_o rfl dX12_does_257 ?_
        refine vr_aload_n hE dX12_does_260 rfl ?_
        refine bc_get (z := 2) hE kc_X12 (by decide) q1737 (Or.inl rfl) h_o rfl dX12_does_261 ?_
        refine bc_callV hE (bk_X2_shave G _ R n w s hR a hlt oth) kc_X2 hR.hr ok_X2_shave (lw_V q1543 q1544 q1545 q72 q1546) rfl rfl (Nat.le_of_ble_eq_true rfl) (by decide) dX12_does_264 (fun q9 E9 M9 h9 => vr_out hE hQ (fun _ z9 => by cases z9) (by first | decide | exact ⟨by omega, by omega⟩) ⟨M9, (show c_PX M (c_ord s n w 2 a oth) q9 E9 M9 from by
              have z9 : c_ord s n w 2 a oth = c_shave s a oth := by
                unfold c_ord
                rw [if_neg (show ¬ 2 = 5 by decide), if_neg (show ¬ n ≤ a by omega), if_neg (show ¬ 2 = 0 by decide), if_neg (show ¬ 2 = 1 by decide), if_pos (show 2 = 2 from rfl), if_neg (show ¬ in_ oth 1 9 = 0 from hb_252)]
              rw [z9]
              exact h9), fun H h => hW _ H h⟩) ?_
        rintro v_264 M_264 ⟨s9, x9, hsp9, rfl, hR9, hk9⟩
        refine vr_ireturn hE hQ rfl dX12_does_267 (by decide) ⟨_, ?_, fun H h => hW _ H h⟩
        refine ⟨s9, x9, ?_, rfl, hR9, hk9⟩
        unfold c_ord
        rw [if_neg (show ¬ 2 = 5 by decide), if_neg (show ¬ n ≤ a by omega), if_neg (show ¬ 2 = 0 by decide), if_neg (show ¬ 2 = 1 by decide), if_pos (show 2 = 2 from rfl), if_neg (show ¬ in_ oth 1 9 = 0 from hb_252)]
        exact hsp9
      by_cases s_166_3 : sw_166 = 3
      · exact absurd (e_sw_166.symm.trans s_166_3) (by decide)
      exact absurd e_sw_166 s_166_2
    exact absurd e_sw_69 s_69_109400155
  · exact absurd rfl c_9
theorem bk_X12_does4 {Y : bi_Y} (G : bi_GS Y) (M : va_M) (R : cR) (n w : Nat) (s : Nat → Int32) (hR : RoundM Y M R n w s) (o wa a : Nat) (oth : Int32) (h_o : M o = some (.inr (14, [.ref wa, .int (nI a), .int oth]))) (hwa : wd_ Y 4 wa) (ha : a < 2 ^ 31) : bc_Met Y yX12_does (ws_ yX12_does cX12_does 4 (some .int)) 40 1000 1000 2600 M [.ref o, .ref R.r] (fun v M' => ∃ s' x, c_ord s n w 4 a oth = .inr (s', x) ∧ v = some (.int x) ∧ RoundM Y M' R n w s' ∧ cKeep M M' R n w) (c_PX M (c_ord s n w 4 a oth)) := by
  obtain ⟨s25, v25, e25, hs25⟩ := sk_X12_25 G
  obtain ⟨s60, v60, e60, hs60⟩ := sk_X12_60 G
  obtain ⟨s62, v62, e62, hs62⟩ := sk_X12_62 G
  obtain ⟨s64, v64, e64, hs64⟩ := sk_X12_64 G
  obtain ⟨s66, v66, e66, hs66⟩ := sk_X12_66 G
  obtain ⟨s282, v282, e282, hs282⟩ := sk_X1_282 G
  obtain rfl : s282 = wa := ev_inj e282 hwa
  refine bc_Met.of (own := RX12) (L0 := [some (.ref o), some (.ref R.r), none, none]) rfl (by decide) G (Nat.le_of_ble_eq_true rfl) rfl (fun X A hE hQ hW hnl hnm => ?_)
  have hnl : ∀ q, q < 4 → q < bi_nL X := fun q h => by rw [hnl]; exact h
  refine vr_aload_n hE dX12_does_0 rfl ?_
  refine bc_get (z := 0) hE kc_X12 (by decide) q1735 (Or.inl rfl) h_o rfl dX12_does_1 ?_
  refine wr_ldcS (idx := 25) hE q1309 e25 dX12_does_4 ?_
  refine ro_callV (ci := 22) hE (ro_eqF G _ s282 v282 _ _ _ hs282 s25 v25 _ _ _ hs25 (hs282.ne hs25 (by decide)) (by decide) (by decide) (by decide) (by decide)) rfl (fun H hB hP => (hs282.any _ H hB hP).1) ok_J7_equals (lw_V q1310 q1311 q1312 q80 q1313) rfl rfl (Nat.le_of_ble_eq_true rfl) (by decide) dX12_does_6 ?_
  rintro v_6 rfl
  refine vr_if_eq (tgt := 34) hE dX12_does_9 (by decide) (fun c_9 => ?_) (fun c_9 => ?_)
  · skip
    refine vr_aload_n hE dX12_does_34 rfl ?_
    refine bc_get (z := 1) hE kc_X12 (by decide) q1736 (Or.inl rfl) h_o rfl dX12_does_35 ?_
    refine vr_aload_n hE dX12_does_38 rfl ?_
    refine bc_callV hE (bk_X2_traders G _ R.r _ _ _ _ _ _ _ hR.hr) kc_X2 hR.hr ok_X2_traders (lw_V q1409 q1410 q1411 q72 q1412) rfl rfl (Nat.le_of_ble_eq_true rfl) (by decide) dX12_does_39 (fun _ _ _ h => h.elim) ?_
    rintro v_39 M_39 ⟨rfl, hu_39⟩
    obtain rfl := hu_39.symm
    refine bc_callF (ar := 0) hE (bk_J2_size G _ R.tl R.te n _ hR.htl) kc_J2 hR.htl (by decide +kernel) (lw_Fg q1414 q826 q828 q75 q830) ⟨q825, q824, q829, q827, q477⟩ rfl rfl (Nat.le_of_ble_eq_true rfl) (by decide) dX12_does_42 (fun _ _ _ h => h.elim) ?_
    rintro v_42 M_42 ⟨rfl, hu_42⟩
    obtain rfl := hu_42.symm
    apply vt_icmp_ge (tgt := 54) (J := 55) hE dX12_does_47 (by decide)
    · intro c_47 kt1
      refine vr_iconst (v := 0) hE dX12_does_54 (by decide) ?_
      exact kt1
    · intro c_47 kf1
      refine vr_iconst (v := 1) hE dX12_does_50 (by decide) ?_
      refine vr_goto (tgt := 55) hE dX12_does_51 (by decide) ?_
      exact kf1
    refine bc_callSN hE (bk_X1_call G _ _) ok_X1_call q1319 q1320 q71 q1321 rfl rfl (Nat.le_of_ble_eq_true rfl) (by decide) dX12_does_55 (fun q9 E9 M9 h9 => vr_out hE hQ (fun _ z9 => by cases z9) (by first | decide | exact ⟨by omega, by omega⟩) ⟨M9, (c_PX.of h9 (by unfold c_ord; rw [if_neg (by decide), if_pos (show n ≤ a from Nat.le_of_not_lt fun z => absurd h9.1 (by rw [if_neg (show ¬ nI n ≤ nI a from nI_ge z (by have := hR.hn; omega))]; decide))])), fun H h => hW _ H h⟩) ?_
    rintro v_55 M_55 ⟨hb_55, rfl, hu_55⟩
    obtain rfl := hu_55.symm
    have hn9 := hR.hn
    have hlt : a < n := Nat.lt_of_not_le fun z => hb_55 (if_pos (show nI n ≤ nI a from nI_le z ha))
    refine vr_aload_n hE dX12_does_58 rfl ?_
    refine bc_get (z := 0) hE kc_X12 (by decide) q1735 (Or.inl rfl) h_o rfl dX12_does_59 ?_
    refine vr_astore_n hE dX12_does_62 (hnl _ (by decide)) rfl ?_
    refine vr_iconst (v := -1) hE dX12_does_63 (by decide) ?_
    refine vr_istore_n hE dX12_does_64 (hnl _ (by decide)) rfl ?_
    refine vr_aload_n hE dX12_does_65 rfl ?_
    refine ro_callV (ci := 22) hE (ro_hash G _ s282 v282 _ _ _ hs282 (by decide)) rfl (fun H hB hP => (hs282.any _ H hB hP).1) ok_J7_hashCode (lw_V q1415 q1416 q1417 q80 q1418) rfl rfl (Nat.le_of_ble_eq_true rfl) (by decide) dX12_does_66 ?_
    rintro v_66 rfl
    refine vr_topi (fun sw_69 e_sw_69 => ?_)
    by_cases s_69_3327647 : sw_69 = 3327647
    · exact absurd (e_sw_69.symm.trans s_69_3327647) (by decide)
    by_cases s_69_3347790 : sw_69 = 3347790
    · exact absurd (e_sw_69.symm.trans s_69_3347790) (by decide)
    by_cases s_69_95852457 : sw_69 = 95852457
    · exact absurd (e_sw_69.symm.trans s_69_95852457) (by decide)
    by_cases s_69_109400155 : sw_69 = 109400155
    · exact absurd (e_sw_69.symm.trans s_69_109400155) (by decide)
    refine vr_lkp (off := 96) (tgt := 165) hE dX12_does_69 (by decide) ((lv_osw s_69_3327647 (by decide)).trans ((lv_osw s_69_3347790 (by decide)).trans ((lv_osw s_69_95852457 (by decide)).trans ((lv_osw s_69_109400155 (by decide)).trans rfl)))) (by decide) ?_
    refine vr_iload_n hE dX12_does_165 rfl ?_
    refine vr_topi (fun sw_166 e_sw_166 => ?_)
    by_cases s_166_0 : sw_166 = 0
    · exact absurd (e_sw_166.symm.trans s_166_0) (by decide)
    by_cases s_166_1 : sw_166 = 1
    · exact absurd (e_sw_166.symm.trans s_166_1) (by decide)
    by_cases s_166_2 : sw_166 = 2
    · exact absurd (e_sw_166.symm.trans s_166_2) (by decide)
    by_cases s_166_3 : sw_166 = 3
    · exact absurd (e_sw_166.symm.trans s_166_3) (by decide)
    refine vr_tabD (tgt := 297) hE dX12_does_166 (by have q_0 := lv_neT s_166_0 (a := 0) (by decide); have q_1 := lv_neT s_166_1 (a := 1) (by decide); have q_2 := lv_neT s_166_2 (a := 2) (by decide); have q_3 := lv_neT s_166_3 (a := 3) (by decide); omega) (by decide) ?_
    refine vr_aload_n hE dX12_does_297 rfl ?_
    refine bc_get (z := 2) hE kc_X12 (by decide) q1737 (Or.inl rfl) h_o rfl dX12_does_298 ?_
    refine vr_iconst (v := 1) hE dX12_does_301 (by decide) ?_
    refine vr_bipush (v := 99) hE dX12_does_302 (by decide) ?_
    refine bc_callSN hE (bk_X1_isIn G _ oth (1) (99)) ok_X1_isIn q1318 q392 q71 q393 rfl rfl (Nat.le_of_ble_eq_true rfl) (by decide) dX12_does_304 (fun _ _ _ h => h.elim) ?_
    rintro v_304 M_304 ⟨rfl, hu_304⟩
    obtain rfl := hu_304.symm
    refine bc_callSN hE (bk_X1_call G _ _) ok_X1_call q1319 q1320 q71 q1321 rfl rfl (Nat.le_of_ble_eq_true rfl) (by decide) dX12_does_307 (fun q9 E9 M9 h9 => vr_out hE hQ (fun _ z9 => by cases z9) (by first | decide | exact ⟨by omega, by omega⟩) ⟨M9, (c_PX.of h9 (by unfold c_ord; rw [if_neg (show ¬ 4 = 5 by decide), if_neg (show ¬ n ≤ a by omega), if_neg (show ¬ 4 = 0 by decide), if_neg (show ¬ 4 = 1 by decide), if_neg (show ¬ 4 = 2 by decide), if_neg (show ¬ 4 = 3 by decide), if_pos (show in_ oth 1 99 = 0 from h9.1)])), fun H h => hW _ H h⟩) ?_
    rintro v_307 M_307 ⟨hb_307, rfl, hu_307⟩
    obtain rfl := hu_307.symm
    
    refine vr_aload_n hE dX12_does_310 rfl ?_
    refine vr_aload_n hE dX12_does_311 rfl ?_
    refine bc_get (z := 1) hE kc_X12 (by decide) q1736 (Or.inl rfl) h_o rfl dX12_does_312 ?_
    refine vr_aload_n hE dX12_does_315 rfl ?_
    refine bc_get (z := 2) hE kc_X12 (by decide) q1737 (Or.inl rfl) h_o rfl dX12_does_316 ?_
    refine bc_callV hE (bk_X2_pay G _ R n w s hR a hlt oth) kc_X2 hR.hr ok_X2_pay (lw_V q1560 q1561 q1562 q72 q1563) rfl rfl (Nat.le_of_ble_eq_true rfl) (by decide) dX12_does_319 (fun q9 E9 M9 h9 => vr_out hE hQ (fun _ z9 => by cases z9) (by first | decide | exact ⟨by omega, by omega⟩) ⟨M9, (show c_PX M (c_ord s n w 4 a oth) q9 E9 M9 from by
          have z9 : c_ord s n w 4 a oth = c_pay s a oth := by
            unfold c_ord
            rw [if_neg (show ¬ 4 = 5 by decide), if_neg (show ¬ n ≤ a by omega), if_neg (show ¬ 4 = 0 by decide), if_neg (show ¬ 4 = 1 by decide), if_neg (show ¬ 4 = 2 by decide), if_neg (show ¬ 4 = 3 by decide), if_neg (show ¬ in_ oth 1 99 = 0 from hb_307)]
          rw [z9]
          exact h9), fun H h => hW _ H h⟩) ?_
    rintro v_319 M_319 ⟨s9, x9, hsp9, rfl, hR9, hk9⟩
    refine vr_ireturn hE hQ rfl dX12_does_322 (by decide) ⟨_, ?_, fun H h => hW _ H h⟩
    refine ⟨s9, x9, ?_, rfl, hR9, hk9⟩
    unfold c_ord
    rw [if_neg (show ¬ 4 = 5 by decide), if_neg (show ¬ n ≤ a by omega), if_neg (show ¬ 4 = 0 by decide), if_neg (show ¬ 4 = 1 by decide), if_neg (show ¬ 4 = 2 by decide), if_neg (show ¬ 4 = 3 by decide), if_neg (show ¬ in_ oth 1 99 = 0 from hb_307)]
    exact hsp9
  · exact absurd rfl c_9
theorem bk_X12_does3 {Y : bi_Y} (G : bi_GS Y) (M : va_M) (R : cR) (n w : Nat) (s : Nat → Int32) (hR : RoundM Y M R n w s) (o wa a : Nat) (oth : Int32) (h_o : M o = some (.inr (14, [.ref wa, .int (nI a), .int oth]))) (hwa : wd_ Y 3 wa) (ha : a < 2 ^ 31) : bc_Met Y yX12_does (ws_ yX12_does cX12_does 4 (some .int)) 40 1000 1000 2600 M [.ref o, .ref R.r] (fun v M' => ∃ s' x, c_ord s n w 3 a oth = .inr (s', x) ∧ v = some (.int x) ∧ RoundM Y M' R n w s' ∧ cKeep M M' R n w) (c_PX M (c_ord s n w 3 a oth)) := by
  obtain ⟨s25, v25, e25, hs25⟩ := sk_X12_25 G
  obtain ⟨s60, v60, e60, hs60⟩ := sk_X12_60 G
  obtain ⟨s62, v62, e62, hs62⟩ := sk_X12_62 G
  obtain ⟨s64, v64, e64, hs64⟩ := sk_X12_64 G
  obtain ⟨s66, v66, e66, hs66⟩ := sk_X12_66 G
  obtain rfl : s66 = wa := ev_inj e66 hwa
  refine bc_Met.of (own := RX12) (L0 := [some (.ref o), some (.ref R.r), none, none]) rfl (by decide) G (Nat.le_of_ble_eq_true rfl) rfl (fun X A hE hQ hW hnl hnm => ?_)
  have hnl : ∀ q, q < 4 → q < bi_nL X := fun q h => by rw [hnl]; exact h
  refine vr_aload_n hE dX12_does_0 rfl ?_
  refine bc_get (z := 0) hE kc_X12 (by decide) q1735 (Or.inl rfl) h_o rfl dX12_does_1 ?_
  refine wr_ldcS (idx := 25) hE q1309 e25 dX12_does_4 ?_
  refine ro_callV (ci := 22) hE (ro_eqF G _ s66 v66 _ _ _ hs66 s25 v25 _ _ _ hs25 (hs66.ne hs25 (by decide)) (by decide) (by decide) (by decide) (by decide)) rfl (fun H hB hP => (hs66.any _ H hB hP).1) ok_J7_equals (lw_V q1310 q1311 q1312 q80 q1313) rfl rfl (Nat.le_of_ble_eq_true rfl) (by decide) dX12_does_6 ?_
  rintro v_6 rfl
  refine vr_if_eq (tgt := 34) hE dX12_does_9 (by decide) (fun c_9 => ?_) (fun c_9 => ?_)
  · skip
    refine vr_aload_n hE dX12_does_34 rfl ?_
    refine bc_get (z := 1) hE kc_X12 (by decide) q1736 (Or.inl rfl) h_o rfl dX12_does_35 ?_
    refine vr_aload_n hE dX12_does_38 rfl ?_
    refine bc_callV hE (bk_X2_traders G _ R.r _ _ _ _ _ _ _ hR.hr) kc_X2 hR.hr ok_X2_traders (lw_V q1409 q1410 q1411 q72 q1412) rfl rfl (Nat.le_of_ble_eq_true rfl) (by decide) dX12_does_39 (fun _ _ _ h => h.elim) ?_
    rintro v_39 M_39 ⟨rfl, hu_39⟩
    obtain rfl := hu_39.symm
    refine bc_callF (ar := 0) hE (bk_J2_size G _ R.tl R.te n _ hR.htl) kc_J2 hR.htl (by decide +kernel) (lw_Fg q1414 q826 q828 q75 q830) ⟨q825, q824, q829, q827, q477⟩ rfl rfl (Nat.le_of_ble_eq_true rfl) (by decide) dX12_does_42 (fun _ _ _ h => h.elim) ?_
    rintro v_42 M_42 ⟨rfl, hu_42⟩
    obtain rfl := hu_42.symm
    apply vt_icmp_ge (tgt := 54) (J := 55) hE dX12_does_47 (by decide)
    · intro c_47 kt1
      refine vr_iconst (v := 0) hE dX12_does_54 (by decide) ?_
      exact kt1
    · intro c_47 kf1
      refine vr_iconst (v := 1) hE dX12_does_50 (by decide) ?_
      refine vr_goto (tgt := 55) hE dX12_does_51 (by decide) ?_
      exact kf1
    refine bc_callSN hE (bk_X1_call G _ _) ok_X1_call q1319 q1320 q71 q1321 rfl rfl (Nat.le_of_ble_eq_true rfl) (by decide) dX12_does_55 (fun q9 E9 M9 h9 => vr_out hE hQ (fun _ z9 => by cases z9) (by first | decide | exact ⟨by omega, by omega⟩) ⟨M9, (c_PX.of h9 (by unfold c_ord; rw [if_neg (by decide), if_pos (show n ≤ a from Nat.le_of_not_lt fun z => absurd h9.1 (by rw [if_neg (show ¬ nI n ≤ nI a from nI_ge z (by have := hR.hn; omega))]; decide))])), fun H h => hW _ H h⟩) ?_
    rintro v_55 M_55 ⟨hb_55, rfl, hu_55⟩
    obtain rfl := hu_55.symm
    have hn9 := hR.hn
    have hlt : a < n := Nat.lt_of_not_le fun z => hb_55 (if_pos (show nI n ≤ nI a from nI_le z ha))
    refine vr_aload_n hE dX12_does_58 rfl ?_
    refine bc_get (z := 0) hE kc_X12 (by decide) q1735 (Or.inl rfl) h_o rfl dX12_does_59 ?_
    refine vr_astore_n hE dX12_does_62 (hnl _ (by decide)) rfl ?_
    refine vr_iconst (v := -1) hE dX12_does_63 (by decide) ?_
    refine vr_istore_n hE dX12_does_64 (hnl _ (by decide)) rfl ?_
    refine vr_aload_n hE dX12_does_65 rfl ?_
    refine ro_callV (ci := 22) hE (ro_hash G _ s66 v66 _ _ _ hs66 (by decide)) rfl (fun H hB hP => (hs66.any _ H hB hP).1) ok_J7_hashCode (lw_V q1415 q1416 q1417 q80 q1418) rfl rfl (Nat.le_of_ble_eq_true rfl) (by decide) dX12_does_66 ?_
    rintro v_66 rfl
    refine vr_topi (fun sw_69 e_sw_69 => ?_)
    by_cases s_69_3327647 : sw_69 = 3327647
    · exact absurd (e_sw_69.symm.trans s_69_3327647) (by decide)
    by_cases s_69_3347790 : sw_69 = 3347790
    · exact absurd (e_sw_69.symm.trans s_69_3347790) (by decide)
    by_cases s_69_95852457 : sw_69 = 95852457
    · refine vr_lkp (off := 85) (tgt := 154) hE dX12_does_69 (by decide) (by rw [s_69_95852457]; decide) (by decide) ?_
      refine vr_aload_n hE dX12_does_154 rfl ?_
      refine wr_ldcS (idx := 66) hE q1479 e66 dX12_does_155 ?_
      refine ro_callV (ci := 22) hE (ro_eqT G _ s66) rfl (fun H hB hP => (hs66.any _ H hB hP).1) ok_J7_equals (lw_V q1310 q1311 q1312 q80 q1313) rfl rfl (Nat.le_of_ble_eq_true rfl) (by decide) dX12_does_157 ?_
      rintro v_157 rfl
      refine vr_if_eq (tgt := 165) hE dX12_does_160 (by decide) (fun c_160 => ?_) (fun c_160 => ?_)
      · exact absurd c_160 (by decide)
      refine vr_iconst (v := 3) hE dX12_does_163 (by decide) ?_
      refine vr_istore_n hE dX12_does_164 (hnl _ (by decide)) rfl ?_
      refine vr_iload_n hE dX12_does_165 rfl ?_
      refine vr_topi (fun sw_166 e_sw_166 => ?_)
      by_cases s_166_0 : sw_166 = 0
      · exact absurd (e_sw_166.symm.trans s_166_0) (by decide)
      by_cases s_166_1 : sw_166 = 1
      · exact absurd (e_sw_166.symm.trans s_166_1) (by decide)
      by_cases s_166_2 : sw_166 = 2
      · exact absurd (e_sw_166.symm.trans s_166_2) (by decide)
      by_cases s_166_3 : sw_166 = 3
      · refine vr_tab (z := 3) (tgt := 268) hE dX12_does_166 (by rw [s_166_3]; decide) (by decide) (by decide) (off := 102) (by decide) (by decide) ?_
        refine vr_aload_n hE dX12_does_268 rfl ?_
        refine bc_get (z := 2) hE kc_X12 (by decide) q1737 (Or.inl rfl) h_o rfl dX12_does_269 ?_
        refine vr_bipush (v := -3) hE dX12_does_272 (by decide) ?_
        refine vr_iconst (v := 3) hE dX12_does_274 (by decide) ?_
        refine bc_callSN hE (bk_X1_isIn G _ oth (-3) (3)) ok_X1_isIn q1318 q392 q71 q393 rfl rfl (Nat.le_of_ble_eq_true rfl) (by decide) dX12_does_275 (fun _ _ _ h => h.elim) ?_
        rintro v_275 M_275 ⟨rfl, hu_275⟩
        obtain rfl := hu_275.symm
        refine bc_callSN hE (bk_X1_call G _ _) ok_X1_call q1319 q1320 q71 q1321 rfl rfl (Nat.le_of_ble_eq_true rfl) (by decide) dX12_does_278 (fun q9 E9 M9 h9 => vr_out hE hQ (fun _ z9 => by cases z9) (by first | decide | exact ⟨by omega, by omega⟩) ⟨M9, (c_PX.of h9 (by unfold c_ord; rw [if_neg (show ¬ 3 = 5 by decide), if_neg (show ¬ n ≤ a by omega), if_neg (show ¬ 3 = 0 by decide), if_neg (show ¬ 3 = 1 by decide), if_neg (show ¬ 3 = 2 by decide), if_pos (show 3 = 3 from rfl), if_pos (show in_ oth (-3) 3 = 0 from h9.1)])), fun H h => hW _ H h⟩) ?_
        rintro v_278 M_278 ⟨hb_278, rfl, hu_278⟩
        obtain rfl := hu_278.symm
        
        refine vr_aload_n hE dX12_does_281 rfl ?_
        refine vr_aload_n hE dX12_does_282 rfl ?_
        refine bc_get (z := 1) hE kc_X12 (by decide) q1736 (Or.inl rfl) h_o rfl dX12_does_283 ?_
        refine bc_callV hE (bk_X2_trader G _ R n w s hR a hlt) kc_X2 hR.hr ok_X2_trader (lw_V q1555 q1257 q1258 q72 q1259) rfl rfl (Nat.le_of_ble_eq_true rfl) (by decide) dX12_does_286 (fun _ _ _ h => h.elim) ?_
        rintro v_286 M_286 ⟨rfl, hu_286⟩
        obtain rfl := hu_286.symm
        have htr9 := hR.htr a hlt
        refine vr_aload_n hE dX12_does_289 rfl ?_
        refine bc_get (z := 2) hE kc_X12 (by decide) q1737 (Or.inl rfl) h_o rfl dX12_does_290 ?_
        refine bc_callV hE (bk_X6_drift G _ (R.tr a) R.r _ _ _ _ _ _ _ _ _ _ htr9 oth) kc_X6 htr9 ok_X6_drift (lw_V q1556 q1557 q1558 q106 q1559) rfl rfl (Nat.le_of_ble_eq_true rfl) (by decide) dX12_does_293 (fun _ _ _ h => h.elim) ?_
        rintro v_293 M_293 ⟨rfl, e_293⟩
        refine vr_ireturn hE hQ rfl dX12_does_296 (by decide) ⟨_, ?_, fun H h => hW _ H h⟩
        have ha10 : a < 10 := Nat.lt_of_lt_of_le hlt hR.hn
        refine ⟨upd s (55 + a) oth, s (55 + a), ?_, rfl, ?_, cKeep.rf.bu (Or.inl (fpr.tr hlt)) e_293⟩
        · unfold c_ord
          rw [if_neg (show ¬ 3 = 5 by decide), if_neg (show ¬ n ≤ a by omega), if_neg (show ¬ 3 = 0 by decide), if_neg (show ¬ 3 = 1 by decide), if_neg (show ¬ 3 = 2 by decide), if_pos (show 3 = 3 from rfl), if_neg (show ¬ in_ oth (-3) 3 = 0 from hb_278)]
        have z := hR.trader hlt (s' := upd s (55 + a) oth) (fun k9 hk9 => by simp (disch := omega) only [pk_un])
        have e : tS (upd s (55 + a) oth) R.r a = tL (nI a) (s (15 + a)) (s (25 + a)) (s (35 + a)) (s (45 + a)) oth (s (65 + a)) (s (75 + a)) (s (85 + a)) (s (95 + a)) R.r := by
          simp (disch := omega) only [tS, pk_un, pk_us]
        rw [e] at z
        rw [e_293]
        exact z
      exact absurd e_sw_166 s_166_3
    by_cases s_69_109400155 : sw_69 = 109400155
    · exact absurd (e_sw_69.symm.trans s_69_109400155) (by decide)
    exact absurd e_sw_69 s_69_95852457
  · exact absurd rfl c_9
theorem bk_X12_does5 {Y : bi_Y} (G : bi_GS Y) (M : va_M) (R : cR) (n w : Nat) (s : Nat → Int32) (hR : RoundM Y M R n w s) (o wa a : Nat) (oth : Int32) (h_o : M o = some (.inr (14, [.ref wa, .int (nI a), .int oth]))) (hwa : wd_ Y 5 wa) (ha : a < 2 ^ 31) (hEr : c_er s n) : bc_Met Y yX12_does (ws_ yX12_does cX12_does 4 (some .int)) 40 1000 1000 2600 M [.ref o, .ref R.r] (fun v M' => ∃ s' x, c_ord s n w 5 a oth = .inr (s', x) ∧ v = some (.int x) ∧ RoundM Y M' R n w s' ∧ cKeep M M' R n w) (c_PX M (c_ord s n w 5 a oth)) := by
  obtain ⟨s25, v25, e25, hs25⟩ := sk_X12_25 G
  obtain rfl : s25 = wa := ev_inj e25 hwa
  refine bc_Met.of (own := RX12) (L0 := [some (.ref o), some (.ref R.r), none, none]) rfl (by decide) G (Nat.le_of_ble_eq_true rfl) rfl (fun X A hE hQ hW hnl hnm => ?_)
  have hnl : ∀ q, q < 4 → q < bi_nL X := fun q h => by rw [hnl]; exact h
  refine vr_aload_n hE dX12_does_0 rfl ?_
  refine bc_get (z := 0) hE kc_X12 (by decide) q1735 (Or.inl rfl) h_o rfl dX12_does_1 ?_
  refine wr_ldcS (idx := 25) hE q1309 e25 dX12_does_4 ?_
  refine ro_callV (ci := 22) hE (ro_eqT G _ s25) rfl (fun H hB hP => (hs25.any _ H hB hP).1) ok_J7_equals (lw_V q1310 q1311 q1312 q80 q1313) rfl rfl (Nat.le_of_ble_eq_true rfl) (by decide) dX12_does_6 ?_
  rintro v_6 rfl
  refine vr_if_eq (tgt := 34) hE dX12_does_9 (by decide) (fun c_9 => ?_) (fun c_9 => ?_)
  · exact absurd c_9 (by decide)
  refine vr_aload_n hE dX12_does_12 rfl ?_
  refine bc_get (z := 1) hE kc_X12 (by decide) q1736 (Or.inl rfl) h_o rfl dX12_does_13 ?_
  refine vr_iconst (v := 1) hE dX12_does_16 (by decide) ?_
  refine vr_bipush (v := 40) hE dX12_does_17 (by decide) ?_
  refine bc_callSN hE (bk_X1_isIn G _ (nI a) (1) (40)) ok_X1_isIn q1318 q392 q71 q393 rfl rfl (Nat.le_of_ble_eq_true rfl) (by decide) dX12_does_19 (fun _ _ _ h => h.elim) ?_
  rintro v_19 M_19 ⟨rfl, hu_19⟩
  obtain rfl := hu_19.symm
  refine bc_callSN hE (bk_X1_call G _ _) ok_X1_call q1319 q1320 q71 q1321 rfl rfl (Nat.le_of_ble_eq_true rfl) (by decide) dX12_does_22 (fun q9 E9 M9 h9 => vr_out hE hQ (fun _ z9 => by cases z9) (by first | decide | exact ⟨by omega, by omega⟩) ⟨M9, (c_PX.of h9 (by unfold c_ord; rw [if_pos (show (5 : Nat) = 5 from rfl), if_pos (show in_ (nI a) 1 40 = 0 from h9.1)])), fun H h => hW _ H h⟩) ?_
  rintro v_22 M_22 ⟨hb_22, rfl, hu_22⟩
  obtain rfl := hu_22.symm
  have hd9 : a ≤ 40 := by
    refine Nat.le_of_not_lt fun z => hb_22 ?_
    show in_ (nI a) 1 40 = 0
    unfold in_
    split
    · rfl
    · rw [if_pos (show (40 : Int32) < nI a from nI_lt (a := 40) z (by omega))]
  refine vr_aload_n hE dX12_does_25 rfl ?_
  refine vr_aload_n hE dX12_does_26 rfl ?_
  refine bc_get (z := 1) hE kc_X12 (by decide) q1736 (Or.inl rfl) h_o rfl dX12_does_27 ?_
  refine bc_callV hE (bk_X2_pass G _ R n w s hR hEr a hd9) kc_X2 hR.hr ok_X2_pass (lw_V q1323 q1324 q1325 q72 q1326) rfl rfl (Nat.le_of_ble_eq_true rfl) ⟨by decide, by decide, by omega, by omega⟩ dX12_does_30 (fun _ _ _ h => h.elim) ?_
  rintro v_30 M_30 ⟨rfl, hR9, hk9⟩
  refine vr_ireturn hE hQ rfl dX12_does_33 ⟨by omega, by omega⟩ ⟨_, ?_, fun H h => hW _ H h⟩
  refine ⟨_, _, ?_, rfl, hR9, hk9⟩
  unfold c_ord
  rw [if_pos (show (5 : Nat) = 5 from rfl), if_neg (show ¬ in_ (nI a) 1 40 = 0 from hb_22)]
theorem bk_X12_does0 {Y : bi_Y} (G : bi_GS Y) (M : va_M) (R : cR) (n w : Nat) (s : Nat → Int32) (hR : RoundM Y M R n w s) (o wa a : Nat) (oth : Int32) (h_o : M o = some (.inr (14, [.ref wa, .int (nI a), .int oth]))) (hwa : wd_ Y 0 wa) (ha : a < 2 ^ 31) (b : Nat) (hb : b < 2 ^ 31) (hob : oth = nI b) (hft : c_ft s n) : bc_Met Y yX12_does (ws_ yX12_does cX12_does 4 (some .int)) 40 1000 1000 2600 M [.ref o, .ref R.r] (fun v M' => ∃ s' x, c_ord s n w 0 a oth = .inr (s', x) ∧ v = some (.int x) ∧ RoundM Y M' R n w s' ∧ cKeep M M' R n w) (c_PX M (c_ord s n w 0 a oth)) := by
  obtain ⟨s25, v25, e25, hs25⟩ := sk_X12_25 G
  obtain ⟨s60, v60, e60, hs60⟩ := sk_X12_60 G
  obtain ⟨s62, v62, e62, hs62⟩ := sk_X12_62 G
  obtain ⟨s64, v64, e64, hs64⟩ := sk_X12_64 G
  obtain ⟨s66, v66, e66, hs66⟩ := sk_X12_66 G
  obtain rfl : s60 = wa := ev_inj e60 hwa
  refine bc_Met.of (own := RX12) (L0 := [some (.ref o), some (.ref R.r), none, none]) rfl (by decide) G (Nat.le_of_ble_eq_true rfl) rfl (fun X A hE hQ hW hnl hnm => ?_)
  have hnl : ∀ q, q < 4 → q < bi_nL X := fun q h => by rw [hnl]; exact h
  refine vr_aload_n hE dX12_does_0 rfl ?_
  refine bc_get (z := 0) hE kc_X12 (by decide) q1735 (Or.inl rfl) h_o rfl dX12_does_1 ?_
  refine wr_ldcS (idx := 25) hE q1309 e25 dX12_does_4 ?_
  refine ro_callV (ci := 22) hE (ro_eqF G _ s60 v60 _ _ _ hs60 s25 v25 _ _ _ hs25 (hs60.ne hs25 (by decide)) (by decide) (by decide) (by decide) (by decide)) rfl (fun H hB hP => (hs60.any _ H hB hP).1) ok_J7_equals (lw_V q1310 q1311 q1312 q80 q1313) rfl rfl (Nat.le_of_ble_eq_true rfl) (by decide) dX12_does_6 ?_
  rintro v_6 rfl
  refine vr_if_eq (tgt := 34) hE dX12_does_9 (by decide) (fun c_9 => ?_) (fun c_9 => ?_)
  · skip
    refine vr_aload_n hE dX12_does_34 rfl ?_
    refine bc_get (z := 1) hE kc_X12 (by decide) q1736 (Or.inl rfl) h_o rfl dX12_does_35 ?_
    refine vr_aload_n hE dX12_does_38 rfl ?_
    refine bc_callV hE (bk_X2_traders G _ R.r _ _ _ _ _ _ _ hR.hr) kc_X2 hR.hr ok_X2_traders (lw_V q1409 q1410 q1411 q72 q1412) rfl rfl (Nat.le_of_ble_eq_true rfl) (by decide) dX12_does_39 (fun _ _ _ h => h.elim) ?_
    rintro v_39 M_39 ⟨rfl, hu_39⟩
    obtain rfl := hu_39.symm
    refine bc_callF (ar := 0) hE (bk_J2_size G _ R.tl R.te n _ hR.htl) kc_J2 hR.htl (by decide +kernel) (lw_Fg q1414 q826 q828 q75 q830) ⟨q825, q824, q829, q827, q477⟩ rfl rfl (Nat.le_of_ble_eq_true rfl) (by decide) dX12_does_42 (fun _ _ _ h => h.elim) ?_
    rintro v_42 M_42 ⟨rfl, hu_42⟩
    obtain rfl := hu_42.symm
    apply vt_icmp_ge (tgt := 54) (J := 55) hE dX12_does_47 (by decide)
    · intro c_47 kt1
      refine vr_iconst (v := 0) hE dX12_does_54 (by decide) ?_
      exact kt1
    · intro c_47 kf1
      refine vr_iconst (v := 1) hE dX12_does_50 (by decide) ?_
      refine vr_goto (tgt := 55) hE dX12_does_51 (by decide) ?_
      exact kf1
    refine bc_callSN hE (bk_X1_call G _ _) ok_X1_call q1319 q1320 q71 q1321 rfl rfl (Nat.le_of_ble_eq_true rfl) (by decide) dX12_does_55 (fun q9 E9 M9 h9 => vr_out hE hQ (fun _ z9 => by cases z9) (by first | decide | exact ⟨by omega, by omega⟩) ⟨M9, (c_PX.of h9 (by unfold c_ord; rw [if_neg (by decide), if_pos (show n ≤ a from Nat.le_of_not_lt fun z => absurd h9.1 (by rw [if_neg (show ¬ nI n ≤ nI a from nI_ge z (by have := hR.hn; omega))]; decide))])), fun H h => hW _ H h⟩) ?_
    rintro v_55 M_55 ⟨hb_55, rfl, hu_55⟩
    obtain rfl := hu_55.symm
    have hn9 := hR.hn
    have hlt : a < n := Nat.lt_of_not_le fun z => hb_55 (if_pos (show nI n ≤ nI a from nI_le z ha))
    refine vr_aload_n hE dX12_does_58 rfl ?_
    refine bc_get (z := 0) hE kc_X12 (by decide) q1735 (Or.inl rfl) h_o rfl dX12_does_59 ?_
    refine vr_astore_n hE dX12_does_62 (hnl _ (by decide)) rfl ?_
    refine vr_iconst (v := -1) hE dX12_does_63 (by decide) ?_
    refine vr_istore_n hE dX12_does_64 (hnl _ (by decide)) rfl ?_
    refine vr_aload_n hE dX12_does_65 rfl ?_
    refine ro_callV (ci := 22) hE (ro_hash G _ s60 v60 _ _ _ hs60 (by decide)) rfl (fun H hB hP => (hs60.any _ H hB hP).1) ok_J7_hashCode (lw_V q1415 q1416 q1417 q80 q1418) rfl rfl (Nat.le_of_ble_eq_true rfl) (by decide) dX12_does_66 ?_
    rintro v_66 rfl
    refine vr_topi (fun sw_69 e_sw_69 => ?_)
    by_cases s_69_3327647 : sw_69 = 3327647
    · refine vr_lkp (off := 43) (tgt := 112) hE dX12_does_69 (by decide) (by rw [s_69_3327647]; decide) (by decide) ?_
      refine vr_aload_n hE dX12_does_112 rfl ?_
      refine wr_ldcS (idx := 60) hE q1476 e60 dX12_does_113 ?_
      refine ro_callV (ci := 22) hE (ro_eqT G _ s60) rfl (fun H hB hP => (hs60.any _ H hB hP).1) ok_J7_equals (lw_V q1310 q1311 q1312 q80 q1313) rfl rfl (Nat.le_of_ble_eq_true rfl) (by decide) dX12_does_115 ?_
      rintro v_115 rfl
      refine vr_if_eq (tgt := 165) hE dX12_does_118 (by decide) (fun c_118 => ?_) (fun c_118 => ?_)
      · exact absurd c_118 (by decide)
      refine vr_iconst (v := 0) hE dX12_does_121 (by decide) ?_
      refine vr_istore_n hE dX12_does_122 (hnl _ (by decide)) rfl ?_
      refine vr_goto (tgt := 165) hE dX12_does_123 (by decide) ?_
      refine vr_iload_n hE dX12_does_165 rfl ?_
      refine vr_topi (fun sw_166 e_sw_166 => ?_)
      by_cases s_166_0 : sw_166 = 0
      · refine vr_tab (z := 0) (tgt := 196) hE dX12_does_166 (by rw [s_166_0]; decide) (by decide) (by decide) (off := 30) (by decide) (by decide) ?_
        refine vr_aload_n hE dX12_does_196 rfl ?_
        refine bc_get (z := 2) hE kc_X12 (by decide) q1737 (Or.inl rfl) h_o rfl dX12_does_197 ?_
        refine vr_aload_n hE dX12_does_200 rfl ?_
        refine bc_callV hE (bk_X2_weights G _ R.r _ _ _ _ _ _ _ hR.hr) kc_X2 hR.hr ok_X2_weights (lw_V q1480 q1481 q1482 q72 q1483) rfl rfl (Nat.le_of_ble_eq_true rfl) (by decide) dX12_does_201 (fun _ _ _ h => h.elim) ?_
        rintro v_201 M_201 ⟨rfl, hu_201⟩
        obtain rfl := hu_201.symm
        refine bc_callF (ar := 0) hE (bk_J2_size G _ R.wl R.we w _ hR.hwl) kc_J2 hR.hwl (by decide +kernel) (lw_Fg q1414 q826 q828 q75 q830) ⟨q825, q824, q829, q827, q477⟩ rfl rfl (Nat.le_of_ble_eq_true rfl) (by decide) dX12_does_204 (fun _ _ _ h => h.elim) ?_
        rintro v_204 M_204 ⟨rfl, hu_204⟩
        obtain rfl := hu_204.symm
        apply vt_icmp_ge (tgt := 216) (J := 217) hE dX12_does_209 (by decide)
        · intro c_209 kt2
          refine vr_iconst (v := 0) hE dX12_does_216 (by decide) ?_
          exact kt2
        · intro c_209 kf2
          refine vr_iconst (v := 1) hE dX12_does_212 (by decide) ?_
          refine vr_goto (tgt := 217) hE dX12_does_213 (by decide) ?_
          exact kf2
        refine bc_callSN hE (bk_X1_call G _ _) ok_X1_call q1319 q1320 q71 q1321 rfl rfl (Nat.le_of_ble_eq_true rfl) (by decide) dX12_does_217 (fun q9 E9 M9 h9 => vr_out hE hQ (fun _ z9 => by cases z9) (by first | decide | exact ⟨by omega, by omega⟩) ⟨M9, (c_PX.of h9 (by unfold c_ord; rw [if_neg (show ¬ 0 = 5 by decide), if_neg (show ¬ n ≤ a by omega), if_pos (show 0 = 0 from rfl), if_pos (show nI w ≤ oth from Classical.byContradiction fun z => absurd h9.1 (by rw [if_neg z]; decide))])), fun H h => hW _ H h⟩) ?_
        rintro v_217 M_217 ⟨hb_217, rfl, hu_217⟩
        obtain rfl := hu_217.symm
        have hw9 := hR.hw
        have hwb : ¬ nI w ≤ oth := fun z => hb_217 (if_pos z)
        have hltb : b < w := Nat.lt_of_not_le fun z => hwb (by rw [hob]; exact nI_le z hb)
        have hix : ix oth = b := by rw [hob]; exact nI_clamp hb
        obtain ⟨f9, hf9, hff9⟩ := hft a hlt
        have hfr : m_fr s a = f9 := by
          unfold m_fr
          rw [hff9]
          exact nI_clamp (by omega)
        refine vr_aload_n hE dX12_does_220 rfl ?_
        refine vr_aload_n hE dX12_does_221 rfl ?_
        refine bc_get (z := 1) hE kc_X12 (by decide) q1736 (Or.inl rfl) h_o rfl dX12_does_222 ?_
        refine vr_aload_n hE dX12_does_225 rfl ?_
        refine bc_get (z := 2) hE kc_X12 (by decide) q1737 (Or.inl rfl) h_o rfl dX12_does_226 ?_
        refine vr_to (w := .int (nI b)) (congrArg Value.int hob) ?_
        refine bc_callVW hE (bk_X2_inspect G _ R n w s hR a b f9 hlt hltb hf9 hff9) kc_X2 hR.hr ok_X2_inspect (lw_VW q1484 q1485 q1486 q72 q1487) rfl rfl (Nat.le_of_ble_eq_true rfl) (by decide) dX12_does_229 (fun q9 E9 M9 h9 => vr_out hE hQ (fun _ z9 => by cases z9) (by first | decide | exact ⟨by omega, by omega⟩) ⟨M9, (show c_PX M (c_ord s n w 0 a oth) q9 E9 M9 from by
              have z9 : c_ord s n w 0 a oth = c_insp s a b f9 := by
                unfold c_ord
                rw [if_neg (show ¬ 0 = 5 by decide), if_neg (show ¬ n ≤ a by omega), if_pos (show 0 = 0 from rfl), if_neg hwb, hix, hfr]
              rw [z9]
              exact h9), fun H h => hW _ H h⟩) ?_
        rintro v_229 M_229 ⟨s9, x9, hsp9, rfl, hR9, hk9⟩
        refine vr_ireturn hE hQ rfl dX12_does_232 (by decide) ⟨_, ?_, fun H h => hW _ H h⟩
        refine ⟨s9, x9, ?_, rfl, hR9, hk9⟩
        unfold c_ord
        rw [if_neg (show ¬ 0 = 5 by decide), if_neg (show ¬ n ≤ a by omega), if_pos (show 0 = 0 from rfl), if_neg hwb, hix, hfr]
        exact hsp9
      by_cases s_166_1 : sw_166 = 1
      · exact absurd (e_sw_166.symm.trans s_166_1) (by decide)
      by_cases s_166_2 : sw_166 = 2
      · exact absurd (e_sw_166.symm.trans s_166_2) (by decide)
      by_cases s_166_3 : sw_166 = 3
      · exact absurd (e_sw_166.symm.trans s_166_3) (by decide)
      exact absurd e_sw_166 s_166_0
    by_cases s_69_3347790 : sw_69 = 3347790
    · exact absurd (e_sw_69.symm.trans s_69_3347790) (by decide)
    by_cases s_69_95852457 : sw_69 = 95852457
    · exact absurd (e_sw_69.symm.trans s_69_95852457) (by decide)
    by_cases s_69_109400155 : sw_69 = 109400155
    · exact absurd (e_sw_69.symm.trans s_69_109400155) (by decide)
    exact absurd e_sw_69 s_69_3327647
  · exact absurd rfl c_9
