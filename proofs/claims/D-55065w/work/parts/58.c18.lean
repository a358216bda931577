/-! the round's works: done, or refused with a chain of reasons -/
set_option maxRecDepth 100000
abbrev c_O : Type := List (Int32 × Int32) ⊕ ((Nat → Int32) × Int32)
/-- what a refusal leaves: it is known, and what was there is as it was -/
def c_PX (M : va_M) (o : c_O) (q : Nat) (E : String) (M' : va_M) : Prop := ∃ L, o = .inl L ∧ E = "BrassInspector$Refusal" ∧ c_Rf M' L q ∧ ∀ x e, M x = some e → M' x = some e
theorem c_PX.of {M M' : va_M} {o : c_O} {q : Nat} {E : String} {b r d : Int32} (h : b = 0 ∧ E = "BrassInspector$Refusal" ∧ M q = none ∧ ∃ u w, rf_ u ∧ rf_ w ∧ M' = bu M q (.inr (5, xR (.ref q) u w r d))) (ho : o = .inl [(r, d)]) : c_PX M o q E M' := by
  obtain ⟨-, h1, h2, u, w, hu, hw, h3⟩ := h
  exact ⟨_, ho, h1, ⟨u, w, hu, hw, by rw [h3]; exact bu_self _ _ _⟩, fun x e z => by rw [h3, bu_ne (bc_new_ne z h2)]; exact z⟩
/-- the slots that are not used are empty -/
def c_zt (s : Nat → Int32) (n : Nat) : Prop := ∀ t, n ≤ t → t < 10 → s (35 + t) = 0 ∧ s (45 + t) = 0 ∧ s (75 + t) = 0 ∧ s (85 + t) = 0
def c_zw (s : Nat → Int32) (w : Nat) : Prop := ∀ t, w ≤ t → t < 4 → s (109 + t) = 0 ∧ s (113 + t) = 0
def c_comes (s : Nat → Int32) (n : Nat) (fa co dr : Int32) : c_O := if n = 10 then .inl [(1, 10)] else .inr (m_newT s n fa co dr, nI n)
def c_newW (s : Nat → Int32) (w : Nat) (z : Int32) : Nat → Int32 := upd (upd s (105 + w) z) 2 (nI w + 1)
def c_cast (s : Nat → Int32) (w : Nat) (z : Int32) : c_O := if w = 4 then .inl [(1, 4)] else .inr (c_newW s w z, nI w)
def c_pol (s : Nat → Int32) (t : Nat) : c_O := if s (109 + t) ≤ 0 then .inl [(10, nI t)] else .inr (upd s (109 + t) 0, s (109 + t))
def c_mend (s : Nat → Int32) (t : Nat) : c_O := if s (45 + t) = 0 then .inl [(6, nI t)] else if 6 ≤ s (25 + t) then .inr (upd (upd (upd s (25 + t) (s (25 + t) - 6)) (45 + t) 0) (65 + t) (-1), s (45 + t)) else .inl [(5, 6 - s (25 + t))]
def c_shave (s : Nat → Int32) (t : Nat) (b : Int32) : c_O := if s (15 + t) = m_fn s then .inl [(7, s (15 + t))] else if s (75 + t) < 20 then .inr (upd s (75 + t) (c_min 20 (s (75 + t) + b)), c_min 20 (s (75 + t) + b)) else .inl [(8, nI t)]
def c_pay (s : Nat → Int32) (t : Nat) (b : Int32) : c_O := if s (35 + t) ≤ 0 then .inl [(9, nI t)] else if c_min b (s (35 + t)) ≤ s (25 + t) then .inr (m_pay2 s t (c_min b (s (35 + t))), s (35 + t) - c_min b (s (35 + t))) else .inl [(5, c_min b (s (35 + t)) - s (25 + t))]
def c_insp (s : Nat → Int32) (t w f : Nat) : c_O := if ¬ s (15 + t) = m_fn s then .inl [(12, nI t), (2, s (15 + t))] else if s (95 + t) = s 0 then .inl [(12, nI t), (3, nI t)] else if s (109 + w) ≤ 9 then .inr (m_looks s t w f, m_fine s t w f) else .inl [(4, s (109 + w))]
theorem c_here {A : Prop} [Decidable A] : (if ¬ (if ¬ A then (0 : Int32) else 1) = 0 then (0 : Int32) else 1) = 0 ↔ A := by
  by_cases h : A <;> simp [h]
theorem tS_1 {s s' : Nat → Int32} {r t : Nat} (h : ∀ j, (j = 15 ∨ j = 25 ∨ j = 35 ∨ j = 45 ∨ j = 55 ∨ j = 65 ∨ j = 75 ∨ j = 85 ∨ j = 95) → s' (j + t) = s (j + t)) : tS s' r t = tS s r t := by
  simp only [tS]
  rw [h 15 (by simp), h 25 (by simp), h 35 (by simp), h 45 (by simp), h 55 (by simp), h 65 (by simp), h 75 (by simp), h 85 (by simp), h 95 (by simp)]
theorem newT_ok {s : Nat → Int32} {n : Nat} {fa co dr : Int32} (r : Nat) (hn : n < 10) (hz : c_zt s n) : tL (nI n) fa co 0 0 dr (-1) 0 0 (-1) r = tS (m_newT s n fa co dr) r n := by
  obtain ⟨z1, z2, z3, z4⟩ := hz n (Nat.le_refl _) hn
  have e15 : m_newT s n fa co dr (15 + n) = fa := by
    simp (disch := omega) only [m_newT, pk_un, pk_us]
  have e25 : m_newT s n fa co dr (25 + n) = co := by
    simp (disch := omega) only [m_newT, pk_un, pk_us]
  have e55 : m_newT s n fa co dr (55 + n) = dr := by
    simp (disch := omega) only [m_newT, pk_un, pk_us]
  have e65 : m_newT s n fa co dr (65 + n) = -1 := by
    simp (disch := omega) only [m_newT, pk_un, pk_us]
  have e95 : m_newT s n fa co dr (95 + n) = -1 := by
    simp (disch := omega) only [m_newT, pk_un, pk_us]
  have e35 : m_newT s n fa co dr (35 + n) = 0 := by
    simp (disch := omega) only [m_newT, pk_un]
    exact z1
  have e45 : m_newT s n fa co dr (45 + n) = 0 := by
    simp (disch := omega) only [m_newT, pk_un]
    exact z2
  have e75 : m_newT s n fa co dr (75 + n) = 0 := by
    simp (disch := omega) only [m_newT, pk_un]
    exact z3
  have e85 : m_newT s n fa co dr (85 + n) = 0 := by
    simp (disch := omega) only [m_newT, pk_un]
    exact z4
  simp only [tS]
  rw [e15, e25, e35, e45, e55, e65, e75, e85, e95]
theorem newT_ne {s : Nat → Int32} {n : Nat} {fa co dr : Int32} (hn : n < 10) : ∀ k, k ≠ 1 → (k < 15 ∨ 105 ≤ k ∨ (k - 15) % 10 ≠ n) → m_newT s n fa co dr k = s k := fun k h1 h2 => by
  simp (disch := omega) only [m_newT, pk_un]
theorem newT_1 {s : Nat → Int32} {n : Nat} {fa co dr : Int32} : m_newT s n fa co dr 1 = nI (n + 1) := by
  simp only [m_newT, pk_us, nI_1]
theorem newW_ok {s : Nat → Int32} {w : Nat} {z : Int32} (hw : w < 4) (hz : c_zw s w) : bL (nI w) z 0 0 = bS (c_newW s w z) w := by
  obtain ⟨z1, z2⟩ := hz w (Nat.le_refl _) hw
  have e1 : c_newW s w z (105 + w) = z := by
    simp (disch := omega) only [c_newW, pk_un, pk_us]
  have e2 : c_newW s w z (109 + w) = 0 := by
    simp (disch := omega) only [c_newW, pk_un]
    exact z1
  have e3 : c_newW s w z (113 + w) = 0 := by
    simp (disch := omega) only [c_newW, pk_un]
    exact z2
  simp only [bS]
  rw [e1, e2, e3]
theorem newW_ne {s : Nat → Int32} {w : Nat} {z : Int32} (hw : w < 4) : ∀ k, k ≠ 2 → (k < 105 ∨ 117 ≤ k ∨ (k - 105) % 4 ≠ w) → c_newW s w z k = s k := fun k h1 h2 => by
  simp (disch := omega) only [c_newW, pk_un]
theorem newW_2 {s : Nat → Int32} {w : Nat} {z : Int32} : c_newW s w z 2 = nI (w + 1) := by
  simp only [c_newW, pk_us, nI_1]
theorem ok_X2_mend : bi_ok yX2_mend RX2 1 := by decide +kernel
theorem bk_X2_mend {Y : bi_Y} (G : bi_GS Y) (M : va_M) (R : cR) (n w : Nat) (s : Nat → Int32) (hR : RoundM Y M R n w s) (t : Nat) (ht : t < n) : bc_Met Y yX2_mend (ws_ yX2_mend cX2_mend 3 (some .int)) 7 144 2 16 M [.ref R.r, .int (nI t)] (fun v M' => ∃ s' x, c_mend s t = .inr (s', x) ∧ v = some (.int x) ∧ RoundM Y M' R n w s' ∧ cKeep M M' R n w) (c_PX M (c_mend s t)) := by
  refine bc_Met.of (own := RX2) (L0 := [some (.ref R.r), some (.int (nI t)), none]) rfl (by decide) G (Nat.le_of_ble_eq_true rfl) rfl (fun X A hE hQ hW hnl hnm => ?_)
  have hnl : ∀ q, q < 3 → q < bi_nL X := fun q h => by rw [hnl]; exact h
  refine vr_aload_n hE dX2_mend_0 rfl ?_
  refine vr_iload_n hE dX2_mend_1 rfl ?_
  refine bc_callV hE (bk_X2_trader G _ R n w s hR t ht) kc_X2 hR.hr ok_X2_trader (lw_V q1489 q1257 q1258 q72 q1259) rfl rfl (Nat.le_of_ble_eq_true rfl) (by decide) dX2_mend_2 (fun _ _ _ h => h.elim) ?_
  rintro v_2 M_2 ⟨rfl, hu_2⟩
  obtain rfl := hu_2.symm
  refine vr_astore_n hE dX2_mend_5 (hnl _ (by decide)) rfl ?_
  refine vr_aload_n hE dX2_mend_6 rfl ?_
  refine bc_callV hE (bk_X6_error G _ (R.tr t) R.r _ _ _ _ _ _ _ _ _ _ (hR.htr t ht)) kc_X6 (hR.htr t ht) ok_X6_error (lw_V q1531 q1532 q1533 q106 q1534) rfl rfl (Nat.le_of_ble_eq_true rfl) (by decide) dX2_mend_7 (fun _ _ _ h => h.elim) ?_
  rintro v_7 M_7 ⟨rfl, hu_7⟩
  obtain rfl := hu_7.symm
  apply vt_if_eq (tgt := 17) (J := 18) hE dX2_mend_10 (by decide)
  · intro c_10 kt1
    refine vr_iconst (v := 0) hE dX2_mend_17 (by decide) ?_
    exact kt1
  · intro c_10 kf1
    refine vr_iconst (v := 1) hE dX2_mend_13 (by decide) ?_
    refine vr_goto (tgt := 18) hE dX2_mend_14 (by decide) ?_
    exact kf1
  refine vr_bipush (v := 6) hE dX2_mend_18 (by decide) ?_
  refine vr_iload_n hE dX2_mend_20 rfl ?_
  refine bc_callSN hE (bk_X1_meet G _ _ 6 (nI t)) ok_X1_meet q1229 q1230 q71 q1231 rfl rfl (Nat.le_of_ble_eq_true rfl) (by decide) dX2_mend_21 (fun q9 E9 M9 h9 => vr_out hE hQ (fun _ z9 => by cases z9) (by first | decide | exact ⟨by omega, by omega⟩) ⟨M9, (c_PX.of h9 (by unfold c_mend; rw [if_pos (Classical.byContradiction fun z => absurd h9.1 (by rw [if_neg z]; decide))])), fun H h => hW _ H h⟩) ?_
  rintro v_21 M_21 ⟨hb_21, rfl, hu_21⟩
  obtain rfl := hu_21.symm
  have h45 : ¬ s (45 + t) = 0 := fun z => hb_21 (if_pos z)
  refine vr_aload_n hE dX2_mend_24 rfl ?_
  refine bc_callV hE (bk_X6_coins G _ (R.tr t) R.r _ _ _ _ _ _ _ _ _ _ (hR.htr t ht)) kc_X6 (hR.htr t ht) ok_X6_coins (lw_V q1535 q1536 q1537 q106 q1538) rfl rfl (Nat.le_of_ble_eq_true rfl) (by decide) dX2_mend_25 (fun _ _ _ h => h.elim) ?_
  rintro v_25 M_25 ⟨rfl, hu_25⟩
  obtain rfl := hu_25.symm
  refine vr_bipush (v := 6) hE dX2_mend_28 (by decide) ?_
  apply vt_icmp_lt (tgt := 37) (J := 38) hE dX2_mend_30 (by decide)
  · intro c_30 kt2
    refine vr_iconst (v := 0) hE dX2_mend_37 (by decide) ?_
    exact kt2
  · intro c_30 kf2
    refine vr_iconst (v := 1) hE dX2_mend_33 (by decide) ?_
    refine vr_goto (tgt := 38) hE dX2_mend_34 (by decide) ?_
    exact kf2
  refine vr_iconst (v := 5) hE dX2_mend_38 (by decide) ?_
  refine vr_bipush (v := 6) hE dX2_mend_39 (by decide) ?_
  refine vr_aload_n hE dX2_mend_41 rfl ?_
  refine bc_callV hE (bk_X6_coins G _ (R.tr t) R.r _ _ _ _ _ _ _ _ _ _ (hR.htr t ht)) kc_X6 (hR.htr t ht) ok_X6_coins (lw_V q1535 q1536 q1537 q106 q1538) rfl rfl (Nat.le_of_ble_eq_true rfl) (by decide) dX2_mend_42 (fun _ _ _ h => h.elim) ?_
  rintro v_42 M_42 ⟨rfl, hu_42⟩
  obtain rfl := hu_42.symm
  refine vr_isub hE dX2_mend_45 ?_
  refine bc_callSN hE (bk_X1_meet G _ _ 5 (6 - s (25 + t))) ok_X1_meet q1229 q1230 q71 q1231 rfl rfl (Nat.le_of_ble_eq_true rfl) (by decide) dX2_mend_46 (fun q9 E9 M9 h9 => vr_out hE hQ (fun _ z9 => by cases z9) (by first | decide | exact ⟨by omega, by omega⟩) ⟨M9, (c_PX.of h9 (by unfold c_mend; rw [if_neg h45, if_neg (fun z => absurd h9.1 (by rw [if_neg (Int32.not_lt.mpr z)]; decide))])), fun H h => hW _ H h⟩) ?_
  rintro v_46 M_46 ⟨hb_46, rfl, hu_46⟩
  obtain rfl := hu_46.symm
  have h25 : 6 ≤ s (25 + t) := Int32.not_lt.mp (fun z => hb_46 (if_pos z))
  refine vr_aload_n hE dX2_mend_49 rfl ?_
  refine bc_callV hE (bk_X6_mended G _ (R.tr t) R.r _ _ _ _ _ _ _ _ _ _ (hR.htr t ht)) kc_X6 (hR.htr t ht) ok_X6_mended (lw_V q1539 q1540 q1541 q106 q1542) rfl rfl (Nat.le_of_ble_eq_true rfl) (by decide) dX2_mend_50 (fun _ _ _ h => h.elim) ?_
  rintro v_50 M_50 ⟨rfl, e_50⟩
  have hR_r_50 := (congrFun e_50 R.r).trans ((bu_ne (bc_dist hR.hr (hR.htr t ht) (bc_ci (by decide)))).trans hR.hr)
  have hR_tl_50 := (congrFun e_50 R.tl).trans ((bu_ne (bc_dist hR.htl (hR.htr t ht) (bc_ci (by decide)))).trans hR.htl)
  have hR_wl_50 := (congrFun e_50 R.wl).trans ((bu_ne (bc_dist hR.hwl (hR.htr t ht) (bc_ci (by decide)))).trans hR.hwl)
  have h_R_tr_t__50 := (congrFun e_50 (R.tr t)).trans (bu_self _ _ _)
  refine vr_ireturn hE hQ rfl dX2_mend_53 (by decide) ⟨_, ?_, fun H h => hW _ H h⟩
  subst e_50
  have ht10 : t < 10 := Nat.lt_of_lt_of_le ht hR.hn
  refine ⟨_, _, by unfold c_mend; rw [if_neg h45, if_pos h25], rfl, ?_, cKeep.rf.bu (Or.inl (fpr.tr ht)) rfl⟩
  have z := hR.trader ht (s' := upd (upd (upd s (25 + t) (s (25 + t) - 6)) (45 + t) 0) (65 + t) (-1)) (fun k9 hk9 => by simp (disch := omega) only [pk_un])
  have e : tS (upd (upd (upd s (25 + t) (s (25 + t) - 6)) (45 + t) 0) (65 + t) (-1)) R.r t = tL (nI t) (s (15 + t)) (s (25 + t) - 6) (s (35 + t)) 0 (s (55 + t)) (-1) (s (75 + t)) (s (85 + t)) (s (95 + t)) R.r := by
    simp (disch := omega) only [tS, pk_un, pk_us]
  rw [e] at z
  exact z
theorem ok_X2_shave : bi_ok yX2_shave RX2 2 := by decide +kernel
theorem bk_X2_shave {Y : bi_Y} (G : bi_GS Y) (M : va_M) (R : cR) (n w : Nat) (s : Nat → Int32) (hR : RoundM Y M R n w s) (t : Nat) (ht : t < n) (b : Int32) : bc_Met Y yX2_shave (ws_ yX2_shave cX2_shave 4 (some .int)) 7 144 2 16 M [.ref R.r, .int (nI t), .int b] (fun v M' => ∃ s' x, c_shave s t b = .inr (s', x) ∧ v = some (.int x) ∧ RoundM Y M' R n w s' ∧ cKeep M M' R n w) (c_PX M (c_shave s t b)) := by
  refine bc_Met.of (own := RX2) (L0 := [some (.ref R.r), some (.int (nI t)), some (.int b), none]) rfl (by decide) G (Nat.le_of_ble_eq_true rfl) rfl (fun X A hE hQ hW hnl hnm => ?_)
  have hnl : ∀ q, q < 4 → q < bi_nL X := fun q h => by rw [hnl]; exact h
  refine vr_aload_n hE dX2_shave_0 rfl ?_
  refine vr_iload_n hE dX2_shave_1 rfl ?_
  refine bc_callV hE (bk_X2_trader G _ R n w s hR t ht) kc_X2 hR.hr ok_X2_trader (lw_V q1489 q1257 q1258 q72 q1259) rfl rfl (Nat.le_of_ble_eq_true rfl) (by decide) dX2_shave_2 (fun _ _ _ h => h.elim) ?_
  rintro v_2 M_2 ⟨rfl, hu_2⟩
  obtain rfl := hu_2.symm
  refine vr_astore_n hE dX2_shave_5 (hnl _ (by decide)) rfl ?_
  refine vr_aload_n hE dX2_shave_6 rfl ?_
  refine bc_callV hE (bk_X6_isHere G _ (R.tr t) R.r _ _ _ _ _ _ _ _ _ _ (hR.htr t ht) R.ra R.fi R.tl R.wl _ _ _ hR.hr) kc_X6 (hR.htr t ht) ok_X6_isHere (lw_V q1490 q1491 q1492 q106 q1493) rfl rfl (Nat.le_of_ble_eq_true rfl) (by decide) dX2_shave_7 (fun _ _ _ h => h.elim) ?_
  rintro v_7 M_7 ⟨rfl, hu_7⟩
  obtain rfl := hu_7.symm
  apply vt_if_ne (tgt := 17) (J := 18) hE dX2_shave_10 (by decide)
  · intro c_10 kt1
    refine vr_iconst (v := 0) hE dX2_shave_17 (by decide) ?_
    exact kt1
  · intro c_10 kf1
    refine vr_iconst (v := 1) hE dX2_shave_13 (by decide) ?_
    refine vr_goto (tgt := 18) hE dX2_shave_14 (by decide) ?_
    exact kf1
  refine vr_bipush (v := 7) hE dX2_shave_18 (by decide) ?_
  refine vr_aload_n hE dX2_shave_20 rfl ?_
  refine bc_callV hE (bk_X6_fair G _ (R.tr t) R.r _ _ _ _ _ _ _ _ _ _ (hR.htr t ht)) kc_X6 (hR.htr t ht) ok_X6_fair (lw_V q1495 q931 q932 q106 q933) rfl rfl (Nat.le_of_ble_eq_true rfl) (by decide) dX2_shave_21 (fun _ _ _ h => h.elim) ?_
  rintro v_21 M_21 ⟨rfl, hu_21⟩
  obtain rfl := hu_21.symm
  refine bc_callSN hE (bk_X1_meet G _ _ 7 (s (15 + t))) ok_X1_meet q1229 q1230 q71 q1231 rfl rfl (Nat.le_of_ble_eq_true rfl) (by decide) dX2_shave_24 (fun q9 E9 M9 h9 => vr_out hE hQ (fun _ z9 => by cases z9) (by first | decide | exact ⟨by omega, by omega⟩) ⟨M9, (c_PX.of h9 (by unfold c_shave; rw [if_pos (show s (15 + t) = m_fn s from c_here.mp h9.1)])), fun H h => hW _ H h⟩) ?_
  rintro v_24 M_24 ⟨hb_24, rfl, hu_24⟩
  obtain rfl := hu_24.symm
  have h15 : ¬ s (15 + t) = m_fn s := fun z => hb_24 (c_here.mpr z)
  refine vr_aload_n hE dX2_shave_27 rfl ?_
  refine bc_callV hE (bk_X6_shave G _ (R.tr t) R.r _ _ _ _ _ _ _ _ _ _ (hR.htr t ht)) kc_X6 (hR.htr t ht) ok_X6_shave (lw_V q1547 q1548 q1549 q106 q1550) rfl rfl (Nat.le_of_ble_eq_true rfl) (by decide) dX2_shave_28 (fun _ _ _ h => h.elim) ?_
  rintro v_28 M_28 ⟨rfl, hu_28⟩
  obtain rfl := hu_28.symm
  refine vr_bipush (v := 20) hE dX2_shave_31 (by decide) ?_
  apply vt_icmp_ge (tgt := 40) (J := 41) hE dX2_shave_33 (by decide)
  · intro c_33 kt2
    refine vr_iconst (v := 0) hE dX2_shave_40 (by decide) ?_
    exact kt2
  · intro c_33 kf2
    refine vr_iconst (v := 1) hE dX2_shave_36 (by decide) ?_
    refine vr_goto (tgt := 41) hE dX2_shave_37 (by decide) ?_
    exact kf2
  refine vr_bipush (v := 8) hE dX2_shave_41 (by decide) ?_
  refine vr_iload_n hE dX2_shave_43 rfl ?_
  refine bc_callSN hE (bk_X1_meet G _ _ 8 (nI t)) ok_X1_meet q1229 q1230 q71 q1231 rfl rfl (Nat.le_of_ble_eq_true rfl) (by decide) dX2_shave_44 (fun q9 E9 M9 h9 => vr_out hE hQ (fun _ z9 => by cases z9) (by first | decide | exact ⟨by omega, by omega⟩) ⟨M9, (c_PX.of h9 (by unfold c_shave; rw [if_neg h15, if_neg (fun z => absurd h9.1 (by rw [if_neg (Int32.not_le.mpr z)]; decide))])), fun H h => hW _ H h⟩) ?_
  rintro v_44 M_44 ⟨hb_44, rfl, hu_44⟩
  obtain rfl := hu_44.symm
  have h75 : s (75 + t) < 20 := Int32.not_le.mp (fun z => hb_44 (if_pos z))
  refine vr_aload_n hE dX2_shave_47 rfl ?_
  refine vr_iload_n hE dX2_shave_48 rfl ?_
  refine bc_callV hE (bk_X6_shaves G _ (R.tr t) R.r _ _ _ _ _ _ _ _ _ _ (hR.htr t ht) b) kc_X6 (hR.htr t ht) ok_X6_shaves (lw_V q1551 q1552 q1553 q106 q1554) rfl rfl (Nat.le_of_ble_eq_true rfl) (by decide) dX2_shave_49 (fun _ _ _ h => h.elim) ?_
  rintro v_49 M_49 ⟨rfl, e_49⟩
  have hR_r_49 := (congrFun e_49 R.r).trans ((bu_ne (bc_dist hR.hr (hR.htr t ht) (bc_ci (by decide)))).trans hR.hr)
  have hR_tl_49 := (congrFun e_49 R.tl).trans ((bu_ne (bc_dist hR.htl (hR.htr t ht) (bc_ci (by decide)))).trans hR.htl)
  have hR_wl_49 := (congrFun e_49 R.wl).trans ((bu_ne (bc_dist hR.hwl (hR.htr t ht) (bc_ci (by decide)))).trans hR.hwl)
  have h_R_tr_t__49 := (congrFun e_49 (R.tr t)).trans (bu_self _ _ _)
  refine vr_ireturn hE hQ rfl dX2_shave_52 (by decide) ⟨_, ?_, fun H h => hW _ H h⟩
  subst e_49
  have ht10 : t < 10 := Nat.lt_of_lt_of_le ht hR.hn
  refine ⟨_, _, by unfold c_shave; rw [if_neg h15, if_pos h75], rfl, ?_, cKeep.rf.bu (Or.inl (fpr.tr ht)) rfl⟩
  have z := hR.trader ht (s' := upd s (75 + t) (c_min 20 (s (75 + t) + b))) (fun k9 hk9 => by simp (disch := omega) only [pk_un])
  have e : tS (upd s (75 + t) (c_min 20 (s (75 + t) + b))) R.r t = tL (nI t) (s (15 + t)) (s (25 + t)) (s (35 + t)) (s (45 + t)) (s (55 + t)) (s (65 + t)) (c_min 20 (s (75 + t) + b)) (s (85 + t)) (s (95 + t)) R.r := by
    simp (disch := omega) only [tS, pk_un, pk_us]
  rw [e] at z
  exact z
theorem ok_X2_pay : bi_ok yX2_pay RX2 2 := by decide +kernel
theorem bk_X2_pay {Y : bi_Y} (G : bi_GS Y) (M : va_M) (R : cR) (n w : Nat) (s : Nat → Int32) (hR : RoundM Y M R n w s) (t : Nat) (ht : t < n) (b : Int32) : bc_Met Y yX2_pay (ws_ yX2_pay cX2_pay 5 (some .int)) 7 144 2 16 M [.ref R.r, .int (nI t), .int b] (fun v M' => ∃ s' x, c_pay s t b = .inr (s', x) ∧ v = some (.int x) ∧ RoundM Y M' R n w s' ∧ cKeep M M' R n w) (c_PX M (c_pay s t b)) := by
  refine bc_Met.of (own := RX2) (L0 := [some (.ref R.r), some (.int (nI t)), some (.int b), none, none]) rfl (by decide) G (Nat.le_of_ble_eq_true rfl) rfl (fun X A hE hQ hW hnl hnm => ?_)
  have hnl : ∀ q, q < 5 → q < bi_nL X := fun q h => by rw [hnl]; exact h
  refine vr_aload_n hE dX2_pay_0 rfl ?_
  refine vr_iload_n hE dX2_pay_1 rfl ?_
  refine bc_callV hE (bk_X2_trader G _ R n w s hR t ht) kc_X2 hR.hr ok_X2_trader (lw_V q1489 q1257 q1258 q72 q1259) rfl rfl (Nat.le_of_ble_eq_true rfl) (by decide) dX2_pay_2 (fun _ _ _ h => h.elim) ?_
  rintro v_2 M_2 ⟨rfl, hu_2⟩
  obtain rfl := hu_2.symm
  refine vr_astore_n hE dX2_pay_5 (hnl _ (by decide)) rfl ?_
  refine vr_aload_n hE dX2_pay_6 rfl ?_
  refine bc_callV hE (bk_X6_debt G _ (R.tr t) R.r _ _ _ _ _ _ _ _ _ _ (hR.htr t ht)) kc_X6 (hR.htr t ht) ok_X6_debt (lw_V q1564 q1565 q1566 q106 q1567) rfl rfl (Nat.le_of_ble_eq_true rfl) (by decide) dX2_pay_7 (fun _ _ _ h => h.elim) ?_
  rintro v_7 M_7 ⟨rfl, hu_7⟩
  obtain rfl := hu_7.symm
  apply vt_if_le (tgt := 17) (J := 18) hE dX2_pay_10 (by decide)
  · intro c_10 kt1
    refine vr_iconst (v := 0) hE dX2_pay_17 (by decide) ?_
    exact kt1
  · intro c_10 kf1
    refine vr_iconst (v := 1) hE dX2_pay_13 (by decide) ?_
    refine vr_goto (tgt := 18) hE dX2_pay_14 (by decide) ?_
    exact kf1
  refine vr_bipush (v := 9) hE dX2_pay_18 (by decide) ?_
  refine vr_iload_n hE dX2_pay_20 rfl ?_
  refine bc_callSN hE (bk_X1_meet G _ _ 9 (nI t)) ok_X1_meet q1229 q1230 q71 q1231 rfl rfl (Nat.le_of_ble_eq_true rfl) (by decide) dX2_pay_21 (fun q9 E9 M9 h9 => vr_out hE hQ (fun _ z9 => by cases z9) (by first | decide | exact ⟨by omega, by omega⟩) ⟨M9, (c_PX.of h9 (by unfold c_pay; rw [if_pos (Classical.byContradiction fun z => absurd h9.1 (by rw [if_neg z]; decide))])), fun H h => hW _ H h⟩) ?_
  rintro v_21 M_21 ⟨hb_21, rfl, hu_21⟩
  obtain rfl := hu_21.symm
  have h35 : ¬ s (35 + t) ≤ 0 := fun z => hb_21 (if_pos z)
  refine vr_iload_n hE dX2_pay_24 rfl ?_
  refine vr_aload_n hE dX2_pay_25 rfl ?_
  refine bc_callV hE (bk_X6_debt G _ (R.tr t) R.r _ _ _ _ _ _ _ _ _ _ (hR.htr t ht)) kc_X6 (hR.htr t ht) ok_X6_debt (lw_V q1564 q1565 q1566 q106 q1567) rfl rfl (Nat.le_of_ble_eq_true rfl) (by decide) dX2_pay_26 (fun _ _ _ h => h.elim) ?_
  rintro v_26 M_26 ⟨rfl, hu_26⟩
  obtain rfl := hu_26.symm
  refine vr_mmin hE q1568 q575 q94 q576 ⟨by decide, Nat.le_of_ble_eq_true rfl, by decide, by decide⟩ dX2_pay_29 ?_
  refine vr_istore hE dX2_pay_32 (hnl _ (by decide)) rfl ?_
  refine vr_aload_n hE dX2_pay_34 rfl ?_
  refine bc_callV hE (bk_X6_coins G _ (R.tr t) R.r _ _ _ _ _ _ _ _ _ _ (hR.htr t ht)) kc_X6 (hR.htr t ht) ok_X6_coins (lw_V q1535 q1536 q1537 q106 q1538) rfl rfl (Nat.le_of_ble_eq_true rfl) (by decide) dX2_pay_35 (fun _ _ _ h => h.elim) ?_
  rintro v_35 M_35 ⟨rfl, hu_35⟩
  obtain rfl := hu_35.symm
  refine vr_iload hE dX2_pay_38 rfl ?_
  apply vt_icmp_lt (tgt := 47) (J := 48) hE dX2_pay_40 (by decide)
  · intro c_40 kt2
    refine vr_iconst (v := 0) hE dX2_pay_47 (by decide) ?_
    exact kt2
  · intro c_40 kf2
    refine vr_iconst (v := 1) hE dX2_pay_43 (by decide) ?_
    refine vr_goto (tgt := 48) hE dX2_pay_44 (by decide) ?_
    exact kf2
  refine vr_iconst (v := 5) hE dX2_pay_48 (by decide) ?_
  refine vr_iload hE dX2_pay_49 rfl ?_
  refine vr_aload_n hE dX2_pay_51 rfl ?_
  refine bc_callV hE (bk_X6_coins G _ (R.tr t) R.r _ _ _ _ _ _ _ _ _ _ (hR.htr t ht)) kc_X6 (hR.htr t ht) ok_X6_coins (lw_V q1535 q1536 q1537 q106 q1538) rfl rfl (Nat.le_of_ble_eq_true rfl) (by decide) dX2_pay_52 (fun _ _ _ h => h.elim) ?_
  rintro v_52 M_52 ⟨rfl, hu_52⟩
  obtain rfl := hu_52.symm
  refine vr_isub hE dX2_pay_55 ?_
  refine bc_callSN hE (bk_X1_meet G _ _ 5 ((c_min b (s (35 + t))) - s (25 + t))) ok_X1_meet q1229 q1230 q71 q1231 rfl rfl (Nat.le_of_ble_eq_true rfl) (by decide) dX2_pay_56 (fun q9 E9 M9 h9 => vr_out hE hQ (fun _ z9 => by cases z9) (by first | decide | exact ⟨by omega, by omega⟩) ⟨M9, (c_PX.of h9 (by unfold c_pay; rw [if_neg h35, if_neg (fun z => absurd h9.1 (by rw [if_neg (Int32.not_lt.mpr z)]; decide))])), fun H h => hW _ H h⟩) ?_
  rintro v_56 M_56 ⟨hb_56, rfl, hu_56⟩
  obtain rfl := hu_56.symm
  have h25 : (c_min b (s (35 + t))) ≤ s (25 + t) := Int32.not_lt.mp (fun z => hb_56 (if_pos z))
  refine vr_aload_n hE dX2_pay_59 rfl ?_
  refine vr_iload hE dX2_pay_60 rfl ?_
  refine bc_callV hE (bk_X6_pays G _ (R.tr t) R.r _ _ _ _ _ _ _ _ _ _ (hR.htr t ht) (c_min b (s (35 + t)))) kc_X6 (hR.htr t ht) ok_X6_pays (lw_V q1569 q1570 q1571 q106 q1572) rfl rfl (Nat.le_of_ble_eq_true rfl) (by decide) dX2_pay_62 (fun _ _ _ h => h.elim) ?_
  rintro v_62 M_62 ⟨rfl, e_62⟩
  have hR_r_62 := (congrFun e_62 R.r).trans ((bu_ne (bc_dist hR.hr (hR.htr t ht) (bc_ci (by decide)))).trans hR.hr)
  have hR_tl_62 := (congrFun e_62 R.tl).trans ((bu_ne (bc_dist hR.htl (hR.htr t ht) (bc_ci (by decide)))).trans hR.htl)
  have hR_wl_62 := (congrFun e_62 R.wl).trans ((bu_ne (bc_dist hR.hwl (hR.htr t ht) (bc_ci (by decide)))).trans hR.hwl)
  have h_R_tr_t__62 := (congrFun e_62 (R.tr t)).trans (bu_self _ _ _)
  refine vr_ireturn hE hQ rfl dX2_pay_65 (by decide) ⟨_, ?_, fun H h => hW _ H h⟩
  subst e_62
  have ht10 : t < 10 := Nat.lt_of_lt_of_le ht hR.hn
  refine ⟨_, _, by unfold c_pay; rw [if_neg h35, if_pos h25], rfl, ?_, cKeep.rf.bu (Or.inl (fpr.tr ht)) rfl⟩
  have z := hR.trader ht (s' := m_pay2 s t (c_min b (s (35 + t)))) (fun k9 hk9 => by simp (disch := omega) only [m_pay2, pk_un])
  have e : tS (m_pay2 s t (c_min b (s (35 + t)))) R.r t = tL (nI t) (s (15 + t)) (s (25 + t) - (c_min b (s (35 + t)))) (s (35 + t) - (c_min b (s (35 + t)))) (s (45 + t)) (s (55 + t)) (s (65 + t)) (s (75 + t)) (s (85 + t)) (s (95 + t)) R.r := by
    simp (disch := omega) only [tS, m_pay2, pk_un, pk_us]
  rw [e] at z
  exact z
theorem ok_X2_polish : bi_ok yX2_polish RX2 1 := by decide +kernel
theorem bk_X2_polish {Y : bi_Y} (G : bi_GS Y) (M : va_M) (R : cR) (n w : Nat) (s : Nat → Int32) (hR : RoundM Y M R n w s) (t : Nat) (ht : t < w) : bc_Met Y yX2_polish (ws_ yX2_polish cX2_polish 2 (some .int)) 7 144 1 8 M [.ref R.r, .int (nI t)] (fun v M' => ∃ s' x, c_pol s t = .inr (s', x) ∧ v = some (.int x) ∧ RoundM Y M' R n w s' ∧ cKeep M M' R n w) (c_PX M (c_pol s t)) := by
  refine bc_Met.of (own := RX2) (L0 := [some (.ref R.r), some (.int (nI t))]) rfl (by decide) G (Nat.le_of_ble_eq_true rfl) rfl (fun X A hE hQ hW hnl hnm => ?_)
  have hnl : ∀ q, q < 2 → q < bi_nL X := fun q h => by rw [hnl]; exact h
  refine vr_aload_n hE dX2_polish_0 rfl ?_
  refine vr_iload_n hE dX2_polish_1 rfl ?_
  refine bc_callV hE (bk_X2_weight G _ R n w s hR t ht) kc_X2 hR.hr ok_X2_weight (lw_V q1282 q1283 q1284 q72 q1285) rfl rfl (Nat.le_of_ble_eq_true rfl) (by decide) dX2_polish_2 (fun _ _ _ h => h.elim) ?_
  rintro v_2 M_2 ⟨rfl, hu_2⟩
  obtain rfl := hu_2.symm
  refine bc_callV hE (bk_X7_wear G _ (R.br t) _ _ _ _ (hR.hbr t ht)) kc_X7 (hR.hbr t ht) ok_X7_wear (lw_V q1286 q1287 q1288 q108 q1289) rfl rfl (Nat.le_of_ble_eq_true rfl) (by decide) dX2_polish_5 (fun _ _ _ h => h.elim) ?_
  rintro v_5 M_5 ⟨rfl, hu_5⟩
  obtain rfl := hu_5.symm
  apply vt_if_le (tgt := 15) (J := 16) hE dX2_polish_8 (by decide)
  · intro c_8 kt1
    refine vr_iconst (v := 0) hE dX2_polish_15 (by decide) ?_
    exact kt1
  · intro c_8 kf1
    refine vr_iconst (v := 1) hE dX2_polish_11 (by decide) ?_
    refine vr_goto (tgt := 16) hE dX2_polish_12 (by decide) ?_
    exact kf1
  refine vr_bipush (v := 10) hE dX2_polish_16 (by decide) ?_
  refine vr_iload_n hE dX2_polish_18 rfl ?_
  refine bc_callSN hE (bk_X1_meet G _ _ 10 (nI t)) ok_X1_meet q1229 q1230 q71 q1231 rfl rfl (Nat.le_of_ble_eq_true rfl) (by decide) dX2_polish_19 (fun q9 E9 M9 h9 => vr_out hE hQ (fun _ z9 => by cases z9) (by first | decide | exact ⟨by omega, by omega⟩) ⟨M9, (c_PX.of h9 (by unfold c_pol; rw [if_pos (Classical.byContradiction fun z => absurd h9.1 (by rw [if_neg z]; decide))])), fun H h => hW _ H h⟩) ?_
  rintro v_19 M_19 ⟨hb_19, rfl, hu_19⟩
  obtain rfl := hu_19.symm
  have h35 : ¬ s (109 + t) ≤ 0 := fun z => hb_19 (if_pos z)
  refine vr_aload_n hE dX2_polish_22 rfl ?_
  refine vr_iload_n hE dX2_polish_23 rfl ?_
  refine bc_callV hE (bk_X2_weight G _ R n w s hR t ht) kc_X2 hR.hr ok_X2_weight (lw_V q1282 q1283 q1284 q72 q1285) rfl rfl (Nat.le_of_ble_eq_true rfl) (by decide) dX2_polish_24 (fun _ _ _ h => h.elim) ?_
  rintro v_24 M_24 ⟨rfl, hu_24⟩
  obtain rfl := hu_24.symm
  refine bc_callV hE (bk_X7_renewed G _ (R.br t) _ _ _ _ (hR.hbr t ht)) kc_X7 (hR.hbr t ht) ok_X7_renewed (lw_V q1290 q1291 q1292 q108 q1293) rfl rfl (Nat.le_of_ble_eq_true rfl) (by decide) dX2_polish_27 (fun _ _ _ h => h.elim) ?_
  rintro v_27 M_27 ⟨rfl, e_27⟩
  have hR_r_27 := (congrFun e_27 R.r).trans ((bu_ne (bc_dist hR.hr (hR.hbr t ht) (bc_ci (by decide)))).trans hR.hr)
  have hR_tl_27 := (congrFun e_27 R.tl).trans ((bu_ne (bc_dist hR.htl (hR.hbr t ht) (bc_ci (by decide)))).trans hR.htl)
  have hR_wl_27 := (congrFun e_27 R.wl).trans ((bu_ne (bc_dist hR.hwl (hR.hbr t ht) (bc_ci (by decide)))).trans hR.hwl)
  have h_R_br_t__27 := (congrFun e_27 (R.br t)).trans (bu_self _ _ _)
  refine vr_ireturn hE hQ rfl dX2_polish_30 (by decide) ⟨_, ?_, fun H h => hW _ H h⟩
  subst e_27
  have ht4 : t < 4 := Nat.lt_of_lt_of_le ht hR.hw
  refine ⟨_, _, by unfold c_pol; rw [if_neg h35], rfl, ?_, cKeep.rf.bu (Or.inl (fpr.br ht)) rfl⟩
  have z := hR.brass ht (s' := upd s (109 + t) 0) (fun k9 hk9 => by simp (disch := omega) only [pk_un])
  have e : bS (upd s (109 + t) 0) t = bL (nI t) (s (105 + t)) 0 (s (113 + t)) := by
    simp (disch := omega) only [bS, pk_un, pk_us]
  rw [e] at z
  exact z
