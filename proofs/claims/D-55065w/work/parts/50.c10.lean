/-! the round changed -/
set_option maxRecDepth 100000
/-- a rate changed -/
theorem RoundM.rates {Y : bi_Y} {M : va_M} {R : cR} {n w : Nat} {s : Nat → Int32} (h : RoundM Y M R n w s) {f : Nat} (hf : f < 5) (x : Int32) : RoundM Y (bu M R.ra (eI Y 5 (ar5 (upd s (5 + f) x) 5))) R n w (upd s (5 + f) x) := by
  have e : ∀ k, k < 5 ∨ 10 ≤ k → upd s (5 + f) x k = s k := fun k hk => pk_un (by omega)
  have o : ∀ {q : Nat} {ci : Nat} {y : List Value}, M q = some (.inr (ci, y)) → q ≠ R.ra := fun hq => bc_dist hq h.hra bc_oi
  refine ⟨?_, bu_self _ _ _, ?_, ?_, ?_, ?_, ?_, fun j hj => ?_, fun j hj => ?_, (e 1 (by omega)).trans h.h1, (e 2 (by omega)).trans h.h2, h.hn, h.hw, h.nrf, h.ntw, h.nte⟩
  · rw [bu_ne (o h.hr), e 0 (by omega), e 3 (by omega), e 4 (by omega)]
    exact h.hr
  · rw [bu_ne (Ne.symm h.nrf), h.hfi, ar5_eq (fun j hj => (e (10 + j) (by omega)).symm)]
  · rw [bu_ne (o h.htl)]
    exact h.htl
  · exact h.hte.keep (fun z => bu_ne (bc_dist (h.te_ z) h.hra inl_QI))
  · rw [bu_ne (o h.hwl)]
    exact h.hwl
  · exact h.hwe.keep (fun z => bu_ne (bc_dist (h.we_ z) h.hra inl_QI))
  · rw [bu_ne (o (h.htr j hj))]
    refine (h.htr j hj).trans ?_
    simp only [tS]
    rw [e (15 + j) (by omega), e (25 + j) (by omega), e (35 + j) (by omega), e (45 + j) (by omega), e (55 + j) (by omega), e (65 + j) (by omega), e (75 + j) (by omega), e (85 + j) (by omega), e (95 + j) (by omega)]
  · rw [bu_ne (o (h.hbr j hj))]
    refine (h.hbr j hj).trans ?_
    simp only [bS]
    rw [e (105 + j) (by omega), e (109 + j) (by omega), e (113 + j) (by omega)]
theorem ar5_upd {s : Nat → Int32} {b f : Nat} (hf : f < 5) (x : Int32) : upd (ar5 s b) f x = ar5 (upd s (b + f) x) b := by
  funext j
  simp only [upd, ar5]
  by_cases h : j = f
  · subst h
    rw [if_pos rfl, if_pos hf, if_pos rfl]
  · rw [if_neg h]
    by_cases h5 : j < 5
    · rw [if_pos h5, if_pos h5, if_neg (by omega)]
    · rw [if_neg h5, if_neg h5]
/-- one field of a trader -/
theorem tS_er {s : Nat → Int32} {r t : Nat} {e : Int32} (ht : t < 10) : tS (upd s (45 + t) e) r t = tL (nI t) (s (15 + t)) (s (25 + t)) (s (35 + t)) e (s (55 + t)) (s (65 + t)) (s (75 + t)) (s (85 + t)) (s (95 + t)) r := by
  simp only [tS, pk_us]
  simp (disch := omega) only [pk_un]
theorem upd_in {s : Nat → Int32} {b t : Nat} {e : Int32} (hb : b % 10 = 5) (hb2 : 15 ≤ b ∧ b < 105) (ht : t < 10) : ∀ k, (k < 15 ∨ 105 ≤ k ∨ (k - 15) % 10 ≠ t) → upd s (b + t) e k = s k := fun k hk => pk_un (by omega)
theorem upd_upd {s : Nat → Int32} {i : Nat} {x y : Int32} : upd (upd s i x) i y = upd s i y := by
  funext k
  simp only [upd]
  by_cases h : k = i <;> simp [h]
theorem ok_X2_rate : bi_ok yX2_rate RX2 2 := by decide +kernel
theorem bk_X2_rate {Y : bi_Y} (G : bi_GS Y) (M : va_M) (R : cR) (n w : Nat) (s : Nat → Int32) (hR : RoundM Y M R n w s) (f : Nat) (hf : f < 5) (x : Int32) : bc_Met Y yX2_rate (ws_ yX2_rate cX2_rate 4 (some .int)) 0 0 0 0 M [.ref R.r, .int (nI f), .int x] (fun v M' => v = some (.int (s (5 + f))) ∧ M' = bu M R.ra (eI Y 5 (ar5 (upd s (5 + f) x) 5))) bi_nx := by
  refine bc_Met.of (own := RX2) (L0 := [some (.ref R.r), some (.int (nI f)), some (.int x), none]) rfl (by decide) G (Nat.le_of_ble_eq_true rfl) rfl (fun X A hE hQ hW hnl hnm => ?_)
  have hnl : ∀ q, q < 4 → q < bi_nL X := fun q h => by rw [hnl]; exact h
  refine vr_aload_n hE dX2_rate_0 rfl ?_
  refine bc_get (z := 0) hE kc_X2 (by decide) q174 (Or.inl rfl) hR.hr rfl dX2_rate_1 ?_
  refine vr_iload_n hE dX2_rate_4 rfl ?_
  refine bc_iald hE hR.hra rfl (by omega) (by omega) dX2_rate_5 ?_
  refine vr_to (w := .int (s (5 + f))) (congrArg Value.int (ar5_lt hf)) ?_
  refine vr_istore_n hE dX2_rate_6 (hnl _ (by decide)) rfl ?_
  refine vr_aload_n hE dX2_rate_7 rfl ?_
  refine bc_get (z := 0) hE kc_X2 (by decide) q174 (Or.inl rfl) hR.hr rfl dX2_rate_8 ?_
  refine vr_iload_n hE dX2_rate_11 rfl ?_
  refine vr_iload_n hE dX2_rate_12 rfl ?_
  refine bc_iast hE hR.hra rfl (by omega) (by omega) dX2_rate_13 (by first | decide | omega) ?_
  refine bc_nm (fun M_13 e_13 => ?_)
  have hR_r_13 := (congrFun e_13 R.r).trans ((bu_ne (bc_dist hR.hr hR.hra bc_oi)).trans hR.hr)
  have hR_fi_13 := (congrFun e_13 R.fi).trans ((bu_ne (Ne.symm hR.nrf)).trans hR.hfi)
  have hR_tl_13 := (congrFun e_13 R.tl).trans ((bu_ne (bc_dist hR.htl hR.hra bc_oi)).trans hR.htl)
  have hR_wl_13 := (congrFun e_13 R.wl).trans ((bu_ne (bc_dist hR.hwl hR.hra bc_oi)).trans hR.hwl)
  have hR_ra_13 := (congrFun e_13 R.ra).trans (bu_self _ _ _)
  refine vr_iload_n hE dX2_rate_14 rfl ?_
  refine vr_ireturn hE hQ rfl dX2_rate_15 (by decide) ⟨_, ?_, fun H h => hW _ H h⟩
  subst e_13
  exact ⟨rfl, by rw [ar5_upd hf]⟩
theorem ok_X2_falseIn : bi_ok yX2_falseIn RX2 1 := by decide +kernel
theorem bk_X2_falseIn {Y : bi_Y} (G : bi_GS Y) (M : va_M) (R : cR) (n w : Nat) (s : Nat → Int32) (hR : RoundM Y M R n w s) (t : Nat) (ht : t < n) : bc_Met Y yX2_falseIn (ws_ yX2_falseIn cX2_falseIn 3 (some .int)) 4 85 0 0 M [.ref R.r, .int (nI t)] (fun v M' => v = some (.int (m_oi (m_fi (s (55 + t)) 61 0 (s (45 + t))))) ∧ ∀ q x, M q = some x → q ≠ R.tr t → M' q = some x) bi_nx := by
  refine bc_Met.of (own := RX2) (L0 := [some (.ref R.r), some (.int (nI t)), none]) rfl (by decide) G (Nat.le_of_ble_eq_true rfl) rfl (fun X A hE hQ hW hnl hnm => ?_)
  have hnl : ∀ q, q < 3 → q < bi_nL X := fun q h => by rw [hnl]; exact h
  refine vr_iconst (v := 0) hE dX2_falseIn_0 (by decide) ?_
  refine vr_istore_n hE dX2_falseIn_1 (hnl _ (by decide)) rfl ?_
  have hlp_2 : ∀ (c : Nat) (k : Nat) (e : Int32) (M1 : va_M), k + c = 61 → m_fi (s (55 + t)) c k e = m_fi (s (55 + t)) 61 0 (s (45 + t)) → RoundM Y M1 R n w (upd s (45 + t) e) → (∀ q x, M q = some x → q ≠ R.tr t → M1 q = some x) → bi_V Y.1 X (bc_W Y (bi_A X) M1) 0 0 2 [some (.ref R.r), some (.int (nI t)), some (.int (nI k))] [] := by
    intro c
    induction c with
    | zero =>
      intro k e M1 hk he hR1 hk1
      refine vr_iload_n hE dX2_falseIn_2 rfl ?_
      refine vr_bipush (v := 60) hE dX2_falseIn_3 (by decide) ?_
      refine vr_icmp_gt (tgt := 35) hE dX2_falseIn_5 (by decide) (fun c_5 => ?_) (fun c_5 => ?_)
      · skip
        refine vr_iconst (v := -1) hE dX2_falseIn_35 (by decide) ?_
        refine vr_ireturn hE hQ rfl dX2_falseIn_36 (by decide) ⟨_, ?_, fun H h => hW _ H h⟩
        exact ⟨by rw [← he]; rfl, hk1⟩
      · exact absurd (Int32.not_le.mp (nI_ge (a := 60) (b := k) (by omega) (by omega))) c_5
    | succ c ih =>
      intro k e M1 hk he hR1 hk1
      have htr1 := (hR1.htr t ht).trans (congrArg (fun z => some (Sum.inr (3, z))) (tS_er (s := s) (r := R.r) (e := e) (show t < 10 by have := hR.hn; omega)))
      refine vr_iload_n hE dX2_falseIn_2 rfl ?_
      refine vr_bipush (v := 60) hE dX2_falseIn_3 (by decide) ?_
      refine vr_icmp_gt (tgt := 35) hE dX2_falseIn_5 (by decide) (fun c_5 => ?_) (fun c_5 => ?_)
      · exact absurd (nI_le (a := k) (b := 60) (by omega) (by omega)) (Int32.not_le.mpr c_5)
      skip
      refine vr_aload_n hE dX2_falseIn_8 rfl ?_
      refine vr_iload_n hE dX2_falseIn_9 rfl ?_
      refine bc_callV hE (bk_X2_trader G _ R n w _ hR1 t ht) kc_X2 hR1.hr ok_X2_trader (lw_V q1489 q1257 q1258 q72 q1259) rfl rfl (Nat.le_of_ble_eq_true rfl) (by decide) dX2_falseIn_10 (fun _ _ _ h => h.elim) ?_
      rintro v_10 M_10 ⟨rfl, hu_10⟩
      obtain rfl := hu_10.symm
      refine bc_callV hE (bk_X6_isFalse G _ (R.tr t) R.r _ _ _ _ _ _ _ _ _ _ htr1) kc_X6 htr1 ok_X6_isFalse (lw_V q2026 q2027 q2028 q106 q2029) rfl rfl (Nat.le_of_ble_eq_true rfl) (by decide) dX2_falseIn_13 (fun _ _ _ h => h.elim) ?_
      rintro v_13 M_13 ⟨rfl, hu_13⟩
      obtain rfl := hu_13.symm
      refine vr_if_eq (tgt := 21) hE dX2_falseIn_16 (by decide) (fun c_16 => ?_) (fun c_16 => ?_)
      · have hin : ¬ in_ e (-4) 4 = 0 := fun z => absurd c_16 (by rw [if_neg (fun y => y z)]; decide)
        refine vr_aload_n hE dX2_falseIn_21 rfl ?_
        refine vr_iload_n hE dX2_falseIn_22 rfl ?_
        refine bc_callV hE (bk_X2_trader G _ R n w _ hR1 t ht) kc_X2 hR1.hr ok_X2_trader (lw_V q1489 q1257 q1258 q72 q1259) rfl rfl (Nat.le_of_ble_eq_true rfl) (by decide) dX2_falseIn_23 (fun _ _ _ h => h.elim) ?_
        rintro v_23 M_23 ⟨rfl, hu_23⟩
        obtain rfl := hu_23.symm
        refine bc_callV hE (bk_X6_drifts G _ (R.tr t) R.r _ _ _ _ _ _ _ _ _ _ htr1) kc_X6 htr1 ok_X6_drifts (lw_V q1396 q1397 q1398 q106 q1399) rfl rfl (Nat.le_of_ble_eq_true rfl) (by decide) dX2_falseIn_26 (fun _ _ _ h => h.elim) ?_
        rintro v_26 M_26 ⟨rfl, e_26⟩
        have hR_r_26 := (congrFun e_26 R.r).trans ((bu_ne (bc_dist hR1.hr htr1 (bc_ci (by decide)))).trans hR1.hr)
        have h_R_tr_t__26 := (congrFun e_26 (R.tr t)).trans (bu_self _ _ _)
        refine vr_iinc hE dX2_falseIn_29 rfl (iinc_1 _) (hnl _ (by decide)) rfl ?_
        refine vr_goto (tgt := 2) hE dX2_falseIn_32 (by decide) ?_
        have hR2 : RoundM Y M_26 R n w (upd s (45 + t) (m_drifted e (s (55 + t)))) := by
          have z := hR1.trader ht (s' := upd s (45 + t) (m_drifted e (s (55 + t)))) (fun k9 hk9 => by
            rw [upd_in (b := 45) (by decide) (by decide) (show t < 10 by have := hR.hn; omega) k9 hk9, upd_in (b := 45) (by decide) (by decide) (show t < 10 by have := hR.hn; omega) k9 hk9])
          rw [tS_er (show t < 10 by have := hR.hn; omega)] at z
          rw [e_26]
          exact z
        exact ih (k + 1) _ M_26 (by omega) (by rw [← he, m_fi, if_neg hin] <;> rfl) hR2 (fun q x z hq => (congrFun e_26 q).trans ((bu_ne hq).trans (hk1 q x z hq)))
      · have hin : in_ e (-4) 4 = 0 := Classical.byContradiction fun z => c_16 (if_pos z)
        refine vr_iload_n hE dX2_falseIn_19 rfl ?_
        refine vr_ireturn hE hQ rfl dX2_falseIn_20 (by decide) ⟨_, ?_, fun H h => hW _ H h⟩
        exact ⟨by rw [← he, m_fi, if_pos hin] <;> rfl, hk1⟩
  have hu : upd s (45 + t) (s (45 + t)) = s := by
    funext k
    by_cases h : k = 45 + t
    · rw [h, pk_us]
    · rw [pk_un h]
  exact hlp_2 61 0 _ M rfl rfl (by rw [hu]; exact hR) (fun q x z _ => z)
