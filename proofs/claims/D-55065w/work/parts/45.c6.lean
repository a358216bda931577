/-! the round read -/
set_option maxRecDepth 100000
theorem RoundM.te_ {Y : bi_Y} {M : va_M} {R : cR} {n w : Nat} {s : Nat → Int32} (h : RoundM Y M R n w s) (z : 0 < n) : M R.te = some (eQ Y 10 (lsf R.tr n)) := by
  rcases h.hte with ⟨z', -⟩ | ⟨-, h2⟩
  · omega
  · exact h2
theorem RoundM.we_ {Y : bi_Y} {M : va_M} {R : cR} {n w : Nat} {s : Nat → Int32} (h : RoundM Y M R n w s) (z : 0 < w) : M R.we = some (eQ Y 10 (lsf R.br w)) := by
  rcases h.hwe with ⟨z', -⟩ | ⟨-, h2⟩
  · omega
  · exact h2
theorem lsf_lt {tr : Nat → Nat} {n j : Nat} (h : j < n) : lsf tr n j = some (tr j) := if_pos h
theorem c_sum5 (s : Nat → Int32) (b : Nat) : c_sum (ar5 s b) 5 = m_sum s b 5 := rfl
/-- addresses of traders, of weights differ -/
theorem RoundM.tr_ne {Y : bi_Y} {M : va_M} {R : cR} {n w : Nat} {s : Nat → Int32} (h : RoundM Y M R n w s) {i j : Nat} (hi : i < n) (hj : j < n) (hij : i ≠ j) : R.tr i ≠ R.tr j :=
  bc_dist (h.htr i hi) (h.htr j hj) (fun z => by
    have h1 : nI i = nI j := by
      simp only [Sum.inr.injEq, Prod.mk.injEq, tL, List.cons.injEq, Value.int.injEq, true_and] at z
      exact z.1
    exact hij ((nI_eq (by have := h.hn; omega) (by have := h.hn; omega)).mp h1))
theorem RoundM.br_ne {Y : bi_Y} {M : va_M} {R : cR} {n w : Nat} {s : Nat → Int32} (h : RoundM Y M R n w s) {i j : Nat} (hi : i < w) (hj : j < w) (hij : i ≠ j) : R.br i ≠ R.br j :=
  bc_dist (h.hbr i hi) (h.hbr j hj) (fun z => by
    have h1 : nI i = nI j := by
      simp only [Sum.inr.injEq, Prod.mk.injEq, bL, List.cons.injEq, Value.int.injEq, true_and] at z
      exact z.1
    exact hij ((nI_eq (by have := h.hw; omega) (by have := h.hw; omega)).mp h1))
/-- a trader changed: nothing else of the round -/
theorem RoundM.trader {Y : bi_Y} {M : va_M} {R : cR} {n w : Nat} {s s' : Nat → Int32} (h : RoundM Y M R n w s) {t : Nat} (ht : t < n) (hs : ∀ k, (k < 15 ∨ 105 ≤ k ∨ (k - 15) % 10 ≠ t) → s' k = s k) : RoundM Y (bu M (R.tr t) (.inr (3, tS s' R.r t))) R n w s' := by
  have hn := h.hn
  have hw := h.hw
  have e1 : ∀ k, k < 15 → s' k = s k := fun k hk => hs k (Or.inl hk)
  have e2 : ∀ k, 105 ≤ k → s' k = s k := fun k hk => hs k (Or.inr (Or.inl hk))
  have o : ∀ {q : Nat} {ci : Nat} {x : List Value}, M q = some (.inr (ci, x)) → ci ≠ 3 → q ≠ R.tr t := fun hq hc => bc_dist hq (h.htr t ht) (bc_ci hc)
  have i_ : ∀ {q : Nat} {x : ClassId × vp_A}, M q = some (.inl x) → q ≠ R.tr t := fun hq => bc_dist hq (h.htr t ht) bc_io
  refine ⟨?_, ?_, ?_, ?_, ?_, ?_, ?_, fun j hj => ?_, fun j hj => ?_, (e1 1 (by decide)).trans h.h1, (e1 2 (by decide)).trans h.h2, hn, hw, h.nrf, h.ntw, h.nte⟩
  · rw [bu_ne (o h.hr (by decide)), e1 0 (by decide), e1 3 (by decide), e1 4 (by decide)]
    exact h.hr
  · rw [bu_ne (i_ h.hra), h.hra, ar5_eq (fun j hj => (e1 (5 + j) (by omega)).symm)]
  · rw [bu_ne (i_ h.hfi), h.hfi, ar5_eq (fun j hj => (e1 (10 + j) (by omega)).symm)]
  · rw [bu_ne (o h.htl (by decide))]
    exact h.htl
  · exact h.hte.keep (fun z => bu_ne (i_ (h.te_ z)))
  · rw [bu_ne (o h.hwl (by decide))]
    exact h.hwl
  · exact h.hwe.keep (fun z => bu_ne (i_ (h.we_ z)))
  · by_cases hjt : j = t
    · subst hjt
      exact bu_self _ _ _
    · rw [bu_ne (h.tr_ne hj ht hjt)]
      refine (h.htr j hj).trans ?_
      simp only [tS]
      rw [hs (15 + j) (by omega), hs (25 + j) (by omega), hs (35 + j) (by omega), hs (45 + j) (by omega), hs (55 + j) (by omega), hs (65 + j) (by omega), hs (75 + j) (by omega), hs (85 + j) (by omega), hs (95 + j) (by omega)]
  · rw [bu_ne (o (h.hbr j hj) (by decide))]
    refine (h.hbr j hj).trans ?_
    simp only [bS]
    rw [e2 (105 + j) (by omega), e2 (109 + j) (by omega), e2 (113 + j) (by omega)]
theorem ok_X2_trader : bi_ok yX2_trader RX2 1 := by decide +kernel
theorem bk_X2_trader {Y : bi_Y} (G : bi_GS Y) (M : va_M) (R : cR) (n w : Nat) (s : Nat → Int32) (hR : RoundM Y M R n w s) (t : Nat) (ht : t < n) : bc_Met Y yX2_trader (ws_ yX2_trader cX2_trader 2 (some (.object "BrassInspector$Round$Trader"))) 3 64 0 0 M [.ref R.r, .int (nI t)] (fun v M' => v = some (.ref (R.tr t)) ∧ M' = M) bi_nx := by
  refine bc_Met.of (own := RX2) (L0 := [some (.ref R.r), some (.int (nI t))]) rfl (by decide) G (Nat.le_of_ble_eq_true rfl) rfl (fun X A hE hQ hW hnl hnm => ?_)
  have hnl : ∀ q, q < 2 → q < bi_nL X := fun q h => by rw [hnl]; exact h
  refine vr_aload_n hE dX2_trader_0 rfl ?_
  refine bc_get (z := 2) hE kc_X2 (by decide) q178 (Or.inl rfl) hR.hr rfl dX2_trader_1 ?_
  refine vr_iload_n hE dX2_trader_4 rfl ?_
  refine bc_callF (ar := 1) hE (bk_J2_get G _ R.tl R.te n _ hR.htl (lsf R.tr n) (hR.te_ (by omega)) hR.hn t (R.tr t) ht (lsf_lt ht)) kc_J2 hR.htl (by decide +kernel) (lw_Fg q1261 q895 q897 q75 q899) ⟨q894, q893, q898, q896, q477⟩ rfl rfl (Nat.le_of_ble_eq_true rfl) (by decide) dX2_trader_5 (fun _ _ _ h => h.elim) ?_
  rintro v_5 M_5 ⟨rfl, hu_5⟩
  obtain rfl := hu_5.symm
  refine vr_castS hE kc_X6.1 (bc_cls kc_X6 (hR.htr t ht)) q1076 dX2_trader_10 ?_
  refine vr_areturn hE hQ (Or.inl ⟨_, rfl⟩) (Or.inr ⟨_, rfl⟩) dX2_trader_13 (by decide) ⟨_, ?_, fun H h => hW _ H h⟩
  exact ⟨rfl, rfl⟩
theorem ok_X2_weight : bi_ok yX2_weight RX2 1 := by decide +kernel
theorem bk_X2_weight {Y : bi_Y} (G : bi_GS Y) (M : va_M) (R : cR) (n w : Nat) (s : Nat → Int32) (hR : RoundM Y M R n w s) (t : Nat) (ht : t < w) : bc_Met Y yX2_weight (ws_ yX2_weight cX2_weight 2 (some (.object "BrassInspector$Brass"))) 3 64 0 0 M [.ref R.r, .int (nI t)] (fun v M' => v = some (.ref (R.br t)) ∧ M' = M) bi_nx := by
  refine bc_Met.of (own := RX2) (L0 := [some (.ref R.r), some (.int (nI t))]) rfl (by decide) G (Nat.le_of_ble_eq_true rfl) rfl (fun X A hE hQ hW hnl hnm => ?_)
  have hnl : ∀ q, q < 2 → q < bi_nL X := fun q h => by rw [hnl]; exact h
  refine vr_aload_n hE dX2_weight_0 rfl ?_
  refine bc_get (z := 3) hE kc_X2 (by decide) q180 (Or.inl rfl) hR.hr rfl dX2_weight_1 ?_
  refine vr_iload_n hE dX2_weight_4 rfl ?_
  refine bc_callF (ar := 1) hE (bk_J2_get G _ R.wl R.we w _ hR.hwl (lsf R.br w) (hR.we_ (by omega)) (by have := hR.hw; omega) t (R.br t) ht (lsf_lt ht)) kc_J2 hR.hwl (by decide +kernel) (lw_Fg q1261 q895 q897 q75 q899) ⟨q894, q893, q898, q896, q477⟩ rfl rfl (Nat.le_of_ble_eq_true rfl) (by decide) dX2_weight_5 (fun _ _ _ h => h.elim) ?_
  rintro v_5 M_5 ⟨rfl, hu_5⟩
  obtain rfl := hu_5.symm
  refine vr_castS hE kc_X7.1 (bc_cls kc_X7 (hR.hbr t ht)) q1186 dX2_weight_10 ?_
  refine vr_areturn hE hQ (Or.inl ⟨_, rfl⟩) (Or.inr ⟨_, rfl⟩) dX2_weight_13 (by decide) ⟨_, ?_, fun H h => hW _ H h⟩
  exact ⟨rfl, rfl⟩
theorem ok_X2_rateOf : bi_ok yX2_rateOf RX2 1 := by decide +kernel
theorem bk_X2_rateOf {Y : bi_Y} (G : bi_GS Y) (M : va_M) (R : cR) (n w : Nat) (s : Nat → Int32) (hR : RoundM Y M R n w s) (f : Nat) (hf : f < 5) : bc_Met Y yX2_rateOf (ws_ yX2_rateOf cX2_rateOf 2 (some .int)) 0 0 0 0 M [.ref R.r, .int (nI f)] (fun v M' => v = some (.int (s (5 + f))) ∧ M' = M) bi_nx := by
  refine bc_Met.of (own := RX2) (L0 := [some (.ref R.r), some (.int (nI f))]) rfl (by decide) G (Nat.le_of_ble_eq_true rfl) rfl (fun X A hE hQ hW hnl hnm => ?_)
  have hnl : ∀ q, q < 2 → q < bi_nL X := fun q h => by rw [hnl]; exact h
  refine vr_aload_n hE dX2_rateOf_0 rfl ?_
  refine bc_get (z := 0) hE kc_X2 (by decide) q174 (Or.inl rfl) hR.hr rfl dX2_rateOf_1 ?_
  refine vr_iload_n hE dX2_rateOf_4 rfl ?_
  refine bc_iald hE hR.hra rfl (by omega) (by omega) dX2_rateOf_5 ?_
  refine vr_to (w := .int (s (5 + f))) (congrArg Value.int (ar5_lt hf)) ?_
  refine vr_ireturn hE hQ rfl dX2_rateOf_6 (by decide) ⟨_, ?_, fun H h => hW _ H h⟩
  exact ⟨rfl, rfl⟩
theorem ok_X2_finesOf : bi_ok yX2_finesOf RX2 1 := by decide +kernel
theorem bk_X2_finesOf {Y : bi_Y} (G : bi_GS Y) (M : va_M) (R : cR) (n w : Nat) (s : Nat → Int32) (hR : RoundM Y M R n w s) (f : Nat) (hf : f < 5) : bc_Met Y yX2_finesOf (ws_ yX2_finesOf cX2_finesOf 2 (some .int)) 0 0 0 0 M [.ref R.r, .int (nI f)] (fun v M' => v = some (.int (s (10 + f))) ∧ M' = M) bi_nx := by
  refine bc_Met.of (own := RX2) (L0 := [some (.ref R.r), some (.int (nI f))]) rfl (by decide) G (Nat.le_of_ble_eq_true rfl) rfl (fun X A hE hQ hW hnl hnm => ?_)
  have hnl : ∀ q, q < 2 → q < bi_nL X := fun q h => by rw [hnl]; exact h
  refine vr_aload_n hE dX2_finesOf_0 rfl ?_
  refine bc_get (z := 1) hE kc_X2 (by decide) q176 (Or.inl rfl) hR.hr rfl dX2_finesOf_1 ?_
  refine vr_iload_n hE dX2_finesOf_4 rfl ?_
  refine bc_iald hE hR.hfi rfl (by omega) (by omega) dX2_finesOf_5 ?_
  refine vr_to (w := .int (s (10 + f))) (congrArg Value.int (ar5_lt hf)) ?_
  refine vr_ireturn hE hQ rfl dX2_finesOf_6 (by decide) ⟨_, ?_, fun H h => hW _ H h⟩
  exact ⟨rfl, rfl⟩
theorem ok_X2_allFines : bi_ok yX2_allFines RX2 0 := by decide +kernel
theorem bk_X2_allFines {Y : bi_Y} (G : bi_GS Y) (M : va_M) (R : cR) (n w : Nat) (s : Nat → Int32) (hR : RoundM Y M R n w s) : bc_Met Y yX2_allFines (ws_ yX2_allFines cX2_allFines 1 (some .int)) 1 25 0 0 M [.ref R.r] (fun v M' => v = some (.int (m_sum s 10 5)) ∧ M' = M) bi_nx := by
  refine bc_Met.of (own := RX2) (L0 := [some (.ref R.r)]) rfl (by decide) G (Nat.le_of_ble_eq_true rfl) rfl (fun X A hE hQ hW hnl hnm => ?_)
  have hnl : ∀ q, q < 1 → q < bi_nL X := fun q h => by rw [hnl]; exact h
  refine vr_aload_n hE dX2_allFines_0 rfl ?_
  refine bc_get (z := 1) hE kc_X2 (by decide) q176 (Or.inl rfl) hR.hr rfl dX2_allFines_1 ?_
  refine bc_callSN hE (bk_X1_sum G _ R.fi 5 (by decide) _ hR.hfi) ok_X1_sum q287 q288 q71 q289 rfl rfl (Nat.le_of_ble_eq_true rfl) (by decide) dX2_allFines_4 (fun _ _ _ h => h.elim) ?_
  rintro v_4 M_4 ⟨rfl, hu_4⟩
  obtain rfl := hu_4.symm
  refine vr_ireturn hE hQ rfl dX2_allFines_7 (by decide) ⟨_, ?_, fun H h => hW _ H h⟩
  exact ⟨by rw [c_sum5], rfl⟩
