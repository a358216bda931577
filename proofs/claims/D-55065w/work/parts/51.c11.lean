/-! the round's picture under each change -/
set_option maxRecDepth 100000
theorem RoundM.rts {Y : bi_Y} {M : va_M} {R : cR} {n w : Nat} {s s' : Nat → Int32} (h : RoundM Y M R n w s) (e : ∀ k, k < 5 ∨ 10 ≤ k → s' k = s k) : RoundM Y (bu M R.ra (eI Y 5 (ar5 s' 5))) R n w s' := by
  have o : ∀ {q : Nat} {ci : Nat} {y : List Value}, M q = some (.inr (ci, y)) → q ≠ R.ra := fun hq => bc_dist hq h.hra bc_oi
  have hn := h.hn
  have hw := h.hw
  refine ⟨?_, ?_, ?_, ?_, ?_, ?_, ?_, fun j hj => ?_, fun j hj => ?_, (e 1 (by omega)).trans h.h1, (e 2 (by omega)).trans h.h2, h.hn, h.hw, h.nrf, h.ntw, h.nte⟩
  · rw [bu_ne (o h.hr), e 0 (by omega), e 3 (by omega), e 4 (by omega)]
    exact h.hr
  · exact bu_self _ _ _
  · rw [bu_ne (Ne.symm h.nrf), h.hfi, ar5_eq (fun j hj => (e (10 + j) (by omega)).symm)]
  · rw [bu_ne (o h.htl)]
    exact h.htl
  · exact h.hte.keep (fun z => bu_ne (bc_dist (h.te_ z) h.hra inl_QI))
  · rw [bu_ne (o h.hwl)]
    exact h.hwl
  · exact h.hwe.keep (fun z => bu_ne (bc_dist (h.we_ z) h.hra inl_QI))
  · rw [bu_ne (o (h.htr j hj))]
    refine (h.htr j hj).trans ?_
    simp only [tS]
    rw [e (15 + j) (by omega), e (25 + j) (by omega), e (35 + j) (by omega), e (45 + j) (by omega), e (55 + j) (by omega), e (65 + j) (by omega), e (75 + j) (by omega), e (85 + j) (by omega), e (95 + j) (by omega)]
  · rw [bu_ne (o (h.hbr j hj))]
    refine (h.hbr j hj).trans ?_
    simp only [bS]
    rw [e (105 + j) (by omega), e (109 + j) (by omega), e (113 + j) (by omega)]
theorem RoundM.fns {Y : bi_Y} {M : va_M} {R : cR} {n w : Nat} {s s' : Nat → Int32} (h : RoundM Y M R n w s) (e : ∀ k, k < 10 ∨ 15 ≤ k → s' k = s k) : RoundM Y (bu M R.fi (eI Y 5 (ar5 s' 10))) R n w s' := by
  have o : ∀ {q : Nat} {ci : Nat} {y : List Value}, M q = some (.inr (ci, y)) → q ≠ R.fi := fun hq => bc_dist hq h.hfi bc_oi
  have hn := h.hn
  have hw := h.hw
  refine ⟨?_, ?_, ?_, ?_, ?_, ?_, ?_, fun j hj => ?_, fun j hj => ?_, (e 1 (by omega)).trans h.h1, (e 2 (by omega)).trans h.h2, h.hn, h.hw, h.nrf, h.ntw, h.nte⟩
  · rw [bu_ne (o h.hr), e 0 (by omega), e 3 (by omega), e 4 (by omega)]
    exact h.hr
  · rw [bu_ne h.nrf, h.hra, ar5_eq (fun j hj => (e (5 + j) (by omega)).symm)]
  · exact bu_self _ _ _
  · rw [bu_ne (o h.htl)]
    exact h.htl
  · exact h.hte.keep (fun z => bu_ne (bc_dist (h.te_ z) h.hfi inl_QI))
  · rw [bu_ne (o h.hwl)]
    exact h.hwl
  · exact h.hwe.keep (fun z => bu_ne (bc_dist (h.we_ z) h.hfi inl_QI))
  · rw [bu_ne (o (h.htr j hj))]
    refine (h.htr j hj).trans ?_
    simp only [tS]
    rw [e (15 + j) (by omega), e (25 + j) (by omega), e (35 + j) (by omega), e (45 + j) (by omega), e (55 + j) (by omega), e (65 + j) (by omega), e (75 + j) (by omega), e (85 + j) (by omega), e (95 + j) (by omega)]
  · rw [bu_ne (o (h.hbr j hj))]
    refine (h.hbr j hj).trans ?_
    simp only [bS]
    rw [e (105 + j) (by omega), e (109 + j) (by omega), e (113 + j) (by omega)]
theorem RoundM.own {Y : bi_Y} {M : va_M} {R : cR} {n w : Nat} {s s' : Nat → Int32} (h : RoundM Y M R n w s) (e : ∀ k, k ≠ 0 → k ≠ 3 → k ≠ 4 → s' k = s k) : RoundM Y (bu M R.r (.inr (1, rL R.ra R.fi R.tl R.wl (s' 0) (s' 3) (s' 4)))) R n w s' := by
  have o : ∀ {q : Nat} {ci : Nat} {y : List Value}, M q = some (.inr (ci, y)) → ci ≠ 1 → q ≠ R.r := fun hq hc => bc_dist hq h.hr (bc_ci hc)
  have i_ : ∀ {q : Nat} {x : ClassId × vp_A}, M q = some (.inl x) → q ≠ R.r := fun hq => bc_dist hq h.hr bc_io
  have hn := h.hn
  have hw := h.hw
  refine ⟨bu_self _ _ _, ?_, ?_, ?_, ?_, ?_, ?_, fun j hj => ?_, fun j hj => ?_, (e 1 (by omega) (by omega) (by omega)).trans h.h1, (e 2 (by omega) (by omega) (by omega)).trans h.h2, h.hn, h.hw, h.nrf, h.ntw, h.nte⟩
  · rw [bu_ne (i_ h.hra), h.hra, ar5_eq (fun j hj => (e (5 + j) (by omega) (by omega) (by omega)).symm)]
  · rw [bu_ne (i_ h.hfi), h.hfi, ar5_eq (fun j hj => (e (10 + j) (by omega) (by omega) (by omega)).symm)]
  · rw [bu_ne (o h.htl (by decide))]
    exact h.htl
  · exact h.hte.keep (fun z => bu_ne (i_ (h.te_ z)))
  · rw [bu_ne (o h.hwl (by decide))]
    exact h.hwl
  · exact h.hwe.keep (fun z => bu_ne (i_ (h.we_ z)))
  · rw [bu_ne (o (h.htr j hj) (by decide))]
    refine (h.htr j hj).trans ?_
    simp only [tS]
    rw [e (15 + j) (by omega) (by omega) (by omega), e (25 + j) (by omega) (by omega) (by omega), e (35 + j) (by omega) (by omega) (by omega), e (45 + j) (by omega) (by omega) (by omega), e (55 + j) (by omega) (by omega) (by omega), e (65 + j) (by omega) (by omega) (by omega), e (75 + j) (by omega) (by omega) (by omega), e (85 + j) (by omega) (by omega) (by omega), e (95 + j) (by omega) (by omega) (by omega)]
  · rw [bu_ne (o (h.hbr j hj) (by decide))]
    refine (h.hbr j hj).trans ?_
    simp only [bS]
    rw [e (105 + j) (by omega) (by omega) (by omega), e (109 + j) (by omega) (by omega) (by omega), e (113 + j) (by omega) (by omega) (by omega)]
theorem RoundM.brass {Y : bi_Y} {M : va_M} {R : cR} {n w : Nat} {s s' : Nat → Int32} (h : RoundM Y M R n w s) {t : Nat} (ht : t < w) (e : ∀ k, (k < 105 ∨ 117 ≤ k ∨ (k - 105) % 4 ≠ t) → s' k = s k) : RoundM Y (bu M (R.br t) (.inr (4, bS s' t))) R n w s' := by
  have o : ∀ {q : Nat} {ci : Nat} {y : List Value}, M q = some (.inr (ci, y)) → ci ≠ 4 → q ≠ R.br t := fun hq hc => bc_dist hq (h.hbr t ht) (bc_ci hc)
  have i_ : ∀ {q : Nat} {x : ClassId × vp_A}, M q = some (.inl x) → q ≠ R.br t := fun hq => bc_dist hq (h.hbr t ht) bc_io
  have hn := h.hn
  have hw := h.hw
  refine ⟨?_, ?_, ?_, ?_, ?_, ?_, ?_, fun j hj => ?_, fun j hj => ?_, (e 1 (by omega)).trans h.h1, (e 2 (by omega)).trans h.h2, h.hn, h.hw, h.nrf, h.ntw, h.nte⟩
  · rw [bu_ne (o h.hr (by decide)), e 0 (by omega), e 3 (by omega), e 4 (by omega)]
    exact h.hr
  · rw [bu_ne (i_ h.hra), h.hra, ar5_eq (fun j hj => (e (5 + j) (by omega)).symm)]
  · rw [bu_ne (i_ h.hfi), h.hfi, ar5_eq (fun j hj => (e (10 + j) (by omega)).symm)]
  · rw [bu_ne (o h.htl (by decide))]
    exact h.htl
  · exact h.hte.keep (fun z => bu_ne (i_ (h.te_ z)))
  · rw [bu_ne (o h.hwl (by decide))]
    exact h.hwl
  · exact h.hwe.keep (fun z => bu_ne (i_ (h.we_ z)))
  · rw [bu_ne (o (h.htr j hj) (by decide))]
    refine (h.htr j hj).trans ?_
    simp only [tS]
    rw [e (15 + j) (by omega), e (25 + j) (by omega), e (35 + j) (by omega), e (45 + j) (by omega), e (55 + j) (by omega), e (65 + j) (by omega), e (75 + j) (by omega), e (85 + j) (by omega), e (95 + j) (by omega)]
  · by_cases hjt : j = t
    · subst hjt
      exact bu_self _ _ _
    · rw [bu_ne (h.br_ne hj ht hjt)]
      refine (h.hbr j hj).trans ?_
      simp only [bS]
      rw [e (105 + j) (by omega), e (109 + j) (by omega), e (113 + j) (by omega)]

