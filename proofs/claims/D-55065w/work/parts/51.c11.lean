/-! the round's picture under each change -/
set_option maxRecDepth 100000
theorem RoundM.rts {Y : bi_Y} {M : va_M} {R : cR} {n w : Nat} {s s' : Nat → Int32} (h : RoundM Y M R n w s) (e : ∀ k, k < 5 ∨ 10 ≤ k → s' k = s k) : RoundM Y (bu M R.ra (eI Y 5 (ar5 s' 5))) R n w s' := by
  have o : ∀ {q : Nat} {ci : Nat} {y : List Value}, M q = some (.inr (ci, y)) → q ≠ R.ra := fun hq => bc_dist hq h.hra bc_oi
  have hn := h.hn
  have hw := h.hw
  refine ⟨?_, ?_, ?_, ?_, ?_, ?_, ?_, fun j hj => ?_, fun j hj => ?_, (e 1 (by omega)).trans h.h1, (e 2 (by omega)).trans h.h2, h.hn, h.hw, h.nrf, h.ntw, h.nte⟩
  · rw [bu_ne (o h.hr), e 0 (by omega), e 3 (by omega), e 4 (by omega)]
    exact h.hr
  · exact bu_self _ _ _
  · rw [bu_ne (Ne.symm h.nrf), h.hfi, ar5_eq (fun j hj => (e (10 + j) (by omega)).symm)]
  · rw [bu_ne (o h.htl)]
    exact h.htl
  · exact h.hte.keep (fun z => bu_ne (bc_dist (h.te_ z) h.hra inl_QI))
  · rw [bu_ne (o h.hwl)]
    exact h.hwl
  · exact h.hwe.keep (fun z => bu_ne (bc_dist (h.we_ z) h.hra inl_QI))
  · rw [bu_ne (o (h.htr j hj))]
    refine (h.htr j hj).trans ?_
    simp only [tS]
    rw [e (15 + j) (by omega), e (25 + j) (by omega), e (35 + j) (by omega), e (45 + j) (by omega), e (55 + j) (by omega), e (65 + j) (by omega), e (75 + j) (by omega), e (85 + j) (by omega), e (95 + j) (by omega)]
  · rw [bu_ne (o (h.hbr j hj))]
    refine (h.hbr j hj).trans ?_
    simp only [bS]
    rw [e (105 + j) (by omega), e (109 + j) (by omega), e (113 + j) (by omega)]
theorem RoundM.fns {Y : bi_Y} {M : va_M} {R : cR} {n w : Nat} {s s' : Nat → Int32} (h : RoundM Y M R n w s) (e : ∀ k, k < 10 ∨ 15 ≤ k → s' k = s k) : RoundM Y (bu M R.fi (eI Y 5 (ar5 s' 10))) R n w s' := by
  have o : ∀ {q : Nat} {ci : Nat} {y : List Value}, M q = some (.inr (ci, y)) → q ≠ R.fi := fun hq => bc_dist hq h.hfi bc_oi
  have hn := h.hn
  have hw := h.hw
  refine ⟨?_, ?_, ?_, ?_, ?_, ?_, ?_, fun j hj => ?_, fun j hj => ?_, (e 1 (by omega)).trans h.h1, (e 2 (by omega)).trans h.h2, h.hn, h.hw, h.nrf, h.ntw, h.nte⟩
  · rw [bu_ne (o h.hr), e 0 (by omega), e 3 (by omega), e 4 (by omega)]
    exact h.hr
  · rw [bu_ne h.nrf, h.hra, ar5_eq (fun j hj => (e (5 + j) (by omega)).symm)]
  · exact bu_self _ _ _
  · rw [bu_ne (o h.htl)]
    exact h.htl
  · exact h.hte.keep (fun z => bu_ne (bc_dist (h.te_ z) h.hfi inl_QI))
  · rw [bu_ne (o h.hwl)]
    exact h.hwl
  · exact h.hwe.keep (fun z => bu_ne (bc_dist (h.we_ z) h.hfi inl_QI))
  · rw [bu_ne (o (h.htr j hj))]
    refine (h.htr j hj).trans ?_
    simp only [tS]
    rw [e (15 + j) (by omega), e (25 + j) (by omega), e (35 + j) (by omega), e (45 + j) (by omega), e (55 + j) (by omega), e (65 + j) (by omega), e (75 + j) (by omega), e (85 + j) (by omega), e (95 + j) (by omega)]
  · rw [bu_ne (o (h.hbr j hj))]
    refine (h.hbr j hj).trans ?_
    simp only [bS]
    rw [e (105 + j) (by omega), e (109 + j) (by omega), e (113 + j) (by omega)]
theorem RoundM.own {Y : bi_Y} {M : va_M} {R : cR} {n w : Nat} {s s' : Nat → Int32} (h : RoundM Y M R n w s) (e : ∀ k, k ≠ 0 → k ≠ 3 → k ≠ 4 → s' k = s k) : RoundM Y (bu M R.r (.inr (1, rL R.ra R.fi R.tl R.wl (s' 0) (s' 3) (s' 4)))) R n w s' := by
  have o : ∀ {q : Nat} {ci : Nat} {y : List Value}, M q = some (.inr (ci, y)) → ci ≠ 1 → q ≠ R.r := fun hq hc => bc_dist hq h.hr (bc_ci hc)
  have i_ : ∀ {q : Nat} {x : ClassId × vp_A}, M q = some (.inl x) → q ≠ R.r := fun hq => bc_dist hq h.hr bc_io
  have hn := h.hn
  have hw := h.hw
  refine ⟨bu_self _ _ _, ?_, ?_, ?_, ?_, ?_, ?_, fun j hj => ?_, fun j hj => ?_, (e 1 (by omega) (by omega) (by omega)).trans h.h1, (e 2 (by omega) (by omega) (by omega)).trans h.h2, h.hn, h.hw, h.nrf, h.ntw, h.nte⟩
  · rw [bu_ne (i_ h.hra), h.hra, ar5_eq (fun j hj => (e (5 + j) (by omega) (by omega) (by omega)).symm)]
  · rw [bu_ne (i_ h.hfi), h.hfi, ar5_eq (fun j hj => (e (10 + j) (by omega) (by omega) (by omega)).symm)]
  · rw [bu_ne (o h.htl (by decide))]
    exact h.htl
  · exact h.hte.keep (fun z => bu_ne (i_ (h.te_ z)))
  · rw [bu_ne (o h.hwl (by decide))]
    exact h.hwl
  · exact h.hwe.keep (fun z => bu_ne (i_ (h.we_ z)))
  · rw [bu_ne (o (h.htr j hj) (by decide))]
    refine (h.htr j hj).trans ?_
    simp only [tS]
    rw [e (15 + j) (by omega) (by omega) (by omega), e (25 + j) (by omega) (by omega) (by omega), e (35 + j) (by omega) (by omega) (by omega), e (45 + j) (by omega) (by omega) (by omega), e (55 + j) (by omega) (by omega) (by omega), e (65 + j) (by omega) (by omega) (by omega), e (75 + j) (by omega) (by omega) (by omega), e (85 + j) (by omega) (by omega) (by omega), e (95 + j) (by omega) (by omega) (by omega)]
  · rw [bu_ne (o (h.hbr j hj) (by decide))]
    refine (h.hbr j hj).trans ?_
    simp only [bS]
    rw [e (105 + j) (by omega) (by omega) (by omega), e (109 + j) (by omega) (by omega) (by omega), e (113 + j) (by omega) (by omega) (by omega)]
theorem RoundM.brass {Y : bi_Y} {M : va_M} {R : cR} {n w : Nat} {s s' : Nat → Int32} (h : RoundM Y M R n w s) {t : Nat} (ht : t < w) (e : ∀ k, (k < 105 ∨ 117 ≤ k ∨ (k - 105) % 4 ≠ t) → s' k = s k) : RoundM Y (bu M (R.br t) (.inr (4, bS s' t))) R n w s' := by
  have o : ∀ {q : Nat} {ci : Nat} {y : List Value}, M q = some (.inr (ci, y)) → ci ≠ 4 → q ≠ R.br t := fun hq hc => bc_dist hq (h.hbr t ht) (bc_ci hc)
  have i_ : ∀ {q : Nat} {x : ClassId × vp_A}, M q = some (.inl x) → q ≠ R.br t := fun hq => bc_dist hq (h.hbr t ht) bc_io
  have hn := h.hn
  have hw := h.hw
  refine ⟨?_, ?_, ?_, ?_, ?_, ?_, ?_, fun j hj => ?_, fun j hj => ?_, (e 1 (by omega)).trans h.h1, (e 2 (by omega)).trans h.h2, h.hn, h.hw, h.nrf, h.ntw, h.nte⟩
  · rw [bu_ne (o h.hr (by decide)), e 0 (by omega), e 3 (by omega), e 4 (by omega)]
    exact h.hr
  · rw [bu_ne (i_ h.hra), h.hra, ar5_eq (fun j hj => (e (5 + j) (by omega)).symm)]
  · rw [bu_ne (i_ h.hfi), h.hfi, ar5_eq (fun j hj => (e (10 + j) (by omega)).symm)]
  · rw [bu_ne (o h.htl (by decide))]
    exact h.htl
  · exact h.hte.keep (fun z => bu_ne (i_ (h.te_ z)))
  · rw [bu_ne (o h.hwl (by decide))]
    exact h.hwl
  · exact h.hwe.keep (fun z => bu_ne (i_ (h.we_ z)))
  · rw [bu_ne (o (h.htr j hj) (by decide))]
    refine (h.htr j hj).trans ?_
    simp only [tS]
    rw [e (15 + j) (by omega), e (25 + j) (by omega), e (35 + j) (by omega), e (45 + j) (by omega), e (55 + j) (by omega), e (65 + j) (by omega), e (75 + j) (by omega), e (85 + j) (by omega), e (95 + j) (by omega)]
  · by_cases hjt : j = t
    · subst hjt
      exact bu_self _ _ _
    · rw [bu_ne (h.br_ne hj ht hjt)]
      refine (h.hbr j hj).trans ?_
      simp only [bS]
      rw [e (105 + j) (by omega), e (109 + j) (by omega), e (113 + j) (by omega)]
theorem RoundM.addT {M' : va_M} {Y : bi_Y} {M : va_M} {R : cR} {n w : Nat} {s s' : Nat → Int32} (h : RoundM Y M R n w s) (hlt : n < 10) {e te' : Nat} (ht : (0 < n ∧ te' = R.te) ∨ (n = 0 ∧ M te' = none)) (he : M e = some (.inr (3, tS s' R.r n))) (e1 : ∀ k, k ≠ 1 → (k < 15 ∨ 105 ≤ k ∨ (k - 15) % 10 ≠ n) → s' k = s k) (e2 : s' 1 = nI (n + 1))
    (hM : M' = bu (bu M te' (eQ Y 10 (va_up (lsf R.tr n) n (some e)))) R.tl (.inr (18, alL (nI n + 1) te' (n + 1)))) : RoundM Y M' (R.r, R.ra, R.fi, R.tl, R.wl, te', R.we, fun j => if j = n then e else R.tr j, R.br) (n + 1) w s' := by
  have hn := h.hn
  have hw := h.hw
  have o1 : ∀ {q : Nat} {ci : Nat} {y : List Value}, M q = some (.inr (ci, y)) → q ≠ te' := fun hq => ht.elim (fun g => by rw [g.2]; exact bc_dist hq (h.te_ g.1) bc_oi) (fun g => bc_new_ne hq g.2)
  have i1 : ∀ {q : Nat} {c : ClassId} {N : Nat} {f : Nat → Int32}, M q = some (.inl (c, N, .inl f)) → q ≠ te' := fun hq => ht.elim (fun g => by rw [g.2]; exact bc_dist hq (h.te_ g.1) (Ne.symm inl_QI)) (fun g => bc_new_ne hq g.2)
  have o2 : ∀ {q : Nat} {ci : Nat} {y : List Value}, M q = some (.inr (ci, y)) → ci ≠ 18 → q ≠ R.tl := fun hq hc => bc_dist hq h.htl (bc_ci hc)
  have i2 : ∀ {q : Nat} {x : ClassId × vp_A}, M q = some (.inl x) → q ≠ R.tl := fun hq => bc_dist hq h.htl bc_io
  have htl : te' ≠ R.tl := ht.elim (fun g => by rw [g.2]; exact bc_dist (h.te_ g.1) h.htl bc_io) (fun g => Ne.symm (bc_new_ne h.htl g.2))
  have keep : ∀ {q : Nat}, q ≠ te' → q ≠ R.tl → M' q = M q := fun g1 g2 => by rw [hM, bu_ne g2, bu_ne g1]
  exact ⟨(by
      show M' R.r = _
      rw [keep (o1 h.hr) (o2 h.hr (by decide)), e1 0 (by omega) (by omega), e1 3 (by omega) (by omega), e1 4 (by omega) (by omega)]
      exact h.hr),
    (by
      show M' R.ra = _
      rw [keep (i1 h.hra) (i2 h.hra), h.hra, ar5_eq (fun j hj => (e1 (5 + j) (by omega) (by omega)).symm)]),
    (by
      show M' R.fi = _
      rw [keep (i1 h.hfi) (i2 h.hfi), h.hfi, ar5_eq (fun j hj => (e1 (10 + j) (by omega) (by omega)).symm)]),
    (by rw [hM, bu_self, nI_1]),
    Or.inr ⟨Nat.succ_pos _, by
      rw [hM, bu_ne htl, bu_self]
      congr 4
      funext j
      simp only [va_up, lsf]
      by_cases hjn : j = n
      · subst hjn
        rw [if_pos rfl, if_pos (Nat.lt_succ_self _)]
        show some e = some (if j = j then e else _)
        rw [if_pos rfl]
      · rw [if_neg hjn]
        by_cases hj2 : j < n
        · rw [if_pos hj2, if_pos (by omega)]
          show some (R.tr j) = some (if j = n then e else R.tr j)
          rw [if_neg hjn]
        · rw [if_neg hj2, if_neg (by omega)]⟩,
    (keep (o1 h.hwl) (Ne.symm h.ntw)).trans h.hwl,
    (h.hwe.keep (fun z => keep (fun y => ht.elim (fun g => absurd (y.trans g.2) (Ne.symm (h.nte g.1 z))) (fun g => bc_new_ne (h.we_ z) g.2 y)) (bc_dist (h.we_ z) h.htl bc_io))),
    (fun j hj => by
      by_cases hjn : j = n
      · subst hjn
        show M' (if j = j then e else R.tr j) = _
        rw [if_pos rfl, keep (o1 he) (o2 he (by decide))]
        exact he
      · show M' (if j = n then e else R.tr j) = _
        have hj2 : j < n := by omega
        rw [if_neg hjn, keep (o1 (h.htr j hj2)) (o2 (h.htr j hj2) (by decide))]
        refine (h.htr j hj2).trans ?_
        simp only [tS]
        rw [e1 (15 + j) (by omega) (by omega), e1 (25 + j) (by omega) (by omega), e1 (35 + j) (by omega) (by omega), e1 (45 + j) (by omega) (by omega), e1 (55 + j) (by omega) (by omega), e1 (65 + j) (by omega) (by omega), e1 (75 + j) (by omega) (by omega), e1 (85 + j) (by omega) (by omega), e1 (95 + j) (by omega) (by omega)]),
    (fun j hj => by
      show M' (R.br j) = _
      rw [keep (o1 (h.hbr j hj)) (o2 (h.hbr j hj) (by decide))]
      refine (h.hbr j hj).trans ?_
      simp only [bS]
      rw [e1 (105 + j) (by omega) (by omega), e1 (109 + j) (by omega) (by omega), e1 (113 + j) (by omega) (by omega)]),
    e2,
    (e1 2 (by omega) (by omega)).trans h.h2,
    (by omega),
    h.hw,
    h.nrf,
    h.ntw,
    (fun _ hw0 => ht.elim (fun g => by show te' ≠ R.we; rw [g.2]; exact h.nte g.1 hw0) (fun g => Ne.symm (bc_new_ne (h.we_ hw0) g.2)))⟩
theorem RoundM.addW {M' : va_M} {Y : bi_Y} {M : va_M} {R : cR} {n w : Nat} {s s' : Nat → Int32} (h : RoundM Y M R n w s) (hlt : w < 4) {e te' : Nat} (ht : (0 < w ∧ te' = R.we) ∨ (w = 0 ∧ M te' = none)) (he : M e = some (.inr (4, bS s' w))) (e1 : ∀ k, k ≠ 2 → (k < 105 ∨ 117 ≤ k ∨ (k - 105) % 4 ≠ w) → s' k = s k) (e2 : s' 2 = nI (w + 1))
    (hM : M' = bu (bu M te' (eQ Y 10 (va_up (lsf R.br w) w (some e)))) R.wl (.inr (18, alL (nI w + 1) te' (w + 1)))) : RoundM Y M' (R.r, R.ra, R.fi, R.tl, R.wl, R.te, te', R.tr, fun j => if j = w then e else R.br j) n (w + 1) s' := by
  have hn := h.hn
  have hw := h.hw
  have o1 : ∀ {q : Nat} {ci : Nat} {y : List Value}, M q = some (.inr (ci, y)) → q ≠ te' := fun hq => ht.elim (fun g => by rw [g.2]; exact bc_dist hq (h.we_ g.1) bc_oi) (fun g => bc_new_ne hq g.2)
  have i1 : ∀ {q : Nat} {c : ClassId} {N : Nat} {f : Nat → Int32}, M q = some (.inl (c, N, .inl f)) → q ≠ te' := fun hq => ht.elim (fun g => by rw [g.2]; exact bc_dist hq (h.we_ g.1) (Ne.symm inl_QI)) (fun g => bc_new_ne hq g.2)
  have o2 : ∀ {q : Nat} {ci : Nat} {y : List Value}, M q = some (.inr (ci, y)) → ci ≠ 18 → q ≠ R.wl := fun hq hc => bc_dist hq h.hwl (bc_ci hc)
  have i2 : ∀ {q : Nat} {x : ClassId × vp_A}, M q = some (.inl x) → q ≠ R.wl := fun hq => bc_dist hq h.hwl bc_io
  have htl : te' ≠ R.wl := ht.elim (fun g => by rw [g.2]; exact bc_dist (h.we_ g.1) h.hwl bc_io) (fun g => Ne.symm (bc_new_ne h.hwl g.2))
  have keep : ∀ {q : Nat}, q ≠ te' → q ≠ R.wl → M' q = M q := fun g1 g2 => by rw [hM, bu_ne g2, bu_ne g1]
  exact ⟨(by
      show M' R.r = _
      rw [keep (o1 h.hr) (o2 h.hr (by decide)), e1 0 (by omega) (by omega), e1 3 (by omega) (by omega), e1 4 (by omega) (by omega)]
      exact h.hr),
    (by
      show M' R.ra = _
      rw [keep (i1 h.hra) (i2 h.hra), h.hra, ar5_eq (fun j hj => (e1 (5 + j) (by omega) (by omega)).symm)]),
    (by
      show M' R.fi = _
      rw [keep (i1 h.hfi) (i2 h.hfi), h.hfi, ar5_eq (fun j hj => (e1 (10 + j) (by omega) (by omega)).symm)]),
    (keep (o1 h.htl) (h.ntw)).trans h.htl,
    (h.hte.keep (fun z => keep (fun y => ht.elim (fun g => absurd (y.trans g.2) (h.nte z g.1)) (fun g => bc_new_ne (h.te_ z) g.2 y)) (bc_dist (h.te_ z) h.hwl bc_io))),
    (by rw [hM, bu_self, nI_1]),
    Or.inr ⟨Nat.succ_pos _, by
      rw [hM, bu_ne htl, bu_self]
      congr 4
      funext j
      simp only [va_up, lsf]
      by_cases hjn : j = w
      · subst hjn
        rw [if_pos rfl, if_pos (Nat.lt_succ_self _)]
        show some e = some (if j = j then e else _)
        rw [if_pos rfl]
      · rw [if_neg hjn]
        by_cases hj2 : j < w
        · rw [if_pos hj2, if_pos (by omega)]
          show some (R.br j) = some (if j = w then e else R.br j)
          rw [if_neg hjn]
        · rw [if_neg hj2, if_neg (by omega)]⟩,
    (fun j hj => by
      show M' (R.tr j) = _
      rw [keep (o1 (h.htr j hj)) (o2 (h.htr j hj) (by decide))]
      refine (h.htr j hj).trans ?_
      simp only [tS]
      rw [e1 (15 + j) (by omega) (by omega), e1 (25 + j) (by omega) (by omega), e1 (35 + j) (by omega) (by omega), e1 (45 + j) (by omega) (by omega), e1 (55 + j) (by omega) (by omega), e1 (65 + j) (by omega) (by omega), e1 (75 + j) (by omega) (by omega), e1 (85 + j) (by omega) (by omega), e1 (95 + j) (by omega) (by omega)]),
    (fun j hj => by
      by_cases hjn : j = w
      · subst hjn
        show M' (if j = j then e else R.br j) = _
        rw [if_pos rfl, keep (o1 he) (o2 he (by decide))]
        exact he
      · show M' (if j = w then e else R.br j) = _
        have hj2 : j < w := by omega
        rw [if_neg hjn, keep (o1 (h.hbr j hj2)) (o2 (h.hbr j hj2) (by decide))]
        refine (h.hbr j hj2).trans ?_
        simp only [bS]
        rw [e1 (105 + j) (by omega) (by omega), e1 (109 + j) (by omega) (by omega), e1 (113 + j) (by omega) (by omega)]),
    (e1 1 (by omega) (by omega)).trans h.h1,
    e2,
    h.hn,
    (by omega),
    h.nrf,
    h.ntw,
    (fun hn0 _ => ht.elim (fun g => by show R.te ≠ te'; rw [g.2]; exact h.nte hn0 g.1) (fun g => bc_new_ne (h.te_ hn0) g.2))⟩

