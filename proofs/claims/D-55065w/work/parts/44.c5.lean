/-! THE ROUND: where it stands (cR), what stands there (RoundM): the same row of numbers s as the reference's -/
set_option maxRecDepth 100000
def cR : Type := Nat × Nat × Nat × Nat × Nat × Nat × Nat × (Nat → Nat) × (Nat → Nat)
abbrev cR.r (R : cR) : Nat := R.1
abbrev cR.ra (R : cR) : Nat := R.2.1
abbrev cR.fi (R : cR) : Nat := R.2.2.1
abbrev cR.tl (R : cR) : Nat := R.2.2.2.1
abbrev cR.wl (R : cR) : Nat := R.2.2.2.2.1
abbrev cR.te (R : cR) : Nat := R.2.2.2.2.2.1
abbrev cR.we (R : cR) : Nat := R.2.2.2.2.2.2.1
abbrev cR.tr (R : cR) : Nat → Nat := R.2.2.2.2.2.2.2.1
abbrev cR.br (R : cR) : Nat → Nat := R.2.2.2.2.2.2.2.2
abbrev tS (s : Nat → Int32) (r j : Nat) : List Value := tL (nI j) (s (15 + j)) (s (25 + j)) (s (35 + j)) (s (45 + j)) (s (55 + j)) (s (65 + j)) (s (75 + j)) (s (85 + j)) (s (95 + j)) r
abbrev bS (s : Nat → Int32) (j : Nat) : List Value := bL (nI j) (s (105 + j)) (s (109 + j)) (s (113 + j))
def ar5 (s : Nat → Int32) (b : Nat) : Nat → Int32 := fun j => if j < 5 then s (b + j) else 0
theorem ar5_lt {s : Nat → Int32} {b j : Nat} (h : j < 5) : ar5 s b j = s (b + j) := if_pos h
theorem ar5_eq {s s' : Nat → Int32} {b : Nat} (h : ∀ j, j < 5 → s' (b + j) = s (b + j)) : ar5 s' b = ar5 s b := by
  funext j
  simp only [ar5]
  by_cases hj : j < 5
  · rw [if_pos hj, if_pos hj, h j hj]
  · rw [if_neg hj, if_neg hj]
def lsf (tr : Nat → Nat) (n : Nat) : Nat → Option Nat := fun j => if j < n then some (tr j) else none
def lsM (Y : bi_Y) (M : va_M) (te n : Nat) (tr : Nat → Nat) : Prop := (n = 0 ∧ isEA Y te) ∨ (0 < n ∧ M te = some (eQ Y 10 (lsf tr n)))
def RoundM (Y : bi_Y) (M : va_M) (R : cR) (n w : Nat) (s : Nat → Int32) : Prop :=
  (M R.r = some (.inr (1, rL R.ra R.fi R.tl R.wl (s 0) (s 3) (s 4)))) ∧
  (M R.ra = some (eI Y 5 (ar5 s 5))) ∧
  (M R.fi = some (eI Y 5 (ar5 s 10))) ∧
  (M R.tl = some (.inr (18, alL (nI n) R.te n))) ∧
  (lsM Y M R.te n R.tr) ∧
  (M R.wl = some (.inr (18, alL (nI w) R.we w))) ∧
  (lsM Y M R.we w R.br) ∧
  (∀ j, j < n → M (R.tr j) = some (.inr (3, tS s R.r j))) ∧
  (∀ j, j < w → M (R.br j) = some (.inr (4, bS s j))) ∧
  (s 1 = nI n) ∧
  (s 2 = nI w) ∧
  (n ≤ 10) ∧
  (w ≤ 4) ∧
  (R.ra ≠ R.fi) ∧
  (R.tl ≠ R.wl) ∧
  (0 < n → 0 < w → R.te ≠ R.we)
theorem RoundM.hr {Y : bi_Y} {M : va_M} {R : cR} {n w : Nat} {s : Nat → Int32} (h : RoundM Y M R n w s) : M R.r = some (.inr (1, rL R.ra R.fi R.tl R.wl (s 0) (s 3) (s 4))) := h.1
theorem RoundM.hra {Y : bi_Y} {M : va_M} {R : cR} {n w : Nat} {s : Nat → Int32} (h : RoundM Y M R n w s) : M R.ra = some (eI Y 5 (ar5 s 5)) := h.2.1
theorem RoundM.hfi {Y : bi_Y} {M : va_M} {R : cR} {n w : Nat} {s : Nat → Int32} (h : RoundM Y M R n w s) : M R.fi = some (eI Y 5 (ar5 s 10)) := h.2.2.1
theorem RoundM.htl {Y : bi_Y} {M : va_M} {R : cR} {n w : Nat} {s : Nat → Int32} (h : RoundM Y M R n w s) : M R.tl = some (.inr (18, alL (nI n) R.te n)) := h.2.2.2.1
theorem RoundM.hte {Y : bi_Y} {M : va_M} {R : cR} {n w : Nat} {s : Nat → Int32} (h : RoundM Y M R n w s) : lsM Y M R.te n R.tr := h.2.2.2.2.1
theorem RoundM.hwl {Y : bi_Y} {M : va_M} {R : cR} {n w : Nat} {s : Nat → Int32} (h : RoundM Y M R n w s) : M R.wl = some (.inr (18, alL (nI w) R.we w)) := h.2.2.2.2.2.1
theorem RoundM.hwe {Y : bi_Y} {M : va_M} {R : cR} {n w : Nat} {s : Nat → Int32} (h : RoundM Y M R n w s) : lsM Y M R.we w R.br := h.2.2.2.2.2.2.1
theorem RoundM.htr {Y : bi_Y} {M : va_M} {R : cR} {n w : Nat} {s : Nat → Int32} (h : RoundM Y M R n w s) : ∀ j, j < n → M (R.tr j) = some (.inr (3, tS s R.r j)) := h.2.2.2.2.2.2.2.1
theorem RoundM.hbr {Y : bi_Y} {M : va_M} {R : cR} {n w : Nat} {s : Nat → Int32} (h : RoundM Y M R n w s) : ∀ j, j < w → M (R.br j) = some (.inr (4, bS s j)) := h.2.2.2.2.2.2.2.2.1
theorem RoundM.h1 {Y : bi_Y} {M : va_M} {R : cR} {n w : Nat} {s : Nat → Int32} (h : RoundM Y M R n w s) : s 1 = nI n := h.2.2.2.2.2.2.2.2.2.1
theorem RoundM.h2 {Y : bi_Y} {M : va_M} {R : cR} {n w : Nat} {s : Nat → Int32} (h : RoundM Y M R n w s) : s 2 = nI w := h.2.2.2.2.2.2.2.2.2.2.1
theorem RoundM.hn {Y : bi_Y} {M : va_M} {R : cR} {n w : Nat} {s : Nat → Int32} (h : RoundM Y M R n w s) : n ≤ 10 := h.2.2.2.2.2.2.2.2.2.2.2.1
theorem RoundM.hw {Y : bi_Y} {M : va_M} {R : cR} {n w : Nat} {s : Nat → Int32} (h : RoundM Y M R n w s) : w ≤ 4 := h.2.2.2.2.2.2.2.2.2.2.2.2.1
theorem RoundM.nrf {Y : bi_Y} {M : va_M} {R : cR} {n w : Nat} {s : Nat → Int32} (h : RoundM Y M R n w s) : R.ra ≠ R.fi := h.2.2.2.2.2.2.2.2.2.2.2.2.2.1
theorem RoundM.ntw {Y : bi_Y} {M : va_M} {R : cR} {n w : Nat} {s : Nat → Int32} (h : RoundM Y M R n w s) : R.tl ≠ R.wl := h.2.2.2.2.2.2.2.2.2.2.2.2.2.2.1
theorem RoundM.nte {Y : bi_Y} {M : va_M} {R : cR} {n w : Nat} {s : Nat → Int32} (h : RoundM Y M R n w s) : 0 < n → 0 < w → R.te ≠ R.we := h.2.2.2.2.2.2.2.2.2.2.2.2.2.2.2
/-- its cells -/
def fpr (R : cR) (n w : Nat) (q : Nat) : Prop := q = R.r ∨ q = R.ra ∨ q = R.fi ∨ q = R.tl ∨ q = R.wl ∨ (0 < n ∧ q = R.te) ∨ (0 < w ∧ q = R.we) ∨ (∃ j, j < n ∧ q = R.tr j) ∨ (∃ j, j < w ∧ q = R.br j)
/-- a round's cells alone changed -/
def cKeep (M M' : va_M) (R : cR) (n w : Nat) : Prop := ∀ q e, M q = some e → ¬ fpr R n w q → M' q = some e
theorem lsM.keep {Y : bi_Y} {M M' : va_M} {te n : Nat} {tr : Nat → Nat} (h : lsM Y M te n tr) (k : 0 < n → M' te = M te) : lsM Y M' te n tr := by
  rcases h with h | ⟨h, h2⟩
  · exact Or.inl h
  · exact Or.inr ⟨h, (k h).trans h2⟩
/-- a round stays where its cells stay -/
theorem RoundM.keep {Y : bi_Y} {M M' : va_M} {R : cR} {n w : Nat} {s : Nat → Int32} (h : RoundM Y M R n w s) (k : ∀ q, fpr R n w q → M' q = M q) : RoundM Y M' R n w s :=
  ⟨(k _ (Or.inl rfl)).trans h.hr,
    (k _ (Or.inr (Or.inl rfl))).trans h.hra,
    (k _ (Or.inr (Or.inr (Or.inl rfl)))).trans h.hfi,
    (k _ (Or.inr (Or.inr (Or.inr (Or.inl rfl))))).trans h.htl,
    h.hte.keep (fun z => k _ (Or.inr (Or.inr (Or.inr (Or.inr (Or.inr (Or.inl ⟨z, rfl⟩))))))),
    (k _ (Or.inr (Or.inr (Or.inr (Or.inr (Or.inl rfl)))))).trans h.hwl,
    h.hwe.keep (fun z => k _ (Or.inr (Or.inr (Or.inr (Or.inr (Or.inr (Or.inr (Or.inl ⟨z, rfl⟩)))))))),
    fun j hj => (k _ (Or.inr (Or.inr (Or.inr (Or.inr (Or.inr (Or.inr (Or.inr (Or.inl ⟨j, hj, rfl⟩))))))))).trans (h.htr j hj),
    fun j hj => (k _ (Or.inr (Or.inr (Or.inr (Or.inr (Or.inr (Or.inr (Or.inr (Or.inr ⟨j, hj, rfl⟩))))))))).trans (h.hbr j hj),
    h.h1,
    h.h2,
    h.hn,
    h.hw,
    h.nrf,
    h.ntw,
    h.nte⟩
theorem RoundM.known {Y : bi_Y} {M : va_M} {R : cR} {n w : Nat} {s : Nat → Int32} (h : RoundM Y M R n w s) : ∀ q, fpr R n w q → ∃ e, M q = some e := by
  intro q hq
  rcases hq with rfl | rfl | rfl | rfl | rfl | ⟨z, rfl⟩ | ⟨z, rfl⟩ | ⟨j, hj, rfl⟩ | ⟨j, hj, rfl⟩
  · exact ⟨_, h.hr⟩
  · exact ⟨_, h.hra⟩
  · exact ⟨_, h.hfi⟩
  · exact ⟨_, h.htl⟩
  · exact ⟨_, h.hwl⟩
  · rcases h.hte with ⟨z', -⟩ | ⟨-, h2⟩
    · omega
    · exact ⟨_, h2⟩
  · rcases h.hwe with ⟨z', -⟩ | ⟨-, h2⟩
    · omega
    · exact ⟨_, h2⟩
  · exact ⟨_, h.htr j hj⟩
  · exact ⟨_, h.hbr j hj⟩
/-- .. in a world that tells the same, and more -/
theorem RoundM.ext {Y : bi_Y} {M M' : va_M} {R : cR} {n w : Nat} {s : Nat → Int32} (h : RoundM Y M R n w s) (k : ∀ q e, M q = some e → M' q = some e) : RoundM Y M' R n w s :=
  h.keep (fun q hq => by
    obtain ⟨e, he⟩ := h.known q hq
    rw [he, k q e he])
def c_two (i : Nat) : Nat → Int32 := fun j => if j < i then 2 else 0
theorem c_two_s (i : Nat) : upd (c_two i) i 2 = c_two (i + 1) := by
  funext j
  simp only [upd, c_two]
  by_cases h : j = i
  · rw [if_pos h, if_pos (by omega)]
  · rw [if_neg h]
    by_cases h2 : j < i
    · rw [if_pos h2, if_pos (by omega)]
    · rw [if_neg h2, if_neg (by omega)]
/-- the first round's numbers -/
def s_0 : Nat → Int32 := fun k => if 5 ≤ k ∧ k < 10 then 2 else 0
theorem c_two_0 : c_two 5 = ar5 s_0 5 := by
  funext j
  simp only [c_two, s_0, ar5]
  by_cases h : j < 5
  · rw [if_pos h, if_pos h, if_pos ⟨by omega, by omega⟩]
  · rw [if_neg h, if_neg h]
theorem s_0_f : (fun _ => 0 : Nat → Int32) = ar5 s_0 10 := by
  funext j
  simp only [s_0, ar5]
  by_cases h : j < 5
  · rw [if_pos h, if_neg (fun z => by omega)]
  · rw [if_neg h]
theorem ok_X2_init : bi_ok yX2_init RX2 0 := by decide +kernel
theorem bk_X2_init {Y : bi_Y} (G : bi_GS Y) (M : va_M) (r : Nat) (h_r : M r = some (.inr (1, [.null, .null, .null, .null, .int 0, .int 0, .int 0]))) (ea : Nat) (hea : isEA Y ea) : bc_Met Y yX2_init (ws_ yX2_init cX2_init 2 none) 4 88 4 16 M [.ref r] (fun v M' => ∃ R : cR, R.r = r ∧ v = none ∧ RoundM Y M' R 0 0 s_0 ∧ (∀ q e, M q = some e → q ≠ r → M' q = some e) ∧ ∀ q, fpr R 0 0 q → q = r ∨ M q = none) bi_nx := by
  refine bc_Met.of (own := RX2) (L0 := [some (.ref r), none]) rfl (by decide) G (Nat.le_of_ble_eq_true rfl) rfl (fun X A hE hQ hW hnl hnm => ?_)
  have hnl : ∀ q, q < 2 → q < bi_nL X := fun q h => by rw [hnl]; exact h
  refine vr_aload_n hE dX2_init_0 rfl ?_
  refine vr_objInit hE q139 q132 q133 dX2_init_1 ⟨by decide, Nat.le_of_ble_eq_true rfl⟩ ?_
  refine vr_aload_n hE dX2_init_4 rfl ?_
  refine vr_iconst (v := 5) hE dX2_init_5 (by decide) ?_
  refine bc_newi (N := 5) hE q173 rfl (by decide) (by decide) dX2_init_6 (fun ra hn_ra => ?_)
  refine bc_nm (fun M_6 e_6 => ?_)
  have nr_ra := bc_new_ne h_r hn_ra
  have hz_ra : M ra = none := hn_ra
  have hr_6 := (congrFun e_6 r).trans ((bu_ne nr_ra).trans h_r)
  have hra_6 := (congrFun e_6 ra).trans (bu_self _ _ _)
  refine bc_putF (z := 0) hE kc_X2 (by decide) q174 rfl rfl (hnm _ rfl) hr_6 rfl rfl (Nat.le_of_ble_eq_true rfl) dX2_init_8 (by first | decide | omega) ?_
  refine bc_nm (fun M_8 e_8 => ?_)
  have hra_8 := (congrFun e_8 ra).trans ((bu_ne (Ne.symm nr_ra)).trans hra_6)
  have hr_8 := (congrFun e_8 r).trans (bu_self _ _ _)
  refine vr_aload_n hE dX2_init_11 rfl ?_
  refine vr_iconst (v := 5) hE dX2_init_12 (by decide) ?_
  refine bc_newi (N := 5) hE q173 rfl (by decide) (by decide) dX2_init_13 (fun fi hn_fi => ?_)
  refine bc_nm (fun M_13 e_13 => ?_)
  have nra_fi := bc_new_ne hra_8 hn_fi
  have nr_fi := bc_new_ne hr_8 hn_fi
  have hz_fi : M fi = none := (bu_none ((congrFun e_6 _).symm.trans (bu_none ((congrFun e_8 _).symm.trans hn_fi))))
  have hra_13 := (congrFun e_13 ra).trans ((bu_ne nra_fi).trans hra_8)
  have hr_13 := (congrFun e_13 r).trans ((bu_ne nr_fi).trans hr_8)
  have hfi_13 := (congrFun e_13 fi).trans (bu_self _ _ _)
  refine bc_putF (z := 1) hE kc_X2 (by decide) q176 rfl rfl (hnm _ rfl) hr_13 rfl rfl (Nat.le_of_ble_eq_true rfl) dX2_init_15 (by first | decide | omega) ?_
  refine bc_nm (fun M_15 e_15 => ?_)
  have hra_15 := (congrFun e_15 ra).trans ((bu_ne (Ne.symm nr_ra)).trans hra_13)
  have hfi_15 := (congrFun e_15 fi).trans ((bu_ne (Ne.symm nr_fi)).trans hfi_13)
  have hr_15 := (congrFun e_15 r).trans (bu_self _ _ _)
  refine vr_aload_n hE dX2_init_18 rfl ?_
  refine bc_new (fs := [.int 0, .null, .int 0]) hE kc_J2 q140 q141 q75 df_J2 (by decide) (by decide) dX2_init_19 (fun tl hn_tl => ?_)
  refine bc_nm (fun M_19 e_19 => ?_)
  have nra_tl := bc_new_ne hra_15 hn_tl
  have nfi_tl := bc_new_ne hfi_15 hn_tl
  have nr_tl := bc_new_ne hr_15 hn_tl
  have hz_tl : M tl = none := (bu_none ((congrFun e_6 _).symm.trans (bu_none ((congrFun e_8 _).symm.trans (bu_none ((congrFun e_13 _).symm.trans (bu_none ((congrFun e_15 _).symm.trans hn_tl))))))))
  have hra_19 := (congrFun e_19 ra).trans ((bu_ne nra_tl).trans hra_15)
  have hfi_19 := (congrFun e_19 fi).trans ((bu_ne nfi_tl).trans hfi_15)
  have hr_19 := (congrFun e_19 r).trans ((bu_ne nr_tl).trans hr_15)
  have htl_19 := (congrFun e_19 tl).trans (bu_self _ _ _)
  refine vr_dup hE dX2_init_22 rfl ?_
  refine bc_callI hE (bk_J2_init G _ tl htl_19 ea hea) ok_J2_init rfl q142 q143 q75 q144 rfl rfl (Nat.le_of_ble_eq_true rfl) (by decide) dX2_init_23 (fun _ _ _ h => h.elim) ?_
  rintro v_23 M_23 ⟨rfl, e_23⟩
  have hra_23 := (congrFun e_23 ra).trans ((bu_ne nra_tl).trans hra_19)
  have hfi_23 := (congrFun e_23 fi).trans ((bu_ne nfi_tl).trans hfi_19)
  have hr_23 := (congrFun e_23 r).trans ((bu_ne nr_tl).trans hr_19)
  have htl_23 := (congrFun e_23 tl).trans (bu_self _ _ _)
  refine bc_putF (z := 2) hE kc_X2 (by decide) q178 rfl rfl (hnm _ rfl) hr_23 rfl rfl (Nat.le_of_ble_eq_true rfl) dX2_init_26 (by first | decide | omega) ?_
  refine bc_nm (fun M_26 e_26 => ?_)
  have hra_26 := (congrFun e_26 ra).trans ((bu_ne (Ne.symm nr_ra)).trans hra_23)
  have hfi_26 := (congrFun e_26 fi).trans ((bu_ne (Ne.symm nr_fi)).trans hfi_23)
  have htl_26 := (congrFun e_26 tl).trans ((bu_ne (Ne.symm nr_tl)).trans htl_23)
  have hr_26 := (congrFun e_26 r).trans (bu_self _ _ _)
  refine vr_aload_n hE dX2_init_29 rfl ?_
  refine bc_new (fs := [.int 0, .null, .int 0]) hE kc_J2 q140 q141 q75 df_J2 (by decide) (by decide) dX2_init_30 (fun wl hn_wl => ?_)
  refine bc_nm (fun M_30 e_30 => ?_)
  have nra_wl := bc_new_ne hra_26 hn_wl
  have nfi_wl := bc_new_ne hfi_26 hn_wl
  have ntl_wl := bc_new_ne htl_26 hn_wl
  have nr_wl := bc_new_ne hr_26 hn_wl
  have hz_wl : M wl = none := (bu_none ((congrFun e_6 _).symm.trans (bu_none ((congrFun e_8 _).symm.trans (bu_none ((congrFun e_13 _).symm.trans (bu_none ((congrFun e_15 _).symm.trans (bu_none ((congrFun e_19 _).symm.trans (bu_none ((congrFun e_23 _).symm.trans (bu_none ((congrFun e_26 _).symm.trans hn_wl))))))))))))))
  have hra_30 := (congrFun e_30 ra).trans ((bu_ne nra_wl).trans hra_26)
  have hfi_30 := (congrFun e_30 fi).trans ((bu_ne nfi_wl).trans hfi_26)
  have htl_30 := (congrFun e_30 tl).trans ((bu_ne ntl_wl).trans htl_26)
  have hr_30 := (congrFun e_30 r).trans ((bu_ne nr_wl).trans hr_26)
  have hwl_30 := (congrFun e_30 wl).trans (bu_self _ _ _)
  refine vr_dup hE dX2_init_33 rfl ?_
  refine bc_callI hE (bk_J2_init G _ wl hwl_30 ea hea) ok_J2_init rfl q142 q143 q75 q144 rfl rfl (Nat.le_of_ble_eq_true rfl) (by decide) dX2_init_34 (fun _ _ _ h => h.elim) ?_
  rintro v_34 M_34 ⟨rfl, e_34⟩
  have hra_34 := (congrFun e_34 ra).trans ((bu_ne nra_wl).trans hra_30)
  have hfi_34 := (congrFun e_34 fi).trans ((bu_ne nfi_wl).trans hfi_30)
  have htl_34 := (congrFun e_34 tl).trans ((bu_ne ntl_wl).trans htl_30)
  have hr_34 := (congrFun e_34 r).trans ((bu_ne nr_wl).trans hr_30)
  have hwl_34 := (congrFun e_34 wl).trans (bu_self _ _ _)
  refine bc_putF (z := 3) hE kc_X2 (by decide) q180 rfl rfl (hnm _ rfl) hr_34 rfl rfl (Nat.le_of_ble_eq_true rfl) dX2_init_37 (by first | decide | omega) ?_
  refine bc_nm (fun M_37 e_37 => ?_)
  have hra_37 := (congrFun e_37 ra).trans ((bu_ne (Ne.symm nr_ra)).trans hra_34)
  have hfi_37 := (congrFun e_37 fi).trans ((bu_ne (Ne.symm nr_fi)).trans hfi_34)
  have htl_37 := (congrFun e_37 tl).trans ((bu_ne (Ne.symm nr_tl)).trans htl_34)
  have hwl_37 := (congrFun e_37 wl).trans ((bu_ne (Ne.symm nr_wl)).trans hwl_34)
  have hr_37 := (congrFun e_37 r).trans (bu_self _ _ _)
  refine vr_iconst (v := 0) hE dX2_init_40 (by decide) ?_
  refine vr_istore_n hE dX2_init_41 (hnl _ (by decide)) rfl ?_
  have hrf : ra ≠ fi := nra_fi
  have htw : tl ≠ wl := ntl_wl
  have hlp_42 : ∀ (c : Nat) (i : Nat) (M1 : va_M), i + c = 5 → M1 r = some (.inr (1, rL ra fi tl wl 0 0 0)) → M1 ra = some (eI Y 5 (c_two i)) → M1 fi = some (eI Y 5 (fun _ => 0)) → M1 tl = some (.inr (18, alL 0 ea 0)) → M1 wl = some (.inr (18, alL 0 ea 0)) → (∀ q e, M q = some e → q ≠ r → M1 q = some e) → bi_V Y.1 X (bc_W Y (bi_A X) M1) 4 16 42 [some (.ref r), some (.int (nI i))] [] := by
    intro c
    induction c with
    | zero =>
      intro i M1 hi hr1 hra1 hfi1 htl1 hwl1 hk1
      refine vr_iload_n hE dX2_init_42 rfl ?_
      refine vr_iconst (v := 5) hE dX2_init_43 (by decide) ?_
      refine vr_icmp_ge (tgt := 60) hE dX2_init_44 (by decide) (fun c_44 => ?_) (fun c_44 => ?_)
      · obtain rfl : i = 5 := by omega
        refine vr_return hE hQ dX2_init_60 (by decide) ⟨_, ?_, fun H h => hW _ H h⟩
        refine ⟨(r, ra, fi, tl, wl, ea, ea, fun _ => 0, fun _ => 0), rfl, rfl, ⟨hr1, hra1.trans (by rw [c_two_0]), hfi1.trans (by rw [s_0_f]), htl1, Or.inl ⟨rfl, hea⟩, hwl1, Or.inl ⟨rfl, hea⟩, fun j hj => absurd hj (Nat.not_lt_zero _), fun j hj => absurd hj (Nat.not_lt_zero _), rfl, rfl, by decide, by decide, hrf, htw, fun z => absurd z (Nat.lt_irrefl _)⟩, hk1, fun q hq => ?_⟩
        rcases hq with rfl | rfl | rfl | rfl | rfl | ⟨z, -⟩ | ⟨z, -⟩ | ⟨j, hj, -⟩ | ⟨j, hj, -⟩
        · exact Or.inl rfl
        · exact Or.inr hz_ra
        · exact Or.inr hz_fi
        · exact Or.inr hz_tl
        · exact Or.inr hz_wl
        · exact absurd z (Nat.lt_irrefl _)
        · exact absurd z (Nat.lt_irrefl _)
        · exact absurd hj (Nat.not_lt_zero _)
        · exact absurd hj (Nat.not_lt_zero _)
      · exact absurd (show nI 5 ≤ nI i from nI_le (by omega) (by omega)) c_44
    | succ c ih =>
      intro i M1 hi hr1 hra1 hfi1 htl1 hwl1 hk1
      refine vr_iload_n hE dX2_init_42 rfl ?_
      refine vr_iconst (v := 5) hE dX2_init_43 (by decide) ?_
      refine vr_icmp_ge (tgt := 60) hE dX2_init_44 (by decide) (fun c_44 => ?_) (fun c_44 => ?_)
      · exact absurd (show nI 5 ≤ nI i from c_44) (nI_ge (by omega) (by decide))
      skip
      refine vr_aload_n hE dX2_init_47 rfl ?_
      refine bc_get (z := 0) hE kc_X2 (by decide) q174 (Or.inl rfl) hr1 rfl dX2_init_48 ?_
      refine vr_iload_n hE dX2_init_51 rfl ?_
      refine vr_iconst (v := 2) hE dX2_init_52 (by decide) ?_
      refine bc_iast hE hra1 rfl (by omega) (by decide) dX2_init_53 (by first | decide | omega) ?_
      refine bc_nm (fun M_53 e_53 => ?_)
      have hr_53 := (congrFun e_53 r).trans ((bu_ne (bc_dist hr1 hra1 bc_oi)).trans hr1)
      have hfi_53 := (congrFun e_53 fi).trans ((bu_ne hrf.symm).trans hfi1)
      have htl_53 := (congrFun e_53 tl).trans ((bu_ne (bc_dist htl1 hra1 bc_oi)).trans htl1)
      have hwl_53 := (congrFun e_53 wl).trans ((bu_ne (bc_dist hwl1 hra1 bc_oi)).trans hwl1)
      have hra_53 := (congrFun e_53 ra).trans (bu_self _ _ _)
      refine vr_iinc hE dX2_init_54 rfl (iinc_1 _) (hnl _ (by decide)) rfl ?_
      refine vr_goto (tgt := 42) hE dX2_init_57 (by decide) ?_
      exact ih (i + 1) M_53 (by omega) hr_53 (by rw [hra_53, c_two_s]) hfi_53 htl_53 hwl_53 (fun q e z hq => (congrFun e_53 q).trans ((bu_ne (bc_new_ne z hz_ra)).trans (hk1 q e z hq)))
  exact hlp_42 5 0 _ rfl hr_37 hra_37 hfi_37 htl_37 hwl_37 (fun q e z hq => by
    have z1 := bc_new_ne z hz_ra
    have z2 := bc_new_ne z hz_fi
    have z3 := bc_new_ne z hz_tl
    have z4 := bc_new_ne z hz_wl
    subst e_37 e_34 e_30 e_26 e_23 e_19 e_15 e_13 e_8 e_6
    simp only [bu_ne z1, bu_ne z2, bu_ne z3, bu_ne z4, bu_ne hq]
    exact z)
