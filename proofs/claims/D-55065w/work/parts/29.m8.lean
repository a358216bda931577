/-! the reference: an order done; reading and doing, as functions -/
set_option maxRecDepth 100000
def m_does (σ : bi_S) (n i : Nat) : bi_O :=
  if σ.2 5 (3 * i) = 5 then (if ¬ in_ (σ.2 5 (3 * i + 1)) 1 40 = 0 then m_passes (m_refused σ 0) n (ix (σ.2 5 (3 * i + 1))) else (13, m_refused σ 0))
  else if in_ (σ.2 5 (3 * i + 1)) 0 (σ.2 0 1 - 1) = 0 then (13, m_refused σ 0)
  else if σ.2 5 (3 * i) = 0 then (if ¬ in_ (σ.2 5 (3 * i + 2)) 0 (σ.2 0 2 - 1) = 0 then m_inspects (m_refused σ 0) (ix (σ.2 5 (3 * i + 1))) (ix (σ.2 5 (3 * i + 2))) (m_fr (σ.2 0) (ix (σ.2 5 (3 * i + 1)))) else (13, m_refused σ 0))
  else if σ.2 5 (3 * i) = 1 then m_mends (m_refused σ 0) (ix (σ.2 5 (3 * i + 1)))
  else if σ.2 5 (3 * i) = 2 then (if ¬ in_ (σ.2 5 (3 * i + 2)) 1 9 = 0 then m_shaves (m_refused σ 0) (ix (σ.2 5 (3 * i + 1))) (σ.2 5 (3 * i + 2)) else (13, m_refused σ 0))
  else if σ.2 5 (3 * i) = 3 then (if ¬ in_ (σ.2 5 (3 * i + 2)) (-3) 3 = 0 then m_drifts (m_refused σ 0) (ix (σ.2 5 (3 * i + 1))) (σ.2 5 (3 * i + 2)) else (13, m_refused σ 0))
  else (if ¬ in_ (σ.2 5 (3 * i + 2)) 1 99 = 0 then m_pays (m_refused σ 0) (ix (σ.2 5 (3 * i + 1))) (σ.2 5 (3 * i + 2)) else (13, m_refused σ 0))
/-- what an order leaves alone -/
def m_kp (σ τ : bi_S) : Prop := τ.2 5 = σ.2 5 ∧ τ.2 4 = σ.2 4 ∧ τ.2 1 = σ.2 1 ∧ τ.1 5 = σ.1 5 ∧ τ.1 21 = σ.1 21 ∧ ∀ j, j = 1 ∨ j = 2 ∨ (15 ≤ j ∧ j < 25) → τ.2 0 j = σ.2 0 j
theorem m_kp.rf (σ : bi_S) : m_kp σ σ := ⟨rfl, rfl, rfl, rfl, rfl, fun _ _ => rfl⟩
theorem m_kp.tr {σ τ υ : bi_S} (h : m_kp σ τ) (h' : m_kp τ υ) : m_kp σ υ := ⟨h'.1.trans h.1, h'.2.1.trans h.2.1, h'.2.2.1.trans h.2.2.1, h'.2.2.2.1.trans h.2.2.2.1, h'.2.2.2.2.1.trans h.2.2.2.2.1, fun j hj => (h'.2.2.2.2.2 j hj).trans (h.2.2.2.2.2 j hj)⟩
theorem m_kp.s0 {σ : bi_S} {f : Nat → Int32} (h : ∀ j, j = 1 ∨ j = 2 ∨ (15 ≤ j ∧ j < 25) → f j = σ.2 0 j) (v : Int32) : m_kp σ (m_done (setR σ 0 f) v) := ⟨rfl, rfl, rfl, rfl, rfl, h⟩
theorem m_kp.ref (σ : bi_S) (v : Int32) : m_kp σ (m_refused σ v) := ⟨rfl, rfl, rfl, rfl, rfl, fun _ _ => rfl⟩
theorem m_looks_ne {s : Nat → Int32} {t w f j : Nat} (ht : t < 10) (hw : w < 4) (hf : f < 5) (h : j = 1 ∨ j = 2 ∨ (15 ≤ j ∧ j < 25)) : m_looks s t w f j = s j := by
  simp (disch := omega) only [m_looks, m_l10, m_l9, m_l8, m_l7, m_l6, m_lA, m_l5, m_l4, m_l3, m_l2, m_l1, pk_un]
theorem m_inspects_kp (σ : bi_S) {t w f : Nat} (ht : t < 10) (hw : w < 4) (hf : f < 5) : m_kp σ (m_inspects σ t w f).2 := by
  unfold m_inspects
  split
  · exact ⟨rfl, rfl, rfl, rfl, rfl, fun _ _ => rfl⟩
  · split
    · exact m_kp.s0 (fun j hj => m_looks_ne ht hw hf hj) _
    · exact m_kp.ref _ _
theorem m_mends_kp (σ : bi_S) {t : Nat} (ht : t < 10) : m_kp σ (m_mends σ t).2 := by
  unfold m_mends
  split
  · split
    · exact m_kp.s0 (fun j hj => by simp (disch := omega) only [pk_un]) _
    · exact m_kp.ref _ _
  · exact m_kp.ref _ _
theorem m_shaves_kp (σ : bi_S) {t : Nat} (ht : t < 10) (b : Int32) : m_kp σ (m_shaves σ t b).2 := by
  unfold m_shaves
  split
  · split
    · exact m_kp.s0 (fun j hj => by simp (disch := omega) only [pk_un]) _
    · exact m_kp.ref _ _
  · exact m_kp.ref _ _
theorem m_drifts_kp (σ : bi_S) {t : Nat} (ht : t < 10) (b : Int32) : m_kp σ (m_drifts σ t b).2 := m_kp.s0 (fun j hj => by simp (disch := omega) only [pk_un]) _
theorem m_pays_kp (σ : bi_S) {t : Nat} (ht : t < 10) (b : Int32) : m_kp σ (m_pays σ t b).2 := by
  unfold m_pays
  split
  · split
    · exact m_kp.s0 (fun j hj => by simp (disch := omega) only [m_pay2, pk_un]) _
    · exact m_kp.ref _ _
  · exact m_kp.ref _ _
theorem m_passes_kp (σ : bi_S) {n d : Nat} (hn : n ≤ 10) : m_kp σ (m_passes σ n d).2 := m_kp.s0 (fun j hj => m_days_ne hn (by omega) (by omega) (by omega) d) _
/-- what an order stands on -/
def m_ok (σ : bi_S) (n w : Nat) : Prop := n ≤ 10 ∧ σ.2 0 1 = nI n ∧ w ≤ 4 ∧ σ.2 0 2 = nI w ∧ ∀ t, t < n → ∃ f, f < 5 ∧ σ.2 0 (15 + t) = nI f
theorem m_ok.kp {σ τ : bi_S} {n w : Nat} (h : m_ok σ n w) (k : m_kp σ τ) : m_ok τ n w :=
  ⟨h.1, (k.2.2.2.2.2 1 (by omega)).trans h.2.1, h.2.2.1, (k.2.2.2.2.2 2 (by omega)).trans h.2.2.2.1, fun t ht => by
    obtain ⟨f, h1, h2⟩ := h.2.2.2.2 t ht
    exact ⟨f, h1, (k.2.2.2.2.2 (15 + t) (by have := h.1; omega)).trans h2⟩⟩
theorem m_does_kp (σ : bi_S) {n w : Nat} (h : m_ok σ n w) (i : Nat) : m_kp σ (m_does σ n i).2 := by
  have hr := m_kp.ref σ 0
  unfold m_does
  split
  · split
    · exact hr.tr (m_passes_kp _ h.1)
    · exact hr
  · split
    · exact hr
    · next c1 =>
      obtain ⟨j, hj, ej⟩ := in_T h.2.1 (by have := h.1; omega) c1
      have hjx : ix (σ.2 5 (3 * i + 1)) = j := by rw [ej]; exact ix_nI (by have := h.1; omega)
      have hj10 : ix (σ.2 5 (3 * i + 1)) < 10 := by have := h.1; omega
      split
      · split
        · next c2 =>
          obtain ⟨j2, hj2, ej2⟩ := in_T h.2.2.2.1 (by have := h.2.2.1; omega) c2
          have hj2x : ix (σ.2 5 (3 * i + 2)) = j2 := by rw [ej2]; exact ix_nI (by have := h.2.2.1; omega)
          obtain ⟨f, hf5, hf⟩ := h.2.2.2.2 j hj
          have hfr : m_fr (σ.2 0) (ix (σ.2 5 (3 * i + 1))) = f := by unfold m_fr; rw [hjx, hf]; exact ix_nI (by omega)
          exact hr.tr (m_inspects_kp _ hj10 (by have := h.2.2.1; omega) (by omega))
        · exact hr
      · split
        · exact hr.tr (m_mends_kp _ hj10)
        · split
          · split
            · exact hr.tr (m_shaves_kp _ hj10 _)
            · exact hr
          · split
            · split
              · exact hr.tr (m_drifts_kp _ hj10 _)
              · exact hr
            · split
              · exact hr.tr (m_pays_kp _ hj10 _)
              · exact hr
def m_run (n : Nat) : Nat → Nat → bi_S → Option (Nat × Int32) × bi_S
  | 0, _, σ => (none, σ)
  | c + 1, i, σ => if (m_does σ n i).1 ≤ 0 then m_run n c (i + 1) (m_does σ n i).2 else (some (i, (m_does σ n i).1), (m_does σ n i).2)
def m_back (σ : bi_S) : bi_S := setR σ 0 (cpy_ (σ.2 1) (σ.2 0) 117)
def m_why (σ : bi_S) (i : Nat) : bi_S := setR (setR σ 7 (upd (σ.2 7) 0 11)) 8 (upd (σ.2 8) 0 (nI i))
def m_ran (q o : Nat) : Option (Nat × Int32) × bi_S → bi_P2
  | (none, σ) => (m_changed σ q, nI o)
  | (some (i, r), σ) => (m_fails (m_why (m_keeps1 (m_back σ) r) i) 2, 0)
def m_rd0 (σ : bi_S) (e : Nat) : bi_S := sF (sF (m_pre2 σ) 20 (nI e)) 12 0
def m_rd (σ : bi_S) (e : Nat) (R : Nat × q_S) : bi_S := m_qs (sF (m_rd0 σ e) 21 (nI R.1)) R.2
def m_read (σ : bi_S) (q n e : Nat) : bi_P2 :=
  if q_bad e (q_read (σ.2 4) e (σ.2 5)).2.2 = true then (m_fails (sF (m_rd σ e (q_read (σ.2 4) e (σ.2 5))) 14 (nI (q_read (σ.2 4) e (σ.2 5)).2.2.2)) 1, 0)
  else m_ran q (q_read (σ.2 4) e (σ.2 5)).1 (m_run n (q_read (σ.2 4) e (σ.2 5)).1 0 (m_rd σ e (q_read (σ.2 4) e (σ.2 5))))
theorem m_rd_0 (σ : bi_S) (e : Nat) : sF (sF (sF (sF (sF (m_pre2 σ) 19 0) 20 (nI e)) 12 0) 21 0) 22 0 = m_rd σ e (0, σ.2 5, false, 0) := by
  refine Prod.ext (funext fun k => ?_) (funext fun k => ?_)
  · by_cases h1 : k = 19
    · subst h1; rfl
    · by_cases h2 : k = 20
      · subst h2; rfl
      · by_cases h3 : k = 12
        · subst h3; rfl
        · by_cases h4 : k = 21
          · subst h4; rfl
          · by_cases h5 : k = 22
            · subst h5; rfl
            · simp [m_rd, m_qs, m_ps, m_rd0, setR, sF, upd, h1, h2, h3, h4, h5]
  · show (m_pre2 σ).2 k = if k = 5 then σ.2 5 else (m_pre2 σ).2 k
    by_cases h : k = 5
    · subst h; rfl
    · rw [if_neg h]
/-! .. walked -/
theorem ok_X3_does : bi_ok yX3_does RX3 1 := by decide +kernel
theorem mo_does {Y : bi_Y} {mo : Nat} {ad : Nat → Nat} (G : mo_G Y mo ad) (σ : bi_S) (n : Nat) (hn : n ≤ 10) (h1 : σ.2 0 1 = nI n) (w : Nat) (hw : w ≤ 4) (h2 : σ.2 0 2 = nI w) (hfT : ∀ t, t < n → ∃ f, f < 5 ∧ σ.2 0 (15 + t) = nI f) (i : Nat) (hi : i ≤ 25) : bi_Met Y yX3_does (ws_ yX3_does cX3_does 5 (some .int)) 3 73 0 0 (mo_P Y.2.1 mo ad σ) (mo_F mo ad) [.ref mo, .int (nI i)] (fun v u => v = some (.int (m_does σ n i).1) ∧ u = (m_does σ n i).2) bi_nx (mo_P Y.2.1 mo ad) := by
  refine bi_Met.of (own := RX3) (L0 := [some (.ref mo), some (.int (nI i)), none, none, none]) rfl (by decide) G.1 G.2 (Nat.le_of_ble_eq_true rfl) rfl (fun X hE hQ hA hnl hnm => ?_)
  have hnl : ∀ q, q < 5 → q < bi_nL X := fun q h => by rw [hnl]; exact h
  refine vr_aload_n hE dX3_does_0 rfl ?_
  refine mr_get hE (z := 8) (by decide) q2515 rfl rfl dX3_does_1 ?_
  refine vr_iconst (v := 3) hE dX3_does_4 (by decide) ?_
  refine vr_iload_n hE dX3_does_5 rfl ?_
  refine vr_imul hE dX3_does_6 ?_
  refine vr_iconst (v := 1) hE dX3_does_7 (by decide) ?_
  refine vr_iadd hE dX3_does_8 ?_
  refine mr_ald hE (j := 5) (by decide) ((congrArg (· + 1) (pk_mul 3 i)).trans (nI_add _ 1)) (by show _ < 80; omega) dX3_does_9 ?_
  refine vr_istore_n hE dX3_does_10 (hnl _ (by decide)) rfl ?_
  refine vr_aload_n hE dX3_does_11 rfl ?_
  refine mr_get hE (z := 8) (by decide) q2515 rfl rfl dX3_does_12 ?_
  refine vr_iconst (v := 3) hE dX3_does_15 (by decide) ?_
  refine vr_iload_n hE dX3_does_16 rfl ?_
  refine vr_imul hE dX3_does_17 ?_
  refine vr_iconst (v := 2) hE dX3_does_18 (by decide) ?_
  refine vr_iadd hE dX3_does_19 ?_
  refine mr_ald hE (j := 5) (by decide) ((congrArg (· + 2) (pk_mul 3 i)).trans (nI_add _ 2)) (by show _ < 80; omega) dX3_does_20 ?_
  refine vr_istore_n hE dX3_does_21 (hnl _ (by decide)) rfl ?_
  refine vr_aload_n hE dX3_does_22 rfl ?_
  refine vr_bipush (v := 13) hE dX3_does_23 (by decide) ?_
  refine vr_iconst (v := 0) hE dX3_does_25 (by decide) ?_
  refine mr_call hE hA (mo_refused G _ _ _) ok_X3_refused (lw_V q2607 q2609 qs36 q82 q2610) rfl rfl (Nat.le_of_ble_eq_true rfl) (by decide) dX3_does_26 ?_
  rintro v_26 u_26 ⟨rfl, hu_26⟩
  obtain rfl := hu_26.symm
  refine vr_istore hE dX3_does_29 (hnl _ (by decide)) rfl ?_
  refine vr_aload_n hE dX3_does_31 rfl ?_
  refine mr_get hE (z := 8) (by decide) q2515 rfl rfl dX3_does_32 ?_
  refine vr_iconst (v := 3) hE dX3_does_35 (by decide) ?_
  refine vr_iload_n hE dX3_does_36 rfl ?_
  refine vr_imul hE dX3_does_37 ?_
  refine mr_ald hE (j := 5) (by decide) (pk_mul 3 i) (by show _ < 80; omega) dX3_does_38 ?_
  refine vr_iconst (v := 5) hE dX3_does_39 (by decide) ?_
  refine vr_icmp_ne (tgt := 64) hE dX3_does_40 (by decide) (fun c_40 => ?_) (fun c_40 => ?_)
  · skip
    refine vr_aload_n hE dX3_does_64 rfl ?_
    refine vr_iload_n hE dX3_does_65 rfl ?_
    refine mr_call hE hA (mo_isTrader G _ _) ok_X3_isTrader (lw_V q2623 q2625 qs39 q82 q2626) rfl rfl (Nat.le_of_ble_eq_true rfl) (by decide) dX3_does_66 ?_
    rintro v_66 u_66 ⟨rfl, hu_66⟩
    obtain rfl := hu_66.symm
    refine vr_if_ne (tgt := 75) hE dX3_does_69 (by decide) (fun c_69 => ?_) (fun c_69 => ?_)
    · obtain ⟨j, hj, ej⟩ := in_T (show _ = nI n from h1) (by omega) c_69
      have hjx : ix (σ.2 5 (3 * i + 1)) = j := by rw [ej]; exact ix_nI (by omega)
      replace ej : (σ.2 5 (3 * i + 1)) = nI j := ej
      refine vr_L (L' := [some (.ref mo), some (.int (nI i)), some (.int (nI j)), some (.int (σ.2 5 (3 * i + 2))), some (.int 13)]) (by rw [ej] <;> rfl) ?_
      refine vr_aload_n hE dX3_does_75 rfl ?_
      refine mr_get hE (z := 8) (by decide) q2515 rfl rfl dX3_does_76 ?_
      refine vr_iconst (v := 3) hE dX3_does_79 (by decide) ?_
      refine vr_iload_n hE dX3_does_80 rfl ?_
      refine vr_imul hE dX3_does_81 ?_
      refine mr_ald hE (j := 5) (by decide) (pk_mul 3 i) (by show _ < 80; omega) dX3_does_82 ?_
      refine vr_topi (fun sw_83 e_sw_83 => ?_)
      by_cases s_83_0 : sw_83 = 0
      · refine vr_tab (z := 0) (tgt := 112) hE dX3_does_83 (by rw [s_83_0]; decide) (by decide) (by decide) (off := 29) (by decide) (by decide) ?_
        refine vr_aload_n hE dX3_does_112 rfl ?_
        refine vr_iload_n hE dX3_does_113 rfl ?_
        refine mr_call hE hA (mo_isWeight G _ _) ok_X3_isWeight (lw_V q2683 q2685 qs47 q82 q2686) rfl rfl (Nat.le_of_ble_eq_true rfl) (by decide) dX3_does_114 ?_
        rintro v_114 u_114 ⟨rfl, hu_114⟩
        obtain rfl := hu_114.symm
        refine vr_if_eq (tgt := 129) hE dX3_does_117 (by decide) (fun c_117 => ?_) (fun c_117 => ?_)
        · replace c_117 : in_ (σ.2 5 (3 * i + 2)) 0 (σ.2 0 2 - 1) = 0 := c_117
          refine vr_iload hE dX3_does_129 rfl ?_
          refine vr_ireturn hE hQ rfl dX3_does_131 (by decide) ⟨_, ?_, fun H h => h⟩
          exact ⟨by rw [m_does, if_neg (show ¬ σ.2 5 (3 * i) = 5 from c_40), if_neg (show ¬ in_ (σ.2 5 (3 * i + 1)) 0 (σ.2 0 1 - 1) = 0 from c_69), if_pos (show σ.2 5 (3 * i) = 0 from e_sw_83.symm.trans s_83_0), if_neg (fun z => z c_117)] <;> rfl, by rw [m_does, if_neg (show ¬ σ.2 5 (3 * i) = 5 from c_40), if_neg (show ¬ in_ (σ.2 5 (3 * i + 1)) 0 (σ.2 0 1 - 1) = 0 from c_69), if_pos (show σ.2 5 (3 * i) = 0 from e_sw_83.symm.trans s_83_0), if_neg (fun z => z c_117)] <;> rfl⟩
        · replace c_117 : ¬ in_ (σ.2 5 (3 * i + 2)) 0 (σ.2 0 2 - 1) = 0 := c_117
          obtain ⟨j2, hj2, ej2⟩ := in_T (show _ = nI w from h2) (by omega) c_117
          replace ej2 : (σ.2 5 (3 * i + 2)) = nI j2 := ej2
          have hj2x : ix (σ.2 5 (3 * i + 2)) = j2 := by rw [ej2]; exact ix_nI (by omega)
          obtain ⟨f, hf5, hf⟩ := hfT j hj
          have hfr : m_fr (σ.2 0) j = f := by unfold m_fr; rw [hf]; exact ix_nI (by omega)
          refine vr_L (L' := [some (.ref mo), some (.int (nI i)), some (.int (nI j)), some (.int (nI j2)), some (.int 13)]) (by rw [ej2] <;> rfl) ?_
          refine vr_aload_n hE dX3_does_120 rfl ?_
          refine vr_iload_n hE dX3_does_121 rfl ?_
          refine vr_iload_n hE dX3_does_122 rfl ?_
          refine mr_call hE hA (mo_inspects G _ j (by omega) j2 (by omega) f hf5 (by exact hf)) ok_X3_inspects (lw_V q2707 q2709 qs49 q82 q2710) rfl rfl (Nat.le_of_ble_eq_true rfl) (by decide) dX3_does_123 ?_
          rintro v_123 u_123 ⟨rfl, hu_123⟩
          obtain rfl := hu_123.symm
          refine vr_goto (tgt := 131) hE dX3_does_126 (by decide) ?_
          refine vr_ireturn hE hQ rfl dX3_does_131 (by decide) ⟨_, ?_, fun H h => h⟩
          exact ⟨by rw [m_does, if_neg (show ¬ σ.2 5 (3 * i) = 5 from c_40), if_neg (show ¬ in_ (σ.2 5 (3 * i + 1)) 0 (σ.2 0 1 - 1) = 0 from c_69), if_pos (show σ.2 5 (3 * i) = 0 from e_sw_83.symm.trans s_83_0), if_pos c_117, hjx, hj2x, hfr] <;> rfl, by rw [m_does, if_neg (show ¬ σ.2 5 (3 * i) = 5 from c_40), if_neg (show ¬ in_ (σ.2 5 (3 * i + 1)) 0 (σ.2 0 1 - 1) = 0 from c_69), if_pos (show σ.2 5 (3 * i) = 0 from e_sw_83.symm.trans s_83_0), if_pos c_117, hjx, hj2x, hfr] <;> rfl⟩
      by_cases s_83_1 : sw_83 = 1
      · refine vr_tab (z := 1) (tgt := 132) hE dX3_does_83 (by rw [s_83_1]; decide) (by decide) (by decide) (off := 49) (by decide) (by decide) ?_
        refine vr_aload_n hE dX3_does_132 rfl ?_
        refine vr_iload_n hE dX3_does_133 rfl ?_
        refine mr_call hE hA (mo_mends G _ j (by omega)) ok_X3_mends (lw_V q2723 q2725 qs51 q82 q2726) rfl rfl (Nat.le_of_ble_eq_true rfl) (by decide) dX3_does_134 ?_
        rintro v_134 u_134 ⟨rfl, hu_134⟩
        obtain rfl := hu_134.symm
        refine vr_ireturn hE hQ rfl dX3_does_137 (by decide) ⟨_, ?_, fun H h => h⟩
        exact ⟨by rw [m_does, if_neg (show ¬ σ.2 5 (3 * i) = 5 from c_40), if_neg (show ¬ in_ (σ.2 5 (3 * i + 1)) 0 (σ.2 0 1 - 1) = 0 from c_69), if_neg (show ¬ σ.2 5 (3 * i) = 0 from fun w => s_83_0 (e_sw_83.trans w)), if_pos (show σ.2 5 (3 * i) = 1 from e_sw_83.symm.trans s_83_1), hjx] <;> rfl, by rw [m_does, if_neg (show ¬ σ.2 5 (3 * i) = 5 from c_40), if_neg (show ¬ in_ (σ.2 5 (3 * i + 1)) 0 (σ.2 0 1 - 1) = 0 from c_69), if_neg (show ¬ σ.2 5 (3 * i) = 0 from fun w => s_83_0 (e_sw_83.trans w)), if_pos (show σ.2 5 (3 * i) = 1 from e_sw_83.symm.trans s_83_1), hjx] <;> rfl⟩
      by_cases s_83_2 : sw_83 = 2
      · refine vr_tab (z := 2) (tgt := 138) hE dX3_does_83 (by rw [s_83_2]; decide) (by decide) (by decide) (off := 55) (by decide) (by decide) ?_
        refine vr_iload_n hE dX3_does_138 rfl ?_
        refine vr_iconst (v := 1) hE dX3_does_139 (by decide) ?_
        refine vr_bipush (v := 9) hE dX3_does_140 (by decide) ?_
        refine mr_callS hE (mo_in G.1 _ _ _ _) ok_X3_in (lw_S q2592 q2593 q82 q2594) rfl rfl (Nat.le_of_ble_eq_true rfl) (by decide) dX3_does_142 ?_
        rintro v_142 rfl
        refine vr_if_eq (tgt := 157) hE dX3_does_145 (by decide) (fun c_145 => ?_) (fun c_145 => ?_)
        · skip
          refine vr_iload hE dX3_does_157 rfl ?_
          refine vr_ireturn hE hQ rfl dX3_does_159 (by decide) ⟨_, ?_, fun H h => h⟩
          exact ⟨by rw [m_does, if_neg (show ¬ σ.2 5 (3 * i) = 5 from c_40), if_neg (show ¬ in_ (σ.2 5 (3 * i + 1)) 0 (σ.2 0 1 - 1) = 0 from c_69), if_neg (show ¬ σ.2 5 (3 * i) = 0 from fun w => s_83_0 (e_sw_83.trans w)), if_neg (show ¬ σ.2 5 (3 * i) = 1 from fun w => s_83_1 (e_sw_83.trans w)), if_pos (show σ.2 5 (3 * i) = 2 from e_sw_83.symm.trans s_83_2), if_neg (fun z => z c_145)] <;> rfl, by rw [m_does, if_neg (show ¬ σ.2 5 (3 * i) = 5 from c_40), if_neg (show ¬ in_ (σ.2 5 (3 * i + 1)) 0 (σ.2 0 1 - 1) = 0 from c_69), if_neg (show ¬ σ.2 5 (3 * i) = 0 from fun w => s_83_0 (e_sw_83.trans w)), if_neg (show ¬ σ.2 5 (3 * i) = 1 from fun w => s_83_1 (e_sw_83.trans w)), if_pos (show σ.2 5 (3 * i) = 2 from e_sw_83.symm.trans s_83_2), if_neg (fun z => z c_145)] <;> rfl⟩
        · skip
          refine vr_aload_n hE dX3_does_148 rfl ?_
          refine vr_iload_n hE dX3_does_149 rfl ?_
          refine vr_iload_n hE dX3_does_150 rfl ?_
          refine mr_call hE hA (mo_shaves G _ j (by omega) _) ok_X3_shaves (lw_V q2731 q2733 qs52 q82 q2734) rfl rfl (Nat.le_of_ble_eq_true rfl) (by decide) dX3_does_151 ?_
          rintro v_151 u_151 ⟨rfl, hu_151⟩
          obtain rfl := hu_151.symm
          refine vr_goto (tgt := 159) hE dX3_does_154 (by decide) ?_
          refine vr_ireturn hE hQ rfl dX3_does_159 (by decide) ⟨_, ?_, fun H h => h⟩
          exact ⟨by rw [m_does, if_neg (show ¬ σ.2 5 (3 * i) = 5 from c_40), if_neg (show ¬ in_ (σ.2 5 (3 * i + 1)) 0 (σ.2 0 1 - 1) = 0 from c_69), if_neg (show ¬ σ.2 5 (3 * i) = 0 from fun w => s_83_0 (e_sw_83.trans w)), if_neg (show ¬ σ.2 5 (3 * i) = 1 from fun w => s_83_1 (e_sw_83.trans w)), if_pos (show σ.2 5 (3 * i) = 2 from e_sw_83.symm.trans s_83_2), if_pos c_145, hjx] <;> rfl, by rw [m_does, if_neg (show ¬ σ.2 5 (3 * i) = 5 from c_40), if_neg (show ¬ in_ (σ.2 5 (3 * i + 1)) 0 (σ.2 0 1 - 1) = 0 from c_69), if_neg (show ¬ σ.2 5 (3 * i) = 0 from fun w => s_83_0 (e_sw_83.trans w)), if_neg (show ¬ σ.2 5 (3 * i) = 1 from fun w => s_83_1 (e_sw_83.trans w)), if_pos (show σ.2 5 (3 * i) = 2 from e_sw_83.symm.trans s_83_2), if_pos c_145, hjx] <;> rfl⟩
      by_cases s_83_3 : sw_83 = 3
      · refine vr_tab (z := 3) (tgt := 160) hE dX3_does_83 (by rw [s_83_3]; decide) (by decide) (by decide) (off := 77) (by decide) (by decide) ?_
        refine vr_iload_n hE dX3_does_160 rfl ?_
        refine vr_bipush (v := -3) hE dX3_does_161 (by decide) ?_
        refine vr_iconst (v := 3) hE dX3_does_163 (by decide) ?_
        refine mr_callS hE (mo_in G.1 _ _ _ _) ok_X3_in (lw_S q2592 q2593 q82 q2594) rfl rfl (Nat.le_of_ble_eq_true rfl) (by decide) dX3_does_164 ?_
        rintro v_164 rfl
        refine vr_if_eq (tgt := 179) hE dX3_does_167 (by decide) (fun c_167 => ?_) (fun c_167 => ?_)
        · skip
          refine vr_iload hE dX3_does_179 rfl ?_
          refine vr_ireturn hE hQ rfl dX3_does_181 (by decide) ⟨_, ?_, fun H h => h⟩
          exact ⟨by rw [m_does, if_neg (show ¬ σ.2 5 (3 * i) = 5 from c_40), if_neg (show ¬ in_ (σ.2 5 (3 * i + 1)) 0 (σ.2 0 1 - 1) = 0 from c_69), if_neg (show ¬ σ.2 5 (3 * i) = 0 from fun w => s_83_0 (e_sw_83.trans w)), if_neg (show ¬ σ.2 5 (3 * i) = 1 from fun w => s_83_1 (e_sw_83.trans w)), if_neg (show ¬ σ.2 5 (3 * i) = 2 from fun w => s_83_2 (e_sw_83.trans w)), if_pos (show σ.2 5 (3 * i) = 3 from e_sw_83.symm.trans s_83_3), if_neg (fun z => z c_167)] <;> rfl, by rw [m_does, if_neg (show ¬ σ.2 5 (3 * i) = 5 from c_40), if_neg (show ¬ in_ (σ.2 5 (3 * i + 1)) 0 (σ.2 0 1 - 1) = 0 from c_69), if_neg (show ¬ σ.2 5 (3 * i) = 0 from fun w => s_83_0 (e_sw_83.trans w)), if_neg (show ¬ σ.2 5 (3 * i) = 1 from fun w => s_83_1 (e_sw_83.trans w)), if_neg (show ¬ σ.2 5 (3 * i) = 2 from fun w => s_83_2 (e_sw_83.trans w)), if_pos (show σ.2 5 (3 * i) = 3 from e_sw_83.symm.trans s_83_3), if_neg (fun z => z c_167)] <;> rfl⟩
        · skip
          refine vr_aload_n hE dX3_does_170 rfl ?_
          refine vr_iload_n hE dX3_does_171 rfl ?_
          refine vr_iload_n hE dX3_does_172 rfl ?_
          refine mr_call hE hA (mo_drifts G _ j (by omega) _) ok_X3_drifts (lw_V q2627 q2629 qs40 q82 q2630) rfl rfl (Nat.le_of_ble_eq_true rfl) (by decide) dX3_does_173 ?_
          rintro v_173 u_173 ⟨rfl, hu_173⟩
          obtain rfl := hu_173.symm
          refine vr_goto (tgt := 181) hE dX3_does_176 (by decide) ?_
          refine vr_ireturn hE hQ rfl dX3_does_181 (by decide) ⟨_, ?_, fun H h => h⟩
          exact ⟨by rw [m_does, if_neg (show ¬ σ.2 5 (3 * i) = 5 from c_40), if_neg (show ¬ in_ (σ.2 5 (3 * i + 1)) 0 (σ.2 0 1 - 1) = 0 from c_69), if_neg (show ¬ σ.2 5 (3 * i) = 0 from fun w => s_83_0 (e_sw_83.trans w)), if_neg (show ¬ σ.2 5 (3 * i) = 1 from fun w => s_83_1 (e_sw_83.trans w)), if_neg (show ¬ σ.2 5 (3 * i) = 2 from fun w => s_83_2 (e_sw_83.trans w)), if_pos (show σ.2 5 (3 * i) = 3 from e_sw_83.symm.trans s_83_3), if_pos c_167, hjx] <;> rfl, by rw [m_does, if_neg (show ¬ σ.2 5 (3 * i) = 5 from c_40), if_neg (show ¬ in_ (σ.2 5 (3 * i + 1)) 0 (σ.2 0 1 - 1) = 0 from c_69), if_neg (show ¬ σ.2 5 (3 * i) = 0 from fun w => s_83_0 (e_sw_83.trans w)), if_neg (show ¬ σ.2 5 (3 * i) = 1 from fun w => s_83_1 (e_sw_83.trans w)), if_neg (show ¬ σ.2 5 (3 * i) = 2 from fun w => s_83_2 (e_sw_83.trans w)), if_pos (show σ.2 5 (3 * i) = 3 from e_sw_83.symm.trans s_83_3), if_pos c_167, hjx] <;> rfl⟩
      refine vr_tabD (tgt := 182) hE dX3_does_83 (by have q_0 := lv_neT s_83_0 (a := 0) (by decide); have q_1 := lv_neT s_83_1 (a := 1) (by decide); have q_2 := lv_neT s_83_2 (a := 2) (by decide); have q_3 := lv_neT s_83_3 (a := 3) (by decide); omega) (by decide) ?_
      refine vr_iload_n hE dX3_does_182 rfl ?_
      refine vr_iconst (v := 1) hE dX3_does_183 (by decide) ?_
      refine vr_bipush (v := 99) hE dX3_does_184 (by decide) ?_
      refine mr_callS hE (mo_in G.1 _ _ _ _) ok_X3_in (lw_S q2592 q2593 q82 q2594) rfl rfl (Nat.le_of_ble_eq_true rfl) (by decide) dX3_does_186 ?_
      rintro v_186 rfl
      refine vr_if_eq (tgt := 201) hE dX3_does_189 (by decide) (fun c_189 => ?_) (fun c_189 => ?_)
      · skip
        refine vr_iload hE dX3_does_201 rfl ?_
        refine vr_ireturn hE hQ rfl dX3_does_203 (by decide) ⟨_, ?_, fun H h => h⟩
        exact ⟨by rw [m_does, if_neg (show ¬ σ.2 5 (3 * i) = 5 from c_40), if_neg (show ¬ in_ (σ.2 5 (3 * i + 1)) 0 (σ.2 0 1 - 1) = 0 from c_69), if_neg (show ¬ σ.2 5 (3 * i) = 0 from fun w => s_83_0 (e_sw_83.trans w)), if_neg (show ¬ σ.2 5 (3 * i) = 1 from fun w => s_83_1 (e_sw_83.trans w)), if_neg (show ¬ σ.2 5 (3 * i) = 2 from fun w => s_83_2 (e_sw_83.trans w)), if_neg (show ¬ σ.2 5 (3 * i) = 3 from fun w => s_83_3 (e_sw_83.trans w)), if_neg (fun z => z c_189)] <;> rfl, by rw [m_does, if_neg (show ¬ σ.2 5 (3 * i) = 5 from c_40), if_neg (show ¬ in_ (σ.2 5 (3 * i + 1)) 0 (σ.2 0 1 - 1) = 0 from c_69), if_neg (show ¬ σ.2 5 (3 * i) = 0 from fun w => s_83_0 (e_sw_83.trans w)), if_neg (show ¬ σ.2 5 (3 * i) = 1 from fun w => s_83_1 (e_sw_83.trans w)), if_neg (show ¬ σ.2 5 (3 * i) = 2 from fun w => s_83_2 (e_sw_83.trans w)), if_neg (show ¬ σ.2 5 (3 * i) = 3 from fun w => s_83_3 (e_sw_83.trans w)), if_neg (fun z => z c_189)] <;> rfl⟩
      · skip
        refine vr_aload_n hE dX3_does_192 rfl ?_
        refine vr_iload_n hE dX3_does_193 rfl ?_
        refine vr_iload_n hE dX3_does_194 rfl ?_
        refine mr_call hE hA (mo_pays G _ j (by omega) _) ok_X3_pays (lw_V q2739 q2741 qs53 q82 q2742) rfl rfl (Nat.le_of_ble_eq_true rfl) (by decide) dX3_does_195 ?_
        rintro v_195 u_195 ⟨rfl, hu_195⟩
        obtain rfl := hu_195.symm
        refine vr_goto (tgt := 203) hE dX3_does_198 (by decide) ?_
        refine vr_ireturn hE hQ rfl dX3_does_203 (by decide) ⟨_, ?_, fun H h => h⟩
        exact ⟨by rw [m_does, if_neg (show ¬ σ.2 5 (3 * i) = 5 from c_40), if_neg (show ¬ in_ (σ.2 5 (3 * i + 1)) 0 (σ.2 0 1 - 1) = 0 from c_69), if_neg (show ¬ σ.2 5 (3 * i) = 0 from fun w => s_83_0 (e_sw_83.trans w)), if_neg (show ¬ σ.2 5 (3 * i) = 1 from fun w => s_83_1 (e_sw_83.trans w)), if_neg (show ¬ σ.2 5 (3 * i) = 2 from fun w => s_83_2 (e_sw_83.trans w)), if_neg (show ¬ σ.2 5 (3 * i) = 3 from fun w => s_83_3 (e_sw_83.trans w)), if_pos c_189, hjx] <;> rfl, by rw [m_does, if_neg (show ¬ σ.2 5 (3 * i) = 5 from c_40), if_neg (show ¬ in_ (σ.2 5 (3 * i + 1)) 0 (σ.2 0 1 - 1) = 0 from c_69), if_neg (show ¬ σ.2 5 (3 * i) = 0 from fun w => s_83_0 (e_sw_83.trans w)), if_neg (show ¬ σ.2 5 (3 * i) = 1 from fun w => s_83_1 (e_sw_83.trans w)), if_neg (show ¬ σ.2 5 (3 * i) = 2 from fun w => s_83_2 (e_sw_83.trans w)), if_neg (show ¬ σ.2 5 (3 * i) = 3 from fun w => s_83_3 (e_sw_83.trans w)), if_pos c_189, hjx] <;> rfl⟩
    · skip
      refine vr_iload hE dX3_does_72 rfl ?_
      refine vr_ireturn hE hQ rfl dX3_does_74 (by decide) ⟨_, ?_, fun H h => h⟩
      exact ⟨by rw [m_does, if_neg (show ¬ σ.2 5 (3 * i) = 5 from c_40), if_pos (show in_ (σ.2 5 (3 * i + 1)) 0 (σ.2 0 1 - 1) = 0 from c_69)] <;> rfl, by rw [m_does, if_neg (show ¬ σ.2 5 (3 * i) = 5 from c_40), if_pos (show in_ (σ.2 5 (3 * i + 1)) 0 (σ.2 0 1 - 1) = 0 from c_69)] <;> rfl⟩
  · skip
    refine vr_iload_n hE dX3_does_43 rfl ?_
    refine vr_iconst (v := 1) hE dX3_does_44 (by decide) ?_
    refine vr_bipush (v := 40) hE dX3_does_45 (by decide) ?_
    refine mr_callS hE (mo_in G.1 _ _ _ _) ok_X3_in (lw_S q2592 q2593 q82 q2594) rfl rfl (Nat.le_of_ble_eq_true rfl) (by decide) dX3_does_47 ?_
    rintro v_47 rfl
    refine vr_if_eq (tgt := 61) hE dX3_does_50 (by decide) (fun c_50 => ?_) (fun c_50 => ?_)
    · skip
      refine vr_iload hE dX3_does_61 rfl ?_
      refine vr_ireturn hE hQ rfl dX3_does_63 (by decide) ⟨_, ?_, fun H h => h⟩
      exact ⟨by rw [m_does, if_pos (show σ.2 5 (3 * i) = 5 from c_40), if_neg (fun z => z c_50)] <;> rfl, by rw [m_does, if_pos (show σ.2 5 (3 * i) = 5 from c_40), if_neg (fun z => z c_50)] <;> rfl⟩
    · obtain ⟨d, hd0, hd, ed⟩ := in_P (m := 1) (n := 40) rfl (by decide) (by decide) c_50
      replace ed : (σ.2 5 (3 * i + 1)) = nI d := ed
      have hdx : ix (σ.2 5 (3 * i + 1)) = d := by rw [ed]; exact ix_nI (by omega)
      refine vr_L (L' := [some (.ref mo), some (.int (nI i)), some (.int (nI d)), some (.int (σ.2 5 (3 * i + 2))), some (.int 13)]) (by rw [ed] <;> rfl) ?_
      refine vr_aload_n hE dX3_does_53 rfl ?_
      refine vr_iload_n hE dX3_does_54 rfl ?_
      refine mr_call hE hA (mo_passes G _ n hn (by exact h1) d hd) ok_X3_passes (lw_V q2747 q2749 qs54 q82 q2750) rfl rfl (Nat.le_of_ble_eq_true rfl) (by decide) dX3_does_55 ?_
      rintro v_55 u_55 ⟨rfl, hu_55⟩
      obtain rfl := hu_55.symm
      refine vr_goto (tgt := 63) hE dX3_does_58 (by decide) ?_
      refine vr_ireturn hE hQ rfl dX3_does_63 (by decide) ⟨_, ?_, fun H h => h⟩
      exact ⟨by rw [m_does, if_pos (show σ.2 5 (3 * i) = 5 from c_40), if_pos c_50, hdx] <;> rfl, by rw [m_does, if_pos (show σ.2 5 (3 * i) = 5 from c_40), if_pos c_50, hdx] <;> rfl⟩
theorem ok_X3_read : bi_ok yX3_read RX3 0 := by decide +kernel
theorem mo_read {Y : bi_Y} {mo : Nat} {ad : Nat → Nat} (G : mo_G Y mo ad) (σ : bi_S) (q : Nat) (hq8 : q ≤ 8) (hq : σ.1 5 = nI q) (n w : Nat) (hok : m_ok σ n w) (e : Nat) (he25 : e ≤ 25) (hl : σ.1 12 = nI e) : bi_Met Y yX3_read (ws_ yX3_read cX3_read 4 (some .int)) 7 154 0 0 (mo_P Y.2.1 mo ad σ) (mo_F mo ad) [.ref mo] (fun v u => v = some (.int (m_read σ q n e).2) ∧ u = (m_read σ q n e).1) bi_nx (mo_P Y.2.1 mo ad) := by
  refine bi_Met.of (own := RX3) (L0 := [some (.ref mo), none, none, none]) rfl (by decide) G.1 G.2 (Nat.le_of_ble_eq_true rfl) rfl (fun X hE hQ hA hnl hnm => ?_)
  have hnl : ∀ q, q < 4 → q < bi_nL X := fun q h => by rw [hnl]; exact h
  refine vr_aload_n hE dX3_read_0 rfl ?_
  refine vr_iconst (v := 0) hE dX3_read_1 (by decide) ?_
  refine mr_put hE hA (z := 0) (by decide) q2507 rfl rfl rfl rfl (fun _ => rfl) dX3_read_2 ?_
  refine vr_aload_n hE dX3_read_5 rfl ?_
  refine mr_call hE hA (mo_remembers G _) ok_X3_remembers (lw_V q2585 q2587 qs33 q82 q2588) rfl rfl (Nat.le_of_ble_eq_true rfl) (by decide) dX3_read_6 ?_
  rintro v_6 u_6 ⟨rfl, hu_6⟩
  obtain rfl := hu_6.symm
  refine vr_aload_n hE dX3_read_9 rfl ?_
  refine vr_iconst (v := 0) hE dX3_read_10 (by decide) ?_
  refine mr_put hE hA (z := 19) (by decide) q2526 rfl rfl rfl rfl (fun _ => rfl) dX3_read_11 ?_
  refine vr_aload_n hE dX3_read_14 rfl ?_
  refine vr_aload_n hE dX3_read_15 rfl ?_
  refine mr_get hE (z := 12) (by decide) q2519 rfl rfl dX3_read_16 ?_
  refine vr_topi (fun x_19 e_19 => ?_)
  obtain rfl : x_19 = nI e := e_19.trans hl
  refine mr_put hE hA (z := 20) (by decide) q2527 rfl rfl rfl rfl (fun _ => rfl) dX3_read_19 ?_
  refine vr_aload_n hE dX3_read_22 rfl ?_
  refine vr_iconst (v := 0) hE dX3_read_23 (by decide) ?_
  refine mr_put hE hA (z := 12) (by decide) q2519 rfl rfl rfl rfl (fun _ => rfl) dX3_read_24 ?_
  refine vr_aload_n hE dX3_read_27 rfl ?_
  refine vr_iconst (v := 0) hE dX3_read_28 (by decide) ?_
  refine mr_put hE hA (z := 21) (by decide) q2528 rfl rfl rfl rfl (fun _ => rfl) dX3_read_29 ?_
  refine vr_aload_n hE dX3_read_32 rfl ?_
  refine vr_iconst (v := 0) hE dX3_read_33 (by decide) ?_
  refine mr_put hE hA (z := 22) (by decide) q2529 rfl rfl rfl rfl (fun _ => rfl) dX3_read_34 ?_
  have hD : ∀ (o : Nat) (x : q_S), o ≤ 26 → (o, x) = q_read (σ.2 4) e (σ.2 5) → ¬ q_bad e x.2 = true → bi_V Y.1 X (mo_P Y.2.1 mo ad (m_rd σ e (o, x))) 0 0 106 [some (.ref mo), none, none, none] [] := by
    intro o x ho hR hbad
    have hq' : m_read σ q n e = m_ran q o (m_run n o 0 (m_rd σ e (o, x))) := by rw [m_read, ← hR, if_neg hbad]
    have hk0 : m_kp (m_rd σ e (o, x)) (m_rd σ e (o, x)) := m_kp.rf _
    have hB : ∀ (τ : bi_S) (i : Nat) (rr : Int32), i ≤ 26 → m_read σ q n e = m_ran q o (some (i, rr), τ) → ∀ k, k ≤ 117 → bi_V Y.1 X (mo_P Y.2.1 mo ad (setR τ 0 (cpy_ (τ.2 1) (τ.2 0) k))) 0 0 128 [some (.ref mo), some (.int (nI i)), some (.int rr), some (.int (nI k))] [] := by
      intro τ i rr hi hres
      refine bi_loop (fun k => bi_V Y.1 X (mo_P Y.2.1 mo ad (setR τ 0 (cpy_ (τ.2 1) (τ.2 0) k))) 0 0 128 [some (.ref mo), some (.int (nI i)), some (.int rr), some (.int (nI k))] []) 117 ?_ (fun k hk ih => ?_)
      · refine vr_iload_n hE dX3_read_128 rfl ?_
        refine vr_bipush (v := 117) hE dX3_read_129 (by decide) ?_
        refine vr_icmp_ge (tgt := 152) hE dX3_read_131 (by decide) (fun c_131 => ?_) (fun c_131 => ?_)
        · skip
          refine vr_aload_n hE dX3_read_152 rfl ?_
          refine vr_iconst (v := 1) hE dX3_read_153 (by decide) ?_
          refine vr_iload_n hE dX3_read_154 rfl ?_
          refine mr_call hE hA (mo_keeps1 G _ _) ok_X3_keeps (lw_V q2615 q2617 qs38 q82 q2618) rfl rfl (Nat.le_of_ble_eq_true rfl) (by decide) dX3_read_155 ?_
          rintro v_155 u_155 ⟨rfl, hu_155⟩
          obtain rfl := hu_155.symm
          refine vr_aload_n hE dX3_read_158 rfl ?_
          refine mr_get hE (z := 10) (by decide) q2517 rfl rfl dX3_read_159 ?_
          refine vr_iconst (v := 0) hE dX3_read_162 (by decide) ?_
          refine vr_bipush (v := 11) hE dX3_read_163 (by decide) ?_
          refine mr_ast hE hA (j := 7) (i' := 0) (by decide) rfl (by decide) dX3_read_165 ?_
          refine vr_aload_n hE dX3_read_166 rfl ?_
          refine mr_get hE (z := 11) (by decide) q2518 rfl rfl dX3_read_167 ?_
          refine vr_iconst (v := 0) hE dX3_read_170 (by decide) ?_
          refine vr_iload_n hE dX3_read_171 rfl ?_
          refine mr_ast hE hA (j := 8) (i' := 0) (by decide) rfl (by decide) dX3_read_172 ?_
          refine vr_aload_n hE dX3_read_173 rfl ?_
          refine vr_iconst (v := 2) hE dX3_read_174 (by decide) ?_
          refine mr_call hE hA (mo_fails G _ _) ok_X3_fails (lw_V q2595 q2597 qs34 q82 q2598) rfl rfl (Nat.le_of_ble_eq_true rfl) (by decide) dX3_read_175 ?_
          rintro v_175 u_175 ⟨rfl, hu_175⟩
          obtain rfl := hu_175.symm
          refine vr_ireturn hE hQ rfl dX3_read_178 (by decide) ⟨_, ?_, fun H h => h⟩
          exact ⟨by rw [hres] <;> rfl, by rw [hres] <;> rfl⟩
        · exact absurd (nI_le (a := 117) (b := 117) (by decide) (by decide)) c_131
      · refine vr_iload_n hE dX3_read_128 rfl ?_
        refine vr_bipush (v := 117) hE dX3_read_129 (by decide) ?_
        refine vr_icmp_ge (tgt := 152) hE dX3_read_131 (by decide) (fun c_131 => ?_) (fun c_131 => ?_)
        · exact absurd c_131 (nI_ge (b := 117) (show k < 117 by omega) (by decide))
        refine vr_aload_n hE dX3_read_134 rfl ?_
        refine mr_get hE (z := 1) (by decide) q2508 rfl rfl dX3_read_135 ?_
        refine vr_iload_n hE dX3_read_138 rfl ?_
        refine vr_aload_n hE dX3_read_139 rfl ?_
        refine mr_get hE (z := 2) (by decide) q2509 rfl rfl dX3_read_140 ?_
        refine vr_iload_n hE dX3_read_143 rfl ?_
        refine mr_ald hE (j := 1) (by decide) rfl (by show _ < 117; omega) dX3_read_144 ?_
        refine mr_ast hE hA (j := 0) (by decide) rfl (by show _ < 117; omega) dX3_read_145 ?_
        refine vr_iinc hE dX3_read_146 rfl (iinc_1 _) (hnl _ (by decide)) rfl ?_
        refine vr_goto (tgt := 128) hE dX3_read_149 (by decide) ?_
        refine vr_P (fun H h => ?_) ih
        simp only [sA_R, setR_R, setR_self] at h
        rw [← cpy_s]
        exact h
    have hok1 : m_ok (m_rd σ e (o, x)) n w := hok
    have hlp_108 : ∀ (c : Nat) (i : Nat) (τ : bi_S), i + c = o → m_kp (m_rd σ e (o, x)) τ → m_read σ q n e = m_ran q o (m_run n c i τ) → bi_V Y.1 X (mo_P Y.2.1 mo ad (τ)) 0 0 108 [some (.ref mo), some (.int (nI i)), none, none] [] := by
      intro c
      induction c with
      | zero =>
        intro i τ hi hk hres
        have hok2 : m_ok τ n w := hok1.kp hk
        have h21 : τ.1 21 = nI o := hk.2.2.2.2.1
        have h5 : τ.1 5 = nI q := hk.2.2.2.1.trans hq
        refine vr_iload_n hE dX3_read_108 rfl ?_
        refine vr_aload_n hE dX3_read_109 rfl ?_
        refine mr_get hE (z := 21) (by decide) q2528 rfl rfl dX3_read_110 ?_
        refine vr_icmp_ge (tgt := 185) hE dX3_read_113 (by decide) (fun c_113 => ?_) (fun c_113 => ?_)
        · skip
          refine vr_aload_n hE dX3_read_185 rfl ?_
          refine vr_aload_n hE dX3_read_186 rfl ?_
          refine mr_get hE (z := 21) (by decide) q2528 rfl rfl dX3_read_187 ?_
          refine vr_topi (fun x_190 e_190 => ?_)
          obtain rfl : x_190 = nI o := e_190.trans h21
          refine mr_call hE hA (mo_changed G _ q hq8 h5 _) ok_X3_changed (lw_V q2599 q2601 qs35 q82 q2602) rfl rfl (Nat.le_of_ble_eq_true rfl) (by decide) dX3_read_190 ?_
          rintro v_190 u_190 ⟨rfl, hu_190⟩
          obtain rfl := hu_190.symm
          refine vr_ireturn hE hQ rfl dX3_read_193 (by decide) ⟨_, ?_, fun H h => h⟩
          exact ⟨by rw [hres] <;> rfl, by rw [hres] <;> rfl⟩
        · exact absurd (by rw [h21, show i = o by omega]; exact nI_le (Nat.le_refl _) (by omega)) c_113
      | succ c ih =>
        intro i τ hi hk hres
        have hok2 : m_ok τ n w := hok1.kp hk
        have h21 : τ.1 21 = nI o := hk.2.2.2.2.1
        have h5 : τ.1 5 = nI q := hk.2.2.2.1.trans hq
        refine vr_iload_n hE dX3_read_108 rfl ?_
        refine vr_aload_n hE dX3_read_109 rfl ?_
        refine mr_get hE (z := 21) (by decide) q2528 rfl rfl dX3_read_110 ?_
        refine vr_icmp_ge (tgt := 185) hE dX3_read_113 (by decide) (fun c_113 => ?_) (fun c_113 => ?_)
        · exact absurd (by rw [h21] at c_113; exact c_113) (nI_ge (show i < o by omega) (by omega))
        skip
        refine vr_aload_n hE dX3_read_116 rfl ?_
        refine vr_iload_n hE dX3_read_117 rfl ?_
        refine mr_call hE hA (mo_does G _ n hok2.1 hok2.2.1 w hok2.2.2.1 hok2.2.2.2.1 hok2.2.2.2.2 i (by omega)) ok_X3_does (lw_V q2824 q2826 qs64 q82 q2827) rfl rfl (Nat.le_of_ble_eq_true rfl) (by decide) dX3_read_118 ?_
        rintro v_118 u_118 ⟨rfl, hu_118⟩
        obtain rfl := hu_118.symm
        refine vr_istore_n hE dX3_read_121 (hnl _ (by decide)) rfl ?_
        refine vr_iload_n hE dX3_read_122 rfl ?_
        refine vr_if_le (tgt := 179) hE dX3_read_123 (by decide) (fun c_123 => ?_) (fun c_123 => ?_)
        · skip
          refine vr_drop 2 ?_
          refine vr_iinc hE dX3_read_179 rfl (iinc_1 _) (hnl _ (by decide)) rfl ?_
          refine vr_goto (tgt := 108) hE dX3_read_182 (by decide) ?_
          exact ih (i + 1) _ (by omega) (hk.tr (m_does_kp τ hok2 i)) (by rw [hres, m_run, if_pos c_123])
        · skip
          refine vr_iconst (v := 0) hE dX3_read_126 (by decide) ?_
          refine vr_istore_n hE dX3_read_127 (hnl _ (by decide)) rfl ?_
          have z := hB _ i _ (by omega) (by rw [hres, m_run, if_neg c_123]) 0 (Nat.zero_le _)
          rw [cpy_0, setR_id] at z
          exact z
    refine vr_iconst (v := 0) hE dX3_read_106 (by decide) ?_
    refine vr_istore_n hE dX3_read_107 (hnl _ (by decide)) rfl ?_
    exact hlp_108 o 0 _ (Nat.zero_add _) hk0 hq'
  have hE74 : ∀ (o : Nat) (x : q_S), o ≤ 26 → x.2.2 ≤ e → (o, x) = q_read (σ.2 4) e (σ.2 5) → bi_V Y.1 X (mo_P Y.2.1 mo ad (m_rd σ e (o, x))) 0 0 74 [some (.ref mo), none, none, none] [] := by
    intro o x ho hxe hR
    refine vr_aload_n hE dX3_read_74 rfl ?_
    refine mr_get hE (z := 22) (by decide) q2529 rfl rfl dX3_read_75 ?_
    refine vr_if_ne (tgt := 92) hE dX3_read_78 (by decide) (fun c_78 => ?_) (fun c_78 => ?_)
    · replace c_78 : x.2.1 = true := m_b0'.mp c_78
      have hb : q_bad e x.2 = true := by rw [q_bad, c_78]; rfl
      refine vr_aload_n hE dX3_read_92 rfl ?_
      refine vr_aload_n hE dX3_read_93 rfl ?_
      refine mr_get hE (z := 19) (by decide) q2526 rfl rfl dX3_read_94 ?_
      refine mr_put hE hA (z := 14) (by decide) q2521 rfl rfl rfl rfl (fun _ => rfl) dX3_read_97 ?_
      refine vr_aload_n hE dX3_read_100 rfl ?_
      refine vr_iconst (v := 1) hE dX3_read_101 (by decide) ?_
      refine mr_call hE hA (mo_fails G _ _) ok_X3_fails (lw_V q2595 q2597 qs34 q82 q2598) rfl rfl (Nat.le_of_ble_eq_true rfl) (by decide) dX3_read_102 ?_
      rintro v_102 u_102 ⟨rfl, hu_102⟩
      obtain rfl := hu_102.symm
      refine vr_ireturn hE hQ rfl dX3_read_105 (by decide) ⟨_, ?_, fun H h => h⟩
      exact ⟨by rw [m_read, ← hR, if_pos hb] <;> rfl, by rw [m_read, ← hR, if_pos hb] <;> rfl⟩
    · replace c_78 : x.2.1 = false := m_b0.mp c_78
      refine vr_aload_n hE dX3_read_81 rfl ?_
      refine mr_get hE (z := 19) (by decide) q2526 rfl rfl dX3_read_82 ?_
      refine vr_aload_n hE dX3_read_85 rfl ?_
      refine mr_get hE (z := 20) (by decide) q2527 rfl rfl dX3_read_86 ?_
      refine vr_icmp_ge (tgt := 106) hE dX3_read_89 (by decide) (fun c_89 => ?_) (fun c_89 => ?_)
      · have hb : ¬ q_bad e x.2 = true := by
          rw [q_bad, c_78, Bool.false_or]
          exact fun z => absurd (show nI e ≤ nI x.2.2 from c_89) (nI_ge (of_decide_eq_true z) (by omega))
        exact hD o x ho hR hb
      · have hb : q_bad e x.2 = true := by
          rw [q_bad, c_78, Bool.false_or]
          exact decide_eq_true (Nat.lt_of_not_le fun z => c_89 (show nI e ≤ nI x.2.2 from nI_le z (by omega)))
        refine vr_aload_n hE dX3_read_92 rfl ?_
        refine vr_aload_n hE dX3_read_93 rfl ?_
        refine mr_get hE (z := 19) (by decide) q2526 rfl rfl dX3_read_94 ?_
        refine mr_put hE hA (z := 14) (by decide) q2521 rfl rfl rfl rfl (fun _ => rfl) dX3_read_97 ?_
        refine vr_aload_n hE dX3_read_100 rfl ?_
        refine vr_iconst (v := 1) hE dX3_read_101 (by decide) ?_
        refine mr_call hE hA (mo_fails G _ _) ok_X3_fails (lw_V q2595 q2597 qs34 q82 q2598) rfl rfl (Nat.le_of_ble_eq_true rfl) (by decide) dX3_read_102 ?_
        rintro v_102 u_102 ⟨rfl, hu_102⟩
        obtain rfl := hu_102.symm
        refine vr_ireturn hE hQ rfl dX3_read_105 (by decide) ⟨_, ?_, fun H h => h⟩
        exact ⟨by rw [m_read, ← hR, if_pos hb] <;> rfl, by rw [m_read, ← hR, if_pos hb] <;> rfl⟩
  have hlp_41 : ∀ (c : Nat) (o : Nat) (x : q_S), x.2.2 ≤ e → o ≤ x.2.2 + 1 → e + 1 ≤ c + x.2.2 → q_all (σ.2 4) e c o x = q_read (σ.2 4) e (σ.2 5) → bi_V Y.1 X (mo_P Y.2.1 mo ad (m_rd σ e (o, x))) 0 0 41 [some (.ref mo), none, none, none] [] := by
    intro c
    induction c with
    | zero =>
      intro o x hxe hox hc hR
      exact absurd hc (by omega)
    | succ c ih =>
      intro o x hxe hox hc hR
      refine vr_aload_n hE dX3_read_41 rfl ?_
      refine mr_get hE (z := 22) (by decide) q2529 rfl rfl dX3_read_42 ?_
      refine vr_if_ne (tgt := 74) hE dX3_read_45 (by decide) (fun c_45 => ?_) (fun c_45 => ?_)
      · replace c_45 : x.2.1 = true := m_b0'.mp c_45
        exact hE74 o x (by omega) hxe (by rw [← hR, q_all, if_pos c_45])
      · replace c_45 : ¬ x.2.1 = true := fun z => absurd (m_b0.mp c_45) (by rw [z]; decide)
        refine vr_aload_n hE dX3_read_48 rfl ?_
        refine mr_call hE hA (mo_here G (setR (sF (m_rd0 σ e) 21 (nI o)) 5 x.1) x.2 e (by omega) rfl hxe) ok_X3_here (lw_V q2791 q2793 qs59 q82 q2794) rfl rfl (Nat.le_of_ble_eq_true rfl) (by decide) dX3_read_49 ?_
        rintro v_49 u_49 ⟨rfl, hu_49⟩
        obtain rfl := hu_49.symm
        refine vr_P (P' := mo_P Y.2.1 mo ad (m_rd σ e (o, x))) (fun H h => h) ?_
        refine vr_bipush (v := 59) hE dX3_read_52 (by decide) ?_
        refine vr_icmp_ne (tgt := 74) hE dX3_read_54 (by decide) (fun c_54 => ?_) (fun c_54 => ?_)
        · replace c_54 : ¬ q_here (σ.2 4) e x.2.2 = 59 := c_54
          exact hE74 o x (by omega) hxe (by rw [← hR, q_all, if_neg c_45, if_neg c_54])
        · replace c_54 : q_here (σ.2 4) e x.2.2 = 59 := c_54
          have hlt : x.2.2 < e := q_here_lt (by rw [c_54]; decide)
          refine vr_aload_n hE dX3_read_57 rfl ?_
          refine vr_dup hE dX3_read_58 rfl ?_
          refine mr_get hE (z := 19) (by decide) q2526 rfl rfl dX3_read_59 ?_
          refine vr_iconst (v := 1) hE dX3_read_62 (by decide) ?_
          refine vr_iadd hE dX3_read_63 ?_
          refine vr_to (w := .int (nI (x.2.2 + 1))) (congrArg Value.int (nI_1 _)) ?_
          refine mr_put hE hA (z := 19) (by decide) q2526 rfl rfl rfl rfl (fun _ => rfl) dX3_read_64 ?_
          refine vr_P (P' := mo_P Y.2.1 mo ad (m_qs (sF (m_rd0 σ e) 21 (nI o)) (x.1, (false, x.2.2 + 1)))) (fun H h => ?_) ?_
          · rw [show m_qs (sF (m_rd0 σ e) 21 (nI o)) (x.1, (false, x.2.2 + 1)) = sF (m_rd σ e (o, x)) 19 (nI (x.2.2 + 1)) from by
              show _ = sF (m_ps (setR (sF (m_rd0 σ e) 21 (nI o)) 5 x.1) x.2) 19 _
              rw [m_ps_s, show x.2.1 = false from by simpa using c_45]
              rfl]
            exact h
          refine vr_aload_n hE dX3_read_67 rfl ?_
          refine mr_call hE hA (mo_readsOne G (sF (m_rd0 σ e) 21 (nI o)) (x.1, (false, x.2.2 + 1)) e (by omega) rfl o (by omega) rfl hlt) ok_X3_readsOne (lw_V q2787 q2789 qs58 q82 q2790) rfl rfl (Nat.le_of_ble_eq_true rfl) (by decide) dX3_read_68 ?_
          rintro v_68 u_68 ⟨rfl, hu_68⟩
          obtain rfl := hu_68.symm
          refine vr_P (P' := mo_P Y.2.1 mo ad (m_rd σ e (o + 1, q_one (σ.2 4) e o (x.1, (false, x.2.2 + 1))))) (fun H h => by rw [sF_sF] at h; exact h) ?_
          refine vr_goto (tgt := 41) hE dX3_read_71 (by decide) ?_
          have ht : q_to e (false, x.2.2 + 1) (q_one (σ.2 4) e o (x.1, (false, x.2.2 + 1))).2 := q_one_to (x := (x.1, (false, x.2.2 + 1))) hlt
          exact ih (o + 1) _ ht.2 (by have := ht.1; simp only at this; omega) (by have := ht.1; simp only at this; omega) (by rw [← hR, q_all, if_neg c_45, if_pos c_54])
  refine vr_P (P' := mo_P Y.2.1 mo ad (m_rd σ e (0, σ.2 5, false, 0))) (fun H h => by rw [← m_rd_0]; exact h) ?_
  refine vr_aload_n hE dX3_read_37 rfl ?_
  refine mr_call hE hA (mo_readsOne G (sF (m_rd0 σ e) 21 (nI 0)) (σ.2 5, (false, 0)) e (by omega) rfl 0 (by omega) rfl (Nat.zero_le _)) ok_X3_readsOne (lw_V q2787 q2789 qs58 q82 q2790) rfl rfl (Nat.le_of_ble_eq_true rfl) (by decide) dX3_read_38 ?_
  rintro v_38 u_38 ⟨rfl, hu_38⟩
  obtain rfl := hu_38.symm
  refine vr_P (P' := mo_P Y.2.1 mo ad (m_rd σ e (1, q_one (σ.2 4) e 0 (σ.2 5, (false, 0))))) (fun H h => by rw [sF_sF] at h; exact h) ?_
  have ht : q_to e (false, 0) (q_one (σ.2 4) e 0 (σ.2 5, (false, 0))).2 := q_one_to (x := (σ.2 5, (false, 0))) (Nat.zero_le _)
  exact hlp_41 (e + 1) 1 _ ht.2 (by omega) (by omega) rfl
