/-! the reference's inner works, as functions -/
set_option maxRecDepth 100000
def m_shows (s : Nat → Int32) (t w : Nat) : Int32 := s (45 + t) - s (109 + w)
def m_fineT (x : Int32) : Int32 := if x ≤ 4 then 0 else (x + 9) / 10
def m_bush (s : Nat → Int32) (t : Nat) : Int32 := if s (75 + t) ≤ 2 then 0 else s (75 + t) - 2
def m_fine (s : Nat → Int32) (t w f : Nat) : Int32 := s (5 + f) * (m_fineT (m_shows s t w) + m_bush s t)
/-- what an inspection leaves -/
def m_l1 (s : Nat → Int32) (t w : Nat) : Nat → Int32 := upd s (65 + t) (if in_ (m_shows s t w) (-4) 4 = 0 then -1 else s 0)
def m_l2 (s : Nat → Int32) (t : Nat) : Nat → Int32 := upd s (75 + t) (if s (75 + t) ≤ 2 then s (75 + t) else 0)
def m_lp (s : Nat → Int32) (t : Nat) (fi : Int32) : Int32 := if fi ≤ s (25 + t) then fi else s (25 + t)
def m_l3 (s : Nat → Int32) (t : Nat) (py : Int32) : Nat → Int32 := upd s (25 + t) (s (25 + t) - py)
def m_l4 (s : Nat → Int32) (t : Nat) (fi py : Int32) : Nat → Int32 := upd s (35 + t) (s (35 + t) + (fi - py))
def m_l5 (s : Nat → Int32) (t : Nat) (fi : Int32) : Nat → Int32 := upd s (85 + t) (s (85 + t) + fi)
def m_l6 (s : Nat → Int32) (f : Nat) (fi : Int32) : Nat → Int32 := upd s (10 + f) (s (10 + f) + fi)
def m_l7 (s : Nat → Int32) (t : Nat) : Nat → Int32 := upd s (95 + t) (s 0)
def m_l8 (s : Nat → Int32) (w : Nat) : Nat → Int32 := upd s (113 + w) (s (113 + w) + 1)
def m_l9 (s : Nat → Int32) (w : Nat) : Nat → Int32 := upd s (109 + w) (s (109 + w) + (if ¬ jmod (s (105 + w) + s (113 + w)) 4 = 0 then 0 else 1))
def m_l10 (s : Nat → Int32) : Nat → Int32 := upd s 3 (s 3 + 1)
def m_lA (s : Nat → Int32) (t w f : Nat) : Nat → Int32 :=
  m_l5 (m_l4 (m_l3 (m_l2 (m_l1 s t w) t) t (m_lp (m_l2 (m_l1 s t w) t) t (m_fine s t w f))) t (m_fine s t w f) (m_lp (m_l2 (m_l1 s t w) t) t (m_fine s t w f))) t (m_fine s t w f)
def m_looks (s : Nat → Int32) (t w f : Nat) : Nat → Int32 := m_l10 (m_l9 (m_l8 (m_l7 (m_l6 (m_lA s t w f) f (m_fine s t w f)) t) w) w)
/-- an inner work's answer (0: done) and what it leaves -/
abbrev bi_O : Type := Int32 × bi_S
def m_ref (σ : bi_S) (r o : Int32) : bi_O := (r, m_refused σ o)
def m_cause (s : Nat → Int32) (t : Nat) : Int32 := if s (15 + t) = m_fn s then 3 else 2
def m_inspects (σ : bi_S) (t w f : Nat) : bi_O :=
  if ¬ σ.2 0 (15 + t) = m_fn (σ.2 0) ∨ σ.2 0 (95 + t) = σ.2 0 0 then
    (12, sF (sF (m_refused σ (nI t)) 16 (m_cause (σ.2 0) t)) 17 (if ¬ m_cause (σ.2 0) t = 2 then nI t else σ.2 0 (15 + t)))
  else if σ.2 0 (109 + w) ≤ 9 then (0, m_done (setR σ 0 (m_looks (σ.2 0) t w f)) (m_fine (σ.2 0) t w f))
  else m_ref σ 4 (σ.2 0 (109 + w))
def m_mends (σ : bi_S) (t : Nat) : bi_O :=
  if ¬ σ.2 0 (45 + t) = 0 then
    (if 6 ≤ σ.2 0 (25 + t) then (0, m_done (setR σ 0 (upd (upd (upd (σ.2 0) (25 + t) (σ.2 0 (25 + t) - 6)) (45 + t) 0) (65 + t) (-1))) (σ.2 0 (45 + t)))
     else m_ref σ 5 (6 - σ.2 0 (25 + t)))
  else m_ref σ 6 (nI t)
def m_shaved (s : Nat → Int32) (t : Nat) (b : Int32) : Int32 := if s (75 + t) + b ≤ 20 then s (75 + t) + b else 20
def m_shaves (σ : bi_S) (t : Nat) (b : Int32) : bi_O :=
  if ¬ σ.2 0 (15 + t) = m_fn (σ.2 0) then
    (if ¬ σ.2 0 (75 + t) = 20 then (0, m_done (setR σ 0 (upd (σ.2 0) (75 + t) (m_shaved (σ.2 0) t b))) (m_shaved (σ.2 0) t b)) else m_ref σ 8 (nI t))
  else m_ref σ 7 (m_fn (σ.2 0))
def m_drifts (σ : bi_S) (t : Nat) (b : Int32) : bi_O := (0, m_done (setR σ 0 (upd (σ.2 0) (55 + t) b)) (σ.2 0 (55 + t)))
def m_paid (s : Nat → Int32) (t : Nat) (b : Int32) : Int32 := if s (35 + t) ≤ b then s (35 + t) else b
def m_pay2 (s : Nat → Int32) (t : Nat) (py : Int32) : Nat → Int32 := upd (upd s (25 + t) (s (25 + t) - py)) (35 + t) (upd s (25 + t) (s (25 + t) - py) (35 + t) - py)
def m_pays (σ : bi_S) (t : Nat) (b : Int32) : bi_O :=
  if ¬ σ.2 0 (35 + t) = 0 then
    (if m_paid (σ.2 0) t b ≤ σ.2 0 (25 + t) then (0, m_done (setR σ 0 (m_pay2 (σ.2 0) t (m_paid (σ.2 0) t b))) (m_pay2 (σ.2 0) t (m_paid (σ.2 0) t b) (35 + t)))
     else m_ref σ 5 (m_paid (σ.2 0) t b - σ.2 0 (25 + t)))
  else m_ref σ 9 (nI t)
/-- the day's first round: who is at the fair sells -/
def m_d1s (p : (Nat → Int32) × Int32) (i : Nat) : (Nat → Int32) × Int32 :=
  if p.1 (15 + i) = m_fn p.1 ∧ p.1 (35 + i) ≤ 30 then (m_gets p.1 i (30 + m_tens p.1 i), p.2 + m_lossOf p.1 i) else p
def m_d1 (s : Nat → Int32) : Nat → (Nat → Int32) × Int32
  | 0 => (s, 0)
  | i + 1 => m_d1s (m_d1 s i) i
/-- the second: scales drift, seals age -/
def m_d2a (s : Nat → Int32) (i : Nat) : Nat → Int32 := upd s (45 + i) (m_drifted (s (45 + i)) (s (55 + i)))
def m_d2b (s : Nat → Int32) (i : Nat) : Nat → Int32 := upd s (65 + i) (if s (65 + i) = -1 then s (65 + i) else if s 0 - s (65 + i) < 30 then s (65 + i) else -1)
def m_d2 (s : Nat → Int32) : Nat → Nat → Int32
  | 0 => s
  | i + 1 => m_d2b (m_d2a (m_d2 s i) i) i
def m_d3 (s : Nat → Int32) (lost : Int32) : Nat → Int32 := upd (upd s 4 (s 4 + lost)) 0 (upd s 4 (s 4 + lost) 0 + 1)
def m_dayL (s : Nat → Int32) (n : Nat) : Int32 := (m_d1 s n).2
def m_day (s : Nat → Int32) (n : Nat) : Nat → Int32 := m_d3 (m_d2 (m_d1 s n).1 n) (m_dayL s n)
/-- d days -/
def m_days (s : Nat → Int32) (n : Nat) : Nat → (Nat → Int32) × Int32
  | 0 => (s, 0)
  | d + 1 => (m_day (m_days s n d).1 n, (m_days s n d).2 + m_dayL (m_days s n d).1 n)
def m_passes (σ : bi_S) (n d : Nat) : bi_O := (0, m_done (setR σ 0 (m_days (σ.2 0) n d).1) (m_days (σ.2 0) n d).2)
/-- places that a step leaves alone -/
theorem m_gets_ne {s : Nat → Int32} {t j : Nat} {c : Int32} (h1 : j ≠ 35 + t) (h2 : j ≠ 25 + t) : m_gets s t c j = s j := by
  simp only [m_gets]
  rw [pk_un h2, pk_un h1]
theorem m_d1_ne {s : Nat → Int32} {j : Nat} (h : j < 25 ∨ 45 ≤ j) : ∀ i, i ≤ 10 → (m_d1 s i).1 j = s j := by
  intro i
  induction i with
  | zero => intro _; rfl
  | succ i ih =>
    intro hi
    have e := ih (by omega)
    simp only [m_d1, m_d1s]
    split
    · exact (m_gets_ne (by omega) (by omega)).trans e
    · exact e
theorem m_d2_ne {s : Nat → Int32} {j : Nat} (h : j < 45 ∨ 75 ≤ j) : ∀ i, i ≤ 10 → m_d2 s i j = s j := by
  intro i
  induction i with
  | zero => intro _; rfl
  | succ i ih =>
    intro hi
    have e := ih (by omega)
    simp only [m_d2, m_d2b, m_d2a]
    rw [pk_un (by omega), pk_un (by omega)]
    exact e
theorem m_day_ne {s : Nat → Int32} {n j : Nat} (hn : n ≤ 10) (h : j < 25 ∨ 75 ≤ j) (h0 : j ≠ 0) (h4 : j ≠ 4) : m_day s n j = s j := by
  simp only [m_day, m_d3]
  rw [pk_un h0, pk_un h4, m_d2_ne (by omega) n hn, m_d1_ne (by omega) n hn]
theorem m_days_ne {s : Nat → Int32} {n j : Nat} (hn : n ≤ 10) (h : j < 25 ∨ 75 ≤ j) (h0 : j ≠ 0) (h4 : j ≠ 4) : ∀ d, (m_days s n d).1 j = s j := by
  intro d
  induction d with
  | zero => rfl
  | succ d ih => simp only [m_days]; rw [m_day_ne hn h h0 h4]; exact ih
/-! the reference's inner works, walked -/
set_option maxRecDepth 100000
theorem ok_X3_isTrader : bi_ok yX3_isTrader RX3 1 := by decide +kernel
theorem mo_isTrader {Y : bi_Y} {mo : Nat} {ad : Nat → Nat} (G : mo_G Y mo ad) (σ : bi_S) (a : Int32) : bi_Met Y yX3_isTrader (ws_ yX3_isTrader cX3_isTrader 2 (some .boolean)) 1 22 0 0 (mo_P Y.2.1 mo ad σ) (mo_F mo ad) [.ref mo, .int a] (fun v u => v = some (.int (in_ a 0 (σ.2 0 1 - 1))) ∧ u = σ) bi_nx (mo_P Y.2.1 mo ad) := by
  refine bi_Met.of (own := RX3) (L0 := [some (.ref mo), some (.int a)]) rfl (by decide) G.1 G.2 (Nat.le_of_ble_eq_true rfl) rfl (fun X hE hQ hA hnl hnm => ?_)
  have hnl : ∀ q, q < 2 → q < bi_nL X := fun q h => by rw [hnl]; exact h
  refine vr_iload_n hE dX3_isTrader_0 rfl ?_
  refine vr_iconst (v := 0) hE dX3_isTrader_1 (by decide) ?_
  refine vr_aload_n hE dX3_isTrader_2 rfl ?_
  refine mr_get hE (z := 1) (by decide) q2508 rfl rfl dX3_isTrader_3 ?_
  refine vr_iconst (v := 1) hE dX3_isTrader_6 (by decide) ?_
  refine mr_ald hE (j := 0) (i' := 1) (by decide) rfl (by decide) dX3_isTrader_7 ?_
  refine vr_iconst (v := 1) hE dX3_isTrader_8 (by decide) ?_
  refine vr_isub hE dX3_isTrader_9 ?_
  refine mr_callS hE (mo_in G.1 _ _ _ _) ok_X3_in (lw_S q2592 q2593 q82 q2594) rfl rfl (Nat.le_of_ble_eq_true rfl) (by decide) dX3_isTrader_10 ?_
  rintro v_10 rfl
  refine vr_ireturn hE hQ (in_b _ _ _) dX3_isTrader_13 (by decide) ⟨_, ?_, fun H h => h⟩
  exact ⟨rfl, rfl⟩
theorem ok_X3_isWeight : bi_ok yX3_isWeight RX3 1 := by decide +kernel
theorem mo_isWeight {Y : bi_Y} {mo : Nat} {ad : Nat → Nat} (G : mo_G Y mo ad) (σ : bi_S) (a : Int32) : bi_Met Y yX3_isWeight (ws_ yX3_isWeight cX3_isWeight 2 (some .boolean)) 1 22 0 0 (mo_P Y.2.1 mo ad σ) (mo_F mo ad) [.ref mo, .int a] (fun v u => v = some (.int (in_ a 0 (σ.2 0 2 - 1))) ∧ u = σ) bi_nx (mo_P Y.2.1 mo ad) := by
  refine bi_Met.of (own := RX3) (L0 := [some (.ref mo), some (.int a)]) rfl (by decide) G.1 G.2 (Nat.le_of_ble_eq_true rfl) rfl (fun X hE hQ hA hnl hnm => ?_)
  have hnl : ∀ q, q < 2 → q < bi_nL X := fun q h => by rw [hnl]; exact h
  refine vr_iload_n hE dX3_isWeight_0 rfl ?_
  refine vr_iconst (v := 0) hE dX3_isWeight_1 (by decide) ?_
  refine vr_aload_n hE dX3_isWeight_2 rfl ?_
  refine mr_get hE (z := 1) (by decide) q2508 rfl rfl dX3_isWeight_3 ?_
  refine vr_iconst (v := 2) hE dX3_isWeight_6 (by decide) ?_
  refine mr_ald hE (j := 0) (i' := 2) (by decide) rfl (by decide) dX3_isWeight_7 ?_
  refine vr_iconst (v := 1) hE dX3_isWeight_8 (by decide) ?_
  refine vr_isub hE dX3_isWeight_9 ?_
  refine mr_callS hE (mo_in G.1 _ _ _ _) ok_X3_in (lw_S q2592 q2593 q82 q2594) rfl rfl (Nat.le_of_ble_eq_true rfl) (by decide) dX3_isWeight_10 ?_
  rintro v_10 rfl
  refine vr_ireturn hE hQ (in_b _ _ _) dX3_isWeight_13 (by decide) ⟨_, ?_, fun H h => h⟩
  exact ⟨rfl, rfl⟩
theorem ok_X3_isFair : bi_ok yX3_isFair RX3 1 := by decide +kernel
theorem mo_isFair {Y : bi_Y} (G : bi_GS Y) (P : Heap → Prop) (a : Int32) : bi_Met Y yX3_isFair (ws_ yX3_isFair cX3_isFair 1 (some .boolean)) 1 22 0 0 P (fun _ => False) [.int a] (fun v (_ : Unit) => v = some (.int (in_ a 0 4))) bi_nx (fun _ => P) := by
  refine bi_Met.of (own := RX3) (L0 := [some (.int a)]) rfl (by decide) G (fun _ h => h.elim) (Nat.le_of_ble_eq_true rfl) rfl (fun X hE hQ hA hnl hnm => ?_)
  have hnl : ∀ q, q < 1 → q < bi_nL X := fun q h => by rw [hnl]; exact h
  refine vr_iload_n hE dX3_isFair_0 rfl ?_
  refine vr_iconst (v := 0) hE dX3_isFair_1 (by decide) ?_
  refine vr_iconst (v := 4) hE dX3_isFair_2 (by decide) ?_
  refine mr_callS hE (mo_in G _ _ _ _) ok_X3_in (lw_S q2592 q2593 q82 q2594) rfl rfl (Nat.le_of_ble_eq_true rfl) (by decide) dX3_isFair_3 ?_
  rintro v_3 rfl
  refine vr_ireturn hE hQ (in_b _ _ _) dX3_isFair_6 (by decide) ⟨(), ?_, fun H h => h⟩
  rfl
theorem ok_X3_fairNow : bi_ok yX3_fairNow RX3 0 := by decide +kernel
theorem mo_fairNow {Y : bi_Y} {mo : Nat} {ad : Nat → Nat} (G : mo_G Y mo ad) (σ : bi_S) : bi_Met Y yX3_fairNow (ws_ yX3_fairNow cX3_fairNow 1 (some .int)) 0 0 0 0 (mo_P Y.2.1 mo ad σ) (mo_F mo ad) [.ref mo] (fun v u => v = some (.int (m_fn (σ.2 0))) ∧ u = σ) bi_nx (mo_P Y.2.1 mo ad) := by
  refine bi_Met.of (own := RX3) (L0 := [some (.ref mo)]) rfl (by decide) G.1 G.2 (Nat.le_of_ble_eq_true rfl) rfl (fun X hE hQ hA hnl hnm => ?_)
  have hnl : ∀ q, q < 1 → q < bi_nL X := fun q h => by rw [hnl]; exact h
  refine vr_aload_n hE dX3_fairNow_0 rfl ?_
  refine mr_get hE (z := 1) (by decide) q2508 rfl rfl dX3_fairNow_1 ?_
  refine vr_iconst (v := 0) hE dX3_fairNow_4 (by decide) ?_
  refine mr_ald hE (j := 0) (i' := 0) (by decide) rfl (by decide) dX3_fairNow_5 ?_
  refine vr_iconst (v := 5) hE dX3_fairNow_6 (by decide) ?_
  refine vr_irem hE dX3_fairNow_7 (by decide) ?_
  refine vr_ireturn hE hQ rfl dX3_fairNow_8 (by decide) ⟨_, ?_, fun H h => h⟩
  exact ⟨rfl, rfl⟩
theorem ok_X3_ends : bi_ok yX3_ends RX3 2 := by decide +kernel
theorem mo_ends {Y : bi_Y} {mo : Nat} {ad : Nat → Nat} (G : mo_G Y mo ad) (σ : bi_S) (q : Nat) (hq8 : q ≤ 8) (hq : σ.1 5 = nI q) (r c : Int32) : bi_Met Y yX3_ends (ws_ yX3_ends cX3_ends 3 (some .int)) 1 22 0 0 (mo_P Y.2.1 mo ad σ) (mo_F mo ad) [.ref mo, .int r, .int c] (fun v u => v = some (.int (m_endsV σ r)) ∧ u = m_ends σ q r c) bi_nx (mo_P Y.2.1 mo ad) := by
  refine bi_Met.of (own := RX3) (L0 := [some (.ref mo), some (.int r), some (.int c)]) rfl (by decide) G.1 G.2 (Nat.le_of_ble_eq_true rfl) rfl (fun X hE hQ hA hnl hnm => ?_)
  have hnl : ∀ q, q < 3 → q < bi_nL X := fun q h => by rw [hnl]; exact h
  refine vr_iload_n hE dX3_ends_0 rfl ?_
  refine vr_if_ne (tgt := 13) hE dX3_ends_1 (by decide) (fun c_1 => ?_) (fun c_1 => ?_)
  · skip
    refine vr_aload_n hE dX3_ends_13 rfl ?_
    refine vr_iconst (v := 0) hE dX3_ends_14 (by decide) ?_
    refine vr_iload_n hE dX3_ends_15 rfl ?_
    refine mr_call hE hA (mo_keeps0 G _ _) ok_X3_keeps (lw_V q2615 q2617 qs38 q82 q2618) rfl rfl (Nat.le_of_ble_eq_true rfl) (by decide) dX3_ends_16 ?_
    rintro v_16 u_16 ⟨rfl, hu_16⟩
    obtain rfl := hu_16.symm
    refine vr_aload_n hE dX3_ends_19 rfl ?_
    refine vr_iload_n hE dX3_ends_20 rfl ?_
    refine mr_call hE hA (mo_fails G _ _) ok_X3_fails (lw_V q2595 q2597 qs34 q82 q2598) rfl rfl (Nat.le_of_ble_eq_true rfl) (by decide) dX3_ends_21 ?_
    rintro v_21 u_21 ⟨rfl, hu_21⟩
    obtain rfl := hu_21.symm
    refine vr_ireturn hE hQ rfl dX3_ends_24 (by decide) ⟨_, ?_, fun H h => h⟩
    exact ⟨by simp [m_endsV, c_1], by simp [m_ends, c_1]⟩
  · skip
    refine vr_aload_n hE dX3_ends_4 rfl ?_
    refine vr_aload_n hE dX3_ends_5 rfl ?_
    refine mr_get hE (z := 18) (by decide) q2525 rfl rfl dX3_ends_6 ?_
    refine mr_call hE hA (mo_changed G σ q hq8 hq _) ok_X3_changed (lw_V q2599 q2601 qs35 q82 q2602) rfl rfl (Nat.le_of_ble_eq_true rfl) (by decide) dX3_ends_9 ?_
    rintro v_9 u_9 ⟨rfl, hu_9⟩
    obtain rfl := hu_9.symm
    refine vr_ireturn hE hQ rfl dX3_ends_12 (by decide) ⟨_, ?_, fun H h => h⟩
    exact ⟨by simp [m_endsV, c_1], by simp [m_ends, c_1]⟩
theorem ok_X3_lossOf : bi_ok yX3_lossOf RX3 1 := by decide +kernel
theorem mo_lossOf {Y : bi_Y} {mo : Nat} {ad : Nat → Nat} (G : mo_G Y mo ad) (σ : bi_S) (t : Nat) (ht : t < 10) : bi_Met Y yX3_lossOf (ws_ yX3_lossOf cX3_lossOf 2 (some .int)) 0 0 0 0 (mo_P Y.2.1 mo ad σ) (mo_F mo ad) [.ref mo, .int (nI t)] (fun v u => v = some (.int (m_lossOf (σ.2 0) t)) ∧ u = σ) bi_nx (mo_P Y.2.1 mo ad) := by
  refine bi_Met.of (own := RX3) (L0 := [some (.ref mo), some (.int (nI t))]) rfl (by decide) G.1 G.2 (Nat.le_of_ble_eq_true rfl) rfl (fun X hE hQ hA hnl hnm => ?_)
  have hnl : ∀ q, q < 2 → q < bi_nL X := fun q h => by rw [hnl]; exact h
  refine vr_aload_n hE dX3_lossOf_0 rfl ?_
  refine mr_get hE (z := 1) (by decide) q2508 rfl rfl dX3_lossOf_1 ?_
  refine vr_bipush (v := 45) hE dX3_lossOf_4 (by decide) ?_
  refine vr_iload_n hE dX3_lossOf_6 rfl ?_
  refine vr_iadd hE dX3_lossOf_7 ?_
  refine mr_ald hE (j := 0) (by decide) (nI_add 45 _) (by show _ < 117; omega) dX3_lossOf_8 ?_
  apply vt_if_le (tgt := 27) (J := 28) hE dX3_lossOf_9 (by decide)
  · intro c_9 kt1
    refine vr_iconst (v := 0) hE dX3_lossOf_27 (by decide) ?_
    exact kt1
  · intro c_9 kf1
    refine vr_aload_n hE dX3_lossOf_12 rfl ?_
    refine mr_get hE (z := 1) (by decide) q2508 rfl rfl dX3_lossOf_13 ?_
    refine vr_bipush (v := 45) hE dX3_lossOf_16 (by decide) ?_
    refine vr_iload_n hE dX3_lossOf_18 rfl ?_
    refine vr_iadd hE dX3_lossOf_19 ?_
    refine mr_ald hE (j := 0) (by decide) (nI_add 45 _) (by show _ < 117; omega) dX3_lossOf_20 ?_
    refine vr_bipush (v := 10) hE dX3_lossOf_21 (by decide) ?_
    refine vr_idiv hE dX3_lossOf_23 (by decide) ?_
    refine vr_goto (tgt := 28) hE dX3_lossOf_24 (by decide) ?_
    exact kf1
  refine vr_aload_n hE dX3_lossOf_28 rfl ?_
  refine mr_get hE (z := 1) (by decide) q2508 rfl rfl dX3_lossOf_29 ?_
  refine vr_bipush (v := 75) hE dX3_lossOf_32 (by decide) ?_
  refine vr_iload_n hE dX3_lossOf_34 rfl ?_
  refine vr_iadd hE dX3_lossOf_35 ?_
  refine mr_ald hE (j := 0) (by decide) (nI_add 75 _) (by show _ < 117; omega) dX3_lossOf_36 ?_
  refine vr_iconst (v := 5) hE dX3_lossOf_37 (by decide) ?_
  refine vr_idiv hE dX3_lossOf_38 (by decide) ?_
  refine vr_iadd hE dX3_lossOf_39 ?_
  refine vr_ireturn hE hQ rfl dX3_lossOf_40 (by decide) ⟨_, ?_, fun H h => h⟩
  exact ⟨rfl, rfl⟩
theorem ok_X3_isBarred : bi_ok yX3_isBarred RX3 1 := by decide +kernel
theorem mo_isBarred {Y : bi_Y} {mo : Nat} {ad : Nat → Nat} (G : mo_G Y mo ad) (σ : bi_S) (t : Nat) (ht : t < 10) : bi_Met Y yX3_isBarred (ws_ yX3_isBarred cX3_isBarred 2 (some .boolean)) 0 0 0 0 (mo_P Y.2.1 mo ad σ) (mo_F mo ad) [.ref mo, .int (nI t)] (fun v u => v = some (.int (m_barred (σ.2 0) t)) ∧ u = σ) bi_nx (mo_P Y.2.1 mo ad) := by
  refine bi_Met.of (own := RX3) (L0 := [some (.ref mo), some (.int (nI t))]) rfl (by decide) G.1 G.2 (Nat.le_of_ble_eq_true rfl) rfl (fun X hE hQ hA hnl hnm => ?_)
  have hnl : ∀ q, q < 2 → q < bi_nL X := fun q h => by rw [hnl]; exact h
  refine vr_aload_n hE dX3_isBarred_0 rfl ?_
  refine mr_get hE (z := 1) (by decide) q2508 rfl rfl dX3_isBarred_1 ?_
  refine vr_bipush (v := 35) hE dX3_isBarred_4 (by decide) ?_
  refine vr_iload_n hE dX3_isBarred_6 rfl ?_
  refine vr_iadd hE dX3_isBarred_7 ?_
  refine mr_ald hE (j := 0) (by decide) (nI_add 35 _) (by show _ < 117; omega) dX3_isBarred_8 ?_
  refine vr_bipush (v := 30) hE dX3_isBarred_9 (by decide) ?_
  apply vt_icmp_le (tgt := 18) (J := 19) hE dX3_isBarred_11 (by decide)
  · intro c_11 kt1
    refine vr_iconst (v := 0) hE dX3_isBarred_18 (by decide) ?_
    exact kt1
  · intro c_11 kf1
    refine vr_iconst (v := 1) hE dX3_isBarred_14 (by decide) ?_
    refine vr_goto (tgt := 19) hE dX3_isBarred_15 (by decide) ?_
    exact kf1
  refine vr_ireturn hE hQ (by split <;> rfl) dX3_isBarred_19 (by decide) ⟨_, ?_, fun H h => h⟩
  exact ⟨rfl, rfl⟩
theorem ok_X3_drifted : bi_ok yX3_drifted RX3 2 := by decide +kernel
theorem mo_drifted {Y : bi_Y} (G : bi_GS Y) (P : Heap → Prop) (a b : Int32) : bi_Met Y yX3_drifted (ws_ yX3_drifted cX3_drifted 3 (some .int)) 0 0 0 0 P (fun _ => False) [.int a, .int b] (fun v (_ : Unit) => v = some (.int (m_drifted a b))) bi_nx (fun _ => P) := by
  refine bi_Met.of (own := RX3) (L0 := [some (.int a), some (.int b), none]) rfl (by decide) G (fun _ h => h.elim) (Nat.le_of_ble_eq_true rfl) rfl (fun X hE hQ hA hnl hnm => ?_)
  have hnl : ∀ q, q < 3 → q < bi_nL X := fun q h => by rw [hnl]; exact h
  refine vr_iload_n hE dX3_drifted_0 rfl ?_
  refine vr_iload_n hE dX3_drifted_1 rfl ?_
  refine vr_iadd hE dX3_drifted_2 ?_
  refine vr_istore_n hE dX3_drifted_3 (hnl _ (by decide)) rfl ?_
  refine vr_iload_n hE dX3_drifted_4 rfl ?_
  refine vr_bipush (v := 50) hE dX3_drifted_5 (by decide) ?_
  apply vt_icmp_le (tgt := 15) (J := 27) hE dX3_drifted_7 (by decide)
  · intro c_7 kt1
    refine vr_iload_n hE dX3_drifted_15 rfl ?_
    refine vr_bipush (v := -50) hE dX3_drifted_16 (by decide) ?_
    apply vt_icmp_ge (tgt := 26) (J := 27) hE dX3_drifted_18 (by decide)
    · intro c_18 kt2
      refine vr_iload_n hE dX3_drifted_26 rfl ?_
      exact kt2
    · intro c_18 kf2
      refine vr_bipush (v := -50) hE dX3_drifted_21 (by decide) ?_
      refine vr_goto (tgt := 27) hE dX3_drifted_23 (by decide) ?_
      exact kf2
    exact kt1
  · intro c_7 kf1
    refine vr_bipush (v := 50) hE dX3_drifted_10 (by decide) ?_
    refine vr_goto (tgt := 27) hE dX3_drifted_12 (by decide) ?_
    exact kf1
  refine vr_ireturn hE hQ rfl dX3_drifted_27 (by decide) ⟨(), ?_, fun H h => h⟩
  rfl
theorem ok_X3_gets : bi_ok yX3_gets RX3 2 := by decide +kernel
theorem mo_gets {Y : bi_Y} {mo : Nat} {ad : Nat → Nat} (G : mo_G Y mo ad) (σ : bi_S) (t : Nat) (ht : t < 10) (c : Int32) : bi_Met Y yX3_gets (ws_ yX3_gets cX3_gets 5 none) 0 0 0 0 (mo_P Y.2.1 mo ad σ) (mo_F mo ad) [.ref mo, .int (nI t), .int c] (fun v u => v = none ∧ u = setR σ 0 (m_gets (σ.2 0) t c)) bi_nx (mo_P Y.2.1 mo ad) := by
  refine bi_Met.of (own := RX3) (L0 := [some (.ref mo), some (.int (nI t)), some (.int c), none, none]) rfl (by decide) G.1 G.2 (Nat.le_of_ble_eq_true rfl) rfl (fun X hE hQ hA hnl hnm => ?_)
  have hnl : ∀ q, q < 5 → q < bi_nL X := fun q h => by rw [hnl]; exact h
  refine vr_iload_n hE dX3_gets_0 rfl ?_
  refine vr_iconst (v := 2) hE dX3_gets_1 (by decide) ?_
  refine vr_idiv hE dX3_gets_2 (by decide) ?_
  refine vr_aload_n hE dX3_gets_3 rfl ?_
  refine mr_get hE (z := 1) (by decide) q2508 rfl rfl dX3_gets_4 ?_
  refine vr_bipush (v := 35) hE dX3_gets_7 (by decide) ?_
  refine vr_iload_n hE dX3_gets_9 rfl ?_
  refine vr_iadd hE dX3_gets_10 ?_
  refine mr_ald hE (j := 0) (by decide) (nI_add 35 _) (by show _ < 117; omega) dX3_gets_11 ?_
  apply vt_icmp_ge (tgt := 21) (J := 30) hE dX3_gets_12 (by decide)
  · intro c_12 kt1
    refine vr_aload_n hE dX3_gets_21 rfl ?_
    refine mr_get hE (z := 1) (by decide) q2508 rfl rfl dX3_gets_22 ?_
    refine vr_bipush (v := 35) hE dX3_gets_25 (by decide) ?_
    refine vr_iload_n hE dX3_gets_27 rfl ?_
    refine vr_iadd hE dX3_gets_28 ?_
    refine mr_ald hE (j := 0) (by decide) (nI_add 35 _) (by show _ < 117; omega) dX3_gets_29 ?_
    exact kt1
  · intro c_12 kf1
    refine vr_iload_n hE dX3_gets_15 rfl ?_
    refine vr_iconst (v := 2) hE dX3_gets_16 (by decide) ?_
    refine vr_idiv hE dX3_gets_17 (by decide) ?_
    refine vr_goto (tgt := 30) hE dX3_gets_18 (by decide) ?_
    exact kf1
  refine vr_istore_n hE dX3_gets_30 (hnl _ (by decide)) rfl ?_
  refine vr_aload_n hE dX3_gets_31 rfl ?_
  refine mr_get hE (z := 1) (by decide) q2508 rfl rfl dX3_gets_32 ?_
  refine vr_bipush (v := 35) hE dX3_gets_35 (by decide) ?_
  refine vr_iload_n hE dX3_gets_37 rfl ?_
  refine vr_iadd hE dX3_gets_38 ?_
  refine vr_dup2 hE dX3_gets_39 rfl rfl ?_
  refine mr_ald hE (j := 0) (by decide) (nI_add 35 _) (by show _ < 117; omega) dX3_gets_40 ?_
  refine vr_iload_n hE dX3_gets_41 rfl ?_
  refine vr_isub hE dX3_gets_42 ?_
  refine mr_ast hE hA (j := 0) (by decide) (nI_add 35 _) (by show _ < 117; omega) dX3_gets_43 ?_
  refine vr_aload_n hE dX3_gets_44 rfl ?_
  refine mr_get hE (z := 1) (by decide) q2508 rfl rfl dX3_gets_45 ?_
  refine vr_bipush (v := 25) hE dX3_gets_48 (by decide) ?_
  refine vr_iload_n hE dX3_gets_50 rfl ?_
  refine vr_iadd hE dX3_gets_51 ?_
  refine mr_ald hE (j := 0) (by decide) (nI_add 25 _) (by show _ < 117; omega) dX3_gets_52 ?_
  refine vr_iload_n hE dX3_gets_53 rfl ?_
  refine vr_iadd hE dX3_gets_54 ?_
  refine vr_iload_n hE dX3_gets_55 rfl ?_
  refine vr_isub hE dX3_gets_56 ?_
  refine vr_istore hE dX3_gets_57 (hnl _ (by decide)) rfl ?_
  refine vr_aload_n hE dX3_gets_59 rfl ?_
  refine mr_get hE (z := 1) (by decide) q2508 rfl rfl dX3_gets_60 ?_
  refine vr_bipush (v := 25) hE dX3_gets_63 (by decide) ?_
  refine vr_iload_n hE dX3_gets_65 rfl ?_
  refine vr_iadd hE dX3_gets_66 ?_
  refine vr_iload hE dX3_gets_67 rfl ?_
  refine vr_sipush (v := 999) hE dX3_gets_69 (by decide) ?_
  apply vt_icmp_le (tgt := 81) (J := 83) hE dX3_gets_72 (by decide)
  · intro c_72 kt2
    refine vr_iload hE dX3_gets_81 rfl ?_
    exact kt2
  · intro c_72 kf2
    refine vr_sipush (v := 999) hE dX3_gets_75 (by decide) ?_
    refine vr_goto (tgt := 83) hE dX3_gets_78 (by decide) ?_
    exact kf2
  refine mr_ast hE hA (j := 0) (by decide) (nI_add 25 _) (by show _ < 117; omega) dX3_gets_83 ?_
  refine vr_return hE hQ dX3_gets_84 (by decide) ⟨_, ?_, fun H h => h⟩
  exact ⟨rfl, by simp only [sA_R, setR_R, setR_self]; rfl⟩
theorem ok_X3_showsBy : bi_ok yX3_showsBy RX3 2 := by decide +kernel
theorem mo_showsBy {Y : bi_Y} {mo : Nat} {ad : Nat → Nat} (G : mo_G Y mo ad) (σ : bi_S) (t : Nat) (ht : t < 10) (w : Nat) (hw : w < 4) : bi_Met Y yX3_showsBy (ws_ yX3_showsBy cX3_showsBy 3 (some .int)) 0 0 0 0 (mo_P Y.2.1 mo ad σ) (mo_F mo ad) [.ref mo, .int (nI t), .int (nI w)] (fun v u => v = some (.int (m_shows (σ.2 0) t w)) ∧ u = σ) bi_nx (mo_P Y.2.1 mo ad) := by
  refine bi_Met.of (own := RX3) (L0 := [some (.ref mo), some (.int (nI t)), some (.int (nI w))]) rfl (by decide) G.1 G.2 (Nat.le_of_ble_eq_true rfl) rfl (fun X hE hQ hA hnl hnm => ?_)
  have hnl : ∀ q, q < 3 → q < bi_nL X := fun q h => by rw [hnl]; exact h
  refine vr_aload_n hE dX3_showsBy_0 rfl ?_
  refine mr_get hE (z := 1) (by decide) q2508 rfl rfl dX3_showsBy_1 ?_
  refine vr_bipush (v := 45) hE dX3_showsBy_4 (by decide) ?_
  refine vr_iload_n hE dX3_showsBy_6 rfl ?_
  refine vr_iadd hE dX3_showsBy_7 ?_
  refine mr_ald hE (j := 0) (by decide) (nI_add 45 _) (by show _ < 117; omega) dX3_showsBy_8 ?_
  refine vr_aload_n hE dX3_showsBy_9 rfl ?_
  refine mr_get hE (z := 1) (by decide) q2508 rfl rfl dX3_showsBy_10 ?_
  refine vr_bipush (v := 109) hE dX3_showsBy_13 (by decide) ?_
  refine vr_iload_n hE dX3_showsBy_15 rfl ?_
  refine vr_iadd hE dX3_showsBy_16 ?_
  refine mr_ald hE (j := 0) (by decide) (nI_add 109 _) (by show _ < 117; omega) dX3_showsBy_17 ?_
  refine vr_isub hE dX3_showsBy_18 ?_
  refine vr_ireturn hE hQ rfl dX3_showsBy_19 (by decide) ⟨_, ?_, fun H h => h⟩
  exact ⟨rfl, rfl⟩
theorem ok_X3_fineBy : bi_ok yX3_fineBy RX3 2 := by decide +kernel
theorem mo_fineBy {Y : bi_Y} {mo : Nat} {ad : Nat → Nat} (G : mo_G Y mo ad) (σ : bi_S) (t : Nat) (ht : t < 10) (w : Nat) (hw : w < 4) (f : Nat) (hf5 : f < 5) (hf : σ.2 0 (15 + t) = nI f) : bi_Met Y yX3_fineBy (ws_ yX3_fineBy cX3_fineBy 7 (some .int)) 1 22 0 0 (mo_P Y.2.1 mo ad σ) (mo_F mo ad) [.ref mo, .int (nI t), .int (nI w)] (fun v u => v = some (.int (m_fine (σ.2 0) t w f)) ∧ u = σ) bi_nx (mo_P Y.2.1 mo ad) := by
  refine bi_Met.of (own := RX3) (L0 := [some (.ref mo), some (.int (nI t)), some (.int (nI w)), none, none, none, none]) rfl (by decide) G.1 G.2 (Nat.le_of_ble_eq_true rfl) rfl (fun X hE hQ hA hnl hnm => ?_)
  have hnl : ∀ q, q < 7 → q < bi_nL X := fun q h => by rw [hnl]; exact h
  refine vr_aload_n hE dX3_fineBy_0 rfl ?_
  refine vr_iload_n hE dX3_fineBy_1 rfl ?_
  refine vr_iload_n hE dX3_fineBy_2 rfl ?_
  refine mr_call hE hA (mo_showsBy G σ t ht w hw) ok_X3_showsBy (lw_V q2699 q2701 qs48 q82 q2702) rfl rfl (Nat.le_of_ble_eq_true rfl) (by decide) dX3_fineBy_3 ?_
  rintro v_3 u_3 ⟨rfl, hu_3⟩
  obtain rfl := hu_3.symm
  refine vr_istore_n hE dX3_fineBy_6 (hnl _ (by decide)) rfl ?_
  refine vr_aload_n hE dX3_fineBy_7 rfl ?_
  refine mr_get hE (z := 1) (by decide) q2508 rfl rfl dX3_fineBy_8 ?_
  refine vr_iconst (v := 5) hE dX3_fineBy_11 (by decide) ?_
  refine vr_aload_n hE dX3_fineBy_12 rfl ?_
  refine mr_get hE (z := 1) (by decide) q2508 rfl rfl dX3_fineBy_13 ?_
  refine vr_bipush (v := 15) hE dX3_fineBy_16 (by decide) ?_
  refine vr_iload_n hE dX3_fineBy_18 rfl ?_
  refine vr_iadd hE dX3_fineBy_19 ?_
  refine mr_ald hE (j := 0) (by decide) (nI_add 15 _) (by show _ < 117; omega) dX3_fineBy_20 ?_
  refine vr_iadd hE dX3_fineBy_21 ?_
  refine mr_ald hE (j := 0) (by decide) (by rw [hf]; exact nI_add 5 f) (by show _ < 117; omega) dX3_fineBy_22 ?_
  refine vr_istore hE dX3_fineBy_23 (hnl _ (by decide)) rfl ?_
  refine vr_iload_n hE dX3_fineBy_25 rfl ?_
  refine vr_iconst (v := 4) hE dX3_fineBy_26 (by decide) ?_
  apply vt_icmp_le (tgt := 40) (J := 41) hE dX3_fineBy_27 (by decide)
  · intro c_27 kt1
    refine vr_iconst (v := 0) hE dX3_fineBy_40 (by decide) ?_
    exact kt1
  · intro c_27 kf1
    refine vr_iload_n hE dX3_fineBy_30 rfl ?_
    refine vr_bipush (v := 9) hE dX3_fineBy_31 (by decide) ?_
    refine vr_iadd hE dX3_fineBy_33 ?_
    refine vr_bipush (v := 10) hE dX3_fineBy_34 (by decide) ?_
    refine vr_idiv hE dX3_fineBy_36 (by decide) ?_
    refine vr_goto (tgt := 41) hE dX3_fineBy_37 (by decide) ?_
    exact kf1
  refine vr_istore hE dX3_fineBy_41 (hnl _ (by decide)) rfl ?_
  refine vr_aload_n hE dX3_fineBy_43 rfl ?_
  refine mr_get hE (z := 1) (by decide) q2508 rfl rfl dX3_fineBy_44 ?_
  refine vr_bipush (v := 75) hE dX3_fineBy_47 (by decide) ?_
  refine vr_iload_n hE dX3_fineBy_49 rfl ?_
  refine vr_iadd hE dX3_fineBy_50 ?_
  refine mr_ald hE (j := 0) (by decide) (nI_add 75 _) (by show _ < 117; omega) dX3_fineBy_51 ?_
  refine vr_iconst (v := 2) hE dX3_fineBy_52 (by decide) ?_
  apply vt_icmp_le (tgt := 70) (J := 71) hE dX3_fineBy_53 (by decide)
  · intro c_53 kt2
    refine vr_iconst (v := 0) hE dX3_fineBy_70 (by decide) ?_
    exact kt2
  · intro c_53 kf2
    refine vr_aload_n hE dX3_fineBy_56 rfl ?_
    refine mr_get hE (z := 1) (by decide) q2508 rfl rfl dX3_fineBy_57 ?_
    refine vr_bipush (v := 75) hE dX3_fineBy_60 (by decide) ?_
    refine vr_iload_n hE dX3_fineBy_62 rfl ?_
    refine vr_iadd hE dX3_fineBy_63 ?_
    refine mr_ald hE (j := 0) (by decide) (nI_add 75 _) (by show _ < 117; omega) dX3_fineBy_64 ?_
    refine vr_iconst (v := 2) hE dX3_fineBy_65 (by decide) ?_
    refine vr_isub hE dX3_fineBy_66 ?_
    refine vr_goto (tgt := 71) hE dX3_fineBy_67 (by decide) ?_
    exact kf2
  refine vr_istore hE dX3_fineBy_71 (hnl _ (by decide)) rfl ?_
  refine vr_iload hE dX3_fineBy_73 rfl ?_
  refine vr_iload hE dX3_fineBy_75 rfl ?_
  refine vr_iload hE dX3_fineBy_77 rfl ?_
  refine vr_iadd hE dX3_fineBy_79 ?_
  refine vr_imul hE dX3_fineBy_80 ?_
  refine vr_ireturn hE hQ rfl dX3_fineBy_81 (by decide) ⟨_, ?_, fun H h => h⟩
  exact ⟨rfl, rfl⟩
theorem ok_X3_drifts : bi_ok yX3_drifts RX3 2 := by decide +kernel
theorem mo_drifts {Y : bi_Y} {mo : Nat} {ad : Nat → Nat} (G : mo_G Y mo ad) (σ : bi_S) (t : Nat) (ht : t < 10) (b : Int32) : bi_Met Y yX3_drifts (ws_ yX3_drifts cX3_drifts 4 (some .int)) 1 21 0 0 (mo_P Y.2.1 mo ad σ) (mo_F mo ad) [.ref mo, .int (nI t), .int b] (fun v u => v = some (.int (m_drifts σ t b).1) ∧ u = (m_drifts σ t b).2) bi_nx (mo_P Y.2.1 mo ad) := by
  refine bi_Met.of (own := RX3) (L0 := [some (.ref mo), some (.int (nI t)), some (.int b), none]) rfl (by decide) G.1 G.2 (Nat.le_of_ble_eq_true rfl) rfl (fun X hE hQ hA hnl hnm => ?_)
  have hnl : ∀ q, q < 4 → q < bi_nL X := fun q h => by rw [hnl]; exact h
  refine vr_aload_n hE dX3_drifts_0 rfl ?_
  refine mr_get hE (z := 1) (by decide) q2508 rfl rfl dX3_drifts_1 ?_
  refine vr_bipush (v := 55) hE dX3_drifts_4 (by decide) ?_
  refine vr_iload_n hE dX3_drifts_6 rfl ?_
  refine vr_iadd hE dX3_drifts_7 ?_
  refine mr_ald hE (j := 0) (by decide) (nI_add 55 _) (by show _ < 117; omega) dX3_drifts_8 ?_
  refine vr_istore_n hE dX3_drifts_9 (hnl _ (by decide)) rfl ?_
  refine vr_aload_n hE dX3_drifts_10 rfl ?_
  refine mr_get hE (z := 1) (by decide) q2508 rfl rfl dX3_drifts_11 ?_
  refine vr_bipush (v := 55) hE dX3_drifts_14 (by decide) ?_
  refine vr_iload_n hE dX3_drifts_16 rfl ?_
  refine vr_iadd hE dX3_drifts_17 ?_
  refine vr_iload_n hE dX3_drifts_18 rfl ?_
  refine mr_ast hE hA (j := 0) (by decide) (nI_add 55 _) (by show _ < 117; omega) dX3_drifts_19 ?_
  refine vr_aload_n hE dX3_drifts_20 rfl ?_
  refine vr_iload_n hE dX3_drifts_21 rfl ?_
  refine mr_call hE hA (mo_done G _ _) ok_X3_done (lw_V q2631 q2633 qs41 q82 q2634) rfl rfl (Nat.le_of_ble_eq_true rfl) (by decide) dX3_drifts_22 ?_
  rintro v_22 u_22 ⟨rfl, hu_22⟩
  obtain rfl := hu_22.symm
  refine vr_ireturn hE hQ rfl dX3_drifts_25 (by decide) ⟨_, ?_, fun H h => h⟩
  exact ⟨rfl, rfl⟩
theorem ok_X3_mends : bi_ok yX3_mends RX3 1 := by decide +kernel
theorem mo_mends {Y : bi_Y} {mo : Nat} {ad : Nat → Nat} (G : mo_G Y mo ad) (σ : bi_S) (t : Nat) (ht : t < 10) : bi_Met Y yX3_mends (ws_ yX3_mends cX3_mends 3 (some .int)) 1 22 0 0 (mo_P Y.2.1 mo ad σ) (mo_F mo ad) [.ref mo, .int (nI t)] (fun v u => v = some (.int (m_mends σ t).1) ∧ u = (m_mends σ t).2) bi_nx (mo_P Y.2.1 mo ad) := by
  refine bi_Met.of (own := RX3) (L0 := [some (.ref mo), some (.int (nI t)), none]) rfl (by decide) G.1 G.2 (Nat.le_of_ble_eq_true rfl) rfl (fun X hE hQ hA hnl hnm => ?_)
  have hnl : ∀ q, q < 3 → q < bi_nL X := fun q h => by rw [hnl]; exact h
  refine vr_aload_n hE dX3_mends_0 rfl ?_
  refine mr_get hE (z := 1) (by decide) q2508 rfl rfl dX3_mends_1 ?_
  refine vr_bipush (v := 45) hE dX3_mends_4 (by decide) ?_
  refine vr_iload_n hE dX3_mends_6 rfl ?_
  refine vr_iadd hE dX3_mends_7 ?_
  refine mr_ald hE (j := 0) (by decide) (nI_add 45 _) (by show _ < 117; omega) dX3_mends_8 ?_
  refine vr_istore_n hE dX3_mends_9 (hnl _ (by decide)) rfl ?_
  refine vr_iload_n hE dX3_mends_10 rfl ?_
  refine vr_if_ne (tgt := 22) hE dX3_mends_11 (by decide) (fun c_11 => ?_) (fun c_11 => ?_)
  · skip
    refine vr_aload_n hE dX3_mends_22 rfl ?_
    refine mr_get hE (z := 1) (by decide) q2508 rfl rfl dX3_mends_23 ?_
    refine vr_bipush (v := 25) hE dX3_mends_26 (by decide) ?_
    refine vr_iload_n hE dX3_mends_28 rfl ?_
    refine vr_iadd hE dX3_mends_29 ?_
    refine mr_ald hE (j := 0) (by decide) (nI_add 25 _) (by show _ < 117; omega) dX3_mends_30 ?_
    refine vr_bipush (v := 6) hE dX3_mends_31 (by decide) ?_
    refine vr_icmp_ge (tgt := 54) hE dX3_mends_33 (by decide) (fun c_33 => ?_) (fun c_33 => ?_)
    · skip
      refine vr_aload_n hE dX3_mends_54 rfl ?_
      refine mr_get hE (z := 1) (by decide) q2508 rfl rfl dX3_mends_55 ?_
      refine vr_bipush (v := 25) hE dX3_mends_58 (by decide) ?_
      refine vr_iload_n hE dX3_mends_60 rfl ?_
      refine vr_iadd hE dX3_mends_61 ?_
      refine vr_dup2 hE dX3_mends_62 rfl rfl ?_
      refine mr_ald hE (j := 0) (by decide) (nI_add 25 _) (by show _ < 117; omega) dX3_mends_63 ?_
      refine vr_bipush (v := 6) hE dX3_mends_64 (by decide) ?_
      refine vr_isub hE dX3_mends_66 ?_
      refine mr_ast hE hA (j := 0) (by decide) (nI_add 25 _) (by show _ < 117; omega) dX3_mends_67 ?_
      refine vr_aload_n hE dX3_mends_68 rfl ?_
      refine mr_get hE (z := 1) (by decide) q2508 rfl rfl dX3_mends_69 ?_
      refine vr_bipush (v := 45) hE dX3_mends_72 (by decide) ?_
      refine vr_iload_n hE dX3_mends_74 rfl ?_
      refine vr_iadd hE dX3_mends_75 ?_
      refine vr_iconst (v := 0) hE dX3_mends_76 (by decide) ?_
      refine mr_ast hE hA (j := 0) (by decide) (nI_add 45 _) (by show _ < 117; omega) dX3_mends_77 ?_
      refine vr_aload_n hE dX3_mends_78 rfl ?_
      refine mr_get hE (z := 1) (by decide) q2508 rfl rfl dX3_mends_79 ?_
      refine vr_bipush (v := 65) hE dX3_mends_82 (by decide) ?_
      refine vr_iload_n hE dX3_mends_84 rfl ?_
      refine vr_iadd hE dX3_mends_85 ?_
      refine vr_iconst (v := -1) hE dX3_mends_86 (by decide) ?_
      refine mr_ast hE hA (j := 0) (by decide) (nI_add 65 _) (by show _ < 117; omega) dX3_mends_87 ?_
      refine vr_aload_n hE dX3_mends_88 rfl ?_
      refine vr_iload_n hE dX3_mends_89 rfl ?_
      refine mr_call hE hA (mo_done G _ _) ok_X3_done (lw_V q2631 q2633 qs41 q82 q2634) rfl rfl (Nat.le_of_ble_eq_true rfl) (by decide) dX3_mends_90 ?_
      rintro v_90 u_90 ⟨rfl, hu_90⟩
      obtain rfl := hu_90.symm
      refine vr_ireturn hE hQ rfl dX3_mends_93 (by decide) ⟨_, ?_, fun H h => h⟩
      exact ⟨by simp only [m_mends, m_ref, c_11, c_33, not_false_eq_true, ↓reduceIte, sA_R, setR_R, setR_self], by simp only [m_mends, m_ref, c_11, c_33, not_false_eq_true, ↓reduceIte, sA_R, setR_R, setR_self]⟩
    · skip
      refine vr_aload_n hE dX3_mends_36 rfl ?_
      refine vr_iconst (v := 5) hE dX3_mends_37 (by decide) ?_
      refine vr_bipush (v := 6) hE dX3_mends_38 (by decide) ?_
      refine vr_aload_n hE dX3_mends_40 rfl ?_
      refine mr_get hE (z := 1) (by decide) q2508 rfl rfl dX3_mends_41 ?_
      refine vr_bipush (v := 25) hE dX3_mends_44 (by decide) ?_
      refine vr_iload_n hE dX3_mends_46 rfl ?_
      refine vr_iadd hE dX3_mends_47 ?_
      refine mr_ald hE (j := 0) (by decide) (nI_add 25 _) (by show _ < 117; omega) dX3_mends_48 ?_
      refine vr_isub hE dX3_mends_49 ?_
      refine mr_call hE hA (mo_refused G _ _ _) ok_X3_refused (lw_V q2607 q2609 qs36 q82 q2610) rfl rfl (Nat.le_of_ble_eq_true rfl) (by decide) dX3_mends_50 ?_
      rintro v_50 u_50 ⟨rfl, hu_50⟩
      obtain rfl := hu_50.symm
      refine vr_ireturn hE hQ rfl dX3_mends_53 (by decide) ⟨_, ?_, fun H h => h⟩
      exact ⟨by simp only [m_mends, m_ref, c_11, c_33, not_false_eq_true, ↓reduceIte, sA_R, setR_R, setR_self], by simp only [m_mends, m_ref, c_11, c_33, not_false_eq_true, ↓reduceIte, sA_R, setR_R, setR_self]⟩
  · skip
    refine vr_aload_n hE dX3_mends_14 rfl ?_
    refine vr_bipush (v := 6) hE dX3_mends_15 (by decide) ?_
    refine vr_iload_n hE dX3_mends_17 rfl ?_
    refine mr_call hE hA (mo_refused G _ _ _) ok_X3_refused (lw_V q2607 q2609 qs36 q82 q2610) rfl rfl (Nat.le_of_ble_eq_true rfl) (by decide) dX3_mends_18 ?_
    rintro v_18 u_18 ⟨rfl, hu_18⟩
    obtain rfl := hu_18.symm
    refine vr_ireturn hE hQ rfl dX3_mends_21 (by decide) ⟨_, ?_, fun H h => h⟩
    exact ⟨by simp only [m_mends, m_ref, c_11, not_true_eq_false, ↓reduceIte, sA_R, setR_R, setR_self], by simp only [m_mends, m_ref, c_11, not_true_eq_false, ↓reduceIte, sA_R, setR_R, setR_self]⟩
theorem ok_X3_shaves : bi_ok yX3_shaves RX3 2 := by decide +kernel
theorem mo_shaves {Y : bi_Y} {mo : Nat} {ad : Nat → Nat} (G : mo_G Y mo ad) (σ : bi_S) (t : Nat) (ht : t < 10) (b : Int32) : bi_Met Y yX3_shaves (ws_ yX3_shaves cX3_shaves 3 (some .int)) 1 22 0 0 (mo_P Y.2.1 mo ad σ) (mo_F mo ad) [.ref mo, .int (nI t), .int b] (fun v u => v = some (.int (m_shaves σ t b).1) ∧ u = (m_shaves σ t b).2) bi_nx (mo_P Y.2.1 mo ad) := by
  refine bi_Met.of (own := RX3) (L0 := [some (.ref mo), some (.int (nI t)), some (.int b)]) rfl (by decide) G.1 G.2 (Nat.le_of_ble_eq_true rfl) rfl (fun X hE hQ hA hnl hnm => ?_)
  have hnl : ∀ q, q < 3 → q < bi_nL X := fun q h => by rw [hnl]; exact h
  refine vr_aload_n hE dX3_shaves_0 rfl ?_
  refine mr_get hE (z := 1) (by decide) q2508 rfl rfl dX3_shaves_1 ?_
  refine vr_bipush (v := 15) hE dX3_shaves_4 (by decide) ?_
  refine vr_iload_n hE dX3_shaves_6 rfl ?_
  refine vr_iadd hE dX3_shaves_7 ?_
  refine mr_ald hE (j := 0) (by decide) (nI_add 15 _) (by show _ < 117; omega) dX3_shaves_8 ?_
  refine vr_aload_n hE dX3_shaves_9 rfl ?_
  refine mr_call hE hA (mo_fairNow G _) ok_X3_fairNow (lw_V q2667 q2669 qs46 q82 q2670) rfl rfl (Nat.le_of_ble_eq_true rfl) (by decide) dX3_shaves_10 ?_
  rintro v_10 u_10 ⟨rfl, hu_10⟩
  obtain rfl := hu_10.symm
  refine vr_icmp_ne (tgt := 27) hE dX3_shaves_13 (by decide) (fun c_13 => ?_) (fun c_13 => ?_)
  · skip
    refine vr_aload_n hE dX3_shaves_27 rfl ?_
    refine mr_get hE (z := 1) (by decide) q2508 rfl rfl dX3_shaves_28 ?_
    refine vr_bipush (v := 75) hE dX3_shaves_31 (by decide) ?_
    refine vr_iload_n hE dX3_shaves_33 rfl ?_
    refine vr_iadd hE dX3_shaves_34 ?_
    refine mr_ald hE (j := 0) (by decide) (nI_add 75 _) (by show _ < 117; omega) dX3_shaves_35 ?_
    refine vr_bipush (v := 20) hE dX3_shaves_36 (by decide) ?_
    refine vr_icmp_ne (tgt := 49) hE dX3_shaves_38 (by decide) (fun c_38 => ?_) (fun c_38 => ?_)
    · skip
      refine vr_aload_n hE dX3_shaves_49 rfl ?_
      refine mr_get hE (z := 1) (by decide) q2508 rfl rfl dX3_shaves_50 ?_
      refine vr_bipush (v := 75) hE dX3_shaves_53 (by decide) ?_
      refine vr_iload_n hE dX3_shaves_55 rfl ?_
      refine vr_iadd hE dX3_shaves_56 ?_
      refine vr_aload_n hE dX3_shaves_57 rfl ?_
      refine mr_get hE (z := 1) (by decide) q2508 rfl rfl dX3_shaves_58 ?_
      refine vr_bipush (v := 75) hE dX3_shaves_61 (by decide) ?_
      refine vr_iload_n hE dX3_shaves_63 rfl ?_
      refine vr_iadd hE dX3_shaves_64 ?_
      refine mr_ald hE (j := 0) (by decide) (nI_add 75 _) (by show _ < 117; omega) dX3_shaves_65 ?_
      refine vr_iload_n hE dX3_shaves_66 rfl ?_
      refine vr_iadd hE dX3_shaves_67 ?_
      refine vr_bipush (v := 20) hE dX3_shaves_68 (by decide) ?_
      apply vt_icmp_le (tgt := 78) (J := 89) hE dX3_shaves_70 (by decide)
      · intro c_70 kt1
        refine vr_aload_n hE dX3_shaves_78 rfl ?_
        refine mr_get hE (z := 1) (by decide) q2508 rfl rfl dX3_shaves_79 ?_
        refine vr_bipush (v := 75) hE dX3_shaves_82 (by decide) ?_
        refine vr_iload_n hE dX3_shaves_84 rfl ?_
        refine vr_iadd hE dX3_shaves_85 ?_
        refine mr_ald hE (j := 0) (by decide) (nI_add 75 _) (by show _ < 117; omega) dX3_shaves_86 ?_
        refine vr_iload_n hE dX3_shaves_87 rfl ?_
        refine vr_iadd hE dX3_shaves_88 ?_
        exact kt1
      · intro c_70 kf1
        refine vr_bipush (v := 20) hE dX3_shaves_73 (by decide) ?_
        refine vr_goto (tgt := 89) hE dX3_shaves_75 (by decide) ?_
        exact kf1
      refine mr_ast hE hA (j := 0) (by decide) (nI_add 75 _) (by show _ < 117; omega) dX3_shaves_89 ?_
      refine vr_aload_n hE dX3_shaves_90 rfl ?_
      refine vr_aload_n hE dX3_shaves_91 rfl ?_
      refine mr_get hE (z := 1) (by decide) q2508 rfl rfl dX3_shaves_92 ?_
      refine vr_bipush (v := 75) hE dX3_shaves_95 (by decide) ?_
      refine vr_iload_n hE dX3_shaves_97 rfl ?_
      refine vr_iadd hE dX3_shaves_98 ?_
      refine mr_ald hE (j := 0) (by decide) (nI_add 75 _) (by show _ < 117; omega) dX3_shaves_99 ?_
      refine mr_call hE hA (mo_done G _ _) ok_X3_done (lw_V q2631 q2633 qs41 q82 q2634) rfl rfl (Nat.le_of_ble_eq_true rfl) (by decide) dX3_shaves_100 ?_
      rintro v_100 u_100 ⟨rfl, hu_100⟩
      obtain rfl := hu_100.symm
      refine vr_ireturn hE hQ rfl dX3_shaves_103 (by decide) ⟨_, ?_, fun H h => h⟩
      exact ⟨by simp only [m_shaves, c_13, c_38, not_false_eq_true, ↓reduceIte], by simp only [m_shaves, c_13, c_38, not_false_eq_true, ↓reduceIte, sA_R, setR_self, pk_us]; rfl⟩
    · skip
      refine vr_aload_n hE dX3_shaves_41 rfl ?_
      refine vr_bipush (v := 8) hE dX3_shaves_42 (by decide) ?_
      refine vr_iload_n hE dX3_shaves_44 rfl ?_
      refine mr_call hE hA (mo_refused G _ _ _) ok_X3_refused (lw_V q2607 q2609 qs36 q82 q2610) rfl rfl (Nat.le_of_ble_eq_true rfl) (by decide) dX3_shaves_45 ?_
      rintro v_45 u_45 ⟨rfl, hu_45⟩
      obtain rfl := hu_45.symm
      refine vr_ireturn hE hQ rfl dX3_shaves_48 (by decide) ⟨_, ?_, fun H h => h⟩
      exact ⟨by simp only [m_shaves, m_ref, c_13, c_38, not_false_eq_true, not_true_eq_false, ↓reduceIte, sA_R, setR_R, setR_self], by simp only [m_shaves, m_ref, c_13, c_38, not_false_eq_true, not_true_eq_false, ↓reduceIte, sA_R, setR_R, setR_self]⟩
  · skip
    refine vr_aload_n hE dX3_shaves_16 rfl ?_
    refine vr_bipush (v := 7) hE dX3_shaves_17 (by decide) ?_
    refine vr_aload_n hE dX3_shaves_19 rfl ?_
    refine mr_call hE hA (mo_fairNow G _) ok_X3_fairNow (lw_V q2667 q2669 qs46 q82 q2670) rfl rfl (Nat.le_of_ble_eq_true rfl) (by decide) dX3_shaves_20 ?_
    rintro v_20 u_20 ⟨rfl, hu_20⟩
    obtain rfl := hu_20.symm
    refine mr_call hE hA (mo_refused G _ _ _) ok_X3_refused (lw_V q2607 q2609 qs36 q82 q2610) rfl rfl (Nat.le_of_ble_eq_true rfl) (by decide) dX3_shaves_23 ?_
    rintro v_23 u_23 ⟨rfl, hu_23⟩
    obtain rfl := hu_23.symm
    refine vr_ireturn hE hQ rfl dX3_shaves_26 (by decide) ⟨_, ?_, fun H h => h⟩
    exact ⟨by simp only [m_shaves, m_ref, c_13, not_true_eq_false, ↓reduceIte, sA_R, setR_R, setR_self], by simp only [m_shaves, m_ref, c_13, not_true_eq_false, ↓reduceIte, sA_R, setR_R, setR_self]⟩
theorem ok_X3_pays : bi_ok yX3_pays RX3 2 := by decide +kernel
theorem mo_pays {Y : bi_Y} {mo : Nat} {ad : Nat → Nat} (G : mo_G Y mo ad) (σ : bi_S) (t : Nat) (ht : t < 10) (b : Int32) : bi_Met Y yX3_pays (ws_ yX3_pays cX3_pays 4 (some .int)) 1 22 0 0 (mo_P Y.2.1 mo ad σ) (mo_F mo ad) [.ref mo, .int (nI t), .int b] (fun v u => v = some (.int (m_pays σ t b).1) ∧ u = (m_pays σ t b).2) bi_nx (mo_P Y.2.1 mo ad) := by
  refine bi_Met.of (own := RX3) (L0 := [some (.ref mo), some (.int (nI t)), some (.int b), none]) rfl (by decide) G.1 G.2 (Nat.le_of_ble_eq_true rfl) rfl (fun X hE hQ hA hnl hnm => ?_)
  have hnl : ∀ q, q < 4 → q < bi_nL X := fun q h => by rw [hnl]; exact h
  refine vr_aload_n hE dX3_pays_0 rfl ?_
  refine mr_get hE (z := 1) (by decide) q2508 rfl rfl dX3_pays_1 ?_
  refine vr_bipush (v := 35) hE dX3_pays_4 (by decide) ?_
  refine vr_iload_n hE dX3_pays_6 rfl ?_
  refine vr_iadd hE dX3_pays_7 ?_
  refine mr_ald hE (j := 0) (by decide) (nI_add 35 _) (by show _ < 117; omega) dX3_pays_8 ?_
  refine vr_if_ne (tgt := 20) hE dX3_pays_9 (by decide) (fun c_9 => ?_) (fun c_9 => ?_)
  · skip
    refine vr_iload_n hE dX3_pays_20 rfl ?_
    refine vr_aload_n hE dX3_pays_21 rfl ?_
    refine mr_get hE (z := 1) (by decide) q2508 rfl rfl dX3_pays_22 ?_
    refine vr_bipush (v := 35) hE dX3_pays_25 (by decide) ?_
    refine vr_iload_n hE dX3_pays_27 rfl ?_
    refine vr_iadd hE dX3_pays_28 ?_
    refine mr_ald hE (j := 0) (by decide) (nI_add 35 _) (by show _ < 117; omega) dX3_pays_29 ?_
    apply vt_icmp_ge (tgt := 37) (J := 46) hE dX3_pays_30 (by decide)
    · intro c_30 kt1
      refine vr_aload_n hE dX3_pays_37 rfl ?_
      refine mr_get hE (z := 1) (by decide) q2508 rfl rfl dX3_pays_38 ?_
      refine vr_bipush (v := 35) hE dX3_pays_41 (by decide) ?_
      refine vr_iload_n hE dX3_pays_43 rfl ?_
      refine vr_iadd hE dX3_pays_44 ?_
      refine mr_ald hE (j := 0) (by decide) (nI_add 35 _) (by show _ < 117; omega) dX3_pays_45 ?_
      exact kt1
    · intro c_30 kf1
      refine vr_iload_n hE dX3_pays_33 rfl ?_
      refine vr_goto (tgt := 46) hE dX3_pays_34 (by decide) ?_
      exact kf1
    refine vr_to (w := .int (m_paid (σ.2 0) t b)) rfl ?_
    refine vr_istore_n hE dX3_pays_46 (hnl _ (by decide)) rfl ?_
    refine vr_aload_n hE dX3_pays_47 rfl ?_
    refine mr_get hE (z := 1) (by decide) q2508 rfl rfl dX3_pays_48 ?_
    refine vr_bipush (v := 25) hE dX3_pays_51 (by decide) ?_
    refine vr_iload_n hE dX3_pays_53 rfl ?_
    refine vr_iadd hE dX3_pays_54 ?_
    refine mr_ald hE (j := 0) (by decide) (nI_add 25 _) (by show _ < 117; omega) dX3_pays_55 ?_
    refine vr_iload_n hE dX3_pays_56 rfl ?_
    refine vr_icmp_ge (tgt := 77) hE dX3_pays_57 (by decide) (fun c_57 => ?_) (fun c_57 => ?_)
    · skip
      refine vr_aload_n hE dX3_pays_77 rfl ?_
      refine mr_get hE (z := 1) (by decide) q2508 rfl rfl dX3_pays_78 ?_
      refine vr_bipush (v := 25) hE dX3_pays_81 (by decide) ?_
      refine vr_iload_n hE dX3_pays_83 rfl ?_
      refine vr_iadd hE dX3_pays_84 ?_
      refine vr_dup2 hE dX3_pays_85 rfl rfl ?_
      refine mr_ald hE (j := 0) (by decide) (nI_add 25 _) (by show _ < 117; omega) dX3_pays_86 ?_
      refine vr_iload_n hE dX3_pays_87 rfl ?_
      refine vr_isub hE dX3_pays_88 ?_
      refine mr_ast hE hA (j := 0) (by decide) (nI_add 25 _) (by show _ < 117; omega) dX3_pays_89 ?_
      refine vr_aload_n hE dX3_pays_90 rfl ?_
      refine mr_get hE (z := 1) (by decide) q2508 rfl rfl dX3_pays_91 ?_
      refine vr_bipush (v := 35) hE dX3_pays_94 (by decide) ?_
      refine vr_iload_n hE dX3_pays_96 rfl ?_
      refine vr_iadd hE dX3_pays_97 ?_
      refine vr_dup2 hE dX3_pays_98 rfl rfl ?_
      refine mr_ald hE (j := 0) (by decide) (nI_add 35 _) (by show _ < 117; omega) dX3_pays_99 ?_
      refine vr_iload_n hE dX3_pays_100 rfl ?_
      refine vr_isub hE dX3_pays_101 ?_
      refine mr_ast hE hA (j := 0) (by decide) (nI_add 35 _) (by show _ < 117; omega) dX3_pays_102 ?_
      refine vr_aload_n hE dX3_pays_103 rfl ?_
      refine vr_aload_n hE dX3_pays_104 rfl ?_
      refine mr_get hE (z := 1) (by decide) q2508 rfl rfl dX3_pays_105 ?_
      refine vr_bipush (v := 35) hE dX3_pays_108 (by decide) ?_
      refine vr_iload_n hE dX3_pays_110 rfl ?_
      refine vr_iadd hE dX3_pays_111 ?_
      refine mr_ald hE (j := 0) (by decide) (nI_add 35 _) (by show _ < 117; omega) dX3_pays_112 ?_
      refine mr_call hE hA (mo_done G _ _) ok_X3_done (lw_V q2631 q2633 qs41 q82 q2634) rfl rfl (Nat.le_of_ble_eq_true rfl) (by decide) dX3_pays_113 ?_
      rintro v_113 u_113 ⟨rfl, hu_113⟩
      obtain rfl := hu_113.symm
      refine vr_ireturn hE hQ rfl dX3_pays_116 (by decide) ⟨_, ?_, fun H h => h⟩
      exact ⟨by simp only [m_pays, c_9, c_57, not_false_eq_true, ↓reduceIte], by simp only [m_pays, c_9, c_57, not_false_eq_true, ↓reduceIte, sA_R, setR_R, setR_self]; rfl⟩
    · skip
      refine vr_aload_n hE dX3_pays_60 rfl ?_
      refine vr_iconst (v := 5) hE dX3_pays_61 (by decide) ?_
      refine vr_iload_n hE dX3_pays_62 rfl ?_
      refine vr_aload_n hE dX3_pays_63 rfl ?_
      refine mr_get hE (z := 1) (by decide) q2508 rfl rfl dX3_pays_64 ?_
      refine vr_bipush (v := 25) hE dX3_pays_67 (by decide) ?_
      refine vr_iload_n hE dX3_pays_69 rfl ?_
      refine vr_iadd hE dX3_pays_70 ?_
      refine mr_ald hE (j := 0) (by decide) (nI_add 25 _) (by show _ < 117; omega) dX3_pays_71 ?_
      refine vr_isub hE dX3_pays_72 ?_
      refine mr_call hE hA (mo_refused G _ _ _) ok_X3_refused (lw_V q2607 q2609 qs36 q82 q2610) rfl rfl (Nat.le_of_ble_eq_true rfl) (by decide) dX3_pays_73 ?_
      rintro v_73 u_73 ⟨rfl, hu_73⟩
      obtain rfl := hu_73.symm
      refine vr_ireturn hE hQ rfl dX3_pays_76 (by decide) ⟨_, ?_, fun H h => h⟩
      exact ⟨by simp only [m_pays, m_ref, c_9, c_57, not_false_eq_true, ↓reduceIte, sA_R, setR_R, setR_self], by simp only [m_pays, m_ref, c_9, c_57, not_false_eq_true, ↓reduceIte, sA_R, setR_R, setR_self]⟩
  · skip
    refine vr_aload_n hE dX3_pays_12 rfl ?_
    refine vr_bipush (v := 9) hE dX3_pays_13 (by decide) ?_
    refine vr_iload_n hE dX3_pays_15 rfl ?_
    refine mr_call hE hA (mo_refused G _ _ _) ok_X3_refused (lw_V q2607 q2609 qs36 q82 q2610) rfl rfl (Nat.le_of_ble_eq_true rfl) (by decide) dX3_pays_16 ?_
    rintro v_16 u_16 ⟨rfl, hu_16⟩
    obtain rfl := hu_16.symm
    refine vr_ireturn hE hQ rfl dX3_pays_19 (by decide) ⟨_, ?_, fun H h => h⟩
    exact ⟨by simp only [m_pays, m_ref, c_9, not_true_eq_false, ↓reduceIte, sA_R, setR_R, setR_self], by simp only [m_pays, m_ref, c_9, not_true_eq_false, ↓reduceIte, sA_R, setR_R, setR_self]⟩
theorem ok_X3_inspects : bi_ok yX3_inspects RX3 2 := by decide +kernel
theorem mo_inspects {Y : bi_Y} {mo : Nat} {ad : Nat → Nat} (G : mo_G Y mo ad) (σ : bi_S) (t : Nat) (ht : t < 10) (w : Nat) (hw : w < 4) (f : Nat) (hf5 : f < 5) (hf : σ.2 0 (15 + t) = nI f) : bi_Met Y yX3_inspects (ws_ yX3_inspects cX3_inspects 6 (some .int)) 2 48 0 0 (mo_P Y.2.1 mo ad σ) (mo_F mo ad) [.ref mo, .int (nI t), .int (nI w)] (fun v u => v = some (.int (m_inspects σ t w f).1) ∧ u = (m_inspects σ t w f).2) bi_nx (mo_P Y.2.1 mo ad) := by
  refine bi_Met.of (own := RX3) (L0 := [some (.ref mo), some (.int (nI t)), some (.int (nI w)), none, none, none]) rfl (by decide) G.1 G.2 (Nat.le_of_ble_eq_true rfl) rfl (fun X hE hQ hA hnl hnm => ?_)
  have hnl : ∀ q, q < 6 → q < bi_nL X := fun q h => by rw [hnl]; exact h
  refine vr_aload_n hE dX3_inspects_0 rfl ?_
  refine mr_get hE (z := 1) (by decide) q2508 rfl rfl dX3_inspects_1 ?_
  refine vr_bipush (v := 15) hE dX3_inspects_4 (by decide) ?_
  refine vr_iload_n hE dX3_inspects_6 rfl ?_
  refine vr_iadd hE dX3_inspects_7 ?_
  refine mr_ald hE (j := 0) (by decide) (nI_add 15 _) (by show _ < 117; omega) dX3_inspects_8 ?_
  refine vr_aload_n hE dX3_inspects_9 rfl ?_
  refine mr_call hE hA (mo_fairNow G _) ok_X3_fairNow (lw_V q2667 q2669 qs46 q82 q2670) rfl rfl (Nat.le_of_ble_eq_true rfl) (by decide) dX3_inspects_10 ?_
  rintro v_10 u_10 ⟨rfl, hu_10⟩
  obtain rfl := hu_10.symm
  refine vr_icmp_ne (tgt := 34) hE dX3_inspects_13 (by decide) (fun c_13 => ?_) (fun c_13 => ?_)
  · skip
    refine vr_aload_n hE dX3_inspects_34 rfl ?_
    refine vr_bipush (v := 12) hE dX3_inspects_35 (by decide) ?_
    refine vr_iload_n hE dX3_inspects_37 rfl ?_
    refine mr_call hE hA (mo_refused G _ _ _) ok_X3_refused (lw_V q2607 q2609 qs36 q82 q2610) rfl rfl (Nat.le_of_ble_eq_true rfl) (by decide) dX3_inspects_38 ?_
    rintro v_38 u_38 ⟨rfl, hu_38⟩
    obtain rfl := hu_38.symm
    refine vr_istore_n hE dX3_inspects_41 (hnl _ (by decide)) rfl ?_
    refine vr_aload_n hE dX3_inspects_42 rfl ?_
    refine vr_aload_n hE dX3_inspects_43 rfl ?_
    refine mr_get hE (z := 1) (by decide) q2508 rfl rfl dX3_inspects_44 ?_
    refine vr_bipush (v := 15) hE dX3_inspects_47 (by decide) ?_
    refine vr_iload_n hE dX3_inspects_49 rfl ?_
    refine vr_iadd hE dX3_inspects_50 ?_
    refine mr_ald hE (j := 0) (by decide) (nI_add 15 _) (by show _ < 117; omega) dX3_inspects_51 ?_
    refine vr_aload_n hE dX3_inspects_52 rfl ?_
    refine mr_call hE hA (mo_fairNow G _) ok_X3_fairNow (lw_V q2667 q2669 qs46 q82 q2670) rfl rfl (Nat.le_of_ble_eq_true rfl) (by decide) dX3_inspects_53 ?_
    rintro v_53 u_53 ⟨rfl, hu_53⟩
    obtain rfl := hu_53.symm
    apply vt_icmp_eq (tgt := 63) (J := 64) hE dX3_inspects_56 (by decide)
    · intro c_56 kt1
      refine vr_iconst (v := 3) hE dX3_inspects_63 (by decide) ?_
      exact kt1
    · intro c_56 kf1
      refine vr_iconst (v := 2) hE dX3_inspects_59 (by decide) ?_
      refine vr_goto (tgt := 64) hE dX3_inspects_60 (by decide) ?_
      exact kf1
    refine vr_to (w := .int (m_cause (σ.2 0) t)) rfl ?_
    refine mr_put hE hA (z := 16) (by decide) q2523 rfl rfl rfl rfl (fun _ => rfl) dX3_inspects_64 ?_
    refine vr_aload_n hE dX3_inspects_67 rfl ?_
    refine vr_aload_n hE dX3_inspects_68 rfl ?_
    refine mr_get hE (z := 16) (by decide) q2523 rfl rfl dX3_inspects_69 ?_
    refine vr_iconst (v := 2) hE dX3_inspects_72 (by decide) ?_
    apply vt_icmp_ne (tgt := 88) (J := 89) hE dX3_inspects_73 (by decide)
    · intro c_73 kt2
      refine vr_iload_n hE dX3_inspects_88 rfl ?_
      exact kt2
    · intro c_73 kf2
      refine vr_aload_n hE dX3_inspects_76 rfl ?_
      refine mr_get hE (z := 1) (by decide) q2508 rfl rfl dX3_inspects_77 ?_
      refine vr_bipush (v := 15) hE dX3_inspects_80 (by decide) ?_
      refine vr_iload_n hE dX3_inspects_82 rfl ?_
      refine vr_iadd hE dX3_inspects_83 ?_
      refine mr_ald hE (j := 0) (by decide) (nI_add 15 _) (by show _ < 117; omega) dX3_inspects_84 ?_
      refine vr_goto (tgt := 89) hE dX3_inspects_85 (by decide) ?_
      exact kf2
    refine mr_put hE hA (z := 17) (by decide) q2524 rfl rfl rfl rfl (fun _ => rfl) dX3_inspects_89 ?_
    refine vr_iload_n hE dX3_inspects_92 rfl ?_
    refine vr_ireturn hE hQ rfl dX3_inspects_93 (by decide) ⟨_, ?_, fun H h => h⟩
    exact ⟨by rw [m_inspects, if_pos (Or.inl c_13)], by rw [m_inspects, if_pos (Or.inl c_13)]; rfl⟩
  · skip
    refine vr_aload_n hE dX3_inspects_16 rfl ?_
    refine mr_get hE (z := 1) (by decide) q2508 rfl rfl dX3_inspects_17 ?_
    refine vr_bipush (v := 95) hE dX3_inspects_20 (by decide) ?_
    refine vr_iload_n hE dX3_inspects_22 rfl ?_
    refine vr_iadd hE dX3_inspects_23 ?_
    refine mr_ald hE (j := 0) (by decide) (nI_add 95 _) (by show _ < 117; omega) dX3_inspects_24 ?_
    refine vr_aload_n hE dX3_inspects_25 rfl ?_
    refine mr_get hE (z := 1) (by decide) q2508 rfl rfl dX3_inspects_26 ?_
    refine vr_iconst (v := 0) hE dX3_inspects_29 (by decide) ?_
    refine mr_ald hE (j := 0) (i' := 0) (by decide) rfl (by decide) dX3_inspects_30 ?_
    refine vr_icmp_ne (tgt := 94) hE dX3_inspects_31 (by decide) (fun c_31 => ?_) (fun c_31 => ?_)
    · skip
      refine vr_aload_n hE dX3_inspects_94 rfl ?_
      refine mr_get hE (z := 1) (by decide) q2508 rfl rfl dX3_inspects_95 ?_
      refine vr_bipush (v := 109) hE dX3_inspects_98 (by decide) ?_
      refine vr_iload_n hE dX3_inspects_100 rfl ?_
      refine vr_iadd hE dX3_inspects_101 ?_
      refine mr_ald hE (j := 0) (by decide) (nI_add 109 _) (by show _ < 117; omega) dX3_inspects_102 ?_
      refine vr_bipush (v := 9) hE dX3_inspects_103 (by decide) ?_
      refine vr_icmp_le (tgt := 123) hE dX3_inspects_105 (by decide) (fun c_105 => ?_) (fun c_105 => ?_)
      · skip
        refine vr_aload_n hE dX3_inspects_123 rfl ?_
        refine vr_iload_n hE dX3_inspects_124 rfl ?_
        refine vr_iload_n hE dX3_inspects_125 rfl ?_
        refine mr_call hE hA (mo_showsBy G _ t ht w hw) ok_X3_showsBy (lw_V q2699 q2701 qs48 q82 q2702) rfl rfl (Nat.le_of_ble_eq_true rfl) (by decide) dX3_inspects_126 ?_
        rintro v_126 u_126 ⟨rfl, hu_126⟩
        obtain rfl := hu_126.symm
        refine vr_istore_n hE dX3_inspects_129 (hnl _ (by decide)) rfl ?_
        refine vr_aload_n hE dX3_inspects_130 rfl ?_
        refine vr_iload_n hE dX3_inspects_131 rfl ?_
        refine vr_iload_n hE dX3_inspects_132 rfl ?_
        refine mr_call hE hA (mo_fineBy G _ t ht w hw f hf5 hf) ok_X3_fineBy (lw_V q2711 q2713 qs50 q82 q2714) rfl rfl (Nat.le_of_ble_eq_true rfl) (by decide) dX3_inspects_133 ?_
        rintro v_133 u_133 ⟨rfl, hu_133⟩
        obtain rfl := hu_133.symm
        refine vr_istore hE dX3_inspects_136 (hnl _ (by decide)) rfl ?_
        refine vr_L (L' := [some (.ref mo), some (.int (nI t)), some (.int (nI w)), some (.int (m_shows (σ.2 0) t w)), some (.int (m_fine (σ.2 0) t w f)), none]) rfl ?_
        refine vr_aload_n hE dX3_inspects_138 rfl ?_
        refine mr_get hE (z := 1) (by decide) q2508 rfl rfl dX3_inspects_139 ?_
        refine vr_bipush (v := 65) hE dX3_inspects_142 (by decide) ?_
        refine vr_iload_n hE dX3_inspects_144 rfl ?_
        refine vr_iadd hE dX3_inspects_145 ?_
        refine vr_iload_n hE dX3_inspects_146 rfl ?_
        refine vr_bipush (v := -4) hE dX3_inspects_147 (by decide) ?_
        refine vr_iconst (v := 4) hE dX3_inspects_149 (by decide) ?_
        refine mr_callS hE (mo_in G.1 _ _ _ _) ok_X3_in (lw_S q2592 q2593 q82 q2594) rfl rfl (Nat.le_of_ble_eq_true rfl) (by decide) dX3_inspects_150 ?_
        rintro v_150 rfl
        apply vt_if_eq (tgt := 165) (J := 166) hE dX3_inspects_153 (by decide)
        · intro c_153 kt3
          refine vr_iconst (v := -1) hE dX3_inspects_165 (by decide) ?_
          exact kt3
        · intro c_153 kf3
          refine vr_aload_n hE dX3_inspects_156 rfl ?_
          refine mr_get hE (z := 1) (by decide) q2508 rfl rfl dX3_inspects_157 ?_
          refine vr_iconst (v := 0) hE dX3_inspects_160 (by decide) ?_
          refine mr_ald hE (j := 0) (i' := 0) (by decide) rfl (by decide) dX3_inspects_161 ?_
          refine vr_goto (tgt := 166) hE dX3_inspects_162 (by decide) ?_
          exact kf3
        refine mr_ast hE hA (j := 0) (by decide) (nI_add 65 _) (by show _ < 117; omega) dX3_inspects_166 ?_
        refine vr_P (P' := mo_P Y.2.1 mo ad (setR σ 0 (m_l1 (σ.2 0) t w))) (fun _ h => h) ?_
        refine vr_aload_n hE dX3_inspects_167 rfl ?_
        refine mr_get hE (z := 1) (by decide) q2508 rfl rfl dX3_inspects_168 ?_
        refine vr_bipush (v := 75) hE dX3_inspects_171 (by decide) ?_
        refine vr_iload_n hE dX3_inspects_173 rfl ?_
        refine vr_iadd hE dX3_inspects_174 ?_
        refine vr_aload_n hE dX3_inspects_175 rfl ?_
        refine mr_get hE (z := 1) (by decide) q2508 rfl rfl dX3_inspects_176 ?_
        refine vr_bipush (v := 75) hE dX3_inspects_179 (by decide) ?_
        refine vr_iload_n hE dX3_inspects_181 rfl ?_
        refine vr_iadd hE dX3_inspects_182 ?_
        refine mr_ald hE (j := 0) (by decide) (nI_add 75 _) (by show _ < 117; omega) dX3_inspects_183 ?_
        refine vr_iconst (v := 2) hE dX3_inspects_184 (by decide) ?_
        apply vt_icmp_le (tgt := 192) (J := 201) hE dX3_inspects_185 (by decide)
        · intro c_185 kt4
          refine vr_aload_n hE dX3_inspects_192 rfl ?_
          refine mr_get hE (z := 1) (by decide) q2508 rfl rfl dX3_inspects_193 ?_
          refine vr_bipush (v := 75) hE dX3_inspects_196 (by decide) ?_
          refine vr_iload_n hE dX3_inspects_198 rfl ?_
          refine vr_iadd hE dX3_inspects_199 ?_
          refine mr_ald hE (j := 0) (by decide) (nI_add 75 _) (by show _ < 117; omega) dX3_inspects_200 ?_
          exact kt4
        · intro c_185 kf4
          refine vr_iconst (v := 0) hE dX3_inspects_188 (by decide) ?_
          refine vr_goto (tgt := 201) hE dX3_inspects_189 (by decide) ?_
          exact kf4
        refine mr_ast hE hA (j := 0) (by decide) (nI_add 75 _) (by show _ < 117; omega) dX3_inspects_201 ?_
        refine vr_P (P' := mo_P Y.2.1 mo ad (setR σ 0 (m_l2 (m_l1 (σ.2 0) t w) t))) (fun _ h => by rw [sA_R, setR_self, setR_R] at h; exact h) ?_
        refine vr_aload_n hE dX3_inspects_202 rfl ?_
        refine mr_get hE (z := 1) (by decide) q2508 rfl rfl dX3_inspects_203 ?_
        refine vr_bipush (v := 25) hE dX3_inspects_206 (by decide) ?_
        refine vr_iload_n hE dX3_inspects_208 rfl ?_
        refine vr_iadd hE dX3_inspects_209 ?_
        refine mr_ald hE (j := 0) (by decide) (nI_add 25 _) (by show _ < 117; omega) dX3_inspects_210 ?_
        refine vr_iload hE dX3_inspects_211 rfl ?_
        apply vt_icmp_ge (tgt := 228) (J := 230) hE dX3_inspects_213 (by decide)
        · intro c_213 kt5
          refine vr_iload hE dX3_inspects_228 rfl ?_
          exact kt5
        · intro c_213 kf5
          refine vr_aload_n hE dX3_inspects_216 rfl ?_
          refine mr_get hE (z := 1) (by decide) q2508 rfl rfl dX3_inspects_217 ?_
          refine vr_bipush (v := 25) hE dX3_inspects_220 (by decide) ?_
          refine vr_iload_n hE dX3_inspects_222 rfl ?_
          refine vr_iadd hE dX3_inspects_223 ?_
          refine mr_ald hE (j := 0) (by decide) (nI_add 25 _) (by show _ < 117; omega) dX3_inspects_224 ?_
          refine vr_goto (tgt := 230) hE dX3_inspects_225 (by decide) ?_
          exact kf5
        refine vr_istore hE dX3_inspects_230 (hnl _ (by decide)) rfl ?_
        refine vr_L (L' := [some (.ref mo), some (.int (nI t)), some (.int (nI w)), some (.int (m_shows (σ.2 0) t w)), some (.int (m_fine (σ.2 0) t w f)), some (.int (m_lp (m_l2 (m_l1 (σ.2 0) t w) t) t (m_fine (σ.2 0) t w f)))]) rfl ?_
        refine vr_aload_n hE dX3_inspects_232 rfl ?_
        refine mr_get hE (z := 1) (by decide) q2508 rfl rfl dX3_inspects_233 ?_
        refine vr_bipush (v := 25) hE dX3_inspects_236 (by decide) ?_
        refine vr_iload_n hE dX3_inspects_238 rfl ?_
        refine vr_iadd hE dX3_inspects_239 ?_
        refine vr_dup2 hE dX3_inspects_240 rfl rfl ?_
        refine mr_ald hE (j := 0) (by decide) (nI_add 25 _) (by show _ < 117; omega) dX3_inspects_241 ?_
        refine vr_iload hE dX3_inspects_242 rfl ?_
        refine vr_isub hE dX3_inspects_244 ?_
        refine mr_ast hE hA (j := 0) (by decide) (nI_add 25 _) (by show _ < 117; omega) dX3_inspects_245 ?_
        refine vr_P (P' := mo_P Y.2.1 mo ad (setR σ 0 (m_l3 (m_l2 (m_l1 (σ.2 0) t w) t) t (m_lp (m_l2 (m_l1 (σ.2 0) t w) t) t (m_fine (σ.2 0) t w f))))) (fun _ h => by rw [sA_R, setR_self, setR_R] at h; exact h) ?_
        refine vr_aload_n hE dX3_inspects_246 rfl ?_
        refine mr_get hE (z := 1) (by decide) q2508 rfl rfl dX3_inspects_247 ?_
        refine vr_bipush (v := 35) hE dX3_inspects_250 (by decide) ?_
        refine vr_iload_n hE dX3_inspects_252 rfl ?_
        refine vr_iadd hE dX3_inspects_253 ?_
        refine vr_dup2 hE dX3_inspects_254 rfl rfl ?_
        refine mr_ald hE (j := 0) (by decide) (nI_add 35 _) (by show _ < 117; omega) dX3_inspects_255 ?_
        refine vr_iload hE dX3_inspects_256 rfl ?_
        refine vr_iload hE dX3_inspects_258 rfl ?_
        refine vr_isub hE dX3_inspects_260 ?_
        refine vr_iadd hE dX3_inspects_261 ?_
        refine mr_ast hE hA (j := 0) (by decide) (nI_add 35 _) (by show _ < 117; omega) dX3_inspects_262 ?_
        refine vr_P (P' := mo_P Y.2.1 mo ad (setR σ 0 (m_l4 (m_l3 (m_l2 (m_l1 (σ.2 0) t w) t) t (m_lp (m_l2 (m_l1 (σ.2 0) t w) t) t (m_fine (σ.2 0) t w f))) t (m_fine (σ.2 0) t w f) (m_lp (m_l2 (m_l1 (σ.2 0) t w) t) t (m_fine (σ.2 0) t w f))))) (fun _ h => by rw [sA_R, setR_self, setR_R] at h; exact h) ?_
        refine vr_aload_n hE dX3_inspects_263 rfl ?_
        refine mr_get hE (z := 1) (by decide) q2508 rfl rfl dX3_inspects_264 ?_
        refine vr_bipush (v := 85) hE dX3_inspects_267 (by decide) ?_
        refine vr_iload_n hE dX3_inspects_269 rfl ?_
        refine vr_iadd hE dX3_inspects_270 ?_
        refine vr_dup2 hE dX3_inspects_271 rfl rfl ?_
        refine mr_ald hE (j := 0) (by decide) (nI_add 85 _) (by show _ < 117; omega) dX3_inspects_272 ?_
        refine vr_iload hE dX3_inspects_273 rfl ?_
        refine vr_iadd hE dX3_inspects_275 ?_
        refine mr_ast hE hA (j := 0) (by decide) (nI_add 85 _) (by show _ < 117; omega) dX3_inspects_276 ?_
        refine vr_P (P' := mo_P Y.2.1 mo ad (setR σ 0 (m_lA (σ.2 0) t w f))) (fun _ h => by rw [sA_R, setR_self, setR_R] at h; exact h) ?_
        have hfA : (setR σ 0 (m_lA (σ.2 0) t w f)).2 0 (15 + t) = nI f := by
          rw [setR_self, ← hf]
          simp (disch := omega) only [m_lA, m_l5, m_l4, m_l3, m_l2, m_l1, pk_un]
        refine vr_aload_n hE dX3_inspects_277 rfl ?_
        refine mr_get hE (z := 1) (by decide) q2508 rfl rfl dX3_inspects_278 ?_
        refine vr_bipush (v := 10) hE dX3_inspects_281 (by decide) ?_
        refine vr_aload_n hE dX3_inspects_283 rfl ?_
        refine mr_get hE (z := 1) (by decide) q2508 rfl rfl dX3_inspects_284 ?_
        refine vr_bipush (v := 15) hE dX3_inspects_287 (by decide) ?_
        refine vr_iload_n hE dX3_inspects_289 rfl ?_
        refine vr_iadd hE dX3_inspects_290 ?_
        refine mr_ald hE (j := 0) (by decide) (nI_add 15 _) (by show _ < 117; omega) dX3_inspects_291 ?_
        refine vr_iadd hE dX3_inspects_292 ?_
        refine vr_dup2 hE dX3_inspects_293 rfl rfl ?_
        refine mr_ald hE (j := 0) (by decide) (by rw [hfA]; exact nI_add 10 f) (by show _ < 117; omega) dX3_inspects_294 ?_
        refine vr_iload hE dX3_inspects_295 rfl ?_
        refine vr_iadd hE dX3_inspects_297 ?_
        refine mr_ast hE hA (j := 0) (by decide) (by rw [hfA]; exact nI_add 10 f) (by show _ < 117; omega) dX3_inspects_298 ?_
        refine vr_P (P' := mo_P Y.2.1 mo ad (setR σ 0 (m_l6 (m_lA (σ.2 0) t w f) f (m_fine (σ.2 0) t w f)))) (fun _ h => by rw [sA_R, setR_self, setR_R] at h; exact h) ?_
        refine vr_aload_n hE dX3_inspects_299 rfl ?_
        refine mr_get hE (z := 1) (by decide) q2508 rfl rfl dX3_inspects_300 ?_
        refine vr_bipush (v := 95) hE dX3_inspects_303 (by decide) ?_
        refine vr_iload_n hE dX3_inspects_305 rfl ?_
        refine vr_iadd hE dX3_inspects_306 ?_
        refine vr_aload_n hE dX3_inspects_307 rfl ?_
        refine mr_get hE (z := 1) (by decide) q2508 rfl rfl dX3_inspects_308 ?_
        refine vr_iconst (v := 0) hE dX3_inspects_311 (by decide) ?_
        refine mr_ald hE (j := 0) (i' := 0) (by decide) rfl (by decide) dX3_inspects_312 ?_
        refine mr_ast hE hA (j := 0) (by decide) (nI_add 95 _) (by show _ < 117; omega) dX3_inspects_313 ?_
        refine vr_P (P' := mo_P Y.2.1 mo ad (setR σ 0 (m_l7 (m_l6 (m_lA (σ.2 0) t w f) f (m_fine (σ.2 0) t w f)) t))) (fun _ h => by rw [sA_R, setR_self, setR_R] at h; exact h) ?_
        refine vr_aload_n hE dX3_inspects_314 rfl ?_
        refine mr_get hE (z := 1) (by decide) q2508 rfl rfl dX3_inspects_315 ?_
        refine vr_bipush (v := 113) hE dX3_inspects_318 (by decide) ?_
        refine vr_iload_n hE dX3_inspects_320 rfl ?_
        refine vr_iadd hE dX3_inspects_321 ?_
        refine vr_dup2 hE dX3_inspects_322 rfl rfl ?_
        refine mr_ald hE (j := 0) (by decide) (nI_add 113 _) (by show _ < 117; omega) dX3_inspects_323 ?_
        refine vr_iconst (v := 1) hE dX3_inspects_324 (by decide) ?_
        refine vr_iadd hE dX3_inspects_325 ?_
        refine mr_ast hE hA (j := 0) (by decide) (nI_add 113 _) (by show _ < 117; omega) dX3_inspects_326 ?_
        refine vr_P (P' := mo_P Y.2.1 mo ad (setR σ 0 (m_l8 (m_l7 (m_l6 (m_lA (σ.2 0) t w f) f (m_fine (σ.2 0) t w f)) t) w))) (fun _ h => by rw [sA_R, setR_self, setR_R] at h; exact h) ?_
        refine vr_aload_n hE dX3_inspects_327 rfl ?_
        refine mr_get hE (z := 1) (by decide) q2508 rfl rfl dX3_inspects_328 ?_
        refine vr_bipush (v := 109) hE dX3_inspects_331 (by decide) ?_
        refine vr_iload_n hE dX3_inspects_333 rfl ?_
        refine vr_iadd hE dX3_inspects_334 ?_
        refine vr_dup2 hE dX3_inspects_335 rfl rfl ?_
        refine mr_ald hE (j := 0) (by decide) (nI_add 109 _) (by show _ < 117; omega) dX3_inspects_336 ?_
        refine vr_aload_n hE dX3_inspects_337 rfl ?_
        refine mr_get hE (z := 1) (by decide) q2508 rfl rfl dX3_inspects_338 ?_
        refine vr_bipush (v := 105) hE dX3_inspects_341 (by decide) ?_
        refine vr_iload_n hE dX3_inspects_343 rfl ?_
        refine vr_iadd hE dX3_inspects_344 ?_
        refine mr_ald hE (j := 0) (by decide) (nI_add 105 _) (by show _ < 117; omega) dX3_inspects_345 ?_
        refine vr_aload_n hE dX3_inspects_346 rfl ?_
        refine mr_get hE (z := 1) (by decide) q2508 rfl rfl dX3_inspects_347 ?_
        refine vr_bipush (v := 113) hE dX3_inspects_350 (by decide) ?_
        refine vr_iload_n hE dX3_inspects_352 rfl ?_
        refine vr_iadd hE dX3_inspects_353 ?_
        refine mr_ald hE (j := 0) (by decide) (nI_add 113 _) (by show _ < 117; omega) dX3_inspects_354 ?_
        refine vr_iadd hE dX3_inspects_355 ?_
        refine vr_iconst (v := 4) hE dX3_inspects_356 (by decide) ?_
        refine vr_irem hE dX3_inspects_357 (by decide) ?_
        apply vt_if_ne (tgt := 365) (J := 366) hE dX3_inspects_358 (by decide)
        · intro c_358 kt6
          refine vr_iconst (v := 0) hE dX3_inspects_365 (by decide) ?_
          exact kt6
        · intro c_358 kf6
          refine vr_iconst (v := 1) hE dX3_inspects_361 (by decide) ?_
          refine vr_goto (tgt := 366) hE dX3_inspects_362 (by decide) ?_
          exact kf6
        refine vr_iadd hE dX3_inspects_366 ?_
        refine mr_ast hE hA (j := 0) (by decide) (nI_add 109 _) (by show _ < 117; omega) dX3_inspects_367 ?_
        refine vr_P (P' := mo_P Y.2.1 mo ad (setR σ 0 (m_l9 (m_l8 (m_l7 (m_l6 (m_lA (σ.2 0) t w f) f (m_fine (σ.2 0) t w f)) t) w) w))) (fun _ h => by rw [sA_R, setR_self, setR_R] at h; exact h) ?_
        refine vr_aload_n hE dX3_inspects_368 rfl ?_
        refine mr_get hE (z := 1) (by decide) q2508 rfl rfl dX3_inspects_369 ?_
        refine vr_iconst (v := 3) hE dX3_inspects_372 (by decide) ?_
        refine vr_dup2 hE dX3_inspects_373 rfl rfl ?_
        refine mr_ald hE (j := 0) (i' := 3) (by decide) rfl (by decide) dX3_inspects_374 ?_
        refine vr_iconst (v := 1) hE dX3_inspects_375 (by decide) ?_
        refine vr_iadd hE dX3_inspects_376 ?_
        refine mr_ast hE hA (j := 0) (i' := 3) (by decide) rfl (by decide) dX3_inspects_377 ?_
        refine vr_P (P' := mo_P Y.2.1 mo ad (setR σ 0 (m_looks (σ.2 0) t w f))) (fun _ h => by rw [sA_R, setR_self, setR_R] at h; exact h) ?_
        refine vr_aload_n hE dX3_inspects_378 rfl ?_
        refine vr_iload hE dX3_inspects_379 rfl ?_
        refine mr_call hE hA (mo_done G _ _) ok_X3_done (lw_V q2631 q2633 qs41 q82 q2634) rfl rfl (Nat.le_of_ble_eq_true rfl) (by decide) dX3_inspects_381 ?_
        rintro v_381 u_381 ⟨rfl, hu_381⟩
        obtain rfl := hu_381.symm
        refine vr_ireturn hE hQ rfl dX3_inspects_384 (by decide) ⟨_, ?_, fun H h => h⟩
        exact ⟨by simp only [m_inspects, c_13, c_31, c_105, not_true_eq_false, not_false_eq_true, or_self, or_false, ↓reduceIte], by simp only [m_inspects, c_13, c_31, c_105, not_true_eq_false, not_false_eq_true, or_self, or_false, ↓reduceIte]⟩
      · skip
        refine vr_aload_n hE dX3_inspects_108 rfl ?_
        refine vr_iconst (v := 4) hE dX3_inspects_109 (by decide) ?_
        refine vr_aload_n hE dX3_inspects_110 rfl ?_
        refine mr_get hE (z := 1) (by decide) q2508 rfl rfl dX3_inspects_111 ?_
        refine vr_bipush (v := 109) hE dX3_inspects_114 (by decide) ?_
        refine vr_iload_n hE dX3_inspects_116 rfl ?_
        refine vr_iadd hE dX3_inspects_117 ?_
        refine mr_ald hE (j := 0) (by decide) (nI_add 109 _) (by show _ < 117; omega) dX3_inspects_118 ?_
        refine mr_call hE hA (mo_refused G _ _ _) ok_X3_refused (lw_V q2607 q2609 qs36 q82 q2610) rfl rfl (Nat.le_of_ble_eq_true rfl) (by decide) dX3_inspects_119 ?_
        rintro v_119 u_119 ⟨rfl, hu_119⟩
        obtain rfl := hu_119.symm
        refine vr_ireturn hE hQ rfl dX3_inspects_122 (by decide) ⟨_, ?_, fun H h => h⟩
        exact ⟨by simp only [m_inspects, m_ref, c_13, c_31, c_105, not_true_eq_false, not_false_eq_true, or_self, or_false, ↓reduceIte, sA_R, setR_R, setR_self], by simp only [m_inspects, m_ref, c_13, c_31, c_105, not_true_eq_false, not_false_eq_true, or_self, or_false, ↓reduceIte, sA_R, setR_R, setR_self]⟩
    · skip
      refine vr_aload_n hE dX3_inspects_34 rfl ?_
      refine vr_bipush (v := 12) hE dX3_inspects_35 (by decide) ?_
      refine vr_iload_n hE dX3_inspects_37 rfl ?_
      refine mr_call hE hA (mo_refused G _ _ _) ok_X3_refused (lw_V q2607 q2609 qs36 q82 q2610) rfl rfl (Nat.le_of_ble_eq_true rfl) (by decide) dX3_inspects_38 ?_
      rintro v_38 u_38 ⟨rfl, hu_38⟩
      obtain rfl := hu_38.symm
      refine vr_istore_n hE dX3_inspects_41 (hnl _ (by decide)) rfl ?_
      refine vr_aload_n hE dX3_inspects_42 rfl ?_
      refine vr_aload_n hE dX3_inspects_43 rfl ?_
      refine mr_get hE (z := 1) (by decide) q2508 rfl rfl dX3_inspects_44 ?_
      refine vr_bipush (v := 15) hE dX3_inspects_47 (by decide) ?_
      refine vr_iload_n hE dX3_inspects_49 rfl ?_
      refine vr_iadd hE dX3_inspects_50 ?_
      refine mr_ald hE (j := 0) (by decide) (nI_add 15 _) (by show _ < 117; omega) dX3_inspects_51 ?_
      refine vr_aload_n hE dX3_inspects_52 rfl ?_
      refine mr_call hE hA (mo_fairNow G _) ok_X3_fairNow (lw_V q2667 q2669 qs46 q82 q2670) rfl rfl (Nat.le_of_ble_eq_true rfl) (by decide) dX3_inspects_53 ?_
      rintro v_53 u_53 ⟨rfl, hu_53⟩
      obtain rfl := hu_53.symm
      apply vt_icmp_eq (tgt := 63) (J := 64) hE dX3_inspects_56 (by decide)
      · intro c_56 kt7
        refine vr_iconst (v := 3) hE dX3_inspects_63 (by decide) ?_
        exact kt7
      · intro c_56 kf7
        refine vr_iconst (v := 2) hE dX3_inspects_59 (by decide) ?_
        refine vr_goto (tgt := 64) hE dX3_inspects_60 (by decide) ?_
        exact kf7
      refine vr_to (w := .int (m_cause (σ.2 0) t)) rfl ?_
      refine mr_put hE hA (z := 16) (by decide) q2523 rfl rfl rfl rfl (fun _ => rfl) dX3_inspects_64 ?_
      refine vr_aload_n hE dX3_inspects_67 rfl ?_
      refine vr_aload_n hE dX3_inspects_68 rfl ?_
      refine mr_get hE (z := 16) (by decide) q2523 rfl rfl dX3_inspects_69 ?_
      refine vr_iconst (v := 2) hE dX3_inspects_72 (by decide) ?_
      apply vt_icmp_ne (tgt := 88) (J := 89) hE dX3_inspects_73 (by decide)
      · intro c_73 kt8
        refine vr_iload_n hE dX3_inspects_88 rfl ?_
        exact kt8
      · intro c_73 kf8
        refine vr_aload_n hE dX3_inspects_76 rfl ?_
        refine mr_get hE (z := 1) (by decide) q2508 rfl rfl dX3_inspects_77 ?_
        refine vr_bipush (v := 15) hE dX3_inspects_80 (by decide) ?_
        refine vr_iload_n hE dX3_inspects_82 rfl ?_
        refine vr_iadd hE dX3_inspects_83 ?_
        refine mr_ald hE (j := 0) (by decide) (nI_add 15 _) (by show _ < 117; omega) dX3_inspects_84 ?_
        refine vr_goto (tgt := 89) hE dX3_inspects_85 (by decide) ?_
        exact kf8
      refine mr_put hE hA (z := 17) (by decide) q2524 rfl rfl rfl rfl (fun _ => rfl) dX3_inspects_89 ?_
      refine vr_iload_n hE dX3_inspects_92 rfl ?_
      refine vr_ireturn hE hQ rfl dX3_inspects_93 (by decide) ⟨_, ?_, fun H h => h⟩
      exact ⟨by rw [m_inspects, if_pos (Or.inr c_31)], by rw [m_inspects, if_pos (Or.inr c_31)]; rfl⟩
theorem ok_X3_dayGoes : bi_ok yX3_dayGoes RX3 0 := by decide +kernel
theorem mo_dayGoes {Y : bi_Y} {mo : Nat} {ad : Nat → Nat} (G : mo_G Y mo ad) (σ : bi_S) (n : Nat) (hn : n ≤ 10) (h1 : σ.2 0 1 = nI n) : bi_Met Y yX3_dayGoes (ws_ yX3_dayGoes cX3_dayGoes 3 (some .int)) 1 24 0 0 (mo_P Y.2.1 mo ad σ) (mo_F mo ad) [.ref mo] (fun v u => v = some (.int (m_dayL (σ.2 0) n)) ∧ u = setR σ 0 (m_day (σ.2 0) n)) bi_nx (mo_P Y.2.1 mo ad) := by
  refine bi_Met.of (own := RX3) (L0 := [some (.ref mo), none, none]) rfl (by decide) G.1 G.2 (Nat.le_of_ble_eq_true rfl) rfl (fun X hE hQ hA hnl hnm => ?_)
  have hnl : ∀ q, q < 3 → q < bi_nL X := fun q h => by rw [hnl]; exact h
  refine vr_iconst (v := 0) hE dX3_dayGoes_0 (by decide) ?_
  refine vr_istore_n hE dX3_dayGoes_1 (hnl _ (by decide)) rfl ?_
  refine vr_iconst (v := 0) hE dX3_dayGoes_2 (by decide) ?_
  refine vr_istore_n hE dX3_dayGoes_3 (hnl _ (by decide)) rfl ?_
  have hlp_4 : ∀ i, i ≤ n → bi_V Y.1 X (mo_P Y.2.1 mo ad (setR σ 0 (m_d1 (σ.2 0) i).1)) 0 0 4 [some (.ref mo), some (.int (m_d1 (σ.2 0) i).2), some (.int (nI i))] [] := by
    refine bi_loop (fun i => bi_V Y.1 X (mo_P Y.2.1 mo ad (setR σ 0 (m_d1 (σ.2 0) i).1)) 0 0 4 [some (.ref mo), some (.int (m_d1 (σ.2 0) i).2), some (.int (nI i))] []) n ?_ (fun i hi ih => ?_)
    · have e1 : (setR σ 0 (m_d1 (σ.2 0) n).1).2 0 1 = nI n := by rw [setR_self, m_d1_ne (by omega) _ (by omega)]; exact h1
      refine vr_iload_n hE dX3_dayGoes_4 rfl ?_
      refine vr_aload_n hE dX3_dayGoes_5 rfl ?_
      refine mr_get hE (z := 1) (by decide) q2508 rfl rfl dX3_dayGoes_6 ?_
      refine vr_iconst (v := 1) hE dX3_dayGoes_9 (by decide) ?_
      refine mr_ald hE (j := 0) (i' := 1) (by decide) rfl (by decide) dX3_dayGoes_10 ?_
      refine vr_icmp_ge (tgt := 91) hE dX3_dayGoes_11 (by decide) (fun c_11 => ?_) (fun c_11 => ?_)
      · skip
        refine vr_iconst (v := 0) hE dX3_dayGoes_91 (by decide) ?_
        refine vr_istore_n hE dX3_dayGoes_92 (hnl _ (by decide)) rfl ?_
        have hlp_93 : ∀ i, i ≤ n → bi_V Y.1 X (mo_P Y.2.1 mo ad (setR σ 0 (m_d2 (m_d1 (σ.2 0) n).1 i))) 0 0 93 [some (.ref mo), some (.int (m_dayL (σ.2 0) n)), some (.int (nI i))] [] := by
          refine bi_loop (fun i => bi_V Y.1 X (mo_P Y.2.1 mo ad (setR σ 0 (m_d2 (m_d1 (σ.2 0) n).1 i))) 0 0 93 [some (.ref mo), some (.int (m_dayL (σ.2 0) n)), some (.int (nI i))] []) n ?_ (fun i hi ih => ?_)
          · have e1 : (setR σ 0 (m_d2 (m_d1 (σ.2 0) n).1 n)).2 0 1 = nI n := by rw [setR_self, m_d2_ne (by omega) _ (by omega), m_d1_ne (by omega) _ (by omega)]; exact h1
            refine vr_iload_n hE dX3_dayGoes_93 rfl ?_
            refine vr_aload_n hE dX3_dayGoes_94 rfl ?_
            refine mr_get hE (z := 1) (by decide) q2508 rfl rfl dX3_dayGoes_95 ?_
            refine vr_iconst (v := 1) hE dX3_dayGoes_98 (by decide) ?_
            refine mr_ald hE (j := 0) (i' := 1) (by decide) rfl (by decide) dX3_dayGoes_99 ?_
            refine vr_icmp_ge (tgt := 195) hE dX3_dayGoes_100 (by decide) (fun c_100 => ?_) (fun c_100 => ?_)
            · skip
              refine vr_aload_n hE dX3_dayGoes_195 rfl ?_
              refine mr_get hE (z := 1) (by decide) q2508 rfl rfl dX3_dayGoes_196 ?_
              refine vr_iconst (v := 4) hE dX3_dayGoes_199 (by decide) ?_
              refine vr_dup2 hE dX3_dayGoes_200 rfl rfl ?_
              refine mr_ald hE (j := 0) (i' := 4) (by decide) rfl (by decide) dX3_dayGoes_201 ?_
              refine vr_iload_n hE dX3_dayGoes_202 rfl ?_
              refine vr_iadd hE dX3_dayGoes_203 ?_
              refine mr_ast hE hA (j := 0) (i' := 4) (by decide) rfl (by decide) dX3_dayGoes_204 ?_
              refine vr_aload_n hE dX3_dayGoes_205 rfl ?_
              refine mr_get hE (z := 1) (by decide) q2508 rfl rfl dX3_dayGoes_206 ?_
              refine vr_iconst (v := 0) hE dX3_dayGoes_209 (by decide) ?_
              refine vr_dup2 hE dX3_dayGoes_210 rfl rfl ?_
              refine mr_ald hE (j := 0) (i' := 0) (by decide) rfl (by decide) dX3_dayGoes_211 ?_
              refine vr_iconst (v := 1) hE dX3_dayGoes_212 (by decide) ?_
              refine vr_iadd hE dX3_dayGoes_213 ?_
              refine mr_ast hE hA (j := 0) (i' := 0) (by decide) rfl (by decide) dX3_dayGoes_214 ?_
              refine vr_iload_n hE dX3_dayGoes_215 rfl ?_
              refine vr_ireturn hE hQ rfl dX3_dayGoes_216 (by decide) ⟨_, ?_, fun H h => h⟩
              exact ⟨rfl, by simp only [sA_R, setR_R, setR_self]; rfl⟩
            · exact absurd (by rw [e1]; exact nI_le (Nat.le_refl _) (by omega)) c_100
          · have e1 : (setR σ 0 (m_d2 (m_d1 (σ.2 0) n).1 i)).2 0 1 = nI n := by rw [setR_self, m_d2_ne (by omega) _ (by omega), m_d1_ne (by omega) _ (by omega)]; exact h1
            refine vr_iload_n hE dX3_dayGoes_93 rfl ?_
            refine vr_aload_n hE dX3_dayGoes_94 rfl ?_
            refine mr_get hE (z := 1) (by decide) q2508 rfl rfl dX3_dayGoes_95 ?_
            refine vr_iconst (v := 1) hE dX3_dayGoes_98 (by decide) ?_
            refine mr_ald hE (j := 0) (i' := 1) (by decide) rfl (by decide) dX3_dayGoes_99 ?_
            refine vr_icmp_ge (tgt := 195) hE dX3_dayGoes_100 (by decide) (fun c_100 => ?_) (fun c_100 => ?_)
            · exact absurd (by rw [e1] at c_100; exact c_100) (nI_ge hi (by omega))
            skip
            refine vr_aload_n hE dX3_dayGoes_103 rfl ?_
            refine mr_get hE (z := 1) (by decide) q2508 rfl rfl dX3_dayGoes_104 ?_
            refine vr_bipush (v := 45) hE dX3_dayGoes_107 (by decide) ?_
            refine vr_iload_n hE dX3_dayGoes_109 rfl ?_
            refine vr_iadd hE dX3_dayGoes_110 ?_
            refine vr_aload_n hE dX3_dayGoes_111 rfl ?_
            refine mr_get hE (z := 1) (by decide) q2508 rfl rfl dX3_dayGoes_112 ?_
            refine vr_bipush (v := 45) hE dX3_dayGoes_115 (by decide) ?_
            refine vr_iload_n hE dX3_dayGoes_117 rfl ?_
            refine vr_iadd hE dX3_dayGoes_118 ?_
            refine mr_ald hE (j := 0) (by decide) (nI_add 45 _) (by show _ < 117; omega) dX3_dayGoes_119 ?_
            refine vr_aload_n hE dX3_dayGoes_120 rfl ?_
            refine mr_get hE (z := 1) (by decide) q2508 rfl rfl dX3_dayGoes_121 ?_
            refine vr_bipush (v := 55) hE dX3_dayGoes_124 (by decide) ?_
            refine vr_iload_n hE dX3_dayGoes_126 rfl ?_
            refine vr_iadd hE dX3_dayGoes_127 ?_
            refine mr_ald hE (j := 0) (by decide) (nI_add 55 _) (by show _ < 117; omega) dX3_dayGoes_128 ?_
            refine mr_callS hE (mo_drifted G.1 _ _ _) ok_X3_drifted (lw_S q2763 q2764 q82 q2765) rfl rfl (Nat.le_of_ble_eq_true rfl) (by decide) dX3_dayGoes_129 ?_
            rintro v_129 rfl
            refine mr_ast hE hA (j := 0) (by decide) (nI_add 45 _) (by show _ < 117; omega) dX3_dayGoes_132 ?_
            refine vr_aload_n hE dX3_dayGoes_133 rfl ?_
            refine mr_get hE (z := 1) (by decide) q2508 rfl rfl dX3_dayGoes_134 ?_
            refine vr_bipush (v := 65) hE dX3_dayGoes_137 (by decide) ?_
            refine vr_iload_n hE dX3_dayGoes_139 rfl ?_
            refine vr_iadd hE dX3_dayGoes_140 ?_
            refine vr_aload_n hE dX3_dayGoes_141 rfl ?_
            refine mr_get hE (z := 1) (by decide) q2508 rfl rfl dX3_dayGoes_142 ?_
            refine vr_bipush (v := 65) hE dX3_dayGoes_145 (by decide) ?_
            refine vr_iload_n hE dX3_dayGoes_147 rfl ?_
            refine vr_iadd hE dX3_dayGoes_148 ?_
            refine mr_ald hE (j := 0) (by decide) (nI_add 65 _) (by show _ < 117; omega) dX3_dayGoes_149 ?_
            refine vr_iconst (v := -1) hE dX3_dayGoes_150 (by decide) ?_
            apply vt_icmp_eq (tgt := 179) (J := 188) hE dX3_dayGoes_151 (by decide)
            · intro c_151 kt1
              refine vr_aload_n hE dX3_dayGoes_179 rfl ?_
              refine mr_get hE (z := 1) (by decide) q2508 rfl rfl dX3_dayGoes_180 ?_
              refine vr_bipush (v := 65) hE dX3_dayGoes_183 (by decide) ?_
              refine vr_iload_n hE dX3_dayGoes_185 rfl ?_
              refine vr_iadd hE dX3_dayGoes_186 ?_
              refine mr_ald hE (j := 0) (by decide) (nI_add 65 _) (by show _ < 117; omega) dX3_dayGoes_187 ?_
              exact kt1
            · intro c_151 kf1
              refine vr_aload_n hE dX3_dayGoes_154 rfl ?_
              refine mr_get hE (z := 1) (by decide) q2508 rfl rfl dX3_dayGoes_155 ?_
              refine vr_iconst (v := 0) hE dX3_dayGoes_158 (by decide) ?_
              refine mr_ald hE (j := 0) (i' := 0) (by decide) rfl (by decide) dX3_dayGoes_159 ?_
              refine vr_aload_n hE dX3_dayGoes_160 rfl ?_
              refine mr_get hE (z := 1) (by decide) q2508 rfl rfl dX3_dayGoes_161 ?_
              refine vr_bipush (v := 65) hE dX3_dayGoes_164 (by decide) ?_
              refine vr_iload_n hE dX3_dayGoes_166 rfl ?_
              refine vr_iadd hE dX3_dayGoes_167 ?_
              refine mr_ald hE (j := 0) (by decide) (nI_add 65 _) (by show _ < 117; omega) dX3_dayGoes_168 ?_
              refine vr_isub hE dX3_dayGoes_169 ?_
              refine vr_bipush (v := 30) hE dX3_dayGoes_170 (by decide) ?_
              apply vt_icmp_lt (tgt := 179) (J := 188) hE dX3_dayGoes_172 (by decide)
              · intro c_172 kt2
                refine vr_aload_n hE dX3_dayGoes_179 rfl ?_
                refine mr_get hE (z := 1) (by decide) q2508 rfl rfl dX3_dayGoes_180 ?_
                refine vr_bipush (v := 65) hE dX3_dayGoes_183 (by decide) ?_
                refine vr_iload_n hE dX3_dayGoes_185 rfl ?_
                refine vr_iadd hE dX3_dayGoes_186 ?_
                refine mr_ald hE (j := 0) (by decide) (nI_add 65 _) (by show _ < 117; omega) dX3_dayGoes_187 ?_
                exact kt2
              · intro c_172 kf2
                refine vr_iconst (v := -1) hE dX3_dayGoes_175 (by decide) ?_
                refine vr_goto (tgt := 188) hE dX3_dayGoes_176 (by decide) ?_
                exact kf2
              exact kf1
            refine mr_ast hE hA (j := 0) (by decide) (nI_add 65 _) (by show _ < 117; omega) dX3_dayGoes_188 ?_
            refine vr_iinc hE dX3_dayGoes_189 rfl (iinc_1 _) (hnl _ (by decide)) rfl ?_
            refine vr_goto (tgt := 93) hE dX3_dayGoes_192 (by decide) ?_
            refine vr_P (fun H h => ?_) ih
            simp only [sA_R, setR_R, setR_self] at h
            exact h
        exact hlp_93 0 (Nat.zero_le _)
      · exact absurd (by rw [e1]; exact nI_le (Nat.le_refl _) (by omega)) c_11
    · have e1 : (setR σ 0 (m_d1 (σ.2 0) i).1).2 0 1 = nI n := by rw [setR_self, m_d1_ne (by omega) _ (by omega)]; exact h1
      refine vr_iload_n hE dX3_dayGoes_4 rfl ?_
      refine vr_aload_n hE dX3_dayGoes_5 rfl ?_
      refine mr_get hE (z := 1) (by decide) q2508 rfl rfl dX3_dayGoes_6 ?_
      refine vr_iconst (v := 1) hE dX3_dayGoes_9 (by decide) ?_
      refine mr_ald hE (j := 0) (i' := 1) (by decide) rfl (by decide) dX3_dayGoes_10 ?_
      refine vr_icmp_ge (tgt := 91) hE dX3_dayGoes_11 (by decide) (fun c_11 => ?_) (fun c_11 => ?_)
      · exact absurd (by rw [e1] at c_11; exact c_11) (nI_ge hi (by omega))
      skip
      refine vr_aload_n hE dX3_dayGoes_14 rfl ?_
      refine mr_get hE (z := 1) (by decide) q2508 rfl rfl dX3_dayGoes_15 ?_
      refine vr_bipush (v := 15) hE dX3_dayGoes_18 (by decide) ?_
      refine vr_iload_n hE dX3_dayGoes_20 rfl ?_
      refine vr_iadd hE dX3_dayGoes_21 ?_
      refine mr_ald hE (j := 0) (by decide) (nI_add 15 _) (by show _ < 117; omega) dX3_dayGoes_22 ?_
      refine vr_aload_n hE dX3_dayGoes_23 rfl ?_
      refine mr_call hE hA (mo_fairNow G _) ok_X3_fairNow (lw_V q2667 q2669 qs46 q82 q2670) rfl rfl (Nat.le_of_ble_eq_true rfl) (by decide) dX3_dayGoes_24 ?_
      rintro v_24 u_24 ⟨rfl, hu_24⟩
      obtain rfl := hu_24.symm
      refine vr_icmp_ne (tgt := 85) hE dX3_dayGoes_27 (by decide) (fun c_27 => ?_) (fun c_27 => ?_)
      · rw [setR_self] at c_27
        refine vr_iinc hE dX3_dayGoes_85 rfl (iinc_1 _) (hnl _ (by decide)) rfl ?_
        refine vr_goto (tgt := 4) hE dX3_dayGoes_88 (by decide) ?_
        have e2 : m_d1 (σ.2 0) (i + 1) = m_d1 (σ.2 0) i := by
          simp only [m_d1, m_d1s]
          rw [if_neg (fun z => c_27 z.1)]
        rw [e2] at ih
        exact ih
      · rw [setR_self] at c_27
        refine vr_aload_n hE dX3_dayGoes_30 rfl ?_
        refine vr_iload_n hE dX3_dayGoes_31 rfl ?_
        refine mr_call hE hA (mo_isBarred G _ i (by omega)) ok_X3_isBarred (lw_V q2643 q2645 qs42 q82 q2646) rfl rfl (Nat.le_of_ble_eq_true rfl) (by decide) dX3_dayGoes_32 ?_
        rintro v_32 u_32 ⟨rfl, hu_32⟩
        obtain rfl := hu_32.symm
        refine vr_if_eq (tgt := 41) hE dX3_dayGoes_35 (by decide) (fun c_35 => ?_) (fun c_35 => ?_)
        · rw [setR_self] at c_35
          refine vr_iload_n hE dX3_dayGoes_41 rfl ?_
          refine vr_aload_n hE dX3_dayGoes_42 rfl ?_
          refine vr_iload_n hE dX3_dayGoes_43 rfl ?_
          refine mr_call hE hA (mo_lossOf G _ i (by omega)) ok_X3_lossOf (lw_V q2755 q2757 qs56 q82 q2758) rfl rfl (Nat.le_of_ble_eq_true rfl) (by decide) dX3_dayGoes_44 ?_
          rintro v_44 u_44 ⟨rfl, hu_44⟩
          obtain rfl := hu_44.symm
          refine vr_iadd hE dX3_dayGoes_47 ?_
          simp only [setR_self]
          refine vr_istore_n hE dX3_dayGoes_48 (hnl _ (by decide)) rfl ?_
          refine vr_aload_n hE dX3_dayGoes_49 rfl ?_
          refine vr_iload_n hE dX3_dayGoes_50 rfl ?_
          refine vr_bipush (v := 30) hE dX3_dayGoes_51 (by decide) ?_
          refine vr_aload_n hE dX3_dayGoes_53 rfl ?_
          refine mr_get hE (z := 1) (by decide) q2508 rfl rfl dX3_dayGoes_54 ?_
          refine vr_bipush (v := 45) hE dX3_dayGoes_57 (by decide) ?_
          refine vr_iload_n hE dX3_dayGoes_59 rfl ?_
          refine vr_iadd hE dX3_dayGoes_60 ?_
          refine mr_ald hE (j := 0) (by decide) (nI_add 45 _) (by show _ < 117; omega) dX3_dayGoes_61 ?_
          apply vt_if_le (tgt := 80) (J := 81) hE dX3_dayGoes_62 (by decide)
          · intro c_62 kt3
            refine vr_iconst (v := 0) hE dX3_dayGoes_80 (by decide) ?_
            exact kt3
          · intro c_62 kf3
            refine vr_aload_n hE dX3_dayGoes_65 rfl ?_
            refine mr_get hE (z := 1) (by decide) q2508 rfl rfl dX3_dayGoes_66 ?_
            refine vr_bipush (v := 45) hE dX3_dayGoes_69 (by decide) ?_
            refine vr_iload_n hE dX3_dayGoes_71 rfl ?_
            refine vr_iadd hE dX3_dayGoes_72 ?_
            refine mr_ald hE (j := 0) (by decide) (nI_add 45 _) (by show _ < 117; omega) dX3_dayGoes_73 ?_
            refine vr_bipush (v := 10) hE dX3_dayGoes_74 (by decide) ?_
            refine vr_idiv hE dX3_dayGoes_76 (by decide) ?_
            refine vr_goto (tgt := 81) hE dX3_dayGoes_77 (by decide) ?_
            exact kf3
          refine vr_to (w := .int (m_tens (m_d1 (σ.2 0) i).1 i)) (by simp only [setR_self]; rfl) ?_
          refine vr_iadd hE dX3_dayGoes_81 ?_
          refine mr_call hE hA (mo_gets G _ i (by omega) _) ok_X3_gets (lw_V q2759 q2761 qs57 q82 q2762) rfl rfl (Nat.le_of_ble_eq_true rfl) (by decide) dX3_dayGoes_82 ?_
          rintro v_82 u_82 ⟨rfl, hu_82⟩
          obtain rfl := hu_82.symm
          refine vr_iinc hE dX3_dayGoes_85 rfl (iinc_1 _) (hnl _ (by decide)) rfl ?_
          refine vr_goto (tgt := 4) hE dX3_dayGoes_88 (by decide) ?_
          have e2 : m_d1 (σ.2 0) (i + 1) = (m_gets (m_d1 (σ.2 0) i).1 i (30 + m_tens (m_d1 (σ.2 0) i).1 i), (m_d1 (σ.2 0) i).2 + m_lossOf (m_d1 (σ.2 0) i).1 i) := by
            simp only [m_d1, m_d1s]
            rw [if_pos ⟨c_27, (m_barred_0 _ _).mp c_35⟩]
          rw [e2] at ih
          rw [setR_R]
          exact ih
        · rw [setR_self] at c_35
          refine vr_goto (tgt := 85) hE dX3_dayGoes_38 (by decide) ?_
          refine vr_iinc hE dX3_dayGoes_85 rfl (iinc_1 _) (hnl _ (by decide)) rfl ?_
          refine vr_goto (tgt := 4) hE dX3_dayGoes_88 (by decide) ?_
          have e2 : m_d1 (σ.2 0) (i + 1) = m_d1 (σ.2 0) i := by
            simp only [m_d1, m_d1s]
            rw [if_neg (fun z => c_35 ((m_barred_0 _ _).mpr z.2))]
          rw [e2] at ih
          exact ih
  have z := hlp_4 0 (Nat.zero_le _)
  rw [show (m_d1 (σ.2 0) 0).1 = σ.2 0 from rfl, setR_id] at z
  exact z
