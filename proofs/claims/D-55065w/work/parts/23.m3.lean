/-! the reference's public methods, as functions: what is left, what is answered -/
set_option maxRecDepth 100000
def ix (x : Int32) : Nat := x.toNatClampNeg
theorem ix_nI {j : Nat} (h : j < 2 ^ 31) : ix (nI j) = j := nI_clamp h
theorem in_T {a x : Int32} {n : Nat} (h1 : x = nI n) (hn : n < 2 ^ 31) (c : ¬ in_ a 0 (x - 1) = 0) : ∃ j, j < n ∧ a = nI j := by
  have h2 : 0 ≤ a ∧ a ≤ x - 1 := Classical.byContradiction fun z => c ((in_0 _ _ _).mpr z)
  subst h1
  cases n with
  | zero =>
    exfalso
    have h3 : nI 0 - 1 = -1 := by decide
    rw [h3] at h2
    simp only [Int32.le_iff_toInt_le] at h2
    have e1 : (0 : Int32).toInt = 0 := by decide
    have e2 : (-1 : Int32).toInt = -1 := by decide
    omega
  | succ n =>
    rw [nI_pred] at h2
    obtain ⟨j, hj, rfl⟩ := nI_of2 (n := n) (nI_toInt (by omega)) (by rw [Int32.not_lt]; exact h2.1) h2.2
    exact ⟨j, by omega, rfl⟩
theorem in_C {a b : Int32} {n : Nat} (h1 : b = nI n) (hn : n < 2 ^ 31) (c : ¬ in_ a 0 b = 0) : ∃ j, j ≤ n ∧ a = nI j := by
  have h2 : 0 ≤ a ∧ a ≤ b := Classical.byContradiction fun z => c ((in_0 _ _ _).mpr z)
  subst h1
  exact nI_of2 (n := n) (nI_toInt (by omega)) (by rw [Int32.not_lt]; exact h2.1) h2.2
theorem in_P {a b : Int32} {m n : Nat} (h1 : b = nI n) (hn : n < 2 ^ 31) (hm : m < 2 ^ 31) (c : ¬ in_ a (nI m) b = 0) : ∃ j, m ≤ j ∧ j ≤ n ∧ a = nI j := by
  have h2 : nI m ≤ a ∧ a ≤ b := Classical.byContradiction fun z => c ((in_0 _ _ _).mpr z)
  subst h1
  simp only [Int32.le_iff_toInt_le, nI_toInt hm, nI_toInt hn] at h2
  obtain ⟨j, hj, rfl⟩ := nI_of (x := a) (by rw [Int32.lt_iff_toInt_lt, Int32.toInt_zero]; omega)
  rw [nI_toInt hj] at h2
  exact ⟨j, by omega, by omega, rfl⟩
abbrev bi_P2 : Type := bi_S × Int32
def m_pre (σ : bi_S) : bi_S := sF σ 0 0
def m_pre2 (σ : bi_S) : bi_S := m_rem (sF σ 0 0)
/-- a fault seen at once -/
def m_no (σ : bi_S) (c : Int32) : bi_P2 := (m_fails σ c, 0)
def m_end2 (o : bi_O) (q : Nat) (c : Int32) : bi_P2 := (m_ends o.2 q o.1 c, m_endsV o.2 o.1)
theorem m_ref_5 (σ : bi_S) (r x : Int32) : (m_ref σ r x).2.1 5 = σ.1 5 := rfl
theorem m_inspects_5 (σ : bi_S) (t w f : Nat) : (m_inspects σ t w f).2.1 5 = σ.1 5 := by
  unfold m_inspects
  split
  · rfl
  · split <;> rfl
theorem m_mends_5 (σ : bi_S) (t : Nat) : (m_mends σ t).2.1 5 = σ.1 5 := by
  unfold m_mends
  split
  · split <;> rfl
  · rfl
theorem m_shaves_5 (σ : bi_S) (t : Nat) (b : Int32) : (m_shaves σ t b).2.1 5 = σ.1 5 := by
  unfold m_shaves
  split
  · split <;> rfl
  · rfl
theorem m_pays_5 (σ : bi_S) (t : Nat) (b : Int32) : (m_pays σ t b).2.1 5 = σ.1 5 := by
  unfold m_pays
  split
  · split <;> rfl
  · rfl
def m_rate (σ : bi_S) (q : Nat) (f r : Int32) : bi_P2 :=
  if in_ f 0 4 = 0 then m_no (m_pre2 σ) 1 else if in_ r 1 9 = 0 then m_no (m_pre2 σ) 2
  else (m_changed (setR (m_pre2 σ) 0 (upd (σ.2 0) (5 + ix f) r)) q, σ.2 0 (5 + ix f))
def m_newT (s : Nat → Int32) (t : Nat) (f c d : Int32) : Nat → Int32 := upd (upd (upd (upd (upd (upd s (15 + t) f) (25 + t) c) (55 + t) d) (65 + t) (-1)) (95 + t) (-1)) 1 (nI t + 1)
def m_trader (σ : bi_S) (q n : Nat) (f c d : Int32) : bi_P2 :=
  if in_ f 0 4 = 0 then m_no (m_pre2 σ) 1 else if in_ c 0 999 = 0 ∨ in_ d (-3) 3 = 0 then m_no (m_pre2 σ) 2
  else if n = 10 then m_end2 (m_ref (m_pre2 σ) 1 10) q 3
  else (m_changed (setR (m_pre2 σ) 0 (m_newT (σ.2 0) n f c d)) q, nI n)
def m_drift (σ : bi_S) (q : Nat) (a d : Int32) : bi_P2 :=
  if in_ a 0 (σ.2 0 1 - 1) = 0 then m_no (m_pre2 σ) 1 else if in_ d (-3) 3 = 0 then m_no (m_pre2 σ) 2 else m_end2 (m_drifts (m_pre2 σ) (ix a) d) q 3
def m_coin (s : Nat → Int32) (t : Nat) (b : Int32) : Int32 := if s (25 + t) + b ≤ 999 then s (25 + t) + b else 999
def m_coins (σ : bi_S) (q : Nat) (a b : Int32) : bi_P2 :=
  if in_ a 0 (σ.2 0 1 - 1) = 0 then m_no (m_pre2 σ) 1 else if in_ b 1 99 = 0 then m_no (m_pre2 σ) 2
  else (m_changed (setR (m_pre2 σ) 0 (upd (σ.2 0) (25 + ix a) (m_coin (σ.2 0) (ix a) b))) q, m_coin (σ.2 0) (ix a) b)
def m_tix (k : Nat) : Nat := if k ≤ 7 then k else k - 1
def m_traderOf (σ : bi_S) (a w : Int32) : bi_P2 :=
  if in_ a 0 (σ.2 0 1 - 1) = 0 then m_no (m_pre σ) 1 else if in_ w 0 9 = 0 then m_no (m_pre σ) 2
  else if w = 7 then (m_pre σ, if m_barred (σ.2 0) (ix a) = 0 then 0 else 1)
  else (m_pre σ, σ.2 0 (15 + 10 * m_tix (ix w) + ix a))
def m_pl (s : Nat → Int32) (f : Int32) : Nat → Nat → Int32 → Int32
  | 0, _, _ => -1
  | c + 1, i, left => if left < 0 then -1 else if s (15 + i) = f then (if ¬ left = 0 then m_pl s f c (i + 1) (left + (-1)) else nI i) else m_pl s f c (i + 1) left
def m_place (s : Nat → Int32) (n : Nat) (f p : Int32) : Int32 := m_pl s f n 0 p
def m_traderAt (σ : bi_S) (n : Nat) (f p : Int32) : bi_P2 :=
  if in_ f 0 4 = 0 then m_no (m_pre σ) 1 else if ¬ m_place (σ.2 0) n f p = -1 then (m_pre σ, m_place (σ.2 0) n f p) else m_no (m_pre σ) 2
def m_sl1 (s : Nat → Int32) (f : Int32) (i : Nat) : Int32 := if f = -1 then (if s (65 + i) = -1 then 0 else 1) else if ¬ s (15 + i) = f then 0 else (if s (65 + i) = -1 then 0 else 1)
def m_seals (s : Nat → Int32) (f : Int32) : Nat → Int32
  | 0 => 0
  | i + 1 => m_seals s f i + m_sl1 s f i
def m_tOf (s : Nat → Int32) (f : Int32) : Nat → Int32
  | 0 => 0
  | i + 1 => m_tOf s f i + (if ¬ s (15 + i) = f then 0 else 1)
def m_fairOf (σ : bi_S) (n : Nat) (f w : Int32) : bi_P2 :=
  if in_ f 0 4 = 0 then m_no (m_pre σ) 1 else if w = 0 then (m_pre σ, σ.2 0 (5 + ix f)) else if w = 1 then (m_pre σ, m_tOf (σ.2 0) f n)
  else if w = 2 then (m_pre σ, m_seals (σ.2 0) f n) else if w = 3 then (m_pre σ, jmod (f - m_fn (σ.2 0) + 5) 5) else if w = 4 then (m_pre σ, σ.2 0 (10 + ix f)) else m_no (m_pre σ) 2
/-- who is next: the best of the first i, if any -/
def m_nx (s : Nat → Int32) : Nat → Option Nat
  | 0 => none
  | i + 1 => if s (15 + i) = m_fn s ∧ ¬ s (95 + i) = s 0 then (match m_nx s i with | none => some i | some b => if s (95 + b) ≤ s (95 + i) then some b else some i) else m_nx s i
def m_oi : Option Nat → Int32
  | none => -1
  | some b => nI b
def m_next (σ : bi_S) (n : Nat) : bi_P2 := match m_nx (σ.2 0) n with | none => m_no (m_pre σ) 1 | some b => (m_pre σ, nI b)
def m_weight (σ : bi_S) (q w : Nat) (z : Int32) : bi_P2 :=
  if in_ z 1 64 = 0 then m_no (m_pre2 σ) 1 else if w = 4 then m_end2 (m_ref (m_pre2 σ) 1 4) q 2
  else (m_changed (setR (m_pre2 σ) 0 (upd (upd (σ.2 0) (105 + w) z) 2 (nI w + 1))) q, nI w)
def m_polish (σ : bi_S) (q : Nat) (a : Int32) : bi_P2 :=
  if in_ a 0 (σ.2 0 2 - 1) = 0 then m_no (m_pre2 σ) 1 else if ¬ σ.2 0 (109 + ix a) = 0 then (m_changed (setR (m_pre2 σ) 0 (upd (σ.2 0) (109 + ix a) 0)) q, σ.2 0 (109 + ix a))
  else m_end2 (m_ref (m_pre2 σ) 10 a) q 2
def m_weightOf (σ : bi_S) (a w : Int32) : bi_P2 :=
  if in_ a 0 (σ.2 0 2 - 1) = 0 then m_no (m_pre σ) 1 else if in_ w 0 2 = 0 then m_no (m_pre σ) 2 else (m_pre σ, σ.2 0 (105 + 4 * ix w + ix a))
def m_bw (s : Nat → Int32) : Nat → Nat
  | 0 => 0
  | i + 1 => if s (109 + (i + 1)) < s (109 + m_bw s i) then i + 1 else if ¬ s (109 + (i + 1)) = s (109 + m_bw s i) then m_bw s i else if s (105 + (i + 1)) ≤ s (105 + m_bw s i) then m_bw s i else i + 1
def m_bestW (σ : bi_S) (w : Nat) : bi_P2 := if w = 0 then m_no (m_pre σ) 1 else (m_pre σ, nI (m_bw (σ.2 0) (w - 1)))
def m_showsP (σ : bi_S) (a b : Int32) : bi_P2 :=
  if in_ a 0 (σ.2 0 1 - 1) = 0 ∨ in_ b 0 (σ.2 0 2 - 1) = 0 then m_no (m_pre σ) 1 else (m_pre σ, m_shows (σ.2 0) (ix a) (ix b))
def m_fr (s : Nat → Int32) (t : Nat) : Nat := ix (s (15 + t))
def m_inspect (σ : bi_S) (q : Nat) (a b : Int32) : bi_P2 :=
  if in_ a 0 (σ.2 0 1 - 1) = 0 ∨ in_ b 0 (σ.2 0 2 - 1) = 0 then m_no (m_pre2 σ) 1 else m_end2 (m_inspects (m_pre2 σ) (ix a) (ix b) (m_fr (σ.2 0) (ix a))) q 2
def m_fineP (σ : bi_S) (a b : Int32) : bi_P2 :=
  if in_ a 0 (σ.2 0 1 - 1) = 0 ∨ in_ b 0 (σ.2 0 2 - 1) = 0 then m_no (m_pre σ) 1 else (m_pre σ, m_fine (σ.2 0) (ix a) (ix b) (m_fr (σ.2 0) (ix a)))
def m_mend (σ : bi_S) (q : Nat) (a : Int32) : bi_P2 := if in_ a 0 (σ.2 0 1 - 1) = 0 then m_no (m_pre2 σ) 1 else m_end2 (m_mends (m_pre2 σ) (ix a)) q 2
def m_shave (σ : bi_S) (q : Nat) (a b : Int32) : bi_P2 :=
  if in_ a 0 (σ.2 0 1 - 1) = 0 then m_no (m_pre2 σ) 1 else if in_ b 1 9 = 0 then m_no (m_pre2 σ) 2 else m_end2 (m_shaves (m_pre2 σ) (ix a) b) q 3
def m_pay (σ : bi_S) (q : Nat) (a b : Int32) : bi_P2 :=
  if in_ a 0 (σ.2 0 1 - 1) = 0 then m_no (m_pre2 σ) 1 else if in_ b 1 99 = 0 then m_no (m_pre2 σ) 2 else m_end2 (m_pays (m_pre2 σ) (ix a) b) q 3
def m_pass (σ : bi_S) (q n : Nat) (d : Int32) : bi_P2 := if in_ d 1 40 = 0 then m_no (m_pre2 σ) 1 else m_end2 (m_passes (m_pre2 σ) n (ix d)) q 2
/-! the reference's public methods of fairs, traders and weights, walked -/
set_option maxRecDepth 100000
theorem ok_X3_passes : bi_ok yX3_passes RX3 1 := by decide +kernel
theorem mo_passes {Y : bi_Y} {mo : Nat} {ad : Nat → Nat} (G : mo_G Y mo ad) (σ : bi_S) (n : Nat) (hn : n ≤ 10) (h1 : σ.2 0 1 = nI n) (d : Nat) (hd : d ≤ 40) : bi_Met Y yX3_passes (ws_ yX3_passes cX3_passes 4 (some .int)) 2 46 0 0 (mo_P Y.2.1 mo ad σ) (mo_F mo ad) [.ref mo, .int (nI d)] (fun v u => v = some (.int (m_passes σ n d).1) ∧ u = (m_passes σ n d).2) bi_nx (mo_P Y.2.1 mo ad) := by
  refine bi_Met.of (own := RX3) (L0 := [some (.ref mo), some (.int (nI d)), none, none]) rfl (by decide) G.1 G.2 (Nat.le_of_ble_eq_true rfl) rfl (fun X hE hQ hA hnl hnm => ?_)
  have hnl : ∀ q, q < 4 → q < bi_nL X := fun q h => by rw [hnl]; exact h
  refine vr_iconst (v := 0) hE dX3_passes_0 (by decide) ?_
  refine vr_istore_n hE dX3_passes_1 (hnl _ (by decide)) rfl ?_
  refine vr_iconst (v := 0) hE dX3_passes_2 (by decide) ?_
  refine vr_istore_n hE dX3_passes_3 (hnl _ (by decide)) rfl ?_
  have hlp_4 : ∀ i, i ≤ d → bi_V Y.1 X (mo_P Y.2.1 mo ad (setR σ 0 (m_days (σ.2 0) n i).1)) 0 0 4 [some (.ref mo), some (.int (nI d)), some (.int (m_days (σ.2 0) n i).2), some (.int (nI i))] [] := by
    refine bi_loop (fun i => bi_V Y.1 X (mo_P Y.2.1 mo ad (setR σ 0 (m_days (σ.2 0) n i).1)) 0 0 4 [some (.ref mo), some (.int (nI d)), some (.int (m_days (σ.2 0) n i).2), some (.int (nI i))] []) d ?_ (fun i hi ih => ?_)
    · refine vr_iload_n hE dX3_passes_4 rfl ?_
      refine vr_iload_n hE dX3_passes_5 rfl ?_
      refine vr_icmp_ge (tgt := 22) hE dX3_passes_6 (by decide) (fun c_6 => ?_) (fun c_6 => ?_)
      · skip
        refine vr_aload_n hE dX3_passes_22 rfl ?_
        refine vr_iload_n hE dX3_passes_23 rfl ?_
        refine mr_call hE hA (mo_done G _ _) ok_X3_done (lw_V q2631 q2633 qs41 q82 q2634) rfl rfl (Nat.le_of_ble_eq_true rfl) (by decide) dX3_passes_24 ?_
        rintro v_24 u_24 ⟨rfl, hu_24⟩
        obtain rfl := hu_24.symm
        refine vr_ireturn hE hQ rfl dX3_passes_27 (by decide) ⟨_, ?_, fun H h => h⟩
        exact ⟨rfl, rfl⟩
      · exact absurd (nI_le (Nat.le_refl _) (by omega)) c_6
    · refine vr_iload_n hE dX3_passes_4 rfl ?_
      refine vr_iload_n hE dX3_passes_5 rfl ?_
      refine vr_icmp_ge (tgt := 22) hE dX3_passes_6 (by decide) (fun c_6 => ?_) (fun c_6 => ?_)
      · exact absurd c_6 (nI_ge hi (by omega))
      refine vr_iload_n hE dX3_passes_9 rfl ?_
      refine vr_aload_n hE dX3_passes_10 rfl ?_
      refine mr_call hE hA (mo_dayGoes G _ n hn (by rw [setR_self, m_days_ne hn (by omega) (by omega) (by omega)]; exact h1)) ok_X3_dayGoes (lw_V q2751 q2753 qs55 q82 q2754) rfl rfl (Nat.le_of_ble_eq_true rfl) (by decide) dX3_passes_11 ?_
      rintro v_11 u_11 ⟨rfl, hu_11⟩
      obtain rfl := hu_11.symm
      simp only [setR_R, setR_self]
      refine vr_iadd hE dX3_passes_14 ?_
      refine vr_istore_n hE dX3_passes_15 (hnl _ (by decide)) rfl ?_
      refine vr_iinc hE dX3_passes_16 rfl (iinc_1 _) (hnl _ (by decide)) rfl ?_
      refine vr_goto (tgt := 4) hE dX3_passes_19 (by decide) ?_
      exact ih
  have z := hlp_4 0 (Nat.zero_le _)
  rw [show (m_days (σ.2 0) n 0).1 = σ.2 0 from rfl, setR_id] at z
  exact z
theorem ok_X3_rate : bi_ok yX3_rate RX3 2 := by decide +kernel
theorem mo_rate {Y : bi_Y} {mo : Nat} {ad : Nat → Nat} (G : mo_G Y mo ad) (σ : bi_S) (q : Nat) (hq8 : q ≤ 8) (hq : σ.1 5 = nI q) (a b : Int32) : bi_Met Y yX3_rate (ws_ yX3_rate cX3_rate 4 (some .int)) 2 42 0 0 (mo_P Y.2.1 mo ad σ) (mo_F mo ad) [.ref mo, .int a, .int b] (fun v u => v = some (.int (m_rate σ q a b).2) ∧ u = (m_rate σ q a b).1) bi_nx (mo_P Y.2.1 mo ad) := by
  refine bi_Met.of (own := RX3) (L0 := [some (.ref mo), some (.int a), some (.int b), none]) rfl (by decide) G.1 G.2 (Nat.le_of_ble_eq_true rfl) rfl (fun X hE hQ hA hnl hnm => ?_)
  have hnl : ∀ q, q < 4 → q < bi_nL X := fun q h => by rw [hnl]; exact h
  refine vr_aload_n hE dX3_rate_0 rfl ?_
  refine vr_iconst (v := 0) hE dX3_rate_1 (by decide) ?_
  refine mr_put hE hA (z := 0) (by decide) q2507 rfl rfl rfl rfl (fun _ => rfl) dX3_rate_2 ?_
  refine vr_aload_n hE dX3_rate_5 rfl ?_
  refine mr_call hE hA (mo_remembers G _) ok_X3_remembers (lw_V q2585 q2587 qs33 q82 q2588) rfl rfl (Nat.le_of_ble_eq_true rfl) (by decide) dX3_rate_6 ?_
  rintro v_6 u_6 ⟨rfl, hu_6⟩
  obtain rfl := hu_6.symm
  refine vr_iload_n hE dX3_rate_9 rfl ?_
  refine mr_callS hE (mo_isFair G.1 _ _) ok_X3_isFair (lw_S q2589 q2590 q82 q2591) rfl rfl (Nat.le_of_ble_eq_true rfl) (by decide) dX3_rate_10 ?_
  rintro v_10 rfl
  refine vr_if_ne (tgt := 22) hE dX3_rate_13 (by decide) (fun c_13 => ?_) (fun c_13 => ?_)
  · obtain ⟨j, hj, rfl⟩ := in_C (n := 4) rfl (by decide) c_13
    refine vr_iload_n hE dX3_rate_22 rfl ?_
    refine vr_iconst (v := 1) hE dX3_rate_23 (by decide) ?_
    refine vr_bipush (v := 9) hE dX3_rate_24 (by decide) ?_
    refine mr_callS hE (mo_in G.1 _ _ _ _) ok_X3_in (lw_S q2592 q2593 q82 q2594) rfl rfl (Nat.le_of_ble_eq_true rfl) (by decide) dX3_rate_26 ?_
    rintro v_26 rfl
    refine vr_if_ne (tgt := 38) hE dX3_rate_29 (by decide) (fun c_29 => ?_) (fun c_29 => ?_)
    · skip
      refine vr_aload_n hE dX3_rate_38 rfl ?_
      refine mr_get hE (z := 1) (by decide) q2508 rfl rfl dX3_rate_39 ?_
      refine vr_iconst (v := 5) hE dX3_rate_42 (by decide) ?_
      refine vr_iload_n hE dX3_rate_43 rfl ?_
      refine vr_iadd hE dX3_rate_44 ?_
      refine mr_ald hE (j := 0) (by decide) (nI_add 5 _) (by show _ < 117; omega) dX3_rate_45 ?_
      refine vr_istore_n hE dX3_rate_46 (hnl _ (by decide)) rfl ?_
      refine vr_aload_n hE dX3_rate_47 rfl ?_
      refine mr_get hE (z := 1) (by decide) q2508 rfl rfl dX3_rate_48 ?_
      refine vr_iconst (v := 5) hE dX3_rate_51 (by decide) ?_
      refine vr_iload_n hE dX3_rate_52 rfl ?_
      refine vr_iadd hE dX3_rate_53 ?_
      refine vr_iload_n hE dX3_rate_54 rfl ?_
      refine mr_ast hE hA (j := 0) (by decide) (nI_add 5 _) (by show _ < 117; omega) dX3_rate_55 ?_
      refine vr_aload_n hE dX3_rate_56 rfl ?_
      refine vr_iload_n hE dX3_rate_57 rfl ?_
      refine mr_call hE hA (mo_changed G _ q hq8 (by exact hq) _) ok_X3_changed (lw_V q2599 q2601 qs35 q82 q2602) rfl rfl (Nat.le_of_ble_eq_true rfl) (by decide) dX3_rate_58 ?_
      rintro v_58 u_58 ⟨rfl, hu_58⟩
      obtain rfl := hu_58.symm
      refine vr_ireturn hE hQ rfl dX3_rate_61 (by decide) ⟨_, ?_, fun H h => h⟩
      exact ⟨by rw [m_rate, if_neg c_13, if_neg c_29, ix_nI (show j < 2 ^ 31 by omega)] <;> rfl, by rw [m_rate, if_neg c_13, if_neg c_29, ix_nI (show j < 2 ^ 31 by omega)] <;> rfl⟩
    · skip
      refine vr_aload_n hE dX3_rate_32 rfl ?_
      refine vr_iconst (v := 2) hE dX3_rate_33 (by decide) ?_
      refine mr_call hE hA (mo_fails G _ _) ok_X3_fails (lw_V q2595 q2597 qs34 q82 q2598) rfl rfl (Nat.le_of_ble_eq_true rfl) (by decide) dX3_rate_34 ?_
      rintro v_34 u_34 ⟨rfl, hu_34⟩
      obtain rfl := hu_34.symm
      refine vr_ireturn hE hQ rfl dX3_rate_37 (by decide) ⟨_, ?_, fun H h => h⟩
      exact ⟨by rw [m_rate, if_neg c_13, if_pos c_29] <;> rfl, by rw [m_rate, if_neg c_13, if_pos c_29] <;> rfl⟩
  · skip
    refine vr_aload_n hE dX3_rate_16 rfl ?_
    refine vr_iconst (v := 1) hE dX3_rate_17 (by decide) ?_
    refine mr_call hE hA (mo_fails G _ _) ok_X3_fails (lw_V q2595 q2597 qs34 q82 q2598) rfl rfl (Nat.le_of_ble_eq_true rfl) (by decide) dX3_rate_18 ?_
    rintro v_18 u_18 ⟨rfl, hu_18⟩
    obtain rfl := hu_18.symm
    refine vr_ireturn hE hQ rfl dX3_rate_21 (by decide) ⟨_, ?_, fun H h => h⟩
    exact ⟨by rw [m_rate, if_pos c_13] <;> rfl, by rw [m_rate, if_pos c_13] <;> rfl⟩
theorem ok_X3_trader : bi_ok yX3_trader RX3 3 := by decide +kernel
theorem mo_trader {Y : bi_Y} {mo : Nat} {ad : Nat → Nat} (G : mo_G Y mo ad) (σ : bi_S) (q : Nat) (hq8 : q ≤ 8) (hq : σ.1 5 = nI q) (n : Nat) (hn : n ≤ 10) (h1 : σ.2 0 1 = nI n) (a b c : Int32) : bi_Met Y yX3_trader (ws_ yX3_trader cX3_trader 5 (some .int)) 2 44 0 0 (mo_P Y.2.1 mo ad σ) (mo_F mo ad) [.ref mo, .int a, .int b, .int c] (fun v u => v = some (.int (m_trader σ q n a b c).2) ∧ u = (m_trader σ q n a b c).1) bi_nx (mo_P Y.2.1 mo ad) := by
  refine bi_Met.of (own := RX3) (L0 := [some (.ref mo), some (.int a), some (.int b), some (.int c), none]) rfl (by decide) G.1 G.2 (Nat.le_of_ble_eq_true rfl) rfl (fun X hE hQ hA hnl hnm => ?_)
  have hnl : ∀ q, q < 5 → q < bi_nL X := fun q h => by rw [hnl]; exact h
  refine vr_aload_n hE dX3_trader_0 rfl ?_
  refine vr_iconst (v := 0) hE dX3_trader_1 (by decide) ?_
  refine mr_put hE hA (z := 0) (by decide) q2507 rfl rfl rfl rfl (fun _ => rfl) dX3_trader_2 ?_
  refine vr_aload_n hE dX3_trader_5 rfl ?_
  refine mr_call hE hA (mo_remembers G _) ok_X3_remembers (lw_V q2585 q2587 qs33 q82 q2588) rfl rfl (Nat.le_of_ble_eq_true rfl) (by decide) dX3_trader_6 ?_
  rintro v_6 u_6 ⟨rfl, hu_6⟩
  obtain rfl := hu_6.symm
  refine vr_iload_n hE dX3_trader_9 rfl ?_
  refine mr_callS hE (mo_isFair G.1 _ _) ok_X3_isFair (lw_S q2589 q2590 q82 q2591) rfl rfl (Nat.le_of_ble_eq_true rfl) (by decide) dX3_trader_10 ?_
  rintro v_10 rfl
  refine vr_if_ne (tgt := 22) hE dX3_trader_13 (by decide) (fun c_13 => ?_) (fun c_13 => ?_)
  · obtain ⟨j, hj, rfl⟩ := in_C (n := 4) rfl (by decide) c_13
    refine vr_iload_n hE dX3_trader_22 rfl ?_
    refine vr_iconst (v := 0) hE dX3_trader_23 (by decide) ?_
    refine vr_sipush (v := 999) hE dX3_trader_24 (by decide) ?_
    refine mr_callS hE (mo_in G.1 _ _ _ _) ok_X3_in (lw_S q2592 q2593 q82 q2594) rfl rfl (Nat.le_of_ble_eq_true rfl) (by decide) dX3_trader_27 ?_
    rintro v_27 rfl
    refine vr_if_eq (tgt := 43) hE dX3_trader_30 (by decide) (fun c_30 => ?_) (fun c_30 => ?_)
    · skip
      refine vr_aload_n hE dX3_trader_43 rfl ?_
      refine vr_iconst (v := 2) hE dX3_trader_44 (by decide) ?_
      refine mr_call hE hA (mo_fails G _ _) ok_X3_fails (lw_V q2595 q2597 qs34 q82 q2598) rfl rfl (Nat.le_of_ble_eq_true rfl) (by decide) dX3_trader_45 ?_
      rintro v_45 u_45 ⟨rfl, hu_45⟩
      obtain rfl := hu_45.symm
      refine vr_ireturn hE hQ rfl dX3_trader_48 (by decide) ⟨_, ?_, fun H h => h⟩
      exact ⟨by rw [m_trader, if_neg c_13, if_pos (Or.inl c_30)] <;> rfl, by rw [m_trader, if_neg c_13, if_pos (Or.inl c_30)] <;> rfl⟩
    · skip
      refine vr_iload_n hE dX3_trader_33 rfl ?_
      refine vr_bipush (v := -3) hE dX3_trader_34 (by decide) ?_
      refine vr_iconst (v := 3) hE dX3_trader_36 (by decide) ?_
      refine mr_callS hE (mo_in G.1 _ _ _ _) ok_X3_in (lw_S q2592 q2593 q82 q2594) rfl rfl (Nat.le_of_ble_eq_true rfl) (by decide) dX3_trader_37 ?_
      rintro v_37 rfl
      refine vr_if_ne (tgt := 49) hE dX3_trader_40 (by decide) (fun c_40 => ?_) (fun c_40 => ?_)
      · skip
        refine vr_aload_n hE dX3_trader_49 rfl ?_
        refine mr_get hE (z := 1) (by decide) q2508 rfl rfl dX3_trader_50 ?_
        refine vr_iconst (v := 1) hE dX3_trader_53 (by decide) ?_
        refine mr_ald hE (j := 0) (i' := 1) (by decide) rfl (by decide) dX3_trader_54 ?_
        refine vr_to (w := .int (nI n)) (congrArg Value.int h1) ?_
        refine vr_istore hE dX3_trader_55 (hnl _ (by decide)) rfl ?_
        refine vr_iload hE dX3_trader_57 rfl ?_
        refine vr_bipush (v := 10) hE dX3_trader_59 (by decide) ?_
        refine vr_icmp_ne (tgt := 77) hE dX3_trader_61 (by decide) (fun c_61 => ?_) (fun c_61 => ?_)
        · have hn9 : n ≠ 10 := fun z => c_61 (by rw [z]; rfl)
          refine vr_aload_n hE dX3_trader_77 rfl ?_
          refine mr_get hE (z := 1) (by decide) q2508 rfl rfl dX3_trader_78 ?_
          refine vr_bipush (v := 15) hE dX3_trader_81 (by decide) ?_
          refine vr_iload hE dX3_trader_83 rfl ?_
          refine vr_iadd hE dX3_trader_85 ?_
          refine vr_iload_n hE dX3_trader_86 rfl ?_
          refine mr_ast hE hA (j := 0) (by decide) (nI_add 15 _) (by show _ < 117; omega) dX3_trader_87 ?_
          refine vr_aload_n hE dX3_trader_88 rfl ?_
          refine mr_get hE (z := 1) (by decide) q2508 rfl rfl dX3_trader_89 ?_
          refine vr_bipush (v := 25) hE dX3_trader_92 (by decide) ?_
          refine vr_iload hE dX3_trader_94 rfl ?_
          refine vr_iadd hE dX3_trader_96 ?_
          refine vr_iload_n hE dX3_trader_97 rfl ?_
          refine mr_ast hE hA (j := 0) (by decide) (nI_add 25 _) (by show _ < 117; omega) dX3_trader_98 ?_
          refine vr_aload_n hE dX3_trader_99 rfl ?_
          refine mr_get hE (z := 1) (by decide) q2508 rfl rfl dX3_trader_100 ?_
          refine vr_bipush (v := 55) hE dX3_trader_103 (by decide) ?_
          refine vr_iload hE dX3_trader_105 rfl ?_
          refine vr_iadd hE dX3_trader_107 ?_
          refine vr_iload_n hE dX3_trader_108 rfl ?_
          refine mr_ast hE hA (j := 0) (by decide) (nI_add 55 _) (by show _ < 117; omega) dX3_trader_109 ?_
          refine vr_aload_n hE dX3_trader_110 rfl ?_
          refine mr_get hE (z := 1) (by decide) q2508 rfl rfl dX3_trader_111 ?_
          refine vr_bipush (v := 65) hE dX3_trader_114 (by decide) ?_
          refine vr_iload hE dX3_trader_116 rfl ?_
          refine vr_iadd hE dX3_trader_118 ?_
          refine vr_iconst (v := -1) hE dX3_trader_119 (by decide) ?_
          refine mr_ast hE hA (j := 0) (by decide) (nI_add 65 _) (by show _ < 117; omega) dX3_trader_120 ?_
          refine vr_aload_n hE dX3_trader_121 rfl ?_
          refine mr_get hE (z := 1) (by decide) q2508 rfl rfl dX3_trader_122 ?_
          refine vr_bipush (v := 95) hE dX3_trader_125 (by decide) ?_
          refine vr_iload hE dX3_trader_127 rfl ?_
          refine vr_iadd hE dX3_trader_129 ?_
          refine vr_iconst (v := -1) hE dX3_trader_130 (by decide) ?_
          refine mr_ast hE hA (j := 0) (by decide) (nI_add 95 _) (by show _ < 117; omega) dX3_trader_131 ?_
          refine vr_aload_n hE dX3_trader_132 rfl ?_
          refine mr_get hE (z := 1) (by decide) q2508 rfl rfl dX3_trader_133 ?_
          refine vr_iconst (v := 1) hE dX3_trader_136 (by decide) ?_
          refine vr_iload hE dX3_trader_137 rfl ?_
          refine vr_iconst (v := 1) hE dX3_trader_139 (by decide) ?_
          refine vr_iadd hE dX3_trader_140 ?_
          refine mr_ast hE hA (j := 0) (i' := 1) (by decide) rfl (by decide) dX3_trader_141 ?_
          refine vr_aload_n hE dX3_trader_142 rfl ?_
          refine vr_iload hE dX3_trader_143 rfl ?_
          refine mr_call hE hA (mo_changed G _ q hq8 (by exact hq) _) ok_X3_changed (lw_V q2599 q2601 qs35 q82 q2602) rfl rfl (Nat.le_of_ble_eq_true rfl) (by decide) dX3_trader_145 ?_
          rintro v_145 u_145 ⟨rfl, hu_145⟩
          obtain rfl := hu_145.symm
          refine vr_ireturn hE hQ rfl dX3_trader_148 (by decide) ⟨_, ?_, fun H h => h⟩
          exact ⟨by rw [m_trader, if_neg c_13, if_neg (fun z => z.elim c_30 c_40), if_neg hn9], by rw [m_trader, if_neg c_13, if_neg (fun z => z.elim c_30 c_40), if_neg hn9]; simp only [sA_R, setR_R, setR_self]; rfl⟩
        · have hn9 : n = 10 := (nI_eq (by omega) (by decide)).mp c_61
          refine vr_aload_n hE dX3_trader_64 rfl ?_
          refine vr_aload_n hE dX3_trader_65 rfl ?_
          refine vr_iconst (v := 1) hE dX3_trader_66 (by decide) ?_
          refine vr_bipush (v := 10) hE dX3_trader_67 (by decide) ?_
          refine mr_call hE hA (mo_refused G _ _ _) ok_X3_refused (lw_V q2607 q2609 qs36 q82 q2610) rfl rfl (Nat.le_of_ble_eq_true rfl) (by decide) dX3_trader_69 ?_
          rintro v_69 u_69 ⟨rfl, hu_69⟩
          obtain rfl := hu_69.symm
          refine vr_iconst (v := 3) hE dX3_trader_72 (by decide) ?_
          refine mr_call hE hA (mo_ends G _ q hq8 (by exact hq) _ _) ok_X3_ends (lw_V q2611 q2613 qs37 q82 q2614) rfl rfl (Nat.le_of_ble_eq_true rfl) (by decide) dX3_trader_73 ?_
          rintro v_73 u_73 ⟨rfl, hu_73⟩
          obtain rfl := hu_73.symm
          refine vr_ireturn hE hQ rfl dX3_trader_76 (by decide) ⟨_, ?_, fun H h => h⟩
          exact ⟨by rw [m_trader, if_neg c_13, if_neg (fun z => z.elim c_30 c_40), if_pos hn9] <;> rfl, by rw [m_trader, if_neg c_13, if_neg (fun z => z.elim c_30 c_40), if_pos hn9] <;> rfl⟩
      · skip
        refine vr_aload_n hE dX3_trader_43 rfl ?_
        refine vr_iconst (v := 2) hE dX3_trader_44 (by decide) ?_
        refine mr_call hE hA (mo_fails G _ _) ok_X3_fails (lw_V q2595 q2597 qs34 q82 q2598) rfl rfl (Nat.le_of_ble_eq_true rfl) (by decide) dX3_trader_45 ?_
        rintro v_45 u_45 ⟨rfl, hu_45⟩
        obtain rfl := hu_45.symm
        refine vr_ireturn hE hQ rfl dX3_trader_48 (by decide) ⟨_, ?_, fun H h => h⟩
        exact ⟨by rw [m_trader, if_neg c_13, if_pos (Or.inr c_40)] <;> rfl, by rw [m_trader, if_neg c_13, if_pos (Or.inr c_40)] <;> rfl⟩
  · skip
    refine vr_aload_n hE dX3_trader_16 rfl ?_
    refine vr_iconst (v := 1) hE dX3_trader_17 (by decide) ?_
    refine mr_call hE hA (mo_fails G _ _) ok_X3_fails (lw_V q2595 q2597 qs34 q82 q2598) rfl rfl (Nat.le_of_ble_eq_true rfl) (by decide) dX3_trader_18 ?_
    rintro v_18 u_18 ⟨rfl, hu_18⟩
    obtain rfl := hu_18.symm
    refine vr_ireturn hE hQ rfl dX3_trader_21 (by decide) ⟨_, ?_, fun H h => h⟩
    exact ⟨by rw [m_trader, if_pos c_13] <;> rfl, by rw [m_trader, if_pos c_13] <;> rfl⟩
theorem ok_X3_drift : bi_ok yX3_drift RX3 2 := by decide +kernel
theorem mo_drift {Y : bi_Y} {mo : Nat} {ad : Nat → Nat} (G : mo_G Y mo ad) (σ : bi_S) (q : Nat) (hq8 : q ≤ 8) (hq : σ.1 5 = nI q) (n : Nat) (hn : n ≤ 10) (h1 : σ.2 0 1 = nI n) (a b : Int32) : bi_Met Y yX3_drift (ws_ yX3_drift cX3_drift 3 (some .int)) 2 44 0 0 (mo_P Y.2.1 mo ad σ) (mo_F mo ad) [.ref mo, .int a, .int b] (fun v u => v = some (.int (m_drift σ q a b).2) ∧ u = (m_drift σ q a b).1) bi_nx (mo_P Y.2.1 mo ad) := by
  refine bi_Met.of (own := RX3) (L0 := [some (.ref mo), some (.int a), some (.int b)]) rfl (by decide) G.1 G.2 (Nat.le_of_ble_eq_true rfl) rfl (fun X hE hQ hA hnl hnm => ?_)
  have hnl : ∀ q, q < 3 → q < bi_nL X := fun q h => by rw [hnl]; exact h
  refine vr_aload_n hE dX3_drift_0 rfl ?_
  refine vr_iconst (v := 0) hE dX3_drift_1 (by decide) ?_
  refine mr_put hE hA (z := 0) (by decide) q2507 rfl rfl rfl rfl (fun _ => rfl) dX3_drift_2 ?_
  refine vr_aload_n hE dX3_drift_5 rfl ?_
  refine mr_call hE hA (mo_remembers G _) ok_X3_remembers (lw_V q2585 q2587 qs33 q82 q2588) rfl rfl (Nat.le_of_ble_eq_true rfl) (by decide) dX3_drift_6 ?_
  rintro v_6 u_6 ⟨rfl, hu_6⟩
  obtain rfl := hu_6.symm
  refine vr_aload_n hE dX3_drift_9 rfl ?_
  refine vr_iload_n hE dX3_drift_10 rfl ?_
  refine mr_call hE hA (mo_isTrader G _ _) ok_X3_isTrader (lw_V q2623 q2625 qs39 q82 q2626) rfl rfl (Nat.le_of_ble_eq_true rfl) (by decide) dX3_drift_11 ?_
  rintro v_11 u_11 ⟨rfl, hu_11⟩
  obtain rfl := hu_11.symm
  refine vr_if_ne (tgt := 23) hE dX3_drift_14 (by decide) (fun c_14 => ?_) (fun c_14 => ?_)
  · replace c_14 : ¬ in_ a 0 (σ.2 0 1 - 1) = 0 := c_14
    obtain ⟨j, hj, rfl⟩ := in_T h1 (by omega) c_14
    refine vr_iload_n hE dX3_drift_23 rfl ?_
    refine vr_bipush (v := -3) hE dX3_drift_24 (by decide) ?_
    refine vr_iconst (v := 3) hE dX3_drift_26 (by decide) ?_
    refine mr_callS hE (mo_in G.1 _ _ _ _) ok_X3_in (lw_S q2592 q2593 q82 q2594) rfl rfl (Nat.le_of_ble_eq_true rfl) (by decide) dX3_drift_27 ?_
    rintro v_27 rfl
    refine vr_if_eq (tgt := 47) hE dX3_drift_30 (by decide) (fun c_30 => ?_) (fun c_30 => ?_)
    · skip
      refine vr_aload_n hE dX3_drift_47 rfl ?_
      refine vr_iconst (v := 2) hE dX3_drift_48 (by decide) ?_
      refine mr_call hE hA (mo_fails G _ _) ok_X3_fails (lw_V q2595 q2597 qs34 q82 q2598) rfl rfl (Nat.le_of_ble_eq_true rfl) (by decide) dX3_drift_49 ?_
      rintro v_49 u_49 ⟨rfl, hu_49⟩
      obtain rfl := hu_49.symm
      refine vr_ireturn hE hQ rfl dX3_drift_52 (by decide) ⟨_, ?_, fun H h => h⟩
      exact ⟨by rw [m_drift, if_neg c_14, if_pos c_30] <;> rfl, by rw [m_drift, if_neg c_14, if_pos c_30] <;> rfl⟩
    · skip
      refine vr_aload_n hE dX3_drift_33 rfl ?_
      refine vr_aload_n hE dX3_drift_34 rfl ?_
      refine vr_iload_n hE dX3_drift_35 rfl ?_
      refine vr_iload_n hE dX3_drift_36 rfl ?_
      refine mr_call hE hA (mo_drifts G _ j (by omega) _) ok_X3_drifts (lw_V q2627 q2629 qs40 q82 q2630) rfl rfl (Nat.le_of_ble_eq_true rfl) (by decide) dX3_drift_37 ?_
      rintro v_37 u_37 ⟨rfl, hu_37⟩
      obtain rfl := hu_37.symm
      refine vr_iconst (v := 3) hE dX3_drift_40 (by decide) ?_
      refine mr_call hE hA (mo_ends G _ q hq8 (by exact hq) _ _) ok_X3_ends (lw_V q2611 q2613 qs37 q82 q2614) rfl rfl (Nat.le_of_ble_eq_true rfl) (by decide) dX3_drift_41 ?_
      rintro v_41 u_41 ⟨rfl, hu_41⟩
      obtain rfl := hu_41.symm
      refine vr_goto (tgt := 52) hE dX3_drift_44 (by decide) ?_
      refine vr_ireturn hE hQ rfl dX3_drift_52 (by decide) ⟨_, ?_, fun H h => h⟩
      exact ⟨by rw [m_drift, if_neg c_14, if_neg c_30, ix_nI (show j < 2 ^ 31 by omega)] <;> rfl, by rw [m_drift, if_neg c_14, if_neg c_30, ix_nI (show j < 2 ^ 31 by omega)] <;> rfl⟩
  · replace c_14 : in_ a 0 (σ.2 0 1 - 1) = 0 := c_14
    refine vr_aload_n hE dX3_drift_17 rfl ?_
    refine vr_iconst (v := 1) hE dX3_drift_18 (by decide) ?_
    refine mr_call hE hA (mo_fails G _ _) ok_X3_fails (lw_V q2595 q2597 qs34 q82 q2598) rfl rfl (Nat.le_of_ble_eq_true rfl) (by decide) dX3_drift_19 ?_
    rintro v_19 u_19 ⟨rfl, hu_19⟩
    obtain rfl := hu_19.symm
    refine vr_ireturn hE hQ rfl dX3_drift_22 (by decide) ⟨_, ?_, fun H h => h⟩
    exact ⟨by rw [m_drift, if_pos c_14] <;> rfl, by rw [m_drift, if_pos c_14] <;> rfl⟩
theorem ok_X3_coins : bi_ok yX3_coins RX3 2 := by decide +kernel
theorem mo_coins {Y : bi_Y} {mo : Nat} {ad : Nat → Nat} (G : mo_G Y mo ad) (σ : bi_S) (q : Nat) (hq8 : q ≤ 8) (hq : σ.1 5 = nI q) (n : Nat) (hn : n ≤ 10) (h1 : σ.2 0 1 = nI n) (a b : Int32) : bi_Met Y yX3_coins (ws_ yX3_coins cX3_coins 3 (some .int)) 2 43 0 0 (mo_P Y.2.1 mo ad σ) (mo_F mo ad) [.ref mo, .int a, .int b] (fun v u => v = some (.int (m_coins σ q a b).2) ∧ u = (m_coins σ q a b).1) bi_nx (mo_P Y.2.1 mo ad) := by
  refine bi_Met.of (own := RX3) (L0 := [some (.ref mo), some (.int a), some (.int b)]) rfl (by decide) G.1 G.2 (Nat.le_of_ble_eq_true rfl) rfl (fun X hE hQ hA hnl hnm => ?_)
  have hnl : ∀ q, q < 3 → q < bi_nL X := fun q h => by rw [hnl]; exact h
  refine vr_aload_n hE dX3_coins_0 rfl ?_
  refine vr_iconst (v := 0) hE dX3_coins_1 (by decide) ?_
  refine mr_put hE hA (z := 0) (by decide) q2507 rfl rfl rfl rfl (fun _ => rfl) dX3_coins_2 ?_
  refine vr_aload_n hE dX3_coins_5 rfl ?_
  refine mr_call hE hA (mo_remembers G _) ok_X3_remembers (lw_V q2585 q2587 qs33 q82 q2588) rfl rfl (Nat.le_of_ble_eq_true rfl) (by decide) dX3_coins_6 ?_
  rintro v_6 u_6 ⟨rfl, hu_6⟩
  obtain rfl := hu_6.symm
  refine vr_aload_n hE dX3_coins_9 rfl ?_
  refine vr_iload_n hE dX3_coins_10 rfl ?_
  refine mr_call hE hA (mo_isTrader G _ _) ok_X3_isTrader (lw_V q2623 q2625 qs39 q82 q2626) rfl rfl (Nat.le_of_ble_eq_true rfl) (by decide) dX3_coins_11 ?_
  rintro v_11 u_11 ⟨rfl, hu_11⟩
  obtain rfl := hu_11.symm
  refine vr_if_ne (tgt := 23) hE dX3_coins_14 (by decide) (fun c_14 => ?_) (fun c_14 => ?_)
  · replace c_14 : ¬ in_ a 0 (σ.2 0 1 - 1) = 0 := c_14
    obtain ⟨j, hj, rfl⟩ := in_T h1 (by omega) c_14
    refine vr_iload_n hE dX3_coins_23 rfl ?_
    refine vr_iconst (v := 1) hE dX3_coins_24 (by decide) ?_
    refine vr_bipush (v := 99) hE dX3_coins_25 (by decide) ?_
    refine mr_callS hE (mo_in G.1 _ _ _ _) ok_X3_in (lw_S q2592 q2593 q82 q2594) rfl rfl (Nat.le_of_ble_eq_true rfl) (by decide) dX3_coins_27 ?_
    rintro v_27 rfl
    refine vr_if_ne (tgt := 39) hE dX3_coins_30 (by decide) (fun c_30 => ?_) (fun c_30 => ?_)
    · skip
      refine vr_aload_n hE dX3_coins_39 rfl ?_
      refine mr_get hE (z := 1) (by decide) q2508 rfl rfl dX3_coins_40 ?_
      refine vr_bipush (v := 25) hE dX3_coins_43 (by decide) ?_
      refine vr_iload_n hE dX3_coins_45 rfl ?_
      refine vr_iadd hE dX3_coins_46 ?_
      refine vr_aload_n hE dX3_coins_47 rfl ?_
      refine mr_get hE (z := 1) (by decide) q2508 rfl rfl dX3_coins_48 ?_
      refine vr_bipush (v := 25) hE dX3_coins_51 (by decide) ?_
      refine vr_iload_n hE dX3_coins_53 rfl ?_
      refine vr_iadd hE dX3_coins_54 ?_
      refine mr_ald hE (j := 0) (by decide) (nI_add 25 _) (by show _ < 117; omega) dX3_coins_55 ?_
      refine vr_iload_n hE dX3_coins_56 rfl ?_
      refine vr_iadd hE dX3_coins_57 ?_
      refine vr_sipush (v := 999) hE dX3_coins_58 (by decide) ?_
      apply vt_icmp_le (tgt := 70) (J := 81) hE dX3_coins_61 (by decide)
      · intro c_61 kt1
        refine vr_aload_n hE dX3_coins_70 rfl ?_
        refine mr_get hE (z := 1) (by decide) q2508 rfl rfl dX3_coins_71 ?_
        refine vr_bipush (v := 25) hE dX3_coins_74 (by decide) ?_
        refine vr_iload_n hE dX3_coins_76 rfl ?_
        refine vr_iadd hE dX3_coins_77 ?_
        refine mr_ald hE (j := 0) (by decide) (nI_add 25 _) (by show _ < 117; omega) dX3_coins_78 ?_
        refine vr_iload_n hE dX3_coins_79 rfl ?_
        refine vr_iadd hE dX3_coins_80 ?_
        exact kt1
      · intro c_61 kf1
        refine vr_sipush (v := 999) hE dX3_coins_64 (by decide) ?_
        refine vr_goto (tgt := 81) hE dX3_coins_67 (by decide) ?_
        exact kf1
      refine mr_ast hE hA (j := 0) (by decide) (nI_add 25 _) (by show _ < 117; omega) dX3_coins_81 ?_
      refine vr_aload_n hE dX3_coins_82 rfl ?_
      refine vr_aload_n hE dX3_coins_83 rfl ?_
      refine mr_get hE (z := 1) (by decide) q2508 rfl rfl dX3_coins_84 ?_
      refine vr_bipush (v := 25) hE dX3_coins_87 (by decide) ?_
      refine vr_iload_n hE dX3_coins_89 rfl ?_
      refine vr_iadd hE dX3_coins_90 ?_
      refine mr_ald hE (j := 0) (by decide) (nI_add 25 _) (by show _ < 117; omega) dX3_coins_91 ?_
      refine mr_call hE hA (mo_changed G _ q hq8 (by exact hq) _) ok_X3_changed (lw_V q2599 q2601 qs35 q82 q2602) rfl rfl (Nat.le_of_ble_eq_true rfl) (by decide) dX3_coins_92 ?_
      rintro v_92 u_92 ⟨rfl, hu_92⟩
      obtain rfl := hu_92.symm
      refine vr_ireturn hE hQ rfl dX3_coins_95 (by decide) ⟨_, ?_, fun H h => h⟩
      exact ⟨by rw [m_coins, if_neg c_14, if_neg c_30, ix_nI (show j < 2 ^ 31 by omega)]; show some (Value.int (upd _ _ _ _)) = _; rw [pk_us]; rfl, by rw [m_coins, if_neg c_14, if_neg c_30, ix_nI (show j < 2 ^ 31 by omega)]; rfl⟩
    · skip
      refine vr_aload_n hE dX3_coins_33 rfl ?_
      refine vr_iconst (v := 2) hE dX3_coins_34 (by decide) ?_
      refine mr_call hE hA (mo_fails G _ _) ok_X3_fails (lw_V q2595 q2597 qs34 q82 q2598) rfl rfl (Nat.le_of_ble_eq_true rfl) (by decide) dX3_coins_35 ?_
      rintro v_35 u_35 ⟨rfl, hu_35⟩
      obtain rfl := hu_35.symm
      refine vr_ireturn hE hQ rfl dX3_coins_38 (by decide) ⟨_, ?_, fun H h => h⟩
      exact ⟨by rw [m_coins, if_neg c_14, if_pos c_30] <;> rfl, by rw [m_coins, if_neg c_14, if_pos c_30] <;> rfl⟩
  · replace c_14 : in_ a 0 (σ.2 0 1 - 1) = 0 := c_14
    refine vr_aload_n hE dX3_coins_17 rfl ?_
    refine vr_iconst (v := 1) hE dX3_coins_18 (by decide) ?_
    refine mr_call hE hA (mo_fails G _ _) ok_X3_fails (lw_V q2595 q2597 qs34 q82 q2598) rfl rfl (Nat.le_of_ble_eq_true rfl) (by decide) dX3_coins_19 ?_
    rintro v_19 u_19 ⟨rfl, hu_19⟩
    obtain rfl := hu_19.symm
    refine vr_ireturn hE hQ rfl dX3_coins_22 (by decide) ⟨_, ?_, fun H h => h⟩
    exact ⟨by rw [m_coins, if_pos c_14] <;> rfl, by rw [m_coins, if_pos c_14] <;> rfl⟩
theorem ok_X3_traderOf : bi_ok yX3_traderOf RX3 2 := by decide +kernel
theorem mo_traderOf {Y : bi_Y} {mo : Nat} {ad : Nat → Nat} (G : mo_G Y mo ad) (σ : bi_S) (n : Nat) (hn : n ≤ 10) (h1 : σ.2 0 1 = nI n) (a b : Int32) : bi_Met Y yX3_traderOf (ws_ yX3_traderOf cX3_traderOf 3 (some .int)) 2 43 0 0 (mo_P Y.2.1 mo ad σ) (mo_F mo ad) [.ref mo, .int a, .int b] (fun v u => v = some (.int (m_traderOf σ a b).2) ∧ u = (m_traderOf σ a b).1) bi_nx (mo_P Y.2.1 mo ad) := by
  refine bi_Met.of (own := RX3) (L0 := [some (.ref mo), some (.int a), some (.int b)]) rfl (by decide) G.1 G.2 (Nat.le_of_ble_eq_true rfl) rfl (fun X hE hQ hA hnl hnm => ?_)
  have hnl : ∀ q, q < 3 → q < bi_nL X := fun q h => by rw [hnl]; exact h
  refine vr_aload_n hE dX3_traderOf_0 rfl ?_
  refine vr_iconst (v := 0) hE dX3_traderOf_1 (by decide) ?_
  refine mr_put hE hA (z := 0) (by decide) q2507 rfl rfl rfl rfl (fun _ => rfl) dX3_traderOf_2 ?_
  refine vr_aload_n hE dX3_traderOf_5 rfl ?_
  refine vr_iload_n hE dX3_traderOf_6 rfl ?_
  refine mr_call hE hA (mo_isTrader G _ _) ok_X3_isTrader (lw_V q2623 q2625 qs39 q82 q2626) rfl rfl (Nat.le_of_ble_eq_true rfl) (by decide) dX3_traderOf_7 ?_
  rintro v_7 u_7 ⟨rfl, hu_7⟩
  obtain rfl := hu_7.symm
  refine vr_if_ne (tgt := 19) hE dX3_traderOf_10 (by decide) (fun c_10 => ?_) (fun c_10 => ?_)
  · replace c_10 : ¬ in_ a 0 (σ.2 0 1 - 1) = 0 := c_10
    obtain ⟨j, hj, rfl⟩ := in_T h1 (by omega) c_10
    refine vr_iload_n hE dX3_traderOf_19 rfl ?_
    refine vr_iconst (v := 0) hE dX3_traderOf_20 (by decide) ?_
    refine vr_bipush (v := 9) hE dX3_traderOf_21 (by decide) ?_
    refine mr_callS hE (mo_in G.1 _ _ _ _) ok_X3_in (lw_S q2592 q2593 q82 q2594) rfl rfl (Nat.le_of_ble_eq_true rfl) (by decide) dX3_traderOf_23 ?_
    rintro v_23 rfl
    refine vr_if_ne (tgt := 35) hE dX3_traderOf_26 (by decide) (fun c_26 => ?_) (fun c_26 => ?_)
    · obtain ⟨j2, hj2, rfl⟩ := in_C (n := 9) rfl (by decide) c_26
      refine vr_iload_n hE dX3_traderOf_35 rfl ?_
      refine vr_bipush (v := 7) hE dX3_traderOf_36 (by decide) ?_
      refine vr_icmp_ne (tgt := 55) hE dX3_traderOf_38 (by decide) (fun c_38 => ?_) (fun c_38 => ?_)
      · have hk : (if nI j2 ≤ 7 then nI j2 else nI j2 - 1) = nI (m_tix j2) := by
          unfold m_tix
          by_cases h7 : j2 ≤ 7
          · rw [if_pos h7, if_pos (show nI j2 ≤ (7 : Int32) from nI_le (b := 7) h7 (by decide))]
          · rw [if_neg h7, if_neg (show ¬ nI j2 ≤ (7 : Int32) from nI_ge (a := 7) (by omega) (by omega))]
            exact pk_sub (b := 1) (by omega)
        have hk9 : m_tix j2 ≤ 8 := by unfold m_tix; split <;> omega
        refine vr_aload_n hE dX3_traderOf_55 rfl ?_
        refine mr_get hE (z := 1) (by decide) q2508 rfl rfl dX3_traderOf_56 ?_
        refine vr_bipush (v := 15) hE dX3_traderOf_59 (by decide) ?_
        refine vr_bipush (v := 10) hE dX3_traderOf_61 (by decide) ?_
        refine vr_iload_n hE dX3_traderOf_63 rfl ?_
        refine vr_bipush (v := 7) hE dX3_traderOf_64 (by decide) ?_
        apply vt_icmp_le (tgt := 75) (J := 76) hE dX3_traderOf_66 (by decide)
        · intro c_66 kt1
          refine vr_iload_n hE dX3_traderOf_75 rfl ?_
          exact kt1
        · intro c_66 kf1
          refine vr_iload_n hE dX3_traderOf_69 rfl ?_
          refine vr_iconst (v := 1) hE dX3_traderOf_70 (by decide) ?_
          refine vr_isub hE dX3_traderOf_71 ?_
          refine vr_goto (tgt := 76) hE dX3_traderOf_72 (by decide) ?_
          exact kf1
        refine vr_imul hE dX3_traderOf_76 ?_
        refine vr_iadd hE dX3_traderOf_77 ?_
        refine vr_iload_n hE dX3_traderOf_78 rfl ?_
        refine vr_iadd hE dX3_traderOf_79 ?_
        refine mr_ald hE (j := 0) (by decide) (by rw [hk]; exact (congrArg (fun z => 15 + z + nI j) (pk_mul 10 (m_tix j2))).trans ((congrArg (· + nI j) (nI_add 15 _)).trans (nI_add _ _))) (by show _ < 117; omega) dX3_traderOf_80 ?_
        refine vr_ireturn hE hQ rfl dX3_traderOf_81 (by decide) ⟨_, ?_, fun H h => h⟩
        exact ⟨by rw [m_traderOf, if_neg c_10, if_neg c_26, if_neg c_38, ix_nI (show j < 2 ^ 31 by omega), ix_nI (show j2 < 2 ^ 31 by omega)] <;> rfl, by rw [m_traderOf, if_neg c_10, if_neg c_26, if_neg c_38, ix_nI (show j < 2 ^ 31 by omega), ix_nI (show j2 < 2 ^ 31 by omega)] <;> rfl⟩
      · skip
        refine vr_aload_n hE dX3_traderOf_41 rfl ?_
        refine vr_iload_n hE dX3_traderOf_42 rfl ?_
        refine mr_call hE hA (mo_isBarred G _ j (by omega)) ok_X3_isBarred (lw_V q2643 q2645 qs42 q82 q2646) rfl rfl (Nat.le_of_ble_eq_true rfl) (by decide) dX3_traderOf_43 ?_
        rintro v_43 u_43 ⟨rfl, hu_43⟩
        obtain rfl := hu_43.symm
        apply vt_if_eq (tgt := 53) (J := 54) hE dX3_traderOf_46 (by decide)
        · intro c_46 kt2
          refine vr_iconst (v := 0) hE dX3_traderOf_53 (by decide) ?_
          exact kt2
        · intro c_46 kf2
          refine vr_iconst (v := 1) hE dX3_traderOf_49 (by decide) ?_
          refine vr_goto (tgt := 54) hE dX3_traderOf_50 (by decide) ?_
          exact kf2
        refine vr_ireturn hE hQ rfl dX3_traderOf_54 (by decide) ⟨_, ?_, fun H h => h⟩
        exact ⟨by rw [m_traderOf, if_neg c_10, if_neg c_26, if_pos c_38, ix_nI (show j < 2 ^ 31 by omega)] <;> rfl, by rw [m_traderOf, if_neg c_10, if_neg c_26, if_pos c_38, ix_nI (show j < 2 ^ 31 by omega)] <;> rfl⟩
    · skip
      refine vr_aload_n hE dX3_traderOf_29 rfl ?_
      refine vr_iconst (v := 2) hE dX3_traderOf_30 (by decide) ?_
      refine mr_call hE hA (mo_fails G _ _) ok_X3_fails (lw_V q2595 q2597 qs34 q82 q2598) rfl rfl (Nat.le_of_ble_eq_true rfl) (by decide) dX3_traderOf_31 ?_
      rintro v_31 u_31 ⟨rfl, hu_31⟩
      obtain rfl := hu_31.symm
      refine vr_ireturn hE hQ rfl dX3_traderOf_34 (by decide) ⟨_, ?_, fun H h => h⟩
      exact ⟨by rw [m_traderOf, if_neg c_10, if_pos c_26] <;> rfl, by rw [m_traderOf, if_neg c_10, if_pos c_26] <;> rfl⟩
  · replace c_10 : in_ a 0 (σ.2 0 1 - 1) = 0 := c_10
    refine vr_aload_n hE dX3_traderOf_13 rfl ?_
    refine vr_iconst (v := 1) hE dX3_traderOf_14 (by decide) ?_
    refine mr_call hE hA (mo_fails G _ _) ok_X3_fails (lw_V q2595 q2597 qs34 q82 q2598) rfl rfl (Nat.le_of_ble_eq_true rfl) (by decide) dX3_traderOf_15 ?_
    rintro v_15 u_15 ⟨rfl, hu_15⟩
    obtain rfl := hu_15.symm
    refine vr_ireturn hE hQ rfl dX3_traderOf_18 (by decide) ⟨_, ?_, fun H h => h⟩
    exact ⟨by rw [m_traderOf, if_pos c_10] <;> rfl, by rw [m_traderOf, if_pos c_10] <;> rfl⟩
theorem ok_X3_place : bi_ok yX3_place RX3 2 := by decide +kernel
theorem mo_place {Y : bi_Y} {mo : Nat} {ad : Nat → Nat} (G : mo_G Y mo ad) (σ : bi_S) (n : Nat) (hn : n ≤ 10) (h1 : σ.2 0 1 = nI n) (a b : Int32) : bi_Met Y yX3_place (ws_ yX3_place cX3_place 5 (some .int)) 0 0 0 0 (mo_P Y.2.1 mo ad σ) (mo_F mo ad) [.ref mo, .int a, .int b] (fun v u => v = some (.int (m_place (σ.2 0) n a b)) ∧ u = σ) bi_nx (mo_P Y.2.1 mo ad) := by
  refine bi_Met.of (own := RX3) (L0 := [some (.ref mo), some (.int a), some (.int b), none, none]) rfl (by decide) G.1 G.2 (Nat.le_of_ble_eq_true rfl) rfl (fun X hE hQ hA hnl hnm => ?_)
  have hnl : ∀ q, q < 5 → q < bi_nL X := fun q h => by rw [hnl]; exact h
  refine vr_iload_n hE dX3_place_0 rfl ?_
  refine vr_istore_n hE dX3_place_1 (hnl _ (by decide)) rfl ?_
  refine vr_iconst (v := 0) hE dX3_place_2 (by decide) ?_
  refine vr_istore hE dX3_place_3 (hnl _ (by decide)) rfl ?_
  have hlp_5 : ∀ (c : Nat) (i : Nat) (left : Int32), i + c = n → m_pl (σ.2 0) a c i left = m_place (σ.2 0) n a b → bi_V Y.1 X (mo_P Y.2.1 mo ad σ) 0 0 5 [some (.ref mo), some (.int a), some (.int b), some (.int left), some (.int (nI i))] [] := by
    intro c
    induction c with
    | zero =>
      intro i left hi he
      refine vr_iload hE dX3_place_5 rfl ?_
      refine vr_aload_n hE dX3_place_7 rfl ?_
      refine mr_get hE (z := 1) (by decide) q2508 rfl rfl dX3_place_8 ?_
      refine vr_iconst (v := 1) hE dX3_place_11 (by decide) ?_
      refine mr_ald hE (j := 0) (i' := 1) (by decide) rfl (by decide) dX3_place_12 ?_
      refine vr_icmp_ge (tgt := 53) hE dX3_place_13 (by decide) (fun c_13 => ?_) (fun c_13 => ?_)
      · skip
        refine vr_iconst (v := -1) hE dX3_place_53 (by decide) ?_
        refine vr_ireturn hE hQ rfl dX3_place_54 (by decide) ⟨_, ?_, fun H h => h⟩
        exact ⟨by rw [← he]; rfl, rfl⟩
      · exact absurd (by rw [h1, show i = n by omega]; exact nI_le (Nat.le_refl _) (by omega)) c_13
    | succ c ih =>
      intro i left hi he
      refine vr_iload hE dX3_place_5 rfl ?_
      refine vr_aload_n hE dX3_place_7 rfl ?_
      refine mr_get hE (z := 1) (by decide) q2508 rfl rfl dX3_place_8 ?_
      refine vr_iconst (v := 1) hE dX3_place_11 (by decide) ?_
      refine mr_ald hE (j := 0) (i' := 1) (by decide) rfl (by decide) dX3_place_12 ?_
      refine vr_icmp_ge (tgt := 53) hE dX3_place_13 (by decide) (fun c_13 => ?_) (fun c_13 => ?_)
      · exact absurd (by rw [h1] at c_13; exact c_13) (nI_ge (show i < n by omega) (by omega))
      refine vr_iload_n hE dX3_place_16 rfl ?_
      refine vr_if_lt (tgt := 53) hE dX3_place_17 (by decide) (fun c_17 => ?_) (fun c_17 => ?_)
      · skip
        refine vr_iconst (v := -1) hE dX3_place_53 (by decide) ?_
        refine vr_ireturn hE hQ rfl dX3_place_54 (by decide) ⟨_, ?_, fun H h => h⟩
        exact ⟨by rw [← he, m_pl, if_pos c_17], rfl⟩
      · skip
        refine vr_aload_n hE dX3_place_20 rfl ?_
        refine mr_get hE (z := 1) (by decide) q2508 rfl rfl dX3_place_21 ?_
        refine vr_bipush (v := 15) hE dX3_place_24 (by decide) ?_
        refine vr_iload hE dX3_place_26 rfl ?_
        refine vr_iadd hE dX3_place_28 ?_
        refine mr_ald hE (j := 0) (by decide) (nI_add 15 _) (by show _ < 117; omega) dX3_place_29 ?_
        refine vr_iload_n hE dX3_place_30 rfl ?_
        refine vr_icmp_eq (tgt := 37) hE dX3_place_31 (by decide) (fun c_31 => ?_) (fun c_31 => ?_)
        · skip
          refine vr_iload_n hE dX3_place_37 rfl ?_
          refine vr_if_ne (tgt := 44) hE dX3_place_38 (by decide) (fun c_38 => ?_) (fun c_38 => ?_)
          · skip
            refine vr_iinc (v := left + (-1)) hE dX3_place_44 rfl rfl (hnl _ (by decide)) rfl ?_
            refine vr_iinc hE dX3_place_47 rfl (iinc_1 _) (hnl _ (by decide)) rfl ?_
            refine vr_goto (tgt := 5) hE dX3_place_50 (by decide) ?_
            exact ih (i + 1) (left + (-1)) (by omega) (by rw [← he, m_pl, if_neg c_17, if_pos c_31, if_pos c_38])
          · skip
            refine vr_iload hE dX3_place_41 rfl ?_
            refine vr_ireturn hE hQ rfl dX3_place_43 (by decide) ⟨_, ?_, fun H h => h⟩
            exact ⟨by rw [← he, m_pl, if_neg c_17, if_pos c_31, if_neg (fun z => z c_38)], rfl⟩
        · skip
          refine vr_goto (tgt := 47) hE dX3_place_34 (by decide) ?_
          refine vr_iinc hE dX3_place_47 rfl (iinc_1 _) (hnl _ (by decide)) rfl ?_
          refine vr_goto (tgt := 5) hE dX3_place_50 (by decide) ?_
          exact ih (i + 1) left (by omega) (by rw [← he, m_pl, if_neg c_17, if_neg c_31])
  exact hlp_5 n 0 b (Nat.zero_add _) rfl
theorem ok_X3_traderAt : bi_ok yX3_traderAt RX3 2 := by decide +kernel
theorem mo_traderAt {Y : bi_Y} {mo : Nat} {ad : Nat → Nat} (G : mo_G Y mo ad) (σ : bi_S) (n : Nat) (hn : n ≤ 10) (h1 : σ.2 0 1 = nI n) (a b : Int32) : bi_Met Y yX3_traderAt (ws_ yX3_traderAt cX3_traderAt 3 (some .int)) 2 42 0 0 (mo_P Y.2.1 mo ad σ) (mo_F mo ad) [.ref mo, .int a, .int b] (fun v u => v = some (.int (m_traderAt σ n a b).2) ∧ u = (m_traderAt σ n a b).1) bi_nx (mo_P Y.2.1 mo ad) := by
  refine bi_Met.of (own := RX3) (L0 := [some (.ref mo), some (.int a), some (.int b)]) rfl (by decide) G.1 G.2 (Nat.le_of_ble_eq_true rfl) rfl (fun X hE hQ hA hnl hnm => ?_)
  have hnl : ∀ q, q < 3 → q < bi_nL X := fun q h => by rw [hnl]; exact h
  refine vr_aload_n hE dX3_traderAt_0 rfl ?_
  refine vr_iconst (v := 0) hE dX3_traderAt_1 (by decide) ?_
  refine mr_put hE hA (z := 0) (by decide) q2507 rfl rfl rfl rfl (fun _ => rfl) dX3_traderAt_2 ?_
  refine vr_iload_n hE dX3_traderAt_5 rfl ?_
  refine mr_callS hE (mo_isFair G.1 _ _) ok_X3_isFair (lw_S q2589 q2590 q82 q2591) rfl rfl (Nat.le_of_ble_eq_true rfl) (by decide) dX3_traderAt_6 ?_
  rintro v_6 rfl
  refine vr_if_ne (tgt := 18) hE dX3_traderAt_9 (by decide) (fun c_9 => ?_) (fun c_9 => ?_)
  · skip
    refine vr_aload_n hE dX3_traderAt_18 rfl ?_
    refine vr_iload_n hE dX3_traderAt_19 rfl ?_
    refine vr_iload_n hE dX3_traderAt_20 rfl ?_
    refine mr_call hE hA (mo_place G _ n hn (by exact h1) _ _) ok_X3_place (lw_V q2651 q2653 qs43 q82 q2654) rfl rfl (Nat.le_of_ble_eq_true rfl) (by decide) dX3_traderAt_21 ?_
    rintro v_21 u_21 ⟨rfl, hu_21⟩
    obtain rfl := hu_21.symm
    refine vr_iconst (v := -1) hE dX3_traderAt_24 (by decide) ?_
    refine vr_icmp_ne (tgt := 36) hE dX3_traderAt_25 (by decide) (fun c_25 => ?_) (fun c_25 => ?_)
    · skip
      refine vr_aload_n hE dX3_traderAt_36 rfl ?_
      refine vr_iload_n hE dX3_traderAt_37 rfl ?_
      refine vr_iload_n hE dX3_traderAt_38 rfl ?_
      refine mr_call hE hA (mo_place G _ n hn (by exact h1) _ _) ok_X3_place (lw_V q2651 q2653 qs43 q82 q2654) rfl rfl (Nat.le_of_ble_eq_true rfl) (by decide) dX3_traderAt_39 ?_
      rintro v_39 u_39 ⟨rfl, hu_39⟩
      obtain rfl := hu_39.symm
      refine vr_ireturn hE hQ rfl dX3_traderAt_42 (by decide) ⟨_, ?_, fun H h => h⟩
      exact ⟨by rw [m_traderAt, if_neg c_9, if_pos (show ¬ m_place (σ.2 0) n a b = -1 from c_25)] <;> rfl, by rw [m_traderAt, if_neg c_9, if_pos (show ¬ m_place (σ.2 0) n a b = -1 from c_25)] <;> rfl⟩
    · skip
      refine vr_aload_n hE dX3_traderAt_28 rfl ?_
      refine vr_iconst (v := 2) hE dX3_traderAt_29 (by decide) ?_
      refine mr_call hE hA (mo_fails G _ _) ok_X3_fails (lw_V q2595 q2597 qs34 q82 q2598) rfl rfl (Nat.le_of_ble_eq_true rfl) (by decide) dX3_traderAt_30 ?_
      rintro v_30 u_30 ⟨rfl, hu_30⟩
      obtain rfl := hu_30.symm
      refine vr_goto (tgt := 42) hE dX3_traderAt_33 (by decide) ?_
      refine vr_ireturn hE hQ rfl dX3_traderAt_42 (by decide) ⟨_, ?_, fun H h => h⟩
      exact ⟨by rw [m_traderAt, if_neg c_9, if_neg (fun z => z (show m_place (σ.2 0) n a b = -1 from c_25))] <;> rfl, by rw [m_traderAt, if_neg c_9, if_neg (fun z => z (show m_place (σ.2 0) n a b = -1 from c_25))] <;> rfl⟩
  · skip
    refine vr_aload_n hE dX3_traderAt_12 rfl ?_
    refine vr_iconst (v := 1) hE dX3_traderAt_13 (by decide) ?_
    refine mr_call hE hA (mo_fails G _ _) ok_X3_fails (lw_V q2595 q2597 qs34 q82 q2598) rfl rfl (Nat.le_of_ble_eq_true rfl) (by decide) dX3_traderAt_14 ?_
    rintro v_14 u_14 ⟨rfl, hu_14⟩
    obtain rfl := hu_14.symm
    refine vr_ireturn hE hQ rfl dX3_traderAt_17 (by decide) ⟨_, ?_, fun H h => h⟩
    exact ⟨by rw [m_traderAt, if_pos c_9] <;> rfl, by rw [m_traderAt, if_pos c_9] <;> rfl⟩
theorem ok_X3_seals : bi_ok yX3_seals RX3 1 := by decide +kernel
theorem mo_seals {Y : bi_Y} {mo : Nat} {ad : Nat → Nat} (G : mo_G Y mo ad) (σ : bi_S) (n : Nat) (hn : n ≤ 10) (h1 : σ.2 0 1 = nI n) (a : Int32) : bi_Met Y yX3_seals (ws_ yX3_seals cX3_seals 4 (some .int)) 0 0 0 0 (mo_P Y.2.1 mo ad σ) (mo_F mo ad) [.ref mo, .int a] (fun v u => v = some (.int (m_seals (σ.2 0) a n)) ∧ u = σ) bi_nx (mo_P Y.2.1 mo ad) := by
  refine bi_Met.of (own := RX3) (L0 := [some (.ref mo), some (.int a), none, none]) rfl (by decide) G.1 G.2 (Nat.le_of_ble_eq_true rfl) rfl (fun X hE hQ hA hnl hnm => ?_)
  have hnl : ∀ q, q < 4 → q < bi_nL X := fun q h => by rw [hnl]; exact h
  refine vr_iconst (v := 0) hE dX3_seals_0 (by decide) ?_
  refine vr_istore_n hE dX3_seals_1 (hnl _ (by decide)) rfl ?_
  refine vr_iconst (v := 0) hE dX3_seals_2 (by decide) ?_
  refine vr_istore_n hE dX3_seals_3 (hnl _ (by decide)) rfl ?_
  have hlp_4 : ∀ i, i ≤ n → bi_V Y.1 X (mo_P Y.2.1 mo ad σ) 0 0 4 [some (.ref mo), some (.int a), some (.int (m_seals (σ.2 0) a i)), some (.int (nI i))] [] := by
    refine bi_loop (fun i => bi_V Y.1 X (mo_P Y.2.1 mo ad σ) 0 0 4 [some (.ref mo), some (.int a), some (.int (m_seals (σ.2 0) a i)), some (.int (nI i))] []) n ?_ (fun i hi ih => ?_)
    · refine vr_iload_n hE dX3_seals_4 rfl ?_
      refine vr_aload_n hE dX3_seals_5 rfl ?_
      refine mr_get hE (z := 1) (by decide) q2508 rfl rfl dX3_seals_6 ?_
      refine vr_iconst (v := 1) hE dX3_seals_9 (by decide) ?_
      refine mr_ald hE (j := 0) (i' := 1) (by decide) rfl (by decide) dX3_seals_10 ?_
      refine vr_icmp_ge (tgt := 59) hE dX3_seals_11 (by decide) (fun c_11 => ?_) (fun c_11 => ?_)
      · skip
        refine vr_iload_n hE dX3_seals_59 rfl ?_
        refine vr_ireturn hE hQ rfl dX3_seals_60 (by decide) ⟨_, ?_, fun H h => h⟩
        exact ⟨rfl, rfl⟩
      · exact absurd (by rw [h1]; exact nI_le (Nat.le_refl _) (by omega)) c_11
    · refine vr_iload_n hE dX3_seals_4 rfl ?_
      refine vr_aload_n hE dX3_seals_5 rfl ?_
      refine mr_get hE (z := 1) (by decide) q2508 rfl rfl dX3_seals_6 ?_
      refine vr_iconst (v := 1) hE dX3_seals_9 (by decide) ?_
      refine mr_ald hE (j := 0) (i' := 1) (by decide) rfl (by decide) dX3_seals_10 ?_
      refine vr_icmp_ge (tgt := 59) hE dX3_seals_11 (by decide) (fun c_11 => ?_) (fun c_11 => ?_)
      · exact absurd (by rw [h1] at c_11; exact c_11) (nI_ge hi (by omega))
      refine vr_iload_n hE dX3_seals_14 rfl ?_
      refine vr_iload_n hE dX3_seals_15 rfl ?_
      refine vr_iconst (v := -1) hE dX3_seals_16 (by decide) ?_
      apply vt_icmp_eq (tgt := 33) (J := 51) hE dX3_seals_17 (by decide)
      · intro c_17 kt1
        refine vr_aload_n hE dX3_seals_33 rfl ?_
        refine mr_get hE (z := 1) (by decide) q2508 rfl rfl dX3_seals_34 ?_
        refine vr_bipush (v := 65) hE dX3_seals_37 (by decide) ?_
        refine vr_iload_n hE dX3_seals_39 rfl ?_
        refine vr_iadd hE dX3_seals_40 ?_
        refine mr_ald hE (j := 0) (by decide) (nI_add 65 _) (by show _ < 117; omega) dX3_seals_41 ?_
        refine vr_iconst (v := -1) hE dX3_seals_42 (by decide) ?_
        apply vt_icmp_eq (tgt := 50) (J := 51) hE dX3_seals_43 (by decide)
        · intro c_43 kt2
          refine vr_iconst (v := 0) hE dX3_seals_50 (by decide) ?_
          exact kt2
        · intro c_43 kf2
          refine vr_iconst (v := 1) hE dX3_seals_46 (by decide) ?_
          refine vr_goto (tgt := 51) hE dX3_seals_47 (by decide) ?_
          exact kf2
        exact kt1
      · intro c_17 kf1
        refine vr_aload_n hE dX3_seals_20 rfl ?_
        refine mr_get hE (z := 1) (by decide) q2508 rfl rfl dX3_seals_21 ?_
        refine vr_bipush (v := 15) hE dX3_seals_24 (by decide) ?_
        refine vr_iload_n hE dX3_seals_26 rfl ?_
        refine vr_iadd hE dX3_seals_27 ?_
        refine mr_ald hE (j := 0) (by decide) (nI_add 15 _) (by show _ < 117; omega) dX3_seals_28 ?_
        refine vr_iload_n hE dX3_seals_29 rfl ?_
        apply vt_icmp_ne (tgt := 50) (J := 51) hE dX3_seals_30 (by decide)
        · intro c_30 kt3
          refine vr_iconst (v := 0) hE dX3_seals_50 (by decide) ?_
          exact kt3
        · intro c_30 kf3
          refine vr_aload_n hE dX3_seals_33 rfl ?_
          refine mr_get hE (z := 1) (by decide) q2508 rfl rfl dX3_seals_34 ?_
          refine vr_bipush (v := 65) hE dX3_seals_37 (by decide) ?_
          refine vr_iload_n hE dX3_seals_39 rfl ?_
          refine vr_iadd hE dX3_seals_40 ?_
          refine mr_ald hE (j := 0) (by decide) (nI_add 65 _) (by show _ < 117; omega) dX3_seals_41 ?_
          refine vr_iconst (v := -1) hE dX3_seals_42 (by decide) ?_
          apply vt_icmp_eq (tgt := 50) (J := 51) hE dX3_seals_43 (by decide)
          · intro c_43 kt4
            refine vr_iconst (v := 0) hE dX3_seals_50 (by decide) ?_
            exact kt4
          · intro c_43 kf4
            refine vr_iconst (v := 1) hE dX3_seals_46 (by decide) ?_
            refine vr_goto (tgt := 51) hE dX3_seals_47 (by decide) ?_
            exact kf4
          exact kf3
        exact kf1
      refine vr_iadd hE dX3_seals_51 ?_
      refine vr_istore_n hE dX3_seals_52 (hnl _ (by decide)) rfl ?_
      refine vr_iinc hE dX3_seals_53 rfl (iinc_1 _) (hnl _ (by decide)) rfl ?_
      refine vr_goto (tgt := 4) hE dX3_seals_56 (by decide) ?_
      exact ih
  exact hlp_4 0 (Nat.zero_le _)
theorem ok_X3_tradersOf : bi_ok yX3_tradersOf RX3 1 := by decide +kernel
theorem mo_tradersOf {Y : bi_Y} {mo : Nat} {ad : Nat → Nat} (G : mo_G Y mo ad) (σ : bi_S) (n : Nat) (hn : n ≤ 10) (h1 : σ.2 0 1 = nI n) (a : Int32) : bi_Met Y yX3_tradersOf (ws_ yX3_tradersOf cX3_tradersOf 4 (some .int)) 0 0 0 0 (mo_P Y.2.1 mo ad σ) (mo_F mo ad) [.ref mo, .int a] (fun v u => v = some (.int (m_tOf (σ.2 0) a n)) ∧ u = σ) bi_nx (mo_P Y.2.1 mo ad) := by
  refine bi_Met.of (own := RX3) (L0 := [some (.ref mo), some (.int a), none, none]) rfl (by decide) G.1 G.2 (Nat.le_of_ble_eq_true rfl) rfl (fun X hE hQ hA hnl hnm => ?_)
  have hnl : ∀ q, q < 4 → q < bi_nL X := fun q h => by rw [hnl]; exact h
  refine vr_iconst (v := 0) hE dX3_tradersOf_0 (by decide) ?_
  refine vr_istore_n hE dX3_tradersOf_1 (hnl _ (by decide)) rfl ?_
  refine vr_iconst (v := 0) hE dX3_tradersOf_2 (by decide) ?_
  refine vr_istore_n hE dX3_tradersOf_3 (hnl _ (by decide)) rfl ?_
  have hlp_4 : ∀ i, i ≤ n → bi_V Y.1 X (mo_P Y.2.1 mo ad σ) 0 0 4 [some (.ref mo), some (.int a), some (.int (m_tOf (σ.2 0) a i)), some (.int (nI i))] [] := by
    refine bi_loop (fun i => bi_V Y.1 X (mo_P Y.2.1 mo ad σ) 0 0 4 [some (.ref mo), some (.int a), some (.int (m_tOf (σ.2 0) a i)), some (.int (nI i))] []) n ?_ (fun i hi ih => ?_)
    · refine vr_iload_n hE dX3_tradersOf_4 rfl ?_
      refine vr_aload_n hE dX3_tradersOf_5 rfl ?_
      refine mr_get hE (z := 1) (by decide) q2508 rfl rfl dX3_tradersOf_6 ?_
      refine vr_iconst (v := 1) hE dX3_tradersOf_9 (by decide) ?_
      refine mr_ald hE (j := 0) (i' := 1) (by decide) rfl (by decide) dX3_tradersOf_10 ?_
      refine vr_icmp_ge (tgt := 41) hE dX3_tradersOf_11 (by decide) (fun c_11 => ?_) (fun c_11 => ?_)
      · skip
        refine vr_iload_n hE dX3_tradersOf_41 rfl ?_
        refine vr_ireturn hE hQ rfl dX3_tradersOf_42 (by decide) ⟨_, ?_, fun H h => h⟩
        exact ⟨rfl, rfl⟩
      · exact absurd (by rw [h1]; exact nI_le (Nat.le_refl _) (by omega)) c_11
    · refine vr_iload_n hE dX3_tradersOf_4 rfl ?_
      refine vr_aload_n hE dX3_tradersOf_5 rfl ?_
      refine mr_get hE (z := 1) (by decide) q2508 rfl rfl dX3_tradersOf_6 ?_
      refine vr_iconst (v := 1) hE dX3_tradersOf_9 (by decide) ?_
      refine mr_ald hE (j := 0) (i' := 1) (by decide) rfl (by decide) dX3_tradersOf_10 ?_
      refine vr_icmp_ge (tgt := 41) hE dX3_tradersOf_11 (by decide) (fun c_11 => ?_) (fun c_11 => ?_)
      · exact absurd (by rw [h1] at c_11; exact c_11) (nI_ge hi (by omega))
      refine vr_iload_n hE dX3_tradersOf_14 rfl ?_
      refine vr_aload_n hE dX3_tradersOf_15 rfl ?_
      refine mr_get hE (z := 1) (by decide) q2508 rfl rfl dX3_tradersOf_16 ?_
      refine vr_bipush (v := 15) hE dX3_tradersOf_19 (by decide) ?_
      refine vr_iload_n hE dX3_tradersOf_21 rfl ?_
      refine vr_iadd hE dX3_tradersOf_22 ?_
      refine mr_ald hE (j := 0) (by decide) (nI_add 15 _) (by show _ < 117; omega) dX3_tradersOf_23 ?_
      refine vr_iload_n hE dX3_tradersOf_24 rfl ?_
      apply vt_icmp_ne (tgt := 32) (J := 33) hE dX3_tradersOf_25 (by decide)
      · intro c_25 kt1
        refine vr_iconst (v := 0) hE dX3_tradersOf_32 (by decide) ?_
        exact kt1
      · intro c_25 kf1
        refine vr_iconst (v := 1) hE dX3_tradersOf_28 (by decide) ?_
        refine vr_goto (tgt := 33) hE dX3_tradersOf_29 (by decide) ?_
        exact kf1
      refine vr_iadd hE dX3_tradersOf_33 ?_
      refine vr_istore_n hE dX3_tradersOf_34 (hnl _ (by decide)) rfl ?_
      refine vr_iinc hE dX3_tradersOf_35 rfl (iinc_1 _) (hnl _ (by decide)) rfl ?_
      refine vr_goto (tgt := 4) hE dX3_tradersOf_38 (by decide) ?_
      exact ih
  exact hlp_4 0 (Nat.zero_le _)
theorem ok_X3_fairOf : bi_ok yX3_fairOf RX3 2 := by decide +kernel
theorem mo_fairOf {Y : bi_Y} {mo : Nat} {ad : Nat → Nat} (G : mo_G Y mo ad) (σ : bi_S) (n : Nat) (hn : n ≤ 10) (h1 : σ.2 0 1 = nI n) (a b : Int32) : bi_Met Y yX3_fairOf (ws_ yX3_fairOf cX3_fairOf 3 (some .int)) 2 42 0 0 (mo_P Y.2.1 mo ad σ) (mo_F mo ad) [.ref mo, .int a, .int b] (fun v u => v = some (.int (m_fairOf σ n a b).2) ∧ u = (m_fairOf σ n a b).1) bi_nx (mo_P Y.2.1 mo ad) := by
  refine bi_Met.of (own := RX3) (L0 := [some (.ref mo), some (.int a), some (.int b)]) rfl (by decide) G.1 G.2 (Nat.le_of_ble_eq_true rfl) rfl (fun X hE hQ hA hnl hnm => ?_)
  have hnl : ∀ q, q < 3 → q < bi_nL X := fun q h => by rw [hnl]; exact h
  refine vr_aload_n hE dX3_fairOf_0 rfl ?_
  refine vr_iconst (v := 0) hE dX3_fairOf_1 (by decide) ?_
  refine mr_put hE hA (z := 0) (by decide) q2507 rfl rfl rfl rfl (fun _ => rfl) dX3_fairOf_2 ?_
  refine vr_iload_n hE dX3_fairOf_5 rfl ?_
  refine mr_callS hE (mo_isFair G.1 _ _) ok_X3_isFair (lw_S q2589 q2590 q82 q2591) rfl rfl (Nat.le_of_ble_eq_true rfl) (by decide) dX3_fairOf_6 ?_
  rintro v_6 rfl
  refine vr_if_ne (tgt := 18) hE dX3_fairOf_9 (by decide) (fun c_9 => ?_) (fun c_9 => ?_)
  · obtain ⟨j, hj, rfl⟩ := in_C (n := 4) rfl (by decide) c_9
    refine vr_iload_n hE dX3_fairOf_18 rfl ?_
    refine vr_topi (fun sw_19 e_sw_19 => ?_)
    by_cases s_19_0 : sw_19 = 0
    · refine vr_tab (z := 0) (tgt := 52) hE dX3_fairOf_19 (by rw [s_19_0]; decide) (by decide) (by decide) (off := 33) (by decide) (by decide) ?_
      refine vr_aload_n hE dX3_fairOf_52 rfl ?_
      refine mr_get hE (z := 1) (by decide) q2508 rfl rfl dX3_fairOf_53 ?_
      refine vr_iconst (v := 5) hE dX3_fairOf_56 (by decide) ?_
      refine vr_iload_n hE dX3_fairOf_57 rfl ?_
      refine vr_iadd hE dX3_fairOf_58 ?_
      refine mr_ald hE (j := 0) (by decide) (nI_add 5 _) (by show _ < 117; omega) dX3_fairOf_59 ?_
      refine vr_ireturn hE hQ rfl dX3_fairOf_60 (by decide) ⟨_, ?_, fun H h => h⟩
      exact ⟨by rw [m_fairOf, if_neg c_9, if_pos (show b = 0 from e_sw_19.symm.trans s_19_0), ix_nI (show j < 2 ^ 31 by omega)] <;> rfl, by rw [m_fairOf, if_neg c_9, if_pos (show b = 0 from e_sw_19.symm.trans s_19_0), ix_nI (show j < 2 ^ 31 by omega)] <;> rfl⟩
    by_cases s_19_1 : sw_19 = 1
    · refine vr_tab (z := 1) (tgt := 61) hE dX3_fairOf_19 (by rw [s_19_1]; decide) (by decide) (by decide) (off := 42) (by decide) (by decide) ?_
      refine vr_aload_n hE dX3_fairOf_61 rfl ?_
      refine vr_iload_n hE dX3_fairOf_62 rfl ?_
      refine mr_call hE hA (mo_tradersOf G _ n hn (by exact h1) _) ok_X3_tradersOf (lw_V q2659 q2661 qs44 q82 q2662) rfl rfl (Nat.le_of_ble_eq_true rfl) (by decide) dX3_fairOf_63 ?_
      rintro v_63 u_63 ⟨rfl, hu_63⟩
      obtain rfl := hu_63.symm
      refine vr_ireturn hE hQ rfl dX3_fairOf_66 (by decide) ⟨_, ?_, fun H h => h⟩
      exact ⟨by rw [m_fairOf, if_neg c_9, if_neg (show ¬ b = 0 from fun z => s_19_0 (e_sw_19.trans z)), if_pos (show b = 1 from e_sw_19.symm.trans s_19_1)] <;> rfl, by rw [m_fairOf, if_neg c_9, if_neg (show ¬ b = 0 from fun z => s_19_0 (e_sw_19.trans z)), if_pos (show b = 1 from e_sw_19.symm.trans s_19_1)] <;> rfl⟩
    by_cases s_19_2 : sw_19 = 2
    · refine vr_tab (z := 2) (tgt := 67) hE dX3_fairOf_19 (by rw [s_19_2]; decide) (by decide) (by decide) (off := 48) (by decide) (by decide) ?_
      refine vr_aload_n hE dX3_fairOf_67 rfl ?_
      refine vr_iload_n hE dX3_fairOf_68 rfl ?_
      refine mr_call hE hA (mo_seals G _ n hn (by exact h1) _) ok_X3_seals (lw_V q2663 q2665 qs45 q82 q2666) rfl rfl (Nat.le_of_ble_eq_true rfl) (by decide) dX3_fairOf_69 ?_
      rintro v_69 u_69 ⟨rfl, hu_69⟩
      obtain rfl := hu_69.symm
      refine vr_ireturn hE hQ rfl dX3_fairOf_72 (by decide) ⟨_, ?_, fun H h => h⟩
      exact ⟨by rw [m_fairOf, if_neg c_9, if_neg (show ¬ b = 0 from fun z => s_19_0 (e_sw_19.trans z)), if_neg (show ¬ b = 1 from fun z => s_19_1 (e_sw_19.trans z)), if_pos (show b = 2 from e_sw_19.symm.trans s_19_2)] <;> rfl, by rw [m_fairOf, if_neg c_9, if_neg (show ¬ b = 0 from fun z => s_19_0 (e_sw_19.trans z)), if_neg (show ¬ b = 1 from fun z => s_19_1 (e_sw_19.trans z)), if_pos (show b = 2 from e_sw_19.symm.trans s_19_2)] <;> rfl⟩
    by_cases s_19_3 : sw_19 = 3
    · refine vr_tab (z := 3) (tgt := 73) hE dX3_fairOf_19 (by rw [s_19_3]; decide) (by decide) (by decide) (off := 54) (by decide) (by decide) ?_
      refine vr_iload_n hE dX3_fairOf_73 rfl ?_
      refine vr_aload_n hE dX3_fairOf_74 rfl ?_
      refine mr_call hE hA (mo_fairNow G _) ok_X3_fairNow (lw_V q2667 q2669 qs46 q82 q2670) rfl rfl (Nat.le_of_ble_eq_true rfl) (by decide) dX3_fairOf_75 ?_
      rintro v_75 u_75 ⟨rfl, hu_75⟩
      obtain rfl := hu_75.symm
      refine vr_isub hE dX3_fairOf_78 ?_
      refine vr_iconst (v := 5) hE dX3_fairOf_79 (by decide) ?_
      refine vr_iadd hE dX3_fairOf_80 ?_
      refine vr_iconst (v := 5) hE dX3_fairOf_81 (by decide) ?_
      refine vr_irem hE dX3_fairOf_82 (by decide) ?_
      refine vr_ireturn hE hQ rfl dX3_fairOf_83 (by decide) ⟨_, ?_, fun H h => h⟩
      exact ⟨by rw [m_fairOf, if_neg c_9, if_neg (show ¬ b = 0 from fun z => s_19_0 (e_sw_19.trans z)), if_neg (show ¬ b = 1 from fun z => s_19_1 (e_sw_19.trans z)), if_neg (show ¬ b = 2 from fun z => s_19_2 (e_sw_19.trans z)), if_pos (show b = 3 from e_sw_19.symm.trans s_19_3)] <;> rfl, by rw [m_fairOf, if_neg c_9, if_neg (show ¬ b = 0 from fun z => s_19_0 (e_sw_19.trans z)), if_neg (show ¬ b = 1 from fun z => s_19_1 (e_sw_19.trans z)), if_neg (show ¬ b = 2 from fun z => s_19_2 (e_sw_19.trans z)), if_pos (show b = 3 from e_sw_19.symm.trans s_19_3)] <;> rfl⟩
    by_cases s_19_4 : sw_19 = 4
    · refine vr_tab (z := 4) (tgt := 84) hE dX3_fairOf_19 (by rw [s_19_4]; decide) (by decide) (by decide) (off := 65) (by decide) (by decide) ?_
      refine vr_aload_n hE dX3_fairOf_84 rfl ?_
      refine mr_get hE (z := 1) (by decide) q2508 rfl rfl dX3_fairOf_85 ?_
      refine vr_bipush (v := 10) hE dX3_fairOf_88 (by decide) ?_
      refine vr_iload_n hE dX3_fairOf_90 rfl ?_
      refine vr_iadd hE dX3_fairOf_91 ?_
      refine mr_ald hE (j := 0) (by decide) (nI_add 10 _) (by show _ < 117; omega) dX3_fairOf_92 ?_
      refine vr_ireturn hE hQ rfl dX3_fairOf_93 (by decide) ⟨_, ?_, fun H h => h⟩
      exact ⟨by rw [m_fairOf, if_neg c_9, if_neg (show ¬ b = 0 from fun z => s_19_0 (e_sw_19.trans z)), if_neg (show ¬ b = 1 from fun z => s_19_1 (e_sw_19.trans z)), if_neg (show ¬ b = 2 from fun z => s_19_2 (e_sw_19.trans z)), if_neg (show ¬ b = 3 from fun z => s_19_3 (e_sw_19.trans z)), if_pos (show b = 4 from e_sw_19.symm.trans s_19_4), ix_nI (show j < 2 ^ 31 by omega)] <;> rfl, by rw [m_fairOf, if_neg c_9, if_neg (show ¬ b = 0 from fun z => s_19_0 (e_sw_19.trans z)), if_neg (show ¬ b = 1 from fun z => s_19_1 (e_sw_19.trans z)), if_neg (show ¬ b = 2 from fun z => s_19_2 (e_sw_19.trans z)), if_neg (show ¬ b = 3 from fun z => s_19_3 (e_sw_19.trans z)), if_pos (show b = 4 from e_sw_19.symm.trans s_19_4), ix_nI (show j < 2 ^ 31 by omega)] <;> rfl⟩
    refine vr_tabD (tgt := 94) hE dX3_fairOf_19 (by have q_0 := lv_neT s_19_0 (a := 0) (by decide); have q_1 := lv_neT s_19_1 (a := 1) (by decide); have q_2 := lv_neT s_19_2 (a := 2) (by decide); have q_3 := lv_neT s_19_3 (a := 3) (by decide); have q_4 := lv_neT s_19_4 (a := 4) (by decide); omega) (by decide) ?_
    refine vr_aload_n hE dX3_fairOf_94 rfl ?_
    refine vr_iconst (v := 2) hE dX3_fairOf_95 (by decide) ?_
    refine mr_call hE hA (mo_fails G _ _) ok_X3_fails (lw_V q2595 q2597 qs34 q82 q2598) rfl rfl (Nat.le_of_ble_eq_true rfl) (by decide) dX3_fairOf_96 ?_
    rintro v_96 u_96 ⟨rfl, hu_96⟩
    obtain rfl := hu_96.symm
    refine vr_ireturn hE hQ rfl dX3_fairOf_99 (by decide) ⟨_, ?_, fun H h => h⟩
    exact ⟨by rw [m_fairOf, if_neg c_9, if_neg (show ¬ b = 0 from fun z => s_19_0 (e_sw_19.trans z)), if_neg (show ¬ b = 1 from fun z => s_19_1 (e_sw_19.trans z)), if_neg (show ¬ b = 2 from fun z => s_19_2 (e_sw_19.trans z)), if_neg (show ¬ b = 3 from fun z => s_19_3 (e_sw_19.trans z)), if_neg (show ¬ b = 4 from fun z => s_19_4 (e_sw_19.trans z))] <;> rfl, by rw [m_fairOf, if_neg c_9, if_neg (show ¬ b = 0 from fun z => s_19_0 (e_sw_19.trans z)), if_neg (show ¬ b = 1 from fun z => s_19_1 (e_sw_19.trans z)), if_neg (show ¬ b = 2 from fun z => s_19_2 (e_sw_19.trans z)), if_neg (show ¬ b = 3 from fun z => s_19_3 (e_sw_19.trans z)), if_neg (show ¬ b = 4 from fun z => s_19_4 (e_sw_19.trans z))] <;> rfl⟩
  · skip
    refine vr_aload_n hE dX3_fairOf_12 rfl ?_
    refine vr_iconst (v := 1) hE dX3_fairOf_13 (by decide) ?_
    refine mr_call hE hA (mo_fails G _ _) ok_X3_fails (lw_V q2595 q2597 qs34 q82 q2598) rfl rfl (Nat.le_of_ble_eq_true rfl) (by decide) dX3_fairOf_14 ?_
    rintro v_14 u_14 ⟨rfl, hu_14⟩
    obtain rfl := hu_14.symm
    refine vr_ireturn hE hQ rfl dX3_fairOf_17 (by decide) ⟨_, ?_, fun H h => h⟩
    exact ⟨by rw [m_fairOf, if_pos c_9] <;> rfl, by rw [m_fairOf, if_pos c_9] <;> rfl⟩
theorem m_nx_lt {s : Nat → Int32} {n b : Nat} (hn : n ≤ 10) (h : m_nx s n = some b) : b < 10 := by
  have key : ∀ n, ∀ b, m_nx s n = some b → b < n := by
    intro n
    induction n with
    | zero => intro b h; cases h
    | succ n ih =>
      intro b h
      simp only [m_nx] at h
      split at h
      · cases hb : m_nx s n with
        | none => rw [hb] at h; cases h; omega
        | some c =>
          rw [hb] at h
          have hc := ih c hb
          dsimp only at h
          split at h
          · cases h; omega
          · cases h; omega
      · have := ih b h; omega
  have := key n b h
  omega
theorem m_oi_ne {b : Nat} (h : b < 2 ^ 31) : ¬ nI b = nI 4294967295 := fun z => by
  have h1 := congrArg Int32.toInt z
  rw [nI_toInt h, show (nI 4294967295).toInt = -1 by decide] at h1
  omega
theorem ok_X3_next : bi_ok yX3_next RX3 0 := by decide +kernel
theorem mo_next {Y : bi_Y} {mo : Nat} {ad : Nat → Nat} (G : mo_G Y mo ad) (σ : bi_S) (n : Nat) (hn : n ≤ 10) (h1 : σ.2 0 1 = nI n) : bi_Met Y yX3_next (ws_ yX3_next cX3_next 4 (some .int)) 1 21 0 0 (mo_P Y.2.1 mo ad σ) (mo_F mo ad) [.ref mo] (fun v u => v = some (.int (m_next σ n).2) ∧ u = (m_next σ n).1) bi_nx (mo_P Y.2.1 mo ad) := by
  refine bi_Met.of (own := RX3) (L0 := [some (.ref mo), none, none, none]) rfl (by decide) G.1 G.2 (Nat.le_of_ble_eq_true rfl) rfl (fun X hE hQ hA hnl hnm => ?_)
  have hnl : ∀ q, q < 4 → q < bi_nL X := fun q h => by rw [hnl]; exact h
  refine vr_aload_n hE dX3_next_0 rfl ?_
  refine vr_iconst (v := 0) hE dX3_next_1 (by decide) ?_
  refine mr_put hE hA (z := 0) (by decide) q2507 rfl rfl rfl rfl (fun _ => rfl) dX3_next_2 ?_
  refine vr_iconst (v := -1) hE dX3_next_5 (by decide) ?_
  refine vr_istore_n hE dX3_next_6 (hnl _ (by decide)) rfl ?_
  refine vr_iconst (v := 0) hE dX3_next_7 (by decide) ?_
  refine vr_istore_n hE dX3_next_8 (hnl _ (by decide)) rfl ?_
  have hlp_9 : ∀ i, i ≤ n → bi_V Y.1 X (mo_P Y.2.1 mo ad (m_pre σ)) 0 0 9 [some (.ref mo), some (.int (m_oi (m_nx (σ.2 0) i))), some (.int (nI i)), none] [] := by
    refine bi_loop (fun i => bi_V Y.1 X (mo_P Y.2.1 mo ad (m_pre σ)) 0 0 9 [some (.ref mo), some (.int (m_oi (m_nx (σ.2 0) i))), some (.int (nI i)), none] []) n ?_ (fun i hi ih => ?_)
    · refine vr_iload_n hE dX3_next_9 rfl ?_
      refine vr_aload_n hE dX3_next_10 rfl ?_
      refine mr_get hE (z := 1) (by decide) q2508 rfl rfl dX3_next_11 ?_
      refine vr_iconst (v := 1) hE dX3_next_14 (by decide) ?_
      refine mr_ald hE (j := 0) (i' := 1) (by decide) rfl (by decide) dX3_next_15 ?_
      refine vr_icmp_ge (tgt := 97) hE dX3_next_16 (by decide) (fun c_16 => ?_) (fun c_16 => ?_)
      · skip
        cases hb : m_nx (σ.2 0) n with
        | none =>
          refine vr_iload_n hE dX3_next_97 rfl ?_
          refine vr_iconst (v := -1) hE dX3_next_98 (by decide) ?_
          refine vr_icmp_ne (tgt := 110) hE dX3_next_99 (by decide) (fun c_99 => ?_) (fun c_99 => ?_)
          · exact absurd rfl c_99
          refine vr_aload_n hE dX3_next_102 rfl ?_
          refine vr_iconst (v := 1) hE dX3_next_103 (by decide) ?_
          refine mr_call hE hA (mo_fails G _ _) ok_X3_fails (lw_V q2595 q2597 qs34 q82 q2598) rfl rfl (Nat.le_of_ble_eq_true rfl) (by decide) dX3_next_104 ?_
          rintro v_104 u_104 ⟨rfl, hu_104⟩
          obtain rfl := hu_104.symm
          refine vr_goto (tgt := 111) hE dX3_next_107 (by decide) ?_
          refine vr_ireturn hE hQ rfl dX3_next_111 (by decide) ⟨_, ?_, fun H h => h⟩
          exact ⟨by rw [m_next, hb] <;> rfl, by rw [m_next, hb] <;> rfl⟩
        | some b =>
          have hb9 : b < 10 := m_nx_lt (by omega) hb
          refine vr_iload_n hE dX3_next_97 rfl ?_
          refine vr_iconst (v := -1) hE dX3_next_98 (by decide) ?_
          refine vr_icmp_ne (tgt := 110) hE dX3_next_99 (by decide) (fun c_99 => ?_) (fun c_99 => ?_)
          · skip
            refine vr_iload_n hE dX3_next_110 rfl ?_
            refine vr_ireturn hE hQ rfl dX3_next_111 (by decide) ⟨_, ?_, fun H h => h⟩
            exact ⟨by rw [m_next, hb] <;> rfl, by rw [m_next, hb] <;> rfl⟩
          · exact absurd (show nI b = nI 4294967295 from c_99) (fun z => absurd z (m_oi_ne (by omega)))
      · exact absurd (by show σ.2 0 1 ≤ _; rw [h1]; exact nI_le (Nat.le_refl _) (by omega)) c_16
    · refine vr_iload_n hE dX3_next_9 rfl ?_
      refine vr_aload_n hE dX3_next_10 rfl ?_
      refine mr_get hE (z := 1) (by decide) q2508 rfl rfl dX3_next_11 ?_
      refine vr_iconst (v := 1) hE dX3_next_14 (by decide) ?_
      refine mr_ald hE (j := 0) (i' := 1) (by decide) rfl (by decide) dX3_next_15 ?_
      refine vr_icmp_ge (tgt := 97) hE dX3_next_16 (by decide) (fun c_16 => ?_) (fun c_16 => ?_)
      · exact absurd (by rw [show (m_pre σ).2 0 1 = nI n from h1] at c_16; exact c_16) (nI_ge hi (by omega))
      refine vr_aload_n hE dX3_next_19 rfl ?_
      refine mr_get hE (z := 1) (by decide) q2508 rfl rfl dX3_next_20 ?_
      refine vr_bipush (v := 15) hE dX3_next_23 (by decide) ?_
      refine vr_iload_n hE dX3_next_25 rfl ?_
      refine vr_iadd hE dX3_next_26 ?_
      refine mr_ald hE (j := 0) (by decide) (nI_add 15 _) (by show _ < 117; omega) dX3_next_27 ?_
      refine vr_aload_n hE dX3_next_28 rfl ?_
      refine mr_call hE hA (mo_fairNow G _) ok_X3_fairNow (lw_V q2667 q2669 qs46 q82 q2670) rfl rfl (Nat.le_of_ble_eq_true rfl) (by decide) dX3_next_29 ?_
      rintro v_29 u_29 ⟨rfl, hu_29⟩
      obtain rfl := hu_29.symm
      apply vt_icmp_ne (tgt := 57) (J := 58) hE dX3_next_32 (by decide)
      · intro c_32 kt1
        refine vr_iconst (v := 0) hE dX3_next_57 (by decide) ?_
        exact kt1
      · intro c_32 kf1
        refine vr_aload_n hE dX3_next_35 rfl ?_
        refine mr_get hE (z := 1) (by decide) q2508 rfl rfl dX3_next_36 ?_
        refine vr_bipush (v := 95) hE dX3_next_39 (by decide) ?_
        refine vr_iload_n hE dX3_next_41 rfl ?_
        refine vr_iadd hE dX3_next_42 ?_
        refine mr_ald hE (j := 0) (by decide) (nI_add 95 _) (by show _ < 117; omega) dX3_next_43 ?_
        refine vr_aload_n hE dX3_next_44 rfl ?_
        refine mr_get hE (z := 1) (by decide) q2508 rfl rfl dX3_next_45 ?_
        refine vr_iconst (v := 0) hE dX3_next_48 (by decide) ?_
        refine mr_ald hE (j := 0) (i' := 0) (by decide) rfl (by decide) dX3_next_49 ?_
        apply vt_icmp_eq (tgt := 57) (J := 58) hE dX3_next_50 (by decide)
        · intro c_50 kt2
          refine vr_iconst (v := 0) hE dX3_next_57 (by decide) ?_
          exact kt2
        · intro c_50 kf2
          refine vr_iconst (v := 1) hE dX3_next_53 (by decide) ?_
          refine vr_goto (tgt := 58) hE dX3_next_54 (by decide) ?_
          exact kf2
        exact kf1
      refine vr_istore_n hE dX3_next_58 (hnl _ (by decide)) rfl ?_
      refine vr_iload_n hE dX3_next_59 rfl ?_
      refine vr_if_eq (tgt := 91) hE dX3_next_60 (by decide) (fun c_60 => ?_) (fun c_60 => ?_)
      · rw [show (m_pre σ).2 0 = σ.2 0 from rfl] at c_60
        have hno : ¬ (σ.2 0 (15 + i) = m_fn (σ.2 0) ∧ ¬ σ.2 0 (95 + i) = σ.2 0 0) := fun z => by
          rw [if_neg (fun w => w z.1), if_neg z.2] at c_60
          exact absurd c_60 (by decide)
        refine vr_iinc hE dX3_next_91 rfl (iinc_1 _) (hnl _ (by decide)) rfl ?_
        refine vr_goto (tgt := 9) hE dX3_next_94 (by decide) ?_
        refine vr_drop 3 ?_
        have e2 : m_nx (σ.2 0) (i + 1) = m_nx (σ.2 0) i := by
          simp only [m_nx]
          rw [if_neg hno]
        rw [e2] at ih
        exact ih
      · rw [show (m_pre σ).2 0 = σ.2 0 from rfl] at c_60
        have hyes : σ.2 0 (15 + i) = m_fn (σ.2 0) ∧ ¬ σ.2 0 (95 + i) = σ.2 0 0 := by
          refine Classical.byContradiction fun z => c_60 ?_
          by_cases w : σ.2 0 (15 + i) = m_fn (σ.2 0)
          · rw [if_neg (fun v => v w), if_pos (Classical.byContradiction fun v => z ⟨w, v⟩)]
          · rw [if_pos w]
        cases hb : m_nx (σ.2 0) i with
        | none =>
          refine vr_iload_n hE dX3_next_63 rfl ?_
          refine vr_iconst (v := -1) hE dX3_next_64 (by decide) ?_
          refine vr_icmp_eq (tgt := 89) hE dX3_next_65 (by decide) (fun c_65 => ?_) (fun c_65 => ?_)
          · skip
            refine vr_iload_n hE dX3_next_89 rfl ?_
            refine vr_istore_n hE dX3_next_90 (hnl _ (by decide)) rfl ?_
            refine vr_iinc hE dX3_next_91 rfl (iinc_1 _) (hnl _ (by decide)) rfl ?_
            refine vr_goto (tgt := 9) hE dX3_next_94 (by decide) ?_
            refine vr_drop 3 ?_
            have e2 : m_nx (σ.2 0) (i + 1) = some i := by
              simp only [m_nx]
              rw [if_pos hyes, hb]
            rw [e2] at ih
            exact ih
          · exact absurd rfl c_65
        | some b =>
          have hb9 : b < 10 := m_nx_lt (by omega) hb
          refine vr_iload_n hE dX3_next_63 rfl ?_
          refine vr_iconst (v := -1) hE dX3_next_64 (by decide) ?_
          refine vr_icmp_eq (tgt := 89) hE dX3_next_65 (by decide) (fun c_65 => ?_) (fun c_65 => ?_)
          · exact absurd (show nI b = nI 4294967295 from c_65) (fun z => absurd z (m_oi_ne (by omega)))
          refine vr_aload_n hE dX3_next_68 rfl ?_
          refine mr_get hE (z := 1) (by decide) q2508 rfl rfl dX3_next_69 ?_
          refine vr_bipush (v := 95) hE dX3_next_72 (by decide) ?_
          refine vr_iload_n hE dX3_next_74 rfl ?_
          refine vr_iadd hE dX3_next_75 ?_
          refine mr_ald hE (j := 0) (by decide) (nI_add 95 _) (by show _ < 117; omega) dX3_next_76 ?_
          refine vr_aload_n hE dX3_next_77 rfl ?_
          refine mr_get hE (z := 1) (by decide) q2508 rfl rfl dX3_next_78 ?_
          refine vr_bipush (v := 95) hE dX3_next_81 (by decide) ?_
          refine vr_iload_n hE dX3_next_83 rfl ?_
          refine vr_iadd hE dX3_next_84 ?_
          refine mr_ald hE (j := 0) (by decide) (nI_add 95 b) (by show _ < 117; omega) dX3_next_85 ?_
          refine vr_icmp_ge (tgt := 91) hE dX3_next_86 (by decide) (fun c_86 => ?_) (fun c_86 => ?_)
          · skip
            refine vr_iinc hE dX3_next_91 rfl (iinc_1 _) (hnl _ (by decide)) rfl ?_
            refine vr_goto (tgt := 9) hE dX3_next_94 (by decide) ?_
            refine vr_drop 3 ?_
            have e2 : m_nx (σ.2 0) (i + 1) = some b := by
              simp only [m_nx]
              rw [if_pos hyes, hb]
              exact if_pos c_86
            rw [e2] at ih
            exact ih
          · skip
            refine vr_iload_n hE dX3_next_89 rfl ?_
            refine vr_istore_n hE dX3_next_90 (hnl _ (by decide)) rfl ?_
            refine vr_iinc hE dX3_next_91 rfl (iinc_1 _) (hnl _ (by decide)) rfl ?_
            refine vr_goto (tgt := 9) hE dX3_next_94 (by decide) ?_
            refine vr_drop 3 ?_
            have e2 : m_nx (σ.2 0) (i + 1) = some i := by
              simp only [m_nx]
              rw [if_pos hyes, hb]
              exact if_neg c_86
            rw [e2] at ih
            exact ih
  exact hlp_9 0 (Nat.zero_le _)
theorem ok_X3_weight : bi_ok yX3_weight RX3 1 := by decide +kernel
theorem mo_weight {Y : bi_Y} {mo : Nat} {ad : Nat → Nat} (G : mo_G Y mo ad) (σ : bi_S) (q : Nat) (hq8 : q ≤ 8) (hq : σ.1 5 = nI q) (w : Nat) (hw : w ≤ 4) (h2 : σ.2 0 2 = nI w) (a : Int32) : bi_Met Y yX3_weight (ws_ yX3_weight cX3_weight 3 (some .int)) 2 44 0 0 (mo_P Y.2.1 mo ad σ) (mo_F mo ad) [.ref mo, .int a] (fun v u => v = some (.int (m_weight σ q w a).2) ∧ u = (m_weight σ q w a).1) bi_nx (mo_P Y.2.1 mo ad) := by
  refine bi_Met.of (own := RX3) (L0 := [some (.ref mo), some (.int a), none]) rfl (by decide) G.1 G.2 (Nat.le_of_ble_eq_true rfl) rfl (fun X hE hQ hA hnl hnm => ?_)
  have hnl : ∀ q, q < 3 → q < bi_nL X := fun q h => by rw [hnl]; exact h
  refine vr_aload_n hE dX3_weight_0 rfl ?_
  refine vr_iconst (v := 0) hE dX3_weight_1 (by decide) ?_
  refine mr_put hE hA (z := 0) (by decide) q2507 rfl rfl rfl rfl (fun _ => rfl) dX3_weight_2 ?_
  refine vr_aload_n hE dX3_weight_5 rfl ?_
  refine mr_call hE hA (mo_remembers G _) ok_X3_remembers (lw_V q2585 q2587 qs33 q82 q2588) rfl rfl (Nat.le_of_ble_eq_true rfl) (by decide) dX3_weight_6 ?_
  rintro v_6 u_6 ⟨rfl, hu_6⟩
  obtain rfl := hu_6.symm
  refine vr_iload_n hE dX3_weight_9 rfl ?_
  refine vr_iconst (v := 1) hE dX3_weight_10 (by decide) ?_
  refine vr_bipush (v := 64) hE dX3_weight_11 (by decide) ?_
  refine mr_callS hE (mo_in G.1 _ _ _ _) ok_X3_in (lw_S q2592 q2593 q82 q2594) rfl rfl (Nat.le_of_ble_eq_true rfl) (by decide) dX3_weight_13 ?_
  rintro v_13 rfl
  refine vr_if_ne (tgt := 25) hE dX3_weight_16 (by decide) (fun c_16 => ?_) (fun c_16 => ?_)
  · skip
    refine vr_aload_n hE dX3_weight_25 rfl ?_
    refine mr_get hE (z := 1) (by decide) q2508 rfl rfl dX3_weight_26 ?_
    refine vr_iconst (v := 2) hE dX3_weight_29 (by decide) ?_
    refine mr_ald hE (j := 0) (i' := 2) (by decide) rfl (by decide) dX3_weight_30 ?_
    refine vr_to (w := .int (nI w)) (congrArg Value.int h2) ?_
    refine vr_istore_n hE dX3_weight_31 (hnl _ (by decide)) rfl ?_
    refine vr_iload_n hE dX3_weight_32 rfl ?_
    refine vr_iconst (v := 4) hE dX3_weight_33 (by decide) ?_
    refine vr_icmp_ne (tgt := 49) hE dX3_weight_34 (by decide) (fun c_34 => ?_) (fun c_34 => ?_)
    · have hn9 : w ≠ 4 := fun z => c_34 (by rw [z]; rfl)
      refine vr_aload_n hE dX3_weight_49 rfl ?_
      refine mr_get hE (z := 1) (by decide) q2508 rfl rfl dX3_weight_50 ?_
      refine vr_bipush (v := 105) hE dX3_weight_53 (by decide) ?_
      refine vr_iload_n hE dX3_weight_55 rfl ?_
      refine vr_iadd hE dX3_weight_56 ?_
      refine vr_iload_n hE dX3_weight_57 rfl ?_
      refine mr_ast hE hA (j := 0) (by decide) (nI_add 105 _) (by show _ < 117; omega) dX3_weight_58 ?_
      refine vr_aload_n hE dX3_weight_59 rfl ?_
      refine mr_get hE (z := 1) (by decide) q2508 rfl rfl dX3_weight_60 ?_
      refine vr_iconst (v := 2) hE dX3_weight_63 (by decide) ?_
      refine vr_iload_n hE dX3_weight_64 rfl ?_
      refine vr_iconst (v := 1) hE dX3_weight_65 (by decide) ?_
      refine vr_iadd hE dX3_weight_66 ?_
      refine mr_ast hE hA (j := 0) (i' := 2) (by decide) rfl (by decide) dX3_weight_67 ?_
      refine vr_aload_n hE dX3_weight_68 rfl ?_
      refine vr_iload_n hE dX3_weight_69 rfl ?_
      refine mr_call hE hA (mo_changed G _ q hq8 (by exact hq) _) ok_X3_changed (lw_V q2599 q2601 qs35 q82 q2602) rfl rfl (Nat.le_of_ble_eq_true rfl) (by decide) dX3_weight_70 ?_
      rintro v_70 u_70 ⟨rfl, hu_70⟩
      obtain rfl := hu_70.symm
      refine vr_ireturn hE hQ rfl dX3_weight_73 (by decide) ⟨_, ?_, fun H h => h⟩
      exact ⟨by rw [m_weight, if_neg c_16, if_neg hn9], by rw [m_weight, if_neg c_16, if_neg hn9]; simp only [sA_R, setR_R, setR_self]; rfl⟩
    · have hn9 : w = 4 := (nI_eq (by omega) (by decide)).mp c_34
      refine vr_aload_n hE dX3_weight_37 rfl ?_
      refine vr_aload_n hE dX3_weight_38 rfl ?_
      refine vr_iconst (v := 1) hE dX3_weight_39 (by decide) ?_
      refine vr_iconst (v := 4) hE dX3_weight_40 (by decide) ?_
      refine mr_call hE hA (mo_refused G _ _ _) ok_X3_refused (lw_V q2607 q2609 qs36 q82 q2610) rfl rfl (Nat.le_of_ble_eq_true rfl) (by decide) dX3_weight_41 ?_
      rintro v_41 u_41 ⟨rfl, hu_41⟩
      obtain rfl := hu_41.symm
      refine vr_iconst (v := 2) hE dX3_weight_44 (by decide) ?_
      refine mr_call hE hA (mo_ends G _ q hq8 (by exact hq) _ _) ok_X3_ends (lw_V q2611 q2613 qs37 q82 q2614) rfl rfl (Nat.le_of_ble_eq_true rfl) (by decide) dX3_weight_45 ?_
      rintro v_45 u_45 ⟨rfl, hu_45⟩
      obtain rfl := hu_45.symm
      refine vr_ireturn hE hQ rfl dX3_weight_48 (by decide) ⟨_, ?_, fun H h => h⟩
      exact ⟨by rw [m_weight, if_neg c_16, if_pos hn9] <;> rfl, by rw [m_weight, if_neg c_16, if_pos hn9] <;> rfl⟩
  · skip
    refine vr_aload_n hE dX3_weight_19 rfl ?_
    refine vr_iconst (v := 1) hE dX3_weight_20 (by decide) ?_
    refine mr_call hE hA (mo_fails G _ _) ok_X3_fails (lw_V q2595 q2597 qs34 q82 q2598) rfl rfl (Nat.le_of_ble_eq_true rfl) (by decide) dX3_weight_21 ?_
    rintro v_21 u_21 ⟨rfl, hu_21⟩
    obtain rfl := hu_21.symm
    refine vr_ireturn hE hQ rfl dX3_weight_24 (by decide) ⟨_, ?_, fun H h => h⟩
    exact ⟨by rw [m_weight, if_pos c_16] <;> rfl, by rw [m_weight, if_pos c_16] <;> rfl⟩
theorem ok_X3_polish : bi_ok yX3_polish RX3 1 := by decide +kernel
theorem mo_polish {Y : bi_Y} {mo : Nat} {ad : Nat → Nat} (G : mo_G Y mo ad) (σ : bi_S) (q : Nat) (hq8 : q ≤ 8) (hq : σ.1 5 = nI q) (w : Nat) (hw : w ≤ 4) (h2 : σ.2 0 2 = nI w) (a : Int32) : bi_Met Y yX3_polish (ws_ yX3_polish cX3_polish 3 (some .int)) 2 44 0 0 (mo_P Y.2.1 mo ad σ) (mo_F mo ad) [.ref mo, .int a] (fun v u => v = some (.int (m_polish σ q a).2) ∧ u = (m_polish σ q a).1) bi_nx (mo_P Y.2.1 mo ad) := by
  refine bi_Met.of (own := RX3) (L0 := [some (.ref mo), some (.int a), none]) rfl (by decide) G.1 G.2 (Nat.le_of_ble_eq_true rfl) rfl (fun X hE hQ hA hnl hnm => ?_)
  have hnl : ∀ q, q < 3 → q < bi_nL X := fun q h => by rw [hnl]; exact h
  refine vr_aload_n hE dX3_polish_0 rfl ?_
  refine vr_iconst (v := 0) hE dX3_polish_1 (by decide) ?_
  refine mr_put hE hA (z := 0) (by decide) q2507 rfl rfl rfl rfl (fun _ => rfl) dX3_polish_2 ?_
  refine vr_aload_n hE dX3_polish_5 rfl ?_
  refine mr_call hE hA (mo_remembers G _) ok_X3_remembers (lw_V q2585 q2587 qs33 q82 q2588) rfl rfl (Nat.le_of_ble_eq_true rfl) (by decide) dX3_polish_6 ?_
  rintro v_6 u_6 ⟨rfl, hu_6⟩
  obtain rfl := hu_6.symm
  refine vr_aload_n hE dX3_polish_9 rfl ?_
  refine vr_iload_n hE dX3_polish_10 rfl ?_
  refine mr_call hE hA (mo_isWeight G _ _) ok_X3_isWeight (lw_V q2683 q2685 qs47 q82 q2686) rfl rfl (Nat.le_of_ble_eq_true rfl) (by decide) dX3_polish_11 ?_
  rintro v_11 u_11 ⟨rfl, hu_11⟩
  obtain rfl := hu_11.symm
  refine vr_if_ne (tgt := 23) hE dX3_polish_14 (by decide) (fun c_14 => ?_) (fun c_14 => ?_)
  · replace c_14 : ¬ in_ a 0 (σ.2 0 2 - 1) = 0 := c_14
    obtain ⟨j, hj, rfl⟩ := in_T h2 (by omega) c_14
    refine vr_aload_n hE dX3_polish_23 rfl ?_
    refine mr_get hE (z := 1) (by decide) q2508 rfl rfl dX3_polish_24 ?_
    refine vr_bipush (v := 109) hE dX3_polish_27 (by decide) ?_
    refine vr_iload_n hE dX3_polish_29 rfl ?_
    refine vr_iadd hE dX3_polish_30 ?_
    refine mr_ald hE (j := 0) (by decide) (nI_add 109 _) (by show _ < 117; omega) dX3_polish_31 ?_
    refine vr_istore_n hE dX3_polish_32 (hnl _ (by decide)) rfl ?_
    refine vr_iload_n hE dX3_polish_33 rfl ?_
    refine vr_if_ne (tgt := 50) hE dX3_polish_34 (by decide) (fun c_34 => ?_) (fun c_34 => ?_)
    · skip
      refine vr_aload_n hE dX3_polish_50 rfl ?_
      refine mr_get hE (z := 1) (by decide) q2508 rfl rfl dX3_polish_51 ?_
      refine vr_bipush (v := 109) hE dX3_polish_54 (by decide) ?_
      refine vr_iload_n hE dX3_polish_56 rfl ?_
      refine vr_iadd hE dX3_polish_57 ?_
      refine vr_iconst (v := 0) hE dX3_polish_58 (by decide) ?_
      refine mr_ast hE hA (j := 0) (by decide) (nI_add 109 _) (by show _ < 117; omega) dX3_polish_59 ?_
      refine vr_aload_n hE dX3_polish_60 rfl ?_
      refine vr_iload_n hE dX3_polish_61 rfl ?_
      refine mr_call hE hA (mo_changed G _ q hq8 (by exact hq) _) ok_X3_changed (lw_V q2599 q2601 qs35 q82 q2602) rfl rfl (Nat.le_of_ble_eq_true rfl) (by decide) dX3_polish_62 ?_
      rintro v_62 u_62 ⟨rfl, hu_62⟩
      obtain rfl := hu_62.symm
      refine vr_ireturn hE hQ rfl dX3_polish_65 (by decide) ⟨_, ?_, fun H h => h⟩
      exact ⟨by rw [m_polish, if_neg c_14, ix_nI (show j < 2 ^ 31 by omega), if_pos (show ¬ σ.2 0 (109 + j) = 0 from c_34)] <;> rfl, by rw [m_polish, if_neg c_14, ix_nI (show j < 2 ^ 31 by omega), if_pos (show ¬ σ.2 0 (109 + j) = 0 from c_34)] <;> rfl⟩
    · skip
      refine vr_aload_n hE dX3_polish_37 rfl ?_
      refine vr_aload_n hE dX3_polish_38 rfl ?_
      refine vr_bipush (v := 10) hE dX3_polish_39 (by decide) ?_
      refine vr_iload_n hE dX3_polish_41 rfl ?_
      refine mr_call hE hA (mo_refused G _ _ _) ok_X3_refused (lw_V q2607 q2609 qs36 q82 q2610) rfl rfl (Nat.le_of_ble_eq_true rfl) (by decide) dX3_polish_42 ?_
      rintro v_42 u_42 ⟨rfl, hu_42⟩
      obtain rfl := hu_42.symm
      refine vr_iconst (v := 2) hE dX3_polish_45 (by decide) ?_
      refine mr_call hE hA (mo_ends G _ q hq8 (by exact hq) _ _) ok_X3_ends (lw_V q2611 q2613 qs37 q82 q2614) rfl rfl (Nat.le_of_ble_eq_true rfl) (by decide) dX3_polish_46 ?_
      rintro v_46 u_46 ⟨rfl, hu_46⟩
      obtain rfl := hu_46.symm
      refine vr_ireturn hE hQ rfl dX3_polish_49 (by decide) ⟨_, ?_, fun H h => h⟩
      exact ⟨by rw [m_polish, if_neg c_14, ix_nI (show j < 2 ^ 31 by omega), if_neg (fun z => z c_34)] <;> rfl, by rw [m_polish, if_neg c_14, ix_nI (show j < 2 ^ 31 by omega), if_neg (fun z => z c_34)] <;> rfl⟩
  · replace c_14 : in_ a 0 (σ.2 0 2 - 1) = 0 := c_14
    refine vr_aload_n hE dX3_polish_17 rfl ?_
    refine vr_iconst (v := 1) hE dX3_polish_18 (by decide) ?_
    refine mr_call hE hA (mo_fails G _ _) ok_X3_fails (lw_V q2595 q2597 qs34 q82 q2598) rfl rfl (Nat.le_of_ble_eq_true rfl) (by decide) dX3_polish_19 ?_
    rintro v_19 u_19 ⟨rfl, hu_19⟩
    obtain rfl := hu_19.symm
    refine vr_ireturn hE hQ rfl dX3_polish_22 (by decide) ⟨_, ?_, fun H h => h⟩
    exact ⟨by rw [m_polish, if_pos c_14] <;> rfl, by rw [m_polish, if_pos c_14] <;> rfl⟩
theorem ok_X3_weightOf : bi_ok yX3_weightOf RX3 2 := by decide +kernel
theorem mo_weightOf {Y : bi_Y} {mo : Nat} {ad : Nat → Nat} (G : mo_G Y mo ad) (σ : bi_S) (w : Nat) (hw : w ≤ 4) (h2 : σ.2 0 2 = nI w) (a b : Int32) : bi_Met Y yX3_weightOf (ws_ yX3_weightOf cX3_weightOf 3 (some .int)) 2 43 0 0 (mo_P Y.2.1 mo ad σ) (mo_F mo ad) [.ref mo, .int a, .int b] (fun v u => v = some (.int (m_weightOf σ a b).2) ∧ u = (m_weightOf σ a b).1) bi_nx (mo_P Y.2.1 mo ad) := by
  refine bi_Met.of (own := RX3) (L0 := [some (.ref mo), some (.int a), some (.int b)]) rfl (by decide) G.1 G.2 (Nat.le_of_ble_eq_true rfl) rfl (fun X hE hQ hA hnl hnm => ?_)
  have hnl : ∀ q, q < 3 → q < bi_nL X := fun q h => by rw [hnl]; exact h
  refine vr_aload_n hE dX3_weightOf_0 rfl ?_
  refine vr_iconst (v := 0) hE dX3_weightOf_1 (by decide) ?_
  refine mr_put hE hA (z := 0) (by decide) q2507 rfl rfl rfl rfl (fun _ => rfl) dX3_weightOf_2 ?_
  refine vr_aload_n hE dX3_weightOf_5 rfl ?_
  refine vr_iload_n hE dX3_weightOf_6 rfl ?_
  refine mr_call hE hA (mo_isWeight G _ _) ok_X3_isWeight (lw_V q2683 q2685 qs47 q82 q2686) rfl rfl (Nat.le_of_ble_eq_true rfl) (by decide) dX3_weightOf_7 ?_
  rintro v_7 u_7 ⟨rfl, hu_7⟩
  obtain rfl := hu_7.symm
  refine vr_if_ne (tgt := 19) hE dX3_weightOf_10 (by decide) (fun c_10 => ?_) (fun c_10 => ?_)
  · replace c_10 : ¬ in_ a 0 (σ.2 0 2 - 1) = 0 := c_10
    obtain ⟨j, hj, rfl⟩ := in_T h2 (by omega) c_10
    refine vr_iload_n hE dX3_weightOf_19 rfl ?_
    refine vr_iconst (v := 0) hE dX3_weightOf_20 (by decide) ?_
    refine vr_iconst (v := 2) hE dX3_weightOf_21 (by decide) ?_
    refine mr_callS hE (mo_in G.1 _ _ _ _) ok_X3_in (lw_S q2592 q2593 q82 q2594) rfl rfl (Nat.le_of_ble_eq_true rfl) (by decide) dX3_weightOf_22 ?_
    rintro v_22 rfl
    refine vr_if_eq (tgt := 44) hE dX3_weightOf_25 (by decide) (fun c_25 => ?_) (fun c_25 => ?_)
    · skip
      refine vr_aload_n hE dX3_weightOf_44 rfl ?_
      refine vr_iconst (v := 2) hE dX3_weightOf_45 (by decide) ?_
      refine mr_call hE hA (mo_fails G _ _) ok_X3_fails (lw_V q2595 q2597 qs34 q82 q2598) rfl rfl (Nat.le_of_ble_eq_true rfl) (by decide) dX3_weightOf_46 ?_
      rintro v_46 u_46 ⟨rfl, hu_46⟩
      obtain rfl := hu_46.symm
      refine vr_ireturn hE hQ rfl dX3_weightOf_49 (by decide) ⟨_, ?_, fun H h => h⟩
      exact ⟨by rw [m_weightOf, if_neg c_10, if_pos c_25] <;> rfl, by rw [m_weightOf, if_neg c_10, if_pos c_25] <;> rfl⟩
    · obtain ⟨j2, hj2, rfl⟩ := in_C (n := 2) rfl (by decide) c_25
      refine vr_aload_n hE dX3_weightOf_28 rfl ?_
      refine mr_get hE (z := 1) (by decide) q2508 rfl rfl dX3_weightOf_29 ?_
      refine vr_bipush (v := 105) hE dX3_weightOf_32 (by decide) ?_
      refine vr_iconst (v := 4) hE dX3_weightOf_34 (by decide) ?_
      refine vr_iload_n hE dX3_weightOf_35 rfl ?_
      refine vr_imul hE dX3_weightOf_36 ?_
      refine vr_iadd hE dX3_weightOf_37 ?_
      refine vr_iload_n hE dX3_weightOf_38 rfl ?_
      refine vr_iadd hE dX3_weightOf_39 ?_
      refine mr_ald hE (j := 0) (by decide) ((congrArg (fun z => 105 + z + nI j) (pk_mul 4 j2)).trans ((congrArg (· + nI j) (nI_add 105 _)).trans (nI_add _ _))) (by show _ < 117; omega) dX3_weightOf_40 ?_
      refine vr_goto (tgt := 49) hE dX3_weightOf_41 (by decide) ?_
      refine vr_ireturn hE hQ rfl dX3_weightOf_49 (by decide) ⟨_, ?_, fun H h => h⟩
      exact ⟨by rw [m_weightOf, if_neg c_10, if_neg c_25, ix_nI (show j < 2 ^ 31 by omega), ix_nI (show j2 < 2 ^ 31 by omega)] <;> rfl, by rw [m_weightOf, if_neg c_10, if_neg c_25, ix_nI (show j < 2 ^ 31 by omega), ix_nI (show j2 < 2 ^ 31 by omega)] <;> rfl⟩
  · replace c_10 : in_ a 0 (σ.2 0 2 - 1) = 0 := c_10
    refine vr_aload_n hE dX3_weightOf_13 rfl ?_
    refine vr_iconst (v := 1) hE dX3_weightOf_14 (by decide) ?_
    refine mr_call hE hA (mo_fails G _ _) ok_X3_fails (lw_V q2595 q2597 qs34 q82 q2598) rfl rfl (Nat.le_of_ble_eq_true rfl) (by decide) dX3_weightOf_15 ?_
    rintro v_15 u_15 ⟨rfl, hu_15⟩
    obtain rfl := hu_15.symm
    refine vr_ireturn hE hQ rfl dX3_weightOf_18 (by decide) ⟨_, ?_, fun H h => h⟩
    exact ⟨by rw [m_weightOf, if_pos c_10] <;> rfl, by rw [m_weightOf, if_pos c_10] <;> rfl⟩
theorem m_bw_le (s : Nat → Int32) : ∀ i, m_bw s i ≤ i := by
  intro i
  induction i with
  | zero => exact Nat.le_refl _
  | succ i ih =>
    simp only [m_bw]
    split
    · exact Nat.le_refl _
    · split
      · omega
      · split <;> omega
theorem ok_X3_bestWeight : bi_ok yX3_bestWeight RX3 0 := by decide +kernel
theorem mo_bestWeight {Y : bi_Y} {mo : Nat} {ad : Nat → Nat} (G : mo_G Y mo ad) (σ : bi_S) (w : Nat) (hw : w ≤ 4) (h2 : σ.2 0 2 = nI w) : bi_Met Y yX3_bestWeight (ws_ yX3_bestWeight cX3_bestWeight 3 (some .int)) 1 21 0 0 (mo_P Y.2.1 mo ad σ) (mo_F mo ad) [.ref mo] (fun v u => v = some (.int (m_bestW σ w).2) ∧ u = (m_bestW σ w).1) bi_nx (mo_P Y.2.1 mo ad) := by
  refine bi_Met.of (own := RX3) (L0 := [some (.ref mo), none, none]) rfl (by decide) G.1 G.2 (Nat.le_of_ble_eq_true rfl) rfl (fun X hE hQ hA hnl hnm => ?_)
  have hnl : ∀ q, q < 3 → q < bi_nL X := fun q h => by rw [hnl]; exact h
  refine vr_aload_n hE dX3_bestWeight_0 rfl ?_
  refine vr_iconst (v := 0) hE dX3_bestWeight_1 (by decide) ?_
  refine mr_put hE hA (z := 0) (by decide) q2507 rfl rfl rfl rfl (fun _ => rfl) dX3_bestWeight_2 ?_
  refine vr_aload_n hE dX3_bestWeight_5 rfl ?_
  refine mr_get hE (z := 1) (by decide) q2508 rfl rfl dX3_bestWeight_6 ?_
  refine vr_iconst (v := 2) hE dX3_bestWeight_9 (by decide) ?_
  refine mr_ald hE (j := 0) (i' := 2) (by decide) rfl (by decide) dX3_bestWeight_10 ?_
  refine vr_if_ne (tgt := 20) hE dX3_bestWeight_11 (by decide) (fun c_11 => ?_) (fun c_11 => ?_)
  · have hw0 : ¬ w = 0 := fun z => c_11 (by show σ.2 0 2 = 0; rw [h2, z]; rfl)
    refine vr_iconst (v := 0) hE dX3_bestWeight_20 (by decide) ?_
    refine vr_istore_n hE dX3_bestWeight_21 (hnl _ (by decide)) rfl ?_
    refine vr_iconst (v := 1) hE dX3_bestWeight_22 (by decide) ?_
    refine vr_istore_n hE dX3_bestWeight_23 (hnl _ (by decide)) rfl ?_
    have hlp_24 : ∀ i, i ≤ w - 1 → bi_V Y.1 X (mo_P Y.2.1 mo ad (m_pre σ)) 0 0 24 [some (.ref mo), some (.int (nI (m_bw (σ.2 0) i))), some (.int (nI (i + 1)))] [] := by
      refine bi_loop (fun i => bi_V Y.1 X (mo_P Y.2.1 mo ad (m_pre σ)) 0 0 24 [some (.ref mo), some (.int (nI (m_bw (σ.2 0) i))), some (.int (nI (i + 1)))] []) (w - 1) ?_ (fun i hi ih => ?_)
      · refine vr_iload_n hE dX3_bestWeight_24 rfl ?_
        refine vr_aload_n hE dX3_bestWeight_25 rfl ?_
        refine mr_get hE (z := 1) (by decide) q2508 rfl rfl dX3_bestWeight_26 ?_
        refine vr_iconst (v := 2) hE dX3_bestWeight_29 (by decide) ?_
        refine mr_ald hE (j := 0) (i' := 2) (by decide) rfl (by decide) dX3_bestWeight_30 ?_
        refine vr_icmp_ge (tgt := 105) hE dX3_bestWeight_31 (by decide) (fun c_31 => ?_) (fun c_31 => ?_)
        · skip
          refine vr_iload_n hE dX3_bestWeight_105 rfl ?_
          refine vr_ireturn hE hQ rfl dX3_bestWeight_106 (by decide) ⟨_, ?_, fun H h => h⟩
          exact ⟨by rw [m_bestW, if_neg hw0] <;> rfl, by rw [m_bestW, if_neg hw0] <;> rfl⟩
        · exact absurd (by show σ.2 0 2 ≤ _; rw [h2, show w - 1 + 1 = w by omega]; exact nI_le (Nat.le_refl _) (by omega)) c_31
      · have hbw := m_bw_le (σ.2 0) i
        refine vr_iload_n hE dX3_bestWeight_24 rfl ?_
        refine vr_aload_n hE dX3_bestWeight_25 rfl ?_
        refine mr_get hE (z := 1) (by decide) q2508 rfl rfl dX3_bestWeight_26 ?_
        refine vr_iconst (v := 2) hE dX3_bestWeight_29 (by decide) ?_
        refine mr_ald hE (j := 0) (i' := 2) (by decide) rfl (by decide) dX3_bestWeight_30 ?_
        refine vr_icmp_ge (tgt := 105) hE dX3_bestWeight_31 (by decide) (fun c_31 => ?_) (fun c_31 => ?_)
        · exact absurd (by rw [show (m_pre σ).2 0 2 = nI w from h2] at c_31; exact c_31) (nI_ge (show i + 1 < w by omega) (by omega))
        refine vr_aload_n hE dX3_bestWeight_34 rfl ?_
        refine mr_get hE (z := 1) (by decide) q2508 rfl rfl dX3_bestWeight_35 ?_
        refine vr_bipush (v := 109) hE dX3_bestWeight_38 (by decide) ?_
        refine vr_iload_n hE dX3_bestWeight_40 rfl ?_
        refine vr_iadd hE dX3_bestWeight_41 ?_
        refine mr_ald hE (j := 0) (by decide) (nI_add 109 _) (by show _ < 117; omega) dX3_bestWeight_42 ?_
        refine vr_aload_n hE dX3_bestWeight_43 rfl ?_
        refine mr_get hE (z := 1) (by decide) q2508 rfl rfl dX3_bestWeight_44 ?_
        refine vr_bipush (v := 109) hE dX3_bestWeight_47 (by decide) ?_
        refine vr_iload_n hE dX3_bestWeight_49 rfl ?_
        refine vr_iadd hE dX3_bestWeight_50 ?_
        refine mr_ald hE (j := 0) (by decide) (nI_add 109 (m_bw (σ.2 0) i)) (by show _ < 117; omega) dX3_bestWeight_51 ?_
        refine vr_icmp_lt (tgt := 97) hE dX3_bestWeight_52 (by decide) (fun c_52 => ?_) (fun c_52 => ?_)
        · skip
          refine vr_iload_n hE dX3_bestWeight_97 rfl ?_
          refine vr_istore_n hE dX3_bestWeight_98 (hnl _ (by decide)) rfl ?_
          refine vr_iinc hE dX3_bestWeight_99 rfl (iinc_1 _) (hnl _ (by decide)) rfl ?_
          refine vr_goto (tgt := 24) hE dX3_bestWeight_102 (by decide) ?_
          rw [show (m_pre σ).2 0 = σ.2 0 from rfl] at c_52
          have e2 : m_bw (σ.2 0) (i + 1) = i + 1 := by
            simp only [m_bw]
            rw [if_pos c_52]
          rw [e2] at ih
          exact ih
        · skip
          refine vr_aload_n hE dX3_bestWeight_55 rfl ?_
          refine mr_get hE (z := 1) (by decide) q2508 rfl rfl dX3_bestWeight_56 ?_
          refine vr_bipush (v := 109) hE dX3_bestWeight_59 (by decide) ?_
          refine vr_iload_n hE dX3_bestWeight_61 rfl ?_
          refine vr_iadd hE dX3_bestWeight_62 ?_
          refine mr_ald hE (j := 0) (by decide) (nI_add 109 _) (by show _ < 117; omega) dX3_bestWeight_63 ?_
          refine vr_aload_n hE dX3_bestWeight_64 rfl ?_
          refine mr_get hE (z := 1) (by decide) q2508 rfl rfl dX3_bestWeight_65 ?_
          refine vr_bipush (v := 109) hE dX3_bestWeight_68 (by decide) ?_
          refine vr_iload_n hE dX3_bestWeight_70 rfl ?_
          refine vr_iadd hE dX3_bestWeight_71 ?_
          refine mr_ald hE (j := 0) (by decide) (nI_add 109 (m_bw (σ.2 0) i)) (by show _ < 117; omega) dX3_bestWeight_72 ?_
          refine vr_icmp_ne (tgt := 99) hE dX3_bestWeight_73 (by decide) (fun c_73 => ?_) (fun c_73 => ?_)
          · skip
            refine vr_iinc hE dX3_bestWeight_99 rfl (iinc_1 _) (hnl _ (by decide)) rfl ?_
            refine vr_goto (tgt := 24) hE dX3_bestWeight_102 (by decide) ?_
            rw [show (m_pre σ).2 0 = σ.2 0 from rfl] at c_52 c_73
            have e2 : m_bw (σ.2 0) (i + 1) = m_bw (σ.2 0) i := by
              simp only [m_bw]
              rw [if_neg c_52, if_pos c_73]
            rw [e2] at ih
            exact ih
          · skip
            refine vr_aload_n hE dX3_bestWeight_76 rfl ?_
            refine mr_get hE (z := 1) (by decide) q2508 rfl rfl dX3_bestWeight_77 ?_
            refine vr_bipush (v := 105) hE dX3_bestWeight_80 (by decide) ?_
            refine vr_iload_n hE dX3_bestWeight_82 rfl ?_
            refine vr_iadd hE dX3_bestWeight_83 ?_
            refine mr_ald hE (j := 0) (by decide) (nI_add 105 _) (by show _ < 117; omega) dX3_bestWeight_84 ?_
            refine vr_aload_n hE dX3_bestWeight_85 rfl ?_
            refine mr_get hE (z := 1) (by decide) q2508 rfl rfl dX3_bestWeight_86 ?_
            refine vr_bipush (v := 105) hE dX3_bestWeight_89 (by decide) ?_
            refine vr_iload_n hE dX3_bestWeight_91 rfl ?_
            refine vr_iadd hE dX3_bestWeight_92 ?_
            refine mr_ald hE (j := 0) (by decide) (nI_add 105 (m_bw (σ.2 0) i)) (by show _ < 117; omega) dX3_bestWeight_93 ?_
            refine vr_icmp_le (tgt := 99) hE dX3_bestWeight_94 (by decide) (fun c_94 => ?_) (fun c_94 => ?_)
            · skip
              refine vr_iinc hE dX3_bestWeight_99 rfl (iinc_1 _) (hnl _ (by decide)) rfl ?_
              refine vr_goto (tgt := 24) hE dX3_bestWeight_102 (by decide) ?_
              rw [show (m_pre σ).2 0 = σ.2 0 from rfl] at c_52 c_73 c_94
              have e2 : m_bw (σ.2 0) (i + 1) = m_bw (σ.2 0) i := by
                simp only [m_bw]
                rw [if_neg c_52, if_neg (fun z => z c_73), if_pos c_94]
              rw [e2] at ih
              exact ih
            · skip
              refine vr_iload_n hE dX3_bestWeight_97 rfl ?_
              refine vr_istore_n hE dX3_bestWeight_98 (hnl _ (by decide)) rfl ?_
              refine vr_iinc hE dX3_bestWeight_99 rfl (iinc_1 _) (hnl _ (by decide)) rfl ?_
              refine vr_goto (tgt := 24) hE dX3_bestWeight_102 (by decide) ?_
              rw [show (m_pre σ).2 0 = σ.2 0 from rfl] at c_52 c_73 c_94
              have e2 : m_bw (σ.2 0) (i + 1) = i + 1 := by
                simp only [m_bw]
                rw [if_neg c_52, if_neg (fun z => z c_73), if_neg c_94]
              rw [e2] at ih
              exact ih
    exact hlp_24 0 (Nat.zero_le _)
  · have hw0 : w = 0 := (nI_eq (by omega) (by decide)).mp (h2.symm.trans c_11)
    refine vr_aload_n hE dX3_bestWeight_14 rfl ?_
    refine vr_iconst (v := 1) hE dX3_bestWeight_15 (by decide) ?_
    refine mr_call hE hA (mo_fails G _ _) ok_X3_fails (lw_V q2595 q2597 qs34 q82 q2598) rfl rfl (Nat.le_of_ble_eq_true rfl) (by decide) dX3_bestWeight_16 ?_
    rintro v_16 u_16 ⟨rfl, hu_16⟩
    obtain rfl := hu_16.symm
    refine vr_ireturn hE hQ rfl dX3_bestWeight_19 (by decide) ⟨_, ?_, fun H h => h⟩
    exact ⟨by rw [m_bestW, if_pos hw0] <;> rfl, by rw [m_bestW, if_pos hw0] <;> rfl⟩
theorem ok_X3_shows : bi_ok yX3_shows RX3 2 := by decide +kernel
theorem mo_shows {Y : bi_Y} {mo : Nat} {ad : Nat → Nat} (G : mo_G Y mo ad) (σ : bi_S) (n : Nat) (hn : n ≤ 10) (h1 : σ.2 0 1 = nI n) (w : Nat) (hw : w ≤ 4) (h2 : σ.2 0 2 = nI w) (a b : Int32) : bi_Met Y yX3_shows (ws_ yX3_shows cX3_shows 3 (some .int)) 2 43 0 0 (mo_P Y.2.1 mo ad σ) (mo_F mo ad) [.ref mo, .int a, .int b] (fun v u => v = some (.int (m_showsP σ a b).2) ∧ u = (m_showsP σ a b).1) bi_nx (mo_P Y.2.1 mo ad) := by
  refine bi_Met.of (own := RX3) (L0 := [some (.ref mo), some (.int a), some (.int b)]) rfl (by decide) G.1 G.2 (Nat.le_of_ble_eq_true rfl) rfl (fun X hE hQ hA hnl hnm => ?_)
  have hnl : ∀ q, q < 3 → q < bi_nL X := fun q h => by rw [hnl]; exact h
  refine vr_aload_n hE dX3_shows_0 rfl ?_
  refine vr_iconst (v := 0) hE dX3_shows_1 (by decide) ?_
  refine mr_put hE hA (z := 0) (by decide) q2507 rfl rfl rfl rfl (fun _ => rfl) dX3_shows_2 ?_
  refine vr_aload_n hE dX3_shows_5 rfl ?_
  refine vr_iload_n hE dX3_shows_6 rfl ?_
  refine mr_call hE hA (mo_isTrader G _ _) ok_X3_isTrader (lw_V q2623 q2625 qs39 q82 q2626) rfl rfl (Nat.le_of_ble_eq_true rfl) (by decide) dX3_shows_7 ?_
  rintro v_7 u_7 ⟨rfl, hu_7⟩
  obtain rfl := hu_7.symm
  refine vr_if_eq (tgt := 30) hE dX3_shows_10 (by decide) (fun c_10 => ?_) (fun c_10 => ?_)
  · replace c_10 : in_ a 0 (σ.2 0 1 - 1) = 0 := c_10
    refine vr_aload_n hE dX3_shows_30 rfl ?_
    refine vr_iconst (v := 1) hE dX3_shows_31 (by decide) ?_
    refine mr_call hE hA (mo_fails G _ _) ok_X3_fails (lw_V q2595 q2597 qs34 q82 q2598) rfl rfl (Nat.le_of_ble_eq_true rfl) (by decide) dX3_shows_32 ?_
    rintro v_32 u_32 ⟨rfl, hu_32⟩
    obtain rfl := hu_32.symm
    refine vr_ireturn hE hQ rfl dX3_shows_35 (by decide) ⟨_, ?_, fun H h => h⟩
    exact ⟨by rw [m_showsP, if_pos (Or.inl c_10)] <;> rfl, by rw [m_showsP, if_pos (Or.inl c_10)] <;> rfl⟩
  · replace c_10 : ¬ in_ a 0 (σ.2 0 1 - 1) = 0 := c_10
    obtain ⟨j, hj, rfl⟩ := in_T h1 (by omega) c_10
    refine vr_aload_n hE dX3_shows_13 rfl ?_
    refine vr_iload_n hE dX3_shows_14 rfl ?_
    refine mr_call hE hA (mo_isWeight G _ _) ok_X3_isWeight (lw_V q2683 q2685 qs47 q82 q2686) rfl rfl (Nat.le_of_ble_eq_true rfl) (by decide) dX3_shows_15 ?_
    rintro v_15 u_15 ⟨rfl, hu_15⟩
    obtain rfl := hu_15.symm
    refine vr_if_eq (tgt := 30) hE dX3_shows_18 (by decide) (fun c_18 => ?_) (fun c_18 => ?_)
    · replace c_18 : in_ b 0 (σ.2 0 2 - 1) = 0 := c_18
      refine vr_aload_n hE dX3_shows_30 rfl ?_
      refine vr_iconst (v := 1) hE dX3_shows_31 (by decide) ?_
      refine mr_call hE hA (mo_fails G _ _) ok_X3_fails (lw_V q2595 q2597 qs34 q82 q2598) rfl rfl (Nat.le_of_ble_eq_true rfl) (by decide) dX3_shows_32 ?_
      rintro v_32 u_32 ⟨rfl, hu_32⟩
      obtain rfl := hu_32.symm
      refine vr_ireturn hE hQ rfl dX3_shows_35 (by decide) ⟨_, ?_, fun H h => h⟩
      exact ⟨by rw [m_showsP, if_pos (Or.inr c_18)] <;> rfl, by rw [m_showsP, if_pos (Or.inr c_18)] <;> rfl⟩
    · replace c_18 : ¬ in_ b 0 (σ.2 0 2 - 1) = 0 := c_18
      obtain ⟨j2, hj2, rfl⟩ := in_T h2 (by omega) c_18
      refine vr_aload_n hE dX3_shows_21 rfl ?_
      refine vr_iload_n hE dX3_shows_22 rfl ?_
      refine vr_iload_n hE dX3_shows_23 rfl ?_
      refine mr_call hE hA (mo_showsBy G _ j (by omega) j2 (by omega)) ok_X3_showsBy (lw_V q2699 q2701 qs48 q82 q2702) rfl rfl (Nat.le_of_ble_eq_true rfl) (by decide) dX3_shows_24 ?_
      rintro v_24 u_24 ⟨rfl, hu_24⟩
      obtain rfl := hu_24.symm
      refine vr_goto (tgt := 35) hE dX3_shows_27 (by decide) ?_
      refine vr_ireturn hE hQ rfl dX3_shows_35 (by decide) ⟨_, ?_, fun H h => h⟩
      exact ⟨by rw [m_showsP, if_neg (fun z => z.elim c_10 c_18), ix_nI (show j < 2 ^ 31 by omega), ix_nI (show j2 < 2 ^ 31 by omega)] <;> rfl, by rw [m_showsP, if_neg (fun z => z.elim c_10 c_18), ix_nI (show j < 2 ^ 31 by omega), ix_nI (show j2 < 2 ^ 31 by omega)] <;> rfl⟩
theorem ok_X3_fine : bi_ok yX3_fine RX3 2 := by decide +kernel
theorem mo_fine {Y : bi_Y} {mo : Nat} {ad : Nat → Nat} (G : mo_G Y mo ad) (σ : bi_S) (n : Nat) (hn : n ≤ 10) (h1 : σ.2 0 1 = nI n) (w : Nat) (hw : w ≤ 4) (h2 : σ.2 0 2 = nI w) (hfT : ∀ t, t < n → ∃ f, f < 5 ∧ σ.2 0 (15 + t) = nI f) (a b : Int32) : bi_Met Y yX3_fine (ws_ yX3_fine cX3_fine 3 (some .int)) 2 48 0 0 (mo_P Y.2.1 mo ad σ) (mo_F mo ad) [.ref mo, .int a, .int b] (fun v u => v = some (.int (m_fineP σ a b).2) ∧ u = (m_fineP σ a b).1) bi_nx (mo_P Y.2.1 mo ad) := by
  refine bi_Met.of (own := RX3) (L0 := [some (.ref mo), some (.int a), some (.int b)]) rfl (by decide) G.1 G.2 (Nat.le_of_ble_eq_true rfl) rfl (fun X hE hQ hA hnl hnm => ?_)
  have hnl : ∀ q, q < 3 → q < bi_nL X := fun q h => by rw [hnl]; exact h
  refine vr_aload_n hE dX3_fine_0 rfl ?_
  refine vr_iconst (v := 0) hE dX3_fine_1 (by decide) ?_
  refine mr_put hE hA (z := 0) (by decide) q2507 rfl rfl rfl rfl (fun _ => rfl) dX3_fine_2 ?_
  refine vr_aload_n hE dX3_fine_5 rfl ?_
  refine vr_iload_n hE dX3_fine_6 rfl ?_
  refine mr_call hE hA (mo_isTrader G _ _) ok_X3_isTrader (lw_V q2623 q2625 qs39 q82 q2626) rfl rfl (Nat.le_of_ble_eq_true rfl) (by decide) dX3_fine_7 ?_
  rintro v_7 u_7 ⟨rfl, hu_7⟩
  obtain rfl := hu_7.symm
  refine vr_if_eq (tgt := 30) hE dX3_fine_10 (by decide) (fun c_10 => ?_) (fun c_10 => ?_)
  · replace c_10 : in_ a 0 (σ.2 0 1 - 1) = 0 := c_10
    refine vr_aload_n hE dX3_fine_30 rfl ?_
    refine vr_iconst (v := 1) hE dX3_fine_31 (by decide) ?_
    refine mr_call hE hA (mo_fails G _ _) ok_X3_fails (lw_V q2595 q2597 qs34 q82 q2598) rfl rfl (Nat.le_of_ble_eq_true rfl) (by decide) dX3_fine_32 ?_
    rintro v_32 u_32 ⟨rfl, hu_32⟩
    obtain rfl := hu_32.symm
    refine vr_ireturn hE hQ rfl dX3_fine_35 (by decide) ⟨_, ?_, fun H h => h⟩
    exact ⟨by rw [m_fineP, if_pos (Or.inl c_10)] <;> rfl, by rw [m_fineP, if_pos (Or.inl c_10)] <;> rfl⟩
  · replace c_10 : ¬ in_ a 0 (σ.2 0 1 - 1) = 0 := c_10
    obtain ⟨j, hj, rfl⟩ := in_T h1 (by omega) c_10
    refine vr_aload_n hE dX3_fine_13 rfl ?_
    refine vr_iload_n hE dX3_fine_14 rfl ?_
    refine mr_call hE hA (mo_isWeight G _ _) ok_X3_isWeight (lw_V q2683 q2685 qs47 q82 q2686) rfl rfl (Nat.le_of_ble_eq_true rfl) (by decide) dX3_fine_15 ?_
    rintro v_15 u_15 ⟨rfl, hu_15⟩
    obtain rfl := hu_15.symm
    refine vr_if_eq (tgt := 30) hE dX3_fine_18 (by decide) (fun c_18 => ?_) (fun c_18 => ?_)
    · replace c_18 : in_ b 0 (σ.2 0 2 - 1) = 0 := c_18
      refine vr_aload_n hE dX3_fine_30 rfl ?_
      refine vr_iconst (v := 1) hE dX3_fine_31 (by decide) ?_
      refine mr_call hE hA (mo_fails G _ _) ok_X3_fails (lw_V q2595 q2597 qs34 q82 q2598) rfl rfl (Nat.le_of_ble_eq_true rfl) (by decide) dX3_fine_32 ?_
      rintro v_32 u_32 ⟨rfl, hu_32⟩
      obtain rfl := hu_32.symm
      refine vr_ireturn hE hQ rfl dX3_fine_35 (by decide) ⟨_, ?_, fun H h => h⟩
      exact ⟨by rw [m_fineP, if_pos (Or.inr c_18)] <;> rfl, by rw [m_fineP, if_pos (Or.inr c_18)] <;> rfl⟩
    · replace c_18 : ¬ in_ b 0 (σ.2 0 2 - 1) = 0 := c_18
      obtain ⟨j2, hj2, rfl⟩ := in_T h2 (by omega) c_18
      obtain ⟨f, hf5, hf⟩ := hfT j hj
      have hfr : m_fr (σ.2 0) j = f := by unfold m_fr; rw [hf]; exact ix_nI (by omega)
      refine vr_aload_n hE dX3_fine_21 rfl ?_
      refine vr_iload_n hE dX3_fine_22 rfl ?_
      refine vr_iload_n hE dX3_fine_23 rfl ?_
      refine mr_call hE hA (mo_fineBy G _ j (by omega) j2 (by omega) f hf5 (by exact hf)) ok_X3_fineBy (lw_V q2711 q2713 qs50 q82 q2714) rfl rfl (Nat.le_of_ble_eq_true rfl) (by decide) dX3_fine_24 ?_
      rintro v_24 u_24 ⟨rfl, hu_24⟩
      obtain rfl := hu_24.symm
      refine vr_goto (tgt := 35) hE dX3_fine_27 (by decide) ?_
      refine vr_ireturn hE hQ rfl dX3_fine_35 (by decide) ⟨_, ?_, fun H h => h⟩
      exact ⟨by rw [m_fineP, if_neg (fun z => z.elim c_10 c_18), ix_nI (show j < 2 ^ 31 by omega), ix_nI (show j2 < 2 ^ 31 by omega), hfr] <;> rfl, by rw [m_fineP, if_neg (fun z => z.elim c_10 c_18), ix_nI (show j < 2 ^ 31 by omega), ix_nI (show j2 < 2 ^ 31 by omega), hfr] <;> rfl⟩
theorem ok_X3_inspect : bi_ok yX3_inspect RX3 2 := by decide +kernel
theorem mo_inspect {Y : bi_Y} {mo : Nat} {ad : Nat → Nat} (G : mo_G Y mo ad) (σ : bi_S) (q : Nat) (hq8 : q ≤ 8) (hq : σ.1 5 = nI q) (n : Nat) (hn : n ≤ 10) (h1 : σ.2 0 1 = nI n) (w : Nat) (hw : w ≤ 4) (h2 : σ.2 0 2 = nI w) (hfT : ∀ t, t < n → ∃ f, f < 5 ∧ σ.2 0 (15 + t) = nI f) (a b : Int32) : bi_Met Y yX3_inspect (ws_ yX3_inspect cX3_inspect 3 (some .int)) 3 73 0 0 (mo_P Y.2.1 mo ad σ) (mo_F mo ad) [.ref mo, .int a, .int b] (fun v u => v = some (.int (m_inspect σ q a b).2) ∧ u = (m_inspect σ q a b).1) bi_nx (mo_P Y.2.1 mo ad) := by
  refine bi_Met.of (own := RX3) (L0 := [some (.ref mo), some (.int a), some (.int b)]) rfl (by decide) G.1 G.2 (Nat.le_of_ble_eq_true rfl) rfl (fun X hE hQ hA hnl hnm => ?_)
  have hnl : ∀ q, q < 3 → q < bi_nL X := fun q h => by rw [hnl]; exact h
  refine vr_aload_n hE dX3_inspect_0 rfl ?_
  refine vr_iconst (v := 0) hE dX3_inspect_1 (by decide) ?_
  refine mr_put hE hA (z := 0) (by decide) q2507 rfl rfl rfl rfl (fun _ => rfl) dX3_inspect_2 ?_
  refine vr_aload_n hE dX3_inspect_5 rfl ?_
  refine mr_call hE hA (mo_remembers G _) ok_X3_remembers (lw_V q2585 q2587 qs33 q82 q2588) rfl rfl (Nat.le_of_ble_eq_true rfl) (by decide) dX3_inspect_6 ?_
  rintro v_6 u_6 ⟨rfl, hu_6⟩
  obtain rfl := hu_6.symm
  refine vr_aload_n hE dX3_inspect_9 rfl ?_
  refine vr_iload_n hE dX3_inspect_10 rfl ?_
  refine mr_call hE hA (mo_isTrader G _ _) ok_X3_isTrader (lw_V q2623 q2625 qs39 q82 q2626) rfl rfl (Nat.le_of_ble_eq_true rfl) (by decide) dX3_inspect_11 ?_
  rintro v_11 u_11 ⟨rfl, hu_11⟩
  obtain rfl := hu_11.symm
  refine vr_if_eq (tgt := 39) hE dX3_inspect_14 (by decide) (fun c_14 => ?_) (fun c_14 => ?_)
  · replace c_14 : in_ a 0 (σ.2 0 1 - 1) = 0 := c_14
    refine vr_aload_n hE dX3_inspect_39 rfl ?_
    refine vr_iconst (v := 1) hE dX3_inspect_40 (by decide) ?_
    refine mr_call hE hA (mo_fails G _ _) ok_X3_fails (lw_V q2595 q2597 qs34 q82 q2598) rfl rfl (Nat.le_of_ble_eq_true rfl) (by decide) dX3_inspect_41 ?_
    rintro v_41 u_41 ⟨rfl, hu_41⟩
    obtain rfl := hu_41.symm
    refine vr_ireturn hE hQ rfl dX3_inspect_44 (by decide) ⟨_, ?_, fun H h => h⟩
    exact ⟨by rw [m_inspect, if_pos (Or.inl c_14)] <;> rfl, by rw [m_inspect, if_pos (Or.inl c_14)] <;> rfl⟩
  · replace c_14 : ¬ in_ a 0 (σ.2 0 1 - 1) = 0 := c_14
    obtain ⟨j, hj, rfl⟩ := in_T h1 (by omega) c_14
    refine vr_aload_n hE dX3_inspect_17 rfl ?_
    refine vr_iload_n hE dX3_inspect_18 rfl ?_
    refine mr_call hE hA (mo_isWeight G _ _) ok_X3_isWeight (lw_V q2683 q2685 qs47 q82 q2686) rfl rfl (Nat.le_of_ble_eq_true rfl) (by decide) dX3_inspect_19 ?_
    rintro v_19 u_19 ⟨rfl, hu_19⟩
    obtain rfl := hu_19.symm
    refine vr_if_eq (tgt := 39) hE dX3_inspect_22 (by decide) (fun c_22 => ?_) (fun c_22 => ?_)
    · replace c_22 : in_ b 0 (σ.2 0 2 - 1) = 0 := c_22
      refine vr_aload_n hE dX3_inspect_39 rfl ?_
      refine vr_iconst (v := 1) hE dX3_inspect_40 (by decide) ?_
      refine mr_call hE hA (mo_fails G _ _) ok_X3_fails (lw_V q2595 q2597 qs34 q82 q2598) rfl rfl (Nat.le_of_ble_eq_true rfl) (by decide) dX3_inspect_41 ?_
      rintro v_41 u_41 ⟨rfl, hu_41⟩
      obtain rfl := hu_41.symm
      refine vr_ireturn hE hQ rfl dX3_inspect_44 (by decide) ⟨_, ?_, fun H h => h⟩
      exact ⟨by rw [m_inspect, if_pos (Or.inr c_22)] <;> rfl, by rw [m_inspect, if_pos (Or.inr c_22)] <;> rfl⟩
    · replace c_22 : ¬ in_ b 0 (σ.2 0 2 - 1) = 0 := c_22
      obtain ⟨j2, hj2, rfl⟩ := in_T h2 (by omega) c_22
      obtain ⟨f, hf5, hf⟩ := hfT j hj
      have hfr : m_fr (σ.2 0) j = f := by unfold m_fr; rw [hf]; exact ix_nI (by omega)
      refine vr_aload_n hE dX3_inspect_25 rfl ?_
      refine vr_aload_n hE dX3_inspect_26 rfl ?_
      refine vr_iload_n hE dX3_inspect_27 rfl ?_
      refine vr_iload_n hE dX3_inspect_28 rfl ?_
      refine mr_call hE hA (mo_inspects G _ j (by omega) j2 (by omega) f hf5 (by exact hf)) ok_X3_inspects (lw_V q2707 q2709 qs49 q82 q2710) rfl rfl (Nat.le_of_ble_eq_true rfl) (by decide) dX3_inspect_29 ?_
      rintro v_29 u_29 ⟨rfl, hu_29⟩
      obtain rfl := hu_29.symm
      refine vr_iconst (v := 2) hE dX3_inspect_32 (by decide) ?_
      refine mr_call hE hA (mo_ends G _ q hq8 (by rw [m_inspects_5]; exact hq) _ _) ok_X3_ends (lw_V q2611 q2613 qs37 q82 q2614) rfl rfl (Nat.le_of_ble_eq_true rfl) (by decide) dX3_inspect_33 ?_
      rintro v_33 u_33 ⟨rfl, hu_33⟩
      obtain rfl := hu_33.symm
      refine vr_goto (tgt := 44) hE dX3_inspect_36 (by decide) ?_
      refine vr_ireturn hE hQ rfl dX3_inspect_44 (by decide) ⟨_, ?_, fun H h => h⟩
      exact ⟨by rw [m_inspect, if_neg (fun z => z.elim c_14 c_22), ix_nI (show j < 2 ^ 31 by omega), ix_nI (show j2 < 2 ^ 31 by omega), hfr] <;> rfl, by rw [m_inspect, if_neg (fun z => z.elim c_14 c_22), ix_nI (show j < 2 ^ 31 by omega), ix_nI (show j2 < 2 ^ 31 by omega), hfr] <;> rfl⟩
theorem ok_X3_mend : bi_ok yX3_mend RX3 1 := by decide +kernel
theorem mo_mend {Y : bi_Y} {mo : Nat} {ad : Nat → Nat} (G : mo_G Y mo ad) (σ : bi_S) (q : Nat) (hq8 : q ≤ 8) (hq : σ.1 5 = nI q) (n : Nat) (hn : n ≤ 10) (h1 : σ.2 0 1 = nI n) (a : Int32) : bi_Met Y yX3_mend (ws_ yX3_mend cX3_mend 2 (some .int)) 2 44 0 0 (mo_P Y.2.1 mo ad σ) (mo_F mo ad) [.ref mo, .int a] (fun v u => v = some (.int (m_mend σ q a).2) ∧ u = (m_mend σ q a).1) bi_nx (mo_P Y.2.1 mo ad) := by
  refine bi_Met.of (own := RX3) (L0 := [some (.ref mo), some (.int a)]) rfl (by decide) G.1 G.2 (Nat.le_of_ble_eq_true rfl) rfl (fun X hE hQ hA hnl hnm => ?_)
  have hnl : ∀ q, q < 2 → q < bi_nL X := fun q h => by rw [hnl]; exact h
  refine vr_aload_n hE dX3_mend_0 rfl ?_
  refine vr_iconst (v := 0) hE dX3_mend_1 (by decide) ?_
  refine mr_put hE hA (z := 0) (by decide) q2507 rfl rfl rfl rfl (fun _ => rfl) dX3_mend_2 ?_
  refine vr_aload_n hE dX3_mend_5 rfl ?_
  refine mr_call hE hA (mo_remembers G _) ok_X3_remembers (lw_V q2585 q2587 qs33 q82 q2588) rfl rfl (Nat.le_of_ble_eq_true rfl) (by decide) dX3_mend_6 ?_
  rintro v_6 u_6 ⟨rfl, hu_6⟩
  obtain rfl := hu_6.symm
  refine vr_aload_n hE dX3_mend_9 rfl ?_
  refine vr_iload_n hE dX3_mend_10 rfl ?_
  refine mr_call hE hA (mo_isTrader G _ _) ok_X3_isTrader (lw_V q2623 q2625 qs39 q82 q2626) rfl rfl (Nat.le_of_ble_eq_true rfl) (by decide) dX3_mend_11 ?_
  rintro v_11 u_11 ⟨rfl, hu_11⟩
  obtain rfl := hu_11.symm
  refine vr_if_eq (tgt := 30) hE dX3_mend_14 (by decide) (fun c_14 => ?_) (fun c_14 => ?_)
  · replace c_14 : in_ a 0 (σ.2 0 1 - 1) = 0 := c_14
    refine vr_aload_n hE dX3_mend_30 rfl ?_
    refine vr_iconst (v := 1) hE dX3_mend_31 (by decide) ?_
    refine mr_call hE hA (mo_fails G _ _) ok_X3_fails (lw_V q2595 q2597 qs34 q82 q2598) rfl rfl (Nat.le_of_ble_eq_true rfl) (by decide) dX3_mend_32 ?_
    rintro v_32 u_32 ⟨rfl, hu_32⟩
    obtain rfl := hu_32.symm
    refine vr_ireturn hE hQ rfl dX3_mend_35 (by decide) ⟨_, ?_, fun H h => h⟩
    exact ⟨by rw [m_mend, if_pos c_14] <;> rfl, by rw [m_mend, if_pos c_14] <;> rfl⟩
  · replace c_14 : ¬ in_ a 0 (σ.2 0 1 - 1) = 0 := c_14
    obtain ⟨j, hj, rfl⟩ := in_T h1 (by omega) c_14
    refine vr_aload_n hE dX3_mend_17 rfl ?_
    refine vr_aload_n hE dX3_mend_18 rfl ?_
    refine vr_iload_n hE dX3_mend_19 rfl ?_
    refine mr_call hE hA (mo_mends G _ j (by omega)) ok_X3_mends (lw_V q2723 q2725 qs51 q82 q2726) rfl rfl (Nat.le_of_ble_eq_true rfl) (by decide) dX3_mend_20 ?_
    rintro v_20 u_20 ⟨rfl, hu_20⟩
    obtain rfl := hu_20.symm
    refine vr_iconst (v := 2) hE dX3_mend_23 (by decide) ?_
    refine mr_call hE hA (mo_ends G _ q hq8 (by rw [m_mends_5]; exact hq) _ _) ok_X3_ends (lw_V q2611 q2613 qs37 q82 q2614) rfl rfl (Nat.le_of_ble_eq_true rfl) (by decide) dX3_mend_24 ?_
    rintro v_24 u_24 ⟨rfl, hu_24⟩
    obtain rfl := hu_24.symm
    refine vr_goto (tgt := 35) hE dX3_mend_27 (by decide) ?_
    refine vr_ireturn hE hQ rfl dX3_mend_35 (by decide) ⟨_, ?_, fun H h => h⟩
    exact ⟨by rw [m_mend, if_neg c_14, ix_nI (show j < 2 ^ 31 by omega)] <;> rfl, by rw [m_mend, if_neg c_14, ix_nI (show j < 2 ^ 31 by omega)] <;> rfl⟩
theorem ok_X3_shave : bi_ok yX3_shave RX3 2 := by decide +kernel
theorem mo_shave {Y : bi_Y} {mo : Nat} {ad : Nat → Nat} (G : mo_G Y mo ad) (σ : bi_S) (q : Nat) (hq8 : q ≤ 8) (hq : σ.1 5 = nI q) (n : Nat) (hn : n ≤ 10) (h1 : σ.2 0 1 = nI n) (a b : Int32) : bi_Met Y yX3_shave (ws_ yX3_shave cX3_shave 3 (some .int)) 2 44 0 0 (mo_P Y.2.1 mo ad σ) (mo_F mo ad) [.ref mo, .int a, .int b] (fun v u => v = some (.int (m_shave σ q a b).2) ∧ u = (m_shave σ q a b).1) bi_nx (mo_P Y.2.1 mo ad) := by
  refine bi_Met.of (own := RX3) (L0 := [some (.ref mo), some (.int a), some (.int b)]) rfl (by decide) G.1 G.2 (Nat.le_of_ble_eq_true rfl) rfl (fun X hE hQ hA hnl hnm => ?_)
  have hnl : ∀ q, q < 3 → q < bi_nL X := fun q h => by rw [hnl]; exact h
  refine vr_aload_n hE dX3_shave_0 rfl ?_
  refine vr_iconst (v := 0) hE dX3_shave_1 (by decide) ?_
  refine mr_put hE hA (z := 0) (by decide) q2507 rfl rfl rfl rfl (fun _ => rfl) dX3_shave_2 ?_
  refine vr_aload_n hE dX3_shave_5 rfl ?_
  refine mr_call hE hA (mo_remembers G _) ok_X3_remembers (lw_V q2585 q2587 qs33 q82 q2588) rfl rfl (Nat.le_of_ble_eq_true rfl) (by decide) dX3_shave_6 ?_
  rintro v_6 u_6 ⟨rfl, hu_6⟩
  obtain rfl := hu_6.symm
  refine vr_aload_n hE dX3_shave_9 rfl ?_
  refine vr_iload_n hE dX3_shave_10 rfl ?_
  refine mr_call hE hA (mo_isTrader G _ _) ok_X3_isTrader (lw_V q2623 q2625 qs39 q82 q2626) rfl rfl (Nat.le_of_ble_eq_true rfl) (by decide) dX3_shave_11 ?_
  rintro v_11 u_11 ⟨rfl, hu_11⟩
  obtain rfl := hu_11.symm
  refine vr_if_ne (tgt := 23) hE dX3_shave_14 (by decide) (fun c_14 => ?_) (fun c_14 => ?_)
  · replace c_14 : ¬ in_ a 0 (σ.2 0 1 - 1) = 0 := c_14
    obtain ⟨j, hj, rfl⟩ := in_T h1 (by omega) c_14
    refine vr_iload_n hE dX3_shave_23 rfl ?_
    refine vr_iconst (v := 1) hE dX3_shave_24 (by decide) ?_
    refine vr_bipush (v := 9) hE dX3_shave_25 (by decide) ?_
    refine mr_callS hE (mo_in G.1 _ _ _ _) ok_X3_in (lw_S q2592 q2593 q82 q2594) rfl rfl (Nat.le_of_ble_eq_true rfl) (by decide) dX3_shave_27 ?_
    rintro v_27 rfl
    refine vr_if_eq (tgt := 47) hE dX3_shave_30 (by decide) (fun c_30 => ?_) (fun c_30 => ?_)
    · skip
      refine vr_aload_n hE dX3_shave_47 rfl ?_
      refine vr_iconst (v := 2) hE dX3_shave_48 (by decide) ?_
      refine mr_call hE hA (mo_fails G _ _) ok_X3_fails (lw_V q2595 q2597 qs34 q82 q2598) rfl rfl (Nat.le_of_ble_eq_true rfl) (by decide) dX3_shave_49 ?_
      rintro v_49 u_49 ⟨rfl, hu_49⟩
      obtain rfl := hu_49.symm
      refine vr_ireturn hE hQ rfl dX3_shave_52 (by decide) ⟨_, ?_, fun H h => h⟩
      exact ⟨by rw [m_shave, if_neg c_14, if_pos c_30] <;> rfl, by rw [m_shave, if_neg c_14, if_pos c_30] <;> rfl⟩
    · skip
      refine vr_aload_n hE dX3_shave_33 rfl ?_
      refine vr_aload_n hE dX3_shave_34 rfl ?_
      refine vr_iload_n hE dX3_shave_35 rfl ?_
      refine vr_iload_n hE dX3_shave_36 rfl ?_
      refine mr_call hE hA (mo_shaves G _ j (by omega) _) ok_X3_shaves (lw_V q2731 q2733 qs52 q82 q2734) rfl rfl (Nat.le_of_ble_eq_true rfl) (by decide) dX3_shave_37 ?_
      rintro v_37 u_37 ⟨rfl, hu_37⟩
      obtain rfl := hu_37.symm
      refine vr_iconst (v := 3) hE dX3_shave_40 (by decide) ?_
      refine mr_call hE hA (mo_ends G _ q hq8 (by rw [m_shaves_5]; exact hq) _ _) ok_X3_ends (lw_V q2611 q2613 qs37 q82 q2614) rfl rfl (Nat.le_of_ble_eq_true rfl) (by decide) dX3_shave_41 ?_
      rintro v_41 u_41 ⟨rfl, hu_41⟩
      obtain rfl := hu_41.symm
      refine vr_goto (tgt := 52) hE dX3_shave_44 (by decide) ?_
      refine vr_ireturn hE hQ rfl dX3_shave_52 (by decide) ⟨_, ?_, fun H h => h⟩
      exact ⟨by rw [m_shave, if_neg c_14, if_neg c_30, ix_nI (show j < 2 ^ 31 by omega)] <;> rfl, by rw [m_shave, if_neg c_14, if_neg c_30, ix_nI (show j < 2 ^ 31 by omega)] <;> rfl⟩
  · replace c_14 : in_ a 0 (σ.2 0 1 - 1) = 0 := c_14
    refine vr_aload_n hE dX3_shave_17 rfl ?_
    refine vr_iconst (v := 1) hE dX3_shave_18 (by decide) ?_
    refine mr_call hE hA (mo_fails G _ _) ok_X3_fails (lw_V q2595 q2597 qs34 q82 q2598) rfl rfl (Nat.le_of_ble_eq_true rfl) (by decide) dX3_shave_19 ?_
    rintro v_19 u_19 ⟨rfl, hu_19⟩
    obtain rfl := hu_19.symm
    refine vr_ireturn hE hQ rfl dX3_shave_22 (by decide) ⟨_, ?_, fun H h => h⟩
    exact ⟨by rw [m_shave, if_pos c_14] <;> rfl, by rw [m_shave, if_pos c_14] <;> rfl⟩
theorem ok_X3_pay : bi_ok yX3_pay RX3 2 := by decide +kernel
theorem mo_pay {Y : bi_Y} {mo : Nat} {ad : Nat → Nat} (G : mo_G Y mo ad) (σ : bi_S) (q : Nat) (hq8 : q ≤ 8) (hq : σ.1 5 = nI q) (n : Nat) (hn : n ≤ 10) (h1 : σ.2 0 1 = nI n) (a b : Int32) : bi_Met Y yX3_pay (ws_ yX3_pay cX3_pay 3 (some .int)) 2 45 0 0 (mo_P Y.2.1 mo ad σ) (mo_F mo ad) [.ref mo, .int a, .int b] (fun v u => v = some (.int (m_pay σ q a b).2) ∧ u = (m_pay σ q a b).1) bi_nx (mo_P Y.2.1 mo ad) := by
  refine bi_Met.of (own := RX3) (L0 := [some (.ref mo), some (.int a), some (.int b)]) rfl (by decide) G.1 G.2 (Nat.le_of_ble_eq_true rfl) rfl (fun X hE hQ hA hnl hnm => ?_)
  have hnl : ∀ q, q < 3 → q < bi_nL X := fun q h => by rw [hnl]; exact h
  refine vr_aload_n hE dX3_pay_0 rfl ?_
  refine vr_iconst (v := 0) hE dX3_pay_1 (by decide) ?_
  refine mr_put hE hA (z := 0) (by decide) q2507 rfl rfl rfl rfl (fun _ => rfl) dX3_pay_2 ?_
  refine vr_aload_n hE dX3_pay_5 rfl ?_
  refine mr_call hE hA (mo_remembers G _) ok_X3_remembers (lw_V q2585 q2587 qs33 q82 q2588) rfl rfl (Nat.le_of_ble_eq_true rfl) (by decide) dX3_pay_6 ?_
  rintro v_6 u_6 ⟨rfl, hu_6⟩
  obtain rfl := hu_6.symm
  refine vr_aload_n hE dX3_pay_9 rfl ?_
  refine vr_iload_n hE dX3_pay_10 rfl ?_
  refine mr_call hE hA (mo_isTrader G _ _) ok_X3_isTrader (lw_V q2623 q2625 qs39 q82 q2626) rfl rfl (Nat.le_of_ble_eq_true rfl) (by decide) dX3_pay_11 ?_
  rintro v_11 u_11 ⟨rfl, hu_11⟩
  obtain rfl := hu_11.symm
  refine vr_if_ne (tgt := 23) hE dX3_pay_14 (by decide) (fun c_14 => ?_) (fun c_14 => ?_)
  · replace c_14 : ¬ in_ a 0 (σ.2 0 1 - 1) = 0 := c_14
    obtain ⟨j, hj, rfl⟩ := in_T h1 (by omega) c_14
    refine vr_iload_n hE dX3_pay_23 rfl ?_
    refine vr_iconst (v := 1) hE dX3_pay_24 (by decide) ?_
    refine vr_bipush (v := 99) hE dX3_pay_25 (by decide) ?_
    refine mr_callS hE (mo_in G.1 _ _ _ _) ok_X3_in (lw_S q2592 q2593 q82 q2594) rfl rfl (Nat.le_of_ble_eq_true rfl) (by decide) dX3_pay_27 ?_
    rintro v_27 rfl
    refine vr_if_eq (tgt := 47) hE dX3_pay_30 (by decide) (fun c_30 => ?_) (fun c_30 => ?_)
    · skip
      refine vr_aload_n hE dX3_pay_47 rfl ?_
      refine vr_iconst (v := 2) hE dX3_pay_48 (by decide) ?_
      refine mr_call hE hA (mo_fails G _ _) ok_X3_fails (lw_V q2595 q2597 qs34 q82 q2598) rfl rfl (Nat.le_of_ble_eq_true rfl) (by decide) dX3_pay_49 ?_
      rintro v_49 u_49 ⟨rfl, hu_49⟩
      obtain rfl := hu_49.symm
      refine vr_ireturn hE hQ rfl dX3_pay_52 (by decide) ⟨_, ?_, fun H h => h⟩
      exact ⟨by rw [m_pay, if_neg c_14, if_pos c_30] <;> rfl, by rw [m_pay, if_neg c_14, if_pos c_30] <;> rfl⟩
    · skip
      refine vr_aload_n hE dX3_pay_33 rfl ?_
      refine vr_aload_n hE dX3_pay_34 rfl ?_
      refine vr_iload_n hE dX3_pay_35 rfl ?_
      refine vr_iload_n hE dX3_pay_36 rfl ?_
      refine mr_call hE hA (mo_pays G _ j (by omega) _) ok_X3_pays (lw_V q2739 q2741 qs53 q82 q2742) rfl rfl (Nat.le_of_ble_eq_true rfl) (by decide) dX3_pay_37 ?_
      rintro v_37 u_37 ⟨rfl, hu_37⟩
      obtain rfl := hu_37.symm
      refine vr_iconst (v := 3) hE dX3_pay_40 (by decide) ?_
      refine mr_call hE hA (mo_ends G _ q hq8 (by rw [m_pays_5]; exact hq) _ _) ok_X3_ends (lw_V q2611 q2613 qs37 q82 q2614) rfl rfl (Nat.le_of_ble_eq_true rfl) (by decide) dX3_pay_41 ?_
      rintro v_41 u_41 ⟨rfl, hu_41⟩
      obtain rfl := hu_41.symm
      refine vr_goto (tgt := 52) hE dX3_pay_44 (by decide) ?_
      refine vr_ireturn hE hQ rfl dX3_pay_52 (by decide) ⟨_, ?_, fun H h => h⟩
      exact ⟨by rw [m_pay, if_neg c_14, if_neg c_30, ix_nI (show j < 2 ^ 31 by omega)] <;> rfl, by rw [m_pay, if_neg c_14, if_neg c_30, ix_nI (show j < 2 ^ 31 by omega)] <;> rfl⟩
  · replace c_14 : in_ a 0 (σ.2 0 1 - 1) = 0 := c_14
    refine vr_aload_n hE dX3_pay_17 rfl ?_
    refine vr_iconst (v := 1) hE dX3_pay_18 (by decide) ?_
    refine mr_call hE hA (mo_fails G _ _) ok_X3_fails (lw_V q2595 q2597 qs34 q82 q2598) rfl rfl (Nat.le_of_ble_eq_true rfl) (by decide) dX3_pay_19 ?_
    rintro v_19 u_19 ⟨rfl, hu_19⟩
    obtain rfl := hu_19.symm
    refine vr_ireturn hE hQ rfl dX3_pay_22 (by decide) ⟨_, ?_, fun H h => h⟩
    exact ⟨by rw [m_pay, if_pos c_14] <;> rfl, by rw [m_pay, if_pos c_14] <;> rfl⟩
theorem ok_X3_pass : bi_ok yX3_pass RX3 1 := by decide +kernel
theorem mo_pass {Y : bi_Y} {mo : Nat} {ad : Nat → Nat} (G : mo_G Y mo ad) (σ : bi_S) (q : Nat) (hq8 : q ≤ 8) (hq : σ.1 5 = nI q) (n : Nat) (hn : n ≤ 10) (h1 : σ.2 0 1 = nI n) (a : Int32) : bi_Met Y yX3_pass (ws_ yX3_pass cX3_pass 2 (some .int)) 3 69 0 0 (mo_P Y.2.1 mo ad σ) (mo_F mo ad) [.ref mo, .int a] (fun v u => v = some (.int (m_pass σ q n a).2) ∧ u = (m_pass σ q n a).1) bi_nx (mo_P Y.2.1 mo ad) := by
  refine bi_Met.of (own := RX3) (L0 := [some (.ref mo), some (.int a)]) rfl (by decide) G.1 G.2 (Nat.le_of_ble_eq_true rfl) rfl (fun X hE hQ hA hnl hnm => ?_)
  have hnl : ∀ q, q < 2 → q < bi_nL X := fun q h => by rw [hnl]; exact h
  refine vr_aload_n hE dX3_pass_0 rfl ?_
  refine vr_iconst (v := 0) hE dX3_pass_1 (by decide) ?_
  refine mr_put hE hA (z := 0) (by decide) q2507 rfl rfl rfl rfl (fun _ => rfl) dX3_pass_2 ?_
  refine vr_aload_n hE dX3_pass_5 rfl ?_
  refine mr_call hE hA (mo_remembers G _) ok_X3_remembers (lw_V q2585 q2587 qs33 q82 q2588) rfl rfl (Nat.le_of_ble_eq_true rfl) (by decide) dX3_pass_6 ?_
  rintro v_6 u_6 ⟨rfl, hu_6⟩
  obtain rfl := hu_6.symm
  refine vr_iload_n hE dX3_pass_9 rfl ?_
  refine vr_iconst (v := 1) hE dX3_pass_10 (by decide) ?_
  refine vr_bipush (v := 40) hE dX3_pass_11 (by decide) ?_
  refine mr_callS hE (mo_in G.1 _ _ _ _) ok_X3_in (lw_S q2592 q2593 q82 q2594) rfl rfl (Nat.le_of_ble_eq_true rfl) (by decide) dX3_pass_13 ?_
  rintro v_13 rfl
  refine vr_if_eq (tgt := 32) hE dX3_pass_16 (by decide) (fun c_16 => ?_) (fun c_16 => ?_)
  · skip
    refine vr_aload_n hE dX3_pass_32 rfl ?_
    refine vr_iconst (v := 1) hE dX3_pass_33 (by decide) ?_
    refine mr_call hE hA (mo_fails G _ _) ok_X3_fails (lw_V q2595 q2597 qs34 q82 q2598) rfl rfl (Nat.le_of_ble_eq_true rfl) (by decide) dX3_pass_34 ?_
    rintro v_34 u_34 ⟨rfl, hu_34⟩
    obtain rfl := hu_34.symm
    refine vr_ireturn hE hQ rfl dX3_pass_37 (by decide) ⟨_, ?_, fun H h => h⟩
    exact ⟨by rw [m_pass, if_pos c_16] <;> rfl, by rw [m_pass, if_pos c_16] <;> rfl⟩
  · obtain ⟨j, hj0, hj, rfl⟩ := in_P (m := 1) (n := 40) rfl (by decide) (by decide) c_16
    refine vr_aload_n hE dX3_pass_19 rfl ?_
    refine vr_aload_n hE dX3_pass_20 rfl ?_
    refine vr_iload_n hE dX3_pass_21 rfl ?_
    refine mr_call hE hA (mo_passes G _ n hn (by exact h1) j (by omega)) ok_X3_passes (lw_V q2747 q2749 qs54 q82 q2750) rfl rfl (Nat.le_of_ble_eq_true rfl) (by decide) dX3_pass_22 ?_
    rintro v_22 u_22 ⟨rfl, hu_22⟩
    obtain rfl := hu_22.symm
    refine vr_iconst (v := 2) hE dX3_pass_25 (by decide) ?_
    refine mr_call hE hA (mo_ends G _ q hq8 (by exact hq) _ _) ok_X3_ends (lw_V q2611 q2613 qs37 q82 q2614) rfl rfl (Nat.le_of_ble_eq_true rfl) (by decide) dX3_pass_26 ?_
    rintro v_26 u_26 ⟨rfl, hu_26⟩
    obtain rfl := hu_26.symm
    refine vr_goto (tgt := 37) hE dX3_pass_29 (by decide) ?_
    refine vr_ireturn hE hQ rfl dX3_pass_37 (by decide) ⟨_, ?_, fun H h => h⟩
    exact ⟨by rw [m_pass, if_neg c_16, ix_nI (show j < 2 ^ 31 by omega)] <;> rfl, by rw [m_pass, if_neg c_16, ix_nI (show j < 2 ^ 31 by omega)] <;> rfl⟩
