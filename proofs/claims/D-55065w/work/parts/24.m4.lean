/-! the reference: days until false, losses, letters, accounts, undo and the like, as functions -/
set_option maxRecDepth 100000
def m_fi (d : Int32) : Nat → Nat → Int32 → Option Nat
  | 0, _, _ => none
  | c + 1, k, e => if in_ e (-4) 4 = 0 then some k else m_fi d c (k + 1) (m_drifted e d)
def m_falseIn (σ : bi_S) (a : Int32) : bi_P2 :=
  if in_ a 0 (σ.2 0 1 - 1) = 0 then m_no (m_pre σ) 1 else match m_fi (σ.2 0 (55 + ix a)) 61 0 (σ.2 0 (45 + ix a)) with | none => m_no (m_pre σ) 2 | some k => (m_pre σ, nI k)
def m_loss (σ : bi_S) (a : Int32) : bi_P2 := if ¬ in_ a 0 (σ.2 0 1 - 1) = 0 then (m_pre σ, m_lossOf (σ.2 0) (ix a)) else m_no (m_pre σ) 1
def m_type (σ : bi_S) (x : Nat) (c : Int32) : bi_P2 := if x = 60 then m_no (m_pre σ) 1 else (sF (setR (m_pre σ) 4 (upd (σ.2 4) x c)) 12 (nI x + 1), nI x + 1)
def m_errP (σ : bi_S) : bi_P2 := if ¬ σ.1 14 = -1 then (m_pre σ, σ.1 14) else m_no (m_pre σ) 1
def m_refusal (σ : bi_S) (a b : Int32) : bi_P2 :=
  if in_ a 0 2 = 0 then m_no (m_pre σ) 1 else if ¬ σ.2 7 (ix a) = 0 then (if b = 0 then (m_pre σ, σ.2 7 (ix a)) else (m_pre σ, σ.2 8 (ix a))) else m_no (m_pre σ) 2
def m_sum (s : Nat → Int32) (b : Nat) : Nat → Int32
  | 0 => 0
  | i + 1 => m_sum s b i + s (b + i)
def m_bars (s : Nat → Int32) : Nat → Int32
  | 0 => 0
  | i + 1 => m_bars s i + (if m_barred s i = 0 then 0 else 1)
def m_acc (σ : bi_S) (n w : Nat) (a : Int32) : Option Int32 :=
  if a = 0 then some (σ.2 0 0) else if a = 1 then some (m_fn (σ.2 0)) else if a = 2 then some (σ.2 0 1) else if a = 3 then some (σ.2 0 2) else if a = 4 then some (m_seals (σ.2 0) (-1) n)
  else if a = 5 then some (m_bars (σ.2 0) n) else if a = 6 then some (σ.2 0 3) else if a = 7 then some (m_sum (σ.2 0) 85 n) else if a = 8 then some (m_sum (σ.2 0) 25 n) else if a = 9 then some (m_sum (σ.2 0) 35 n)
  else if a = 10 then some (σ.2 0 4) else if a = 11 then some (m_sum (σ.2 0) 109 w) else if a = 12 then some (m_sum (σ.2 0) 75 n) else if a = 13 then some (σ.1 12) else if a = 14 then some (σ.1 5) else none
def m_account (σ : bi_S) (n w : Nat) (a : Int32) : bi_P2 := match m_acc σ n w a with | some v => (m_pre σ, v) | none => m_no (m_pre σ) 1
def m_chr (x : Int32) : Int32 := (x.toUInt32 % 65536).toInt32
theorem m_chr_n (x : Int32) : narrow .char (.int (m_chr x)) = .int (m_chr x) := by
  show Value.int (m_chr x).toUInt32.toUInt16.toUInt32.toInt32 = _
  congr 2
  unfold m_chr
  rw [UInt32.toUInt32_toInt32, UInt32.toUInt32_toUInt16]
  exact UInt32.toNat_inj.mp (by simp [UInt32.toNat_mod, Nat.mod_mod])
def m_written (σ : bi_S) (a : Int32) : bi_P2 := if ¬ in_ a 0 (σ.1 13 - 1) = 0 then (sF σ 0 0, m_chr (σ.2 6 (ix a))) else (sF σ 0 1, 0)
def m_undo (σ : bi_S) (q : Nat) : bi_P2 := if q = 0 then m_no (m_pre σ) 1 else (setR (sF (m_pre σ) 5 (nI (q - 1))) 0 (cpy_ (fun k => σ.2 3 (117 * (q - 1) + k)) (σ.2 0) 117), nI (q - 1))
def m_save (σ : bi_S) : bi_P2 := (sF (setR (m_pre σ) 2 (cpy_ (σ.2 0) (σ.2 2) 117)) 6 1, σ.2 0 0)
def m_restore (σ : bi_S) : bi_P2 := if ¬ σ.1 6 = 0 then (sF (setR (m_pre σ) 0 (cpy_ (σ.2 2) (σ.2 0) 117)) 5 0, cpy_ (σ.2 2) (σ.2 0) 117 0) else m_no (m_pre σ) 1
/-! the reference's other public methods, walked -/
set_option maxRecDepth 100000
theorem ok_X3_falseIn : bi_ok yX3_falseIn RX3 1 := by decide +kernel
theorem mo_falseIn {Y : bi_Y} {mo : Nat} {ad : Nat → Nat} (G : mo_G Y mo ad) (σ : bi_S) (n : Nat) (hn : n ≤ 10) (h1 : σ.2 0 1 = nI n) (a : Int32) : bi_Met Y yX3_falseIn (ws_ yX3_falseIn cX3_falseIn 4 (some .int)) 2 43 0 0 (mo_P Y.2.1 mo ad σ) (mo_F mo ad) [.ref mo, .int a] (fun v u => v = some (.int (m_falseIn σ a).2) ∧ u = (m_falseIn σ a).1) bi_nx (mo_P Y.2.1 mo ad) := by
  refine bi_Met.of (own := RX3) (L0 := [some (.ref mo), some (.int a), none, none]) rfl (by decide) G.1 G.2 (Nat.le_of_ble_eq_true rfl) rfl (fun X hE hQ hA hnl hnm => ?_)
  have hnl : ∀ q, q < 4 → q < bi_nL X := fun q h => by rw [hnl]; exact h
  refine vr_aload_n hE dX3_falseIn_0 rfl ?_
  refine vr_iconst (v := 0) hE dX3_falseIn_1 (by decide) ?_
  refine mr_put hE hA (z := 0) (by decide) q2507 rfl rfl rfl rfl (fun _ => rfl) dX3_falseIn_2 ?_
  refine vr_aload_n hE dX3_falseIn_5 rfl ?_
  refine vr_iload_n hE dX3_falseIn_6 rfl ?_
  refine mr_call hE hA (mo_isTrader G _ _) ok_X3_isTrader (lw_V q2623 q2625 qs39 q82 q2626) rfl rfl (Nat.le_of_ble_eq_true rfl) (by decide) dX3_falseIn_7 ?_
  rintro v_7 u_7 ⟨rfl, hu_7⟩
  obtain rfl := hu_7.symm
  refine vr_if_ne (tgt := 19) hE dX3_falseIn_10 (by decide) (fun c_10 => ?_) (fun c_10 => ?_)
  · replace c_10 : ¬ in_ a 0 (σ.2 0 1 - 1) = 0 := c_10
    obtain ⟨j, hj, rfl⟩ := in_T h1 (by omega) c_10
    refine vr_aload_n hE dX3_falseIn_19 rfl ?_
    refine mr_get hE (z := 1) (by decide) q2508 rfl rfl dX3_falseIn_20 ?_
    refine vr_bipush (v := 45) hE dX3_falseIn_23 (by decide) ?_
    refine vr_iload_n hE dX3_falseIn_25 rfl ?_
    refine vr_iadd hE dX3_falseIn_26 ?_
    refine mr_ald hE (j := 0) (by decide) (nI_add 45 _) (by show _ < 117; omega) dX3_falseIn_27 ?_
    refine vr_istore_n hE dX3_falseIn_28 (hnl _ (by decide)) rfl ?_
    refine vr_iconst (v := 0) hE dX3_falseIn_29 (by decide) ?_
    refine vr_istore_n hE dX3_falseIn_30 (hnl _ (by decide)) rfl ?_
    have hlp_31 : ∀ (c : Nat) (k : Nat) (e : Int32), k + c = 61 → m_fi (σ.2 0 (55 + j)) c k e = m_fi (σ.2 0 (55 + j)) 61 0 (σ.2 0 (45 + j)) → bi_V Y.1 X (mo_P Y.2.1 mo ad (m_pre σ)) 0 0 31 [some (.ref mo), some (.int (nI j)), some (.int e), some (.int (nI k))] [] := by
      intro c
      induction c with
      | zero =>
        intro k e hk he
        refine vr_iload_n hE dX3_falseIn_31 rfl ?_
        refine vr_bipush (v := 60) hE dX3_falseIn_32 (by decide) ?_
        refine vr_icmp_gt (tgt := 69) hE dX3_falseIn_34 (by decide) (fun c_34 => ?_) (fun c_34 => ?_)
        · skip
          refine vr_aload_n hE dX3_falseIn_69 rfl ?_
          refine vr_iconst (v := 2) hE dX3_falseIn_70 (by decide) ?_
          refine mr_call hE hA (mo_fails G _ _) ok_X3_fails (lw_V q2595 q2597 qs34 q82 q2598) rfl rfl (Nat.le_of_ble_eq_true rfl) (by decide) dX3_falseIn_71 ?_
          rintro v_71 u_71 ⟨rfl, hu_71⟩
          obtain rfl := hu_71.symm
          refine vr_ireturn hE hQ rfl dX3_falseIn_74 (by decide) ⟨_, ?_, fun H h => h⟩
          exact ⟨by rw [m_falseIn, if_neg c_10, ix_nI (show j < 2 ^ 31 by omega), ← he, m_fi] <;> rfl, by rw [m_falseIn, if_neg c_10, ix_nI (show j < 2 ^ 31 by omega), ← he, m_fi] <;> rfl⟩
        · exact absurd (Int32.not_le.mp (nI_ge (a := 60) (b := k) (by omega) (by omega))) c_34
      | succ c ih =>
        intro k e hk he
        refine vr_iload_n hE dX3_falseIn_31 rfl ?_
        refine vr_bipush (v := 60) hE dX3_falseIn_32 (by decide) ?_
        refine vr_icmp_gt (tgt := 69) hE dX3_falseIn_34 (by decide) (fun c_34 => ?_) (fun c_34 => ?_)
        · exact absurd (nI_le (a := k) (b := 60) (by omega) (by omega)) (Int32.not_le.mpr c_34)
        skip
        refine vr_iload_n hE dX3_falseIn_37 rfl ?_
        refine vr_bipush (v := -4) hE dX3_falseIn_38 (by decide) ?_
        refine vr_iconst (v := 4) hE dX3_falseIn_40 (by decide) ?_
        refine mr_callS hE (mo_in G.1 _ _ _ _) ok_X3_in (lw_S q2592 q2593 q82 q2594) rfl rfl (Nat.le_of_ble_eq_true rfl) (by decide) dX3_falseIn_41 ?_
        rintro v_41 rfl
        refine vr_if_ne (tgt := 49) hE dX3_falseIn_44 (by decide) (fun c_44 => ?_) (fun c_44 => ?_)
        · skip
          refine vr_iload_n hE dX3_falseIn_49 rfl ?_
          refine vr_aload_n hE dX3_falseIn_50 rfl ?_
          refine mr_get hE (z := 1) (by decide) q2508 rfl rfl dX3_falseIn_51 ?_
          refine vr_bipush (v := 55) hE dX3_falseIn_54 (by decide) ?_
          refine vr_iload_n hE dX3_falseIn_56 rfl ?_
          refine vr_iadd hE dX3_falseIn_57 ?_
          refine mr_ald hE (j := 0) (by decide) (nI_add 55 _) (by show _ < 117; omega) dX3_falseIn_58 ?_
          refine mr_callS hE (mo_drifted G.1 _ _ _) ok_X3_drifted (lw_S q2763 q2764 q82 q2765) rfl rfl (Nat.le_of_ble_eq_true rfl) (by decide) dX3_falseIn_59 ?_
          rintro v_59 rfl
          refine vr_istore_n hE dX3_falseIn_62 (hnl _ (by decide)) rfl ?_
          refine vr_iinc hE dX3_falseIn_63 rfl (iinc_1 _) (hnl _ (by decide)) rfl ?_
          refine vr_goto (tgt := 31) hE dX3_falseIn_66 (by decide) ?_
          exact ih (k + 1) _ (by omega) (by rw [← he, m_fi, if_neg c_44]; rfl)
        · skip
          refine vr_iload_n hE dX3_falseIn_47 rfl ?_
          refine vr_ireturn hE hQ rfl dX3_falseIn_48 (by decide) ⟨_, ?_, fun H h => h⟩
          exact ⟨by rw [m_falseIn, if_neg c_10, ix_nI (show j < 2 ^ 31 by omega), ← he, m_fi, if_pos c_44] <;> rfl, by rw [m_falseIn, if_neg c_10, ix_nI (show j < 2 ^ 31 by omega), ← he, m_fi, if_pos c_44] <;> rfl⟩
    exact hlp_31 61 0 _ rfl rfl
  · replace c_10 : in_ a 0 (σ.2 0 1 - 1) = 0 := c_10
    refine vr_aload_n hE dX3_falseIn_13 rfl ?_
    refine vr_iconst (v := 1) hE dX3_falseIn_14 (by decide) ?_
    refine mr_call hE hA (mo_fails G _ _) ok_X3_fails (lw_V q2595 q2597 qs34 q82 q2598) rfl rfl (Nat.le_of_ble_eq_true rfl) (by decide) dX3_falseIn_15 ?_
    rintro v_15 u_15 ⟨rfl, hu_15⟩
    obtain rfl := hu_15.symm
    refine vr_ireturn hE hQ rfl dX3_falseIn_18 (by decide) ⟨_, ?_, fun H h => h⟩
    exact ⟨by rw [m_falseIn, if_pos c_10] <;> rfl, by rw [m_falseIn, if_pos c_10] <;> rfl⟩
theorem ok_X3_loss : bi_ok yX3_loss RX3 1 := by decide +kernel
theorem mo_loss {Y : bi_Y} {mo : Nat} {ad : Nat → Nat} (G : mo_G Y mo ad) (σ : bi_S) (n : Nat) (hn : n ≤ 10) (h1 : σ.2 0 1 = nI n) (a : Int32) : bi_Met Y yX3_loss (ws_ yX3_loss cX3_loss 2 (some .int)) 2 43 0 0 (mo_P Y.2.1 mo ad σ) (mo_F mo ad) [.ref mo, .int a] (fun v u => v = some (.int (m_loss σ a).2) ∧ u = (m_loss σ a).1) bi_nx (mo_P Y.2.1 mo ad) := by
  refine bi_Met.of (own := RX3) (L0 := [some (.ref mo), some (.int a)]) rfl (by decide) G.1 G.2 (Nat.le_of_ble_eq_true rfl) rfl (fun X hE hQ hA hnl hnm => ?_)
  have hnl : ∀ q, q < 2 → q < bi_nL X := fun q h => by rw [hnl]; exact h
  refine vr_aload_n hE dX3_loss_0 rfl ?_
  refine vr_iconst (v := 0) hE dX3_loss_1 (by decide) ?_
  refine mr_put hE hA (z := 0) (by decide) q2507 rfl rfl rfl rfl (fun _ => rfl) dX3_loss_2 ?_
  refine vr_aload_n hE dX3_loss_5 rfl ?_
  refine vr_iload_n hE dX3_loss_6 rfl ?_
  refine mr_call hE hA (mo_isTrader G _ _) ok_X3_isTrader (lw_V q2623 q2625 qs39 q82 q2626) rfl rfl (Nat.le_of_ble_eq_true rfl) (by decide) dX3_loss_7 ?_
  rintro v_7 u_7 ⟨rfl, hu_7⟩
  obtain rfl := hu_7.symm
  refine vr_if_eq (tgt := 21) hE dX3_loss_10 (by decide) (fun c_10 => ?_) (fun c_10 => ?_)
  · replace c_10 : in_ a 0 (σ.2 0 1 - 1) = 0 := c_10
    refine vr_aload_n hE dX3_loss_21 rfl ?_
    refine vr_iconst (v := 1) hE dX3_loss_22 (by decide) ?_
    refine mr_call hE hA (mo_fails G _ _) ok_X3_fails (lw_V q2595 q2597 qs34 q82 q2598) rfl rfl (Nat.le_of_ble_eq_true rfl) (by decide) dX3_loss_23 ?_
    rintro v_23 u_23 ⟨rfl, hu_23⟩
    obtain rfl := hu_23.symm
    refine vr_ireturn hE hQ rfl dX3_loss_26 (by decide) ⟨_, ?_, fun H h => h⟩
    exact ⟨by rw [m_loss, if_neg (fun z => z c_10)] <;> rfl, by rw [m_loss, if_neg (fun z => z c_10)] <;> rfl⟩
  · replace c_10 : ¬ in_ a 0 (σ.2 0 1 - 1) = 0 := c_10
    obtain ⟨j, hj, rfl⟩ := in_T h1 (by omega) c_10
    refine vr_aload_n hE dX3_loss_13 rfl ?_
    refine vr_iload_n hE dX3_loss_14 rfl ?_
    refine mr_call hE hA (mo_lossOf G _ j (by omega)) ok_X3_lossOf (lw_V q2755 q2757 qs56 q82 q2758) rfl rfl (Nat.le_of_ble_eq_true rfl) (by decide) dX3_loss_15 ?_
    rintro v_15 u_15 ⟨rfl, hu_15⟩
    obtain rfl := hu_15.symm
    refine vr_goto (tgt := 26) hE dX3_loss_18 (by decide) ?_
    refine vr_ireturn hE hQ rfl dX3_loss_26 (by decide) ⟨_, ?_, fun H h => h⟩
    exact ⟨by rw [m_loss, if_pos c_10, ix_nI (show j < 2 ^ 31 by omega)] <;> rfl, by rw [m_loss, if_pos c_10, ix_nI (show j < 2 ^ 31 by omega)] <;> rfl⟩
theorem ok_X3_lossAgain : bi_ok yX3_lossAgain RX3 1 := by decide +kernel
theorem mo_lossAgain {Y : bi_Y} {mo : Nat} {ad : Nat → Nat} (G : mo_G Y mo ad) (σ : bi_S) (n : Nat) (hn : n ≤ 10) (h1 : σ.2 0 1 = nI n) (a : Int32) : bi_Met Y yX3_lossAgain (ws_ yX3_lossAgain cX3_lossAgain 2 (some .int)) 3 64 0 0 (mo_P Y.2.1 mo ad σ) (mo_F mo ad) [.ref mo, .int a] (fun v u => v = some (.int (m_loss σ a).2) ∧ u = (m_loss σ a).1) bi_nx (mo_P Y.2.1 mo ad) := by
  refine bi_Met.of (own := RX3) (L0 := [some (.ref mo), some (.int a)]) rfl (by decide) G.1 G.2 (Nat.le_of_ble_eq_true rfl) rfl (fun X hE hQ hA hnl hnm => ?_)
  have hnl : ∀ q, q < 2 → q < bi_nL X := fun q h => by rw [hnl]; exact h
  refine vr_aload_n hE dX3_lossAgain_0 rfl ?_
  refine vr_iload_n hE dX3_lossAgain_1 rfl ?_
  refine mr_call hE hA (mo_loss G _ n hn h1 _) ok_X3_loss (lw_V q2778 q2771 q2772 q82 q2773) rfl rfl (Nat.le_of_ble_eq_true rfl) (by decide) dX3_lossAgain_2 ?_
  rintro v_2 u_2 ⟨rfl, hu_2⟩
  obtain rfl := hu_2.symm
  refine vr_ireturn hE hQ rfl dX3_lossAgain_5 (by decide) ⟨_, ?_, fun H h => h⟩
  exact ⟨rfl, rfl⟩
theorem ok_X3_type : bi_ok yX3_type RX3 1 := by decide +kernel
theorem mo_type {Y : bi_Y} {mo : Nat} {ad : Nat → Nat} (G : mo_G Y mo ad) (σ : bi_S) (x : Nat) (hx : x ≤ 60) (hl : σ.1 12 = nI x) (a : Int32) : bi_Met Y yX3_type (ws_ yX3_type cX3_type 2 (some .int)) 1 21 0 0 (mo_P Y.2.1 mo ad σ) (mo_F mo ad) [.ref mo, .int a] (fun v u => v = some (.int (m_type σ x a).2) ∧ u = (m_type σ x a).1) bi_nx (mo_P Y.2.1 mo ad) := by
  refine bi_Met.of (own := RX3) (L0 := [some (.ref mo), some (.int a)]) rfl (by decide) G.1 G.2 (Nat.le_of_ble_eq_true rfl) rfl (fun X hE hQ hA hnl hnm => ?_)
  have hnl : ∀ q, q < 2 → q < bi_nL X := fun q h => by rw [hnl]; exact h
  refine vr_aload_n hE dX3_type_0 rfl ?_
  refine vr_iconst (v := 0) hE dX3_type_1 (by decide) ?_
  refine mr_put hE hA (z := 0) (by decide) q2507 rfl rfl rfl rfl (fun _ => rfl) dX3_type_2 ?_
  refine vr_aload_n hE dX3_type_5 rfl ?_
  refine mr_get hE (z := 12) (by decide) q2519 rfl rfl dX3_type_6 ?_
  refine vr_bipush (v := 60) hE dX3_type_9 (by decide) ?_
  refine vr_icmp_ne (tgt := 20) hE dX3_type_11 (by decide) (fun c_11 => ?_) (fun c_11 => ?_)
  · have hx9 : x ≠ 60 := fun z => c_11 (hl.trans (by rw [z]; rfl))
    refine vr_aload_n hE dX3_type_20 rfl ?_
    refine mr_get hE (z := 7) (by decide) q2514 rfl rfl dX3_type_21 ?_
    refine vr_aload_n hE dX3_type_24 rfl ?_
    refine mr_get hE (z := 12) (by decide) q2519 rfl rfl dX3_type_25 ?_
    refine vr_iload_n hE dX3_type_28 rfl ?_
    refine mr_ast hE hA (j := 4) (by decide) hl (by show _ < 60; omega) dX3_type_29 ?_
    refine vr_aload_n hE dX3_type_30 rfl ?_
    refine vr_dup hE dX3_type_31 rfl ?_
    refine mr_get hE (z := 12) (by decide) q2519 rfl rfl dX3_type_32 ?_
    refine vr_iconst (v := 1) hE dX3_type_35 (by decide) ?_
    refine vr_iadd hE dX3_type_36 ?_
    refine mr_put hE hA (z := 12) (by decide) q2519 rfl rfl rfl rfl (fun _ => rfl) dX3_type_37 ?_
    refine vr_aload_n hE dX3_type_40 rfl ?_
    refine mr_get hE (z := 12) (by decide) q2519 rfl rfl dX3_type_41 ?_
    refine vr_ireturn hE hQ rfl dX3_type_44 (by decide) ⟨_, ?_, fun H h => h⟩
    exact ⟨by rw [m_type, if_neg hx9, ← hl] <;> rfl, by rw [m_type, if_neg hx9, ← hl] <;> rfl⟩
  · have hx9 : x = 60 := (nI_eq (by omega) (by decide)).mp (hl.symm.trans c_11)
    refine vr_aload_n hE dX3_type_14 rfl ?_
    refine vr_iconst (v := 1) hE dX3_type_15 (by decide) ?_
    refine mr_call hE hA (mo_fails G _ _) ok_X3_fails (lw_V q2595 q2597 qs34 q82 q2598) rfl rfl (Nat.le_of_ble_eq_true rfl) (by decide) dX3_type_16 ?_
    rintro v_16 u_16 ⟨rfl, hu_16⟩
    obtain rfl := hu_16.symm
    refine vr_ireturn hE hQ rfl dX3_type_19 (by decide) ⟨_, ?_, fun H h => h⟩
    exact ⟨by rw [m_type, if_pos hx9] <;> rfl, by rw [m_type, if_pos hx9] <;> rfl⟩
theorem ok_X3_errorPosition : bi_ok yX3_errorPosition RX3 0 := by decide +kernel
theorem mo_errorPosition {Y : bi_Y} {mo : Nat} {ad : Nat → Nat} (G : mo_G Y mo ad) (σ : bi_S) : bi_Met Y yX3_errorPosition (ws_ yX3_errorPosition cX3_errorPosition 1 (some .int)) 1 21 0 0 (mo_P Y.2.1 mo ad σ) (mo_F mo ad) [.ref mo] (fun v u => v = some (.int (m_errP σ).2) ∧ u = (m_errP σ).1) bi_nx (mo_P Y.2.1 mo ad) := by
  refine bi_Met.of (own := RX3) (L0 := [some (.ref mo)]) rfl (by decide) G.1 G.2 (Nat.le_of_ble_eq_true rfl) rfl (fun X hE hQ hA hnl hnm => ?_)
  have hnl : ∀ q, q < 1 → q < bi_nL X := fun q h => by rw [hnl]; exact h
  refine vr_aload_n hE dX3_errorPosition_0 rfl ?_
  refine vr_iconst (v := 0) hE dX3_errorPosition_1 (by decide) ?_
  refine mr_put hE hA (z := 0) (by decide) q2507 rfl rfl rfl rfl (fun _ => rfl) dX3_errorPosition_2 ?_
  refine vr_aload_n hE dX3_errorPosition_5 rfl ?_
  refine mr_get hE (z := 14) (by decide) q2521 rfl rfl dX3_errorPosition_6 ?_
  refine vr_iconst (v := -1) hE dX3_errorPosition_9 (by decide) ?_
  refine vr_icmp_ne (tgt := 21) hE dX3_errorPosition_10 (by decide) (fun c_10 => ?_) (fun c_10 => ?_)
  · skip
    refine vr_aload_n hE dX3_errorPosition_21 rfl ?_
    refine mr_get hE (z := 14) (by decide) q2521 rfl rfl dX3_errorPosition_22 ?_
    refine vr_ireturn hE hQ rfl dX3_errorPosition_25 (by decide) ⟨_, ?_, fun H h => h⟩
    exact ⟨by rw [m_errP, if_pos (show ¬ σ.1 14 = -1 from c_10)] <;> rfl, by rw [m_errP, if_pos (show ¬ σ.1 14 = -1 from c_10)] <;> rfl⟩
  · skip
    refine vr_aload_n hE dX3_errorPosition_13 rfl ?_
    refine vr_iconst (v := 1) hE dX3_errorPosition_14 (by decide) ?_
    refine mr_call hE hA (mo_fails G _ _) ok_X3_fails (lw_V q2595 q2597 qs34 q82 q2598) rfl rfl (Nat.le_of_ble_eq_true rfl) (by decide) dX3_errorPosition_15 ?_
    rintro v_15 u_15 ⟨rfl, hu_15⟩
    obtain rfl := hu_15.symm
    refine vr_goto (tgt := 25) hE dX3_errorPosition_18 (by decide) ?_
    refine vr_ireturn hE hQ rfl dX3_errorPosition_25 (by decide) ⟨_, ?_, fun H h => h⟩
    exact ⟨by rw [m_errP, if_neg (fun z => z (show σ.1 14 = -1 from c_10))] <;> rfl, by rw [m_errP, if_neg (fun z => z (show σ.1 14 = -1 from c_10))] <;> rfl⟩
theorem ok_X3_refusal : bi_ok yX3_refusal RX3 2 := by decide +kernel
theorem mo_refusal {Y : bi_Y} {mo : Nat} {ad : Nat → Nat} (G : mo_G Y mo ad) (σ : bi_S) (a b : Int32) : bi_Met Y yX3_refusal (ws_ yX3_refusal cX3_refusal 3 (some .int)) 1 22 0 0 (mo_P Y.2.1 mo ad σ) (mo_F mo ad) [.ref mo, .int a, .int b] (fun v u => v = some (.int (m_refusal σ a b).2) ∧ u = (m_refusal σ a b).1) bi_nx (mo_P Y.2.1 mo ad) := by
  refine bi_Met.of (own := RX3) (L0 := [some (.ref mo), some (.int a), some (.int b)]) rfl (by decide) G.1 G.2 (Nat.le_of_ble_eq_true rfl) rfl (fun X hE hQ hA hnl hnm => ?_)
  have hnl : ∀ q, q < 3 → q < bi_nL X := fun q h => by rw [hnl]; exact h
  refine vr_aload_n hE dX3_refusal_0 rfl ?_
  refine vr_iconst (v := 0) hE dX3_refusal_1 (by decide) ?_
  refine mr_put hE hA (z := 0) (by decide) q2507 rfl rfl rfl rfl (fun _ => rfl) dX3_refusal_2 ?_
  refine vr_iload_n hE dX3_refusal_5 rfl ?_
  refine vr_iconst (v := 0) hE dX3_refusal_6 (by decide) ?_
  refine vr_iconst (v := 2) hE dX3_refusal_7 (by decide) ?_
  refine mr_callS hE (mo_in G.1 _ _ _ _) ok_X3_in (lw_S q2592 q2593 q82 q2594) rfl rfl (Nat.le_of_ble_eq_true rfl) (by decide) dX3_refusal_8 ?_
  rintro v_8 rfl
  refine vr_if_ne (tgt := 20) hE dX3_refusal_11 (by decide) (fun c_11 => ?_) (fun c_11 => ?_)
  · obtain ⟨j, hj, rfl⟩ := in_C (n := 2) rfl (by decide) c_11
    refine vr_aload_n hE dX3_refusal_20 rfl ?_
    refine mr_get hE (z := 10) (by decide) q2517 rfl rfl dX3_refusal_21 ?_
    refine vr_iload_n hE dX3_refusal_24 rfl ?_
    refine mr_ald hE (j := 7) (by decide) rfl (by show _ < 3; omega) dX3_refusal_25 ?_
    refine vr_if_ne (tgt := 35) hE dX3_refusal_26 (by decide) (fun c_26 => ?_) (fun c_26 => ?_)
    · skip
      refine vr_iload_n hE dX3_refusal_35 rfl ?_
      refine vr_if_eq (tgt := 48) hE dX3_refusal_36 (by decide) (fun c_36 => ?_) (fun c_36 => ?_)
      · skip
        refine vr_aload_n hE dX3_refusal_48 rfl ?_
        refine mr_get hE (z := 10) (by decide) q2517 rfl rfl dX3_refusal_49 ?_
        refine vr_iload_n hE dX3_refusal_52 rfl ?_
        refine mr_ald hE (j := 7) (by decide) rfl (by show _ < 3; omega) dX3_refusal_53 ?_
        refine vr_ireturn hE hQ rfl dX3_refusal_54 (by decide) ⟨_, ?_, fun H h => h⟩
        exact ⟨by rw [m_refusal, if_neg c_11, ix_nI (show j < 2 ^ 31 by omega), if_pos (show ¬ σ.2 7 j = 0 from c_26), if_pos c_36] <;> rfl, by rw [m_refusal, if_neg c_11, ix_nI (show j < 2 ^ 31 by omega), if_pos (show ¬ σ.2 7 j = 0 from c_26), if_pos c_36] <;> rfl⟩
      · skip
        refine vr_aload_n hE dX3_refusal_39 rfl ?_
        refine mr_get hE (z := 11) (by decide) q2518 rfl rfl dX3_refusal_40 ?_
        refine vr_iload_n hE dX3_refusal_43 rfl ?_
        refine mr_ald hE (j := 8) (by decide) rfl (by show _ < 3; omega) dX3_refusal_44 ?_
        refine vr_goto (tgt := 54) hE dX3_refusal_45 (by decide) ?_
        refine vr_ireturn hE hQ rfl dX3_refusal_54 (by decide) ⟨_, ?_, fun H h => h⟩
        exact ⟨by rw [m_refusal, if_neg c_11, ix_nI (show j < 2 ^ 31 by omega), if_pos (show ¬ σ.2 7 j = 0 from c_26), if_neg c_36] <;> rfl, by rw [m_refusal, if_neg c_11, ix_nI (show j < 2 ^ 31 by omega), if_pos (show ¬ σ.2 7 j = 0 from c_26), if_neg c_36] <;> rfl⟩
    · skip
      refine vr_aload_n hE dX3_refusal_29 rfl ?_
      refine vr_iconst (v := 2) hE dX3_refusal_30 (by decide) ?_
      refine mr_call hE hA (mo_fails G _ _) ok_X3_fails (lw_V q2595 q2597 qs34 q82 q2598) rfl rfl (Nat.le_of_ble_eq_true rfl) (by decide) dX3_refusal_31 ?_
      rintro v_31 u_31 ⟨rfl, hu_31⟩
      obtain rfl := hu_31.symm
      refine vr_ireturn hE hQ rfl dX3_refusal_34 (by decide) ⟨_, ?_, fun H h => h⟩
      exact ⟨by rw [m_refusal, if_neg c_11, ix_nI (show j < 2 ^ 31 by omega), if_neg (fun z => z (show σ.2 7 j = 0 from c_26))] <;> rfl, by rw [m_refusal, if_neg c_11, ix_nI (show j < 2 ^ 31 by omega), if_neg (fun z => z (show σ.2 7 j = 0 from c_26))] <;> rfl⟩
  · skip
    refine vr_aload_n hE dX3_refusal_14 rfl ?_
    refine vr_iconst (v := 1) hE dX3_refusal_15 (by decide) ?_
    refine mr_call hE hA (mo_fails G _ _) ok_X3_fails (lw_V q2595 q2597 qs34 q82 q2598) rfl rfl (Nat.le_of_ble_eq_true rfl) (by decide) dX3_refusal_16 ?_
    rintro v_16 u_16 ⟨rfl, hu_16⟩
    obtain rfl := hu_16.symm
    refine vr_ireturn hE hQ rfl dX3_refusal_19 (by decide) ⟨_, ?_, fun H h => h⟩
    exact ⟨by rw [m_refusal, if_pos c_11] <;> rfl, by rw [m_refusal, if_pos c_11] <;> rfl⟩
theorem ok_X3_sum : bi_ok yX3_sum RX3 2 := by decide +kernel
theorem mo_sum {Y : bi_Y} {mo : Nat} {ad : Nat → Nat} (G : mo_G Y mo ad) (σ : bi_S) (b n : Nat) (hb : b + n ≤ 117) : bi_Met Y yX3_sum (ws_ yX3_sum cX3_sum 5 (some .int)) 0 0 0 0 (mo_P Y.2.1 mo ad σ) (mo_F mo ad) [.ref mo, .int (nI b), .int (nI n)] (fun v u => v = some (.int (m_sum (σ.2 0) b n)) ∧ u = σ) bi_nx (mo_P Y.2.1 mo ad) := by
  refine bi_Met.of (own := RX3) (L0 := [some (.ref mo), some (.int (nI b)), some (.int (nI n)), none, none]) rfl (by decide) G.1 G.2 (Nat.le_of_ble_eq_true rfl) rfl (fun X hE hQ hA hnl hnm => ?_)
  have hnl : ∀ q, q < 5 → q < bi_nL X := fun q h => by rw [hnl]; exact h
  refine vr_iconst (v := 0) hE dX3_sum_0 (by decide) ?_
  refine vr_istore_n hE dX3_sum_1 (hnl _ (by decide)) rfl ?_
  refine vr_iconst (v := 0) hE dX3_sum_2 (by decide) ?_
  refine vr_istore hE dX3_sum_3 (hnl _ (by decide)) rfl ?_
  have hlp_5 : ∀ i, i ≤ n → bi_V Y.1 X (mo_P Y.2.1 mo ad σ) 0 0 5 [some (.ref mo), some (.int (nI b)), some (.int (nI n)), some (.int (m_sum (σ.2 0) b i)), some (.int (nI i))] [] := by
    refine bi_loop (fun i => bi_V Y.1 X (mo_P Y.2.1 mo ad σ) 0 0 5 [some (.ref mo), some (.int (nI b)), some (.int (nI n)), some (.int (m_sum (σ.2 0) b i)), some (.int (nI i))] []) n ?_ (fun i hi ih => ?_)
    · refine vr_iload hE dX3_sum_5 rfl ?_
      refine vr_iload_n hE dX3_sum_7 rfl ?_
      refine vr_icmp_ge (tgt := 29) hE dX3_sum_8 (by decide) (fun c_8 => ?_) (fun c_8 => ?_)
      · skip
        refine vr_iload_n hE dX3_sum_29 rfl ?_
        refine vr_ireturn hE hQ rfl dX3_sum_30 (by decide) ⟨_, ?_, fun H h => h⟩
        exact ⟨rfl, rfl⟩
      · exact absurd (nI_le (Nat.le_refl _) (by omega)) c_8
    · refine vr_iload hE dX3_sum_5 rfl ?_
      refine vr_iload_n hE dX3_sum_7 rfl ?_
      refine vr_icmp_ge (tgt := 29) hE dX3_sum_8 (by decide) (fun c_8 => ?_) (fun c_8 => ?_)
      · exact absurd c_8 (nI_ge hi (by omega))
      refine vr_iload_n hE dX3_sum_11 rfl ?_
      refine vr_aload_n hE dX3_sum_12 rfl ?_
      refine mr_get hE (z := 1) (by decide) q2508 rfl rfl dX3_sum_13 ?_
      refine vr_iload_n hE dX3_sum_16 rfl ?_
      refine vr_iload hE dX3_sum_17 rfl ?_
      refine vr_iadd hE dX3_sum_19 ?_
      refine mr_ald hE (j := 0) (by decide) (nI_add b i) (by show _ < 117; omega) dX3_sum_20 ?_
      refine vr_iadd hE dX3_sum_21 ?_
      refine vr_istore_n hE dX3_sum_22 (hnl _ (by decide)) rfl ?_
      refine vr_iinc hE dX3_sum_23 rfl (iinc_1 _) (hnl _ (by decide)) rfl ?_
      refine vr_goto (tgt := 5) hE dX3_sum_26 (by decide) ?_
      exact ih
  exact hlp_5 0 (Nat.zero_le _)
theorem ok_X3_barred : bi_ok yX3_barred RX3 0 := by decide +kernel
theorem mo_barred {Y : bi_Y} {mo : Nat} {ad : Nat → Nat} (G : mo_G Y mo ad) (σ : bi_S) (n : Nat) (hn : n ≤ 10) (h1 : σ.2 0 1 = nI n) : bi_Met Y yX3_barred (ws_ yX3_barred cX3_barred 3 (some .int)) 1 21 0 0 (mo_P Y.2.1 mo ad σ) (mo_F mo ad) [.ref mo] (fun v u => v = some (.int (m_bars (σ.2 0) n)) ∧ u = σ) bi_nx (mo_P Y.2.1 mo ad) := by
  refine bi_Met.of (own := RX3) (L0 := [some (.ref mo), none, none]) rfl (by decide) G.1 G.2 (Nat.le_of_ble_eq_true rfl) rfl (fun X hE hQ hA hnl hnm => ?_)
  have hnl : ∀ q, q < 3 → q < bi_nL X := fun q h => by rw [hnl]; exact h
  refine vr_iconst (v := 0) hE dX3_barred_0 (by decide) ?_
  refine vr_istore_n hE dX3_barred_1 (hnl _ (by decide)) rfl ?_
  refine vr_iconst (v := 0) hE dX3_barred_2 (by decide) ?_
  refine vr_istore_n hE dX3_barred_3 (hnl _ (by decide)) rfl ?_
  have hlp_4 : ∀ i, i ≤ n → bi_V Y.1 X (mo_P Y.2.1 mo ad σ) 0 0 4 [some (.ref mo), some (.int (m_bars (σ.2 0) i)), some (.int (nI i))] [] := by
    refine bi_loop (fun i => bi_V Y.1 X (mo_P Y.2.1 mo ad σ) 0 0 4 [some (.ref mo), some (.int (m_bars (σ.2 0) i)), some (.int (nI i))] []) n ?_ (fun i hi ih => ?_)
    · refine vr_iload_n hE dX3_barred_4 rfl ?_
      refine vr_aload_n hE dX3_barred_5 rfl ?_
      refine mr_get hE (z := 1) (by decide) q2508 rfl rfl dX3_barred_6 ?_
      refine vr_iconst (v := 1) hE dX3_barred_9 (by decide) ?_
      refine mr_ald hE (j := 0) (i' := 1) (by decide) rfl (by decide) dX3_barred_10 ?_
      refine vr_icmp_ge (tgt := 36) hE dX3_barred_11 (by decide) (fun c_11 => ?_) (fun c_11 => ?_)
      · skip
        refine vr_iload_n hE dX3_barred_36 rfl ?_
        refine vr_ireturn hE hQ rfl dX3_barred_37 (by decide) ⟨_, ?_, fun H h => h⟩
        exact ⟨rfl, rfl⟩
      · exact absurd (by rw [h1]; exact nI_le (Nat.le_refl _) (by omega)) c_11
    · refine vr_iload_n hE dX3_barred_4 rfl ?_
      refine vr_aload_n hE dX3_barred_5 rfl ?_
      refine mr_get hE (z := 1) (by decide) q2508 rfl rfl dX3_barred_6 ?_
      refine vr_iconst (v := 1) hE dX3_barred_9 (by decide) ?_
      refine mr_ald hE (j := 0) (i' := 1) (by decide) rfl (by decide) dX3_barred_10 ?_
      refine vr_icmp_ge (tgt := 36) hE dX3_barred_11 (by decide) (fun c_11 => ?_) (fun c_11 => ?_)
      · exact absurd (by rw [h1] at c_11; exact c_11) (nI_ge hi (by omega))
      refine vr_iload_n hE dX3_barred_14 rfl ?_
      refine vr_aload_n hE dX3_barred_15 rfl ?_
      refine vr_iload_n hE dX3_barred_16 rfl ?_
      refine mr_call hE hA (mo_isBarred G _ i (by omega)) ok_X3_isBarred (lw_V q2643 q2645 qs42 q82 q2646) rfl rfl (Nat.le_of_ble_eq_true rfl) (by decide) dX3_barred_17 ?_
      rintro v_17 u_17 ⟨rfl, hu_17⟩
      obtain rfl := hu_17.symm
      apply vt_if_eq (tgt := 27) (J := 28) hE dX3_barred_20 (by decide)
      · intro c_20 kt1
        refine vr_iconst (v := 0) hE dX3_barred_27 (by decide) ?_
        exact kt1
      · intro c_20 kf1
        refine vr_iconst (v := 1) hE dX3_barred_23 (by decide) ?_
        refine vr_goto (tgt := 28) hE dX3_barred_24 (by decide) ?_
        exact kf1
      refine vr_iadd hE dX3_barred_28 ?_
      refine vr_istore_n hE dX3_barred_29 (hnl _ (by decide)) rfl ?_
      refine vr_iinc hE dX3_barred_30 rfl (iinc_1 _) (hnl _ (by decide)) rfl ?_
      refine vr_goto (tgt := 4) hE dX3_barred_33 (by decide) ?_
      exact ih
  exact hlp_4 0 (Nat.zero_le _)
theorem ok_X3_account : bi_ok yX3_account RX3 1 := by decide +kernel
theorem mo_account {Y : bi_Y} {mo : Nat} {ad : Nat → Nat} (G : mo_G Y mo ad) (σ : bi_S) (n : Nat) (hn : n ≤ 10) (h1 : σ.2 0 1 = nI n) (w : Nat) (hw : w ≤ 4) (h2 : σ.2 0 2 = nI w) (a : Int32) : bi_Met Y yX3_account (ws_ yX3_account cX3_account 2 (some .int)) 2 43 0 0 (mo_P Y.2.1 mo ad σ) (mo_F mo ad) [.ref mo, .int a] (fun v u => v = some (.int (m_account σ n w a).2) ∧ u = (m_account σ n w a).1) bi_nx (mo_P Y.2.1 mo ad) := by
  refine bi_Met.of (own := RX3) (L0 := [some (.ref mo), some (.int a)]) rfl (by decide) G.1 G.2 (Nat.le_of_ble_eq_true rfl) rfl (fun X hE hQ hA hnl hnm => ?_)
  have hnl : ∀ q, q < 2 → q < bi_nL X := fun q h => by rw [hnl]; exact h
  refine vr_aload_n hE dX3_account_0 rfl ?_
  refine vr_iconst (v := 0) hE dX3_account_1 (by decide) ?_
  refine mr_put hE hA (z := 0) (by decide) q2507 rfl rfl rfl rfl (fun _ => rfl) dX3_account_2 ?_
  refine vr_iload_n hE dX3_account_5 rfl ?_
  refine vr_topi (fun sw_6 e_sw_6 => ?_)
  by_cases s_6_0 : sw_6 = 0
  · refine vr_tab (z := 0) (tgt := 80) hE dX3_account_6 (by rw [s_6_0]; decide) (by decide) (by decide) (off := 74) (by decide) (by decide) ?_
    refine vr_aload_n hE dX3_account_80 rfl ?_
    refine mr_get hE (z := 1) (by decide) q2508 rfl rfl dX3_account_81 ?_
    refine vr_iconst (v := 0) hE dX3_account_84 (by decide) ?_
    refine mr_ald hE (j := 0) (i' := 0) (by decide) rfl (by decide) dX3_account_85 ?_
    refine vr_ireturn hE hQ rfl dX3_account_86 (by decide) ⟨_, ?_, fun H h => h⟩
    exact ⟨by rw [m_account, m_acc, if_pos (show a = 0 from e_sw_6.symm.trans s_6_0)] <;> rfl, by rw [m_account, m_acc, if_pos (show a = 0 from e_sw_6.symm.trans s_6_0)] <;> rfl⟩
  by_cases s_6_1 : sw_6 = 1
  · refine vr_tab (z := 1) (tgt := 87) hE dX3_account_6 (by rw [s_6_1]; decide) (by decide) (by decide) (off := 81) (by decide) (by decide) ?_
    refine vr_aload_n hE dX3_account_87 rfl ?_
    refine mr_call hE hA (mo_fairNow G _) ok_X3_fairNow (lw_V q2667 q2669 qs46 q82 q2670) rfl rfl (Nat.le_of_ble_eq_true rfl) (by decide) dX3_account_88 ?_
    rintro v_88 u_88 ⟨rfl, hu_88⟩
    obtain rfl := hu_88.symm
    refine vr_ireturn hE hQ rfl dX3_account_91 (by decide) ⟨_, ?_, fun H h => h⟩
    exact ⟨by rw [m_account, m_acc, if_neg (show ¬ a = 0 from fun z => s_6_0 (e_sw_6.trans z)), if_pos (show a = 1 from e_sw_6.symm.trans s_6_1)] <;> rfl, by rw [m_account, m_acc, if_neg (show ¬ a = 0 from fun z => s_6_0 (e_sw_6.trans z)), if_pos (show a = 1 from e_sw_6.symm.trans s_6_1)] <;> rfl⟩
  by_cases s_6_2 : sw_6 = 2
  · refine vr_tab (z := 2) (tgt := 92) hE dX3_account_6 (by rw [s_6_2]; decide) (by decide) (by decide) (off := 86) (by decide) (by decide) ?_
    refine vr_aload_n hE dX3_account_92 rfl ?_
    refine mr_get hE (z := 1) (by decide) q2508 rfl rfl dX3_account_93 ?_
    refine vr_iconst (v := 1) hE dX3_account_96 (by decide) ?_
    refine mr_ald hE (j := 0) (i' := 1) (by decide) rfl (by decide) dX3_account_97 ?_
    refine vr_ireturn hE hQ rfl dX3_account_98 (by decide) ⟨_, ?_, fun H h => h⟩
    exact ⟨by rw [m_account, m_acc, if_neg (show ¬ a = 0 from fun z => s_6_0 (e_sw_6.trans z)), if_neg (show ¬ a = 1 from fun z => s_6_1 (e_sw_6.trans z)), if_pos (show a = 2 from e_sw_6.symm.trans s_6_2)] <;> rfl, by rw [m_account, m_acc, if_neg (show ¬ a = 0 from fun z => s_6_0 (e_sw_6.trans z)), if_neg (show ¬ a = 1 from fun z => s_6_1 (e_sw_6.trans z)), if_pos (show a = 2 from e_sw_6.symm.trans s_6_2)] <;> rfl⟩
  by_cases s_6_3 : sw_6 = 3
  · refine vr_tab (z := 3) (tgt := 99) hE dX3_account_6 (by rw [s_6_3]; decide) (by decide) (by decide) (off := 93) (by decide) (by decide) ?_
    refine vr_aload_n hE dX3_account_99 rfl ?_
    refine mr_get hE (z := 1) (by decide) q2508 rfl rfl dX3_account_100 ?_
    refine vr_iconst (v := 2) hE dX3_account_103 (by decide) ?_
    refine mr_ald hE (j := 0) (i' := 2) (by decide) rfl (by decide) dX3_account_104 ?_
    refine vr_ireturn hE hQ rfl dX3_account_105 (by decide) ⟨_, ?_, fun H h => h⟩
    exact ⟨by rw [m_account, m_acc, if_neg (show ¬ a = 0 from fun z => s_6_0 (e_sw_6.trans z)), if_neg (show ¬ a = 1 from fun z => s_6_1 (e_sw_6.trans z)), if_neg (show ¬ a = 2 from fun z => s_6_2 (e_sw_6.trans z)), if_pos (show a = 3 from e_sw_6.symm.trans s_6_3)] <;> rfl, by rw [m_account, m_acc, if_neg (show ¬ a = 0 from fun z => s_6_0 (e_sw_6.trans z)), if_neg (show ¬ a = 1 from fun z => s_6_1 (e_sw_6.trans z)), if_neg (show ¬ a = 2 from fun z => s_6_2 (e_sw_6.trans z)), if_pos (show a = 3 from e_sw_6.symm.trans s_6_3)] <;> rfl⟩
  by_cases s_6_4 : sw_6 = 4
  · refine vr_tab (z := 4) (tgt := 106) hE dX3_account_6 (by rw [s_6_4]; decide) (by decide) (by decide) (off := 100) (by decide) (by decide) ?_
    refine vr_aload_n hE dX3_account_106 rfl ?_
    refine vr_iconst (v := -1) hE dX3_account_107 (by decide) ?_
    refine mr_call hE hA (mo_seals G _ n hn (by exact h1) _) ok_X3_seals (lw_V q2663 q2665 qs45 q82 q2666) rfl rfl (Nat.le_of_ble_eq_true rfl) (by decide) dX3_account_108 ?_
    rintro v_108 u_108 ⟨rfl, hu_108⟩
    obtain rfl := hu_108.symm
    refine vr_ireturn hE hQ rfl dX3_account_111 (by decide) ⟨_, ?_, fun H h => h⟩
    exact ⟨by rw [m_account, m_acc, if_neg (show ¬ a = 0 from fun z => s_6_0 (e_sw_6.trans z)), if_neg (show ¬ a = 1 from fun z => s_6_1 (e_sw_6.trans z)), if_neg (show ¬ a = 2 from fun z => s_6_2 (e_sw_6.trans z)), if_neg (show ¬ a = 3 from fun z => s_6_3 (e_sw_6.trans z)), if_pos (show a = 4 from e_sw_6.symm.trans s_6_4)] <;> rfl, by rw [m_account, m_acc, if_neg (show ¬ a = 0 from fun z => s_6_0 (e_sw_6.trans z)), if_neg (show ¬ a = 1 from fun z => s_6_1 (e_sw_6.trans z)), if_neg (show ¬ a = 2 from fun z => s_6_2 (e_sw_6.trans z)), if_neg (show ¬ a = 3 from fun z => s_6_3 (e_sw_6.trans z)), if_pos (show a = 4 from e_sw_6.symm.trans s_6_4)] <;> rfl⟩
  by_cases s_6_5 : sw_6 = 5
  · refine vr_tab (z := 5) (tgt := 112) hE dX3_account_6 (by rw [s_6_5]; decide) (by decide) (by decide) (off := 106) (by decide) (by decide) ?_
    refine vr_aload_n hE dX3_account_112 rfl ?_
    refine mr_call hE hA (mo_barred G _ n hn (by exact h1)) ok_X3_barred (lw_V q2862 q2864 qs68 q82 q2865) rfl rfl (Nat.le_of_ble_eq_true rfl) (by decide) dX3_account_113 ?_
    rintro v_113 u_113 ⟨rfl, hu_113⟩
    obtain rfl := hu_113.symm
    refine vr_ireturn hE hQ rfl dX3_account_116 (by decide) ⟨_, ?_, fun H h => h⟩
    exact ⟨by rw [m_account, m_acc, if_neg (show ¬ a = 0 from fun z => s_6_0 (e_sw_6.trans z)), if_neg (show ¬ a = 1 from fun z => s_6_1 (e_sw_6.trans z)), if_neg (show ¬ a = 2 from fun z => s_6_2 (e_sw_6.trans z)), if_neg (show ¬ a = 3 from fun z => s_6_3 (e_sw_6.trans z)), if_neg (show ¬ a = 4 from fun z => s_6_4 (e_sw_6.trans z)), if_pos (show a = 5 from e_sw_6.symm.trans s_6_5)] <;> rfl, by rw [m_account, m_acc, if_neg (show ¬ a = 0 from fun z => s_6_0 (e_sw_6.trans z)), if_neg (show ¬ a = 1 from fun z => s_6_1 (e_sw_6.trans z)), if_neg (show ¬ a = 2 from fun z => s_6_2 (e_sw_6.trans z)), if_neg (show ¬ a = 3 from fun z => s_6_3 (e_sw_6.trans z)), if_neg (show ¬ a = 4 from fun z => s_6_4 (e_sw_6.trans z)), if_pos (show a = 5 from e_sw_6.symm.trans s_6_5)] <;> rfl⟩
  by_cases s_6_6 : sw_6 = 6
  · refine vr_tab (z := 6) (tgt := 117) hE dX3_account_6 (by rw [s_6_6]; decide) (by decide) (by decide) (off := 111) (by decide) (by decide) ?_
    refine vr_aload_n hE dX3_account_117 rfl ?_
    refine mr_get hE (z := 1) (by decide) q2508 rfl rfl dX3_account_118 ?_
    refine vr_iconst (v := 3) hE dX3_account_121 (by decide) ?_
    refine mr_ald hE (j := 0) (i' := 3) (by decide) rfl (by decide) dX3_account_122 ?_
    refine vr_ireturn hE hQ rfl dX3_account_123 (by decide) ⟨_, ?_, fun H h => h⟩
    exact ⟨by rw [m_account, m_acc, if_neg (show ¬ a = 0 from fun z => s_6_0 (e_sw_6.trans z)), if_neg (show ¬ a = 1 from fun z => s_6_1 (e_sw_6.trans z)), if_neg (show ¬ a = 2 from fun z => s_6_2 (e_sw_6.trans z)), if_neg (show ¬ a = 3 from fun z => s_6_3 (e_sw_6.trans z)), if_neg (show ¬ a = 4 from fun z => s_6_4 (e_sw_6.trans z)), if_neg (show ¬ a = 5 from fun z => s_6_5 (e_sw_6.trans z)), if_pos (show a = 6 from e_sw_6.symm.trans s_6_6)] <;> rfl, by rw [m_account, m_acc, if_neg (show ¬ a = 0 from fun z => s_6_0 (e_sw_6.trans z)), if_neg (show ¬ a = 1 from fun z => s_6_1 (e_sw_6.trans z)), if_neg (show ¬ a = 2 from fun z => s_6_2 (e_sw_6.trans z)), if_neg (show ¬ a = 3 from fun z => s_6_3 (e_sw_6.trans z)), if_neg (show ¬ a = 4 from fun z => s_6_4 (e_sw_6.trans z)), if_neg (show ¬ a = 5 from fun z => s_6_5 (e_sw_6.trans z)), if_pos (show a = 6 from e_sw_6.symm.trans s_6_6)] <;> rfl⟩
  by_cases s_6_7 : sw_6 = 7
  · refine vr_tab (z := 7) (tgt := 124) hE dX3_account_6 (by rw [s_6_7]; decide) (by decide) (by decide) (off := 118) (by decide) (by decide) ?_
    refine vr_aload_n hE dX3_account_124 rfl ?_
    refine vr_bipush (v := 85) hE dX3_account_125 (by decide) ?_
    refine vr_aload_n hE dX3_account_127 rfl ?_
    refine mr_get hE (z := 1) (by decide) q2508 rfl rfl dX3_account_128 ?_
    refine vr_iconst (v := 1) hE dX3_account_131 (by decide) ?_
    refine mr_ald hE (j := 0) (i' := 1) (by decide) rfl (by decide) dX3_account_132 ?_
    refine vr_topi (fun x_85 e_85 => ?_)
    obtain rfl : x_85 = nI n := e_85.trans h1
    refine mr_call hE hA (mo_sum G _ 85 n (by omega)) ok_X3_sum (lw_V q2866 q2868 qs69 q82 q2869) rfl rfl (Nat.le_of_ble_eq_true rfl) (by decide) dX3_account_133 ?_
    rintro v_133 u_133 ⟨rfl, hu_133⟩
    obtain rfl := hu_133.symm
    refine vr_ireturn hE hQ rfl dX3_account_136 (by decide) ⟨_, ?_, fun H h => h⟩
    exact ⟨by rw [m_account, m_acc, if_neg (show ¬ a = 0 from fun z => s_6_0 (e_sw_6.trans z)), if_neg (show ¬ a = 1 from fun z => s_6_1 (e_sw_6.trans z)), if_neg (show ¬ a = 2 from fun z => s_6_2 (e_sw_6.trans z)), if_neg (show ¬ a = 3 from fun z => s_6_3 (e_sw_6.trans z)), if_neg (show ¬ a = 4 from fun z => s_6_4 (e_sw_6.trans z)), if_neg (show ¬ a = 5 from fun z => s_6_5 (e_sw_6.trans z)), if_neg (show ¬ a = 6 from fun z => s_6_6 (e_sw_6.trans z)), if_pos (show a = 7 from e_sw_6.symm.trans s_6_7)] <;> rfl, by rw [m_account, m_acc, if_neg (show ¬ a = 0 from fun z => s_6_0 (e_sw_6.trans z)), if_neg (show ¬ a = 1 from fun z => s_6_1 (e_sw_6.trans z)), if_neg (show ¬ a = 2 from fun z => s_6_2 (e_sw_6.trans z)), if_neg (show ¬ a = 3 from fun z => s_6_3 (e_sw_6.trans z)), if_neg (show ¬ a = 4 from fun z => s_6_4 (e_sw_6.trans z)), if_neg (show ¬ a = 5 from fun z => s_6_5 (e_sw_6.trans z)), if_neg (show ¬ a = 6 from fun z => s_6_6 (e_sw_6.trans z)), if_pos (show a = 7 from e_sw_6.symm.trans s_6_7)] <;> rfl⟩
  by_cases s_6_8 : sw_6 = 8
  · refine vr_tab (z := 8) (tgt := 137) hE dX3_account_6 (by rw [s_6_8]; decide) (by decide) (by decide) (off := 131) (by decide) (by decide) ?_
    refine vr_aload_n hE dX3_account_137 rfl ?_
    refine vr_bipush (v := 25) hE dX3_account_138 (by decide) ?_
    refine vr_aload_n hE dX3_account_140 rfl ?_
    refine mr_get hE (z := 1) (by decide) q2508 rfl rfl dX3_account_141 ?_
    refine vr_iconst (v := 1) hE dX3_account_144 (by decide) ?_
    refine mr_ald hE (j := 0) (i' := 1) (by decide) rfl (by decide) dX3_account_145 ?_
    refine vr_topi (fun x_25 e_25 => ?_)
    obtain rfl : x_25 = nI n := e_25.trans h1
    refine mr_call hE hA (mo_sum G _ 25 n (by omega)) ok_X3_sum (lw_V q2866 q2868 qs69 q82 q2869) rfl rfl (Nat.le_of_ble_eq_true rfl) (by decide) dX3_account_146 ?_
    rintro v_146 u_146 ⟨rfl, hu_146⟩
    obtain rfl := hu_146.symm
    refine vr_ireturn hE hQ rfl dX3_account_149 (by decide) ⟨_, ?_, fun H h => h⟩
    exact ⟨by rw [m_account, m_acc, if_neg (show ¬ a = 0 from fun z => s_6_0 (e_sw_6.trans z)), if_neg (show ¬ a = 1 from fun z => s_6_1 (e_sw_6.trans z)), if_neg (show ¬ a = 2 from fun z => s_6_2 (e_sw_6.trans z)), if_neg (show ¬ a = 3 from fun z => s_6_3 (e_sw_6.trans z)), if_neg (show ¬ a = 4 from fun z => s_6_4 (e_sw_6.trans z)), if_neg (show ¬ a = 5 from fun z => s_6_5 (e_sw_6.trans z)), if_neg (show ¬ a = 6 from fun z => s_6_6 (e_sw_6.trans z)), if_neg (show ¬ a = 7 from fun z => s_6_7 (e_sw_6.trans z)), if_pos (show a = 8 from e_sw_6.symm.trans s_6_8)] <;> rfl, by rw [m_account, m_acc, if_neg (show ¬ a = 0 from fun z => s_6_0 (e_sw_6.trans z)), if_neg (show ¬ a = 1 from fun z => s_6_1 (e_sw_6.trans z)), if_neg (show ¬ a = 2 from fun z => s_6_2 (e_sw_6.trans z)), if_neg (show ¬ a = 3 from fun z => s_6_3 (e_sw_6.trans z)), if_neg (show ¬ a = 4 from fun z => s_6_4 (e_sw_6.trans z)), if_neg (show ¬ a = 5 from fun z => s_6_5 (e_sw_6.trans z)), if_neg (show ¬ a = 6 from fun z => s_6_6 (e_sw_6.trans z)), if_neg (show ¬ a = 7 from fun z => s_6_7 (e_sw_6.trans z)), if_pos (show a = 8 from e_sw_6.symm.trans s_6_8)] <;> rfl⟩
  by_cases s_6_9 : sw_6 = 9
  · refine vr_tab (z := 9) (tgt := 150) hE dX3_account_6 (by rw [s_6_9]; decide) (by decide) (by decide) (off := 144) (by decide) (by decide) ?_
    refine vr_aload_n hE dX3_account_150 rfl ?_
    refine vr_bipush (v := 35) hE dX3_account_151 (by decide) ?_
    refine vr_aload_n hE dX3_account_153 rfl ?_
    refine mr_get hE (z := 1) (by decide) q2508 rfl rfl dX3_account_154 ?_
    refine vr_iconst (v := 1) hE dX3_account_157 (by decide) ?_
    refine mr_ald hE (j := 0) (i' := 1) (by decide) rfl (by decide) dX3_account_158 ?_
    refine vr_topi (fun x_35 e_35 => ?_)
    obtain rfl : x_35 = nI n := e_35.trans h1
    refine mr_call hE hA (mo_sum G _ 35 n (by omega)) ok_X3_sum (lw_V q2866 q2868 qs69 q82 q2869) rfl rfl (Nat.le_of_ble_eq_true rfl) (by decide) dX3_account_159 ?_
    rintro v_159 u_159 ⟨rfl, hu_159⟩
    obtain rfl := hu_159.symm
    refine vr_ireturn hE hQ rfl dX3_account_162 (by decide) ⟨_, ?_, fun H h => h⟩
    exact ⟨by rw [m_account, m_acc, if_neg (show ¬ a = 0 from fun z => s_6_0 (e_sw_6.trans z)), if_neg (show ¬ a = 1 from fun z => s_6_1 (e_sw_6.trans z)), if_neg (show ¬ a = 2 from fun z => s_6_2 (e_sw_6.trans z)), if_neg (show ¬ a = 3 from fun z => s_6_3 (e_sw_6.trans z)), if_neg (show ¬ a = 4 from fun z => s_6_4 (e_sw_6.trans z)), if_neg (show ¬ a = 5 from fun z => s_6_5 (e_sw_6.trans z)), if_neg (show ¬ a = 6 from fun z => s_6_6 (e_sw_6.trans z)), if_neg (show ¬ a = 7 from fun z => s_6_7 (e_sw_6.trans z)), if_neg (show ¬ a = 8 from fun z => s_6_8 (e_sw_6.trans z)), if_pos (show a = 9 from e_sw_6.symm.trans s_6_9)] <;> rfl, by rw [m_account, m_acc, if_neg (show ¬ a = 0 from fun z => s_6_0 (e_sw_6.trans z)), if_neg (show ¬ a = 1 from fun z => s_6_1 (e_sw_6.trans z)), if_neg (show ¬ a = 2 from fun z => s_6_2 (e_sw_6.trans z)), if_neg (show ¬ a = 3 from fun z => s_6_3 (e_sw_6.trans z)), if_neg (show ¬ a = 4 from fun z => s_6_4 (e_sw_6.trans z)), if_neg (show ¬ a = 5 from fun z => s_6_5 (e_sw_6.trans z)), if_neg (show ¬ a = 6 from fun z => s_6_6 (e_sw_6.trans z)), if_neg (show ¬ a = 7 from fun z => s_6_7 (e_sw_6.trans z)), if_neg (show ¬ a = 8 from fun z => s_6_8 (e_sw_6.trans z)), if_pos (show a = 9 from e_sw_6.symm.trans s_6_9)] <;> rfl⟩
  by_cases s_6_10 : sw_6 = 10
  · refine vr_tab (z := 10) (tgt := 163) hE dX3_account_6 (by rw [s_6_10]; decide) (by decide) (by decide) (off := 157) (by decide) (by decide) ?_
    refine vr_aload_n hE dX3_account_163 rfl ?_
    refine mr_get hE (z := 1) (by decide) q2508 rfl rfl dX3_account_164 ?_
    refine vr_iconst (v := 4) hE dX3_account_167 (by decide) ?_
    refine mr_ald hE (j := 0) (i' := 4) (by decide) rfl (by decide) dX3_account_168 ?_
    refine vr_ireturn hE hQ rfl dX3_account_169 (by decide) ⟨_, ?_, fun H h => h⟩
    exact ⟨by rw [m_account, m_acc, if_neg (show ¬ a = 0 from fun z => s_6_0 (e_sw_6.trans z)), if_neg (show ¬ a = 1 from fun z => s_6_1 (e_sw_6.trans z)), if_neg (show ¬ a = 2 from fun z => s_6_2 (e_sw_6.trans z)), if_neg (show ¬ a = 3 from fun z => s_6_3 (e_sw_6.trans z)), if_neg (show ¬ a = 4 from fun z => s_6_4 (e_sw_6.trans z)), if_neg (show ¬ a = 5 from fun z => s_6_5 (e_sw_6.trans z)), if_neg (show ¬ a = 6 from fun z => s_6_6 (e_sw_6.trans z)), if_neg (show ¬ a = 7 from fun z => s_6_7 (e_sw_6.trans z)), if_neg (show ¬ a = 8 from fun z => s_6_8 (e_sw_6.trans z)), if_neg (show ¬ a = 9 from fun z => s_6_9 (e_sw_6.trans z)), if_pos (show a = 10 from e_sw_6.symm.trans s_6_10)] <;> rfl, by rw [m_account, m_acc, if_neg (show ¬ a = 0 from fun z => s_6_0 (e_sw_6.trans z)), if_neg (show ¬ a = 1 from fun z => s_6_1 (e_sw_6.trans z)), if_neg (show ¬ a = 2 from fun z => s_6_2 (e_sw_6.trans z)), if_neg (show ¬ a = 3 from fun z => s_6_3 (e_sw_6.trans z)), if_neg (show ¬ a = 4 from fun z => s_6_4 (e_sw_6.trans z)), if_neg (show ¬ a = 5 from fun z => s_6_5 (e_sw_6.trans z)), if_neg (show ¬ a = 6 from fun z => s_6_6 (e_sw_6.trans z)), if_neg (show ¬ a = 7 from fun z => s_6_7 (e_sw_6.trans z)), if_neg (show ¬ a = 8 from fun z => s_6_8 (e_sw_6.trans z)), if_neg (show ¬ a = 9 from fun z => s_6_9 (e_sw_6.trans z)), if_pos (show a = 10 from e_sw_6.symm.trans s_6_10)] <;> rfl⟩
  by_cases s_6_11 : sw_6 = 11
  · refine vr_tab (z := 11) (tgt := 170) hE dX3_account_6 (by rw [s_6_11]; decide) (by decide) (by decide) (off := 164) (by decide) (by decide) ?_
    refine vr_aload_n hE dX3_account_170 rfl ?_
    refine vr_bipush (v := 109) hE dX3_account_171 (by decide) ?_
    refine vr_aload_n hE dX3_account_173 rfl ?_
    refine mr_get hE (z := 1) (by decide) q2508 rfl rfl dX3_account_174 ?_
    refine vr_iconst (v := 2) hE dX3_account_177 (by decide) ?_
    refine mr_ald hE (j := 0) (i' := 2) (by decide) rfl (by decide) dX3_account_178 ?_
    refine vr_topi (fun x_109 e_109 => ?_)
    obtain rfl : x_109 = nI w := e_109.trans h2
    refine mr_call hE hA (mo_sum G _ 109 w (by omega)) ok_X3_sum (lw_V q2866 q2868 qs69 q82 q2869) rfl rfl (Nat.le_of_ble_eq_true rfl) (by decide) dX3_account_179 ?_
    rintro v_179 u_179 ⟨rfl, hu_179⟩
    obtain rfl := hu_179.symm
    refine vr_ireturn hE hQ rfl dX3_account_182 (by decide) ⟨_, ?_, fun H h => h⟩
    exact ⟨by rw [m_account, m_acc, if_neg (show ¬ a = 0 from fun z => s_6_0 (e_sw_6.trans z)), if_neg (show ¬ a = 1 from fun z => s_6_1 (e_sw_6.trans z)), if_neg (show ¬ a = 2 from fun z => s_6_2 (e_sw_6.trans z)), if_neg (show ¬ a = 3 from fun z => s_6_3 (e_sw_6.trans z)), if_neg (show ¬ a = 4 from fun z => s_6_4 (e_sw_6.trans z)), if_neg (show ¬ a = 5 from fun z => s_6_5 (e_sw_6.trans z)), if_neg (show ¬ a = 6 from fun z => s_6_6 (e_sw_6.trans z)), if_neg (show ¬ a = 7 from fun z => s_6_7 (e_sw_6.trans z)), if_neg (show ¬ a = 8 from fun z => s_6_8 (e_sw_6.trans z)), if_neg (show ¬ a = 9 from fun z => s_6_9 (e_sw_6.trans z)), if_neg (show ¬ a = 10 from fun z => s_6_10 (e_sw_6.trans z)), if_pos (show a = 11 from e_sw_6.symm.trans s_6_11)] <;> rfl, by rw [m_account, m_acc, if_neg (show ¬ a = 0 from fun z => s_6_0 (e_sw_6.trans z)), if_neg (show ¬ a = 1 from fun z => s_6_1 (e_sw_6.trans z)), if_neg (show ¬ a = 2 from fun z => s_6_2 (e_sw_6.trans z)), if_neg (show ¬ a = 3 from fun z => s_6_3 (e_sw_6.trans z)), if_neg (show ¬ a = 4 from fun z => s_6_4 (e_sw_6.trans z)), if_neg (show ¬ a = 5 from fun z => s_6_5 (e_sw_6.trans z)), if_neg (show ¬ a = 6 from fun z => s_6_6 (e_sw_6.trans z)), if_neg (show ¬ a = 7 from fun z => s_6_7 (e_sw_6.trans z)), if_neg (show ¬ a = 8 from fun z => s_6_8 (e_sw_6.trans z)), if_neg (show ¬ a = 9 from fun z => s_6_9 (e_sw_6.trans z)), if_neg (show ¬ a = 10 from fun z => s_6_10 (e_sw_6.trans z)), if_pos (show a = 11 from e_sw_6.symm.trans s_6_11)] <;> rfl⟩
  by_cases s_6_12 : sw_6 = 12
  · refine vr_tab (z := 12) (tgt := 183) hE dX3_account_6 (by rw [s_6_12]; decide) (by decide) (by decide) (off := 177) (by decide) (by decide) ?_
    refine vr_aload_n hE dX3_account_183 rfl ?_
    refine vr_bipush (v := 75) hE dX3_account_184 (by decide) ?_
    refine vr_aload_n hE dX3_account_186 rfl ?_
    refine mr_get hE (z := 1) (by decide) q2508 rfl rfl dX3_account_187 ?_
    refine vr_iconst (v := 1) hE dX3_account_190 (by decide) ?_
    refine mr_ald hE (j := 0) (i' := 1) (by decide) rfl (by decide) dX3_account_191 ?_
    refine vr_topi (fun x_75 e_75 => ?_)
    obtain rfl : x_75 = nI n := e_75.trans h1
    refine mr_call hE hA (mo_sum G _ 75 n (by omega)) ok_X3_sum (lw_V q2866 q2868 qs69 q82 q2869) rfl rfl (Nat.le_of_ble_eq_true rfl) (by decide) dX3_account_192 ?_
    rintro v_192 u_192 ⟨rfl, hu_192⟩
    obtain rfl := hu_192.symm
    refine vr_ireturn hE hQ rfl dX3_account_195 (by decide) ⟨_, ?_, fun H h => h⟩
    exact ⟨by rw [m_account, m_acc, if_neg (show ¬ a = 0 from fun z => s_6_0 (e_sw_6.trans z)), if_neg (show ¬ a = 1 from fun z => s_6_1 (e_sw_6.trans z)), if_neg (show ¬ a = 2 from fun z => s_6_2 (e_sw_6.trans z)), if_neg (show ¬ a = 3 from fun z => s_6_3 (e_sw_6.trans z)), if_neg (show ¬ a = 4 from fun z => s_6_4 (e_sw_6.trans z)), if_neg (show ¬ a = 5 from fun z => s_6_5 (e_sw_6.trans z)), if_neg (show ¬ a = 6 from fun z => s_6_6 (e_sw_6.trans z)), if_neg (show ¬ a = 7 from fun z => s_6_7 (e_sw_6.trans z)), if_neg (show ¬ a = 8 from fun z => s_6_8 (e_sw_6.trans z)), if_neg (show ¬ a = 9 from fun z => s_6_9 (e_sw_6.trans z)), if_neg (show ¬ a = 10 from fun z => s_6_10 (e_sw_6.trans z)), if_neg (show ¬ a = 11 from fun z => s_6_11 (e_sw_6.trans z)), if_pos (show a = 12 from e_sw_6.symm.trans s_6_12)] <;> rfl, by rw [m_account, m_acc, if_neg (show ¬ a = 0 from fun z => s_6_0 (e_sw_6.trans z)), if_neg (show ¬ a = 1 from fun z => s_6_1 (e_sw_6.trans z)), if_neg (show ¬ a = 2 from fun z => s_6_2 (e_sw_6.trans z)), if_neg (show ¬ a = 3 from fun z => s_6_3 (e_sw_6.trans z)), if_neg (show ¬ a = 4 from fun z => s_6_4 (e_sw_6.trans z)), if_neg (show ¬ a = 5 from fun z => s_6_5 (e_sw_6.trans z)), if_neg (show ¬ a = 6 from fun z => s_6_6 (e_sw_6.trans z)), if_neg (show ¬ a = 7 from fun z => s_6_7 (e_sw_6.trans z)), if_neg (show ¬ a = 8 from fun z => s_6_8 (e_sw_6.trans z)), if_neg (show ¬ a = 9 from fun z => s_6_9 (e_sw_6.trans z)), if_neg (show ¬ a = 10 from fun z => s_6_10 (e_sw_6.trans z)), if_neg (show ¬ a = 11 from fun z => s_6_11 (e_sw_6.trans z)), if_pos (show a = 12 from e_sw_6.symm.trans s_6_12)] <;> rfl⟩
  by_cases s_6_13 : sw_6 = 13
  · refine vr_tab (z := 13) (tgt := 196) hE dX3_account_6 (by rw [s_6_13]; decide) (by decide) (by decide) (off := 190) (by decide) (by decide) ?_
    refine vr_aload_n hE dX3_account_196 rfl ?_
    refine mr_get hE (z := 12) (by decide) q2519 rfl rfl dX3_account_197 ?_
    refine vr_ireturn hE hQ rfl dX3_account_200 (by decide) ⟨_, ?_, fun H h => h⟩
    exact ⟨by rw [m_account, m_acc, if_neg (show ¬ a = 0 from fun z => s_6_0 (e_sw_6.trans z)), if_neg (show ¬ a = 1 from fun z => s_6_1 (e_sw_6.trans z)), if_neg (show ¬ a = 2 from fun z => s_6_2 (e_sw_6.trans z)), if_neg (show ¬ a = 3 from fun z => s_6_3 (e_sw_6.trans z)), if_neg (show ¬ a = 4 from fun z => s_6_4 (e_sw_6.trans z)), if_neg (show ¬ a = 5 from fun z => s_6_5 (e_sw_6.trans z)), if_neg (show ¬ a = 6 from fun z => s_6_6 (e_sw_6.trans z)), if_neg (show ¬ a = 7 from fun z => s_6_7 (e_sw_6.trans z)), if_neg (show ¬ a = 8 from fun z => s_6_8 (e_sw_6.trans z)), if_neg (show ¬ a = 9 from fun z => s_6_9 (e_sw_6.trans z)), if_neg (show ¬ a = 10 from fun z => s_6_10 (e_sw_6.trans z)), if_neg (show ¬ a = 11 from fun z => s_6_11 (e_sw_6.trans z)), if_neg (show ¬ a = 12 from fun z => s_6_12 (e_sw_6.trans z)), if_pos (show a = 13 from e_sw_6.symm.trans s_6_13)] <;> rfl, by rw [m_account, m_acc, if_neg (show ¬ a = 0 from fun z => s_6_0 (e_sw_6.trans z)), if_neg (show ¬ a = 1 from fun z => s_6_1 (e_sw_6.trans z)), if_neg (show ¬ a = 2 from fun z => s_6_2 (e_sw_6.trans z)), if_neg (show ¬ a = 3 from fun z => s_6_3 (e_sw_6.trans z)), if_neg (show ¬ a = 4 from fun z => s_6_4 (e_sw_6.trans z)), if_neg (show ¬ a = 5 from fun z => s_6_5 (e_sw_6.trans z)), if_neg (show ¬ a = 6 from fun z => s_6_6 (e_sw_6.trans z)), if_neg (show ¬ a = 7 from fun z => s_6_7 (e_sw_6.trans z)), if_neg (show ¬ a = 8 from fun z => s_6_8 (e_sw_6.trans z)), if_neg (show ¬ a = 9 from fun z => s_6_9 (e_sw_6.trans z)), if_neg (show ¬ a = 10 from fun z => s_6_10 (e_sw_6.trans z)), if_neg (show ¬ a = 11 from fun z => s_6_11 (e_sw_6.trans z)), if_neg (show ¬ a = 12 from fun z => s_6_12 (e_sw_6.trans z)), if_pos (show a = 13 from e_sw_6.symm.trans s_6_13)] <;> rfl⟩
  by_cases s_6_14 : sw_6 = 14
  · refine vr_tab (z := 14) (tgt := 201) hE dX3_account_6 (by rw [s_6_14]; decide) (by decide) (by decide) (off := 195) (by decide) (by decide) ?_
    refine vr_aload_n hE dX3_account_201 rfl ?_
    refine mr_get hE (z := 5) (by decide) q2512 rfl rfl dX3_account_202 ?_
    refine vr_ireturn hE hQ rfl dX3_account_205 (by decide) ⟨_, ?_, fun H h => h⟩
    exact ⟨by rw [m_account, m_acc, if_neg (show ¬ a = 0 from fun z => s_6_0 (e_sw_6.trans z)), if_neg (show ¬ a = 1 from fun z => s_6_1 (e_sw_6.trans z)), if_neg (show ¬ a = 2 from fun z => s_6_2 (e_sw_6.trans z)), if_neg (show ¬ a = 3 from fun z => s_6_3 (e_sw_6.trans z)), if_neg (show ¬ a = 4 from fun z => s_6_4 (e_sw_6.trans z)), if_neg (show ¬ a = 5 from fun z => s_6_5 (e_sw_6.trans z)), if_neg (show ¬ a = 6 from fun z => s_6_6 (e_sw_6.trans z)), if_neg (show ¬ a = 7 from fun z => s_6_7 (e_sw_6.trans z)), if_neg (show ¬ a = 8 from fun z => s_6_8 (e_sw_6.trans z)), if_neg (show ¬ a = 9 from fun z => s_6_9 (e_sw_6.trans z)), if_neg (show ¬ a = 10 from fun z => s_6_10 (e_sw_6.trans z)), if_neg (show ¬ a = 11 from fun z => s_6_11 (e_sw_6.trans z)), if_neg (show ¬ a = 12 from fun z => s_6_12 (e_sw_6.trans z)), if_neg (show ¬ a = 13 from fun z => s_6_13 (e_sw_6.trans z)), if_pos (show a = 14 from e_sw_6.symm.trans s_6_14)] <;> rfl, by rw [m_account, m_acc, if_neg (show ¬ a = 0 from fun z => s_6_0 (e_sw_6.trans z)), if_neg (show ¬ a = 1 from fun z => s_6_1 (e_sw_6.trans z)), if_neg (show ¬ a = 2 from fun z => s_6_2 (e_sw_6.trans z)), if_neg (show ¬ a = 3 from fun z => s_6_3 (e_sw_6.trans z)), if_neg (show ¬ a = 4 from fun z => s_6_4 (e_sw_6.trans z)), if_neg (show ¬ a = 5 from fun z => s_6_5 (e_sw_6.trans z)), if_neg (show ¬ a = 6 from fun z => s_6_6 (e_sw_6.trans z)), if_neg (show ¬ a = 7 from fun z => s_6_7 (e_sw_6.trans z)), if_neg (show ¬ a = 8 from fun z => s_6_8 (e_sw_6.trans z)), if_neg (show ¬ a = 9 from fun z => s_6_9 (e_sw_6.trans z)), if_neg (show ¬ a = 10 from fun z => s_6_10 (e_sw_6.trans z)), if_neg (show ¬ a = 11 from fun z => s_6_11 (e_sw_6.trans z)), if_neg (show ¬ a = 12 from fun z => s_6_12 (e_sw_6.trans z)), if_neg (show ¬ a = 13 from fun z => s_6_13 (e_sw_6.trans z)), if_pos (show a = 14 from e_sw_6.symm.trans s_6_14)] <;> rfl⟩
  refine vr_tabD (tgt := 206) hE dX3_account_6 (by have q_0 := lv_neT s_6_0 (a := 0) (by decide); have q_1 := lv_neT s_6_1 (a := 1) (by decide); have q_2 := lv_neT s_6_2 (a := 2) (by decide); have q_3 := lv_neT s_6_3 (a := 3) (by decide); have q_4 := lv_neT s_6_4 (a := 4) (by decide); have q_5 := lv_neT s_6_5 (a := 5) (by decide); have q_6 := lv_neT s_6_6 (a := 6) (by decide); have q_7 := lv_neT s_6_7 (a := 7) (by decide); have q_8 := lv_neT s_6_8 (a := 8) (by decide); have q_9 := lv_neT s_6_9 (a := 9) (by decide); have q_10 := lv_neT s_6_10 (a := 10) (by decide); have q_11 := lv_neT s_6_11 (a := 11) (by decide); have q_12 := lv_neT s_6_12 (a := 12) (by decide); have q_13 := lv_neT s_6_13 (a := 13) (by decide); have q_14 := lv_neT s_6_14 (a := 14) (by decide); omega) (by decide) ?_
  refine vr_aload_n hE dX3_account_206 rfl ?_
  refine vr_iconst (v := 1) hE dX3_account_207 (by decide) ?_
  refine mr_call hE hA (mo_fails G _ _) ok_X3_fails (lw_V q2595 q2597 qs34 q82 q2598) rfl rfl (Nat.le_of_ble_eq_true rfl) (by decide) dX3_account_208 ?_
  rintro v_208 u_208 ⟨rfl, hu_208⟩
  obtain rfl := hu_208.symm
  refine vr_ireturn hE hQ rfl dX3_account_211 (by decide) ⟨_, ?_, fun H h => h⟩
  exact ⟨by rw [m_account, m_acc, if_neg (show ¬ a = 0 from fun z => s_6_0 (e_sw_6.trans z)), if_neg (show ¬ a = 1 from fun z => s_6_1 (e_sw_6.trans z)), if_neg (show ¬ a = 2 from fun z => s_6_2 (e_sw_6.trans z)), if_neg (show ¬ a = 3 from fun z => s_6_3 (e_sw_6.trans z)), if_neg (show ¬ a = 4 from fun z => s_6_4 (e_sw_6.trans z)), if_neg (show ¬ a = 5 from fun z => s_6_5 (e_sw_6.trans z)), if_neg (show ¬ a = 6 from fun z => s_6_6 (e_sw_6.trans z)), if_neg (show ¬ a = 7 from fun z => s_6_7 (e_sw_6.trans z)), if_neg (show ¬ a = 8 from fun z => s_6_8 (e_sw_6.trans z)), if_neg (show ¬ a = 9 from fun z => s_6_9 (e_sw_6.trans z)), if_neg (show ¬ a = 10 from fun z => s_6_10 (e_sw_6.trans z)), if_neg (show ¬ a = 11 from fun z => s_6_11 (e_sw_6.trans z)), if_neg (show ¬ a = 12 from fun z => s_6_12 (e_sw_6.trans z)), if_neg (show ¬ a = 13 from fun z => s_6_13 (e_sw_6.trans z)), if_neg (show ¬ a = 14 from fun z => s_6_14 (e_sw_6.trans z))] <;> rfl, by rw [m_account, m_acc, if_neg (show ¬ a = 0 from fun z => s_6_0 (e_sw_6.trans z)), if_neg (show ¬ a = 1 from fun z => s_6_1 (e_sw_6.trans z)), if_neg (show ¬ a = 2 from fun z => s_6_2 (e_sw_6.trans z)), if_neg (show ¬ a = 3 from fun z => s_6_3 (e_sw_6.trans z)), if_neg (show ¬ a = 4 from fun z => s_6_4 (e_sw_6.trans z)), if_neg (show ¬ a = 5 from fun z => s_6_5 (e_sw_6.trans z)), if_neg (show ¬ a = 6 from fun z => s_6_6 (e_sw_6.trans z)), if_neg (show ¬ a = 7 from fun z => s_6_7 (e_sw_6.trans z)), if_neg (show ¬ a = 8 from fun z => s_6_8 (e_sw_6.trans z)), if_neg (show ¬ a = 9 from fun z => s_6_9 (e_sw_6.trans z)), if_neg (show ¬ a = 10 from fun z => s_6_10 (e_sw_6.trans z)), if_neg (show ¬ a = 11 from fun z => s_6_11 (e_sw_6.trans z)), if_neg (show ¬ a = 12 from fun z => s_6_12 (e_sw_6.trans z)), if_neg (show ¬ a = 13 from fun z => s_6_13 (e_sw_6.trans z)), if_neg (show ¬ a = 14 from fun z => s_6_14 (e_sw_6.trans z))] <;> rfl⟩
theorem ok_X3_finesAgain : bi_ok yX3_finesAgain RX3 0 := by decide +kernel
theorem mo_finesAgain {Y : bi_Y} {mo : Nat} {ad : Nat → Nat} (G : mo_G Y mo ad) (σ : bi_S) : bi_Met Y yX3_finesAgain (ws_ yX3_finesAgain cX3_finesAgain 1 (some .int)) 1 24 0 0 (mo_P Y.2.1 mo ad σ) (mo_F mo ad) [.ref mo] (fun v u => v = some (.int (m_sum (σ.2 0) 10 5)) ∧ u = m_pre σ) bi_nx (mo_P Y.2.1 mo ad) := by
  refine bi_Met.of (own := RX3) (L0 := [some (.ref mo)]) rfl (by decide) G.1 G.2 (Nat.le_of_ble_eq_true rfl) rfl (fun X hE hQ hA hnl hnm => ?_)
  have hnl : ∀ q, q < 1 → q < bi_nL X := fun q h => by rw [hnl]; exact h
  refine vr_aload_n hE dX3_finesAgain_0 rfl ?_
  refine vr_iconst (v := 0) hE dX3_finesAgain_1 (by decide) ?_
  refine mr_put hE hA (z := 0) (by decide) q2507 rfl rfl rfl rfl (fun _ => rfl) dX3_finesAgain_2 ?_
  refine vr_aload_n hE dX3_finesAgain_5 rfl ?_
  refine vr_bipush (v := 10) hE dX3_finesAgain_6 (by decide) ?_
  refine vr_iconst (v := 5) hE dX3_finesAgain_8 (by decide) ?_
  refine mr_call hE hA (mo_sum G _ 10 5 (by omega)) ok_X3_sum (lw_V q2866 q2868 qs69 q82 q2869) rfl rfl (Nat.le_of_ble_eq_true rfl) (by decide) dX3_finesAgain_9 ?_
  rintro v_9 u_9 ⟨rfl, hu_9⟩
  obtain rfl := hu_9.symm
  refine vr_ireturn hE hQ rfl dX3_finesAgain_12 (by decide) ⟨_, ?_, fun H h => h⟩
  exact ⟨rfl, rfl⟩
theorem ok_X3_written : bi_ok yX3_written RX3 1 := by decide +kernel
theorem mo_written {Y : bi_Y} {mo : Nat} {ad : Nat → Nat} (G : mo_G Y mo ad) (σ : bi_S) (x : Nat) (hx : x ≤ 60) (hl : σ.1 13 = nI x) (a : Int32) : bi_Met Y yX3_written (ws_ yX3_written cX3_written 2 (some .char)) 1 22 0 0 (mo_P Y.2.1 mo ad σ) (mo_F mo ad) [.ref mo, .int a] (fun v u => v = some (.int (m_written σ a).2) ∧ u = (m_written σ a).1) bi_nx (mo_P Y.2.1 mo ad) := by
  refine bi_Met.of (own := RX3) (L0 := [some (.ref mo), some (.int a)]) rfl (by decide) G.1 G.2 (Nat.le_of_ble_eq_true rfl) rfl (fun X hE hQ hA hnl hnm => ?_)
  have hnl : ∀ q, q < 2 → q < bi_nL X := fun q h => by rw [hnl]; exact h
  refine vr_aload_n hE dX3_written_0 rfl ?_
  refine vr_iload_n hE dX3_written_1 rfl ?_
  refine vr_iconst (v := 0) hE dX3_written_2 (by decide) ?_
  refine vr_aload_n hE dX3_written_3 rfl ?_
  refine mr_get hE (z := 13) (by decide) q2520 rfl rfl dX3_written_4 ?_
  refine vr_iconst (v := 1) hE dX3_written_7 (by decide) ?_
  refine vr_isub hE dX3_written_8 ?_
  refine mr_callS hE (mo_in G.1 _ _ _ _) ok_X3_in (lw_S q2592 q2593 q82 q2594) rfl rfl (Nat.le_of_ble_eq_true rfl) (by decide) dX3_written_9 ?_
  rintro v_9 rfl
  refine vr_if_eq (tgt := 19) hE dX3_written_12 (by decide) (fun c_12 => ?_) (fun c_12 => ?_)
  · skip
    refine vr_iconst (v := 1) hE dX3_written_19 (by decide) ?_
    refine mr_put hE hA (z := 0) (by decide) q2507 rfl rfl rfl rfl (fun _ => rfl) dX3_written_20 ?_
    refine vr_aload_n hE dX3_written_23 rfl ?_
    refine mr_get hE (z := 0) (by decide) q2507 rfl rfl dX3_written_24 ?_
    refine vr_if_le (tgt := 34) hE dX3_written_27 (by decide) (fun c_27 => ?_) (fun c_27 => ?_)
    · exact absurd c_27 (show ¬ (1 : Int32) ≤ 0 by decide)
    refine vr_iconst (v := 0) hE dX3_written_30 (by decide) ?_
    refine vr_goto (tgt := 41) hE dX3_written_31 (by decide) ?_
    refine vr_ireturn hE hQ rfl dX3_written_41 (by decide) ⟨_, ?_, fun H h => h⟩
    exact ⟨by rw [m_written, if_neg (fun z => z c_12)] <;> rfl, by rw [m_written, if_neg (fun z => z c_12)] <;> rfl⟩
  · skip
    refine vr_iconst (v := 0) hE dX3_written_15 (by decide) ?_
    refine vr_goto (tgt := 20) hE dX3_written_16 (by decide) ?_
    refine mr_put hE hA (z := 0) (by decide) q2507 rfl rfl rfl rfl (fun _ => rfl) dX3_written_20 ?_
    refine vr_aload_n hE dX3_written_23 rfl ?_
    refine mr_get hE (z := 0) (by decide) q2507 rfl rfl dX3_written_24 ?_
    refine vr_if_le (tgt := 34) hE dX3_written_27 (by decide) (fun c_27 => ?_) (fun c_27 => ?_)
    · obtain ⟨j, hj, rfl⟩ := in_T hl (by omega) c_12
      refine vr_aload_n hE dX3_written_34 rfl ?_
      refine mr_get hE (z := 9) (by decide) q2516 rfl rfl dX3_written_35 ?_
      refine vr_iload_n hE dX3_written_38 rfl ?_
      refine mr_ald hE (j := 6) (by decide) rfl (by show _ < 60; omega) dX3_written_39 ?_
      refine vr_i2c hE dX3_written_40 rfl ?_
      refine vr_ireturn hE hQ (m_chr_n _) dX3_written_41 (by decide) ⟨_, ?_, fun H h => h⟩
      exact ⟨by rw [m_written, if_pos c_12, ix_nI (show j < 2 ^ 31 by omega)] <;> rfl, by rw [m_written, if_pos c_12, ix_nI (show j < 2 ^ 31 by omega)] <;> rfl⟩
    · exact absurd (show (0 : Int32) ≤ 0 by decide) c_27
theorem ok_X3_undo : bi_ok yX3_undo RX3 0 := by decide +kernel
theorem mo_undo {Y : bi_Y} {mo : Nat} {ad : Nat → Nat} (G : mo_G Y mo ad) (σ : bi_S) (q : Nat) (hq8 : q ≤ 8) (hq : σ.1 5 = nI q) : bi_Met Y yX3_undo (ws_ yX3_undo cX3_undo 2 (some .int)) 1 21 0 0 (mo_P Y.2.1 mo ad σ) (mo_F mo ad) [.ref mo] (fun v u => v = some (.int (m_undo σ q).2) ∧ u = (m_undo σ q).1) bi_nx (mo_P Y.2.1 mo ad) := by
  refine bi_Met.of (own := RX3) (L0 := [some (.ref mo), none]) rfl (by decide) G.1 G.2 (Nat.le_of_ble_eq_true rfl) rfl (fun X hE hQ hA hnl hnm => ?_)
  have hnl : ∀ q, q < 2 → q < bi_nL X := fun q h => by rw [hnl]; exact h
  refine vr_aload_n hE dX3_undo_0 rfl ?_
  refine vr_iconst (v := 0) hE dX3_undo_1 (by decide) ?_
  refine mr_put hE hA (z := 0) (by decide) q2507 rfl rfl rfl rfl (fun _ => rfl) dX3_undo_2 ?_
  refine vr_aload_n hE dX3_undo_5 rfl ?_
  refine mr_get hE (z := 5) (by decide) q2512 rfl rfl dX3_undo_6 ?_
  refine vr_if_ne (tgt := 18) hE dX3_undo_9 (by decide) (fun c_9 => ?_) (fun c_9 => ?_)
  · have hq0 : ¬ q = 0 := fun z => c_9 (hq.trans (by rw [z]; rfl))
    refine vr_aload_n hE dX3_undo_18 rfl ?_
    refine vr_dup hE dX3_undo_19 rfl ?_
    refine mr_get hE (z := 5) (by decide) q2512 rfl rfl dX3_undo_20 ?_
    refine vr_iconst (v := 1) hE dX3_undo_23 (by decide) ?_
    refine vr_isub hE dX3_undo_24 ?_
    refine mr_put hE hA (z := 5) (by decide) q2512 rfl rfl rfl rfl (fun _ => rfl) dX3_undo_25 ?_
    refine vr_P (P' := mo_P Y.2.1 mo ad (sF (m_pre σ) 5 (nI (q - 1)))) (fun H h => ?_) ?_
    · rw [show (sF σ 0 0).1 5 - 1 = nI (q - 1) from (congrArg (· - 1) hq).trans (pk_sub (b := 1) (by omega))] at h
      exact h
    refine vr_iconst (v := 0) hE dX3_undo_28 (by decide) ?_
    refine vr_istore_n hE dX3_undo_29 (hnl _ (by decide)) rfl ?_
    have hlp_30 : ∀ i, i ≤ 117 → bi_V Y.1 X (mo_P Y.2.1 mo ad (setR (sF (m_pre σ) 5 (nI (q - 1))) 0 (cpy_ (fun k => σ.2 3 (117 * (q - 1) + k)) (σ.2 0) i))) 0 0 30 [some (.ref mo), some (.int (nI i))] [] := by
      refine bi_loop (fun i => bi_V Y.1 X (mo_P Y.2.1 mo ad (setR (sF (m_pre σ) 5 (nI (q - 1))) 0 (cpy_ (fun k => σ.2 3 (117 * (q - 1) + k)) (σ.2 0) i))) 0 0 30 [some (.ref mo), some (.int (nI i))] []) 117 ?_ (fun i hi ih => ?_)
      · refine vr_iload_n hE dX3_undo_30 rfl ?_
        refine vr_bipush (v := 117) hE dX3_undo_31 (by decide) ?_
        refine vr_icmp_ge (tgt := 62) hE dX3_undo_33 (by decide) (fun c_33 => ?_) (fun c_33 => ?_)
        · skip
          refine vr_aload_n hE dX3_undo_62 rfl ?_
          refine mr_get hE (z := 5) (by decide) q2512 rfl rfl dX3_undo_63 ?_
          refine vr_ireturn hE hQ rfl dX3_undo_66 (by decide) ⟨_, ?_, fun H h => h⟩
          exact ⟨by rw [m_undo, if_neg hq0] <;> rfl, by rw [m_undo, if_neg hq0] <;> rfl⟩
        · exact absurd (nI_le (Nat.le_refl _) (by decide)) c_33
      · refine vr_iload_n hE dX3_undo_30 rfl ?_
        refine vr_bipush (v := 117) hE dX3_undo_31 (by decide) ?_
        refine vr_icmp_ge (tgt := 62) hE dX3_undo_33 (by decide) (fun c_33 => ?_) (fun c_33 => ?_)
        · exact absurd c_33 (nI_ge hi (by decide))
        have hidx : (117 : Int32) * nI (q - 1) + nI i = nI (117 * (q - 1) + i) := (congrArg (· + nI i) (pk_mul 117 (q - 1))).trans (nI_add _ _)
        refine vr_aload_n hE dX3_undo_36 rfl ?_
        refine mr_get hE (z := 1) (by decide) q2508 rfl rfl dX3_undo_37 ?_
        refine vr_iload_n hE dX3_undo_40 rfl ?_
        refine vr_aload_n hE dX3_undo_41 rfl ?_
        refine mr_get hE (z := 4) (by decide) q2511 rfl rfl dX3_undo_42 ?_
        refine vr_bipush (v := 117) hE dX3_undo_45 (by decide) ?_
        refine vr_aload_n hE dX3_undo_47 rfl ?_
        refine mr_get hE (z := 5) (by decide) q2512 rfl rfl dX3_undo_48 ?_
        refine vr_imul hE dX3_undo_51 ?_
        refine vr_iload_n hE dX3_undo_52 rfl ?_
        refine vr_iadd hE dX3_undo_53 ?_
        refine mr_ald hE (j := 3) (by decide) hidx (by show _ < 936; omega) dX3_undo_54 ?_
        refine mr_ast hE hA (j := 0) (by decide) rfl (by show _ < 117; omega) dX3_undo_55 ?_
        refine vr_iinc hE dX3_undo_56 rfl (iinc_1 _) (hnl _ (by decide)) rfl ?_
        refine vr_goto (tgt := 30) hE dX3_undo_59 (by decide) ?_
        refine vr_P (fun H h => ?_) ih
        simp only [sA_R, setR_R, setR_self] at h
        rw [← cpy_s (fun k => σ.2 3 (117 * (q - 1) + k)) (σ.2 0) i]
        exact h
    have z := hlp_30 0 (Nat.zero_le _)
    rw [cpy_0] at z
    exact z
  · have hq0 : q = 0 := (nI_eq (by omega) (by decide)).mp (hq.symm.trans c_9)
    refine vr_aload_n hE dX3_undo_12 rfl ?_
    refine vr_iconst (v := 1) hE dX3_undo_13 (by decide) ?_
    refine mr_call hE hA (mo_fails G _ _) ok_X3_fails (lw_V q2595 q2597 qs34 q82 q2598) rfl rfl (Nat.le_of_ble_eq_true rfl) (by decide) dX3_undo_14 ?_
    rintro v_14 u_14 ⟨rfl, hu_14⟩
    obtain rfl := hu_14.symm
    refine vr_ireturn hE hQ rfl dX3_undo_17 (by decide) ⟨_, ?_, fun H h => h⟩
    exact ⟨by rw [m_undo, if_pos hq0] <;> rfl, by rw [m_undo, if_pos hq0] <;> rfl⟩
theorem ok_X3_save : bi_ok yX3_save RX3 0 := by decide +kernel
theorem mo_save {Y : bi_Y} {mo : Nat} {ad : Nat → Nat} (G : mo_G Y mo ad) (σ : bi_S) : bi_Met Y yX3_save (ws_ yX3_save cX3_save 2 (some .int)) 0 0 0 0 (mo_P Y.2.1 mo ad σ) (mo_F mo ad) [.ref mo] (fun v u => v = some (.int (m_save σ).2) ∧ u = (m_save σ).1) bi_nx (mo_P Y.2.1 mo ad) := by
  refine bi_Met.of (own := RX3) (L0 := [some (.ref mo), none]) rfl (by decide) G.1 G.2 (Nat.le_of_ble_eq_true rfl) rfl (fun X hE hQ hA hnl hnm => ?_)
  have hnl : ∀ q, q < 2 → q < bi_nL X := fun q h => by rw [hnl]; exact h
  refine vr_aload_n hE dX3_save_0 rfl ?_
  refine vr_iconst (v := 0) hE dX3_save_1 (by decide) ?_
  refine mr_put hE hA (z := 0) (by decide) q2507 rfl rfl rfl rfl (fun _ => rfl) dX3_save_2 ?_
  refine vr_iconst (v := 0) hE dX3_save_5 (by decide) ?_
  refine vr_istore_n hE dX3_save_6 (hnl _ (by decide)) rfl ?_
  have hlp_7 : ∀ i, i ≤ 117 → bi_V Y.1 X (mo_P Y.2.1 mo ad (setR (m_pre σ) 2 (cpy_ (σ.2 0) (σ.2 2) i))) 0 0 7 [some (.ref mo), some (.int (nI i))] [] := by
    refine bi_loop (fun i => bi_V Y.1 X (mo_P Y.2.1 mo ad (setR (m_pre σ) 2 (cpy_ (σ.2 0) (σ.2 2) i))) 0 0 7 [some (.ref mo), some (.int (nI i))] []) 117 ?_ (fun i hi ih => ?_)
    · refine vr_iload_n hE dX3_save_7 rfl ?_
      refine vr_bipush (v := 117) hE dX3_save_8 (by decide) ?_
      refine vr_icmp_ge (tgt := 31) hE dX3_save_10 (by decide) (fun c_10 => ?_) (fun c_10 => ?_)
      · skip
        refine vr_aload_n hE dX3_save_31 rfl ?_
        refine vr_iconst (v := 1) hE dX3_save_32 (by decide) ?_
        refine mr_put hE hA (z := 6) (by decide) q2513 rfl rfl rfl rfl (fun _ => rfl) dX3_save_33 ?_
        refine vr_aload_n hE dX3_save_36 rfl ?_
        refine mr_get hE (z := 1) (by decide) q2508 rfl rfl dX3_save_37 ?_
        refine vr_iconst (v := 0) hE dX3_save_40 (by decide) ?_
        refine mr_ald hE (j := 0) (i' := 0) (by decide) rfl (by decide) dX3_save_41 ?_
        refine vr_ireturn hE hQ rfl dX3_save_42 (by decide) ⟨_, ?_, fun H h => h⟩
        exact ⟨rfl, rfl⟩
      · exact absurd (nI_le (Nat.le_refl _) (by decide)) c_10
    · refine vr_iload_n hE dX3_save_7 rfl ?_
      refine vr_bipush (v := 117) hE dX3_save_8 (by decide) ?_
      refine vr_icmp_ge (tgt := 31) hE dX3_save_10 (by decide) (fun c_10 => ?_) (fun c_10 => ?_)
      · exact absurd c_10 (nI_ge hi (by decide))
      refine vr_aload_n hE dX3_save_13 rfl ?_
      refine mr_get hE (z := 3) (by decide) q2510 rfl rfl dX3_save_14 ?_
      refine vr_iload_n hE dX3_save_17 rfl ?_
      refine vr_aload_n hE dX3_save_18 rfl ?_
      refine mr_get hE (z := 1) (by decide) q2508 rfl rfl dX3_save_19 ?_
      refine vr_iload_n hE dX3_save_22 rfl ?_
      refine mr_ald hE (j := 0) (by decide) rfl (by show _ < 117; omega) dX3_save_23 ?_
      refine mr_ast hE hA (j := 2) (by decide) rfl (by show _ < 117; omega) dX3_save_24 ?_
      refine vr_iinc hE dX3_save_25 rfl (iinc_1 _) (hnl _ (by decide)) rfl ?_
      refine vr_goto (tgt := 7) hE dX3_save_28 (by decide) ?_
      refine vr_P (fun H h => ?_) ih
      simp only [sA_R, setR_R, setR_self] at h
      rw [← cpy_s]
      exact h
  have z := hlp_7 0 (Nat.zero_le _)
  rw [cpy_0] at z
  exact z
theorem ok_X3_restore : bi_ok yX3_restore RX3 0 := by decide +kernel
theorem mo_restore {Y : bi_Y} {mo : Nat} {ad : Nat → Nat} (G : mo_G Y mo ad) (σ : bi_S) : bi_Met Y yX3_restore (ws_ yX3_restore cX3_restore 2 (some .int)) 1 21 0 0 (mo_P Y.2.1 mo ad σ) (mo_F mo ad) [.ref mo] (fun v u => v = some (.int (m_restore σ).2) ∧ u = (m_restore σ).1) bi_nx (mo_P Y.2.1 mo ad) := by
  refine bi_Met.of (own := RX3) (L0 := [some (.ref mo), none]) rfl (by decide) G.1 G.2 (Nat.le_of_ble_eq_true rfl) rfl (fun X hE hQ hA hnl hnm => ?_)
  have hnl : ∀ q, q < 2 → q < bi_nL X := fun q h => by rw [hnl]; exact h
  refine vr_aload_n hE dX3_restore_0 rfl ?_
  refine vr_iconst (v := 0) hE dX3_restore_1 (by decide) ?_
  refine mr_put hE hA (z := 0) (by decide) q2507 rfl rfl rfl rfl (fun _ => rfl) dX3_restore_2 ?_
  refine vr_aload_n hE dX3_restore_5 rfl ?_
  refine mr_get hE (z := 6) (by decide) q2513 rfl rfl dX3_restore_6 ?_
  refine vr_if_ne (tgt := 18) hE dX3_restore_9 (by decide) (fun c_9 => ?_) (fun c_9 => ?_)
  · replace c_9 : ¬ σ.1 6 = 0 := c_9
    refine vr_iconst (v := 0) hE dX3_restore_18 (by decide) ?_
    refine vr_istore_n hE dX3_restore_19 (hnl _ (by decide)) rfl ?_
    have hlp_20 : ∀ i, i ≤ 117 → bi_V Y.1 X (mo_P Y.2.1 mo ad (setR (m_pre σ) 0 (cpy_ (σ.2 2) (σ.2 0) i))) 0 0 20 [some (.ref mo), some (.int (nI i))] [] := by
      refine bi_loop (fun i => bi_V Y.1 X (mo_P Y.2.1 mo ad (setR (m_pre σ) 0 (cpy_ (σ.2 2) (σ.2 0) i))) 0 0 20 [some (.ref mo), some (.int (nI i))] []) 117 ?_ (fun i hi ih => ?_)
      · refine vr_iload_n hE dX3_restore_20 rfl ?_
        refine vr_bipush (v := 117) hE dX3_restore_21 (by decide) ?_
        refine vr_icmp_ge (tgt := 44) hE dX3_restore_23 (by decide) (fun c_23 => ?_) (fun c_23 => ?_)
        · skip
          refine vr_aload_n hE dX3_restore_44 rfl ?_
          refine vr_iconst (v := 0) hE dX3_restore_45 (by decide) ?_
          refine mr_put hE hA (z := 5) (by decide) q2512 rfl rfl rfl rfl (fun _ => rfl) dX3_restore_46 ?_
          refine vr_aload_n hE dX3_restore_49 rfl ?_
          refine mr_get hE (z := 1) (by decide) q2508 rfl rfl dX3_restore_50 ?_
          refine vr_iconst (v := 0) hE dX3_restore_53 (by decide) ?_
          refine mr_ald hE (j := 0) (i' := 0) (by decide) rfl (by decide) dX3_restore_54 ?_
          refine vr_ireturn hE hQ rfl dX3_restore_55 (by decide) ⟨_, ?_, fun H h => h⟩
          exact ⟨by rw [m_restore, if_pos c_9] <;> rfl, by rw [m_restore, if_pos c_9] <;> rfl⟩
        · exact absurd (nI_le (Nat.le_refl _) (by decide)) c_23
      · refine vr_iload_n hE dX3_restore_20 rfl ?_
        refine vr_bipush (v := 117) hE dX3_restore_21 (by decide) ?_
        refine vr_icmp_ge (tgt := 44) hE dX3_restore_23 (by decide) (fun c_23 => ?_) (fun c_23 => ?_)
        · exact absurd c_23 (nI_ge hi (by decide))
        refine vr_aload_n hE dX3_restore_26 rfl ?_
        refine mr_get hE (z := 1) (by decide) q2508 rfl rfl dX3_restore_27 ?_
        refine vr_iload_n hE dX3_restore_30 rfl ?_
        refine vr_aload_n hE dX3_restore_31 rfl ?_
        refine mr_get hE (z := 3) (by decide) q2510 rfl rfl dX3_restore_32 ?_
        refine vr_iload_n hE dX3_restore_35 rfl ?_
        refine mr_ald hE (j := 2) (by decide) rfl (by show _ < 117; omega) dX3_restore_36 ?_
        refine mr_ast hE hA (j := 0) (by decide) rfl (by show _ < 117; omega) dX3_restore_37 ?_
        refine vr_iinc hE dX3_restore_38 rfl (iinc_1 _) (hnl _ (by decide)) rfl ?_
        refine vr_goto (tgt := 20) hE dX3_restore_41 (by decide) ?_
        refine vr_P (fun H h => ?_) ih
        simp only [sA_R, setR_R, setR_self] at h
        rw [← cpy_s]
        exact h
    have z := hlp_20 0 (Nat.zero_le _)
    rw [cpy_0] at z
    exact z
  · skip
    refine vr_aload_n hE dX3_restore_12 rfl ?_
    refine vr_iconst (v := 1) hE dX3_restore_13 (by decide) ?_
    refine mr_call hE hA (mo_fails G _ _) ok_X3_fails (lw_V q2595 q2597 qs34 q82 q2598) rfl rfl (Nat.le_of_ble_eq_true rfl) (by decide) dX3_restore_14 ?_
    rintro v_14 u_14 ⟨rfl, hu_14⟩
    obtain rfl := hu_14.symm
    refine vr_ireturn hE hQ rfl dX3_restore_17 (by decide) ⟨_, ?_, fun H h => h⟩
    exact ⟨by rw [m_restore, if_neg (fun z => z (show σ.1 6 = 0 from c_9))] <;> rfl, by rw [m_restore, if_neg (fun z => z (show σ.1 6 = 0 from c_9))] <;> rfl⟩
