/-! the reference: mean error, share of the sealed -/
set_option maxRecDepth 100000
def m_mean (σ : bi_S) (n : Nat) : bi_S × UInt64 := if n = 0 then (sF σ 0 1, 0) else (sF σ 0 0, FP.ddiv (FP.i2d (m_sum (σ.2 0) 45 n)) (FP.i2d (nI n)))
def m_share (σ : bi_S) (n : Nat) : bi_S × UInt32 := if n = 0 then (sF σ 0 1, 0) else (sF σ 0 0, FP.fdiv (FP.i2f (m_seals (σ.2 0) (-1) n)) (FP.i2f (nI n)))
theorem m_seals_le (s : Nat → Int32) : ∀ i, ∃ c, c ≤ i ∧ m_seals s (-1) i = nI c := by
  intro i
  induction i with
  | zero => exact ⟨0, Nat.le_refl _, rfl⟩
  | succ i ih =>
    obtain ⟨c, h1, h2⟩ := ih
    simp only [m_seals, m_sl1, ↓reduceIte]
    rw [h2]
    split
    · exact ⟨c, by omega, by rw [show (0 : Int32) = nI 0 from rfl, nI_add]; rfl⟩
    · exact ⟨c + 1, by omega, nI_1 c⟩
/-! .. walked -/
theorem ok_X3_meanError : bi_ok yX3_meanError RX3 0 := by decide +kernel
theorem mo_meanError {Y : bi_Y} {mo : Nat} {ad : Nat → Nat} (G : mo_G Y mo ad) (σ : bi_S) (n : Nat) (hn : n ≤ 10) (h1 : σ.2 0 1 = nI n) (hm : ∃ c, c < 1001 ∧ m_sum (σ.2 0) 45 n = Int32.ofNat c - 500) : bi_Met Y yX3_meanError (ws_ yX3_meanError cX3_meanError 1 (some .double)) 1 24 0 0 (mo_P Y.2.1 mo ad σ) (mo_F mo ad) [.ref mo] (fun v u => v = some (.double (m_mean σ n).2) ∧ u = (m_mean σ n).1) bi_nx (mo_P Y.2.1 mo ad) := by
  refine bi_Met.of (own := RX3) (L0 := [some (.ref mo)]) rfl (by decide) G.1 G.2 (Nat.le_of_ble_eq_true rfl) rfl (fun X hE hQ hA hnl hnm => ?_)
  have hnl : ∀ q, q < 1 → q < bi_nL X := fun q h => by rw [hnl]; exact h
  refine vr_aload_n hE dX3_meanError_0 rfl ?_
  refine vr_aload_n hE dX3_meanError_1 rfl ?_
  refine mr_get hE (z := 1) (by decide) q2508 rfl rfl dX3_meanError_2 ?_
  refine vr_iconst (v := 1) hE dX3_meanError_5 (by decide) ?_
  refine mr_ald hE (j := 0) (i' := 1) (by decide) rfl (by decide) dX3_meanError_6 ?_
  refine vr_if_ne (tgt := 14) hE dX3_meanError_7 (by decide) (fun c_7 => ?_) (fun c_7 => ?_)
  · have hn0 : ¬ n = 0 := fun z => c_7 (h1.trans (by rw [z]; rfl))
    refine vr_iconst (v := 0) hE dX3_meanError_14 (by decide) ?_
    refine mr_put hE hA (z := 0) (by decide) q2507 rfl rfl rfl rfl (fun _ => rfl) dX3_meanError_15 ?_
    refine vr_aload_n hE dX3_meanError_18 rfl ?_
    refine mr_get hE (z := 0) (by decide) q2507 rfl rfl dX3_meanError_19 ?_
    refine vr_if_le (tgt := 29) hE dX3_meanError_22 (by decide) (fun c_22 => ?_) (fun c_22 => ?_)
    · skip
      refine vr_aload_n hE dX3_meanError_29 rfl ?_
      refine vr_bipush (v := 45) hE dX3_meanError_30 (by decide) ?_
      refine vr_aload_n hE dX3_meanError_32 rfl ?_
      refine mr_get hE (z := 1) (by decide) q2508 rfl rfl dX3_meanError_33 ?_
      refine vr_iconst (v := 1) hE dX3_meanError_36 (by decide) ?_
      refine mr_ald hE (j := 0) (i' := 1) (by decide) rfl (by decide) dX3_meanError_37 ?_
      refine vr_topi (fun x_38 e_38 => ?_)
      obtain rfl : x_38 = nI n := e_38.trans h1
      refine mr_call hE hA (mo_sum G _ 45 n (by omega)) ok_X3_sum (lw_V q2866 q2868 qs69 q82 q2869) rfl rfl (Nat.le_of_ble_eq_true rfl) (by decide) dX3_meanError_38 ?_
      rintro v_38 u_38 ⟨rfl, hu_38⟩
      obtain rfl := hu_38.symm
      refine vr_i2d hE dX3_meanError_41 ?_
      refine vr_aload_n hE dX3_meanError_42 rfl ?_
      refine mr_get hE (z := 1) (by decide) q2508 rfl rfl dX3_meanError_43 ?_
      refine vr_iconst (v := 1) hE dX3_meanError_46 (by decide) ?_
      refine mr_ald hE (j := 0) (i' := 1) (by decide) rfl (by decide) dX3_meanError_47 ?_
      refine vr_topi (fun x_48 e_48 => ?_)
      obtain rfl : x_48 = nI n := e_48.trans h1
      refine vr_i2d hE dX3_meanError_48 ?_
      refine vr_ddiv hE dX3_meanError_49 (by obtain ⟨c, hc, hs⟩ := hm; rw [show m_sum ((sF σ 0 0).2 0) 45 n = Int32.ofNat c - 500 from hs]; have z := fp_d c hc (n - 1) (by omega); rw [show n - 1 + 1 = n by omega] at z; exact z) ?_
      refine vr_dreturn hE hQ dX3_meanError_50 (by decide) ⟨_, ?_, fun H h => h⟩
      exact ⟨by rw [m_mean, if_neg hn0] <;> rfl, by rw [m_mean, if_neg hn0] <;> rfl⟩
    · exact absurd (show (0 : Int32) ≤ 0 by decide) c_22
  · have hn0 : n = 0 := (nI_eq (by omega) (by decide)).mp (h1.symm.trans c_7)
    refine vr_iconst (v := 1) hE dX3_meanError_10 (by decide) ?_
    refine vr_goto (tgt := 15) hE dX3_meanError_11 (by decide) ?_
    refine mr_put hE hA (z := 0) (by decide) q2507 rfl rfl rfl rfl (fun _ => rfl) dX3_meanError_15 ?_
    refine vr_aload_n hE dX3_meanError_18 rfl ?_
    refine mr_get hE (z := 0) (by decide) q2507 rfl rfl dX3_meanError_19 ?_
    refine vr_if_le (tgt := 29) hE dX3_meanError_22 (by decide) (fun c_22 => ?_) (fun c_22 => ?_)
    · exact absurd c_22 (show ¬ (1 : Int32) ≤ 0 by decide)
    refine vr_dconst0 hE dX3_meanError_25 ?_
    refine vr_goto (tgt := 50) hE dX3_meanError_26 (by decide) ?_
    refine vr_dreturn hE hQ dX3_meanError_50 (by decide) ⟨_, ?_, fun H h => h⟩
    exact ⟨by rw [m_mean, if_pos hn0] <;> rfl, by rw [m_mean, if_pos hn0] <;> rfl⟩
theorem ok_X3_sealedShare : bi_ok yX3_sealedShare RX3 0 := by decide +kernel
theorem mo_sealedShare {Y : bi_Y} {mo : Nat} {ad : Nat → Nat} (G : mo_G Y mo ad) (σ : bi_S) (n : Nat) (hn : n ≤ 10) (h1 : σ.2 0 1 = nI n) : bi_Met Y yX3_sealedShare (ws_ yX3_sealedShare cX3_sealedShare 1 (some .float)) 1 23 0 0 (mo_P Y.2.1 mo ad σ) (mo_F mo ad) [.ref mo] (fun v u => v = some (.float (m_share σ n).2) ∧ u = (m_share σ n).1) bi_nx (mo_P Y.2.1 mo ad) := by
  refine bi_Met.of (own := RX3) (L0 := [some (.ref mo)]) rfl (by decide) G.1 G.2 (Nat.le_of_ble_eq_true rfl) rfl (fun X hE hQ hA hnl hnm => ?_)
  have hnl : ∀ q, q < 1 → q < bi_nL X := fun q h => by rw [hnl]; exact h
  refine vr_aload_n hE dX3_sealedShare_0 rfl ?_
  refine vr_aload_n hE dX3_sealedShare_1 rfl ?_
  refine mr_get hE (z := 1) (by decide) q2508 rfl rfl dX3_sealedShare_2 ?_
  refine vr_iconst (v := 1) hE dX3_sealedShare_5 (by decide) ?_
  refine mr_ald hE (j := 0) (i' := 1) (by decide) rfl (by decide) dX3_sealedShare_6 ?_
  refine vr_if_ne (tgt := 14) hE dX3_sealedShare_7 (by decide) (fun c_7 => ?_) (fun c_7 => ?_)
  · have hn0 : ¬ n = 0 := fun z => c_7 (h1.trans (by rw [z]; rfl))
    refine vr_iconst (v := 0) hE dX3_sealedShare_14 (by decide) ?_
    refine mr_put hE hA (z := 0) (by decide) q2507 rfl rfl rfl rfl (fun _ => rfl) dX3_sealedShare_15 ?_
    refine vr_aload_n hE dX3_sealedShare_18 rfl ?_
    refine mr_get hE (z := 0) (by decide) q2507 rfl rfl dX3_sealedShare_19 ?_
    refine vr_if_le (tgt := 29) hE dX3_sealedShare_22 (by decide) (fun c_22 => ?_) (fun c_22 => ?_)
    · skip
      refine vr_aload_n hE dX3_sealedShare_29 rfl ?_
      refine vr_iconst (v := -1) hE dX3_sealedShare_30 (by decide) ?_
      refine mr_call hE hA (mo_seals G _ n hn (by exact h1) _) ok_X3_seals (lw_V q2663 q2665 qs45 q82 q2666) rfl rfl (Nat.le_of_ble_eq_true rfl) (by decide) dX3_sealedShare_31 ?_
      rintro v_31 u_31 ⟨rfl, hu_31⟩
      obtain rfl := hu_31.symm
      refine vr_i2f hE dX3_sealedShare_34 ?_
      refine vr_aload_n hE dX3_sealedShare_35 rfl ?_
      refine mr_get hE (z := 1) (by decide) q2508 rfl rfl dX3_sealedShare_36 ?_
      refine vr_iconst (v := 1) hE dX3_sealedShare_39 (by decide) ?_
      refine mr_ald hE (j := 0) (i' := 1) (by decide) rfl (by decide) dX3_sealedShare_40 ?_
      refine vr_topi (fun x_41 e_41 => ?_)
      obtain rfl : x_41 = nI n := e_41.trans h1
      refine vr_i2f hE dX3_sealedShare_41 ?_
      refine vr_fdiv hE dX3_sealedShare_42 (by obtain ⟨c, hc, hs⟩ := m_seals_le (σ.2 0) n; rw [show m_seals ((sF σ 0 0).2 0) (-1) n = nI c from hs]; have z := fp_f c (by omega) (n - 1) (by omega); rw [show n - 1 + 1 = n by omega] at z; exact z) ?_
      refine vr_freturn hE hQ dX3_sealedShare_43 (by decide) ⟨_, ?_, fun H h => h⟩
      exact ⟨by rw [m_share, if_neg hn0] <;> rfl, by rw [m_share, if_neg hn0] <;> rfl⟩
    · exact absurd (show (0 : Int32) ≤ 0 by decide) c_22
  · have hn0 : n = 0 := (nI_eq (by omega) (by decide)).mp (h1.symm.trans c_7)
    refine vr_iconst (v := 1) hE dX3_sealedShare_10 (by decide) ?_
    refine vr_goto (tgt := 15) hE dX3_sealedShare_11 (by decide) ?_
    refine mr_put hE hA (z := 0) (by decide) q2507 rfl rfl rfl rfl (fun _ => rfl) dX3_sealedShare_15 ?_
    refine vr_aload_n hE dX3_sealedShare_18 rfl ?_
    refine mr_get hE (z := 0) (by decide) q2507 rfl rfl dX3_sealedShare_19 ?_
    refine vr_if_le (tgt := 29) hE dX3_sealedShare_22 (by decide) (fun c_22 => ?_) (fun c_22 => ?_)
    · exact absurd c_22 (show ¬ (1 : Int32) ≤ 0 by decide)
    refine vr_fconst0 hE dX3_sealedShare_25 ?_
    refine vr_goto (tgt := 43) hE dX3_sealedShare_26 (by decide) ?_
    refine vr_freturn hE hQ dX3_sealedShare_43 (by decide) ⟨_, ?_, fun H h => h⟩
    exact ⟨by rw [m_share, if_pos hn0] <;> rfl, by rw [m_share, if_pos hn0] <;> rfl⟩
