/-! the reference reads: its state while it reads -/
set_option maxRecDepth 100000
def m_b (b : Bool) : Int32 := if b = true then 1 else 0
def m_ps (σ : bi_S) (p : q_P) : bi_S := sF (sF σ 22 (m_b p.1)) 19 (nI p.2)
def m_qs (σ : bi_S) (x : q_S) : bi_S := m_ps (setR σ 5 x.1) x.2
theorem sF_sF (σ : bi_S) (i : Nat) (v w : Int32) : sF (sF σ i v) i w = sF σ i w := by
  refine Prod.ext (funext fun j => ?_) rfl
  simp only [sF, upd]
  by_cases h : j = i <;> simp [h]
theorem sF_comm (σ : bi_S) {i j : Nat} (v w : Int32) (h : i ≠ j) : sF (sF σ i v) j w = sF (sF σ j w) i v := by
  refine Prod.ext (funext fun k => ?_) rfl
  simp only [sF, upd]
  by_cases h1 : k = i
  · subst h1
    simp [h]
  · by_cases h2 : k = j
    · subst h2
      simp [h1]
    · simp [h1, h2]
theorem m_ps_w (σ : bi_S) (p : q_P) (w : Int32) (s : Nat) : sF (sF (m_ps σ p) 22 w) 19 (nI s) = sF (sF σ 22 w) 19 (nI s) := by
  unfold m_ps
  rw [sF_comm _ (i := 19) (j := 22) _ _ (by decide), sF_sF, sF_sF]
theorem m_ps_s (σ : bi_S) (p : q_P) (s : Nat) : sF (m_ps σ p) 19 (nI s) = m_ps σ (p.1, s) := by
  unfold m_ps
  rw [sF_sF]
theorem m_ps_22 (σ : bi_S) (p : q_P) (b : Bool) : sF (m_ps σ p) 22 (m_b b) = m_ps σ (b, p.2) := by
  unfold m_ps
  rw [sF_comm _ (i := 19) (j := 22) _ _ (by decide), sF_sF]
theorem m_b0 {b : Bool} : m_b b = 0 ↔ b = false := by cases b <;> decide
theorem m_b0' {b : Bool} : ¬ m_b b = 0 ↔ b = true := by cases b <;> decide
/-! .. walked -/
theorem ok_X3_here : bi_ok yX3_here RX3 0 := by decide +kernel
theorem mo_here {Y : bi_Y} {mo : Nat} {ad : Nat → Nat} (G : mo_G Y mo ad) (σ : bi_S) (p : q_P) (e : Nat) (he : e ≤ 60) (h20 : σ.1 20 = nI e) (hs : p.2 ≤ e) : bi_Met Y yX3_here (ws_ yX3_here cX3_here 1 (some .int)) 0 0 0 0 (mo_P Y.2.1 mo ad (m_ps σ p)) (mo_F mo ad) [.ref mo] (fun v u => v = some (.int (q_here (σ.2 4) e p.2)) ∧ u = m_ps σ p) bi_nx (mo_P Y.2.1 mo ad) := by
  refine bi_Met.of (own := RX3) (L0 := [some (.ref mo)]) rfl (by decide) G.1 G.2 (Nat.le_of_ble_eq_true rfl) rfl (fun X hE hQ hA hnl hnm => ?_)
  have hnl : ∀ q, q < 1 → q < bi_nL X := fun q h => by rw [hnl]; exact h
  refine vr_aload_n hE dX3_here_0 rfl ?_
  refine mr_get hE (z := 19) (by decide) q2526 rfl rfl dX3_here_1 ?_
  refine vr_aload_n hE dX3_here_4 rfl ?_
  refine mr_get hE (z := 20) (by decide) q2527 rfl rfl dX3_here_5 ?_
  refine vr_icmp_ge (tgt := 23) hE dX3_here_8 (by decide) (fun c_8 => ?_) (fun c_8 => ?_)
  · have hlt : ¬ p.2 < e := fun z => absurd (show nI e ≤ nI p.2 from by rw [← h20]; exact c_8) (nI_ge z (by omega))
    refine vr_iconst (v := -1) hE dX3_here_23 (by decide) ?_
    refine vr_ireturn hE hQ rfl dX3_here_24 (by decide) ⟨_, ?_, fun H h => h⟩
    exact ⟨by rw [q_here, if_neg hlt] <;> rfl, rfl⟩
  · have hlt : p.2 < e := Nat.lt_of_not_le (fun z => absurd (show (m_ps σ p).1 19 ≥ (m_ps σ p).1 20 from by show nI p.2 ≥ σ.1 20; rw [h20]; exact nI_le z (by omega)) c_8)
    refine vr_aload_n hE dX3_here_11 rfl ?_
    refine mr_get hE (z := 7) (by decide) q2514 rfl rfl dX3_here_12 ?_
    refine vr_aload_n hE dX3_here_15 rfl ?_
    refine mr_get hE (z := 19) (by decide) q2526 rfl rfl dX3_here_16 ?_
    refine mr_ald hE (j := 4) (by decide) rfl (by show _ < 60; omega) dX3_here_19 ?_
    refine vr_goto (tgt := 24) hE dX3_here_20 (by decide) ?_
    refine vr_ireturn hE hQ rfl dX3_here_24 (by decide) ⟨_, ?_, fun H h => h⟩
    exact ⟨by rw [q_here, if_pos hlt] <;> rfl, rfl⟩
theorem ok_X3_must : bi_ok yX3_must RX3 1 := by decide +kernel
theorem mo_must {Y : bi_Y} {mo : Nat} {ad : Nat → Nat} (G : mo_G Y mo ad) (σ : bi_S) (p : q_P) (e : Nat) (he : e ≤ 60) (h20 : σ.1 20 = nI e) (hs : p.2 ≤ e) (c : Int32) : bi_Met Y yX3_must (ws_ yX3_must cX3_must 2 none) 1 20 0 0 (mo_P Y.2.1 mo ad (m_ps σ p)) (mo_F mo ad) [.ref mo, .int c] (fun v u => v = none ∧ u = m_ps σ (q_must (σ.2 4) e c p)) bi_nx (mo_P Y.2.1 mo ad) := by
  refine bi_Met.of (own := RX3) (L0 := [some (.ref mo), some (.int c)]) rfl (by decide) G.1 G.2 (Nat.le_of_ble_eq_true rfl) rfl (fun X hE hQ hA hnl hnm => ?_)
  have hnl : ∀ q, q < 2 → q < bi_nL X := fun q h => by rw [hnl]; exact h
  refine vr_aload_n hE dX3_must_0 rfl ?_
  refine vr_aload_n hE dX3_must_1 rfl ?_
  refine mr_get hE (z := 22) (by decide) q2529 rfl rfl dX3_must_2 ?_
  refine vr_if_ne (tgt := 16) hE dX3_must_5 (by decide) (fun c_5 => ?_) (fun c_5 => ?_)
  · replace c_5 : p.1 = true := m_b0'.mp c_5
    refine vr_iconst (v := 1) hE dX3_must_16 (by decide) ?_
    refine vr_goto (tgt := 21) hE dX3_must_17 (by decide) ?_
    refine mr_put hE hA (z := 22) (by decide) q2529 rfl rfl rfl rfl (fun _ => rfl) dX3_must_21 ?_
    refine vr_aload_n hE dX3_must_24 rfl ?_
    refine vr_dup hE dX3_must_25 rfl ?_
    refine mr_get hE (z := 19) (by decide) q2526 rfl rfl dX3_must_26 ?_
    refine vr_aload_n hE dX3_must_29 rfl ?_
    refine mr_get hE (z := 22) (by decide) q2529 rfl rfl dX3_must_30 ?_
    refine vr_if_eq (tgt := 40) hE dX3_must_33 (by decide) (fun c_33 => ?_) (fun c_33 => ?_)
    · exact absurd c_33 (show ¬ (1 : Int32) = 0 by decide)
    refine vr_iconst (v := 0) hE dX3_must_36 (by decide) ?_
    refine vr_goto (tgt := 41) hE dX3_must_37 (by decide) ?_
    refine vr_iadd hE dX3_must_41 ?_
    refine vr_to (w := .int (nI p.2)) (congrArg Value.int (Int32.add_zero _)) ?_
    refine mr_put hE hA (z := 19) (by decide) q2526 rfl rfl rfl rfl (fun _ => rfl) dX3_must_42 ?_
    refine vr_return hE hQ dX3_must_45 (by decide) ⟨_, ?_, fun H h => h⟩
    exact ⟨rfl, by rw [m_ps_w, q_must, if_pos c_5, show p = (true, p.2) from Prod.ext c_5 rfl] <;> rfl⟩
  · replace c_5 : p.1 = false := m_b0.mp c_5
    refine vr_aload_n hE dX3_must_8 rfl ?_
    refine mr_call hE hA (mo_here G σ p e he h20 hs) ok_X3_here (lw_V q2791 q2793 qs59 q82 q2794) rfl rfl (Nat.le_of_ble_eq_true rfl) (by decide) dX3_must_9 ?_
    rintro v_9 u_9 ⟨rfl, hu_9⟩
    obtain rfl := hu_9.symm
    refine vr_iload_n hE dX3_must_12 rfl ?_
    refine vr_icmp_eq (tgt := 20) hE dX3_must_13 (by decide) (fun c_13 => ?_) (fun c_13 => ?_)
    · skip
      refine vr_iconst (v := 0) hE dX3_must_20 (by decide) ?_
      refine mr_put hE hA (z := 22) (by decide) q2529 rfl rfl rfl rfl (fun _ => rfl) dX3_must_21 ?_
      refine vr_aload_n hE dX3_must_24 rfl ?_
      refine vr_dup hE dX3_must_25 rfl ?_
      refine mr_get hE (z := 19) (by decide) q2526 rfl rfl dX3_must_26 ?_
      refine vr_aload_n hE dX3_must_29 rfl ?_
      refine mr_get hE (z := 22) (by decide) q2529 rfl rfl dX3_must_30 ?_
      refine vr_if_eq (tgt := 40) hE dX3_must_33 (by decide) (fun c_33 => ?_) (fun c_33 => ?_)
      · skip
        refine vr_iconst (v := 1) hE dX3_must_40 (by decide) ?_
        refine vr_iadd hE dX3_must_41 ?_
        refine vr_to (w := .int (nI (p.2 + 1))) (congrArg Value.int (nI_1 _)) ?_
        refine mr_put hE hA (z := 19) (by decide) q2526 rfl rfl rfl rfl (fun _ => rfl) dX3_must_42 ?_
        refine vr_return hE hQ dX3_must_45 (by decide) ⟨_, ?_, fun H h => h⟩
        exact ⟨rfl, by rw [m_ps_w, q_must, if_neg (by rw [c_5]; decide), if_pos c_13] <;> rfl⟩
      · exact absurd (show (0 : Int32) = 0 from rfl) c_33
    · skip
      refine vr_iconst (v := 1) hE dX3_must_16 (by decide) ?_
      refine vr_goto (tgt := 21) hE dX3_must_17 (by decide) ?_
      refine mr_put hE hA (z := 22) (by decide) q2529 rfl rfl rfl rfl (fun _ => rfl) dX3_must_21 ?_
      refine vr_aload_n hE dX3_must_24 rfl ?_
      refine vr_dup hE dX3_must_25 rfl ?_
      refine mr_get hE (z := 19) (by decide) q2526 rfl rfl dX3_must_26 ?_
      refine vr_aload_n hE dX3_must_29 rfl ?_
      refine mr_get hE (z := 22) (by decide) q2529 rfl rfl dX3_must_30 ?_
      refine vr_if_eq (tgt := 40) hE dX3_must_33 (by decide) (fun c_33 => ?_) (fun c_33 => ?_)
      · exact absurd c_33 (show ¬ (1 : Int32) = 0 by decide)
      refine vr_iconst (v := 0) hE dX3_must_36 (by decide) ?_
      refine vr_goto (tgt := 41) hE dX3_must_37 (by decide) ?_
      refine vr_iadd hE dX3_must_41 ?_
      refine vr_to (w := .int (nI p.2)) (congrArg Value.int (Int32.add_zero _)) ?_
      refine mr_put hE hA (z := 19) (by decide) q2526 rfl rfl rfl rfl (fun _ => rfl) dX3_must_42 ?_
      refine vr_return hE hQ dX3_must_45 (by decide) ⟨_, ?_, fun H h => h⟩
      exact ⟨rfl, by rw [m_ps_w, q_must, if_neg (by rw [c_5]; decide), if_neg c_13] <;> rfl⟩
theorem ok_X3_word : bi_ok yX3_word RX3 2 := by decide +kernel
theorem mo_word {Y : bi_Y} {mo : Nat} {ad : Nat → Nat} (G : mo_G Y mo ad) (σ : bi_S) (p0 : q_P) (e : Nat) (he : e ≤ 60) (h20 : σ.1 20 = nI e) (hs0 : p0.2 ≤ e) (a v : Nat) (t : List Nat) (x z : Int32) (S9 : bi_SA Y a v t x z) (ht : t.length < 2 ^ 31) (fm : Nat) (hfm : fm ≤ t.length) : bi_Met Y yX3_word (ws_ yX3_word cX3_word 4 none) 4 85 0 0 (mo_P Y.2.1 mo ad (m_ps σ p0)) (mo_F mo ad) [.ref mo, .ref a, .int (nI fm)] (fun v u => v = none ∧ u = m_ps σ (q_word (σ.2 4) e (t.drop fm) p0)) bi_nx (mo_P Y.2.1 mo ad) := by
  refine bi_Met.of (own := RX3) (L0 := [some (.ref mo), some (.ref a), some (.int (nI fm)), none]) rfl (by decide) G.1 G.2 (Nat.le_of_ble_eq_true rfl) rfl (fun X hE hQ hA hnl hnm => ?_)
  have hnl : ∀ q, q < 4 → q < bi_nL X := fun q h => by rw [hnl]; exact h
  refine vr_iload_n hE dX3_word_0 rfl ?_
  refine vr_istore_n hE dX3_word_1 (hnl _ (by decide)) rfl ?_
  have hlp_2 : ∀ (c : Nat) (i : Nat) (p : q_P), p.2 ≤ e → i + c = t.length → q_word (σ.2 4) e (t.drop i) p = q_word (σ.2 4) e (t.drop fm) p0 → bi_V Y.1 X (mo_P Y.2.1 mo ad (m_ps σ p)) 0 0 2 [some (.ref mo), some (.ref a), some (.int (nI fm)), some (.int (nI i))] [] := by
    intro c
    induction c with
    | zero =>
      intro i p hs hi hr
      refine vr_iload_n hE dX3_word_2 rfl ?_
      refine vr_aload_n hE dX3_word_3 rfl ?_
      refine ro_callV (ci := 22) hE (ro_len G.1 _ a v t (S9.any _) ht) rfl (fun H hB h => (S9.any _ H hB h).1) ok_J7_length (lw_V q2805 q610 q611 q80 q612) rfl rfl (Nat.le_of_ble_eq_true rfl) (by decide) dX3_word_4 ?_
      rintro v_4 rfl
      refine vr_icmp_ge (tgt := 25) hE dX3_word_7 (by decide) (fun c_7 => ?_) (fun c_7 => ?_)
      · skip
        refine vr_return hE hQ dX3_word_25 (by decide) ⟨_, ?_, fun H h => h⟩
        exact ⟨rfl, by rw [← hr, show i = t.length by omega, List.drop_length]; rfl⟩
      · exact absurd (by rw [show i = t.length by omega]; exact nI_le (Nat.le_refl _) ht) c_7
    | succ c ih =>
      intro i p hs hi hr
      have hd : t.drop i = t.getD i 0 :: t.drop (i + 1) := by
        rw [List.getD_eq_getElem?_getD, List.getElem?_eq_getElem (show i < t.length by omega)]
        exact List.drop_eq_getElem_cons (by omega)
      have h8 : t.getD i 0 < 256 := by
        rw [List.getD_eq_getElem?_getD, List.getElem?_eq_getElem (show i < t.length by omega)]
        exact S9.1.2.2.2.2 _ (List.getElem_mem _)
      refine vr_iload_n hE dX3_word_2 rfl ?_
      refine vr_aload_n hE dX3_word_3 rfl ?_
      refine ro_callV (ci := 22) hE (ro_len G.1 _ a v t (S9.any _) ht) rfl (fun H hB h => (S9.any _ H hB h).1) ok_J7_length (lw_V q2805 q610 q611 q80 q612) rfl rfl (Nat.le_of_ble_eq_true rfl) (by decide) dX3_word_4 ?_
      rintro v_4 rfl
      refine vr_icmp_ge (tgt := 25) hE dX3_word_7 (by decide) (fun c_7 => ?_) (fun c_7 => ?_)
      · exact absurd c_7 (nI_ge (show i < t.length by omega) ht)
      skip
      refine vr_aload_n hE dX3_word_10 rfl ?_
      refine vr_aload_n hE dX3_word_11 rfl ?_
      refine vr_iload_n hE dX3_word_12 rfl ?_
      refine ro_callV (ci := 22) hE (ro_cat G.1 _ a v t (S9.any _) ht i (by omega) S9.1.2.2.2.2) rfl (fun H hB h => (S9.any _ H hB h).1) ok_J7_charAt (lw_V q2806 q2220 q2221 q80 q2222) rfl rfl (Nat.le_of_ble_eq_true rfl) (by decide) dX3_word_13 ?_
      rintro v_13 rfl
      refine mr_call hE hA (mo_must G σ p e he h20 hs _) ok_X3_must (lw_V q2807 q2809 qs62 q82 q2810) rfl rfl (Nat.le_of_ble_eq_true rfl) (by decide) dX3_word_16 ?_
      rintro v_16 u_16 ⟨rfl, hu_16⟩
      obtain rfl := hu_16.symm
      refine vr_iinc hE dX3_word_19 rfl (iinc_1 _) (hnl _ (by decide)) rfl ?_
      refine vr_goto (tgt := 2) hE dX3_word_22 (by decide) ?_
      exact ih (i + 1) _ (q_must_to (nI_neg1 (by omega)) hs).2 (by omega) (by rw [← hr, hd]; rfl)
  exact hlp_2 (t.length - fm) fm p0 hs0 (by omega) rfl
