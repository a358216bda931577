/-! the reference reads numbers, orders -/
set_option maxRecDepth 100000
theorem m_qs_put (σ : bi_S) (x : q_S) (r : Int32 × q_P) (o j : Nat) : sA (m_ps (setR σ 5 x.1) r.2) 5 (3 * o + j) r.1 = m_qs σ (q_put o j x r) := by
  refine Prod.ext rfl (funext fun i => ?_)
  show (if i = 5 then upd (if 5 = 5 then x.1 else σ.2 5) _ _ else (if i = 5 then x.1 else σ.2 i)) = (if i = 5 then upd x.1 _ _ else σ.2 i)
  by_cases h : i = 5 <;> simp [h]
theorem m_qs_A (σ : bi_S) (x : q_S) (i : Nat) (v : Int32) : sA (m_qs σ x) 5 i v = m_qs σ (upd x.1 i v, x.2) := by
  refine Prod.ext rfl (funext fun i => ?_)
  show (if i = 5 then upd (if 5 = 5 then x.1 else σ.2 5) _ _ else (if i = 5 then x.1 else σ.2 i)) = (if i = 5 then upd x.1 _ _ else σ.2 i)
  by_cases h : i = 5 <;> simp [h]
theorem m_qs_21 (σ : bi_S) (x : q_S) (v : Int32) : sF (m_qs σ x) 21 v = m_qs (sF σ 21 v) x := by
  show sF (sF (sF (setR σ 5 x.1) 22 _) 19 _) 21 v = sF (sF (sF (setR σ 5 x.1) 21 v) 22 _) 19 _
  rw [sF_comm _ (i := 19) (j := 21) _ _ (by decide), sF_comm _ (i := 22) (j := 21) _ _ (by decide)]
/-! .. walked -/
theorem ok_X3_digitsOf : bi_ok yX3_digitsOf RX3 2 := by decide +kernel
theorem mo_digitsOf {Y : bi_Y} {mo : Nat} {ad : Nat → Nat} (G : mo_G Y mo ad) (σ : bi_S) (p0 : q_P) (e : Nat) (he : e ≤ 60) (h20 : σ.1 20 = nI e) (o : Nat) (ho : o ≤ 25) (h21 : σ.1 21 = nI o) (hs0 : p0.2 ≤ e) (j : Nat) (hj : j ≤ 2) (m : Nat) (hm : m ≤ 2) : bi_Met Y yX3_digitsOf (ws_ yX3_digitsOf cX3_digitsOf 5 none) 1 22 0 0 (mo_P Y.2.1 mo ad (m_ps σ p0)) (mo_F mo ad) [.ref mo, .int (nI j), .int (nI m)] (fun v u => v = none ∧ u = sA (m_ps σ (q_num (σ.2 4) e m p0).2) 5 (3 * o + j) (q_num (σ.2 4) e m p0).1) bi_nx (mo_P Y.2.1 mo ad) := by
  refine bi_Met.of (own := RX3) (L0 := [some (.ref mo), some (.int (nI j)), some (.int (nI m)), none, none]) rfl (by decide) G.1 G.2 (Nat.le_of_ble_eq_true rfl) rfl (fun X hE hQ hA hnl hnm => ?_)
  have hnl : ∀ q, q < 5 → q < bi_nL X := fun q h => by rw [hnl]; exact h
  refine vr_iconst (v := 0) hE dX3_digitsOf_0 (by decide) ?_
  refine vr_istore_n hE dX3_digitsOf_1 (hnl _ (by decide)) rfl ?_
  refine vr_iconst (v := 0) hE dX3_digitsOf_2 (by decide) ?_
  refine vr_istore hE dX3_digitsOf_3 (hnl _ (by decide)) rfl ?_
  have hJ : ∀ (v : Int32) (k : Nat) (p : q_P), k ≤ 2 → (v, k, p) = q_dig (σ.2 4) e m 0 0 p0 → bi_V Y.1 X (mo_P Y.2.1 mo ad (m_ps σ p)) 0 0 61 [some (.ref mo), some (.int (nI j)), some (.int (nI m)), some (.int v), some (.int (nI k))] [] := by
    intro v k p hk2 hR
    refine vr_aload_n hE dX3_digitsOf_61 rfl ?_
    refine vr_aload_n hE dX3_digitsOf_62 rfl ?_
    refine mr_get hE (z := 22) (by decide) q2529 rfl rfl dX3_digitsOf_63 ?_
    refine vr_if_ne (tgt := 74) hE dX3_digitsOf_66 (by decide) (fun c_66 => ?_) (fun c_66 => ?_)
    · replace c_66 : p.1 = true := m_b0'.mp c_66
      refine vr_iconst (v := 1) hE dX3_digitsOf_74 (by decide) ?_
      refine vr_goto (tgt := 79) hE dX3_digitsOf_75 (by decide) ?_
      refine mr_put hE hA (z := 22) (by decide) q2529 rfl rfl rfl rfl (fun _ => rfl) dX3_digitsOf_79 ?_
      refine vr_aload_n hE dX3_digitsOf_82 rfl ?_
      refine mr_get hE (z := 8) (by decide) q2515 rfl rfl dX3_digitsOf_83 ?_
      refine vr_iconst (v := 3) hE dX3_digitsOf_86 (by decide) ?_
      refine vr_aload_n hE dX3_digitsOf_87 rfl ?_
      refine mr_get hE (z := 21) (by decide) q2528 rfl rfl dX3_digitsOf_88 ?_
      refine vr_imul hE dX3_digitsOf_91 ?_
      refine vr_iload_n hE dX3_digitsOf_92 rfl ?_
      refine vr_iadd hE dX3_digitsOf_93 ?_
      refine vr_iload_n hE dX3_digitsOf_94 rfl ?_
      refine mr_ast hE hA (j := 5) (by decide) ((congrArg (· + nI j) ((congrArg (3 * ·) (show _ = nI o from h21)).trans (pk_mul 3 o))).trans (nI_add _ _)) (by show _ < 80; omega) dX3_digitsOf_95 ?_
      refine vr_return hE hQ dX3_digitsOf_96 (by decide) ⟨_, ?_, fun H h => h⟩
      exact ⟨rfl, by
        rw [q_num, ← hR, show (p.1 || decide (k = 0)) = true from by rw [c_66]; rfl]
        exact congrArg (fun z => sA z 5 (3 * o + j) v) (m_ps_22 σ p true)⟩
    · replace c_66 : p.1 = false := m_b0.mp c_66
      refine vr_iload hE dX3_digitsOf_69 rfl ?_
      refine vr_if_ne (tgt := 78) hE dX3_digitsOf_71 (by decide) (fun c_71 => ?_) (fun c_71 => ?_)
      · have hk0 : ¬ k = 0 := fun z => c_71 (by rw [z]; rfl)
        refine vr_iconst (v := 0) hE dX3_digitsOf_78 (by decide) ?_
        refine mr_put hE hA (z := 22) (by decide) q2529 rfl rfl rfl rfl (fun _ => rfl) dX3_digitsOf_79 ?_
        refine vr_aload_n hE dX3_digitsOf_82 rfl ?_
        refine mr_get hE (z := 8) (by decide) q2515 rfl rfl dX3_digitsOf_83 ?_
        refine vr_iconst (v := 3) hE dX3_digitsOf_86 (by decide) ?_
        refine vr_aload_n hE dX3_digitsOf_87 rfl ?_
        refine mr_get hE (z := 21) (by decide) q2528 rfl rfl dX3_digitsOf_88 ?_
        refine vr_imul hE dX3_digitsOf_91 ?_
        refine vr_iload_n hE dX3_digitsOf_92 rfl ?_
        refine vr_iadd hE dX3_digitsOf_93 ?_
        refine vr_iload_n hE dX3_digitsOf_94 rfl ?_
        refine mr_ast hE hA (j := 5) (by decide) ((congrArg (· + nI j) ((congrArg (3 * ·) (show _ = nI o from h21)).trans (pk_mul 3 o))).trans (nI_add _ _)) (by show _ < 80; omega) dX3_digitsOf_95 ?_
        refine vr_return hE hQ dX3_digitsOf_96 (by decide) ⟨_, ?_, fun H h => h⟩
        exact ⟨rfl, by
          rw [q_num, ← hR, show (p.1 || decide (k = 0)) = false from by rw [c_66]; simp [hk0]]
          exact congrArg (fun z => sA z 5 (3 * o + j) v) (m_ps_22 σ p false)⟩
      · have hk0 : k = 0 := (nI_eq (by omega) (by decide)).mp c_71
        refine vr_iconst (v := 1) hE dX3_digitsOf_74 (by decide) ?_
        refine vr_goto (tgt := 79) hE dX3_digitsOf_75 (by decide) ?_
        refine mr_put hE hA (z := 22) (by decide) q2529 rfl rfl rfl rfl (fun _ => rfl) dX3_digitsOf_79 ?_
        refine vr_aload_n hE dX3_digitsOf_82 rfl ?_
        refine mr_get hE (z := 8) (by decide) q2515 rfl rfl dX3_digitsOf_83 ?_
        refine vr_iconst (v := 3) hE dX3_digitsOf_86 (by decide) ?_
        refine vr_aload_n hE dX3_digitsOf_87 rfl ?_
        refine mr_get hE (z := 21) (by decide) q2528 rfl rfl dX3_digitsOf_88 ?_
        refine vr_imul hE dX3_digitsOf_91 ?_
        refine vr_iload_n hE dX3_digitsOf_92 rfl ?_
        refine vr_iadd hE dX3_digitsOf_93 ?_
        refine vr_iload_n hE dX3_digitsOf_94 rfl ?_
        refine mr_ast hE hA (j := 5) (by decide) ((congrArg (· + nI j) ((congrArg (3 * ·) (show _ = nI o from h21)).trans (pk_mul 3 o))).trans (nI_add _ _)) (by show _ < 80; omega) dX3_digitsOf_95 ?_
        refine vr_return hE hQ dX3_digitsOf_96 (by decide) ⟨_, ?_, fun H h => h⟩
        exact ⟨rfl, by
          rw [q_num, ← hR, show (p.1 || decide (k = 0)) = true from by simp [hk0]]
          exact congrArg (fun z => sA z 5 (3 * o + j) v) (m_ps_22 σ p true)⟩
  have hlp_5 : ∀ (c : Nat) (v : Int32) (k : Nat) (p : q_P), p.2 ≤ e → k + c = m → q_dig (σ.2 4) e c v k p = q_dig (σ.2 4) e m 0 0 p0 → bi_V Y.1 X (mo_P Y.2.1 mo ad (m_ps σ p)) 0 0 5 [some (.ref mo), some (.int (nI j)), some (.int (nI m)), some (.int v), some (.int (nI k))] [] := by
    intro c
    induction c with
    | zero =>
      intro v k p hs hk hr
      refine vr_aload_n hE dX3_digitsOf_5 rfl ?_
      refine mr_get hE (z := 22) (by decide) q2529 rfl rfl dX3_digitsOf_6 ?_
      refine vr_if_ne (tgt := 61) hE dX3_digitsOf_9 (by decide) (fun c_9 => ?_) (fun c_9 => ?_)
      · replace c_9 : p.1 = true := m_b0'.mp c_9
        exact hJ v k p (by omega) hr
      · replace c_9 : ¬ p.1 = true := fun z => absurd (m_b0.mp c_9) (by rw [z]; decide)
        refine vr_iload hE dX3_digitsOf_12 rfl ?_
        refine vr_iload_n hE dX3_digitsOf_14 rfl ?_
        refine vr_icmp_ge (tgt := 61) hE dX3_digitsOf_15 (by decide) (fun c_15 => ?_) (fun c_15 => ?_)
        · skip
          exact hJ v k p (by omega) hr
        · exact absurd (nI_le (show m ≤ k by omega) (by omega)) c_15
    | succ c ih =>
      intro v k p hs hk hr
      refine vr_aload_n hE dX3_digitsOf_5 rfl ?_
      refine mr_get hE (z := 22) (by decide) q2529 rfl rfl dX3_digitsOf_6 ?_
      refine vr_if_ne (tgt := 61) hE dX3_digitsOf_9 (by decide) (fun c_9 => ?_) (fun c_9 => ?_)
      · replace c_9 : p.1 = true := m_b0'.mp c_9
        exact hJ v k p (by omega) (by rw [← hr, q_dig, if_pos c_9])
      · replace c_9 : ¬ p.1 = true := fun z => absurd (m_b0.mp c_9) (by rw [z]; decide)
        refine vr_iload hE dX3_digitsOf_12 rfl ?_
        refine vr_iload_n hE dX3_digitsOf_14 rfl ?_
        refine vr_icmp_ge (tgt := 61) hE dX3_digitsOf_15 (by decide) (fun c_15 => ?_) (fun c_15 => ?_)
        · exact absurd c_15 (nI_ge (show k < m by omega) (by omega))
        skip
        refine vr_aload_n hE dX3_digitsOf_18 rfl ?_
        refine mr_call hE hA (mo_here G σ p e he h20 hs) ok_X3_here (lw_V q2791 q2793 qs59 q82 q2794) rfl rfl (Nat.le_of_ble_eq_true rfl) (by decide) dX3_digitsOf_19 ?_
        rintro v_19 u_19 ⟨rfl, hu_19⟩
        obtain rfl := hu_19.symm
        refine vr_bipush (v := 48) hE dX3_digitsOf_22 (by decide) ?_
        refine vr_bipush (v := 57) hE dX3_digitsOf_24 (by decide) ?_
        refine mr_callS hE (mo_in G.1 _ _ _ _) ok_X3_in (lw_S q2592 q2593 q82 q2594) rfl rfl (Nat.le_of_ble_eq_true rfl) (by decide) dX3_digitsOf_26 ?_
        rintro v_26 rfl
        refine vr_if_eq (tgt := 61) hE dX3_digitsOf_29 (by decide) (fun c_29 => ?_) (fun c_29 => ?_)
        · skip
          exact hJ v k p (by omega) (by rw [← hr, q_dig, if_neg c_9, if_pos c_29])
        · skip
          refine vr_bipush (v := 10) hE dX3_digitsOf_32 (by decide) ?_
          refine vr_iload_n hE dX3_digitsOf_34 rfl ?_
          refine vr_imul hE dX3_digitsOf_35 ?_
          refine vr_aload_n hE dX3_digitsOf_36 rfl ?_
          refine mr_call hE hA (mo_here G σ p e he h20 hs) ok_X3_here (lw_V q2791 q2793 qs59 q82 q2794) rfl rfl (Nat.le_of_ble_eq_true rfl) (by decide) dX3_digitsOf_37 ?_
          rintro v_37 u_37 ⟨rfl, hu_37⟩
          obtain rfl := hu_37.symm
          refine vr_iadd hE dX3_digitsOf_40 ?_
          refine vr_bipush (v := 48) hE dX3_digitsOf_41 (by decide) ?_
          refine vr_isub hE dX3_digitsOf_43 ?_
          refine vr_istore_n hE dX3_digitsOf_44 (hnl _ (by decide)) rfl ?_
          refine vr_aload_n hE dX3_digitsOf_45 rfl ?_
          refine vr_dup hE dX3_digitsOf_46 rfl ?_
          refine mr_get hE (z := 19) (by decide) q2526 rfl rfl dX3_digitsOf_47 ?_
          refine vr_iconst (v := 1) hE dX3_digitsOf_50 (by decide) ?_
          refine vr_iadd hE dX3_digitsOf_51 ?_
          refine vr_to (w := .int (nI (p.2 + 1))) (congrArg Value.int (nI_1 _)) ?_
          refine mr_put hE hA (z := 19) (by decide) q2526 rfl rfl rfl rfl (fun _ => rfl) dX3_digitsOf_52 ?_
          refine vr_P (P' := mo_P Y.2.1 mo ad (m_ps σ (false, p.2 + 1))) (fun H h => by rw [m_ps_s, show p.1 = false from by simpa using c_9] at h; exact h) ?_
          refine vr_iinc hE dX3_digitsOf_55 rfl (iinc_1 _) (hnl _ (by decide)) rfl ?_
          refine vr_goto (tgt := 5) hE dX3_digitsOf_58 (by decide) ?_
          exact ih _ (k + 1) (false, p.2 + 1) (q_in_lt c_29) (by omega) (by rw [← hr, q_dig, if_neg c_9, if_neg c_29])
  exact hlp_5 m 0 0 p0 hs0 (Nat.zero_add _) rfl
theorem ok_X3_orderOf : bi_ok yX3_orderOf RX3 5 := by decide +kernel
theorem mo_orderOf {Y : bi_Y} {mo : Nat} {ad : Nat → Nat} (G : mo_G Y mo ad) (σ : bi_S) (x : q_S) (e : Nat) (he : e ≤ 60) (h20 : σ.1 20 = nI e) (o : Nat) (ho : o ≤ 25) (h21 : σ.1 21 = nI o) (hs : x.2.2 ≤ e) (kind : Int32) (a1 v1 : Nat) (t1 : List Nat) (x1 z1 : Int32) (S1 : bi_SA Y a1 v1 t1 x1 z1) (ht1 : t1.length < 2 ^ 31) (fm : Nat) (hfm : fm ≤ t1.length) (a2 v2 : Nat) (t2 : List Nat) (x2 z2 : Int32) (S2 : bi_SA Y a2 v2 t2 x2 z2) (ht2 : t2.length < 2 ^ 31) (many : Nat) (hmany : many ≤ 2) : bi_Met Y yX3_orderOf (ws_ yX3_orderOf cX3_orderOf 7 none) 5 108 0 0 (mo_P Y.2.1 mo ad (m_qs σ x)) (mo_F mo ad) [.ref mo, .int kind, .ref a1, .int (nI fm), .ref a2, .int (nI many)] (fun v u => v = none ∧ u = m_qs σ (q_ord (σ.2 4) e o kind (t1.drop fm) t2 many x)) bi_nx (mo_P Y.2.1 mo ad) := by
  refine bi_Met.of (own := RX3) (L0 := [some (.ref mo), some (.int kind), some (.ref a1), some (.int (nI fm)), some (.ref a2), some (.int (nI many)), none]) rfl (by decide) G.1 G.2 (Nat.le_of_ble_eq_true rfl) rfl (fun X hE hQ hA hnl hnm => ?_)
  have hnl : ∀ q, q < 7 → q < bi_nL X := fun q h => by rw [hnl]; exact h
  have hx2 : (q_wd (σ.2 4) e (t1.drop fm) (q_kind o kind x)).2.2 ≤ e := (q_wd_to (x := (q_kind o kind x)) (fun c hc => S1.1.2.2.2.2 c (List.mem_of_mem_drop hc)) hs).2
  have hx3 : (q_nm (σ.2 4) e o 1 1 (q_wd (σ.2 4) e (t1.drop fm) (q_kind o kind x))).2.2 ≤ e := (q_nm_to hx2).2
  have hx4 : (q_wd (σ.2 4) e t2 (q_nm (σ.2 4) e o 1 1 (q_wd (σ.2 4) e (t1.drop fm) (q_kind o kind x)))).2.2 ≤ e := (q_wd_to (fun c hc => S2.1.2.2.2.2 c hc) hx3).2
  have hx5 : (q_must (σ.2 4) e 45 (q_wd (σ.2 4) e t2 (q_nm (σ.2 4) e o 1 1 (q_wd (σ.2 4) e (t1.drop fm) (q_kind o kind x)))).2).2 ≤ e := (q_must_to (by decide) hx4).2
  refine vr_aload_n hE dX3_orderOf_0 rfl ?_
  refine mr_get hE (z := 8) (by decide) q2515 rfl rfl dX3_orderOf_1 ?_
  refine vr_iconst (v := 3) hE dX3_orderOf_4 (by decide) ?_
  refine vr_aload_n hE dX3_orderOf_5 rfl ?_
  refine mr_get hE (z := 21) (by decide) q2528 rfl rfl dX3_orderOf_6 ?_
  refine vr_imul hE dX3_orderOf_9 ?_
  refine vr_iload_n hE dX3_orderOf_10 rfl ?_
  refine mr_ast hE hA (j := 5) (by decide) ((congrArg (3 * ·) (show _ = nI o from h21)).trans (pk_mul 3 o)) (by show _ < 80; omega) dX3_orderOf_11 ?_
  refine vr_P (P' := mo_P Y.2.1 mo ad (m_qs σ (q_kind o kind x))) (fun H h => by rw [m_qs_A] at h; exact h) ?_
  refine vr_aload_n hE dX3_orderOf_12 rfl ?_
  refine vr_aload_n hE dX3_orderOf_13 rfl ?_
  refine vr_iload_n hE dX3_orderOf_14 rfl ?_
  refine mr_call hE hA (mo_word G (setR σ 5 (q_kind o kind x).1) (q_kind o kind x).2 e he h20 hs a1 v1 t1 x1 z1 S1 ht1 fm hfm) ok_X3_word (lw_V q2801 q2803 qs61 q82 q2804) rfl rfl (Nat.le_of_ble_eq_true rfl) (by decide) dX3_orderOf_15 ?_
  rintro v_15 u_15 ⟨rfl, hu_15⟩
  obtain rfl := hu_15.symm
  refine vr_P (P' := mo_P Y.2.1 mo ad (m_qs σ (q_wd (σ.2 4) e (t1.drop fm) (q_kind o kind x)))) (fun H h => h) ?_
  refine vr_aload_n hE dX3_orderOf_18 rfl ?_
  refine vr_iconst (v := 1) hE dX3_orderOf_19 (by decide) ?_
  refine vr_iconst (v := 1) hE dX3_orderOf_20 (by decide) ?_
  refine mr_call hE hA (mo_digitsOf G (setR σ 5 (q_wd (σ.2 4) e (t1.drop fm) (q_kind o kind x)).1) (q_wd (σ.2 4) e (t1.drop fm) (q_kind o kind x)).2 e he h20 o ho h21 (by assumption) 1 (by omega) 1 (by omega)) ok_X3_digitsOf (lw_V q2811 q2813 qs63 q82 q2814) rfl rfl (Nat.le_of_ble_eq_true rfl) (by decide) dX3_orderOf_21 ?_
  rintro v_21 u_21 ⟨rfl, hu_21⟩
  obtain rfl := hu_21.symm
  refine vr_P (P' := mo_P Y.2.1 mo ad (m_qs σ (q_nm (σ.2 4) e o 1 1 (q_wd (σ.2 4) e (t1.drop fm) (q_kind o kind x))))) (fun H h => by rw [m_qs_put] at h; exact h) ?_
  refine vr_aload_n hE dX3_orderOf_24 rfl ?_
  refine vr_aload hE dX3_orderOf_25 rfl ?_
  refine vr_iconst (v := 0) hE dX3_orderOf_27 (by decide) ?_
  refine mr_call hE hA (mo_word G (setR σ 5 (q_nm (σ.2 4) e o 1 1 (q_wd (σ.2 4) e (t1.drop fm) (q_kind o kind x))).1) (q_nm (σ.2 4) e o 1 1 (q_wd (σ.2 4) e (t1.drop fm) (q_kind o kind x))).2 e he h20 (by assumption) a2 v2 t2 x2 z2 S2 ht2 0 (Nat.zero_le _)) ok_X3_word (lw_V q2801 q2803 qs61 q82 q2804) rfl rfl (Nat.le_of_ble_eq_true rfl) (by decide) dX3_orderOf_28 ?_
  rintro v_28 u_28 ⟨rfl, hu_28⟩
  obtain rfl := hu_28.symm
  refine vr_P (P' := mo_P Y.2.1 mo ad (m_qs σ (q_wd (σ.2 4) e t2 (q_nm (σ.2 4) e o 1 1 (q_wd (σ.2 4) e (t1.drop fm) (q_kind o kind x)))))) (fun H h => h) ?_
  refine vr_iload_n hE dX3_orderOf_31 rfl ?_
  refine vr_iconst (v := 3) hE dX3_orderOf_32 (by decide) ?_
  refine vr_icmp_ne (tgt := 49) hE dX3_orderOf_33 (by decide) (fun c_33 => ?_) (fun c_33 => ?_)
  · have hsig : ¬ q_sig (σ.2 4) e kind (q_wd (σ.2 4) e t2 (q_nm (σ.2 4) e o 1 1 (q_wd (σ.2 4) e (t1.drop fm) (q_kind o kind x)))).2 = true := by
      rw [q_sig, decide_eq_false c_33]
      exact Bool.false_ne_true
    refine vr_iconst (v := 0) hE dX3_orderOf_49 (by decide) ?_
    refine vr_istore hE dX3_orderOf_50 (hnl _ (by decide)) rfl ?_
    refine vr_iload hE dX3_orderOf_52 rfl ?_
    refine vr_if_eq (tgt := 63) hE dX3_orderOf_54 (by decide) (fun c_54 => ?_) (fun c_54 => ?_)
    · skip
      refine vr_iload hE dX3_orderOf_63 rfl ?_
      refine vr_if_le (tgt := 75) hE dX3_orderOf_65 (by decide) (fun c_65 => ?_) (fun c_65 => ?_)
      · have hm0 : many = 0 := Classical.byContradiction fun z => absurd c_65 (nI_ge (a := 0) (by omega) (by omega))
        refine vr_iload hE dX3_orderOf_75 rfl ?_
        refine vr_if_eq (tgt := 107) hE dX3_orderOf_77 (by decide) (fun c_77 => ?_) (fun c_77 => ?_)
        · skip
          refine vr_return hE hQ dX3_orderOf_107 (by decide) ⟨_, ?_, fun H h => h⟩
          exact ⟨rfl, by rw [q_ord, q_tail, if_neg hsig, if_pos hm0]⟩
        · exact absurd rfl c_77
      · have hm0 : ¬ many = 0 := fun z => c_65 (by rw [z]; decide)
        refine vr_aload_n hE dX3_orderOf_68 rfl ?_
        refine vr_iconst (v := 2) hE dX3_orderOf_69 (by decide) ?_
        refine vr_iload hE dX3_orderOf_70 rfl ?_
        refine mr_call hE hA (mo_digitsOf G (setR σ 5 (q_wd (σ.2 4) e t2 (q_nm (σ.2 4) e o 1 1 (q_wd (σ.2 4) e (t1.drop fm) (q_kind o kind x)))).1) (q_wd (σ.2 4) e t2 (q_nm (σ.2 4) e o 1 1 (q_wd (σ.2 4) e (t1.drop fm) (q_kind o kind x)))).2 e he h20 o ho h21 (by assumption) 2 (by omega) many (by omega)) ok_X3_digitsOf (lw_V q2811 q2813 qs63 q82 q2814) rfl rfl (Nat.le_of_ble_eq_true rfl) (by decide) dX3_orderOf_72 ?_
        rintro v_72 u_72 ⟨rfl, hu_72⟩
        obtain rfl := hu_72.symm
        refine vr_P (P' := mo_P Y.2.1 mo ad (m_qs σ (q_nm (σ.2 4) e o 2 many (q_wd (σ.2 4) e t2 (q_nm (σ.2 4) e o 1 1 (q_wd (σ.2 4) e (t1.drop fm) (q_kind o kind x))))))) (fun H h => by rw [m_qs_put] at h; exact h) ?_
        refine vr_iload hE dX3_orderOf_75 rfl ?_
        refine vr_if_eq (tgt := 107) hE dX3_orderOf_77 (by decide) (fun c_77 => ?_) (fun c_77 => ?_)
        · skip
          refine vr_return hE hQ dX3_orderOf_107 (by decide) ⟨_, ?_, fun H h => h⟩
          exact ⟨rfl, by rw [q_ord, q_tail, if_neg hsig, if_neg hm0]⟩
        · exact absurd rfl c_77
    · exact absurd rfl c_54
  · have hk3 : kind = 3 := c_33
    refine vr_aload_n hE dX3_orderOf_36 rfl ?_
    refine mr_call hE hA (mo_here G (setR σ 5 (q_wd (σ.2 4) e t2 (q_nm (σ.2 4) e o 1 1 (q_wd (σ.2 4) e (t1.drop fm) (q_kind o kind x)))).1) (q_wd (σ.2 4) e t2 (q_nm (σ.2 4) e o 1 1 (q_wd (σ.2 4) e (t1.drop fm) (q_kind o kind x)))).2 e he h20 (by assumption)) ok_X3_here (lw_V q2791 q2793 qs59 q82 q2794) rfl rfl (Nat.le_of_ble_eq_true rfl) (by decide) dX3_orderOf_37 ?_
    rintro v_37 u_37 ⟨rfl, hu_37⟩
    obtain rfl := hu_37.symm
    refine vr_P (P' := mo_P Y.2.1 mo ad (m_qs σ (q_wd (σ.2 4) e t2 (q_nm (σ.2 4) e o 1 1 (q_wd (σ.2 4) e (t1.drop fm) (q_kind o kind x)))))) (fun H h => h) ?_
    refine vr_bipush (v := 45) hE dX3_orderOf_40 (by decide) ?_
    refine vr_icmp_ne (tgt := 49) hE dX3_orderOf_42 (by decide) (fun c_42 => ?_) (fun c_42 => ?_)
    · replace c_42 : ¬ q_here (σ.2 4) e (q_wd (σ.2 4) e t2 (q_nm (σ.2 4) e o 1 1 (q_wd (σ.2 4) e (t1.drop fm) (q_kind o kind x)))).2.2 = 45 := c_42
      have hsig : ¬ q_sig (σ.2 4) e kind (q_wd (σ.2 4) e t2 (q_nm (σ.2 4) e o 1 1 (q_wd (σ.2 4) e (t1.drop fm) (q_kind o kind x)))).2 = true := by
        rw [q_sig, decide_eq_false c_42, Bool.and_false]
        exact Bool.false_ne_true
      refine vr_iconst (v := 0) hE dX3_orderOf_49 (by decide) ?_
      refine vr_istore hE dX3_orderOf_50 (hnl _ (by decide)) rfl ?_
      refine vr_iload hE dX3_orderOf_52 rfl ?_
      refine vr_if_eq (tgt := 63) hE dX3_orderOf_54 (by decide) (fun c_54 => ?_) (fun c_54 => ?_)
      · skip
        refine vr_iload hE dX3_orderOf_63 rfl ?_
        refine vr_if_le (tgt := 75) hE dX3_orderOf_65 (by decide) (fun c_65 => ?_) (fun c_65 => ?_)
        · have hm0 : many = 0 := Classical.byContradiction fun z => absurd c_65 (nI_ge (a := 0) (by omega) (by omega))
          refine vr_iload hE dX3_orderOf_75 rfl ?_
          refine vr_if_eq (tgt := 107) hE dX3_orderOf_77 (by decide) (fun c_77 => ?_) (fun c_77 => ?_)
          · skip
            refine vr_return hE hQ dX3_orderOf_107 (by decide) ⟨_, ?_, fun H h => h⟩
            exact ⟨rfl, by rw [q_ord, q_tail, if_neg hsig, if_pos hm0]⟩
          · exact absurd rfl c_77
        · have hm0 : ¬ many = 0 := fun z => c_65 (by rw [z]; decide)
          refine vr_aload_n hE dX3_orderOf_68 rfl ?_
          refine vr_iconst (v := 2) hE dX3_orderOf_69 (by decide) ?_
          refine vr_iload hE dX3_orderOf_70 rfl ?_
          refine mr_call hE hA (mo_digitsOf G (setR σ 5 (q_wd (σ.2 4) e t2 (q_nm (σ.2 4) e o 1 1 (q_wd (σ.2 4) e (t1.drop fm) (q_kind o kind x)))).1) (q_wd (σ.2 4) e t2 (q_nm (σ.2 4) e o 1 1 (q_wd (σ.2 4) e (t1.drop fm) (q_kind o kind x)))).2 e he h20 o ho h21 (by assumption) 2 (by omega) many (by omega)) ok_X3_digitsOf (lw_V q2811 q2813 qs63 q82 q2814) rfl rfl (Nat.le_of_ble_eq_true rfl) (by decide) dX3_orderOf_72 ?_
          rintro v_72 u_72 ⟨rfl, hu_72⟩
          obtain rfl := hu_72.symm
          refine vr_P (P' := mo_P Y.2.1 mo ad (m_qs σ (q_nm (σ.2 4) e o 2 many (q_wd (σ.2 4) e t2 (q_nm (σ.2 4) e o 1 1 (q_wd (σ.2 4) e (t1.drop fm) (q_kind o kind x))))))) (fun H h => by rw [m_qs_put] at h; exact h) ?_
          refine vr_iload hE dX3_orderOf_75 rfl ?_
          refine vr_if_eq (tgt := 107) hE dX3_orderOf_77 (by decide) (fun c_77 => ?_) (fun c_77 => ?_)
          · skip
            refine vr_return hE hQ dX3_orderOf_107 (by decide) ⟨_, ?_, fun H h => h⟩
            exact ⟨rfl, by rw [q_ord, q_tail, if_neg hsig, if_neg hm0]⟩
          · exact absurd rfl c_77
      · exact absurd rfl c_54
    · replace c_42 : q_here (σ.2 4) e (q_wd (σ.2 4) e t2 (q_nm (σ.2 4) e o 1 1 (q_wd (σ.2 4) e (t1.drop fm) (q_kind o kind x)))).2.2 = 45 := c_42
      have hsig : q_sig (σ.2 4) e kind (q_wd (σ.2 4) e t2 (q_nm (σ.2 4) e o 1 1 (q_wd (σ.2 4) e (t1.drop fm) (q_kind o kind x)))).2 = true := by
        rw [q_sig, decide_eq_true c_42, decide_eq_true hk3]
        rfl
      refine vr_iconst (v := 1) hE dX3_orderOf_45 (by decide) ?_
      refine vr_goto (tgt := 50) hE dX3_orderOf_46 (by decide) ?_
      refine vr_istore hE dX3_orderOf_50 (hnl _ (by decide)) rfl ?_
      refine vr_iload hE dX3_orderOf_52 rfl ?_
      refine vr_if_eq (tgt := 63) hE dX3_orderOf_54 (by decide) (fun c_54 => ?_) (fun c_54 => ?_)
      · exact absurd c_54 (by decide)
      refine vr_aload_n hE dX3_orderOf_57 rfl ?_
      refine vr_bipush (v := 45) hE dX3_orderOf_58 (by decide) ?_
      refine mr_call hE hA (mo_must G (setR σ 5 (q_wd (σ.2 4) e t2 (q_nm (σ.2 4) e o 1 1 (q_wd (σ.2 4) e (t1.drop fm) (q_kind o kind x)))).1) (q_wd (σ.2 4) e t2 (q_nm (σ.2 4) e o 1 1 (q_wd (σ.2 4) e (t1.drop fm) (q_kind o kind x)))).2 e he h20 (by assumption) _) ok_X3_must (lw_V q2807 q2809 qs62 q82 q2810) rfl rfl (Nat.le_of_ble_eq_true rfl) (by decide) dX3_orderOf_60 ?_
      rintro v_60 u_60 ⟨rfl, hu_60⟩
      obtain rfl := hu_60.symm
      refine vr_P (P' := mo_P Y.2.1 mo ad (m_qs σ ((q_wd (σ.2 4) e t2 (q_nm (σ.2 4) e o 1 1 (q_wd (σ.2 4) e (t1.drop fm) (q_kind o kind x)))).1, q_must (σ.2 4) e 45 (q_wd (σ.2 4) e t2 (q_nm (σ.2 4) e o 1 1 (q_wd (σ.2 4) e (t1.drop fm) (q_kind o kind x)))).2))) (fun H h => h) ?_
      refine vr_iload hE dX3_orderOf_63 rfl ?_
      refine vr_if_le (tgt := 75) hE dX3_orderOf_65 (by decide) (fun c_65 => ?_) (fun c_65 => ?_)
      · have hm0 : many = 0 := Classical.byContradiction fun z => absurd c_65 (nI_ge (a := 0) (by omega) (by omega))
        refine vr_iload hE dX3_orderOf_75 rfl ?_
        refine vr_if_eq (tgt := 107) hE dX3_orderOf_77 (by decide) (fun c_77 => ?_) (fun c_77 => ?_)
        · exact absurd c_77 (by decide)
        refine vr_aload_n hE dX3_orderOf_80 rfl ?_
        refine mr_get hE (z := 8) (by decide) q2515 rfl rfl dX3_orderOf_81 ?_
        refine vr_iconst (v := 3) hE dX3_orderOf_84 (by decide) ?_
        refine vr_aload_n hE dX3_orderOf_85 rfl ?_
        refine mr_get hE (z := 21) (by decide) q2528 rfl rfl dX3_orderOf_86 ?_
        refine vr_imul hE dX3_orderOf_89 ?_
        refine vr_iconst (v := 2) hE dX3_orderOf_90 (by decide) ?_
        refine vr_iadd hE dX3_orderOf_91 ?_
        refine vr_aload_n hE dX3_orderOf_92 rfl ?_
        refine mr_get hE (z := 8) (by decide) q2515 rfl rfl dX3_orderOf_93 ?_
        refine vr_iconst (v := 3) hE dX3_orderOf_96 (by decide) ?_
        refine vr_aload_n hE dX3_orderOf_97 rfl ?_
        refine mr_get hE (z := 21) (by decide) q2528 rfl rfl dX3_orderOf_98 ?_
        refine vr_imul hE dX3_orderOf_101 ?_
        refine vr_iconst (v := 2) hE dX3_orderOf_102 (by decide) ?_
        refine vr_iadd hE dX3_orderOf_103 ?_
        refine mr_ald hE (j := 5) (by decide) ((congrArg (· + 2) ((congrArg (3 * ·) (show _ = nI o from h21)).trans (pk_mul 3 o))).trans (nI_add _ 2)) (by show _ < 80; omega) dX3_orderOf_104 ?_
        refine vr_ineg hE dX3_orderOf_105 ?_
        refine mr_ast hE hA (j := 5) (by decide) ((congrArg (· + 2) ((congrArg (3 * ·) (show _ = nI o from h21)).trans (pk_mul 3 o))).trans (nI_add _ 2)) (by show _ < 80; omega) dX3_orderOf_106 ?_
        refine vr_P (P' := mo_P Y.2.1 mo ad (m_qs σ (q_neg o ((q_wd (σ.2 4) e t2 (q_nm (σ.2 4) e o 1 1 (q_wd (σ.2 4) e (t1.drop fm) (q_kind o kind x)))).1, q_must (σ.2 4) e 45 (q_wd (σ.2 4) e t2 (q_nm (σ.2 4) e o 1 1 (q_wd (σ.2 4) e (t1.drop fm) (q_kind o kind x)))).2)))) (fun H h => by rw [m_qs_A] at h; exact h) ?_
        refine vr_return hE hQ dX3_orderOf_107 (by decide) ⟨_, ?_, fun H h => h⟩
        exact ⟨rfl, by rw [q_ord, q_tail, if_pos hsig, if_pos hm0]⟩
      · have hm0 : ¬ many = 0 := fun z => c_65 (by rw [z]; decide)
        refine vr_aload_n hE dX3_orderOf_68 rfl ?_
        refine vr_iconst (v := 2) hE dX3_orderOf_69 (by decide) ?_
        refine vr_iload hE dX3_orderOf_70 rfl ?_
        refine mr_call hE hA (mo_digitsOf G (setR σ 5 ((q_wd (σ.2 4) e t2 (q_nm (σ.2 4) e o 1 1 (q_wd (σ.2 4) e (t1.drop fm) (q_kind o kind x)))).1, q_must (σ.2 4) e 45 (q_wd (σ.2 4) e t2 (q_nm (σ.2 4) e o 1 1 (q_wd (σ.2 4) e (t1.drop fm) (q_kind o kind x)))).2).1) ((q_wd (σ.2 4) e t2 (q_nm (σ.2 4) e o 1 1 (q_wd (σ.2 4) e (t1.drop fm) (q_kind o kind x)))).1, q_must (σ.2 4) e 45 (q_wd (σ.2 4) e t2 (q_nm (σ.2 4) e o 1 1 (q_wd (σ.2 4) e (t1.drop fm) (q_kind o kind x)))).2).2 e he h20 o ho h21 (by assumption) 2 (by omega) many (by omega)) ok_X3_digitsOf (lw_V q2811 q2813 qs63 q82 q2814) rfl rfl (Nat.le_of_ble_eq_true rfl) (by decide) dX3_orderOf_72 ?_
        rintro v_72 u_72 ⟨rfl, hu_72⟩
        obtain rfl := hu_72.symm
        refine vr_P (P' := mo_P Y.2.1 mo ad (m_qs σ (q_nm (σ.2 4) e o 2 many ((q_wd (σ.2 4) e t2 (q_nm (σ.2 4) e o 1 1 (q_wd (σ.2 4) e (t1.drop fm) (q_kind o kind x)))).1, q_must (σ.2 4) e 45 (q_wd (σ.2 4) e t2 (q_nm (σ.2 4) e o 1 1 (q_wd (σ.2 4) e (t1.drop fm) (q_kind o kind x)))).2)))) (fun H h => by rw [m_qs_put] at h; exact h) ?_
        refine vr_iload hE dX3_orderOf_75 rfl ?_
        refine vr_if_eq (tgt := 107) hE dX3_orderOf_77 (by decide) (fun c_77 => ?_) (fun c_77 => ?_)
        · exact absurd c_77 (by decide)
        refine vr_aload_n hE dX3_orderOf_80 rfl ?_
        refine mr_get hE (z := 8) (by decide) q2515 rfl rfl dX3_orderOf_81 ?_
        refine vr_iconst (v := 3) hE dX3_orderOf_84 (by decide) ?_
        refine vr_aload_n hE dX3_orderOf_85 rfl ?_
        refine mr_get hE (z := 21) (by decide) q2528 rfl rfl dX3_orderOf_86 ?_
        refine vr_imul hE dX3_orderOf_89 ?_
        refine vr_iconst (v := 2) hE dX3_orderOf_90 (by decide) ?_
        refine vr_iadd hE dX3_orderOf_91 ?_
        refine vr_aload_n hE dX3_orderOf_92 rfl ?_
        refine mr_get hE (z := 8) (by decide) q2515 rfl rfl dX3_orderOf_93 ?_
        refine vr_iconst (v := 3) hE dX3_orderOf_96 (by decide) ?_
        refine vr_aload_n hE dX3_orderOf_97 rfl ?_
        refine mr_get hE (z := 21) (by decide) q2528 rfl rfl dX3_orderOf_98 ?_
        refine vr_imul hE dX3_orderOf_101 ?_
        refine vr_iconst (v := 2) hE dX3_orderOf_102 (by decide) ?_
        refine vr_iadd hE dX3_orderOf_103 ?_
        refine mr_ald hE (j := 5) (by decide) ((congrArg (· + 2) ((congrArg (3 * ·) (show _ = nI o from h21)).trans (pk_mul 3 o))).trans (nI_add _ 2)) (by show _ < 80; omega) dX3_orderOf_104 ?_
        refine vr_ineg hE dX3_orderOf_105 ?_
        refine mr_ast hE hA (j := 5) (by decide) ((congrArg (· + 2) ((congrArg (3 * ·) (show _ = nI o from h21)).trans (pk_mul 3 o))).trans (nI_add _ 2)) (by show _ < 80; omega) dX3_orderOf_106 ?_
        refine vr_P (P' := mo_P Y.2.1 mo ad (m_qs σ (q_neg o (q_nm (σ.2 4) e o 2 many ((q_wd (σ.2 4) e t2 (q_nm (σ.2 4) e o 1 1 (q_wd (σ.2 4) e (t1.drop fm) (q_kind o kind x)))).1, q_must (σ.2 4) e 45 (q_wd (σ.2 4) e t2 (q_nm (σ.2 4) e o 1 1 (q_wd (σ.2 4) e (t1.drop fm) (q_kind o kind x)))).2))))) (fun H h => by rw [m_qs_A] at h; exact h) ?_
        refine vr_return hE hQ dX3_orderOf_107 (by decide) ⟨_, ?_, fun H h => h⟩
        exact ⟨rfl, by rw [q_ord, q_tail, if_pos hsig, if_neg hm0]⟩
theorem ok_X3_readsOne : bi_ok yX3_readsOne RX3 0 := by decide +kernel
theorem mo_readsOne {Y : bi_Y} {mo : Nat} {ad : Nat → Nat} (G : mo_G Y mo ad) (σ : bi_S) (x : q_S) (e : Nat) (he : e ≤ 60) (h20 : σ.1 20 = nI e) (o : Nat) (ho : o ≤ 25) (h21 : σ.1 21 = nI o) (hs : x.2.2 ≤ e) : bi_Met Y yX3_readsOne (ws_ yX3_readsOne cX3_readsOne 1 none) 6 134 0 0 (mo_P Y.2.1 mo ad (m_qs σ x)) (mo_F mo ad) [.ref mo] (fun v u => v = none ∧ u = m_qs (sF σ 21 (nI (o + 1))) (q_one (σ.2 4) e o x)) bi_nx (mo_P Y.2.1 mo ad) := by
  refine bi_Met.of (own := RX3) (L0 := [some (.ref mo)]) rfl (by decide) G.1 G.2 (Nat.le_of_ble_eq_true rfl) rfl (fun X hE hQ hA hnl hnm => ?_)
  have hnl : ∀ q, q < 1 → q < bi_nL X := fun q h => by rw [hnl]; exact h
  obtain ⟨a190, v190, e190, S190⟩ := sk_X3_190 G.1
  obtain ⟨a192, v192, e192, S192⟩ := sk_X3_192 G.1
  obtain ⟨a198, v198, e198, S198⟩ := sk_X3_198 G.1
  obtain ⟨a200, v200, e200, S200⟩ := sk_X3_200 G.1
  obtain ⟨a202, v202, e202, S202⟩ := sk_X3_202 G.1
  obtain ⟨a204, v204, e204, S204⟩ := sk_X3_204 G.1
  obtain ⟨a206, v206, e206, S206⟩ := sk_X3_206 G.1
  obtain ⟨a208, v208, e208, S208⟩ := sk_X3_208 G.1
  obtain ⟨a210, v210, e210, S210⟩ := sk_X3_210 G.1
  obtain ⟨a212, v212, e212, S212⟩ := sk_X3_212 G.1
  obtain ⟨a214, v214, e214, S214⟩ := sk_X3_214 G.1
  have hsd : (q_d (σ.2 4) e x).2.2 ≤ e := (q_d_to hs).2
  refine vr_aload_n hE dX3_readsOne_0 rfl ?_
  refine mr_call hE hA (mo_here G (setR σ 5 x.1) x.2 e he h20 hs) ok_X3_here (lw_V q2791 q2793 qs59 q82 q2794) rfl rfl (Nat.le_of_ble_eq_true rfl) (by decide) dX3_readsOne_1 ?_
  rintro v_1 u_1 ⟨rfl, hu_1⟩
  obtain rfl := hu_1.symm
  refine vr_P (P' := mo_P Y.2.1 mo ad (m_qs σ x)) (fun H h => h) ?_
  refine vr_topi (fun sw_4 e_sw_4 => ?_)
  by_cases s_4_100 : sw_4 = 100
  · refine vr_lkp (off := 108) (tgt := 112) hE dX3_readsOne_4 (by decide) (by rw [s_4_100]; decide) (by decide) ?_
    refine vr_aload_n hE dX3_readsOne_112 rfl ?_
    refine vr_bipush (v := 100) hE dX3_readsOne_113 (by decide) ?_
    refine mr_call hE hA (mo_must G (setR σ 5 x.1) x.2 e he h20 hs _) ok_X3_must (lw_V q2807 q2809 qs62 q82 q2810) rfl rfl (Nat.le_of_ble_eq_true rfl) (by decide) dX3_readsOne_115 ?_
    rintro v_115 u_115 ⟨rfl, hu_115⟩
    obtain rfl := hu_115.symm
    refine vr_P (P' := mo_P Y.2.1 mo ad (m_qs σ (q_d (σ.2 4) e x))) (fun H h => h) ?_
    refine vr_aload_n hE dX3_readsOne_118 rfl ?_
    refine mr_call hE hA (mo_here G (setR σ 5 (q_d (σ.2 4) e x).1) (q_d (σ.2 4) e x).2 e he h20 hsd) ok_X3_here (lw_V q2791 q2793 qs59 q82 q2794) rfl rfl (Nat.le_of_ble_eq_true rfl) (by decide) dX3_readsOne_119 ?_
    rintro v_119 u_119 ⟨rfl, hu_119⟩
    obtain rfl := hu_119.symm
    refine vr_P (P' := mo_P Y.2.1 mo ad (m_qs σ (q_d (σ.2 4) e x))) (fun H h => h) ?_
    refine vr_bipush (v := 114) hE dX3_readsOne_122 (by decide) ?_
    refine vr_icmp_ne (tgt := 141) hE dX3_readsOne_124 (by decide) (fun c_124 => ?_) (fun c_124 => ?_)
    · replace c_124 : ¬ q_here (σ.2 4) e (q_d (σ.2 4) e x).2.2 = 114 := c_124
      refine vr_aload_n hE dX3_readsOne_141 rfl ?_
      refine mr_get hE (z := 8) (by decide) q2515 rfl rfl dX3_readsOne_142 ?_
      refine vr_iconst (v := 3) hE dX3_readsOne_145 (by decide) ?_
      refine vr_aload_n hE dX3_readsOne_146 rfl ?_
      refine mr_get hE (z := 21) (by decide) q2528 rfl rfl dX3_readsOne_147 ?_
      refine vr_imul hE dX3_readsOne_150 ?_
      refine vr_iconst (v := 5) hE dX3_readsOne_151 (by decide) ?_
      refine mr_ast hE hA (j := 5) (by decide) ((congrArg (3 * ·) (show _ = nI o from h21)).trans (pk_mul 3 o)) (by show _ < 80; omega) dX3_readsOne_152 ?_
      refine vr_P (P' := mo_P Y.2.1 mo ad (m_qs σ (q_kind o 5 (q_d (σ.2 4) e x)))) (fun H h => by rw [m_qs_A] at h; exact h) ?_
      refine vr_aload_n hE dX3_readsOne_153 rfl ?_
      refine wr_ldcS (idx := 214) hE q2823 e214 dX3_readsOne_154 ?_
      refine vr_iconst (v := 1) hE dX3_readsOne_156 (by decide) ?_
      refine mr_call hE hA (mo_word G (setR σ 5 (q_kind o 5 (q_d (σ.2 4) e x)).1) (q_kind o 5 (q_d (σ.2 4) e x)).2 e he h20 hsd a214 v214 _ _ _ S214 (by decide) 1 (by decide)) ok_X3_word (lw_V q2801 q2803 qs61 q82 q2804) rfl rfl (Nat.le_of_ble_eq_true rfl) (by decide) dX3_readsOne_157 ?_
      rintro v_157 u_157 ⟨rfl, hu_157⟩
      obtain rfl := hu_157.symm
      refine vr_P (P' := mo_P Y.2.1 mo ad (m_qs σ (q_wd (σ.2 4) e KW_days (q_kind o 5 (q_d (σ.2 4) e x))))) (fun H h => h) ?_
      have hx2 : (q_wd (σ.2 4) e KW_days (q_kind o 5 (q_d (σ.2 4) e x))).2.2 ≤ e := (q_wd_to (x := q_kind o 5 (q_d (σ.2 4) e x)) (by decide) hsd).2
      refine vr_aload_n hE dX3_readsOne_160 rfl ?_
      refine vr_iconst (v := 1) hE dX3_readsOne_161 (by decide) ?_
      refine vr_iconst (v := 2) hE dX3_readsOne_162 (by decide) ?_
      refine mr_call hE hA (mo_digitsOf G (setR σ 5 (q_wd (σ.2 4) e KW_days (q_kind o 5 (q_d (σ.2 4) e x))).1) (q_wd (σ.2 4) e KW_days (q_kind o 5 (q_d (σ.2 4) e x))).2 e he h20 o ho h21 hx2 1 (by omega) 2 (by omega)) ok_X3_digitsOf (lw_V q2811 q2813 qs63 q82 q2814) rfl rfl (Nat.le_of_ble_eq_true rfl) (by decide) dX3_readsOne_163 ?_
      rintro v_163 u_163 ⟨rfl, hu_163⟩
      obtain rfl := hu_163.symm
      refine vr_P (P' := mo_P Y.2.1 mo ad (m_qs σ (q_days (σ.2 4) e o KW_days (q_d (σ.2 4) e x)))) (fun H h => by rw [m_qs_put] at h; exact h) ?_
      refine vr_goto (tgt := 174) hE dX3_readsOne_166 (by decide) ?_
      refine vr_P (P' := mo_P Y.2.1 mo ad (m_qs σ (q_days (σ.2 4) e o KW_days (q_d (σ.2 4) e x)))) (fun H h => h) ?_
      refine vr_aload_n hE dX3_readsOne_174 rfl ?_
      refine vr_dup hE dX3_readsOne_175 rfl ?_
      refine mr_get hE (z := 21) (by decide) q2528 rfl rfl dX3_readsOne_176 ?_
      refine vr_iconst (v := 1) hE dX3_readsOne_179 (by decide) ?_
      refine vr_iadd hE dX3_readsOne_180 ?_
      refine mr_put hE hA (z := 21) (by decide) q2528 rfl rfl rfl rfl (fun _ => rfl) dX3_readsOne_181 ?_
      refine vr_return hE hQ dX3_readsOne_184 (by decide) ⟨_, ?_, fun H h => h⟩
      exact ⟨rfl, by rw [m_qs_21, show (m_qs σ _).1 21 + 1 = nI (o + 1) from (congrArg (· + 1) h21).trans (nI_1 o), q_one, if_pos (show q_here (σ.2 4) e x.2.2 = 100 from e_sw_4.symm.trans s_4_100), if_neg c_124] <;> rfl⟩
    · replace c_124 : q_here (σ.2 4) e (q_d (σ.2 4) e x).2.2 = 114 := c_124
      refine vr_aload_n hE dX3_readsOne_127 rfl ?_
      refine vr_iconst (v := 3) hE dX3_readsOne_128 (by decide) ?_
      refine wr_ldcS (idx := 210) hE q2821 e210 dX3_readsOne_129 ?_
      refine vr_iconst (v := 1) hE dX3_readsOne_131 (by decide) ?_
      refine wr_ldcS (idx := 212) hE q2822 e212 dX3_readsOne_132 ?_
      refine vr_iconst (v := 1) hE dX3_readsOne_134 (by decide) ?_
      refine mr_call hE hA (mo_orderOf G σ (q_d (σ.2 4) e x) e he h20 o ho h21 (by assumption) 3 a210 v210 _ _ _ S210 (by decide) 1 (by decide) a212 v212 _ _ _ S212 (by decide) 1 (by omega)) ok_X3_orderOf (lw_V q2797 q2799 qs60 q82 q2800) rfl rfl (Nat.le_of_ble_eq_true rfl) (by decide) dX3_readsOne_135 ?_
      rintro v_135 u_135 ⟨rfl, hu_135⟩
      obtain rfl := hu_135.symm
      refine vr_goto (tgt := 174) hE dX3_readsOne_138 (by decide) ?_
      refine vr_aload_n hE dX3_readsOne_174 rfl ?_
      refine vr_dup hE dX3_readsOne_175 rfl ?_
      refine mr_get hE (z := 21) (by decide) q2528 rfl rfl dX3_readsOne_176 ?_
      refine vr_iconst (v := 1) hE dX3_readsOne_179 (by decide) ?_
      refine vr_iadd hE dX3_readsOne_180 ?_
      refine mr_put hE hA (z := 21) (by decide) q2528 rfl rfl rfl rfl (fun _ => rfl) dX3_readsOne_181 ?_
      refine vr_return hE hQ dX3_readsOne_184 (by decide) ⟨_, ?_, fun H h => h⟩
      exact ⟨rfl, by rw [m_qs_21, show (m_qs σ _).1 21 + 1 = nI (o + 1) from (congrArg (· + 1) h21).trans (nI_1 o), q_one, if_pos (show q_here (σ.2 4) e x.2.2 = 100 from e_sw_4.symm.trans s_4_100), if_pos c_124] <;> rfl⟩
  by_cases s_4_108 : sw_4 = 108
  · refine vr_lkp (off := 52) (tgt := 56) hE dX3_readsOne_4 (by decide) (by rw [s_4_108]; decide) (by decide) ?_
    refine vr_aload_n hE dX3_readsOne_56 rfl ?_
    refine vr_iconst (v := 0) hE dX3_readsOne_57 (by decide) ?_
    refine wr_ldcS (idx := 190) hE q2795 e190 dX3_readsOne_58 ?_
    refine vr_iconst (v := 0) hE dX3_readsOne_60 (by decide) ?_
    refine wr_ldcS (idx := 192) hE q2796 e192 dX3_readsOne_61 ?_
    refine vr_iconst (v := 1) hE dX3_readsOne_63 (by decide) ?_
    refine mr_call hE hA (mo_orderOf G σ x e he h20 o ho h21 (by assumption) 0 a190 v190 _ _ _ S190 (by decide) 0 (by decide) a192 v192 _ _ _ S192 (by decide) 1 (by omega)) ok_X3_orderOf (lw_V q2797 q2799 qs60 q82 q2800) rfl rfl (Nat.le_of_ble_eq_true rfl) (by decide) dX3_readsOne_64 ?_
    rintro v_64 u_64 ⟨rfl, hu_64⟩
    obtain rfl := hu_64.symm
    refine vr_goto (tgt := 174) hE dX3_readsOne_67 (by decide) ?_
    refine vr_aload_n hE dX3_readsOne_174 rfl ?_
    refine vr_dup hE dX3_readsOne_175 rfl ?_
    refine mr_get hE (z := 21) (by decide) q2528 rfl rfl dX3_readsOne_176 ?_
    refine vr_iconst (v := 1) hE dX3_readsOne_179 (by decide) ?_
    refine vr_iadd hE dX3_readsOne_180 ?_
    refine mr_put hE hA (z := 21) (by decide) q2528 rfl rfl rfl rfl (fun _ => rfl) dX3_readsOne_181 ?_
    refine vr_return hE hQ dX3_readsOne_184 (by decide) ⟨_, ?_, fun H h => h⟩
    exact ⟨rfl, by rw [m_qs_21, show (m_qs σ _).1 21 + 1 = nI (o + 1) from (congrArg (· + 1) h21).trans (nI_1 o), q_one, if_neg (show ¬ q_here (σ.2 4) e x.2.2 = 100 from fun w => s_4_100 (e_sw_4.trans w)), if_pos (show q_here (σ.2 4) e x.2.2 = 108 from e_sw_4.symm.trans s_4_108)] <;> rfl⟩
  by_cases s_4_109 : sw_4 = 109
  · refine vr_lkp (off := 66) (tgt := 70) hE dX3_readsOne_4 (by decide) (by rw [s_4_109]; decide) (by decide) ?_
    refine vr_aload_n hE dX3_readsOne_70 rfl ?_
    refine vr_iconst (v := 1) hE dX3_readsOne_71 (by decide) ?_
    refine wr_ldcS (idx := 198) hE q2815 e198 dX3_readsOne_72 ?_
    refine vr_iconst (v := 0) hE dX3_readsOne_74 (by decide) ?_
    refine wr_ldcS (idx := 200) hE q2816 e200 dX3_readsOne_75 ?_
    refine vr_iconst (v := 0) hE dX3_readsOne_77 (by decide) ?_
    refine mr_call hE hA (mo_orderOf G σ x e he h20 o ho h21 (by assumption) 1 a198 v198 _ _ _ S198 (by decide) 0 (by decide) a200 v200 _ _ _ S200 (by decide) 0 (by omega)) ok_X3_orderOf (lw_V q2797 q2799 qs60 q82 q2800) rfl rfl (Nat.le_of_ble_eq_true rfl) (by decide) dX3_readsOne_78 ?_
    rintro v_78 u_78 ⟨rfl, hu_78⟩
    obtain rfl := hu_78.symm
    refine vr_goto (tgt := 174) hE dX3_readsOne_81 (by decide) ?_
    refine vr_aload_n hE dX3_readsOne_174 rfl ?_
    refine vr_dup hE dX3_readsOne_175 rfl ?_
    refine mr_get hE (z := 21) (by decide) q2528 rfl rfl dX3_readsOne_176 ?_
    refine vr_iconst (v := 1) hE dX3_readsOne_179 (by decide) ?_
    refine vr_iadd hE dX3_readsOne_180 ?_
    refine mr_put hE hA (z := 21) (by decide) q2528 rfl rfl rfl rfl (fun _ => rfl) dX3_readsOne_181 ?_
    refine vr_return hE hQ dX3_readsOne_184 (by decide) ⟨_, ?_, fun H h => h⟩
    exact ⟨rfl, by rw [m_qs_21, show (m_qs σ _).1 21 + 1 = nI (o + 1) from (congrArg (· + 1) h21).trans (nI_1 o), q_one, if_neg (show ¬ q_here (σ.2 4) e x.2.2 = 100 from fun w => s_4_100 (e_sw_4.trans w)), if_neg (show ¬ q_here (σ.2 4) e x.2.2 = 108 from fun w => s_4_108 (e_sw_4.trans w)), if_pos (show q_here (σ.2 4) e x.2.2 = 109 from e_sw_4.symm.trans s_4_109)] <;> rfl⟩
  by_cases s_4_112 : sw_4 = 112
  · refine vr_lkp (off := 94) (tgt := 98) hE dX3_readsOne_4 (by decide) (by rw [s_4_112]; decide) (by decide) ?_
    refine vr_aload_n hE dX3_readsOne_98 rfl ?_
    refine vr_iconst (v := 4) hE dX3_readsOne_99 (by decide) ?_
    refine wr_ldcS (idx := 206) hE q2819 e206 dX3_readsOne_100 ?_
    refine vr_iconst (v := 0) hE dX3_readsOne_102 (by decide) ?_
    refine wr_ldcS (idx := 208) hE q2820 e208 dX3_readsOne_103 ?_
    refine vr_iconst (v := 2) hE dX3_readsOne_105 (by decide) ?_
    refine mr_call hE hA (mo_orderOf G σ x e he h20 o ho h21 (by assumption) 4 a206 v206 _ _ _ S206 (by decide) 0 (by decide) a208 v208 _ _ _ S208 (by decide) 2 (by omega)) ok_X3_orderOf (lw_V q2797 q2799 qs60 q82 q2800) rfl rfl (Nat.le_of_ble_eq_true rfl) (by decide) dX3_readsOne_106 ?_
    rintro v_106 u_106 ⟨rfl, hu_106⟩
    obtain rfl := hu_106.symm
    refine vr_goto (tgt := 174) hE dX3_readsOne_109 (by decide) ?_
    refine vr_aload_n hE dX3_readsOne_174 rfl ?_
    refine vr_dup hE dX3_readsOne_175 rfl ?_
    refine mr_get hE (z := 21) (by decide) q2528 rfl rfl dX3_readsOne_176 ?_
    refine vr_iconst (v := 1) hE dX3_readsOne_179 (by decide) ?_
    refine vr_iadd hE dX3_readsOne_180 ?_
    refine mr_put hE hA (z := 21) (by decide) q2528 rfl rfl rfl rfl (fun _ => rfl) dX3_readsOne_181 ?_
    refine vr_return hE hQ dX3_readsOne_184 (by decide) ⟨_, ?_, fun H h => h⟩
    exact ⟨rfl, by rw [m_qs_21, show (m_qs σ _).1 21 + 1 = nI (o + 1) from (congrArg (· + 1) h21).trans (nI_1 o), q_one, if_neg (show ¬ q_here (σ.2 4) e x.2.2 = 100 from fun w => s_4_100 (e_sw_4.trans w)), if_neg (show ¬ q_here (σ.2 4) e x.2.2 = 108 from fun w => s_4_108 (e_sw_4.trans w)), if_neg (show ¬ q_here (σ.2 4) e x.2.2 = 109 from fun w => s_4_109 (e_sw_4.trans w)), if_pos (show q_here (σ.2 4) e x.2.2 = 112 from e_sw_4.symm.trans s_4_112)] <;> rfl⟩
  by_cases s_4_115 : sw_4 = 115
  · refine vr_lkp (off := 80) (tgt := 84) hE dX3_readsOne_4 (by decide) (by rw [s_4_115]; decide) (by decide) ?_
    refine vr_aload_n hE dX3_readsOne_84 rfl ?_
    refine vr_iconst (v := 2) hE dX3_readsOne_85 (by decide) ?_
    refine wr_ldcS (idx := 202) hE q2817 e202 dX3_readsOne_86 ?_
    refine vr_iconst (v := 0) hE dX3_readsOne_88 (by decide) ?_
    refine wr_ldcS (idx := 204) hE q2818 e204 dX3_readsOne_89 ?_
    refine vr_iconst (v := 1) hE dX3_readsOne_91 (by decide) ?_
    refine mr_call hE hA (mo_orderOf G σ x e he h20 o ho h21 (by assumption) 2 a202 v202 _ _ _ S202 (by decide) 0 (by decide) a204 v204 _ _ _ S204 (by decide) 1 (by omega)) ok_X3_orderOf (lw_V q2797 q2799 qs60 q82 q2800) rfl rfl (Nat.le_of_ble_eq_true rfl) (by decide) dX3_readsOne_92 ?_
    rintro v_92 u_92 ⟨rfl, hu_92⟩
    obtain rfl := hu_92.symm
    refine vr_goto (tgt := 174) hE dX3_readsOne_95 (by decide) ?_
    refine vr_aload_n hE dX3_readsOne_174 rfl ?_
    refine vr_dup hE dX3_readsOne_175 rfl ?_
    refine mr_get hE (z := 21) (by decide) q2528 rfl rfl dX3_readsOne_176 ?_
    refine vr_iconst (v := 1) hE dX3_readsOne_179 (by decide) ?_
    refine vr_iadd hE dX3_readsOne_180 ?_
    refine mr_put hE hA (z := 21) (by decide) q2528 rfl rfl rfl rfl (fun _ => rfl) dX3_readsOne_181 ?_
    refine vr_return hE hQ dX3_readsOne_184 (by decide) ⟨_, ?_, fun H h => h⟩
    exact ⟨rfl, by rw [m_qs_21, show (m_qs σ _).1 21 + 1 = nI (o + 1) from (congrArg (· + 1) h21).trans (nI_1 o), q_one, if_neg (show ¬ q_here (σ.2 4) e x.2.2 = 100 from fun w => s_4_100 (e_sw_4.trans w)), if_neg (show ¬ q_here (σ.2 4) e x.2.2 = 108 from fun w => s_4_108 (e_sw_4.trans w)), if_neg (show ¬ q_here (σ.2 4) e x.2.2 = 109 from fun w => s_4_109 (e_sw_4.trans w)), if_neg (show ¬ q_here (σ.2 4) e x.2.2 = 112 from fun w => s_4_112 (e_sw_4.trans w)), if_pos (show q_here (σ.2 4) e x.2.2 = 115 from e_sw_4.symm.trans s_4_115)] <;> rfl⟩
  refine vr_lkp (off := 165) (tgt := 169) hE dX3_readsOne_4 (by decide) ((lv_osw s_4_100 (by decide)).trans ((lv_osw s_4_108 (by decide)).trans ((lv_osw s_4_109 (by decide)).trans ((lv_osw s_4_112 (by decide)).trans ((lv_osw s_4_115 (by decide)).trans rfl))))) (by decide) ?_
  refine vr_aload_n hE dX3_readsOne_169 rfl ?_
  refine vr_iconst (v := 1) hE dX3_readsOne_170 (by decide) ?_
  refine mr_put hE hA (z := 22) (by decide) q2529 rfl rfl rfl rfl (fun _ => rfl) dX3_readsOne_171 ?_
  refine vr_P (P' := mo_P Y.2.1 mo ad (m_qs σ (x.1, (true, x.2.2)))) (fun H h => by rw [show (1 : Int32) = m_b true from rfl] at h; rw [show m_qs σ (x.1, (true, x.2.2)) = sF (m_qs σ x) 22 (m_b true) from (m_ps_22 (setR σ 5 x.1) x.2 true).symm]; exact h) ?_
  refine vr_aload_n hE dX3_readsOne_174 rfl ?_
  refine vr_dup hE dX3_readsOne_175 rfl ?_
  refine mr_get hE (z := 21) (by decide) q2528 rfl rfl dX3_readsOne_176 ?_
  refine vr_iconst (v := 1) hE dX3_readsOne_179 (by decide) ?_
  refine vr_iadd hE dX3_readsOne_180 ?_
  refine mr_put hE hA (z := 21) (by decide) q2528 rfl rfl rfl rfl (fun _ => rfl) dX3_readsOne_181 ?_
  refine vr_return hE hQ dX3_readsOne_184 (by decide) ⟨_, ?_, fun H h => h⟩
  exact ⟨rfl, by rw [m_qs_21, show (m_qs σ _).1 21 + 1 = nI (o + 1) from (congrArg (· + 1) h21).trans (nI_1 o), q_one, if_neg (show ¬ q_here (σ.2 4) e x.2.2 = 100 from fun w => s_4_100 (e_sw_4.trans w)), if_neg (show ¬ q_here (σ.2 4) e x.2.2 = 108 from fun w => s_4_108 (e_sw_4.trans w)), if_neg (show ¬ q_here (σ.2 4) e x.2.2 = 109 from fun w => s_4_109 (e_sw_4.trans w)), if_neg (show ¬ q_here (σ.2 4) e x.2.2 = 112 from fun w => s_4_112 (e_sw_4.trans w)), if_neg (show ¬ q_here (σ.2 4) e x.2.2 = 115 from fun w => s_4_115 (e_sw_4.trans w))] <;> rfl⟩
