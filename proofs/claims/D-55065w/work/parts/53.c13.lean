/-! the best weight -/
set_option maxRecDepth 100000
def c_best (R : cR) (s : Nat → Int32) (i : Nat) : Value := if i = 0 then .null else .ref (R.br (m_bw s (i - 1)))
theorem c_best_s (R : cR) (s : Nat → Int32) (i : Nat) : c_best R s (i + 1) = .ref (R.br (m_bw s i)) := if_neg (Nat.succ_ne_zero i)
theorem ok_X2_bestWeight : bi_ok yX2_bestWeight RX2 0 := by decide +kernel
theorem bk_X2_bestWeight {Y : bi_Y} (G : bi_GS Y) (M : va_M) (R : cR) (n w : Nat) (s : Nat → Int32) (hR : RoundM Y M R n w s) : bc_Met Y yX2_bestWeight (ws_ yX2_bestWeight cX2_bestWeight 4 (some (.object "BrassInspector$Brass"))) 3 69 1 4 M [.ref R.r] (fun v M' => v = some (c_best R s w) ∧ M' = M) bi_nx := by
  refine bc_Met.of (own := RX2) (L0 := [some (.ref R.r), none, none, none]) rfl (by decide) G (Nat.le_of_ble_eq_true rfl) rfl (fun X A hE hQ hW hnl hnm => ?_)
  have hnl : ∀ q, q < 4 → q < bi_nL X := fun q h => by rw [hnl]; exact h
  refine vr_null hE dX2_bestWeight_0 ?_
  refine vr_astore_nN hE dX2_bestWeight_1 (hnl _ (by decide)) rfl ?_
  refine vr_aload_n hE dX2_bestWeight_2 rfl ?_
  refine bc_get (z := 3) hE kc_X2 (by decide) q180 (Or.inl rfl) hR.hr rfl dX2_bestWeight_3 ?_
  refine bc_callF (ar := 0) hE (bk_J2_iterator G _ R.wl R.we w _ hR.hwl) kc_J2 hR.hwl (by decide +kernel) (lw_Fg q474 q478 q480 q75 q482) ⟨q476, q475, q481, q479, q477⟩ rfl rfl (Nat.le_of_ble_eq_true rfl) (by decide) dX2_bestWeight_6 (fun _ _ _ h => h.elim) ?_
  rintro v_6 M_6 ⟨it, rfl, hnit, e_6⟩
  refine vr_astore_n hE dX2_bestWeight_11 (hnl _ (by decide)) rfl ?_
  have hlp_12 : ∀ (c : Nat) (i : Nat) (lr : Int32) (M1 : va_M), i + c = w → M1 it = some (.inr (23, itL (nI i) lr (nI w) R.wl)) → (∀ q e, M q = some e → M1 q = some e) → bi_V Y.1 X (bc_W Y (bi_A X) M1) 1 4 12 [some (.ref R.r), some (c_best R s i), some (.ref it), none] [] := by
    intro c
    induction c with
    | zero =>
      intro i lr M1 hi hit1 hk1
      have hR1 : RoundM Y M1 R n w s := hR.ext hk1
      refine vr_aload_n hE dX2_bestWeight_12 rfl ?_
      refine bc_callF (ar := 0) hE (bk_J15_hasNext G _ it R.wl R.we w i lr _ hit1 hR1.hwl (by omega) (Nat.le_trans hR1.hw (by decide))) kc_J15 hit1 (by decide +kernel) (lw_Fg q813 q848 q850 q92 q852) ⟨q815, q814, q851, q849, q847⟩ rfl rfl (Nat.le_of_ble_eq_true rfl) (by decide) dX2_bestWeight_13 (fun _ _ _ h => h.elim) ?_
      rintro v_13 M_13 ⟨rfl, hu_13⟩
      obtain rfl := hu_13.symm
      refine vr_if_eq (tgt := 52) hE dX2_bestWeight_18 (by decide) (fun c_18 => ?_) (fun c_18 => ?_)
      · skip
        obtain rfl : i = w := by omega
        by_cases hw0 : i = 0
        · refine vr_L (L' := [some (.ref R.r), some .null, some (.ref it), none]) (by simp only [c_best]; rw [if_pos hw0]) ?_
          refine vr_aload_nN hE dX2_bestWeight_52 rfl ?_
          refine vr_areturn hE hQ (Or.inl ⟨_, rfl⟩) (Or.inl rfl) dX2_bestWeight_53 (by decide) ⟨M, ?_, fun H h => hW _ H (h.less hk1)⟩
          exact ⟨by rw [c_best, if_pos hw0], rfl⟩
        · refine vr_L (L' := [some (.ref R.r), some (.ref (R.br (m_bw s (i - 1)))), some (.ref it), none]) (by simp only [c_best]; rw [if_neg hw0]) ?_
          refine vr_aload_n hE dX2_bestWeight_52 rfl ?_
          refine vr_areturn hE hQ (Or.inl ⟨_, rfl⟩) (Or.inr ⟨_, rfl⟩) dX2_bestWeight_53 (by decide) ⟨M, ?_, fun H h => hW _ H (h.less hk1)⟩
          exact ⟨by rw [c_best, if_neg hw0], rfl⟩
      · exact absurd (if_pos (show i = w by omega)) c_18
    | succ c ih =>
      intro i lr M1 hi hit1 hk1
      have hR1 : RoundM Y M1 R n w s := hR.ext hk1
      have hn10 := hR.hn
      have hw4 := hR.hw
      refine vr_aload_n hE dX2_bestWeight_12 rfl ?_
      refine bc_callF (ar := 0) hE (bk_J15_hasNext G _ it R.wl R.we w i lr _ hit1 hR1.hwl (by omega) (Nat.le_trans hR1.hw (by decide))) kc_J15 hit1 (by decide +kernel) (lw_Fg q813 q848 q850 q92 q852) ⟨q815, q814, q851, q849, q847⟩ rfl rfl (Nat.le_of_ble_eq_true rfl) (by decide) dX2_bestWeight_13 (fun _ _ _ h => h.elim) ?_
      rintro v_13 M_13 ⟨rfl, hu_13⟩
      obtain rfl := hu_13.symm
      refine vr_if_eq (tgt := 52) hE dX2_bestWeight_18 (by decide) (fun c_18 => ?_) (fun c_18 => ?_)
      · exact absurd c_18 (by rw [if_neg (show ¬ i = w by omega)]; decide)
      skip
      by_cases hi0 : i = 0
      · refine vr_L (L' := [some (.ref R.r), some .null, some (.ref it), none]) (by simp only [c_best]; rw [if_pos hi0]) ?_
        refine vr_aload_n hE dX2_bestWeight_21 rfl ?_
        refine bc_callF (ar := 0) hE (bk_J15_next G _ it R.wl R.we w i lr _ hit1 hR1.hwl (by omega) (Nat.le_trans hR1.hw (by decide)) (lsf R.br w) (hR1.we_ (by omega)) (R.br i) (lsf_lt (by omega))) kc_J15 hit1 (by decide +kernel) (lw_Fg q863 q1049 q1051 q92 q1053) ⟨q865, q864, q1052, q1050, q847⟩ rfl rfl (Nat.le_of_ble_eq_true rfl) (by decide) dX2_bestWeight_22 (fun _ _ _ h => h.elim) ?_
        rintro v_22 M_22 ⟨rfl, e_22⟩
        have hR_r_22 := (congrFun e_22 R.r).trans ((bu_ne (bc_dist hR1.hr hit1 (bc_ci (by decide)))).trans hR1.hr)
        have hR_tl_22 := (congrFun e_22 R.tl).trans ((bu_ne (bc_dist hR1.htl hit1 (bc_ci (by decide)))).trans hR1.htl)
        have hR_wl_22 := (congrFun e_22 R.wl).trans ((bu_ne (bc_dist hR1.hwl hit1 (bc_ci (by decide)))).trans hR1.hwl)
        have h_R_br_i__22 := (congrFun e_22 (R.br i)).trans ((bu_ne (bc_dist (hR1.hbr i (by omega)) hit1 (bc_ci (by decide)))).trans (hR1.hbr i (by omega)))
        have hit_22 := (congrFun e_22 it).trans (bu_self _ _ _)
        refine vr_castS hE kc_X7.1 (bc_cls kc_X7 h_R_br_i__22) q1186 dX2_bestWeight_27 ?_
        refine vr_astore_n hE dX2_bestWeight_30 (hnl _ (by decide)) rfl ?_
        refine vr_aload_nN hE dX2_bestWeight_31 rfl ?_
        refine vr_ifnullN (tgt := 43) hE dX2_bestWeight_32 (by decide) ?_
        refine vr_aload_n hE dX2_bestWeight_43 rfl ?_
        refine vr_goto (tgt := 48) hE dX2_bestWeight_44 (by decide) ?_
        refine vr_astore_n hE dX2_bestWeight_48 (hnl _ (by decide)) rfl ?_
        refine vr_goto (tgt := 12) hE dX2_bestWeight_49 (by decide) ?_
        refine vr_drop 3 ?_
        have e9 : m_bw s i = i := by rw [hi0]; rfl
        refine vr_L (L' := [some (.ref R.r), some (c_best R s (i + 1)), some (.ref it), none]) (by rw [c_best_s, e9] <;> rfl) ?_
        exact ih (i + 1) _ M_22 (by omega) hit_22 (fun q e z => (congrFun e_22 q).trans ((bu_ne (bc_new_ne z hnit)).trans (hk1 q e z)))
      · refine vr_L (L' := [some (.ref R.r), some (.ref (R.br (m_bw s (i - 1)))), some (.ref it), none]) (by simp only [c_best]; rw [if_neg hi0]) ?_
        have hb9 := m_bw_le s (i - 1)
        have hbf := hR1.hbr (m_bw s (i - 1)) (by omega)
        refine vr_aload_n hE dX2_bestWeight_21 rfl ?_
        refine bc_callF (ar := 0) hE (bk_J15_next G _ it R.wl R.we w i lr _ hit1 hR1.hwl (by omega) (Nat.le_trans hR1.hw (by decide)) (lsf R.br w) (hR1.we_ (by omega)) (R.br i) (lsf_lt (by omega))) kc_J15 hit1 (by decide +kernel) (lw_Fg q863 q1049 q1051 q92 q1053) ⟨q865, q864, q1052, q1050, q847⟩ rfl rfl (Nat.le_of_ble_eq_true rfl) (by decide) dX2_bestWeight_22 (fun _ _ _ h => h.elim) ?_
        rintro v_22 M_22 ⟨rfl, e_22⟩
        have hR_r_22 := (congrFun e_22 R.r).trans ((bu_ne (bc_dist hR1.hr hit1 (bc_ci (by decide)))).trans hR1.hr)
        have hR_tl_22 := (congrFun e_22 R.tl).trans ((bu_ne (bc_dist hR1.htl hit1 (bc_ci (by decide)))).trans hR1.htl)
        have hR_wl_22 := (congrFun e_22 R.wl).trans ((bu_ne (bc_dist hR1.hwl hit1 (bc_ci (by decide)))).trans hR1.hwl)
        have h_R_br_i__22 := (congrFun e_22 (R.br i)).trans ((bu_ne (bc_dist (hR1.hbr i (by omega)) hit1 (bc_ci (by decide)))).trans (hR1.hbr i (by omega)))
        have h_R_br_m_bw_s_i_1__22 := (congrFun e_22 (R.br (m_bw s (i - 1)))).trans ((bu_ne (bc_dist hbf hit1 (bc_ci (by decide)))).trans hbf)
        have hit_22 := (congrFun e_22 it).trans (bu_self _ _ _)
        refine vr_castS hE kc_X7.1 (bc_cls kc_X7 h_R_br_i__22) q1186 dX2_bestWeight_27 ?_
        refine vr_astore_n hE dX2_bestWeight_30 (hnl _ (by decide)) rfl ?_
        refine vr_aload_n hE dX2_bestWeight_31 rfl ?_
        refine vr_ifnull hE dX2_bestWeight_32 ?_
        refine vr_aload_n hE dX2_bestWeight_35 rfl ?_
        refine vr_aload_n hE dX2_bestWeight_36 rfl ?_
        refine bc_callV hE (bk_X7_isBetter G _ (R.br i) _ _ _ _ h_R_br_i__22 (R.br (m_bw s (i - 1))) _ _ _ _ h_R_br_m_bw_s_i_1__22) kc_X7 h_R_br_i__22 ok_X7_isBetter (lw_V q1947 q1948 q1949 q108 q1950) rfl rfl (Nat.le_of_ble_eq_true rfl) (by decide) dX2_bestWeight_37 (fun _ _ _ h => h.elim) ?_
        rintro v_37 M_37 ⟨rfl, hu_37⟩
        obtain rfl := hu_37.symm
        refine vr_if_eq (tgt := 47) hE dX2_bestWeight_40 (by decide) (fun c_40 => ?_) (fun c_40 => ?_)
        · have ei : i - 1 + 1 = i := by omega
          refine vr_aload_n hE dX2_bestWeight_47 rfl ?_
          refine vr_astore_n hE dX2_bestWeight_48 (hnl _ (by decide)) rfl ?_
          refine vr_goto (tgt := 12) hE dX2_bestWeight_49 (by decide) ?_
          refine vr_drop 3 ?_
          have e9 : m_bw s i = m_bw s (i - 1) := (by
            have z : m_bw s (i - 1 + 1) = m_bw s (i - 1) := by
              simp only [m_bw, ei]
              rcases Classical.em (s (109 + i) = s (109 + m_bw s (i - 1))) with h9 | h9
              · rw [if_pos h9] at c_40
                rw [if_neg (by rw [h9]; exact fun y => Int32.lt_irrefl y), if_neg (fun y => y h9)]
                exact if_pos (Classical.byContradiction fun y => absurd c_40 (by rw [if_neg y]; decide))
              · rw [if_neg h9] at c_40
                have h8 : s (109 + m_bw s (i - 1)) ≤ s (109 + i) := Classical.byContradiction fun y => absurd c_40 (by rw [if_neg y]; decide)
                rw [if_neg (Int32.not_lt.mpr h8), if_pos h9]
            rw [ei] at z
            exact z)
          refine vr_L (L' := [some (.ref R.r), some (c_best R s (i + 1)), some (.ref it), none]) (by rw [c_best_s, e9] <;> rfl) ?_
          exact ih (i + 1) _ M_22 (by omega) hit_22 (fun q e z => (congrFun e_22 q).trans ((bu_ne (bc_new_ne z hnit)).trans (hk1 q e z)))
        · have ei : i - 1 + 1 = i := by omega
          refine vr_aload_n hE dX2_bestWeight_43 rfl ?_
          refine vr_goto (tgt := 48) hE dX2_bestWeight_44 (by decide) ?_
          refine vr_astore_n hE dX2_bestWeight_48 (hnl _ (by decide)) rfl ?_
          refine vr_goto (tgt := 12) hE dX2_bestWeight_49 (by decide) ?_
          refine vr_drop 3 ?_
          have e9 : m_bw s i = i := (by
            have z : m_bw s (i - 1 + 1) = i := by
              simp only [m_bw, ei]
              rcases Classical.em (s (109 + i) = s (109 + m_bw s (i - 1))) with h9 | h9
              · rw [if_pos h9] at c_40
                rw [if_neg (by rw [h9]; exact fun y => Int32.lt_irrefl y), if_neg (fun y => y h9)]
                exact if_neg (fun y => c_40 (if_pos y))
              · rw [if_neg h9] at c_40
                exact if_pos (Int32.not_le.mp (fun y => c_40 (if_pos y)))
            rw [ei] at z
            exact z)
          refine vr_L (L' := [some (.ref R.r), some (c_best R s (i + 1)), some (.ref it), none]) (by rw [c_best_s, e9] <;> rfl) ?_
          exact ih (i + 1) _ M_22 (by omega) hit_22 (fun q e z => (congrFun e_22 q).trans ((bu_ne (bc_new_ne z hnit)).trans (hk1 q e z)))
  exact hlp_12 w 0 _ M_6 (Nat.zero_add _) ((congrFun e_6 it).trans (bu_self _ _ _)) (fun q e z => (congrFun e_6 q).trans ((bu_ne (bc_new_ne z hnit)).trans z))
