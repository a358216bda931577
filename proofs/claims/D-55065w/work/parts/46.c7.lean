/-! the round's loops -/
set_option maxRecDepth 100000
theorem ok_X2_finesOfTraders : bi_ok yX2_finesOfTraders RX2 0 := by decide +kernel
theorem bk_X2_finesOfTraders {Y : bi_Y} (G : bi_GS Y) (M : va_M) (R : cR) (n w : Nat) (s : Nat → Int32) (hR : RoundM Y M R n w s) : bc_Met Y yX2_finesOfTraders (ws_ yX2_finesOfTraders cX2_finesOfTraders 4 (some .int)) 3 69 1 4 M [.ref R.r] (fun v M' => v = some (.int (m_sum s 85 n)) ∧ M' = M) bi_nx := by
  refine bc_Met.of (own := RX2) (L0 := [some (.ref R.r), none, none, none]) rfl (by decide) G (Nat.le_of_ble_eq_true rfl) rfl (fun X A hE hQ hW hnl hnm => ?_)
  have hnl : ∀ q, q < 4 → q < bi_nL X := fun q h => by rw [hnl]; exact h
  refine vr_iconst (v := 0) hE dX2_finesOfTraders_0 (by decide) ?_
  refine vr_istore_n hE dX2_finesOfTraders_1 (hnl _ (by decide)) rfl ?_
  refine vr_aload_n hE dX2_finesOfTraders_2 rfl ?_
  refine bc_get (z := 2) hE kc_X2 (by decide) q178 (Or.inl rfl) hR.hr rfl dX2_finesOfTraders_3 ?_
  refine bc_callF (ar := 0) hE (bk_J2_iterator G _ R.tl R.te n _ hR.htl) kc_J2 hR.htl (by decide +kernel) (lw_Fg q474 q478 q480 q75 q482) ⟨q476, q475, q481, q479, q477⟩ rfl rfl (Nat.le_of_ble_eq_true rfl) (by decide) dX2_finesOfTraders_6 (fun _ _ _ h => h.elim) ?_
  rintro v_6 M_6 ⟨it, rfl, hnit, e_6⟩
  refine vr_astore_n hE dX2_finesOfTraders_11 (hnl _ (by decide)) rfl ?_
  have hlp_12 : ∀ (c : Nat) (i : Nat) (lr : Int32) (M1 : va_M), i + c = n → M1 it = some (.inr (23, itL (nI i) lr (nI n) R.tl)) → (∀ q e, M q = some e → M1 q = some e) → bi_V Y.1 X (bc_W Y (bi_A X) M1) 1 4 12 [some (.ref R.r), some (.int (m_sum s 85 i)), some (.ref it), none] [] := by
    intro c
    induction c with
    | zero =>
      intro i lr M1 hi hit1 hk1
      have hR1 : RoundM Y M1 R n w s := hR.ext hk1
      refine vr_aload_n hE dX2_finesOfTraders_12 rfl ?_
      refine bc_callF (ar := 0) hE (bk_J15_hasNext G _ it R.tl R.te n i lr _ hit1 hR1.htl (by omega) hR1.hn) kc_J15 hit1 (by decide +kernel) (lw_Fg q813 q848 q850 q92 q852) ⟨q815, q814, q851, q849, q847⟩ rfl rfl (Nat.le_of_ble_eq_true rfl) (by decide) dX2_finesOfTraders_13 (fun _ _ _ h => h.elim) ?_
      rintro v_13 M_13 ⟨rfl, hu_13⟩
      obtain rfl := hu_13.symm
      refine vr_if_eq (tgt := 41) hE dX2_finesOfTraders_18 (by decide) (fun c_18 => ?_) (fun c_18 => ?_)
      · skip
        refine vr_iload_n hE dX2_finesOfTraders_41 rfl ?_
        refine vr_ireturn hE hQ rfl dX2_finesOfTraders_42 (by decide) ⟨M, ?_, fun H h => hW _ H (h.less hk1)⟩
        exact ⟨by rw [show i = n by omega], rfl⟩
      · exact absurd (if_pos (show i = n by omega)) c_18
    | succ c ih =>
      intro i lr M1 hi hit1 hk1
      have hR1 : RoundM Y M1 R n w s := hR.ext hk1
      have hn10 := hR.hn
      have hw4 := hR.hw
      refine vr_aload_n hE dX2_finesOfTraders_12 rfl ?_
      refine bc_callF (ar := 0) hE (bk_J15_hasNext G _ it R.tl R.te n i lr _ hit1 hR1.htl (by omega) hR1.hn) kc_J15 hit1 (by decide +kernel) (lw_Fg q813 q848 q850 q92 q852) ⟨q815, q814, q851, q849, q847⟩ rfl rfl (Nat.le_of_ble_eq_true rfl) (by decide) dX2_finesOfTraders_13 (fun _ _ _ h => h.elim) ?_
      rintro v_13 M_13 ⟨rfl, hu_13⟩
      obtain rfl := hu_13.symm
      refine vr_if_eq (tgt := 41) hE dX2_finesOfTraders_18 (by decide) (fun c_18 => ?_) (fun c_18 => ?_)
      · exact absurd c_18 (by rw [if_neg (show ¬ i = n by omega)]; decide)
      skip
      refine vr_aload_n hE dX2_finesOfTraders_21 rfl ?_
      refine bc_callF (ar := 0) hE (bk_J15_next G _ it R.tl R.te n i lr _ hit1 hR1.htl (by omega) hR1.hn (lsf R.tr n) (hR1.te_ (by omega)) (R.tr i) (lsf_lt (by omega))) kc_J15 hit1 (by decide +kernel) (lw_Fg q863 q1049 q1051 q92 q1053) ⟨q865, q864, q1052, q1050, q847⟩ rfl rfl (Nat.le_of_ble_eq_true rfl) (by decide) dX2_finesOfTraders_22 (fun _ _ _ h => h.elim) ?_
      rintro v_22 M_22 ⟨rfl, e_22⟩
      have hR_r_22 := (congrFun e_22 R.r).trans ((bu_ne (bc_dist hR1.hr hit1 (bc_ci (by decide)))).trans hR1.hr)
      have hR_tl_22 := (congrFun e_22 R.tl).trans ((bu_ne (bc_dist hR1.htl hit1 (bc_ci (by decide)))).trans hR1.htl)
      have hR_wl_22 := (congrFun e_22 R.wl).trans ((bu_ne (bc_dist hR1.hwl hit1 (bc_ci (by decide)))).trans hR1.hwl)
      have h_R_tr_i__22 := (congrFun e_22 (R.tr i)).trans ((bu_ne (bc_dist (hR1.htr i (by omega)) hit1 (bc_ci (by decide)))).trans (hR1.htr i (by omega)))
      have hit_22 := (congrFun e_22 it).trans (bu_self _ _ _)
      refine vr_castS hE kc_X6.1 (bc_cls kc_X6 h_R_tr_i__22) q1076 dX2_finesOfTraders_27 ?_
      refine vr_astore_n hE dX2_finesOfTraders_30 (hnl _ (by decide)) rfl ?_
      refine vr_iload_n hE dX2_finesOfTraders_31 rfl ?_
      refine vr_aload_n hE dX2_finesOfTraders_32 rfl ?_
      refine bc_callV hE (bk_X6_fined G _ (R.tr i) R.r _ _ _ _ _ _ _ _ _ _ h_R_tr_i__22) kc_X6 h_R_tr_i__22 ok_X6_fined (lw_V q2418 q1790 q1791 q106 q1792) rfl rfl (Nat.le_of_ble_eq_true rfl) (by decide) dX2_finesOfTraders_33 (fun _ _ _ h => h.elim) ?_
      rintro v_33 M_33 ⟨rfl, hu_33⟩
      obtain rfl := hu_33.symm
      refine vr_iadd hE dX2_finesOfTraders_36 ?_
      refine vr_istore_n hE dX2_finesOfTraders_37 (hnl _ (by decide)) rfl ?_
      refine vr_goto (tgt := 12) hE dX2_finesOfTraders_38 (by decide) ?_
      refine vr_drop 3 ?_
      exact ih (i + 1) _ M_22 (by omega) hit_22 (fun q e z => (congrFun e_22 q).trans ((bu_ne (bc_new_ne z hnit)).trans (hk1 q e z)))
  exact hlp_12 n 0 _ M_6 (Nat.zero_add _) ((congrFun e_6 it).trans (bu_self _ _ _)) (fun q e z => (congrFun e_6 q).trans ((bu_ne (bc_new_ne z hnit)).trans z))
theorem ok_X2_wear : bi_ok yX2_wear RX2 0 := by decide +kernel
theorem bk_X2_wear {Y : bi_Y} (G : bi_GS Y) (M : va_M) (R : cR) (n w : Nat) (s : Nat → Int32) (hR : RoundM Y M R n w s) : bc_Met Y yX2_wear (ws_ yX2_wear cX2_wear 4 (some .int)) 3 69 1 4 M [.ref R.r] (fun v M' => v = some (.int (m_sum s 109 w)) ∧ M' = M) bi_nx := by
  refine bc_Met.of (own := RX2) (L0 := [some (.ref R.r), none, none, none]) rfl (by decide) G (Nat.le_of_ble_eq_true rfl) rfl (fun X A hE hQ hW hnl hnm => ?_)
  have hnl : ∀ q, q < 4 → q < bi_nL X := fun q h => by rw [hnl]; exact h
  refine vr_iconst (v := 0) hE dX2_wear_0 (by decide) ?_
  refine vr_istore_n hE dX2_wear_1 (hnl _ (by decide)) rfl ?_
  refine vr_aload_n hE dX2_wear_2 rfl ?_
  refine bc_get (z := 3) hE kc_X2 (by decide) q180 (Or.inl rfl) hR.hr rfl dX2_wear_3 ?_
  refine bc_callF (ar := 0) hE (bk_J2_iterator G _ R.wl R.we w _ hR.hwl) kc_J2 hR.hwl (by decide +kernel) (lw_Fg q474 q478 q480 q75 q482) ⟨q476, q475, q481, q479, q477⟩ rfl rfl (Nat.le_of_ble_eq_true rfl) (by decide) dX2_wear_6 (fun _ _ _ h => h.elim) ?_
  rintro v_6 M_6 ⟨it, rfl, hnit, e_6⟩
  refine vr_astore_n hE dX2_wear_11 (hnl _ (by decide)) rfl ?_
  have hlp_12 : ∀ (c : Nat) (i : Nat) (lr : Int32) (M1 : va_M), i + c = w → M1 it = some (.inr (23, itL (nI i) lr (nI w) R.wl)) → (∀ q e, M q = some e → M1 q = some e) → bi_V Y.1 X (bc_W Y (bi_A X) M1) 1 4 12 [some (.ref R.r), some (.int (m_sum s 109 i)), some (.ref it), none] [] := by
    intro c
    induction c with
    | zero =>
      intro i lr M1 hi hit1 hk1
      have hR1 : RoundM Y M1 R n w s := hR.ext hk1
      refine vr_aload_n hE dX2_wear_12 rfl ?_
      refine bc_callF (ar := 0) hE (bk_J15_hasNext G _ it R.wl R.we w i lr _ hit1 hR1.hwl (by omega) (Nat.le_trans hR1.hw (by decide))) kc_J15 hit1 (by decide +kernel) (lw_Fg q813 q848 q850 q92 q852) ⟨q815, q814, q851, q849, q847⟩ rfl rfl (Nat.le_of_ble_eq_true rfl) (by decide) dX2_wear_13 (fun _ _ _ h => h.elim) ?_
      rintro v_13 M_13 ⟨rfl, hu_13⟩
      obtain rfl := hu_13.symm
      refine vr_if_eq (tgt := 41) hE dX2_wear_18 (by decide) (fun c_18 => ?_) (fun c_18 => ?_)
      · skip
        refine vr_iload_n hE dX2_wear_41 rfl ?_
        refine vr_ireturn hE hQ rfl dX2_wear_42 (by decide) ⟨M, ?_, fun H h => hW _ H (h.less hk1)⟩
        exact ⟨by rw [show i = w by omega], rfl⟩
      · exact absurd (if_pos (show i = w by omega)) c_18
    | succ c ih =>
      intro i lr M1 hi hit1 hk1
      have hR1 : RoundM Y M1 R n w s := hR.ext hk1
      have hn10 := hR.hn
      have hw4 := hR.hw
      refine vr_aload_n hE dX2_wear_12 rfl ?_
      refine bc_callF (ar := 0) hE (bk_J15_hasNext G _ it R.wl R.we w i lr _ hit1 hR1.hwl (by omega) (Nat.le_trans hR1.hw (by decide))) kc_J15 hit1 (by decide +kernel) (lw_Fg q813 q848 q850 q92 q852) ⟨q815, q814, q851, q849, q847⟩ rfl rfl (Nat.le_of_ble_eq_true rfl) (by decide) dX2_wear_13 (fun _ _ _ h => h.elim) ?_
      rintro v_13 M_13 ⟨rfl, hu_13⟩
      obtain rfl := hu_13.symm
      refine vr_if_eq (tgt := 41) hE dX2_wear_18 (by decide) (fun c_18 => ?_) (fun c_18 => ?_)
      · exact absurd c_18 (by rw [if_neg (show ¬ i = w by omega)]; decide)
      skip
      refine vr_aload_n hE dX2_wear_21 rfl ?_
      refine bc_callF (ar := 0) hE (bk_J15_next G _ it R.wl R.we w i lr _ hit1 hR1.hwl (by omega) (Nat.le_trans hR1.hw (by decide)) (lsf R.br w) (hR1.we_ (by omega)) (R.br i) (lsf_lt (by omega))) kc_J15 hit1 (by decide +kernel) (lw_Fg q863 q1049 q1051 q92 q1053) ⟨q865, q864, q1052, q1050, q847⟩ rfl rfl (Nat.le_of_ble_eq_true rfl) (by decide) dX2_wear_22 (fun _ _ _ h => h.elim) ?_
      rintro v_22 M_22 ⟨rfl, e_22⟩
      have hR_r_22 := (congrFun e_22 R.r).trans ((bu_ne (bc_dist hR1.hr hit1 (bc_ci (by decide)))).trans hR1.hr)
      have hR_tl_22 := (congrFun e_22 R.tl).trans ((bu_ne (bc_dist hR1.htl hit1 (bc_ci (by decide)))).trans hR1.htl)
      have hR_wl_22 := (congrFun e_22 R.wl).trans ((bu_ne (bc_dist hR1.hwl hit1 (bc_ci (by decide)))).trans hR1.hwl)
      have h_R_br_i__22 := (congrFun e_22 (R.br i)).trans ((bu_ne (bc_dist (hR1.hbr i (by omega)) hit1 (bc_ci (by decide)))).trans (hR1.hbr i (by omega)))
      have hit_22 := (congrFun e_22 it).trans (bu_self _ _ _)
      refine vr_castS hE kc_X7.1 (bc_cls kc_X7 h_R_br_i__22) q1186 dX2_wear_27 ?_
      refine vr_astore_n hE dX2_wear_30 (hnl _ (by decide)) rfl ?_
      refine vr_iload_n hE dX2_wear_31 rfl ?_
      refine vr_aload_n hE dX2_wear_32 rfl ?_
      refine bc_callV hE (bk_X7_wear G _ (R.br i) _ _ _ _ h_R_br_i__22) kc_X7 h_R_br_i__22 ok_X7_wear (lw_V q1286 q1287 q1288 q108 q1289) rfl rfl (Nat.le_of_ble_eq_true rfl) (by decide) dX2_wear_33 (fun _ _ _ h => h.elim) ?_
      rintro v_33 M_33 ⟨rfl, hu_33⟩
      obtain rfl := hu_33.symm
      refine vr_iadd hE dX2_wear_36 ?_
      refine vr_istore_n hE dX2_wear_37 (hnl _ (by decide)) rfl ?_
      refine vr_goto (tgt := 12) hE dX2_wear_38 (by decide) ?_
      refine vr_drop 3 ?_
      exact ih (i + 1) _ M_22 (by omega) hit_22 (fun q e z => (congrFun e_22 q).trans ((bu_ne (bc_new_ne z hnit)).trans (hk1 q e z)))
  exact hlp_12 w 0 _ M_6 (Nat.zero_add _) ((congrFun e_6 it).trans (bu_self _ _ _)) (fun q e z => (congrFun e_6 q).trans ((bu_ne (bc_new_ne z hnit)).trans z))
theorem ok_X2_barred : bi_ok yX2_barred RX2 0 := by decide +kernel
theorem bk_X2_barred {Y : bi_Y} (G : bi_GS Y) (M : va_M) (R : cR) (n w : Nat) (s : Nat → Int32) (hR : RoundM Y M R n w s) : bc_Met Y yX2_barred (ws_ yX2_barred cX2_barred 4 (some .int)) 3 69 1 4 M [.ref R.r] (fun v M' => v = some (.int (m_bars s n)) ∧ M' = M) bi_nx := by
  refine bc_Met.of (own := RX2) (L0 := [some (.ref R.r), none, none, none]) rfl (by decide) G (Nat.le_of_ble_eq_true rfl) rfl (fun X A hE hQ hW hnl hnm => ?_)
  have hnl : ∀ q, q < 4 → q < bi_nL X := fun q h => by rw [hnl]; exact h
  refine vr_iconst (v := 0) hE dX2_barred_0 (by decide) ?_
  refine vr_istore_n hE dX2_barred_1 (hnl _ (by decide)) rfl ?_
  refine vr_aload_n hE dX2_barred_2 rfl ?_
  refine bc_get (z := 2) hE kc_X2 (by decide) q178 (Or.inl rfl) hR.hr rfl dX2_barred_3 ?_
  refine bc_callF (ar := 0) hE (bk_J2_iterator G _ R.tl R.te n _ hR.htl) kc_J2 hR.htl (by decide +kernel) (lw_Fg q474 q478 q480 q75 q482) ⟨q476, q475, q481, q479, q477⟩ rfl rfl (Nat.le_of_ble_eq_true rfl) (by decide) dX2_barred_6 (fun _ _ _ h => h.elim) ?_
  rintro v_6 M_6 ⟨it, rfl, hnit, e_6⟩
  refine vr_astore_n hE dX2_barred_11 (hnl _ (by decide)) rfl ?_
  have hlp_12 : ∀ (c : Nat) (i : Nat) (lr : Int32) (M1 : va_M), i + c = n → M1 it = some (.inr (23, itL (nI i) lr (nI n) R.tl)) → (∀ q e, M q = some e → M1 q = some e) → bi_V Y.1 X (bc_W Y (bi_A X) M1) 1 4 12 [some (.ref R.r), some (.int (m_bars s i)), some (.ref it), none] [] := by
    intro c
    induction c with
    | zero =>
      intro i lr M1 hi hit1 hk1
      have hR1 : RoundM Y M1 R n w s := hR.ext hk1
      refine vr_aload_n hE dX2_barred_12 rfl ?_
      refine bc_callF (ar := 0) hE (bk_J15_hasNext G _ it R.tl R.te n i lr _ hit1 hR1.htl (by omega) hR1.hn) kc_J15 hit1 (by decide +kernel) (lw_Fg q813 q848 q850 q92 q852) ⟨q815, q814, q851, q849, q847⟩ rfl rfl (Nat.le_of_ble_eq_true rfl) (by decide) dX2_barred_13 (fun _ _ _ h => h.elim) ?_
      rintro v_13 M_13 ⟨rfl, hu_13⟩
      obtain rfl := hu_13.symm
      refine vr_if_eq (tgt := 49) hE dX2_barred_18 (by decide) (fun c_18 => ?_) (fun c_18 => ?_)
      · skip
        refine vr_iload_n hE dX2_barred_49 rfl ?_
        refine vr_ireturn hE hQ rfl dX2_barred_50 (by decide) ⟨M, ?_, fun H h => hW _ H (h.less hk1)⟩
        exact ⟨by rw [show i = n by omega], rfl⟩
      · exact absurd (if_pos (show i = n by omega)) c_18
    | succ c ih =>
      intro i lr M1 hi hit1 hk1
      have hR1 : RoundM Y M1 R n w s := hR.ext hk1
      have hn10 := hR.hn
      have hw4 := hR.hw
      refine vr_aload_n hE dX2_barred_12 rfl ?_
      refine bc_callF (ar := 0) hE (bk_J15_hasNext G _ it R.tl R.te n i lr _ hit1 hR1.htl (by omega) hR1.hn) kc_J15 hit1 (by decide +kernel) (lw_Fg q813 q848 q850 q92 q852) ⟨q815, q814, q851, q849, q847⟩ rfl rfl (Nat.le_of_ble_eq_true rfl) (by decide) dX2_barred_13 (fun _ _ _ h => h.elim) ?_
      rintro v_13 M_13 ⟨rfl, hu_13⟩
      obtain rfl := hu_13.symm
      refine vr_if_eq (tgt := 49) hE dX2_barred_18 (by decide) (fun c_18 => ?_) (fun c_18 => ?_)
      · exact absurd c_18 (by rw [if_neg (show ¬ i = n by omega)]; decide)
      skip
      refine vr_aload_n hE dX2_barred_21 rfl ?_
      refine bc_callF (ar := 0) hE (bk_J15_next G _ it R.tl R.te n i lr _ hit1 hR1.htl (by omega) hR1.hn (lsf R.tr n) (hR1.te_ (by omega)) (R.tr i) (lsf_lt (by omega))) kc_J15 hit1 (by decide +kernel) (lw_Fg q863 q1049 q1051 q92 q1053) ⟨q865, q864, q1052, q1050, q847⟩ rfl rfl (Nat.le_of_ble_eq_true rfl) (by decide) dX2_barred_22 (fun _ _ _ h => h.elim) ?_
      rintro v_22 M_22 ⟨rfl, e_22⟩
      have hR_r_22 := (congrFun e_22 R.r).trans ((bu_ne (bc_dist hR1.hr hit1 (bc_ci (by decide)))).trans hR1.hr)
      have hR_tl_22 := (congrFun e_22 R.tl).trans ((bu_ne (bc_dist hR1.htl hit1 (bc_ci (by decide)))).trans hR1.htl)
      have hR_wl_22 := (congrFun e_22 R.wl).trans ((bu_ne (bc_dist hR1.hwl hit1 (bc_ci (by decide)))).trans hR1.hwl)
      have h_R_tr_i__22 := (congrFun e_22 (R.tr i)).trans ((bu_ne (bc_dist (hR1.htr i (by omega)) hit1 (bc_ci (by decide)))).trans (hR1.htr i (by omega)))
      have hit_22 := (congrFun e_22 it).trans (bu_self _ _ _)
      refine vr_castS hE kc_X6.1 (bc_cls kc_X6 h_R_tr_i__22) q1076 dX2_barred_27 ?_
      refine vr_astore_n hE dX2_barred_30 (hnl _ (by decide)) rfl ?_
      refine vr_iload_n hE dX2_barred_31 rfl ?_
      refine vr_aload_n hE dX2_barred_32 rfl ?_
      refine bc_callV hE (bk_X6_isBarred G _ (R.tr i) R.r _ _ _ _ _ _ _ _ _ _ h_R_tr_i__22) kc_X6 h_R_tr_i__22 ok_X6_isBarred (lw_V q1380 q1381 q1382 q106 q1383) rfl rfl (Nat.le_of_ble_eq_true rfl) (by decide) dX2_barred_33 (fun _ _ _ h => h.elim) ?_
      rintro v_33 M_33 ⟨rfl, hu_33⟩
      obtain rfl := hu_33.symm
      apply vt_if_eq (tgt := 43) (J := 44) hE dX2_barred_36 (by decide)
      · intro c_36 kt1
        refine vr_iconst (v := 0) hE dX2_barred_43 (by decide) ?_
        exact kt1
      · intro c_36 kf1
        refine vr_iconst (v := 1) hE dX2_barred_39 (by decide) ?_
        refine vr_goto (tgt := 44) hE dX2_barred_40 (by decide) ?_
        exact kf1
      refine vr_iadd hE dX2_barred_44 ?_
      refine vr_istore_n hE dX2_barred_45 (hnl _ (by decide)) rfl ?_
      refine vr_goto (tgt := 12) hE dX2_barred_46 (by decide) ?_
      refine vr_drop 3 ?_
      exact ih (i + 1) _ M_22 (by omega) hit_22 (fun q e z => (congrFun e_22 q).trans ((bu_ne (bc_new_ne z hnit)).trans (hk1 q e z)))
  exact hlp_12 n 0 _ M_6 (Nat.zero_add _) ((congrFun e_6 it).trans (bu_self _ _ _)) (fun q e z => (congrFun e_6 q).trans ((bu_ne (bc_new_ne z hnit)).trans z))
theorem ok_X2_ofTraders : bi_ok yX2_ofTraders RX2 1 := by decide +kernel
theorem bk_X2_ofT0 {Y : bi_Y} (G : bi_GS Y) (M : va_M) (R : cR) (n w : Nat) (s : Nat → Int32) (hR : RoundM Y M R n w s) : bc_Met Y yX2_ofTraders (ws_ yX2_ofTraders cX2_ofTraders 5 (some .int)) 3 69 1 4 M [.ref R.r, .int 0] (fun v M' => v = some (.int (m_sum s 25 n)) ∧ M' = M) bi_nx := by
  refine bc_Met.of (own := RX2) (L0 := [some (.ref R.r), some (.int 0), none, none, none]) rfl (by decide) G (Nat.le_of_ble_eq_true rfl) rfl (fun X A hE hQ hW hnl hnm => ?_)
  have hnl : ∀ q, q < 5 → q < bi_nL X := fun q h => by rw [hnl]; exact h
  refine vr_iconst (v := 0) hE dX2_ofTraders_0 (by decide) ?_
  refine vr_istore_n hE dX2_ofTraders_1 (hnl _ (by decide)) rfl ?_
  refine vr_aload_n hE dX2_ofTraders_2 rfl ?_
  refine bc_get (z := 2) hE kc_X2 (by decide) q178 (Or.inl rfl) hR.hr rfl dX2_ofTraders_3 ?_
  refine bc_callF (ar := 0) hE (bk_J2_iterator G _ R.tl R.te n _ hR.htl) kc_J2 hR.htl (by decide +kernel) (lw_Fg q474 q478 q480 q75 q482) ⟨q476, q475, q481, q479, q477⟩ rfl rfl (Nat.le_of_ble_eq_true rfl) (by decide) dX2_ofTraders_6 (fun _ _ _ h => h.elim) ?_
  rintro v_6 M_6 ⟨it, rfl, hnit, e_6⟩
  refine vr_astore_n hE dX2_ofTraders_11 (hnl _ (by decide)) rfl ?_
  have hlp_12 : ∀ (c : Nat) (i : Nat) (lr : Int32) (M1 : va_M), i + c = n → M1 it = some (.inr (23, itL (nI i) lr (nI n) R.tl)) → (∀ q e, M q = some e → M1 q = some e) → bi_V Y.1 X (bc_W Y (bi_A X) M1) 1 4 12 [some (.ref R.r), some (.int 0), some (.int (m_sum s 25 i)), some (.ref it), none] [] := by
    intro c
    induction c with
    | zero =>
      intro i lr M1 hi hit1 hk1
      have hR1 : RoundM Y M1 R n w s := hR.ext hk1
      refine vr_aload_n hE dX2_ofTraders_12 rfl ?_
      refine bc_callF (ar := 0) hE (bk_J15_hasNext G _ it R.tl R.te n i lr _ hit1 hR1.htl (by omega) hR1.hn) kc_J15 hit1 (by decide +kernel) (lw_Fg q813 q848 q850 q92 q852) ⟨q815, q814, q851, q849, q847⟩ rfl rfl (Nat.le_of_ble_eq_true rfl) (by decide) dX2_ofTraders_13 (fun _ _ _ h => h.elim) ?_
      rintro v_13 M_13 ⟨rfl, hu_13⟩
      obtain rfl := hu_13.symm
      refine vr_if_eq (tgt := 81) hE dX2_ofTraders_18 (by decide) (fun c_18 => ?_) (fun c_18 => ?_)
      · skip
        refine vr_iload_n hE dX2_ofTraders_81 rfl ?_
        refine vr_ireturn hE hQ rfl dX2_ofTraders_82 (by decide) ⟨M, ?_, fun H h => hW _ H (h.less hk1)⟩
        exact ⟨by rw [show i = n by omega], rfl⟩
      · exact absurd (if_pos (show i = n by omega)) c_18
    | succ c ih =>
      intro i lr M1 hi hit1 hk1
      have hR1 : RoundM Y M1 R n w s := hR.ext hk1
      have hn10 := hR.hn
      have hw4 := hR.hw
      refine vr_aload_n hE dX2_ofTraders_12 rfl ?_
      refine bc_callF (ar := 0) hE (bk_J15_hasNext G _ it R.tl R.te n i lr _ hit1 hR1.htl (by omega) hR1.hn) kc_J15 hit1 (by decide +kernel) (lw_Fg q813 q848 q850 q92 q852) ⟨q815, q814, q851, q849, q847⟩ rfl rfl (Nat.le_of_ble_eq_true rfl) (by decide) dX2_ofTraders_13 (fun _ _ _ h => h.elim) ?_
      rintro v_13 M_13 ⟨rfl, hu_13⟩
      obtain rfl := hu_13.symm
      refine vr_if_eq (tgt := 81) hE dX2_ofTraders_18 (by decide) (fun c_18 => ?_) (fun c_18 => ?_)
      · exact absurd c_18 (by rw [if_neg (show ¬ i = n by omega)]; decide)
      skip
      refine vr_aload_n hE dX2_ofTraders_21 rfl ?_
      refine bc_callF (ar := 0) hE (bk_J15_next G _ it R.tl R.te n i lr _ hit1 hR1.htl (by omega) hR1.hn (lsf R.tr n) (hR1.te_ (by omega)) (R.tr i) (lsf_lt (by omega))) kc_J15 hit1 (by decide +kernel) (lw_Fg q863 q1049 q1051 q92 q1053) ⟨q865, q864, q1052, q1050, q847⟩ rfl rfl (Nat.le_of_ble_eq_true rfl) (by decide) dX2_ofTraders_22 (fun _ _ _ h => h.elim) ?_
      rintro v_22 M_22 ⟨rfl, e_22⟩
      have hR_r_22 := (congrFun e_22 R.r).trans ((bu_ne (bc_dist hR1.hr hit1 (bc_ci (by decide)))).trans hR1.hr)
      have hR_tl_22 := (congrFun e_22 R.tl).trans ((bu_ne (bc_dist hR1.htl hit1 (bc_ci (by decide)))).trans hR1.htl)
      have hR_wl_22 := (congrFun e_22 R.wl).trans ((bu_ne (bc_dist hR1.hwl hit1 (bc_ci (by decide)))).trans hR1.hwl)
      have h_R_tr_i__22 := (congrFun e_22 (R.tr i)).trans ((bu_ne (bc_dist (hR1.htr i (by omega)) hit1 (bc_ci (by decide)))).trans (hR1.htr i (by omega)))
      have hit_22 := (congrFun e_22 it).trans (bu_self _ _ _)
      refine vr_castS hE kc_X6.1 (bc_cls kc_X6 h_R_tr_i__22) q1076 dX2_ofTraders_27 ?_
      refine vr_astore hE dX2_ofTraders_30 (hnl _ (by decide)) rfl ?_
      refine vr_iload_n hE dX2_ofTraders_32 rfl ?_
      refine vr_iload_n hE dX2_ofTraders_33 rfl ?_
      refine vr_if_ne (tgt := 45) hE dX2_ofTraders_34 (by decide) (fun c_34 => ?_) (fun c_34 => ?_)
      · exact absurd c_34 (by decide)
      skip
      refine vr_aload hE dX2_ofTraders_37 rfl ?_
      refine bc_callV hE (bk_X6_coins G _ (R.tr i) R.r _ _ _ _ _ _ _ _ _ _ h_R_tr_i__22) kc_X6 h_R_tr_i__22 ok_X6_coins (lw_V q1535 q1536 q1537 q106 q1538) rfl rfl (Nat.le_of_ble_eq_true rfl) (by decide) dX2_ofTraders_39 (fun _ _ _ h => h.elim) ?_
      rintro v_39 M_39 ⟨rfl, hu_39⟩
      obtain rfl := hu_39.symm
      refine vr_goto (tgt := 76) hE dX2_ofTraders_42 (by decide) ?_
      refine vr_iadd hE dX2_ofTraders_76 ?_
      refine vr_istore_n hE dX2_ofTraders_77 (hnl _ (by decide)) rfl ?_
      refine vr_goto (tgt := 12) hE dX2_ofTraders_78 (by decide) ?_
      refine vr_drop 4 ?_
      exact ih (i + 1) _ M_22 (by omega) hit_22 (fun q e z => (congrFun e_22 q).trans ((bu_ne (bc_new_ne z hnit)).trans (hk1 q e z)))
  exact hlp_12 n 0 _ M_6 (Nat.zero_add _) ((congrFun e_6 it).trans (bu_self _ _ _)) (fun q e z => (congrFun e_6 q).trans ((bu_ne (bc_new_ne z hnit)).trans z))
theorem bk_X2_ofT1 {Y : bi_Y} (G : bi_GS Y) (M : va_M) (R : cR) (n w : Nat) (s : Nat → Int32) (hR : RoundM Y M R n w s) : bc_Met Y yX2_ofTraders (ws_ yX2_ofTraders cX2_ofTraders 5 (some .int)) 3 69 1 4 M [.ref R.r, .int 1] (fun v M' => v = some (.int (m_sum s 35 n)) ∧ M' = M) bi_nx := by
  refine bc_Met.of (own := RX2) (L0 := [some (.ref R.r), some (.int 1), none, none, none]) rfl (by decide) G (Nat.le_of_ble_eq_true rfl) rfl (fun X A hE hQ hW hnl hnm => ?_)
  have hnl : ∀ q, q < 5 → q < bi_nL X := fun q h => by rw [hnl]; exact h
  refine vr_iconst (v := 0) hE dX2_ofTraders_0 (by decide) ?_
  refine vr_istore_n hE dX2_ofTraders_1 (hnl _ (by decide)) rfl ?_
  refine vr_aload_n hE dX2_ofTraders_2 rfl ?_
  refine bc_get (z := 2) hE kc_X2 (by decide) q178 (Or.inl rfl) hR.hr rfl dX2_ofTraders_3 ?_
  refine bc_callF (ar := 0) hE (bk_J2_iterator G _ R.tl R.te n _ hR.htl) kc_J2 hR.htl (by decide +kernel) (lw_Fg q474 q478 q480 q75 q482) ⟨q476, q475, q481, q479, q477⟩ rfl rfl (Nat.le_of_ble_eq_true rfl) (by decide) dX2_ofTraders_6 (fun _ _ _ h => h.elim) ?_
  rintro v_6 M_6 ⟨it, rfl, hnit, e_6⟩
  refine vr_astore_n hE dX2_ofTraders_11 (hnl _ (by decide)) rfl ?_
  have hlp_12 : ∀ (c : Nat) (i : Nat) (lr : Int32) (M1 : va_M), i + c = n → M1 it = some (.inr (23, itL (nI i) lr (nI n) R.tl)) → (∀ q e, M q = some e → M1 q = some e) → bi_V Y.1 X (bc_W Y (bi_A X) M1) 1 4 12 [some (.ref R.r), some (.int 1), some (.int (m_sum s 35 i)), some (.ref it), none] [] := by
    intro c
    induction c with
    | zero =>
      intro i lr M1 hi hit1 hk1
      have hR1 : RoundM Y M1 R n w s := hR.ext hk1
      refine vr_aload_n hE dX2_ofTraders_12 rfl ?_
      refine bc_callF (ar := 0) hE (bk_J15_hasNext G _ it R.tl R.te n i lr _ hit1 hR1.htl (by omega) hR1.hn) kc_J15 hit1 (by decide +kernel) (lw_Fg q813 q848 q850 q92 q852) ⟨q815, q814, q851, q849, q847⟩ rfl rfl (Nat.le_of_ble_eq_true rfl) (by decide) dX2_ofTraders_13 (fun _ _ _ h => h.elim) ?_
      rintro v_13 M_13 ⟨rfl, hu_13⟩
      obtain rfl := hu_13.symm
      refine vr_if_eq (tgt := 81) hE dX2_ofTraders_18 (by decide) (fun c_18 => ?_) (fun c_18 => ?_)
      · skip
        refine vr_iload_n hE dX2_ofTraders_81 rfl ?_
        refine vr_ireturn hE hQ rfl dX2_ofTraders_82 (by decide) ⟨M, ?_, fun H h => hW _ H (h.less hk1)⟩
        exact ⟨by rw [show i = n by omega], rfl⟩
      · exact absurd (if_pos (show i = n by omega)) c_18
    | succ c ih =>
      intro i lr M1 hi hit1 hk1
      have hR1 : RoundM Y M1 R n w s := hR.ext hk1
      have hn10 := hR.hn
      have hw4 := hR.hw
      refine vr_aload_n hE dX2_ofTraders_12 rfl ?_
      refine bc_callF (ar := 0) hE (bk_J15_hasNext G _ it R.tl R.te n i lr _ hit1 hR1.htl (by omega) hR1.hn) kc_J15 hit1 (by decide +kernel) (lw_Fg q813 q848 q850 q92 q852) ⟨q815, q814, q851, q849, q847⟩ rfl rfl (Nat.le_of_ble_eq_true rfl) (by decide) dX2_ofTraders_13 (fun _ _ _ h => h.elim) ?_
      rintro v_13 M_13 ⟨rfl, hu_13⟩
      obtain rfl := hu_13.symm
      refine vr_if_eq (tgt := 81) hE dX2_ofTraders_18 (by decide) (fun c_18 => ?_) (fun c_18 => ?_)
      · exact absurd c_18 (by rw [if_neg (show ¬ i = n by omega)]; decide)
      skip
      refine vr_aload_n hE dX2_ofTraders_21 rfl ?_
      refine bc_callF (ar := 0) hE (bk_J15_next G _ it R.tl R.te n i lr _ hit1 hR1.htl (by omega) hR1.hn (lsf R.tr n) (hR1.te_ (by omega)) (R.tr i) (lsf_lt (by omega))) kc_J15 hit1 (by decide +kernel) (lw_Fg q863 q1049 q1051 q92 q1053) ⟨q865, q864, q1052, q1050, q847⟩ rfl rfl (Nat.le_of_ble_eq_true rfl) (by decide) dX2_ofTraders_22 (fun _ _ _ h => h.elim) ?_
      rintro v_22 M_22 ⟨rfl, e_22⟩
      have hR_r_22 := (congrFun e_22 R.r).trans ((bu_ne (bc_dist hR1.hr hit1 (bc_ci (by decide)))).trans hR1.hr)
      have hR_tl_22 := (congrFun e_22 R.tl).trans ((bu_ne (bc_dist hR1.htl hit1 (bc_ci (by decide)))).trans hR1.htl)
      have hR_wl_22 := (congrFun e_22 R.wl).trans ((bu_ne (bc_dist hR1.hwl hit1 (bc_ci (by decide)))).trans hR1.hwl)
      have h_R_tr_i__22 := (congrFun e_22 (R.tr i)).trans ((bu_ne (bc_dist (hR1.htr i (by omega)) hit1 (bc_ci (by decide)))).trans (hR1.htr i (by omega)))
      have hit_22 := (congrFun e_22 it).trans (bu_self _ _ _)
      refine vr_castS hE kc_X6.1 (bc_cls kc_X6 h_R_tr_i__22) q1076 dX2_ofTraders_27 ?_
      refine vr_astore hE dX2_ofTraders_30 (hnl _ (by decide)) rfl ?_
      refine vr_iload_n hE dX2_ofTraders_32 rfl ?_
      refine vr_iload_n hE dX2_ofTraders_33 rfl ?_
      refine vr_if_ne (tgt := 45) hE dX2_ofTraders_34 (by decide) (fun c_34 => ?_) (fun c_34 => ?_)
      · skip
        refine vr_iload_n hE dX2_ofTraders_45 rfl ?_
        refine vr_iconst (v := 1) hE dX2_ofTraders_46 (by decide) ?_
        refine vr_icmp_ne (tgt := 58) hE dX2_ofTraders_47 (by decide) (fun c_47 => ?_) (fun c_47 => ?_)
        · exact absurd rfl c_47
        refine vr_aload hE dX2_ofTraders_50 rfl ?_
        refine bc_callV hE (bk_X6_debt G _ (R.tr i) R.r _ _ _ _ _ _ _ _ _ _ h_R_tr_i__22) kc_X6 h_R_tr_i__22 ok_X6_debt (lw_V q1564 q1565 q1566 q106 q1567) rfl rfl (Nat.le_of_ble_eq_true rfl) (by decide) dX2_ofTraders_52 (fun _ _ _ h => h.elim) ?_
        rintro v_52 M_52 ⟨rfl, hu_52⟩
        obtain rfl := hu_52.symm
        refine vr_goto (tgt := 76) hE dX2_ofTraders_55 (by decide) ?_
        refine vr_iadd hE dX2_ofTraders_76 ?_
        refine vr_istore_n hE dX2_ofTraders_77 (hnl _ (by decide)) rfl ?_
        refine vr_goto (tgt := 12) hE dX2_ofTraders_78 (by decide) ?_
        refine vr_drop 4 ?_
        exact ih (i + 1) _ M_22 (by omega) hit_22 (fun q e z => (congrFun e_22 q).trans ((bu_ne (bc_new_ne z hnit)).trans (hk1 q e z)))
      · exact absurd c_34 (by decide)
  exact hlp_12 n 0 _ M_6 (Nat.zero_add _) ((congrFun e_6 it).trans (bu_self _ _ _)) (fun q e z => (congrFun e_6 q).trans ((bu_ne (bc_new_ne z hnit)).trans z))
theorem bk_X2_ofT2 {Y : bi_Y} (G : bi_GS Y) (M : va_M) (R : cR) (n w : Nat) (s : Nat → Int32) (hR : RoundM Y M R n w s) : bc_Met Y yX2_ofTraders (ws_ yX2_ofTraders cX2_ofTraders 5 (some .int)) 3 69 1 4 M [.ref R.r, .int 2] (fun v M' => v = some (.int (m_sum s 75 n)) ∧ M' = M) bi_nx := by
  refine bc_Met.of (own := RX2) (L0 := [some (.ref R.r), some (.int 2), none, none, none]) rfl (by decide) G (Nat.le_of_ble_eq_true rfl) rfl (fun X A hE hQ hW hnl hnm => ?_)
  have hnl : ∀ q, q < 5 → q < bi_nL X := fun q h => by rw [hnl]; exact h
  refine vr_iconst (v := 0) hE dX2_ofTraders_0 (by decide) ?_
  refine vr_istore_n hE dX2_ofTraders_1 (hnl _ (by decide)) rfl ?_
  refine vr_aload_n hE dX2_ofTraders_2 rfl ?_
  refine bc_get (z := 2) hE kc_X2 (by decide) q178 (Or.inl rfl) hR.hr rfl dX2_ofTraders_3 ?_
  refine bc_callF (ar := 0) hE (bk_J2_iterator G _ R.tl R.te n _ hR.htl) kc_J2 hR.htl (by decide +kernel) (lw_Fg q474 q478 q480 q75 q482) ⟨q476, q475, q481, q479, q477⟩ rfl rfl (Nat.le_of_ble_eq_true rfl) (by decide) dX2_ofTraders_6 (fun _ _ _ h => h.elim) ?_
  rintro v_6 M_6 ⟨it, rfl, hnit, e_6⟩
  refine vr_astore_n hE dX2_ofTraders_11 (hnl _ (by decide)) rfl ?_
  have hlp_12 : ∀ (c : Nat) (i : Nat) (lr : Int32) (M1 : va_M), i + c = n → M1 it = some (.inr (23, itL (nI i) lr (nI n) R.tl)) → (∀ q e, M q = some e → M1 q = some e) → bi_V Y.1 X (bc_W Y (bi_A X) M1) 1 4 12 [some (.ref R.r), some (.int 2), some (.int (m_sum s 75 i)), some (.ref it), none] [] := by
    intro c
    induction c with
    | zero =>
      intro i lr M1 hi hit1 hk1
      have hR1 : RoundM Y M1 R n w s := hR.ext hk1
      refine vr_aload_n hE dX2_ofTraders_12 rfl ?_
      refine bc_callF (ar := 0) hE (bk_J15_hasNext G _ it R.tl R.te n i lr _ hit1 hR1.htl (by omega) hR1.hn) kc_J15 hit1 (by decide +kernel) (lw_Fg q813 q848 q850 q92 q852) ⟨q815, q814, q851, q849, q847⟩ rfl rfl (Nat.le_of_ble_eq_true rfl) (by decide) dX2_ofTraders_13 (fun _ _ _ h => h.elim) ?_
      rintro v_13 M_13 ⟨rfl, hu_13⟩
      obtain rfl := hu_13.symm
      refine vr_if_eq (tgt := 81) hE dX2_ofTraders_18 (by decide) (fun c_18 => ?_) (fun c_18 => ?_)
      · skip
        refine vr_iload_n hE dX2_ofTraders_81 rfl ?_
        refine vr_ireturn hE hQ rfl dX2_ofTraders_82 (by decide) ⟨M, ?_, fun H h => hW _ H (h.less hk1)⟩
        exact ⟨by rw [show i = n by omega], rfl⟩
      · exact absurd (if_pos (show i = n by omega)) c_18
    | succ c ih =>
      intro i lr M1 hi hit1 hk1
      have hR1 : RoundM Y M1 R n w s := hR.ext hk1
      have hn10 := hR.hn
      have hw4 := hR.hw
      refine vr_aload_n hE dX2_ofTraders_12 rfl ?_
      refine bc_callF (ar := 0) hE (bk_J15_hasNext G _ it R.tl R.te n i lr _ hit1 hR1.htl (by omega) hR1.hn) kc_J15 hit1 (by decide +kernel) (lw_Fg q813 q848 q850 q92 q852) ⟨q815, q814, q851, q849, q847⟩ rfl rfl (Nat.le_of_ble_eq_true rfl) (by decide) dX2_ofTraders_13 (fun _ _ _ h => h.elim) ?_
      rintro v_13 M_13 ⟨rfl, hu_13⟩
      obtain rfl := hu_13.symm
      refine vr_if_eq (tgt := 81) hE dX2_ofTraders_18 (by decide) (fun c_18 => ?_) (fun c_18 => ?_)
      · exact absurd c_18 (by rw [if_neg (show ¬ i = n by omega)]; decide)
      skip
      refine vr_aload_n hE dX2_ofTraders_21 rfl ?_
      refine bc_callF (ar := 0) hE (bk_J15_next G _ it R.tl R.te n i lr _ hit1 hR1.htl (by omega) hR1.hn (lsf R.tr n) (hR1.te_ (by omega)) (R.tr i) (lsf_lt (by omega))) kc_J15 hit1 (by decide +kernel) (lw_Fg q863 q1049 q1051 q92 q1053) ⟨q865, q864, q1052, q1050, q847⟩ rfl rfl (Nat.le_of_ble_eq_true rfl) (by decide) dX2_ofTraders_22 (fun _ _ _ h => h.elim) ?_
      rintro v_22 M_22 ⟨rfl, e_22⟩
      have hR_r_22 := (congrFun e_22 R.r).trans ((bu_ne (bc_dist hR1.hr hit1 (bc_ci (by decide)))).trans hR1.hr)
      have hR_tl_22 := (congrFun e_22 R.tl).trans ((bu_ne (bc_dist hR1.htl hit1 (bc_ci (by decide)))).trans hR1.htl)
      have hR_wl_22 := (congrFun e_22 R.wl).trans ((bu_ne (bc_dist hR1.hwl hit1 (bc_ci (by decide)))).trans hR1.hwl)
      have h_R_tr_i__22 := (congrFun e_22 (R.tr i)).trans ((bu_ne (bc_dist (hR1.htr i (by omega)) hit1 (bc_ci (by decide)))).trans (hR1.htr i (by omega)))
      have hit_22 := (congrFun e_22 it).trans (bu_self _ _ _)
      refine vr_castS hE kc_X6.1 (bc_cls kc_X6 h_R_tr_i__22) q1076 dX2_ofTraders_27 ?_
      refine vr_astore hE dX2_ofTraders_30 (hnl _ (by decide)) rfl ?_
      refine vr_iload_n hE dX2_ofTraders_32 rfl ?_
      refine vr_iload_n hE dX2_ofTraders_33 rfl ?_
      refine vr_if_ne (tgt := 45) hE dX2_ofTraders_34 (by decide) (fun c_34 => ?_) (fun c_34 => ?_)
      · skip
        refine vr_iload_n hE dX2_ofTraders_45 rfl ?_
        refine vr_iconst (v := 1) hE dX2_ofTraders_46 (by decide) ?_
        refine vr_icmp_ne (tgt := 58) hE dX2_ofTraders_47 (by decide) (fun c_47 => ?_) (fun c_47 => ?_)
        · skip
          refine vr_iload_n hE dX2_ofTraders_58 rfl ?_
          refine vr_iconst (v := 2) hE dX2_ofTraders_59 (by decide) ?_
          refine vr_icmp_ne (tgt := 71) hE dX2_ofTraders_60 (by decide) (fun c_60 => ?_) (fun c_60 => ?_)
          · exact absurd rfl c_60
          refine vr_aload hE dX2_ofTraders_63 rfl ?_
          refine bc_callV hE (bk_X6_shave G _ (R.tr i) R.r _ _ _ _ _ _ _ _ _ _ h_R_tr_i__22) kc_X6 h_R_tr_i__22 ok_X6_shave (lw_V q1547 q1548 q1549 q106 q1550) rfl rfl (Nat.le_of_ble_eq_true rfl) (by decide) dX2_ofTraders_65 (fun _ _ _ h => h.elim) ?_
          rintro v_65 M_65 ⟨rfl, hu_65⟩
          obtain rfl := hu_65.symm
          refine vr_goto (tgt := 76) hE dX2_ofTraders_68 (by decide) ?_
          refine vr_iadd hE dX2_ofTraders_76 ?_
          refine vr_istore_n hE dX2_ofTraders_77 (hnl _ (by decide)) rfl ?_
          refine vr_goto (tgt := 12) hE dX2_ofTraders_78 (by decide) ?_
          refine vr_drop 4 ?_
          exact ih (i + 1) _ M_22 (by omega) hit_22 (fun q e z => (congrFun e_22 q).trans ((bu_ne (bc_new_ne z hnit)).trans (hk1 q e z)))
        · exact absurd c_47 (by decide)
      · exact absurd c_34 (by decide)
  exact hlp_12 n 0 _ M_6 (Nat.zero_add _) ((congrFun e_6 it).trans (bu_self _ _ _)) (fun q e z => (congrFun e_6 q).trans ((bu_ne (bc_new_ne z hnit)).trans z))
theorem bk_X2_ofT3 {Y : bi_Y} (G : bi_GS Y) (M : va_M) (R : cR) (n w : Nat) (s : Nat → Int32) (hR : RoundM Y M R n w s) : bc_Met Y yX2_ofTraders (ws_ yX2_ofTraders cX2_ofTraders 5 (some .int)) 3 69 1 4 M [.ref R.r, .int 3] (fun v M' => v = some (.int (m_sum s 45 n)) ∧ M' = M) bi_nx := by
  refine bc_Met.of (own := RX2) (L0 := [some (.ref R.r), some (.int 3), none, none, none]) rfl (by decide) G (Nat.le_of_ble_eq_true rfl) rfl (fun X A hE hQ hW hnl hnm => ?_)
  have hnl : ∀ q, q < 5 → q < bi_nL X := fun q h => by rw [hnl]; exact h
  refine vr_iconst (v := 0) hE dX2_ofTraders_0 (by decide) ?_
  refine vr_istore_n hE dX2_ofTraders_1 (hnl _ (by decide)) rfl ?_
  refine vr_aload_n hE dX2_ofTraders_2 rfl ?_
  refine bc_get (z := 2) hE kc_X2 (by decide) q178 (Or.inl rfl) hR.hr rfl dX2_ofTraders_3 ?_
  refine bc_callF (ar := 0) hE (bk_J2_iterator G _ R.tl R.te n _ hR.htl) kc_J2 hR.htl (by decide +kernel) (lw_Fg q474 q478 q480 q75 q482) ⟨q476, q475, q481, q479, q477⟩ rfl rfl (Nat.le_of_ble_eq_true rfl) (by decide) dX2_ofTraders_6 (fun _ _ _ h => h.elim) ?_
  rintro v_6 M_6 ⟨it, rfl, hnit, e_6⟩
  refine vr_astore_n hE dX2_ofTraders_11 (hnl _ (by decide)) rfl ?_
  have hlp_12 : ∀ (c : Nat) (i : Nat) (lr : Int32) (M1 : va_M), i + c = n → M1 it = some (.inr (23, itL (nI i) lr (nI n) R.tl)) → (∀ q e, M q = some e → M1 q = some e) → bi_V Y.1 X (bc_W Y (bi_A X) M1) 1 4 12 [some (.ref R.r), some (.int 3), some (.int (m_sum s 45 i)), some (.ref it), none] [] := by
    intro c
    induction c with
    | zero =>
      intro i lr M1 hi hit1 hk1
      have hR1 : RoundM Y M1 R n w s := hR.ext hk1
      refine vr_aload_n hE dX2_ofTraders_12 rfl ?_
      refine bc_callF (ar := 0) hE (bk_J15_hasNext G _ it R.tl R.te n i lr _ hit1 hR1.htl (by omega) hR1.hn) kc_J15 hit1 (by decide +kernel) (lw_Fg q813 q848 q850 q92 q852) ⟨q815, q814, q851, q849, q847⟩ rfl rfl (Nat.le_of_ble_eq_true rfl) (by decide) dX2_ofTraders_13 (fun _ _ _ h => h.elim) ?_
      rintro v_13 M_13 ⟨rfl, hu_13⟩
      obtain rfl := hu_13.symm
      refine vr_if_eq (tgt := 81) hE dX2_ofTraders_18 (by decide) (fun c_18 => ?_) (fun c_18 => ?_)
      · skip
        refine vr_iload_n hE dX2_ofTraders_81 rfl ?_
        refine vr_ireturn hE hQ rfl dX2_ofTraders_82 (by decide) ⟨M, ?_, fun H h => hW _ H (h.less hk1)⟩
        exact ⟨by rw [show i = n by omega], rfl⟩
      · exact absurd (if_pos (show i = n by omega)) c_18
    | succ c ih =>
      intro i lr M1 hi hit1 hk1
      have hR1 : RoundM Y M1 R n w s := hR.ext hk1
      have hn10 := hR.hn
      have hw4 := hR.hw
      refine vr_aload_n hE dX2_ofTraders_12 rfl ?_
      refine bc_callF (ar := 0) hE (bk_J15_hasNext G _ it R.tl R.te n i lr _ hit1 hR1.htl (by omega) hR1.hn) kc_J15 hit1 (by decide +kernel) (lw_Fg q813 q848 q850 q92 q852) ⟨q815, q814, q851, q849, q847⟩ rfl rfl (Nat.le_of_ble_eq_true rfl) (by decide) dX2_ofTraders_13 (fun _ _ _ h => h.elim) ?_
      rintro v_13 M_13 ⟨rfl, hu_13⟩
      obtain rfl := hu_13.symm
      refine vr_if_eq (tgt := 81) hE dX2_ofTraders_18 (by decide) (fun c_18 => ?_) (fun c_18 => ?_)
      · exact absurd c_18 (by rw [if_neg (show ¬ i = n by omega)]; decide)
      skip
      refine vr_aload_n hE dX2_ofTraders_21 rfl ?_
      refine bc_callF (ar := 0) hE (bk_J15_next G _ it R.tl R.te n i lr _ hit1 hR1.htl (by omega) hR1.hn (lsf R.tr n) (hR1.te_ (by omega)) (R.tr i) (lsf_lt (by omega))) kc_J15 hit1 (by decide +kernel) (lw_Fg q863 q1049 q1051 q92 q1053) ⟨q865, q864, q1052, q1050, q847⟩ rfl rfl (Nat.le_of_ble_eq_true rfl) (by decide) dX2_ofTraders_22 (fun _ _ _ h => h.elim) ?_
      rintro v_22 M_22 ⟨rfl, e_22⟩
      have hR_r_22 := (congrFun e_22 R.r).trans ((bu_ne (bc_dist hR1.hr hit1 (bc_ci (by decide)))).trans hR1.hr)
      have hR_tl_22 := (congrFun e_22 R.tl).trans ((bu_ne (bc_dist hR1.htl hit1 (bc_ci (by decide)))).trans hR1.htl)
      have hR_wl_22 := (congrFun e_22 R.wl).trans ((bu_ne (bc_dist hR1.hwl hit1 (bc_ci (by decide)))).trans hR1.hwl)
      have h_R_tr_i__22 := (congrFun e_22 (R.tr i)).trans ((bu_ne (bc_dist (hR1.htr i (by omega)) hit1 (bc_ci (by decide)))).trans (hR1.htr i (by omega)))
      have hit_22 := (congrFun e_22 it).trans (bu_self _ _ _)
      refine vr_castS hE kc_X6.1 (bc_cls kc_X6 h_R_tr_i__22) q1076 dX2_ofTraders_27 ?_
      refine vr_astore hE dX2_ofTraders_30 (hnl _ (by decide)) rfl ?_
      refine vr_iload_n hE dX2_ofTraders_32 rfl ?_
      refine vr_iload_n hE dX2_ofTraders_33 rfl ?_
      refine vr_if_ne (tgt := 45) hE dX2_ofTraders_34 (by decide) (fun c_34 => ?_) (fun c_34 => ?_)
      · skip
        refine vr_iload_n hE dX2_ofTraders_45 rfl ?_
        refine vr_iconst (v := 1) hE dX2_ofTraders_46 (by decide) ?_
        refine vr_icmp_ne (tgt := 58) hE dX2_ofTraders_47 (by decide) (fun c_47 => ?_) (fun c_47 => ?_)
        · skip
          refine vr_iload_n hE dX2_ofTraders_58 rfl ?_
          refine vr_iconst (v := 2) hE dX2_ofTraders_59 (by decide) ?_
          refine vr_icmp_ne (tgt := 71) hE dX2_ofTraders_60 (by decide) (fun c_60 => ?_) (fun c_60 => ?_)
          · skip
            refine vr_aload hE dX2_ofTraders_71 rfl ?_
            refine bc_callV hE (bk_X6_error G _ (R.tr i) R.r _ _ _ _ _ _ _ _ _ _ h_R_tr_i__22) kc_X6 h_R_tr_i__22 ok_X6_error (lw_V q1531 q1532 q1533 q106 q1534) rfl rfl (Nat.le_of_ble_eq_true rfl) (by decide) dX2_ofTraders_73 (fun _ _ _ h => h.elim) ?_
            rintro v_73 M_73 ⟨rfl, hu_73⟩
            obtain rfl := hu_73.symm
            refine vr_iadd hE dX2_ofTraders_76 ?_
            refine vr_istore_n hE dX2_ofTraders_77 (hnl _ (by decide)) rfl ?_
            refine vr_goto (tgt := 12) hE dX2_ofTraders_78 (by decide) ?_
            refine vr_drop 4 ?_
            exact ih (i + 1) _ M_22 (by omega) hit_22 (fun q e z => (congrFun e_22 q).trans ((bu_ne (bc_new_ne z hnit)).trans (hk1 q e z)))
          · exact absurd c_60 (by decide)
        · exact absurd c_47 (by decide)
      · exact absurd c_34 (by decide)
  exact hlp_12 n 0 _ M_6 (Nat.zero_add _) ((congrFun e_6 it).trans (bu_self _ _ _)) (fun q e z => (congrFun e_6 q).trans ((bu_ne (bc_new_ne z hnit)).trans z))
