/-! what a trader does -/
set_option maxRecDepth 100000
def c_sum (f : Nat → Int32) : Nat → Int32
  | 0 => 0
  | i + 1 => c_sum f i + f i
def c_tens (er : Int32) : Int32 := if er ≤ 0 then 0 else er / 10
theorem c_sum2 (f : Nat → Int32) : c_sum f 2 = f 0 + f 1 := by simp [c_sum]
theorem c_sum3 (f : Nat → Int32) : c_sum f 3 = f 0 + f 1 + f 2 := by simp [c_sum]
theorem c_tab : ∀ j, j < 101 → zl_LOSS.getD j 0 = c_tens (Int32.ofNat j - 50) := by decide +kernel
theorem c_50 (x : Int32) : 50 + (x - 50) = x := by rw [Int32.add_comm, Int32.sub_add_cancel]
theorem c_min_eq (x y : Int32) : c_min x y = if y ≤ x then y else x := by
  unfold c_min
  by_cases h : y < x
  · rw [if_pos h, if_pos (Int32.le_of_lt h)]
  · rw [if_neg h]
    by_cases h2 : y ≤ x
    · rw [if_pos h2]
      have h3 : x ≤ y := Int32.not_lt.mp h
      exact Int32.le_antisymm h3 h2
    · rw [if_neg h2]
theorem c_drift (e d : Int32) : c_max (-50) (c_min 50 (e + d)) = m_drifted e d := by
  rw [c_min_eq]
  unfold m_drifted c_max
  generalize e + d = x
  by_cases h : x ≤ 50
  · rw [if_pos h, if_pos h]
    by_cases h2 : -50 ≤ x
    · rw [if_pos h2]
      by_cases h3 : -50 < x
      · rw [if_pos h3]
      · rw [if_neg h3]
        exact Int32.le_antisymm h2 (Int32.not_lt.mp h3)
    · rw [if_neg h2, if_neg (fun z => h2 (Int32.le_of_lt z))]
  · rw [if_neg h, if_neg h, if_pos (by decide)]
def c_fine (rate x sh : Int32) : Int32 := rate * ((if x ≤ 4 then 0 else (x + 9) / 10) + (if sh ≤ 2 then 0 else sh - 2))
theorem ok_X1_sum : bi_ok yX1_sum RX1 1 := by decide +kernel
theorem bk_X1_sum {Y : bi_Y} (G : bi_GS Y) (M : va_M) (q N : Nat) (hN : N ≤ 1000) (f : Nat → Int32) (h_q : M q = some (eI Y N f)) : bc_Met Y yX1_sum (ws_ yX1_sum cX1_sum 6 (some .int)) 0 0 0 0 M [.ref q] (fun v M' => v = some (.int (c_sum f N)) ∧ M' = M) bi_nx := by
  refine bc_Met.of (own := RX1) (L0 := [some (.ref q), none, none, none, none, none]) rfl (by decide) G (Nat.le_of_ble_eq_true rfl) rfl (fun X A hE hQ hW hnl hnm => ?_)
  have hnl : ∀ q, q < 6 → q < bi_nL X := fun q h => by rw [hnl]; exact h
  refine vr_iconst (v := 0) hE dX1_sum_0 (by decide) ?_
  refine vr_istore_n hE dX1_sum_1 (hnl _ (by decide)) rfl ?_
  refine vr_aload_n hE dX1_sum_2 rfl ?_
  refine vr_astore_n hE dX1_sum_3 (hnl _ (by decide)) rfl ?_
  refine vr_aload_n hE dX1_sum_4 rfl ?_
  refine bc_alen (t0 := 0) hE rfl h_q dX1_sum_5 ?_
  refine vr_istore_n hE dX1_sum_6 (hnl _ (by decide)) rfl ?_
  refine vr_iconst (v := 0) hE dX1_sum_7 (by decide) ?_
  refine vr_istore hE dX1_sum_8 (hnl _ (by decide)) rfl ?_
  have hlp_10 : ∀ i, i ≤ N → bi_V Y.1 X (bc_W Y (bi_A X) M) 0 0 10 [some (.ref q), some (.int (c_sum f i)), some (.ref q), some (.int (nI N)), some (.int (nI i)), none] [] := by
    refine bi_loop (fun i => bi_V Y.1 X (bc_W Y (bi_A X) M) 0 0 10 [some (.ref q), some (.int (c_sum f i)), some (.ref q), some (.int (nI N)), some (.int (nI i)), none] []) N ?_ (fun i hi ih => ?_)
    · refine vr_iload hE dX1_sum_10 rfl ?_
      refine vr_iload_n hE dX1_sum_12 rfl ?_
      refine vr_icmp_ge (tgt := 33) hE dX1_sum_13 (by decide) (fun c_13 => ?_) (fun c_13 => ?_)
      · skip
        refine vr_iload_n hE dX1_sum_33 rfl ?_
        refine vr_ireturn hE hQ rfl dX1_sum_34 (by decide) ⟨_, ?_, fun H h => hW _ H h⟩
        exact ⟨rfl, rfl⟩
      · exact absurd (nI_le (Nat.le_refl _) (by omega)) c_13
    · refine vr_iload hE dX1_sum_10 rfl ?_
      refine vr_iload_n hE dX1_sum_12 rfl ?_
      refine vr_icmp_ge (tgt := 33) hE dX1_sum_13 (by decide) (fun c_13 => ?_) (fun c_13 => ?_)
      · exact absurd c_13 (nI_ge hi (by omega))
      refine vr_aload_n hE dX1_sum_16 rfl ?_
      refine vr_iload hE dX1_sum_17 rfl ?_
      refine bc_iald hE h_q rfl hi (by omega) dX1_sum_19 ?_
      refine vr_istore hE dX1_sum_20 (hnl _ (by decide)) rfl ?_
      refine vr_iload_n hE dX1_sum_22 rfl ?_
      refine vr_iload hE dX1_sum_23 rfl ?_
      refine vr_iadd hE dX1_sum_25 ?_
      refine vr_istore_n hE dX1_sum_26 (hnl _ (by decide)) rfl ?_
      refine vr_drop 5 ?_
      refine vr_iinc hE dX1_sum_27 rfl (iinc_1 _) (hnl _ (by decide)) rfl ?_
      refine vr_goto (tgt := 10) hE dX1_sum_30 (by decide) ?_
      exact ih
  exact hlp_10 0 (Nat.zero_le _)
theorem ok_X6_gets : bi_ok yX6_gets RX6 1 := by decide +kernel
theorem bk_X6_gets {Y : bi_Y} (G : bi_GS Y) (M : va_M) (a r : Nat) (nu fa co de er dr se sh fn ic : Int32) (h_a : M a = some (.inr (3, tL nu fa co de er dr se sh fn ic r))) (x : Int32) : bc_Met Y yX6_gets (ws_ yX6_gets cX6_gets 2 (some .int)) 1 28 0 0 M [.ref a, .int x] (fun v M' => v = some (.int (c_min 999 (co + x))) ∧ M' = bu M a (.inr (3, tL nu fa (c_min 999 (co + x)) de er dr se sh fn ic r))) bi_nx := by
  refine bc_Met.of (own := RX6) (L0 := [some (.ref a), some (.int x)]) rfl (by decide) G (Nat.le_of_ble_eq_true rfl) rfl (fun X A hE hQ hW hnl hnm => ?_)
  have hnl : ∀ q, q < 2 → q < bi_nL X := fun q h => by rw [hnl]; exact h
  refine vr_aload_n hE dX6_gets_0 rfl ?_
  refine vr_sipush (v := 999) hE dX6_gets_1 (by decide) ?_
  refine vr_aload_n hE dX6_gets_4 rfl ?_
  refine bc_get (z := 2) hE kc_X6 (by decide) q1090 (Or.inl rfl) h_a rfl dX6_gets_5 ?_
  refine vr_iload_n hE dX6_gets_8 rfl ?_
  refine vr_iadd hE dX6_gets_9 ?_
  refine vr_mmin hE q1266 q575 q94 q576 ⟨by decide, Nat.le_of_ble_eq_true rfl, by decide, by decide⟩ dX6_gets_10 ?_
  refine bc_put (z := 2) hE kc_X6 (by decide) q1090 (Or.inl rfl) rfl h_a rfl rfl (Nat.le_of_ble_eq_true rfl) dX6_gets_13 (by first | decide | omega) ?_
  refine bc_nm (fun M_13 e_13 => ?_)
  have ha_13 := (congrFun e_13 a).trans (bu_self _ _ _)
  refine vr_aload_n hE dX6_gets_16 rfl ?_
  refine bc_get (z := 2) hE kc_X6 (by decide) q1090 (Or.inl rfl) ha_13 rfl dX6_gets_17 ?_
  refine vr_ireturn hE hQ rfl dX6_gets_20 (by decide) ⟨_, ?_, fun H h => hW _ H h⟩
  subst e_13
  exact ⟨rfl, by first | rfl | (simp only [bu_bu] <;> rfl)⟩
theorem ok_X6_fineFor : bi_ok yX6_fineFor RX6 1 := by decide +kernel
theorem bk_X6_fineFor {Y : bi_Y} (G : bi_GS Y) (M : va_M) (a r : Nat) (nu fa co de er dr se sh fn ic : Int32) (h_a : M a = some (.inr (3, tL nu fa co de er dr se sh fn ic r))) (ra fi tl wl : Nat) (dy ip ls : Int32) (h_r : M r = some (.inr (1, rL ra fi tl wl dy ip ls))) (b : Nat) (nb oz we us : Int32) (h_b : M b = some (.inr (4, bL nb oz we us))) (rt : Nat → Int32) (h_ra : M ra = some (eI Y 5 rt)) (f : Nat) (hf5 : f < 5) (hf : fa = nI f) : bc_Met Y yX6_fineFor (ws_ yX6_fineFor cX6_fineFor 5 (some .int)) 2 41 1 2 M [.ref a, .ref b] (fun v M' => v = some (.int (c_fine (rt f) (er - we) sh)) ∧ M' = M) bi_nx := by
  refine bc_Met.of (own := RX6) (L0 := [some (.ref a), some (.ref b), none, none, none]) rfl (by decide) G (Nat.le_of_ble_eq_true rfl) rfl (fun X A hE hQ hW hnl hnm => ?_)
  have hnl : ∀ q, q < 5 → q < bi_nL X := fun q h => by rw [hnl]; exact h
  refine vr_aload_n hE dX6_fineFor_0 rfl ?_
  refine vr_aload_n hE dX6_fineFor_1 rfl ?_
  refine bc_callV hE (bk_X6_shows G _ a r nu fa co de er dr se sh fn ic h_a b nb oz we us h_b) kc_X6 h_a ok_X6_shows (lw_V q1517 q1518 q1519 q106 q1520) rfl rfl (Nat.le_of_ble_eq_true rfl) (by decide) dX6_fineFor_2 (fun _ _ _ h => h.elim) ?_
  rintro v_2 M_2 ⟨rfl, hu_2⟩
  obtain rfl := hu_2.symm
  refine vr_istore_n hE dX6_fineFor_5 (hnl _ (by decide)) rfl ?_
  refine vr_iload_n hE dX6_fineFor_6 rfl ?_
  refine vr_iconst (v := 4) hE dX6_fineFor_7 (by decide) ?_
  apply vt_icmp_le (tgt := 21) (J := 22) hE dX6_fineFor_8 (by decide)
  · intro c_8 kt1
    refine vr_iconst (v := 0) hE dX6_fineFor_21 (by decide) ?_
    exact kt1
  · intro c_8 kf1
    refine vr_iload_n hE dX6_fineFor_11 rfl ?_
    refine vr_bipush (v := 9) hE dX6_fineFor_12 (by decide) ?_
    refine vr_iadd hE dX6_fineFor_14 ?_
    refine vr_bipush (v := 10) hE dX6_fineFor_15 (by decide) ?_
    refine vr_idiv hE dX6_fineFor_17 (by decide) ?_
    refine vr_goto (tgt := 22) hE dX6_fineFor_18 (by decide) ?_
    exact kf1
  refine vr_istore_n hE dX6_fineFor_22 (hnl _ (by decide)) rfl ?_
  refine vr_aload_n hE dX6_fineFor_23 rfl ?_
  refine bc_get (z := 7) hE kc_X6 (by decide) q1095 (Or.inl rfl) h_a rfl dX6_fineFor_24 ?_
  refine vr_iconst (v := 2) hE dX6_fineFor_27 (by decide) ?_
  apply vt_icmp_le (tgt := 40) (J := 41) hE dX6_fineFor_28 (by decide)
  · intro c_28 kt2
    refine vr_iconst (v := 0) hE dX6_fineFor_40 (by decide) ?_
    exact kt2
  · intro c_28 kf2
    refine vr_aload_n hE dX6_fineFor_31 rfl ?_
    refine bc_get (z := 7) hE kc_X6 (by decide) q1095 (Or.inl rfl) h_a rfl dX6_fineFor_32 ?_
    refine vr_iconst (v := 2) hE dX6_fineFor_35 (by decide) ?_
    refine vr_isub hE dX6_fineFor_36 ?_
    refine vr_goto (tgt := 41) hE dX6_fineFor_37 (by decide) ?_
    exact kf2
  refine vr_istore hE dX6_fineFor_41 (hnl _ (by decide)) rfl ?_
  refine vr_aload_n hE dX6_fineFor_43 rfl ?_
  refine bc_get (z := 10) hE kc_X6 (by decide) q1098 (Or.inl rfl) h_a rfl dX6_fineFor_44 ?_
  refine bc_getN (z := 0) hE kc_X2 (by decide) q175 (Or.inl rfl) h_r rfl dX6_fineFor_47 ?_
  refine vr_aload_n hE dX6_fineFor_50 rfl ?_
  refine bc_get (z := 1) hE kc_X6 (by decide) q1089 (Or.inl rfl) h_a rfl dX6_fineFor_51 ?_
  refine bc_iald hE h_ra hf (by omega) (by omega) dX6_fineFor_54 ?_
  refine vr_iconst (v := 2) hE dX6_fineFor_55 (by decide) ?_
  refine bc_newi (N := 2) hE q173 rfl (by decide) (by decide) dX6_fineFor_56 (fun q hn_q => ?_)
  refine bc_nm (fun M_56 e_56 => ?_)
  have na_q := bc_new_ne h_a hn_q
  have nb_q := bc_new_ne h_b hn_q
  have nr_q := bc_new_ne h_r hn_q
  have nra_q := bc_new_ne h_ra hn_q
  have hz_q : M q = none := hn_q
  have ha_56 := (congrFun e_56 a).trans ((bu_ne na_q).trans h_a)
  have hb_56 := (congrFun e_56 b).trans ((bu_ne nb_q).trans h_b)
  have hr_56 := (congrFun e_56 r).trans ((bu_ne nr_q).trans h_r)
  have hra_56 := (congrFun e_56 ra).trans ((bu_ne nra_q).trans h_ra)
  have hq_56 := (congrFun e_56 q).trans (bu_self _ _ _)
  refine vr_dup hE dX6_fineFor_58 rfl ?_
  refine vr_iconst (v := 0) hE dX6_fineFor_59 (by decide) ?_
  refine vr_iload_n hE dX6_fineFor_60 rfl ?_
  refine bc_iast hE hq_56 (show (0 : Int32) = nI 0 from rfl) (by omega) (by omega) dX6_fineFor_61 (by first | decide | omega) ?_
  refine bc_nm (fun M_61 e_61 => ?_)
  have ha_61 := (congrFun e_61 a).trans ((bu_ne na_q).trans ha_56)
  have hb_61 := (congrFun e_61 b).trans ((bu_ne nb_q).trans hb_56)
  have hr_61 := (congrFun e_61 r).trans ((bu_ne nr_q).trans hr_56)
  have hra_61 := (congrFun e_61 ra).trans ((bu_ne nra_q).trans hra_56)
  have hq_61 := (congrFun e_61 q).trans (bu_self _ _ _)
  refine vr_dup hE dX6_fineFor_62 rfl ?_
  refine vr_iconst (v := 1) hE dX6_fineFor_63 (by decide) ?_
  refine vr_iload hE dX6_fineFor_64 rfl ?_
  refine bc_iast hE hq_61 (show (1 : Int32) = nI 1 from rfl) (by omega) (by omega) dX6_fineFor_66 (by first | decide | omega) ?_
  refine bc_nm (fun M_66 e_66 => ?_)
  have ha_66 := (congrFun e_66 a).trans ((bu_ne na_q).trans ha_61)
  have hb_66 := (congrFun e_66 b).trans ((bu_ne nb_q).trans hb_61)
  have hr_66 := (congrFun e_66 r).trans ((bu_ne nr_q).trans hr_61)
  have hra_66 := (congrFun e_66 ra).trans ((bu_ne nra_q).trans hra_61)
  have hq_66 := (congrFun e_66 q).trans (bu_self _ _ _)
  refine bc_callSN hE (bk_X1_sum G _ q 2 (by decide) _ hq_66) ok_X1_sum q1390 q288 q71 q289 rfl rfl (Nat.le_of_ble_eq_true rfl) (by decide) dX6_fineFor_67 (fun _ _ _ h => h.elim) ?_
  rintro v_67 M_67 ⟨rfl, hu_67⟩
  obtain rfl := hu_67.symm
  subst e_66
  subst e_61
  subst e_56
  refine vr_P (P' := bc_W Y (bi_A X) M) (fun H h => h.less (fun a' e' z' => by have hq0 := bc_new_ne z' hn_q; simp only [bu_ne hq0]; exact z')) ?_
  refine vr_imul hE dX6_fineFor_70 ?_
  
  refine vr_ireturn hE hQ rfl dX6_fineFor_71 (by decide) ⟨_, ?_, fun H h => hW _ H h⟩
  exact ⟨by rw [c_sum2]; rfl, rfl⟩
theorem ok_X6_lossNow : bi_ok yX6_lossNow RX6 0 := by decide +kernel
theorem bk_X6_lossNow {Y : bi_Y} (G : bi_GS Y) (M : va_M) (a r : Nat) (nu fa co de er dr se sh fn ic : Int32) (h_a : M a = some (.inr (3, tL nu fa co de er dr se sh fn ic r))) (j : Nat) (hj : j < 101) (hej : er = nI j - 50) : bc_Met Y yX6_lossNow (ws_ yX6_lossNow cX6_lossNow 1 (some .int)) 1 25 1 2 M [.ref a] (fun v M' => v = some (.int (c_tens er + sh / 5)) ∧ M' = M) bi_nx := by
  obtain ⟨lt, hlz, hlT⟩ := zt_LOSS G
  have htab : zl_LOSS.getD j 0 = c_tens er := by rw [hej]; exact c_tab j hj
  refine bc_Met.of (own := RX6) (L0 := [some (.ref a)]) rfl (by decide) G (Nat.le_of_ble_eq_true rfl) rfl (fun X A hE hQ hW hnl hnm => ?_)
  have hnl : ∀ q, q < 1 → q < bi_nL X := fun q h => by rw [hnl]; exact h
  refine vr_iconst (v := 2) hE dX6_lossNow_0 (by decide) ?_
  refine bc_newi (N := 2) hE q173 rfl (by decide) (by decide) dX6_lossNow_1 (fun q hn_q => ?_)
  refine bc_nm (fun M_1 e_1 => ?_)
  have na_q := bc_new_ne h_a hn_q
  have hz_q : M q = none := hn_q
  have ha_1 := (congrFun e_1 a).trans ((bu_ne na_q).trans h_a)
  have hq_1 := (congrFun e_1 q).trans (bu_self _ _ _)
  refine vr_dup hE dX6_lossNow_3 rfl ?_
  refine vr_iconst (v := 0) hE dX6_lossNow_4 (by decide) ?_
  refine wr_getsN hE hlz q1388 dX6_lossNow_5 ?_
  refine vr_bipush (v := 50) hE dX6_lossNow_8 (by decide) ?_
  refine vr_aload_n hE dX6_lossNow_10 rfl ?_
  refine bc_get (z := 4) hE kc_X6 (by decide) q1092 (Or.inl rfl) ha_1 rfl dX6_lossNow_11 ?_
  refine vr_iadd hE dX6_lossNow_14 ?_
  refine wr_iald hE (fun H hB h => hlT.kept (hB.2 _ hlT.lt)) (by rw [hej]; exact c_50 _) hj (by decide) dX6_lossNow_15 ?_
  refine vr_to (w := .int (c_tens er)) (congrArg Value.int htab) ?_
  refine bc_iast hE hq_1 (show (0 : Int32) = nI 0 from rfl) (by omega) (by omega) dX6_lossNow_16 (by first | decide | omega) ?_
  refine bc_nm (fun M_16 e_16 => ?_)
  have ha_16 := (congrFun e_16 a).trans ((bu_ne na_q).trans ha_1)
  have hq_16 := (congrFun e_16 q).trans (bu_self _ _ _)
  refine vr_dup hE dX6_lossNow_17 rfl ?_
  refine vr_iconst (v := 1) hE dX6_lossNow_18 (by decide) ?_
  refine vr_aload_n hE dX6_lossNow_19 rfl ?_
  refine bc_get (z := 7) hE kc_X6 (by decide) q1095 (Or.inl rfl) ha_16 rfl dX6_lossNow_20 ?_
  refine vr_iconst (v := 5) hE dX6_lossNow_23 (by decide) ?_
  refine vr_idiv hE dX6_lossNow_24 (by decide) ?_
  refine bc_iast hE hq_16 (show (1 : Int32) = nI 1 from rfl) (by omega) (by omega) dX6_lossNow_25 (by first | decide | omega) ?_
  refine bc_nm (fun M_25 e_25 => ?_)
  have ha_25 := (congrFun e_25 a).trans ((bu_ne na_q).trans ha_16)
  have hq_25 := (congrFun e_25 q).trans (bu_self _ _ _)
  refine bc_callSN hE (bk_X1_sum G _ q 2 (by decide) _ hq_25) ok_X1_sum q1390 q288 q71 q289 rfl rfl (Nat.le_of_ble_eq_true rfl) (by decide) dX6_lossNow_26 (fun _ _ _ h => h.elim) ?_
  rintro v_26 M_26 ⟨rfl, hu_26⟩
  obtain rfl := hu_26.symm
  subst e_25
  subst e_16
  subst e_1
  refine vr_P (P' := bc_W Y (bi_A X) M) (fun H h => h.less (fun a' e' z' => by have hq0 := bc_new_ne z' hn_q; simp only [bu_ne hq0]; exact z')) ?_
  refine vr_ireturn hE hQ rfl dX6_lossNow_29 (by decide) ⟨_, ?_, fun H h => hW _ H h⟩
  exact ⟨by rw [c_sum2]; rfl, rfl⟩
theorem ok_X6_sells : bi_ok yX6_sells RX6 0 := by decide +kernel
theorem bk_X6_sells {Y : bi_Y} (G : bi_GS Y) (M : va_M) (a r : Nat) (nu fa co de er dr se sh fn ic : Int32) (h_a : M a = some (.inr (3, tL nu fa co de er dr se sh fn ic r))) (j : Nat) (hj : j < 101) (hej : er = nI j - 50) : bc_Met Y yX6_sells (ws_ yX6_sells cX6_sells 3 (some .int)) 2 49 2 5 M [.ref a] (fun v M' => v = some (.int (c_tens er + sh / 5)) ∧ M' = bu M a (.inr (3, tL nu fa (c_min 999 (co + ((20 + c_tens er + 10) - c_min (((20 + c_tens er + 10) / 2)) de))) (de - c_min (((20 + c_tens er + 10) / 2)) de) er dr se sh fn ic r))) bi_nx := by
  obtain ⟨lt, hlz, hlT⟩ := zt_LOSS G
  have htab : zl_LOSS.getD j 0 = c_tens er := by rw [hej]; exact c_tab j hj
  refine bc_Met.of (own := RX6) (L0 := [some (.ref a), none, none]) rfl (by decide) G (Nat.le_of_ble_eq_true rfl) rfl (fun X A hE hQ hW hnl hnm => ?_)
  have hnl : ∀ q, q < 3 → q < bi_nL X := fun q h => by rw [hnl]; exact h
  refine vr_iconst (v := 3) hE dX6_sells_0 (by decide) ?_
  refine bc_newi (N := 3) hE q173 rfl (by decide) (by decide) dX6_sells_1 (fun q hn_q => ?_)
  refine bc_nm (fun M_1 e_1 => ?_)
  have na_q := bc_new_ne h_a hn_q
  have hz_q : M q = none := hn_q
  have ha_1 := (congrFun e_1 a).trans ((bu_ne na_q).trans h_a)
  have hq_1 := (congrFun e_1 q).trans (bu_self _ _ _)
  refine vr_dup hE dX6_sells_3 rfl ?_
  refine vr_iconst (v := 0) hE dX6_sells_4 (by decide) ?_
  refine vr_bipush (v := 20) hE dX6_sells_5 (by decide) ?_
  refine bc_iast hE hq_1 (show (0 : Int32) = nI 0 from rfl) (by omega) (by omega) dX6_sells_7 (by first | decide | omega) ?_
  refine bc_nm (fun M_7 e_7 => ?_)
  have ha_7 := (congrFun e_7 a).trans ((bu_ne na_q).trans ha_1)
  have hq_7 := (congrFun e_7 q).trans (bu_self _ _ _)
  refine vr_dup hE dX6_sells_8 rfl ?_
  refine vr_iconst (v := 1) hE dX6_sells_9 (by decide) ?_
  refine wr_getsN hE hlz q1388 dX6_sells_10 ?_
  refine vr_bipush (v := 50) hE dX6_sells_13 (by decide) ?_
  refine vr_aload_n hE dX6_sells_15 rfl ?_
  refine bc_get (z := 4) hE kc_X6 (by decide) q1092 (Or.inl rfl) ha_7 rfl dX6_sells_16 ?_
  refine vr_iadd hE dX6_sells_19 ?_
  refine wr_iald hE (fun H hB h => hlT.kept (hB.2 _ hlT.lt)) (by rw [hej]; exact c_50 _) hj (by decide) dX6_sells_20 ?_
  refine vr_to (w := .int (c_tens er)) (congrArg Value.int htab) ?_
  refine bc_iast hE hq_7 (show (1 : Int32) = nI 1 from rfl) (by omega) (by omega) dX6_sells_21 (by first | decide | omega) ?_
  refine bc_nm (fun M_21 e_21 => ?_)
  have ha_21 := (congrFun e_21 a).trans ((bu_ne na_q).trans ha_7)
  have hq_21 := (congrFun e_21 q).trans (bu_self _ _ _)
  refine vr_dup hE dX6_sells_22 rfl ?_
  refine vr_iconst (v := 2) hE dX6_sells_23 (by decide) ?_
  refine vr_bipush (v := 10) hE dX6_sells_24 (by decide) ?_
  refine bc_iast hE hq_21 (show (2 : Int32) = nI 2 from rfl) (by omega) (by omega) dX6_sells_26 (by first | decide | omega) ?_
  refine bc_nm (fun M_26 e_26 => ?_)
  have ha_26 := (congrFun e_26 a).trans ((bu_ne na_q).trans ha_21)
  have hq_26 := (congrFun e_26 q).trans (bu_self _ _ _)
  refine bc_callSN hE (bk_X1_sum G _ q 3 (by decide) _ hq_26) ok_X1_sum q1390 q288 q71 q289 rfl rfl (Nat.le_of_ble_eq_true rfl) (by decide) dX6_sells_27 (fun _ _ _ h => h.elim) ?_
  rintro v_27 M_27 ⟨rfl, hu_27⟩
  obtain rfl := hu_27.symm
  refine vr_to (w := .int (20 + c_tens er + 10)) (by rw [c_sum3]; rfl) ?_
  subst e_26
  subst e_21
  subst e_7
  subst e_1
  refine vr_P (P' := bc_W Y (bi_A X) M) (fun H h => h.less (fun a' e' z' => by have hq0 := bc_new_ne z' hn_q; simp only [bu_ne hq0]; exact z')) ?_
  refine vr_istore_n hE dX6_sells_30 (hnl _ (by decide)) rfl ?_
  refine vr_iload_n hE dX6_sells_31 rfl ?_
  refine vr_iconst (v := 2) hE dX6_sells_32 (by decide) ?_
  refine vr_idiv hE dX6_sells_33 (by decide) ?_
  refine vr_aload_n hE dX6_sells_34 rfl ?_
  refine bc_get (z := 3) hE kc_X6 (by decide) q1091 (Or.inl rfl) h_a rfl dX6_sells_35 ?_
  refine vr_mmin hE q1266 q575 q94 q576 ⟨by decide, Nat.le_of_ble_eq_true rfl, by decide, by decide⟩ dX6_sells_38 ?_
  refine vr_istore_n hE dX6_sells_41 (hnl _ (by decide)) rfl ?_
  refine vr_aload_n hE dX6_sells_42 rfl ?_
  refine vr_dup hE dX6_sells_43 rfl ?_
  refine bc_get (z := 3) hE kc_X6 (by decide) q1091 (Or.inl rfl) h_a rfl dX6_sells_44 ?_
  refine vr_iload_n hE dX6_sells_47 rfl ?_
  refine vr_isub hE dX6_sells_48 ?_
  refine bc_put (z := 3) hE kc_X6 (by decide) q1091 (Or.inl rfl) rfl h_a rfl rfl (Nat.le_of_ble_eq_true rfl) dX6_sells_49 (by first | decide | omega) ?_
  refine bc_nm (fun M_49 e_49 => ?_)
  have ha_49 := (congrFun e_49 a).trans (bu_self _ _ _)
  refine vr_aload_n hE dX6_sells_52 rfl ?_
  refine vr_iload_n hE dX6_sells_53 rfl ?_
  refine vr_iload_n hE dX6_sells_54 rfl ?_
  refine vr_isub hE dX6_sells_55 ?_
  refine bc_callV hE (bk_X6_gets G _ a r _ _ _ _ _ _ _ _ _ _ ha_49 _) kc_X6 ha_49 ok_X6_gets (lw_V q1391 q1263 q1264 q106 q1265) rfl rfl (Nat.le_of_ble_eq_true rfl) (by decide) dX6_sells_56 (fun _ _ _ h => h.elim) ?_
  rintro v_56 M_56 ⟨rfl, e_56⟩
  have ha_56 := (congrFun e_56 a).trans (bu_self _ _ _)
  refine vr_pop hE dX6_sells_59 rfl ?_
  refine vr_aload_n hE dX6_sells_60 rfl ?_
  refine bc_callV hE (bk_X6_lossNow G _ a r _ _ _ _ _ _ _ _ _ _ ha_56 j hj hej) kc_X6 ha_56 ok_X6_lossNow (lw_V q1392 q1393 q1394 q106 q1395) rfl rfl (Nat.le_of_ble_eq_true rfl) (by decide) dX6_sells_61 (fun _ _ _ h => h.elim) ?_
  rintro v_61 M_61 ⟨rfl, hu_61⟩
  obtain rfl := hu_61.symm
  refine vr_ireturn hE hQ rfl dX6_sells_64 (by decide) ⟨_, ?_, fun H h => hW _ H h⟩
  subst e_56
  subst e_49
  exact ⟨rfl, by first | rfl | (simp only [bu_bu] <;> rfl)⟩
theorem ok_X6_mended : bi_ok yX6_mended RX6 0 := by decide +kernel
theorem bk_X6_mended {Y : bi_Y} (G : bi_GS Y) (M : va_M) (a r : Nat) (nu fa co de er dr se sh fn ic : Int32) (h_a : M a = some (.inr (3, tL nu fa co de er dr se sh fn ic r))) : bc_Met Y yX6_mended (ws_ yX6_mended cX6_mended 2 (some .int)) 0 0 0 0 M [.ref a] (fun v M' => v = some (.int er) ∧ M' = bu M a (.inr (3, tL nu fa (co - 6) de 0 dr (-1) sh fn ic r))) bi_nx := by
  refine bc_Met.of (own := RX6) (L0 := [some (.ref a), none]) rfl (by decide) G (Nat.le_of_ble_eq_true rfl) rfl (fun X A hE hQ hW hnl hnm => ?_)
  have hnl : ∀ q, q < 2 → q < bi_nL X := fun q h => by rw [hnl]; exact h
  refine vr_aload_n hE dX6_mended_0 rfl ?_
  refine bc_get (z := 4) hE kc_X6 (by decide) q1092 (Or.inl rfl) h_a rfl dX6_mended_1 ?_
  refine vr_istore_n hE dX6_mended_4 (hnl _ (by decide)) rfl ?_
  refine vr_aload_n hE dX6_mended_5 rfl ?_
  refine vr_iconst (v := 0) hE dX6_mended_6 (by decide) ?_
  refine bc_put (z := 4) hE kc_X6 (by decide) q1092 (Or.inl rfl) rfl h_a rfl rfl (Nat.le_of_ble_eq_true rfl) dX6_mended_7 (by first | decide | omega) ?_
  refine bc_nm (fun M_7 e_7 => ?_)
  have ha_7 := (congrFun e_7 a).trans (bu_self _ _ _)
  refine vr_aload_n hE dX6_mended_10 rfl ?_
  refine vr_iconst (v := -1) hE dX6_mended_11 (by decide) ?_
  refine bc_put (z := 6) hE kc_X6 (by decide) q1094 (Or.inl rfl) rfl ha_7 rfl rfl (Nat.le_of_ble_eq_true rfl) dX6_mended_12 (by first | decide | omega) ?_
  refine bc_nm (fun M_12 e_12 => ?_)
  have ha_12 := (congrFun e_12 a).trans (bu_self _ _ _)
  refine vr_aload_n hE dX6_mended_15 rfl ?_
  refine vr_dup hE dX6_mended_16 rfl ?_
  refine bc_get (z := 2) hE kc_X6 (by decide) q1090 (Or.inl rfl) ha_12 rfl dX6_mended_17 ?_
  refine vr_bipush (v := 6) hE dX6_mended_20 (by decide) ?_
  refine vr_isub hE dX6_mended_22 ?_
  refine bc_put (z := 2) hE kc_X6 (by decide) q1090 (Or.inl rfl) rfl ha_12 rfl rfl (Nat.le_of_ble_eq_true rfl) dX6_mended_23 (by first | decide | omega) ?_
  refine bc_nm (fun M_23 e_23 => ?_)
  have ha_23 := (congrFun e_23 a).trans (bu_self _ _ _)
  refine vr_iload_n hE dX6_mended_26 rfl ?_
  refine vr_ireturn hE hQ rfl dX6_mended_27 (by decide) ⟨_, ?_, fun H h => hW _ H h⟩
  subst e_23
  subst e_12
  subst e_7
  exact ⟨rfl, by first | rfl | (simp only [bu_bu] <;> rfl)⟩
theorem ok_X6_shaves : bi_ok yX6_shaves RX6 1 := by decide +kernel
theorem bk_X6_shaves {Y : bi_Y} (G : bi_GS Y) (M : va_M) (a r : Nat) (nu fa co de er dr se sh fn ic : Int32) (h_a : M a = some (.inr (3, tL nu fa co de er dr se sh fn ic r))) (x : Int32) : bc_Met Y yX6_shaves (ws_ yX6_shaves cX6_shaves 2 (some .int)) 1 28 0 0 M [.ref a, .int x] (fun v M' => v = some (.int (c_min 20 (sh + x))) ∧ M' = bu M a (.inr (3, tL nu fa co de er dr se (c_min 20 (sh + x)) fn ic r))) bi_nx := by
  refine bc_Met.of (own := RX6) (L0 := [some (.ref a), some (.int x)]) rfl (by decide) G (Nat.le_of_ble_eq_true rfl) rfl (fun X A hE hQ hW hnl hnm => ?_)
  have hnl : ∀ q, q < 2 → q < bi_nL X := fun q h => by rw [hnl]; exact h
  refine vr_aload_n hE dX6_shaves_0 rfl ?_
  refine vr_bipush (v := 20) hE dX6_shaves_1 (by decide) ?_
  refine vr_aload_n hE dX6_shaves_3 rfl ?_
  refine bc_get (z := 7) hE kc_X6 (by decide) q1095 (Or.inl rfl) h_a rfl dX6_shaves_4 ?_
  refine vr_iload_n hE dX6_shaves_7 rfl ?_
  refine vr_iadd hE dX6_shaves_8 ?_
  refine vr_mmin hE q1266 q575 q94 q576 ⟨by decide, Nat.le_of_ble_eq_true rfl, by decide, by decide⟩ dX6_shaves_9 ?_
  refine bc_put (z := 7) hE kc_X6 (by decide) q1095 (Or.inl rfl) rfl h_a rfl rfl (Nat.le_of_ble_eq_true rfl) dX6_shaves_12 (by first | decide | omega) ?_
  refine bc_nm (fun M_12 e_12 => ?_)
  have ha_12 := (congrFun e_12 a).trans (bu_self _ _ _)
  refine vr_aload_n hE dX6_shaves_15 rfl ?_
  refine bc_get (z := 7) hE kc_X6 (by decide) q1095 (Or.inl rfl) ha_12 rfl dX6_shaves_16 ?_
  refine vr_ireturn hE hQ rfl dX6_shaves_19 (by decide) ⟨_, ?_, fun H h => hW _ H h⟩
  subst e_12
  exact ⟨rfl, by first | rfl | (simp only [bu_bu] <;> rfl)⟩
theorem ok_X6_pays : bi_ok yX6_pays RX6 1 := by decide +kernel
theorem bk_X6_pays {Y : bi_Y} (G : bi_GS Y) (M : va_M) (a r : Nat) (nu fa co de er dr se sh fn ic : Int32) (h_a : M a = some (.inr (3, tL nu fa co de er dr se sh fn ic r))) (x : Int32) : bc_Met Y yX6_pays (ws_ yX6_pays cX6_pays 2 (some .int)) 0 0 0 0 M [.ref a, .int x] (fun v M' => v = some (.int (de - x)) ∧ M' = bu M a (.inr (3, tL nu fa (co - x) (de - x) er dr se sh fn ic r))) bi_nx := by
  refine bc_Met.of (own := RX6) (L0 := [some (.ref a), some (.int x)]) rfl (by decide) G (Nat.le_of_ble_eq_true rfl) rfl (fun X A hE hQ hW hnl hnm => ?_)
  have hnl : ∀ q, q < 2 → q < bi_nL X := fun q h => by rw [hnl]; exact h
  refine vr_aload_n hE dX6_pays_0 rfl ?_
  refine vr_dup hE dX6_pays_1 rfl ?_
  refine bc_get (z := 2) hE kc_X6 (by decide) q1090 (Or.inl rfl) h_a rfl dX6_pays_2 ?_
  refine vr_iload_n hE dX6_pays_5 rfl ?_
  refine vr_isub hE dX6_pays_6 ?_
  refine bc_put (z := 2) hE kc_X6 (by decide) q1090 (Or.inl rfl) rfl h_a rfl rfl (Nat.le_of_ble_eq_true rfl) dX6_pays_7 (by first | decide | omega) ?_
  refine bc_nm (fun M_7 e_7 => ?_)
  have ha_7 := (congrFun e_7 a).trans (bu_self _ _ _)
  refine vr_aload_n hE dX6_pays_10 rfl ?_
  refine vr_dup hE dX6_pays_11 rfl ?_
  refine bc_get (z := 3) hE kc_X6 (by decide) q1091 (Or.inl rfl) ha_7 rfl dX6_pays_12 ?_
  refine vr_iload_n hE dX6_pays_15 rfl ?_
  refine vr_isub hE dX6_pays_16 ?_
  refine bc_put (z := 3) hE kc_X6 (by decide) q1091 (Or.inl rfl) rfl ha_7 rfl rfl (Nat.le_of_ble_eq_true rfl) dX6_pays_17 (by first | decide | omega) ?_
  refine bc_nm (fun M_17 e_17 => ?_)
  have ha_17 := (congrFun e_17 a).trans (bu_self _ _ _)
  refine vr_aload_n hE dX6_pays_20 rfl ?_
  refine bc_get (z := 3) hE kc_X6 (by decide) q1091 (Or.inl rfl) ha_17 rfl dX6_pays_21 ?_
  refine vr_ireturn hE hQ rfl dX6_pays_24 (by decide) ⟨_, ?_, fun H h => hW _ H h⟩
  subst e_17
  subst e_7
  exact ⟨rfl, by first | rfl | (simp only [bu_bu] <;> rfl)⟩
theorem ok_X6_drifts : bi_ok yX6_drifts RX6 0 := by decide +kernel
theorem bk_X6_drifts {Y : bi_Y} (G : bi_GS Y) (M : va_M) (a r : Nat) (nu fa co de er dr se sh fn ic : Int32) (h_a : M a = some (.inr (3, tL nu fa co de er dr se sh fn ic r))) : bc_Met Y yX6_drifts (ws_ yX6_drifts cX6_drifts 1 none) 1 28 0 0 M [.ref a] (fun v M' => v = none ∧ M' = bu M a (.inr (3, tL nu fa co de (m_drifted er dr) dr se sh fn ic r))) bi_nx := by
  refine bc_Met.of (own := RX6) (L0 := [some (.ref a)]) rfl (by decide) G (Nat.le_of_ble_eq_true rfl) rfl (fun X A hE hQ hW hnl hnm => ?_)
  have hnl : ∀ q, q < 1 → q < bi_nL X := fun q h => by rw [hnl]; exact h
  refine vr_aload_n hE dX6_drifts_0 rfl ?_
  refine vr_bipush (v := -50) hE dX6_drifts_1 (by decide) ?_
  refine vr_bipush (v := 50) hE dX6_drifts_3 (by decide) ?_
  refine vr_aload_n hE dX6_drifts_5 rfl ?_
  refine bc_get (z := 4) hE kc_X6 (by decide) q1092 (Or.inl rfl) h_a rfl dX6_drifts_6 ?_
  refine vr_aload_n hE dX6_drifts_9 rfl ?_
  refine bc_get (z := 5) hE kc_X6 (by decide) q1093 (Or.inl rfl) h_a rfl dX6_drifts_10 ?_
  refine vr_iadd hE dX6_drifts_13 ?_
  refine vr_mmin hE q1266 q575 q94 q576 ⟨by decide, Nat.le_of_ble_eq_true rfl, by decide, by decide⟩ dX6_drifts_14 ?_
  refine vr_mmax hE q1400 q557 q94 q558 ⟨by decide, Nat.le_of_ble_eq_true rfl, by decide, by decide⟩ dX6_drifts_17 ?_
  refine vr_to (w := .int (m_drifted er dr)) (congrArg Value.int (c_drift er dr)) ?_
  refine bc_put (z := 4) hE kc_X6 (by decide) q1092 (Or.inl rfl) rfl h_a rfl rfl (Nat.le_of_ble_eq_true rfl) dX6_drifts_20 (by first | decide | omega) ?_
  refine bc_nm (fun M_20 e_20 => ?_)
  have ha_20 := (congrFun e_20 a).trans (bu_self _ _ _)
  refine vr_return hE hQ dX6_drifts_23 (by decide) ⟨_, ?_, fun H h => hW _ H h⟩
  subst e_20
  exact ⟨rfl, by first | rfl | (simp only [bu_bu] <;> rfl)⟩
