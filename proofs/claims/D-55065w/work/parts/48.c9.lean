/-! sums over the traders of a fair -/
set_option maxRecDepth 100000
theorem acc_skip (acc : Nat → Int32) {a b : Nat} (h : ∀ j, a ≤ j → j < b → acc (j + 1) = acc j) (hab : a ≤ b) : acc b = acc a := by
  obtain ⟨d, rfl⟩ := Nat.exists_eq_add_of_le hab
  clear hab
  induction d with
  | zero => rfl
  | succ d ih =>
    rw [show a + (d + 1) = a + d + 1 by omega, h (a + d) (by omega) (by omega)]
    exact ih (fun j h1 h2 => h j h1 (by omega))
theorem tOf_skip {s : Nat → Int32} {f : Int32} {c k : Nat} : m_tOf s f (c_nf s f c k) = m_tOf s f k :=
  acc_skip (m_tOf s f) (fun j h1 h2 => by simp only [m_tOf]; rw [if_pos ((c_nf_ok s f c k).2.2.1 j h1 h2)]; exact Int32.add_zero _) (c_nf_ok s f c k).1
theorem seals_skip {s : Nat → Int32} {f : Int32} (hf : f ≠ -1) {c k : Nat} : m_seals s f (c_nf s f c k) = m_seals s f k :=
  acc_skip (m_seals s f) (fun j h1 h2 => by simp only [m_seals, m_sl1]; rw [if_neg hf, if_pos ((c_nf_ok s f c k).2.2.1 j h1 h2)]; exact Int32.add_zero _) (c_nf_ok s f c k).1
theorem ok_X2_tradersOf : bi_ok yX2_tradersOf RX2 1 := by decide +kernel
theorem bk_X2_tradersOf {Y : bi_Y} (G : bi_GS Y) (M : va_M) (R : cR) (n w : Nat) (s : Nat → Int32) (hR : RoundM Y M R n w s) (fa : Int32) : bc_Met Y yX2_tradersOf (ws_ yX2_tradersOf cX2_tradersOf 5 (some .int)) 6 127 2 4 M [.ref R.r, .int fa] (fun v M' => v = some (.int (m_tOf s fa n)) ∧ M' = M) bi_nx := by
  refine bc_Met.of (own := RX2) (L0 := [some (.ref R.r), some (.int fa), none, none, none]) rfl (by decide) G (Nat.le_of_ble_eq_true rfl) rfl (fun X A hE hQ hW hnl hnm => ?_)
  have hnl : ∀ q, q < 5 → q < bi_nL X := fun q h => by rw [hnl]; exact h
  refine vr_iconst (v := 0) hE dX2_tradersOf_0 (by decide) ?_
  refine vr_istore_n hE dX2_tradersOf_1 (hnl _ (by decide)) rfl ?_
  refine vr_aload_n hE dX2_tradersOf_2 rfl ?_
  refine vr_iload_n hE dX2_tradersOf_3 rfl ?_
  refine bc_callV hE (bk_X2_of G _ R n w s hR fa) kc_X2 hR.hr ok_X2_of (lw_V q1335 q1336 q1337 q72 q1338) rfl rfl (Nat.le_of_ble_eq_true rfl) (by decide) dX2_tradersOf_4 (fun _ _ _ h => h.elim) ?_
  rintro v_4 M_4 ⟨of, rfl, hnof, e_4⟩
  have hof_4 := (congrFun e_4 of).trans (bu_self _ _ _)
  have hx_4 : ∀ q e, M q = some e → M_4 q = some e := fun q e z => (congrFun e_4 q).trans ((bu_ne (bc_new_ne z hnof)).trans z)
  have hR_4 : RoundM Y M_4 R n w s := hR.ext hx_4
  refine bc_callF (ar := 0) hE (bk_X9_iterator G _ R n w s hR_4 of fa hof_4) kc_X9 hof_4 (by decide +kernel) (lw_Fg q1355 q1359 q1361 q110 q1363) ⟨q1357, q1356, q1362, q1360, q1358⟩ rfl rfl (Nat.le_of_ble_eq_true rfl) (by decide) dX2_tradersOf_7 (fun _ _ _ h => h.elim) ?_
  rintro v_7 M_7 ⟨jt, rfl, hnjt0, e_7⟩
  have hjt_7 := (congrFun e_7 jt).trans (bu_self _ _ _)
  have hofn_7 := (congrFun e_7 of).trans ((bu_ne (bc_new_ne hof_4 hnjt0)).trans hof_4)
  have hx_7 : ∀ q e, M q = some e → M_7 q = some e := fun q e z => (congrFun e_7 q).trans ((bu_ne (bc_new_ne (hx_4 q e z) hnjt0)).trans (hx_4 q e z))
  have hnjt : M jt = none := by
    cases hz : M jt with
    | none => rfl
    | some e9 => exact absurd rfl (bc_new_ne (hx_4 jt e9 hz) hnjt0)
  refine vr_astore_n hE dX2_tradersOf_12 (hnl _ (by decide)) rfl ?_
  have hlp_13 : ∀ (c : Nat) (k : Nat) (M1 : va_M), n ≤ c + k → k ≤ n → (k < n → s (15 + k) = fa) → M1 jt = some (.inr (7, [.int (nI k), .ref of])) → M1 of = some (.inr (6, [.int fa, .ref R.r])) → (∀ q e, M q = some e → M1 q = some e) → bi_V Y.1 X (bc_W Y (bi_A X) M1) 2 4 13 [some (.ref R.r), some (.int fa), some (.int (m_tOf s fa k)), some (.ref jt), none] [] := by
    intro c
    induction c with
    | zero =>
      intro k M1 hc hk hm hjt1 hof1 hk1
      have hR1 : RoundM Y M1 R n w s := hR.ext hk1
      have hn10 := hR.hn
      refine vr_aload_n hE dX2_tradersOf_13 rfl ?_
      refine bc_callF (ar := 0) hE (bk_X10_hasNext G _ R n w s hR1 of fa hof1 jt k hjt1 hk) kc_X10 hjt1 (by decide +kernel) (lw_Fg q813 q817 q819 q111 q821) ⟨q815, q814, q820, q818, q816⟩ rfl rfl (Nat.le_of_ble_eq_true rfl) (by decide) dX2_tradersOf_14 (fun _ _ _ h => h.elim) ?_
      rintro v_14 M_14 ⟨rfl, hu_14⟩
      obtain rfl := hu_14.symm
      refine vr_if_eq (tgt := 53) hE dX2_tradersOf_19 (by decide) (fun c_19 => ?_) (fun c_19 => ?_)
      · have hkn : k = n := Classical.byContradiction fun z => absurd c_19 (by rw [if_neg (show ¬ n ≤ k by omega)]; decide)
        refine vr_iload_n hE dX2_tradersOf_53 rfl ?_
        refine vr_ireturn hE hQ rfl dX2_tradersOf_54 (by decide) ⟨M, ?_, fun H h => hW _ H (h.less hk1)⟩
        exact ⟨by rw [hkn], rfl⟩
      · exact absurd (if_pos (show n ≤ k by omega)) c_19
    | succ c ih =>
      intro k M1 hc hk hm hjt1 hof1 hk1
      have hR1 : RoundM Y M1 R n w s := hR.ext hk1
      have hn10 := hR.hn
      refine vr_aload_n hE dX2_tradersOf_13 rfl ?_
      refine bc_callF (ar := 0) hE (bk_X10_hasNext G _ R n w s hR1 of fa hof1 jt k hjt1 hk) kc_X10 hjt1 (by decide +kernel) (lw_Fg q813 q817 q819 q111 q821) ⟨q815, q814, q820, q818, q816⟩ rfl rfl (Nat.le_of_ble_eq_true rfl) (by decide) dX2_tradersOf_14 (fun _ _ _ h => h.elim) ?_
      rintro v_14 M_14 ⟨rfl, hu_14⟩
      obtain rfl := hu_14.symm
      refine vr_if_eq (tgt := 53) hE dX2_tradersOf_19 (by decide) (fun c_19 => ?_) (fun c_19 => ?_)
      · have hkn : k = n := Classical.byContradiction fun z => absurd c_19 (by rw [if_neg (show ¬ n ≤ k by omega)]; decide)
        refine vr_iload_n hE dX2_tradersOf_53 rfl ?_
        refine vr_ireturn hE hQ rfl dX2_tradersOf_54 (by decide) ⟨M, ?_, fun H h => hW _ H (h.less hk1)⟩
        exact ⟨by rw [hkn], rfl⟩
      · have hkn : k < n := Nat.lt_of_not_le (fun z => c_19 (if_pos z))
        refine vr_aload_n hE dX2_tradersOf_22 rfl ?_
        refine bc_callF (ar := 0) hE (bk_X10_next G _ R n w s hR1 of fa hof1 jt k hjt1 hkn) kc_X10 hjt1 (by decide +kernel) (lw_Fg q863 q866 q868 q111 q870) ⟨q865, q864, q869, q867, q816⟩ rfl rfl (Nat.le_of_ble_eq_true rfl) (by decide) dX2_tradersOf_23 (fun _ _ _ h => h.elim) ?_
        rintro v_23 M_23 ⟨rfl, e_23⟩
        have hR_r_23 := (congrFun e_23 R.r).trans ((bu_ne (bc_dist hR1.hr hjt1 (bc_ci (by decide)))).trans hR1.hr)
        have hR_tl_23 := (congrFun e_23 R.tl).trans ((bu_ne (bc_dist hR1.htl hjt1 (bc_ci (by decide)))).trans hR1.htl)
        have hR_wl_23 := (congrFun e_23 R.wl).trans ((bu_ne (bc_dist hR1.hwl hjt1 (bc_ci (by decide)))).trans hR1.hwl)
        have h_R_tr_k__23 := (congrFun e_23 (R.tr k)).trans ((bu_ne (bc_dist (hR1.htr k (by omega)) hjt1 (bc_ci (by decide)))).trans (hR1.htr k (by omega)))
        have hof_23 := (congrFun e_23 of).trans ((bu_ne (bc_dist hof1 hjt1 (bc_ci (by decide)))).trans hof1)
        have hjt_23 := (congrFun e_23 jt).trans (bu_self _ _ _)
        refine vr_castS hE kc_X6.1 (bc_cls kc_X6 h_R_tr_k__23) q1076 dX2_tradersOf_28 ?_
        refine vr_astore hE dX2_tradersOf_31 (hnl _ (by decide)) rfl ?_
        refine vr_iload_n hE dX2_tradersOf_33 rfl ?_
        refine vr_aload hE dX2_tradersOf_34 rfl ?_
        refine bc_callV hE (bk_X6_fair G _ (R.tr k) R.r _ _ _ _ _ _ _ _ _ _ h_R_tr_k__23) kc_X6 h_R_tr_k__23 ok_X6_fair (lw_V q1495 q931 q932 q106 q933) rfl rfl (Nat.le_of_ble_eq_true rfl) (by decide) dX2_tradersOf_36 (fun _ _ _ h => h.elim) ?_
        rintro v_36 M_36 ⟨rfl, hu_36⟩
        obtain rfl := hu_36.symm
        refine vr_iload_n hE dX2_tradersOf_39 rfl ?_
        apply vt_icmp_ne (tgt := 47) (J := 48) hE dX2_tradersOf_40 (by decide)
        · intro c_40 kt1
          refine vr_iconst (v := 0) hE dX2_tradersOf_47 (by decide) ?_
          exact kt1
        · intro c_40 kf1
          refine vr_iconst (v := 1) hE dX2_tradersOf_43 (by decide) ?_
          refine vr_goto (tgt := 48) hE dX2_tradersOf_44 (by decide) ?_
          exact kf1
        refine vr_iadd hE dX2_tradersOf_48 ?_
        refine vr_istore_n hE dX2_tradersOf_49 (hnl _ (by decide)) rfl ?_
        refine vr_goto (tgt := 13) hE dX2_tradersOf_50 (by decide) ?_
        refine vr_drop 4 ?_
        have hnf := c_nf_ok s fa (n - (k + 1)) (k + 1)
        have hz := ih (c_nf s fa (n - (k + 1)) (k + 1)) M_23 (by omega) (by omega) (fun z => hnf.2.2.2 (by omega)) hjt_23 hof_23 (fun q e z => (congrFun e_23 q).trans ((bu_ne (bc_new_ne z hnjt)).trans (hk1 q e z)))
        rw [tOf_skip] at hz
        exact hz
  have hnf := c_nf_ok s fa n 0
  have hz := hlp_13 n (c_nf s fa n 0) M_7 (by omega) (by omega) (fun z => hnf.2.2.2 (by omega)) hjt_7 hofn_7 hx_7
  rw [tOf_skip] at hz
  exact hz
