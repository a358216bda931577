/-! sums over the traders of a fair -/
set_option maxRecDepth 100000
theorem acc_skip (acc : Nat → Int32) {a b : Nat} (h : ∀ j, a ≤ j → j < b → acc (j + 1) = acc j) (hab : a ≤ b) : acc b = acc a := by
  obtain ⟨d, rfl⟩ := Nat.exists_eq_add_of_le hab
  clear hab
  induction d with
  | zero => rfl
  | succ d ih =>
    rw [show a + (d + 1) = a + d + 1 by omega, h (a + d) (by omega) (by omega)]
    exact ih (fun j h1 h2 => h j h1 (by omega))
theorem tOf_skip {s : Nat → Int32} {f : Int32} {c k : Nat} : m_tOf s f (c_nf s f c k) = m_tOf s f k :=
  acc_skip (m_tOf s f) (fun j h1 h2 => by simp only [m_tOf]; rw [if_pos ((c_nf_ok s f c k).2.2.1 j h1 h2)]; exact Int32.add_zero _) (c_nf_ok s f c k).1
theorem seals_skip {s : Nat → Int32} {f : Int32} (hf : f ≠ -1) {c k : Nat} : m_seals s f (c_nf s f c k) = m_seals s f k :=
  acc_skip (m_seals s f) (fun j h1 h2 => by simp only [m_seals, m_sl1]; rw [if_neg hf, if_pos ((c_nf_ok s f c k).2.2.1 j h1 h2)]; exact Int32.add_zero _) (c_nf_ok s f c k).1
theorem sl1_ok {s : Nat → Int32} {f : Int32} {k : Nat} (hf : f ≠ -1) (hm : s (15 + k) = f) : (if (if s (65 + k) = -1 then (0 : Int32) else 1) = 0 then (0 : Int32) else 1) = m_sl1 s f k := by
  have e : m_sl1 s f k = if s (65 + k) = -1 then 0 else 1 := by
    unfold m_sl1
    rw [if_neg hf, if_neg (fun z => z hm)]
  rw [e]
  by_cases h : s (65 + k) = -1
  · simp [h]
  · simp [h]
def c_ss (s : Nat → Int32) (n : Nat) : Nat → Int32
  | 0 => 0
  | i + 1 => c_ss s n i + m_seals s (nI i) n
theorem c_ss_ok (s : Nat → Int32) : ∀ n, (∀ t, t < n → ∃ f, f < 5 ∧ s (15 + t) = nI f) → c_ss s n 5 = m_seals s (-1) n := by
  intro n
  induction n with
  | zero => intro _; rfl
  | succ n ih =>
    intro h
    obtain ⟨g, hg, eg⟩ := h n (Nat.lt_succ_self n)
    have hx := ih (fun t ht => h t (by omega))
    have hy : ∀ f : Nat, f < 5 → m_sl1 s (nI f) n = if g = f then m_sl1 s (-1) n else 0 := by
      intro f hf
      have em : m_sl1 s (-1) n = if s (65 + n) = -1 then 0 else 1 := by
        unfold m_sl1
        rw [if_pos rfl]
      have ef : m_sl1 s (nI f) n = if ¬ s (15 + n) = nI f then 0 else (if s (65 + n) = -1 then 0 else 1) := by
        unfold m_sl1
        rw [if_neg (nI_neg1 (by omega))]
      rw [ef, em, eg]
      by_cases hgf : g = f
      · subst hgf
        rw [if_neg (fun z => z rfl), if_pos rfl]
      · rw [if_pos (fun z => hgf ((nI_eq (by omega) (by omega)).mp z)), if_neg hgf]
    show c_ss s (n + 1) 5 = m_seals s (-1) n + m_sl1 s (-1) n
    rw [← hx]
    simp only [c_ss, m_seals]
    rw [hy 0 (by decide), hy 1 (by decide), hy 2 (by decide), hy 3 (by decide), hy 4 (by decide)]
    generalize m_sl1 s (-1) n = x
    rcases (show g = 0 ∨ g = 1 ∨ g = 2 ∨ g = 3 ∨ g = 4 by omega) with rfl | rfl | rfl | rfl | rfl <;> simp <;> ac_rfl
theorem ok_X2_tradersOf : bi_ok yX2_tradersOf RX2 1 := by decide +kernel
theorem bk_X2_tradersOf {Y : bi_Y} (G : bi_GS Y) (M : va_M) (R : cR) (n w : Nat) (s : Nat → Int32) (hR : RoundM Y M R n w s) (fa : Int32) : bc_Met Y yX2_tradersOf (ws_ yX2_tradersOf cX2_tradersOf 5 (some .int)) 6 127 2 4 M [.ref R.r, .int fa] (fun v M' => v = some (.int (m_tOf s fa n)) ∧ M' = M) bi_nx := by
  refine bc_Met.of (own := RX2) (L0 := [some (.ref R.r), some (.int fa), none, none, none]) rfl (by decide) G (Nat.le_of_ble_eq_true rfl) rfl (fun X A hE hQ hW hnl hnm => ?_)
  have hnl : ∀ q, q < 5 → q < bi_nL X := fun q h => by rw [hnl]; exact h
  refine vr_iconst (v := 0) hE dX2_tradersOf_0 (by decide) ?_
  refine vr_istore_n hE dX2_tradersOf_1 (hnl _ (by decide)) rfl ?_
  refine vr_aload_n hE dX2_tradersOf_2 rfl ?_
  refine vr_iload_n hE dX2_tradersOf_3 rfl ?_
  refine bc_callV hE (bk_X2_of G _ R n w s hR fa) kc_X2 hR.hr ok_X2_of (lw_V q1335 q1336 q1337 q72 q1338) rfl rfl (Nat.le_of_ble_eq_true rfl) (by decide) dX2_tradersOf_4 (fun _ _ _ h => h.elim) ?_
  rintro v_4 M_4 ⟨of, rfl, hnof, e_4⟩
  have hof_4 := (congrFun e_4 of).trans (bu_self _ _ _)
  have hx_4 : ∀ q e, M q = some e → M_4 q = some e := fun q e z => (congrFun e_4 q).trans ((bu_ne (bc_new_ne z hnof)).trans z)
  have hR_4 : RoundM Y M_4 R n w s := hR.ext hx_4
  refine bc_callF (ar := 0) hE (bk_X9_iterator G _ R n w s hR_4 of fa hof_4) kc_X9 hof_4 (by decide +kernel) (lw_Fg q1355 q1359 q1361 q110 q1363) ⟨q1357, q1356, q1362, q1360, q1358⟩ rfl rfl (Nat.le_of_ble_eq_true rfl) (by decide) dX2_tradersOf_7 (fun _ _ _ h => h.elim) ?_
  rintro v_7 M_7 ⟨jt, rfl, hnjt0, e_7⟩
  have hjt_7 := (congrFun e_7 jt).trans (bu_self _ _ _)
  have hofn_7 := (congrFun e_7 of).trans ((bu_ne (bc_new_ne hof_4 hnjt0)).trans hof_4)
  have hx_7 : ∀ q e, M q = some e → M_7 q = some e := fun q e z => (congrFun e_7 q).trans ((bu_ne (bc_new_ne (hx_4 q e z) hnjt0)).trans (hx_4 q e z))
  have hnjt : M jt = none := by
    cases hz : M jt with
    | none => rfl
    | some e9 => exact absurd rfl (bc_new_ne (hx_4 jt e9 hz) hnjt0)
  refine vr_astore_n hE dX2_tradersOf_12 (hnl _ (by decide)) rfl ?_
  have hlp_13 : ∀ (c : Nat) (k : Nat) (M1 : va_M), n ≤ c + k → k ≤ n → (k < n → s (15 + k) = fa) → M1 jt = some (.inr (7, [.int (nI k), .ref of])) → M1 of = some (.inr (6, [.int fa, .ref R.r])) → (∀ q e, M q = some e → M1 q = some e) → bi_V Y.1 X (bc_W Y (bi_A X) M1) 2 4 13 [some (.ref R.r), some (.int fa), some (.int (m_tOf s fa k)), some (.ref jt), none] [] := by
    intro c
    induction c with
    | zero =>
      intro k M1 hc hk hm hjt1 hof1 hk1
      have hR1 : RoundM Y M1 R n w s := hR.ext hk1
      have hn10 := hR.hn
      refine vr_aload_n hE dX2_tradersOf_13 rfl ?_
      refine bc_callF (ar := 0) hE (bk_X10_hasNext G _ R n w s hR1 of fa hof1 jt k hjt1 hk) kc_X10 hjt1 (by decide +kernel) (lw_Fg q813 q817 q819 q111 q821) ⟨q815, q814, q820, q818, q816⟩ rfl rfl (Nat.le_of_ble_eq_true rfl) (by decide) dX2_tradersOf_14 (fun _ _ _ h => h.elim) ?_
      rintro v_14 M_14 ⟨rfl, hu_14⟩
      obtain rfl := hu_14.symm
      refine vr_if_eq (tgt := 53) hE dX2_tradersOf_19 (by decide) (fun c_19 => ?_) (fun c_19 => ?_)
      · have hkn : k = n := Classical.byContradiction fun z => absurd c_19 (by rw [if_neg (show ¬ n ≤ k by omega)]; decide)
        refine vr_iload_n hE dX2_tradersOf_53 rfl ?_
        refine vr_ireturn hE hQ rfl dX2_tradersOf_54 (by decide) ⟨M, ?_, fun H h => hW _ H (h.less hk1)⟩
        exact ⟨by rw [hkn], rfl⟩
      · exact absurd (if_pos (show n ≤ k by omega)) c_19
    | succ c ih =>
      intro k M1 hc hk hm hjt1 hof1 hk1
      have hR1 : RoundM Y M1 R n w s := hR.ext hk1
      have hn10 := hR.hn
      refine vr_aload_n hE dX2_tradersOf_13 rfl ?_
      refine bc_callF (ar := 0) hE (bk_X10_hasNext G _ R n w s hR1 of fa hof1 jt k hjt1 hk) kc_X10 hjt1 (by decide +kernel) (lw_Fg q813 q817 q819 q111 q821) ⟨q815, q814, q820, q818, q816⟩ rfl rfl (Nat.le_of_ble_eq_true rfl) (by decide) dX2_tradersOf_14 (fun _ _ _ h => h.elim) ?_
      rintro v_14 M_14 ⟨rfl, hu_14⟩
      obtain rfl := hu_14.symm
      refine vr_if_eq (tgt := 53) hE dX2_tradersOf_19 (by decide) (fun c_19 => ?_) (fun c_19 => ?_)
      · have hkn : k = n := Classical.byContradiction fun z => absurd c_19 (by rw [if_neg (show ¬ n ≤ k by omega)]; decide)
        refine vr_iload_n hE dX2_tradersOf_53 rfl ?_
        refine vr_ireturn hE hQ rfl dX2_tradersOf_54 (by decide) ⟨M, ?_, fun H h => hW _ H (h.less hk1)⟩
        exact ⟨by rw [hkn], rfl⟩
      · have hkn : k < n := Nat.lt_of_not_le (fun z => c_19 (if_pos z))
        refine vr_aload_n hE dX2_tradersOf_22 rfl ?_
        refine bc_callF (ar := 0) hE (bk_X10_next G _ R n w s hR1 of fa hof1 jt k hjt1 hkn) kc_X10 hjt1 (by decide +kernel) (lw_Fg q863 q866 q868 q111 q870) ⟨q865, q864, q869, q867, q816⟩ rfl rfl (Nat.le_of_ble_eq_true rfl) (by decide) dX2_tradersOf_23 (fun _ _ _ h => h.elim) ?_
        rintro v_23 M_23 ⟨rfl, e_23⟩
        have hR_r_23 := (congrFun e_23 R.r).trans ((bu_ne (bc_dist hR1.hr hjt1 (bc_ci (by decide)))).trans hR1.hr)
        have hR_tl_23 := (congrFun e_23 R.tl).trans ((bu_ne (bc_dist hR1.htl hjt1 (bc_ci (by decide)))).trans hR1.htl)
        have hR_wl_23 := (congrFun e_23 R.wl).trans ((bu_ne (bc_dist hR1.hwl hjt1 (bc_ci (by decide)))).trans hR1.hwl)
        have h_R_tr_k__23 := (congrFun e_23 (R.tr k)).trans ((bu_ne (bc_dist (hR1.htr k (by omega)) hjt1 (bc_ci (by decide)))).trans (hR1.htr k (by omega)))
        have hof_23 := (congrFun e_23 of).trans ((bu_ne (bc_dist hof1 hjt1 (bc_ci (by decide)))).trans hof1)
        have hjt_23 := (congrFun e_23 jt).trans (bu_self _ _ _)
        refine vr_castS hE kc_X6.1 (bc_cls kc_X6 h_R_tr_k__23) q1076 dX2_tradersOf_28 ?_
        refine vr_astore hE dX2_tradersOf_31 (hnl _ (by decide)) rfl ?_
        refine vr_iload_n hE dX2_tradersOf_33 rfl ?_
        refine vr_aload hE dX2_tradersOf_34 rfl ?_
        refine bc_callV hE (bk_X6_fair G _ (R.tr k) R.r _ _ _ _ _ _ _ _ _ _ h_R_tr_k__23) kc_X6 h_R_tr_k__23 ok_X6_fair (lw_V q1495 q931 q932 q106 q933) rfl rfl (Nat.le_of_ble_eq_true rfl) (by decide) dX2_tradersOf_36 (fun _ _ _ h => h.elim) ?_
        rintro v_36 M_36 ⟨rfl, hu_36⟩
        obtain rfl := hu_36.symm
        refine vr_iload_n hE dX2_tradersOf_39 rfl ?_
        apply vt_icmp_ne (tgt := 47) (J := 48) hE dX2_tradersOf_40 (by decide)
        · intro c_40 kt1
          refine vr_iconst (v := 0) hE dX2_tradersOf_47 (by decide) ?_
          exact kt1
        · intro c_40 kf1
          refine vr_iconst (v := 1) hE dX2_tradersOf_43 (by decide) ?_
          refine vr_goto (tgt := 48) hE dX2_tradersOf_44 (by decide) ?_
          exact kf1
        refine vr_iadd hE dX2_tradersOf_48 ?_
        refine vr_istore_n hE dX2_tradersOf_49 (hnl _ (by decide)) rfl ?_
        refine vr_goto (tgt := 13) hE dX2_tradersOf_50 (by decide) ?_
        refine vr_drop 4 ?_
        have hnf := c_nf_ok s fa (n - (k + 1)) (k + 1)
        have hz := ih (c_nf s fa (n - (k + 1)) (k + 1)) M_23 (by omega) (by omega) (fun z => hnf.2.2.2 (by omega)) hjt_23 hof_23 (fun q e z => (congrFun e_23 q).trans ((bu_ne (bc_new_ne z hnjt)).trans (hk1 q e z)))
        rw [tOf_skip] at hz
        exact hz
  have hnf := c_nf_ok s fa n 0
  have hz := hlp_13 n (c_nf s fa n 0) M_7 (by omega) (by omega) (fun z => hnf.2.2.2 (by omega)) hjt_7 hofn_7 hx_7
  rw [tOf_skip] at hz
  exact hz
theorem ok_X2_sealsOf : bi_ok yX2_sealsOf RX2 1 := by decide +kernel
theorem bk_X2_sealsOf {Y : bi_Y} (G : bi_GS Y) (M : va_M) (R : cR) (n w : Nat) (s : Nat → Int32) (hR : RoundM Y M R n w s) (fa : Int32) (hfa : fa ≠ -1) : bc_Met Y yX2_sealsOf (ws_ yX2_sealsOf cX2_sealsOf 5 (some .int)) 6 127 2 4 M [.ref R.r, .int fa] (fun v M' => v = some (.int (m_seals s fa n)) ∧ M' = M) bi_nx := by
  refine bc_Met.of (own := RX2) (L0 := [some (.ref R.r), some (.int fa), none, none, none]) rfl (by decide) G (Nat.le_of_ble_eq_true rfl) rfl (fun X A hE hQ hW hnl hnm => ?_)
  have hnl : ∀ q, q < 5 → q < bi_nL X := fun q h => by rw [hnl]; exact h
  refine vr_iconst (v := 0) hE dX2_sealsOf_0 (by decide) ?_
  refine vr_istore_n hE dX2_sealsOf_1 (hnl _ (by decide)) rfl ?_
  refine vr_aload_n hE dX2_sealsOf_2 rfl ?_
  refine vr_iload_n hE dX2_sealsOf_3 rfl ?_
  refine bc_callV hE (bk_X2_of G _ R n w s hR fa) kc_X2 hR.hr ok_X2_of (lw_V q1335 q1336 q1337 q72 q1338) rfl rfl (Nat.le_of_ble_eq_true rfl) (by decide) dX2_sealsOf_4 (fun _ _ _ h => h.elim) ?_
  rintro v_4 M_4 ⟨of, rfl, hnof, e_4⟩
  have hof_4 := (congrFun e_4 of).trans (bu_self _ _ _)
  have hx_4 : ∀ q e, M q = some e → M_4 q = some e := fun q e z => (congrFun e_4 q).trans ((bu_ne (bc_new_ne z hnof)).trans z)
  have hR_4 : RoundM Y M_4 R n w s := hR.ext hx_4
  refine bc_callF (ar := 0) hE (bk_X9_iterator G _ R n w s hR_4 of fa hof_4) kc_X9 hof_4 (by decide +kernel) (lw_Fg q1355 q1359 q1361 q110 q1363) ⟨q1357, q1356, q1362, q1360, q1358⟩ rfl rfl (Nat.le_of_ble_eq_true rfl) (by decide) dX2_sealsOf_7 (fun _ _ _ h => h.elim) ?_
  rintro v_7 M_7 ⟨jt, rfl, hnjt0, e_7⟩
  have hjt_7 := (congrFun e_7 jt).trans (bu_self _ _ _)
  have hofn_7 := (congrFun e_7 of).trans ((bu_ne (bc_new_ne hof_4 hnjt0)).trans hof_4)
  have hx_7 : ∀ q e, M q = some e → M_7 q = some e := fun q e z => (congrFun e_7 q).trans ((bu_ne (bc_new_ne (hx_4 q e z) hnjt0)).trans (hx_4 q e z))
  have hnjt : M jt = none := by
    cases hz : M jt with
    | none => rfl
    | some e9 => exact absurd rfl (bc_new_ne (hx_4 jt e9 hz) hnjt0)
  refine vr_astore_n hE dX2_sealsOf_12 (hnl _ (by decide)) rfl ?_
  have hlp_13 : ∀ (c : Nat) (k : Nat) (M1 : va_M), n ≤ c + k → k ≤ n → (k < n → s (15 + k) = fa) → M1 jt = some (.inr (7, [.int (nI k), .ref of])) → M1 of = some (.inr (6, [.int fa, .ref R.r])) → (∀ q e, M q = some e → M1 q = some e) → bi_V Y.1 X (bc_W Y (bi_A X) M1) 2 4 13 [some (.ref R.r), some (.int fa), some (.int (m_seals s fa k)), some (.ref jt), none] [] := by
    intro c
    induction c with
    | zero =>
      intro k M1 hc hk hm hjt1 hof1 hk1
      have hR1 : RoundM Y M1 R n w s := hR.ext hk1
      have hn10 := hR.hn
      refine vr_aload_n hE dX2_sealsOf_13 rfl ?_
      refine bc_callF (ar := 0) hE (bk_X10_hasNext G _ R n w s hR1 of fa hof1 jt k hjt1 hk) kc_X10 hjt1 (by decide +kernel) (lw_Fg q813 q817 q819 q111 q821) ⟨q815, q814, q820, q818, q816⟩ rfl rfl (Nat.le_of_ble_eq_true rfl) (by decide) dX2_sealsOf_14 (fun _ _ _ h => h.elim) ?_
      rintro v_14 M_14 ⟨rfl, hu_14⟩
      obtain rfl := hu_14.symm
      refine vr_if_eq (tgt := 52) hE dX2_sealsOf_19 (by decide) (fun c_19 => ?_) (fun c_19 => ?_)
      · have hkn : k = n := Classical.byContradiction fun z => absurd c_19 (by rw [if_neg (show ¬ n ≤ k by omega)]; decide)
        refine vr_iload_n hE dX2_sealsOf_52 rfl ?_
        refine vr_ireturn hE hQ rfl dX2_sealsOf_53 (by decide) ⟨M, ?_, fun H h => hW _ H (h.less hk1)⟩
        exact ⟨by rw [hkn], rfl⟩
      · exact absurd (if_pos (show n ≤ k by omega)) c_19
    | succ c ih =>
      intro k M1 hc hk hm hjt1 hof1 hk1
      have hR1 : RoundM Y M1 R n w s := hR.ext hk1
      have hn10 := hR.hn
      refine vr_aload_n hE dX2_sealsOf_13 rfl ?_
      refine bc_callF (ar := 0) hE (bk_X10_hasNext G _ R n w s hR1 of fa hof1 jt k hjt1 hk) kc_X10 hjt1 (by decide +kernel) (lw_Fg q813 q817 q819 q111 q821) ⟨q815, q814, q820, q818, q816⟩ rfl rfl (Nat.le_of_ble_eq_true rfl) (by decide) dX2_sealsOf_14 (fun _ _ _ h => h.elim) ?_
      rintro v_14 M_14 ⟨rfl, hu_14⟩
      obtain rfl := hu_14.symm
      refine vr_if_eq (tgt := 52) hE dX2_sealsOf_19 (by decide) (fun c_19 => ?_) (fun c_19 => ?_)
      · have hkn : k = n := Classical.byContradiction fun z => absurd c_19 (by rw [if_neg (show ¬ n ≤ k by omega)]; decide)
        refine vr_iload_n hE dX2_sealsOf_52 rfl ?_
        refine vr_ireturn hE hQ rfl dX2_sealsOf_53 (by decide) ⟨M, ?_, fun H h => hW _ H (h.less hk1)⟩
        exact ⟨by rw [hkn], rfl⟩
      · have hkn : k < n := Nat.lt_of_not_le (fun z => c_19 (if_pos z))
        refine vr_aload_n hE dX2_sealsOf_22 rfl ?_
        refine bc_callF (ar := 0) hE (bk_X10_next G _ R n w s hR1 of fa hof1 jt k hjt1 hkn) kc_X10 hjt1 (by decide +kernel) (lw_Fg q863 q866 q868 q111 q870) ⟨q865, q864, q869, q867, q816⟩ rfl rfl (Nat.le_of_ble_eq_true rfl) (by decide) dX2_sealsOf_23 (fun _ _ _ h => h.elim) ?_
        rintro v_23 M_23 ⟨rfl, e_23⟩
        have hR_r_23 := (congrFun e_23 R.r).trans ((bu_ne (bc_dist hR1.hr hjt1 (bc_ci (by decide)))).trans hR1.hr)
        have hR_tl_23 := (congrFun e_23 R.tl).trans ((bu_ne (bc_dist hR1.htl hjt1 (bc_ci (by decide)))).trans hR1.htl)
        have hR_wl_23 := (congrFun e_23 R.wl).trans ((bu_ne (bc_dist hR1.hwl hjt1 (bc_ci (by decide)))).trans hR1.hwl)
        have h_R_tr_k__23 := (congrFun e_23 (R.tr k)).trans ((bu_ne (bc_dist (hR1.htr k (by omega)) hjt1 (bc_ci (by decide)))).trans (hR1.htr k (by omega)))
        have hof_23 := (congrFun e_23 of).trans ((bu_ne (bc_dist hof1 hjt1 (bc_ci (by decide)))).trans hof1)
        have hjt_23 := (congrFun e_23 jt).trans (bu_self _ _ _)
        refine vr_castS hE kc_X6.1 (bc_cls kc_X6 h_R_tr_k__23) q1076 dX2_sealsOf_28 ?_
        refine vr_astore hE dX2_sealsOf_31 (hnl _ (by decide)) rfl ?_
        refine vr_iload_n hE dX2_sealsOf_33 rfl ?_
        refine vr_aload hE dX2_sealsOf_34 rfl ?_
        refine bc_callV hE (bk_X6_isSealed G _ (R.tr k) R.r _ _ _ _ _ _ _ _ _ _ h_R_tr_k__23) kc_X6 h_R_tr_k__23 ok_X6_isSealed (lw_V q1834 q1406 q1407 q106 q1408) rfl rfl (Nat.le_of_ble_eq_true rfl) (by decide) dX2_sealsOf_36 (fun _ _ _ h => h.elim) ?_
        rintro v_36 M_36 ⟨rfl, hu_36⟩
        obtain rfl := hu_36.symm
        apply vt_if_eq (tgt := 46) (J := 47) hE dX2_sealsOf_39 (by decide)
        · intro c_39 kt1
          refine vr_iconst (v := 0) hE dX2_sealsOf_46 (by decide) ?_
          exact kt1
        · intro c_39 kf1
          refine vr_iconst (v := 1) hE dX2_sealsOf_42 (by decide) ?_
          refine vr_goto (tgt := 47) hE dX2_sealsOf_43 (by decide) ?_
          exact kf1
        refine vr_to (w := .int (m_sl1 s fa k)) (congrArg Value.int (sl1_ok hfa (hm hkn))) ?_
        refine vr_iadd hE dX2_sealsOf_47 ?_
        refine vr_istore_n hE dX2_sealsOf_48 (hnl _ (by decide)) rfl ?_
        refine vr_goto (tgt := 13) hE dX2_sealsOf_49 (by decide) ?_
        refine vr_drop 4 ?_
        have hnf := c_nf_ok s fa (n - (k + 1)) (k + 1)
        have hz := ih (c_nf s fa (n - (k + 1)) (k + 1)) M_23 (by omega) (by omega) (fun z => hnf.2.2.2 (by omega)) hjt_23 hof_23 (fun q e z => (congrFun e_23 q).trans ((bu_ne (bc_new_ne z hnjt)).trans (hk1 q e z)))
        rw [seals_skip hfa] at hz
        exact hz
  have hnf := c_nf_ok s fa n 0
  have hz := hlp_13 n (c_nf s fa n 0) M_7 (by omega) (by omega) (fun z => hnf.2.2.2 (by omega)) hjt_7 hofn_7 hx_7
  rw [seals_skip hfa] at hz
  exact hz
theorem ok_X2_seals : bi_ok yX2_seals RX2 0 := by decide +kernel
theorem bk_X2_seals {Y : bi_Y} (G : bi_GS Y) (M : va_M) (R : cR) (n w : Nat) (s : Nat → Int32) (hR : RoundM Y M R n w s) (hfT : ∀ t, t < n → ∃ f, f < 5 ∧ s (15 + t) = nI f) : bc_Met Y yX2_seals (ws_ yX2_seals cX2_seals 3 (some .int)) 7 151 10 20 M [.ref R.r] (fun v M' => v = some (.int (m_seals s (-1) n)) ∧ M' = M) bi_nx := by
  refine bc_Met.of (own := RX2) (L0 := [some (.ref R.r), none, none]) rfl (by decide) G (Nat.le_of_ble_eq_true rfl) rfl (fun X A hE hQ hW hnl hnm => ?_)
  have hnl : ∀ q, q < 3 → q < bi_nL X := fun q h => by rw [hnl]; exact h
  refine vr_iconst (v := 0) hE dX2_seals_0 (by decide) ?_
  refine vr_istore_n hE dX2_seals_1 (hnl _ (by decide)) rfl ?_
  refine vr_iconst (v := 0) hE dX2_seals_2 (by decide) ?_
  refine vr_istore_n hE dX2_seals_3 (hnl _ (by decide)) rfl ?_
  have hlp_4 : ∀ i, i ≤ 5 → bi_V Y.1 X (bc_W Y (bi_A X) M) (2 * i) (4 * i) 4 [some (.ref R.r), some (.int (c_ss s n i)), some (.int (nI i))] [] := by
    refine bi_loop (fun i => bi_V Y.1 X (bc_W Y (bi_A X) M) (2 * i) (4 * i) 4 [some (.ref R.r), some (.int (c_ss s n i)), some (.int (nI i))] []) 5 ?_ (fun i hi ih => ?_)
    · refine vr_iload_n hE dX2_seals_4 rfl ?_
      refine vr_iconst (v := 5) hE dX2_seals_5 (by decide) ?_
      refine vr_icmp_ge (tgt := 23) hE dX2_seals_6 (by decide) (fun c_6 => ?_) (fun c_6 => ?_)
      · skip
        refine vr_iload_n hE dX2_seals_23 rfl ?_
        refine vr_ireturn hE hQ rfl dX2_seals_24 (by decide) ⟨_, ?_, fun H h => hW _ H h⟩
        exact ⟨by rw [c_ss_ok s n hfT], rfl⟩
      · exact absurd (show nI 5 ≤ nI 5 from nI_le (Nat.le_refl _) (by decide)) c_6
    · refine vr_iload_n hE dX2_seals_4 rfl ?_
      refine vr_iconst (v := 5) hE dX2_seals_5 (by decide) ?_
      refine vr_icmp_ge (tgt := 23) hE dX2_seals_6 (by decide) (fun c_6 => ?_) (fun c_6 => ?_)
      · exact absurd (show nI 5 ≤ nI i from c_6) (nI_ge hi (by decide))
      refine vr_iload_n hE dX2_seals_9 rfl ?_
      refine vr_aload_n hE dX2_seals_10 rfl ?_
      refine vr_iload_n hE dX2_seals_11 rfl ?_
      refine bc_callV hE (bk_X2_sealsOf G _ R n w s hR (nI i) (nI_neg1 (by omega))) kc_X2 hR.hr ok_X2_sealsOf (lw_V q2405 q1831 q1832 q72 q1833) rfl rfl (Nat.le_of_ble_eq_true rfl) ⟨by decide, by decide, by omega, by omega⟩ dX2_seals_12 (fun _ _ _ h => h.elim) ?_
      rintro v_12 M_12 ⟨rfl, hu_12⟩
      obtain rfl := hu_12.symm
      refine vr_iadd hE dX2_seals_15 ?_
      refine vr_istore_n hE dX2_seals_16 (hnl _ (by decide)) rfl ?_
      refine vr_iinc hE dX2_seals_17 rfl (iinc_1 _) (hnl _ (by decide)) rfl ?_
      refine vr_goto (tgt := 4) hE dX2_seals_20 (by decide) ?_
      exact ih
  exact hlp_4 0 (Nat.zero_le _)
