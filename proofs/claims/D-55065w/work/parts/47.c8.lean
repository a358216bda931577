/-! the traders of a fair -/
set_option maxRecDepth 100000
def c_nf (s : Nat → Int32) (f : Int32) : Nat → Nat → Nat
  | 0, k => k
  | c + 1, k => if s (15 + k) = f then k else c_nf s f c (k + 1)
theorem c_nf_ok (s : Nat → Int32) (f : Int32) : ∀ c k, k ≤ c_nf s f c k ∧ c_nf s f c k ≤ c + k ∧ (∀ j, k ≤ j → j < c_nf s f c k → ¬ s (15 + j) = f) ∧ (c_nf s f c k < c + k → s (15 + c_nf s f c k) = f) := by
  intro c
  induction c with
  | zero => exact fun k => ⟨Nat.le_refl _, by simp [c_nf], fun j h1 h2 => absurd (show j < k from h2) (Nat.not_lt.mpr h1), fun h => absurd (show k < 0 + k from h) (by omega)⟩
  | succ c ih =>
    intro k
    simp only [c_nf]
    by_cases h : s (15 + k) = f
    · rw [if_pos h]
      exact ⟨Nat.le_refl _, by omega, fun j h1 h2 => absurd h2 (Nat.not_lt.mpr h1), fun _ => h⟩
    · rw [if_neg h]
      obtain ⟨h1, h2, h3, h4⟩ := ih (k + 1)
      refine ⟨by omega, by omega, fun j g1 g2 => ?_, fun g => h4 (by omega)⟩
      by_cases hj : j = k
      · subst hj; exact h
      · exact h3 j (by omega) g2
theorem RoundM.other {Y : bi_Y} {M : va_M} {R : cR} {n w : Nat} {s : Nat → Int32} (h : RoundM Y M R n w s) {a ci : Nat} {x : List Value} (hm : M a = some (.inr (ci, x))) (hc : ci ≠ 1 ∧ ci ≠ 3 ∧ ci ≠ 4 ∧ ci ≠ 18) : ∀ q, fpr R n w q → q ≠ a := by
  intro q hq
  rcases hq with rfl | rfl | rfl | rfl | rfl | ⟨z, rfl⟩ | ⟨z, rfl⟩ | ⟨j, hj, rfl⟩ | ⟨j, hj, rfl⟩
  · exact bc_dist h.hr hm (bc_ci (Ne.symm hc.1))
  · exact bc_dist h.hra hm bc_io
  · exact bc_dist h.hfi hm bc_io
  · exact bc_dist h.htl hm (bc_ci (Ne.symm hc.2.2.2))
  · exact bc_dist h.hwl hm (bc_ci (Ne.symm hc.2.2.2))
  · exact bc_dist (h.te_ z) hm bc_io
  · exact bc_dist (h.we_ z) hm bc_io
  · exact bc_dist (h.htr j hj) hm (bc_ci (Ne.symm hc.2.1))
  · exact bc_dist (h.hbr j hj) hm (bc_ci (Ne.symm hc.2.2.1))
theorem RoundM.oth {Y : bi_Y} {M M' : va_M} {R : cR} {n w : Nat} {s : Nat → Int32} (h : RoundM Y M R n w s) {a ci : Nat} {x : List Value} {e : va_E} (hm : M a = some (.inr (ci, x))) (hc : ci ≠ 1 ∧ ci ≠ 3 ∧ ci ≠ 4 ∧ ci ≠ 18) (he : M' = bu M a e) : RoundM Y M' R n w s :=
  h.keep (fun q hq => (congrFun he q).trans (bu_ne (h.other hm hc q hq)))
theorem c_hg {n k : Nat} (hn : n < 2 ^ 31) (hk : k < 2 ^ 31) : (if nI n ≤ nI k then (0 : Int32) else 1) = if n ≤ k then 0 else 1 := by
  by_cases h : n ≤ k
  · rw [if_pos h, if_pos (nI_le h hk)]
  · rw [if_neg h, if_neg (nI_ge (by omega) hn)]
theorem ok_X9_init : bi_ok yX9_init RX9 2 := by decide +kernel
theorem bk_X9_init {Y : bi_Y} (G : bi_GS Y) (M : va_M) (R : cR) (n w : Nat) (s : Nat → Int32) (hR : RoundM Y M R n w s) (of : Nat) (fa : Int32) (h_of : M of = some (.inr (6, [.int 0, .null]))) : bc_Met Y yX9_init (ws_ yX9_init cX9_init 3 none) 1 28 0 0 M [.ref of, .ref R.r, .int fa] (fun v M' => v = none ∧ M' = bu M of (.inr (6, [.int fa, .ref R.r]))) bi_nx := by
  refine bc_Met.of (own := RX9) (L0 := [some (.ref of), some (.ref R.r), some (.int fa)]) rfl (by decide) G (Nat.le_of_ble_eq_true rfl) rfl (fun X A hE hQ hW hnl hnm => ?_)
  have hnl : ∀ q, q < 3 → q < bi_nL X := fun q h => by rw [hnl]; exact h
  refine vr_aload_n hE dX9_init_0 rfl ?_
  refine vr_aload_n hE dX9_init_1 rfl ?_
  refine bc_putF (z := 1) hE kc_X9 (by decide) q1347 rfl rfl (hnm _ rfl) h_of rfl rfl (Nat.le_of_ble_eq_true rfl) dX9_init_2 (by first | decide | omega) ?_
  refine bc_nm (fun M_2 e_2 => ?_)
  have hR_r_2 := (congrFun e_2 R.r).trans ((bu_ne (bc_dist hR.hr h_of (bc_ci (by decide)))).trans hR.hr)
  have hof_2 := (congrFun e_2 of).trans (bu_self _ _ _)
  refine vr_aload_n hE dX9_init_5 rfl ?_
  refine vr_objInit hE q1344 q132 q133 dX9_init_6 ⟨by decide, Nat.le_of_ble_eq_true rfl⟩ ?_
  refine vr_aload_n hE dX9_init_9 rfl ?_
  refine vr_iload_n hE dX9_init_10 rfl ?_
  refine bc_putF (z := 0) hE kc_X9 (by decide) q1345 rfl rfl (hnm _ rfl) hof_2 rfl rfl (Nat.le_of_ble_eq_true rfl) dX9_init_11 (by first | decide | omega) ?_
  refine bc_nm (fun M_11 e_11 => ?_)
  have hR_r_11 := (congrFun e_11 R.r).trans ((bu_ne (bc_dist hR_r_2 hof_2 (bc_ci (by decide)))).trans hR_r_2)
  have hof_11 := (congrFun e_11 of).trans (bu_self _ _ _)
  refine vr_return hE hQ dX9_init_14 (by decide) ⟨_, ?_, fun H h => hW _ H h⟩
  subst e_11
  subst e_2
  exact ⟨rfl, by first | rfl | (simp only [bu_bu] <;> rfl)⟩
theorem ok_X10_nextFrom : bi_ok yX10_nextFrom RX10 1 := by decide +kernel
theorem bk_X10_nextFrom {Y : bi_Y} (G : bi_GS Y) (M : va_M) (R : cR) (n w : Nat) (s : Nat → Int32) (hR : RoundM Y M R n w s) (of : Nat) (fa : Int32) (h_of : M of = some (.inr (6, [.int fa, .ref R.r]))) (jt : Nat) (at_ : Int32) (h_jt : M jt = some (.inr (7, [.int at_, .ref of]))) (k0 : Nat) (hk0 : k0 ≤ n) : bc_Met Y yX10_nextFrom (ws_ yX10_nextFrom cX10_nextFrom 3 (some .int)) 3 64 0 0 M [.ref jt, .int (nI k0)] (fun v M' => v = some (.int (nI (c_nf s fa (n - k0) k0))) ∧ M' = M) bi_nx := by
  refine bc_Met.of (own := RX10) (L0 := [some (.ref jt), some (.int (nI k0)), none]) rfl (by decide) G (Nat.le_of_ble_eq_true rfl) rfl (fun X A hE hQ hW hnl hnm => ?_)
  have hnl : ∀ q, q < 3 → q < bi_nL X := fun q h => by rw [hnl]; exact h
  refine vr_iload_n hE dX10_nextFrom_0 rfl ?_
  refine vr_istore_n hE dX10_nextFrom_1 (hnl _ (by decide)) rfl ?_
  have hlp_2 : ∀ (c : Nat) (k : Nat), c + k = n → c_nf s fa c k = c_nf s fa (n - k0) k0 → bi_V Y.1 X (bc_W Y (bi_A X) M) 0 0 2 [some (.ref jt), some (.int (nI k0)), some (.int (nI k))] [] := by
    intro c
    induction c with
    | zero =>
      intro k hk hr
      have hn10 := hR.hn
      refine vr_iload_n hE dX10_nextFrom_2 rfl ?_
      refine vr_aload_n hE dX10_nextFrom_3 rfl ?_
      refine bc_get (z := 1) hE kc_X10 (by decide) q1370 (Or.inl rfl) h_jt rfl dX10_nextFrom_4 ?_
      refine bc_get (z := 1) hE kc_X9 (by decide) q1348 (Or.inl rfl) h_of rfl dX10_nextFrom_7 ?_
      refine bc_getN (z := 2) hE kc_X2 (by decide) q179 (Or.inl rfl) hR.hr rfl dX10_nextFrom_10 ?_
      refine bc_callF (ar := 0) hE (bk_J2_size G _ R.tl R.te n _ hR.htl) kc_J2 hR.htl (by decide +kernel) (lw_Fg q823 q826 q828 q75 q830) ⟨q825, q824, q829, q827, q477⟩ rfl rfl (Nat.le_of_ble_eq_true rfl) (by decide) dX10_nextFrom_13 (fun _ _ _ h => h.elim) ?_
      rintro v_13 M_13 ⟨rfl, hu_13⟩
      obtain rfl := hu_13.symm
      refine vr_icmp_ge (tgt := 59) hE dX10_nextFrom_18 (by decide) (fun c_18 => ?_) (fun c_18 => ?_)
      · skip
        refine vr_iload_n hE dX10_nextFrom_59 rfl ?_
        refine vr_ireturn hE hQ rfl dX10_nextFrom_60 (by decide) ⟨_, ?_, fun H h => hW _ H h⟩
        exact ⟨by rw [← hr]; rfl, rfl⟩
      · exact absurd (show nI n ≤ nI k from nI_le (by omega) (by omega)) c_18
    | succ c ih =>
      intro k hk hr
      have hn10 := hR.hn
      refine vr_iload_n hE dX10_nextFrom_2 rfl ?_
      refine vr_aload_n hE dX10_nextFrom_3 rfl ?_
      refine bc_get (z := 1) hE kc_X10 (by decide) q1370 (Or.inl rfl) h_jt rfl dX10_nextFrom_4 ?_
      refine bc_get (z := 1) hE kc_X9 (by decide) q1348 (Or.inl rfl) h_of rfl dX10_nextFrom_7 ?_
      refine bc_getN (z := 2) hE kc_X2 (by decide) q179 (Or.inl rfl) hR.hr rfl dX10_nextFrom_10 ?_
      refine bc_callF (ar := 0) hE (bk_J2_size G _ R.tl R.te n _ hR.htl) kc_J2 hR.htl (by decide +kernel) (lw_Fg q823 q826 q828 q75 q830) ⟨q825, q824, q829, q827, q477⟩ rfl rfl (Nat.le_of_ble_eq_true rfl) (by decide) dX10_nextFrom_13 (fun _ _ _ h => h.elim) ?_
      rintro v_13 M_13 ⟨rfl, hu_13⟩
      obtain rfl := hu_13.symm
      refine vr_icmp_ge (tgt := 59) hE dX10_nextFrom_18 (by decide) (fun c_18 => ?_) (fun c_18 => ?_)
      · exact absurd (show nI n ≤ nI k from c_18) (nI_ge (by omega) (by omega))
      skip
      refine vr_aload_n hE dX10_nextFrom_21 rfl ?_
      refine bc_get (z := 1) hE kc_X10 (by decide) q1370 (Or.inl rfl) h_jt rfl dX10_nextFrom_22 ?_
      refine bc_get (z := 1) hE kc_X9 (by decide) q1348 (Or.inl rfl) h_of rfl dX10_nextFrom_25 ?_
      refine bc_getN (z := 2) hE kc_X2 (by decide) q179 (Or.inl rfl) hR.hr rfl dX10_nextFrom_28 ?_
      refine vr_iload_n hE dX10_nextFrom_31 rfl ?_
      refine bc_callF (ar := 1) hE (bk_J2_get G _ R.tl R.te n _ hR.htl (lsf R.tr n) (hR.te_ (by omega)) hR.hn k (R.tr k) (by omega) (lsf_lt (by omega))) kc_J2 hR.htl (by decide +kernel) (lw_Fg q892 q895 q897 q75 q899) ⟨q894, q893, q898, q896, q477⟩ rfl rfl (Nat.le_of_ble_eq_true rfl) (by decide) dX10_nextFrom_32 (fun _ _ _ h => h.elim) ?_
      rintro v_32 M_32 ⟨rfl, hu_32⟩
      obtain rfl := hu_32.symm
      refine vr_castS hE kc_X6.1 (bc_cls kc_X6 (hR.htr k (by omega))) q924 dX10_nextFrom_37 ?_
      refine bc_callV hE (bk_X6_fair G _ (R.tr k) R.r _ _ _ _ _ _ _ _ _ _ (hR.htr k (by omega))) kc_X6 (hR.htr k (by omega)) ok_X6_fair (lw_V q930 q931 q932 q106 q933) rfl rfl (Nat.le_of_ble_eq_true rfl) (by decide) dX10_nextFrom_40 (fun _ _ _ h => h.elim) ?_
      rintro v_40 M_40 ⟨rfl, hu_40⟩
      obtain rfl := hu_40.symm
      refine vr_aload_n hE dX10_nextFrom_43 rfl ?_
      refine bc_get (z := 1) hE kc_X10 (by decide) q1370 (Or.inl rfl) h_jt rfl dX10_nextFrom_44 ?_
      refine bc_getN (z := 0) hE kc_X9 (by decide) q1346 (Or.inl rfl) h_of rfl dX10_nextFrom_47 ?_
      refine vr_icmp_eq (tgt := 59) hE dX10_nextFrom_50 (by decide) (fun c_50 => ?_) (fun c_50 => ?_)
      · skip
        refine vr_iload_n hE dX10_nextFrom_59 rfl ?_
        refine vr_ireturn hE hQ rfl dX10_nextFrom_60 (by decide) ⟨_, ?_, fun H h => hW _ H h⟩
        exact ⟨by rw [← hr, c_nf, if_pos c_50], rfl⟩
      · skip
        refine vr_iinc hE dX10_nextFrom_53 rfl (iinc_1 _) (hnl _ (by decide)) rfl ?_
        refine vr_goto (tgt := 2) hE dX10_nextFrom_56 (by decide) ?_
        exact ih (k + 1) (by omega) (by rw [← hr, c_nf, if_neg c_50])
  exact hlp_2 (n - k0) k0 (by omega) rfl
theorem ok_X10_init : bi_ok yX10_init RX10 1 := by decide +kernel
theorem bk_X10_init {Y : bi_Y} (G : bi_GS Y) (M : va_M) (R : cR) (n w : Nat) (s : Nat → Int32) (hR : RoundM Y M R n w s) (of : Nat) (fa : Int32) (h_of : M of = some (.inr (6, [.int fa, .ref R.r]))) (jt : Nat) (h_jt : M jt = some (.inr (7, [.int 0, .null]))) : bc_Met Y yX10_init (ws_ yX10_init cX10_init 2 none) 4 86 0 0 M [.ref jt, .ref of] (fun v M' => v = none ∧ M' = bu M jt (.inr (7, [.int (nI (c_nf s fa n 0)), .ref of]))) bi_nx := by
  refine bc_Met.of (own := RX10) (L0 := [some (.ref jt), some (.ref of)]) rfl (by decide) G (Nat.le_of_ble_eq_true rfl) rfl (fun X A hE hQ hW hnl hnm => ?_)
  have hnl : ∀ q, q < 2 → q < bi_nL X := fun q h => by rw [hnl]; exact h
  refine vr_aload_n hE dX10_init_0 rfl ?_
  refine vr_aload_n hE dX10_init_1 rfl ?_
  refine bc_putF (z := 1) hE kc_X10 (by decide) q1370 rfl rfl (hnm _ rfl) h_jt rfl rfl (Nat.le_of_ble_eq_true rfl) dX10_init_2 (by first | decide | omega) ?_
  refine bc_nm (fun M_2 e_2 => ?_)
  have hof_2 := (congrFun e_2 of).trans ((bu_ne (bc_dist h_of h_jt (bc_ci (by decide)))).trans h_of)
  have hjt_2 := (congrFun e_2 jt).trans (bu_self _ _ _)
  have hR_2 : RoundM Y M_2 R n w s := hR.oth h_jt (by decide) e_2
  refine vr_aload_n hE dX10_init_5 rfl ?_
  refine vr_objInit hE q1368 q132 q133 dX10_init_6 ⟨by decide, Nat.le_of_ble_eq_true rfl⟩ ?_
  refine vr_aload_n hE dX10_init_9 rfl ?_
  refine vr_aload_n hE dX10_init_10 rfl ?_
  refine vr_iconst (v := 0) hE dX10_init_11 (by decide) ?_
  refine bc_callV hE (bk_X10_nextFrom G _ R n w s hR_2 of fa hof_2 jt _ hjt_2 0 (Nat.zero_le _)) kc_X10 hjt_2 ok_X10_nextFrom (lw_V q925 q927 qs10 q111 q929) rfl rfl (Nat.le_of_ble_eq_true rfl) (by decide) dX10_init_12 (fun _ _ _ h => h.elim) ?_
  rintro v_12 M_12 ⟨rfl, hu_12⟩
  obtain rfl := hu_12.symm
  refine bc_put (z := 0) hE kc_X10 (by decide) q1369 (Or.inl rfl) rfl hjt_2 rfl rfl (Nat.le_of_ble_eq_true rfl) dX10_init_15 (by first | decide | omega) ?_
  refine bc_nm (fun M_15 e_15 => ?_)
  have hof_15 := (congrFun e_15 of).trans ((bu_ne (bc_dist hof_2 hjt_2 (bc_ci (by decide)))).trans hof_2)
  have hjt_15 := (congrFun e_15 jt).trans (bu_self _ _ _)
  refine vr_return hE hQ dX10_init_18 (by decide) ⟨_, ?_, fun H h => hW _ H h⟩
  subst e_15
  subst e_2
  exact ⟨rfl, by first | rfl | (simp only [bu_bu] <;> rfl)⟩
theorem ok_X9_iterator : bi_ok yX9_iterator RX9 0 := by decide +kernel
theorem bk_X9_iterator {Y : bi_Y} (G : bi_GS Y) (M : va_M) (R : cR) (n w : Nat) (s : Nat → Int32) (hR : RoundM Y M R n w s) (of : Nat) (fa : Int32) (h_of : M of = some (.inr (6, [.int fa, .ref R.r]))) : bc_Met Y yX9_iterator (ws_ yX9_iterator cX9_iterator 1 (some (.object "java/util/Iterator"))) 5 107 1 2 M [.ref of] (fun v M' => ∃ q, v = some (.ref q) ∧ M q = none ∧ M' = bu M q (.inr (7, [.int (nI (c_nf s fa n 0)), .ref of]))) bi_nx := by
  refine bc_Met.of (own := RX9) (L0 := [some (.ref of)]) rfl (by decide) G (Nat.le_of_ble_eq_true rfl) rfl (fun X A hE hQ hW hnl hnm => ?_)
  have hnl : ∀ q, q < 1 → q < bi_nL X := fun q h => by rw [hnl]; exact h
  refine bc_new (fs := [.int 0, .null]) hE kc_X10 q1364 q928 q111 df_X10 (by decide) (by decide) dX9_iterator_0 (fun q hn_q => ?_)
  refine bc_nm (fun M_0 e_0 => ?_)
  have nof_q := bc_new_ne h_of hn_q
  have hz_q : M q = none := hn_q
  have hof_0 := (congrFun e_0 of).trans ((bu_ne nof_q).trans h_of)
  have hq_0 := (congrFun e_0 q).trans (bu_self _ _ _)
  have hR_0 : RoundM Y M_0 R n w s := hR.ext (fun q9 e9 z9 => (congrFun e_0 q9).trans ((bu_ne (bc_new_ne z9 hn_q)).trans z9))
  refine vr_dup hE dX9_iterator_3 rfl ?_
  refine vr_aload_n hE dX9_iterator_4 rfl ?_
  refine bc_callI hE (bk_X10_init G _ R n w s hR_0 of fa hof_0 q hq_0) ok_X10_init rfl q1365 q1366 q111 q1367 rfl rfl (Nat.le_of_ble_eq_true rfl) (by decide) dX9_iterator_5 (fun _ _ _ h => h.elim) ?_
  rintro v_5 M_5 ⟨rfl, e_5⟩
  have hof_5 := (congrFun e_5 of).trans ((bu_ne nof_q).trans hof_0)
  have hq_5 := (congrFun e_5 q).trans (bu_self _ _ _)
  refine vr_areturn hE hQ (Or.inl ⟨_, rfl⟩) (Or.inr ⟨_, rfl⟩) dX9_iterator_8 (by decide) ⟨_, ?_, fun H h => hW _ H h⟩
  subst e_5
  subst e_0
  exact ⟨q, rfl, hn_q, by simp only [bu_bu] <;> rfl⟩
theorem ok_X2_of : bi_ok yX2_of RX2 1 := by decide +kernel
theorem bk_X2_of {Y : bi_Y} (G : bi_GS Y) (M : va_M) (R : cR) (n w : Nat) (s : Nat → Int32) (hR : RoundM Y M R n w s) (fa : Int32) : bc_Met Y yX2_of (ws_ yX2_of cX2_of 2 (some (.object "java/lang/Iterable"))) 2 50 1 2 M [.ref R.r, .int fa] (fun v M' => ∃ q, v = some (.ref q) ∧ M q = none ∧ M' = bu M q (.inr (6, [.int fa, .ref R.r]))) bi_nx := by
  refine bc_Met.of (own := RX2) (L0 := [some (.ref R.r), some (.int fa)]) rfl (by decide) G (Nat.le_of_ble_eq_true rfl) rfl (fun X A hE hQ hW hnl hnm => ?_)
  have hnl : ∀ q, q < 2 → q < bi_nL X := fun q h => by rw [hnl]; exact h
  refine bc_new (fs := [.int 0, .null]) hE kc_X9 q1339 q1340 q110 df_X9 (by decide) (by decide) dX2_of_0 (fun q hn_q => ?_)
  refine bc_nm (fun M_0 e_0 => ?_)
  have nR_r_q := bc_new_ne hR.hr hn_q
  have hz_q : M q = none := hn_q
  have hR_r_0 := (congrFun e_0 R.r).trans ((bu_ne nR_r_q).trans hR.hr)
  have hq_0 := (congrFun e_0 q).trans (bu_self _ _ _)
  have hR_0 : RoundM Y M_0 R n w s := hR.ext (fun q9 e9 z9 => (congrFun e_0 q9).trans ((bu_ne (bc_new_ne z9 hn_q)).trans z9))
  refine vr_dup hE dX2_of_3 rfl ?_
  refine vr_aload_n hE dX2_of_4 rfl ?_
  refine vr_iload_n hE dX2_of_5 rfl ?_
  refine bc_callI hE (bk_X9_init G _ R n w s hR_0 q fa hq_0) ok_X9_init rfl q1341 q1342 q110 q1343 rfl rfl (Nat.le_of_ble_eq_true rfl) (by decide) dX2_of_6 (fun _ _ _ h => h.elim) ?_
  rintro v_6 M_6 ⟨rfl, e_6⟩
  have hR_r_6 := (congrFun e_6 R.r).trans ((bu_ne nR_r_q).trans hR_r_0)
  have hq_6 := (congrFun e_6 q).trans (bu_self _ _ _)
  refine vr_areturn hE hQ (Or.inl ⟨_, rfl⟩) (Or.inr ⟨_, rfl⟩) dX2_of_9 (by decide) ⟨_, ?_, fun H h => hW _ H h⟩
  subst e_6
  subst e_0
  exact ⟨q, rfl, hn_q, by simp only [bu_bu] <;> rfl⟩
theorem ok_X10_hasNext : bi_ok yX10_hasNext RX10 0 := by decide +kernel
theorem bk_X10_hasNext {Y : bi_Y} (G : bi_GS Y) (M : va_M) (R : cR) (n w : Nat) (s : Nat → Int32) (hR : RoundM Y M R n w s) (of : Nat) (fa : Int32) (h_of : M of = some (.inr (6, [.int fa, .ref R.r]))) (jt k : Nat) (h_jt : M jt = some (.inr (7, [.int (nI k), .ref of]))) (hk : k ≤ n) : bc_Met Y yX10_hasNext (ws_ yX10_hasNext cX10_hasNext 1 (some .boolean)) 1 20 0 0 M [.ref jt] (fun v M' => v = some (.int (if n ≤ k then 0 else 1)) ∧ M' = M) bi_nx := by
  refine bc_Met.of (own := RX10) (L0 := [some (.ref jt)]) rfl (by decide) G (Nat.le_of_ble_eq_true rfl) rfl (fun X A hE hQ hW hnl hnm => ?_)
  have hnl : ∀ q, q < 1 → q < bi_nL X := fun q h => by rw [hnl]; exact h
  refine vr_aload_n hE dX10_hasNext_0 rfl ?_
  refine bc_get (z := 0) hE kc_X10 (by decide) q1369 (Or.inl rfl) h_jt rfl dX10_hasNext_1 ?_
  refine vr_aload_n hE dX10_hasNext_4 rfl ?_
  refine bc_get (z := 1) hE kc_X10 (by decide) q1370 (Or.inl rfl) h_jt rfl dX10_hasNext_5 ?_
  refine bc_get (z := 1) hE kc_X9 (by decide) q1348 (Or.inl rfl) h_of rfl dX10_hasNext_8 ?_
  refine bc_getN (z := 2) hE kc_X2 (by decide) q179 (Or.inl rfl) hR.hr rfl dX10_hasNext_11 ?_
  refine bc_callF (ar := 0) hE (bk_J2_size G _ R.tl R.te n _ hR.htl) kc_J2 hR.htl (by decide +kernel) (lw_Fg q823 q826 q828 q75 q830) ⟨q825, q824, q829, q827, q477⟩ rfl rfl (Nat.le_of_ble_eq_true rfl) (by decide) dX10_hasNext_14 (fun _ _ _ h => h.elim) ?_
  rintro v_14 M_14 ⟨rfl, hu_14⟩
  obtain rfl := hu_14.symm
  apply vt_icmp_ge (tgt := 26) (J := 27) hE dX10_hasNext_19 (by decide)
  · intro c_19 kt1
    refine vr_iconst (v := 0) hE dX10_hasNext_26 (by decide) ?_
    exact kt1
  · intro c_19 kf1
    refine vr_iconst (v := 1) hE dX10_hasNext_22 (by decide) ?_
    refine vr_goto (tgt := 27) hE dX10_hasNext_23 (by decide) ?_
    exact kf1
  refine vr_to (w := .int (if n ≤ k then 0 else 1)) (congrArg Value.int (c_hg (by have := hR.hn; omega) (by have := hR.hn; omega))) ?_
  refine vr_ireturn hE hQ (by split <;> rfl) dX10_hasNext_27 (by decide) ⟨_, ?_, fun H h => hW _ H h⟩
  exact ⟨rfl, rfl⟩
theorem ok_X10_next_2 : bi_ok yX10_next_2 RX10 0 := by decide +kernel
theorem bk_X10_next_2 {Y : bi_Y} (G : bi_GS Y) (M : va_M) (R : cR) (n w : Nat) (s : Nat → Int32) (hR : RoundM Y M R n w s) (of : Nat) (fa : Int32) (h_of : M of = some (.inr (6, [.int fa, .ref R.r]))) (jt k : Nat) (h_jt : M jt = some (.inr (7, [.int (nI k), .ref of]))) (hk : k < n) : bc_Met Y yX10_next_2 (ws_ yX10_next_2 cX10_next_2 2 (some (.object "BrassInspector$Round$Trader"))) 4 86 0 0 M [.ref jt] (fun v M' => v = some (.ref (R.tr k)) ∧ M' = bu M jt (.inr (7, [.int (nI (c_nf s fa (n - (k + 1)) (k + 1))), .ref of]))) bi_nx := by
  refine bc_Met.of (own := RX10) (L0 := [some (.ref jt), none]) rfl (by decide) G (Nat.le_of_ble_eq_true rfl) rfl (fun X A hE hQ hW hnl hnm => ?_)
  have hnl : ∀ q, q < 2 → q < bi_nL X := fun q h => by rw [hnl]; exact h
  refine vr_aload_n hE dX10_next_2_0 rfl ?_
  refine bc_callV hE (bk_X10_hasNext G _ R n w s hR of fa h_of jt k h_jt (by omega)) kc_X10 h_jt ok_X10_hasNext (lw_V q875 q819 q2905 q111 q821) rfl rfl (Nat.le_of_ble_eq_true rfl) (by decide) dX10_next_2_1 (fun _ _ _ h => h.elim) ?_
  rintro v_1 M_1 ⟨rfl, hu_1⟩
  obtain rfl := hu_1.symm
  refine vr_if_ne (tgt := 15) hE dX10_next_2_4 (by decide) (fun c_4 => ?_) (fun c_4 => ?_)
  · skip
    refine vr_aload_n hE dX10_next_2_15 rfl ?_
    refine bc_get (z := 1) hE kc_X10 (by decide) q1370 (Or.inl rfl) h_jt rfl dX10_next_2_16 ?_
    refine bc_get (z := 1) hE kc_X9 (by decide) q1348 (Or.inl rfl) h_of rfl dX10_next_2_19 ?_
    refine bc_getN (z := 2) hE kc_X2 (by decide) q179 (Or.inl rfl) hR.hr rfl dX10_next_2_22 ?_
    refine vr_aload_n hE dX10_next_2_25 rfl ?_
    refine bc_get (z := 0) hE kc_X10 (by decide) q1369 (Or.inl rfl) h_jt rfl dX10_next_2_26 ?_
    refine bc_callF (ar := 1) hE (bk_J2_get G _ R.tl R.te n _ hR.htl (lsf R.tr n) (hR.te_ (by omega)) hR.hn k (R.tr k) hk (lsf_lt hk)) kc_J2 hR.htl (by decide +kernel) (lw_Fg q892 q895 q897 q75 q899) ⟨q894, q893, q898, q896, q477⟩ rfl rfl (Nat.le_of_ble_eq_true rfl) (by decide) dX10_next_2_29 (fun _ _ _ h => h.elim) ?_
    rintro v_29 M_29 ⟨rfl, hu_29⟩
    obtain rfl := hu_29.symm
    refine vr_castS hE kc_X6.1 (bc_cls kc_X6 (hR.htr k hk)) q924 dX10_next_2_34 ?_
    refine vr_astore_n hE dX10_next_2_37 (hnl _ (by decide)) rfl ?_
    refine vr_aload_n hE dX10_next_2_38 rfl ?_
    refine vr_aload_n hE dX10_next_2_39 rfl ?_
    refine vr_aload_n hE dX10_next_2_40 rfl ?_
    refine bc_get (z := 0) hE kc_X10 (by decide) q1369 (Or.inl rfl) h_jt rfl dX10_next_2_41 ?_
    refine vr_iconst (v := 1) hE dX10_next_2_44 (by decide) ?_
    refine vr_iadd hE dX10_next_2_45 ?_
    refine vr_to (w := .int (nI (k + 1))) (congrArg Value.int (nI_1 k)) ?_
    refine bc_callV hE (bk_X10_nextFrom G _ R n w s hR of fa h_of jt _ h_jt (k + 1) (by omega)) kc_X10 h_jt ok_X10_nextFrom (lw_V q925 q927 qs10 q111 q929) rfl rfl (Nat.le_of_ble_eq_true rfl) (by decide) dX10_next_2_46 (fun _ _ _ h => h.elim) ?_
    rintro v_46 M_46 ⟨rfl, hu_46⟩
    obtain rfl := hu_46.symm
    refine bc_put (z := 0) hE kc_X10 (by decide) q1369 (Or.inl rfl) rfl h_jt rfl rfl (Nat.le_of_ble_eq_true rfl) dX10_next_2_49 (by first | decide | omega) ?_
    refine bc_nm (fun M_49 e_49 => ?_)
    have hR_r_49 := (congrFun e_49 R.r).trans ((bu_ne (bc_dist hR.hr h_jt (bc_ci (by decide)))).trans hR.hr)
    have hR_ra_49 := (congrFun e_49 R.ra).trans ((bu_ne (bc_dist hR.hra h_jt bc_io)).trans hR.hra)
    have hR_fi_49 := (congrFun e_49 R.fi).trans ((bu_ne (bc_dist hR.hfi h_jt bc_io)).trans hR.hfi)
    have hR_tl_49 := (congrFun e_49 R.tl).trans ((bu_ne (bc_dist hR.htl h_jt (bc_ci (by decide)))).trans hR.htl)
    have hR_wl_49 := (congrFun e_49 R.wl).trans ((bu_ne (bc_dist hR.hwl h_jt (bc_ci (by decide)))).trans hR.hwl)
    have hof_49 := (congrFun e_49 of).trans ((bu_ne (bc_dist h_of h_jt (bc_ci (by decide)))).trans h_of)
    have h_R_tr_k__49 := (congrFun e_49 (R.tr k)).trans ((bu_ne (bc_dist (hR.htr k hk) h_jt (bc_ci (by decide)))).trans (hR.htr k hk))
    have hjt_49 := (congrFun e_49 jt).trans (bu_self _ _ _)
    refine vr_aload_n hE dX10_next_2_52 rfl ?_
    refine vr_areturn hE hQ (Or.inl ⟨_, rfl⟩) (Or.inr ⟨_, rfl⟩) dX10_next_2_53 (by decide) ⟨_, ?_, fun H h => hW _ H h⟩
    subst e_49
    exact ⟨rfl, by first | rfl | (simp only [bu_bu] <;> rfl)⟩
  · exact absurd c_4 (by rw [if_neg (by omega)]; decide)
theorem ok_X10_next : bi_ok yX10_next RX10 0 := by decide +kernel
theorem bk_X10_next {Y : bi_Y} (G : bi_GS Y) (M : va_M) (R : cR) (n w : Nat) (s : Nat → Int32) (hR : RoundM Y M R n w s) (of : Nat) (fa : Int32) (h_of : M of = some (.inr (6, [.int fa, .ref R.r]))) (jt k : Nat) (h_jt : M jt = some (.inr (7, [.int (nI k), .ref of]))) (hk : k < n) : bc_Met Y yX10_next (ws_ yX10_next cX10_next 1 (some (.object "java/lang/Object"))) 5 107 0 0 M [.ref jt] (fun v M' => v = some (.ref (R.tr k)) ∧ M' = bu M jt (.inr (7, [.int (nI (c_nf s fa (n - (k + 1)) (k + 1))), .ref of]))) bi_nx := by
  refine bc_Met.of (own := RX10) (L0 := [some (.ref jt)]) rfl (by decide) G (Nat.le_of_ble_eq_true rfl) rfl (fun X A hE hQ hW hnl hnm => ?_)
  have hnl : ∀ q, q < 1 → q < bi_nL X := fun q h => by rw [hnl]; exact h
  refine vr_aload_n hE dX10_next_0 rfl ?_
  refine bc_callV hE (bk_X10_next_2 G _ R n w s hR of fa h_of jt k h_jt hk) kc_X10 h_jt ok_X10_next_2 (lw_V q871 q872 q873 q111 q874) rfl rfl (Nat.le_of_ble_eq_true rfl) (by decide) dX10_next_1 (fun _ _ _ h => h.elim) ?_
  rintro v_1 M_1 ⟨rfl, e_1⟩
  have hjt_1 := (congrFun e_1 jt).trans (bu_self _ _ _)
  refine vr_areturn hE hQ (Or.inl ⟨_, rfl⟩) (Or.inr ⟨_, rfl⟩) dX10_next_4 (by decide) ⟨_, ?_, fun H h => hW _ H h⟩
  subst e_1
  exact ⟨rfl, by first | rfl | (simp only [bu_bu] <;> rfl)⟩
