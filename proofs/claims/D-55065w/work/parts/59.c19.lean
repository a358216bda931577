/-! the round grown; an inspection -/
set_option maxRecDepth 100000
theorem fpr_addT2 {M : va_M} {R : cR} {n w e te' : Nat} (he : M e = none) (ht : (0 < n ∧ te' = R.te) ∨ M te' = none) : ∀ x, fpr (R.r, R.ra, R.fi, R.tl, R.wl, te', R.we, fun j => if j = n then e else R.tr j, R.br) (n + 1) w x → fpr R n w x ∨ M x = none := by
  intro x hx
  rcases hx with rfl | rfl | rfl | rfl | rfl | ⟨z, rfl⟩ | ⟨z, rfl⟩ | ⟨j, hj, rfl⟩ | ⟨j, hj, rfl⟩
  · exact Or.inl (Or.inl rfl)
  · exact Or.inl (Or.inr (Or.inl rfl))
  · exact Or.inl (Or.inr (Or.inr (Or.inl rfl)))
  · exact Or.inl (Or.inr (Or.inr (Or.inr (Or.inl rfl))))
  · exact Or.inl (Or.inr (Or.inr (Or.inr (Or.inr (Or.inl rfl)))))
  · rcases ht with ⟨h0, h1⟩ | h1
    · exact Or.inl (Or.inr (Or.inr (Or.inr (Or.inr (Or.inr (Or.inl ⟨h0, h1⟩))))))
    · exact Or.inr h1
  · exact Or.inl (Or.inr (Or.inr (Or.inr (Or.inr (Or.inr (Or.inr (Or.inl ⟨z, rfl⟩)))))))
  · by_cases hjn : j = n
    · refine Or.inr ?_
      show M (if j = n then e else R.tr j) = none
      rw [if_pos hjn]
      exact he
    · refine Or.inl ?_
      show fpr R n w (if j = n then e else R.tr j)
      rw [if_neg hjn]
      exact fpr.tr (by omega)
  · exact Or.inl (fpr.br hj)
theorem fpr_addW2 {M : va_M} {R : cR} {n w e te' : Nat} (he : M e = none) (ht : (0 < w ∧ te' = R.we) ∨ M te' = none) : ∀ x, fpr (R.r, R.ra, R.fi, R.tl, R.wl, R.te, te', R.tr, fun j => if j = w then e else R.br j) n (w + 1) x → fpr R n w x ∨ M x = none := by
  intro x hx
  rcases hx with rfl | rfl | rfl | rfl | rfl | ⟨z, rfl⟩ | ⟨z, rfl⟩ | ⟨j, hj, rfl⟩ | ⟨j, hj, rfl⟩
  · exact Or.inl (Or.inl rfl)
  · exact Or.inl (Or.inr (Or.inl rfl))
  · exact Or.inl (Or.inr (Or.inr (Or.inl rfl)))
  · exact Or.inl (Or.inr (Or.inr (Or.inr (Or.inl rfl))))
  · exact Or.inl (Or.inr (Or.inr (Or.inr (Or.inr (Or.inl rfl)))))
  · exact Or.inl (Or.inr (Or.inr (Or.inr (Or.inr (Or.inr (Or.inl ⟨z, rfl⟩))))))
  · rcases ht with ⟨h0, h1⟩ | h1
    · exact Or.inl (Or.inr (Or.inr (Or.inr (Or.inr (Or.inr (Or.inr (Or.inl ⟨h0, h1⟩)))))))
    · exact Or.inr h1
  · exact Or.inl (fpr.tr hj)
  · by_cases hjn : j = w
    · refine Or.inr ?_
      show M (if j = w then e else R.br j) = none
      rw [if_pos hjn]
      exact he
    · refine Or.inl ?_
      show fpr R n w (if j = w then e else R.br j)
      rw [if_neg hjn]
      exact fpr.br (by omega)
def c_k7 (s : Nat → Int32) (t u f : Nat) : Nat → Int32 := m_l7 (m_l6 (m_lA s t u f) f (m_fine s t u f)) t
theorem k7_ne {s : Nat → Int32} {t u f : Nat} (ht : t < 10) (hf : f < 5) : ∀ k, (k < 15 ∨ 105 ≤ k ∨ (k - 15) % 10 ≠ t) → c_k7 s t u f k = upd s (10 + f) (s (10 + f) + m_fine s t u f) k := fun k hk => by
  by_cases h : k = 10 + f
  · subst h
    simp (disch := omega) only [c_k7, m_l7, m_l6, m_lA, m_l5, m_l4, m_l3, m_l2, m_l1, pk_un, pk_us]
  · simp (disch := omega) only [c_k7, m_l7, m_l6, m_lA, m_l5, m_l4, m_l3, m_l2, m_l1, pk_un]
theorem k7_tS {s : Nat → Int32} {t u f : Nat} (r : Nat) (ht : t < 10) (hf : f < 5) : tL (nI t) (s (15 + t)) (s (25 + t) - c_min (s (25 + t)) (m_fine s t u f)) (s (35 + t) + (m_fine s t u f - c_min (s (25 + t)) (m_fine s t u f))) (s (45 + t)) (s (55 + t)) (if in_ (s (45 + t) - s (109 + u)) (-4) 4 = 0 then -1 else s 0) (if s (75 + t) ≤ 2 then s (75 + t) else 0) (s (85 + t) + m_fine s t u f) (s 0) r = tS (c_k7 s t u f) r t := by
  rw [c_min_eq]
  simp (disch := omega) only [tS, c_k7, m_l7, m_l6, m_lA, m_l5, m_l4, m_l3, m_l2, m_l1, m_lp, pk_un, pk_us, m_shows]
  rfl
theorem k9_bS {s : Nat → Int32} {t u f : Nat} (ht : t < 10) (hu : u < 4) (hf : f < 5) : bL (nI u) (s (105 + u)) (s (109 + u) + (if ¬ jmod (s (105 + u) + (s (113 + u) + 1)) 4 = 0 then 0 else 1)) (s (113 + u) + 1) = bS (m_l9 (m_l8 (c_k7 s t u f) u) u) u := by
  simp (disch := omega) only [bS, c_k7, m_l9, m_l8, m_l7, m_l6, m_lA, m_l5, m_l4, m_l3, m_l2, m_l1, pk_un, pk_us]
theorem looks_0 {s : Nat → Int32} {t u f k : Nat} (ht : t < 10) (hu : u < 4) (hf : f < 5) (hk : k = 0 ∨ k = 4) : m_looks s t u f k = s k := by
  rcases hk with rfl | rfl <;> simp (disch := omega) only [m_looks, m_l10, m_l9, m_l8, m_l7, m_l6, m_lA, m_l5, m_l4, m_l3, m_l2, m_l1, pk_un]
theorem looks_3 {s : Nat → Int32} {t u f : Nat} (ht : t < 10) (hu : u < 4) (hf : f < 5) : m_looks s t u f 3 = s 3 + 1 := by
  simp (disch := omega) only [m_looks, m_l10, m_l9, m_l8, m_l7, m_l6, m_lA, m_l5, m_l4, m_l3, m_l2, m_l1, pk_un, pk_us]
theorem ok_X2_comes : bi_ok yX2_comes RX2 3 := by decide +kernel
theorem bk_X2_comes {Y : bi_Y} (G : bi_GS Y) (M : va_M) (R : cR) (n w : Nat) (s : Nat → Int32) (hR : RoundM Y M R n w s) (hz : c_zt s n) (fa co dr : Int32) : bc_Met Y yX2_comes (ws_ yX2_comes cX2_comes 4 (some .int)) 7 144 3 29 M [.ref R.r, .int fa, .int co, .int dr] (fun v M' => ∃ R' s' x', c_comes s n fa co dr = .inr (s', x') ∧ v = some (.int x') ∧ R'.r = R.r ∧ RoundM Y M' R' (n + 1) w s' ∧ cKeep M M' R n w ∧ ∀ q, fpr R' (n + 1) w q → fpr R n w q ∨ M q = none) (c_PX M (c_comes s n fa co dr)) := by
  refine bc_Met.of (own := RX2) (L0 := [some (.ref R.r), some (.int fa), some (.int co), some (.int dr)]) rfl (by decide) G (Nat.le_of_ble_eq_true rfl) rfl (fun X A hE hQ hW hnl hnm => ?_)
  have hnl : ∀ q, q < 4 → q < bi_nL X := fun q h => by rw [hnl]; exact h
  refine vr_aload_n hE dX2_comes_0 rfl ?_
  refine bc_get (z := 2) hE kc_X2 (by decide) q178 (Or.inl rfl) hR.hr rfl dX2_comes_1 ?_
  refine bc_callF (ar := 0) hE (bk_J2_size G _ R.tl R.te n _ hR.htl) kc_J2 hR.htl (by decide +kernel) (lw_Fg q1228 q826 q828 q75 q830) ⟨q825, q824, q829, q827, q477⟩ rfl rfl (Nat.le_of_ble_eq_true rfl) (by decide) dX2_comes_4 (fun _ _ _ h => h.elim) ?_
  rintro v_4 M_4 ⟨rfl, hu_4⟩
  obtain rfl := hu_4.symm
  refine vr_bipush (v := 10) hE dX2_comes_9 (by decide) ?_
  apply vt_icmp_ge (tgt := 18) (J := 19) hE dX2_comes_11 (by decide)
  · intro c_11 kt1
    refine vr_iconst (v := 0) hE dX2_comes_18 (by decide) ?_
    exact kt1
  · intro c_11 kf1
    refine vr_iconst (v := 1) hE dX2_comes_14 (by decide) ?_
    refine vr_goto (tgt := 19) hE dX2_comes_15 (by decide) ?_
    exact kf1
  refine vr_iconst (v := 1) hE dX2_comes_19 (by decide) ?_
  refine vr_bipush (v := 10) hE dX2_comes_20 (by decide) ?_
  refine bc_callSN hE (bk_X1_meet G _ _ 1 10) ok_X1_meet q1229 q1230 q71 q1231 rfl rfl (Nat.le_of_ble_eq_true rfl) (by decide) dX2_comes_22 (fun q9 E9 M9 h9 => vr_out hE hQ (fun _ z9 => by cases z9) (by first | decide | exact ⟨by omega, by omega⟩) ⟨M9, (c_PX.of h9 (by unfold c_comes; rw [if_pos (show n = 10 from by
      have hn9 := hR.hn
      refine Classical.byContradiction fun z => absurd h9.1 (by rw [if_neg (show ¬ (10 : Int32) ≤ nI n from nI_ge (a := n) (b := 10) (by omega) (by decide))]; decide))])), fun H h => hW _ H h⟩) ?_
  rintro v_22 M_22 ⟨hb_22, rfl, hu_22⟩
  obtain rfl := hu_22.symm
  have hn9 := hR.hn
  have hlt : n < 10 := Nat.lt_of_not_le fun z => hb_22 (if_pos (show (10 : Int32) ≤ nI n from nI_le (a := 10) (b := n) (by omega) (by omega)))
  refine vr_aload_n hE dX2_comes_25 rfl ?_
  refine bc_get (z := 2) hE kc_X2 (by decide) q178 (Or.inl rfl) hR.hr rfl dX2_comes_26 ?_
  refine bc_new (fs := [.int 0, .int 0, .int 0, .int 0, .int 0, .int 0, .int 0, .int 0, .int 0, .int 0, .null]) hE kc_X6 q1076 q1077 q106 df_X6 (by decide) (by decide) dX2_comes_29 (fun x hn_x => ?_)
  refine bc_nm (fun M_29 e_29 => ?_)
  have nR_r_x := bc_new_ne hR.hr hn_x
  have nR_tl_x := bc_new_ne hR.htl hn_x
  have nR_wl_x := bc_new_ne hR.hwl hn_x
  have hz_x : M x = none := hn_x
  have hR_r_29 := (congrFun e_29 R.r).trans ((bu_ne nR_r_x).trans hR.hr)
  have hR_tl_29 := (congrFun e_29 R.tl).trans ((bu_ne nR_tl_x).trans hR.htl)
  have hR_wl_29 := (congrFun e_29 R.wl).trans ((bu_ne nR_wl_x).trans hR.hwl)
  have hx_29 := (congrFun e_29 x).trans (bu_self _ _ _)
  refine vr_dup hE dX2_comes_32 rfl ?_
  refine vr_aload_n hE dX2_comes_33 rfl ?_
  refine vr_aload_n hE dX2_comes_34 rfl ?_
  refine bc_get (z := 2) hE kc_X2 (by decide) q178 (Or.inl rfl) hR_r_29 rfl dX2_comes_35 ?_
  refine bc_callF (ar := 0) hE (bk_J2_size G _ R.tl R.te n _ hR_tl_29) kc_J2 hR_tl_29 (by decide +kernel) (lw_Fg q1228 q826 q828 q75 q830) ⟨q825, q824, q829, q827, q477⟩ rfl rfl (Nat.le_of_ble_eq_true rfl) (by decide) dX2_comes_38 (fun _ _ _ h => h.elim) ?_
  rintro v_38 M_38 ⟨rfl, hu_38⟩
  obtain rfl := hu_38.symm
  refine vr_iload_n hE dX2_comes_43 rfl ?_
  refine vr_iload_n hE dX2_comes_44 rfl ?_
  refine vr_iload_n hE dX2_comes_45 rfl ?_
  refine bc_callI hE (bk_X6_init_2 G _ x R.r hx_29 (nI n) fa co dr) ok_X6_init_2 rfl q1252 q1085 q106 q1086 rfl rfl (Nat.le_of_ble_eq_true rfl) (by decide) dX2_comes_46 (fun _ _ _ h => h.elim) ?_
  rintro v_46 M_46 ⟨rfl, e_46⟩
  have hR_r_46 := (congrFun e_46 R.r).trans ((bu_ne nR_r_x).trans hR_r_29)
  have hR_tl_46 := (congrFun e_46 R.tl).trans ((bu_ne nR_tl_x).trans hR_tl_29)
  have hR_wl_46 := (congrFun e_46 R.wl).trans ((bu_ne nR_wl_x).trans hR_wl_29)
  have hx_46 := (congrFun e_46 x).trans (bu_self _ _ _)
  have hq_e : ∀ y e9, M y = some e9 → M_46 y = some e9 := fun y e9 z => (congrFun e_46 y).trans ((bu_ne (bc_new_ne z hn_x)).trans ((congrFun e_29 y).trans ((bu_ne (bc_new_ne z hn_x)).trans z)))
  have hN_46 := hR.ext hq_e
  have hk_46 := hq_e
  refine bc_callF (ar := 1) hE (bk_J2_addX G _ R.tl R.te n _ hN_46.htl R.tr hN_46.hte (by omega) x 3 11 _ _ _ _ kc_X6 q2941 hx_46 (Ne.symm nR_tl_x)) kc_J2 hR_tl_46 (by decide +kernel) (lw_Fg q1123 q1126 q1128 q75 q1130) ⟨q1125, q1124, q1129, q1127, q477⟩ rfl rfl (Nat.le_of_ble_eq_true rfl) (by decide) dX2_comes_49 (fun _ _ _ h => h.elim) ?_
  rintro v_49 M_49 ⟨te', rfl, ht9, e_49⟩
  have hN_49 := hN_46.addT (s' := (m_newT s n fa co dr)) hlt ht9 (hx_46.trans (congrArg (fun z => some (Sum.inr (3, z))) (newT_ok R.r hlt hz))) (newT_ne hlt) newT_1 e_49
  have hno : M te' = none ∨ (0 < n ∧ te' = R.te) := ht9.elim Or.inr (fun z => Or.inl (bc_sub_none hk_46 z.2))
  have hck : cKeep M M_49 R n w := (cKeep.bu (M1 := bu M_46 te' (eQ Y 10 (va_up (lsf R.tr n) n (some x)))) (cKeep.bu (M1 := M_46) (fun y e9 z _ => hk_46 y e9 z) (hno.elim Or.inr (fun g9 => Or.inl (Or.inr (Or.inr (Or.inr (Or.inr (Or.inr (Or.inl ⟨g9.1, g9.2⟩)))))))) rfl) (Or.inl (Or.inr (Or.inr (Or.inr (Or.inl rfl))))) e_49)
  refine vr_pop hE dX2_comes_54 rfl ?_
  refine vr_aload_n hE dX2_comes_55 rfl ?_
  refine bc_get (z := 2) hE kc_X2 (by decide) q178 (Or.inl rfl) hN_49.hr rfl dX2_comes_56 ?_
  refine bc_callF (ar := 0) hE (bk_J2_size G _ R.tl te' (n + 1) _ hN_49.htl) kc_J2 hN_49.htl (by decide +kernel) (lw_Fg q1228 q826 q828 q75 q830) ⟨q825, q824, q829, q827, q477⟩ rfl rfl (Nat.le_of_ble_eq_true rfl) (by decide) dX2_comes_59 (fun _ _ _ h => h.elim) ?_
  rintro v_59 M_59 ⟨rfl, hu_59⟩
  obtain rfl := hu_59.symm
  refine vr_iconst (v := 1) hE dX2_comes_64 (by decide) ?_
  refine vr_isub hE dX2_comes_65 ?_
  refine vr_to (w := .int (nI n)) (congrArg Value.int (by rw [nI_succ, Int32.add_sub_cancel])) ?_
  refine vr_ireturn hE hQ rfl dX2_comes_66 (by decide) ⟨_, ?_, fun H h => hW _ H h⟩
  refine ⟨(R.r, R.ra, R.fi, R.tl, R.wl, te', R.we, fun j => if j = n then x else R.tr j, R.br), _, _, by unfold c_comes; rw [if_neg (by omega)], rfl, rfl, hN_49, hck, ?_⟩
  exact fpr_addT2 hn_x (hno.elim Or.inr Or.inl)
theorem ok_X2_cast : bi_ok yX2_cast RX2 1 := by decide +kernel
theorem bk_X2_cast {Y : bi_Y} (G : bi_GS Y) (M : va_M) (R : cR) (n w : Nat) (s : Nat → Int32) (hR : RoundM Y M R n w s) (hz : c_zw s w) (oz : Int32) : bc_Met Y yX2_cast (ws_ yX2_cast cX2_cast 2 (some .int)) 7 144 3 22 M [.ref R.r, .int oz] (fun v M' => ∃ R' s' x', c_cast s w oz = .inr (s', x') ∧ v = some (.int x') ∧ R'.r = R.r ∧ RoundM Y M' R' n (w + 1) s' ∧ cKeep M M' R n w ∧ ∀ q, fpr R' n (w + 1) q → fpr R n w q ∨ M q = none) (c_PX M (c_cast s w oz)) := by
  refine bc_Met.of (own := RX2) (L0 := [some (.ref R.r), some (.int oz)]) rfl (by decide) G (Nat.le_of_ble_eq_true rfl) rfl (fun X A hE hQ hW hnl hnm => ?_)
  have hnl : ∀ q, q < 2 → q < bi_nL X := fun q h => by rw [hnl]; exact h
  refine vr_aload_n hE dX2_cast_0 rfl ?_
  refine bc_get (z := 3) hE kc_X2 (by decide) q180 (Or.inl rfl) hR.hr rfl dX2_cast_1 ?_
  refine bc_callF (ar := 0) hE (bk_J2_size G _ R.wl R.we w _ hR.hwl) kc_J2 hR.hwl (by decide +kernel) (lw_Fg q1228 q826 q828 q75 q830) ⟨q825, q824, q829, q827, q477⟩ rfl rfl (Nat.le_of_ble_eq_true rfl) (by decide) dX2_cast_4 (fun _ _ _ h => h.elim) ?_
  rintro v_4 M_4 ⟨rfl, hu_4⟩
  obtain rfl := hu_4.symm
  refine vr_iconst (v := 4) hE dX2_cast_9 (by decide) ?_
  apply vt_icmp_ge (tgt := 17) (J := 18) hE dX2_cast_10 (by decide)
  · intro c_10 kt1
    refine vr_iconst (v := 0) hE dX2_cast_17 (by decide) ?_
    exact kt1
  · intro c_10 kf1
    refine vr_iconst (v := 1) hE dX2_cast_13 (by decide) ?_
    refine vr_goto (tgt := 18) hE dX2_cast_14 (by decide) ?_
    exact kf1
  refine vr_iconst (v := 1) hE dX2_cast_18 (by decide) ?_
  refine vr_iconst (v := 4) hE dX2_cast_19 (by decide) ?_
  refine bc_callSN hE (bk_X1_meet G _ _ 1 4) ok_X1_meet q1229 q1230 q71 q1231 rfl rfl (Nat.le_of_ble_eq_true rfl) (by decide) dX2_cast_20 (fun q9 E9 M9 h9 => vr_out hE hQ (fun _ z9 => by cases z9) (by first | decide | exact ⟨by omega, by omega⟩) ⟨M9, (c_PX.of h9 (by unfold c_cast; rw [if_pos (show w = 4 from by
      have hn9 := hR.hw
      refine Classical.byContradiction fun z => absurd h9.1 (by rw [if_neg (show ¬ (4 : Int32) ≤ nI w from nI_ge (a := w) (b := 4) (by omega) (by decide))]; decide))])), fun H h => hW _ H h⟩) ?_
  rintro v_20 M_20 ⟨hb_20, rfl, hu_20⟩
  obtain rfl := hu_20.symm
  have hn9 := hR.hw
  have hlt : w < 4 := Nat.lt_of_not_le fun z => hb_20 (if_pos (show (4 : Int32) ≤ nI w from nI_le (a := 4) (b := w) (by omega) (by omega)))
  refine vr_aload_n hE dX2_cast_23 rfl ?_
  refine bc_get (z := 3) hE kc_X2 (by decide) q180 (Or.inl rfl) hR.hr rfl dX2_cast_24 ?_
  refine bc_new (fs := [.int 0, .int 0, .int 0, .int 0]) hE kc_X7 q1186 q1192 q108 df_X7 (by decide) (by decide) dX2_cast_27 (fun x hn_x => ?_)
  refine bc_nm (fun M_27 e_27 => ?_)
  have nR_r_x := bc_new_ne hR.hr hn_x
  have nR_tl_x := bc_new_ne hR.htl hn_x
  have nR_wl_x := bc_new_ne hR.hwl hn_x
  have hz_x : M x = none := hn_x
  have hR_r_27 := (congrFun e_27 R.r).trans ((bu_ne nR_r_x).trans hR.hr)
  have hR_tl_27 := (congrFun e_27 R.tl).trans ((bu_ne nR_tl_x).trans hR.htl)
  have hR_wl_27 := (congrFun e_27 R.wl).trans ((bu_ne nR_wl_x).trans hR.hwl)
  have hx_27 := (congrFun e_27 x).trans (bu_self _ _ _)
  refine vr_dup hE dX2_cast_30 rfl ?_
  refine vr_aload_n hE dX2_cast_31 rfl ?_
  refine bc_get (z := 3) hE kc_X2 (by decide) q180 (Or.inl rfl) hR_r_27 rfl dX2_cast_32 ?_
  refine bc_callF (ar := 0) hE (bk_J2_size G _ R.wl R.we w _ hR_wl_27) kc_J2 hR_wl_27 (by decide +kernel) (lw_Fg q1228 q826 q828 q75 q830) ⟨q825, q824, q829, q827, q477⟩ rfl rfl (Nat.le_of_ble_eq_true rfl) (by decide) dX2_cast_35 (fun _ _ _ h => h.elim) ?_
  rintro v_35 M_35 ⟨rfl, hu_35⟩
  obtain rfl := hu_35.symm
  refine vr_iload_n hE dX2_cast_40 rfl ?_
  refine bc_callI hE (bk_X7_init G _ x hx_27 (nI w) oz) ok_X7_init rfl q1274 q1194 q108 q1195 rfl rfl (Nat.le_of_ble_eq_true rfl) (by decide) dX2_cast_41 (fun _ _ _ h => h.elim) ?_
  rintro v_41 M_41 ⟨rfl, e_41⟩
  have hR_r_41 := (congrFun e_41 R.r).trans ((bu_ne nR_r_x).trans hR_r_27)
  have hR_tl_41 := (congrFun e_41 R.tl).trans ((bu_ne nR_tl_x).trans hR_tl_27)
  have hR_wl_41 := (congrFun e_41 R.wl).trans ((bu_ne nR_wl_x).trans hR_wl_27)
  have hx_41 := (congrFun e_41 x).trans (bu_self _ _ _)
  have hq_e : ∀ y e9, M y = some e9 → M_41 y = some e9 := fun y e9 z => (congrFun e_41 y).trans ((bu_ne (bc_new_ne z hn_x)).trans ((congrFun e_27 y).trans ((bu_ne (bc_new_ne z hn_x)).trans z)))
  have hN_41 := hR.ext hq_e
  have hk_41 := hq_e
  refine bc_callF (ar := 1) hE (bk_J2_addX G _ R.wl R.we w _ hN_41.hwl R.br hN_41.hwe (by omega) x 4 4 _ _ _ _ kc_X7 q2943 hx_41 (Ne.symm nR_wl_x)) kc_J2 hR_wl_41 (by decide +kernel) (lw_Fg q1123 q1126 q1128 q75 q1130) ⟨q1125, q1124, q1129, q1127, q477⟩ rfl rfl (Nat.le_of_ble_eq_true rfl) (by decide) dX2_cast_44 (fun _ _ _ h => h.elim) ?_
  rintro v_44 M_44 ⟨te', rfl, ht9, e_44⟩
  have hN_44 := hN_41.addW (s' := (c_newW s w oz)) hlt ht9 (hx_41.trans (congrArg (fun z => some (Sum.inr (4, z))) (newW_ok hlt hz))) (newW_ne hlt) newW_2 e_44
  have hno : M te' = none ∨ (0 < w ∧ te' = R.we) := ht9.elim Or.inr (fun z => Or.inl (bc_sub_none hk_41 z.2))
  have hck : cKeep M M_44 R n w := (cKeep.bu (M1 := bu M_41 te' (eQ Y 10 (va_up (lsf R.br w) w (some x)))) (cKeep.bu (M1 := M_41) (fun y e9 z _ => hk_41 y e9 z) (hno.elim Or.inr (fun g9 => Or.inl (Or.inr (Or.inr (Or.inr (Or.inr (Or.inr (Or.inr (Or.inl ⟨g9.1, g9.2⟩))))))))) rfl) (Or.inl (Or.inr (Or.inr (Or.inr (Or.inr (Or.inl rfl)))))) e_44)
  refine vr_pop hE dX2_cast_49 rfl ?_
  refine vr_aload_n hE dX2_cast_50 rfl ?_
  refine bc_get (z := 3) hE kc_X2 (by decide) q180 (Or.inl rfl) hN_44.hr rfl dX2_cast_51 ?_
  refine bc_callF (ar := 0) hE (bk_J2_size G _ R.wl te' (w + 1) _ hN_44.hwl) kc_J2 hN_44.hwl (by decide +kernel) (lw_Fg q1228 q826 q828 q75 q830) ⟨q825, q824, q829, q827, q477⟩ rfl rfl (Nat.le_of_ble_eq_true rfl) (by decide) dX2_cast_54 (fun _ _ _ h => h.elim) ?_
  rintro v_54 M_54 ⟨rfl, hu_54⟩
  obtain rfl := hu_54.symm
  refine vr_iconst (v := 1) hE dX2_cast_59 (by decide) ?_
  refine vr_isub hE dX2_cast_60 ?_
  refine vr_to (w := .int (nI w)) (congrArg Value.int (by rw [nI_succ, Int32.add_sub_cancel])) ?_
  refine vr_ireturn hE hQ rfl dX2_cast_61 (by decide) ⟨_, ?_, fun H h => hW _ H h⟩
  refine ⟨(R.r, R.ra, R.fi, R.tl, R.wl, R.te, te', R.tr, fun j => if j = w then x else R.br j), _, _, by unfold c_cast; rw [if_neg (by omega)], rfl, rfl, hN_44, hck, ?_⟩
  exact fpr_addW2 hn_x (hno.elim Or.inr Or.inl)
theorem ok_X2_inspect : bi_ok yX2_inspect RX2 2 := by decide +kernel
theorem bk_X2_inspect {Y : bi_Y} (G : bi_GS Y) (M : va_M) (R : cR) (n w : Nat) (s : Nat → Int32) (hR : RoundM Y M R n w s) (t u f : Nat) (ht : t < n) (hu : u < w) (hf : f < 5) (hff : s (15 + t) = nI f) : bc_Met Y yX2_inspect (wsW_ yX2_inspect cX2_inspect 6 (some .int) [(13, 42, 45, 155)]) 7 144 4 26 M [.ref R.r, .int (nI t), .int (nI u)] (fun v M' => ∃ s' x, c_insp s t u f = .inr (s', x) ∧ v = some (.int x) ∧ RoundM Y M' R n w s' ∧ cKeep M M' R n w) (c_PX M (c_insp s t u f)) := by
  refine bc_Met.ofH (own := RX2) (L0 := [some (.ref R.r), some (.int (nI t)), some (.int (nI u)), none, none, none]) rfl (by decide) G (Nat.le_of_ble_eq_true rfl) rfl (fun X A hE hQ hW hnl => ?_)
  have hnl : ∀ q, q < 6 → q < bi_nL X := fun q h => by rw [hnl]; exact h
  refine vr_aload_n hE dX2_inspect_0 rfl ?_
  refine vr_iload_n hE dX2_inspect_1 rfl ?_
  refine bc_callV hE (bk_X2_trader G _ R n w s hR t ht) kc_X2 hR.hr ok_X2_trader (lw_V q1489 q1257 q1258 q72 q1259) rfl rfl (Nat.le_of_ble_eq_true rfl) (by decide) dX2_inspect_2 (fun _ _ _ h => h.elim) ?_
  rintro v_2 M_2 ⟨rfl, hu_2⟩
  obtain rfl := hu_2.symm
  refine vr_astore_n hE dX2_inspect_5 (hnl _ (by decide)) rfl ?_
  refine vr_aload_n hE dX2_inspect_6 rfl ?_
  refine vr_iload_n hE dX2_inspect_7 rfl ?_
  refine bc_callV hE (bk_X2_weight G _ R n w s hR u hu) kc_X2 hR.hr ok_X2_weight (lw_V q1282 q1283 q1284 q72 q1285) rfl rfl (Nat.le_of_ble_eq_true rfl) (by decide) dX2_inspect_8 (fun _ _ _ h => h.elim) ?_
  rintro v_8 M_8 ⟨rfl, hu_8⟩
  obtain rfl := hu_8.symm
  refine vr_astore hE dX2_inspect_11 (hnl _ (by decide)) rfl ?_
  have hcat : ∀ (q9 k9 n9 : Nat) (M9 : va_M) (r d : Int32) (u9 w9 : Value), k9 ≤ 2 → n9 ≤ 16 → c_insp s t u f = .inl [(12, nI t), (r, d)] → rf_ u9 → rf_ w9 → M q9 = none → M9 = bu M q9 (.inr (5, xR (.ref q9) u9 w9 r d)) → bi_V Y.1 X (bc_W Y (bi_A X) M9) k9 n9 45 [some (.ref R.r), some (.int (nI t)), some (.int (nI u)), some (.ref (R.tr t)), some (.ref (R.br u)), none] [.ref q9] := by
    intro q9 k9 n9 M9 r d u9 w9 hk9 hn9 hsp hu9 hw9 hq9 e_9
    have h9f : M9 q9 = some (.inr (5, xR (.ref q9) u9 w9 r d)) := by rw [e_9]; exact bu_self _ _ _
    refine vr_astore hE dX2_inspect_45 (hnl _ (by decide)) rfl ?_
    refine bc_newX (fs := [.null, .null, .null, .null, .null, .int 0, .int 0, .int 0]) hE kc_X8 q1488 q1232 q109 df_X8 ⟨by omega, by omega⟩ dX2_inspect_47 (fun q2 hn_q2 => ?_)
    refine bc_nm (fun M_47 e_47 => ?_)
    have nq9_q2 := bc_new_ne h9f hn_q2
    have hq9_47 := (congrFun e_47 q9).trans ((bu_ne nq9_q2).trans h9f)
    have hq2_47 := (congrFun e_47 q2).trans (bu_self _ _ _)
    refine vr_dup hE dX2_inspect_50 rfl ?_
    refine vr_bipush (v := 12) hE dX2_inspect_51 (by decide) ?_
    refine vr_iload_n hE dX2_inspect_53 rfl ?_
    refine vr_aload hE dX2_inspect_54 rfl ?_
    refine bc_callI hE (bk_X8_init_2 G _ q2 hq2_47 12 (nI t) q9) ok_X8_init_2 rfl q1500 q1501 q109 q1502 rfl rfl (Nat.le_of_ble_eq_true rfl) ⟨by decide, by decide, by omega, by omega⟩ dX2_inspect_56 (fun _ _ _ h => h.elim) ?_
    rintro v_56 M_56 ⟨rfl, u, w, hu, hw, e_56⟩
    have hq9_56 := (congrFun e_56 q9).trans ((bu_ne nq9_q2).trans hq9_47)
    have hq2_56 := (congrFun e_56 q2).trans (bu_self _ _ _)
    refine bc_athrow hE kc_X8 hq2_56 dX2_inspect_59 ?_
    refine vr_out hE hQ (by decide) ⟨by omega, by omega⟩ ⟨_, ?_, fun H h => hW _ H h⟩
    refine ⟨_, hsp, rfl, ⟨u, w, q9, hu, hw, nq9_q2, hq2_56, u9, w9, hu9, hw9, hq9_56⟩, fun x9 e9 z9 => ?_⟩
    exact (congrFun e_56 x9).trans ((bu_ne (fun y9 => by have z8 := hn_q2; rw [← y9, e_9, bu_ne (bc_new_ne z9 hq9)] at z8; rw [z8] at z9; cases z9)).trans ((congrFun e_47 x9).trans ((bu_ne (fun y9 => by have z8 := hn_q2; rw [← y9, e_9, bu_ne (bc_new_ne z9 hq9)] at z8; rw [z8] at z9; cases z9)).trans (by rw [e_9, bu_ne (bc_new_ne z9 hq9)]; exact z9))))
  skip
  refine vr_aload_n hE dX2_inspect_13 rfl ?_
  refine bc_callV hE (bk_X6_isHere G _ (R.tr t) R.r _ _ _ _ _ _ _ _ _ _ (hR.htr t ht) R.ra R.fi R.tl R.wl _ _ _ hR.hr) kc_X6 (hR.htr t ht) ok_X6_isHere (lw_V q1490 q1491 q1492 q106 q1493) rfl rfl (Nat.le_of_ble_eq_true rfl) (by decide) dX2_inspect_14 (fun _ _ _ h => h.elim) ?_
  rintro v_14 M_14 ⟨rfl, hu_14⟩
  obtain rfl := hu_14.symm
  refine vr_iconst (v := 2) hE dX2_inspect_17 (by decide) ?_
  refine vr_aload_n hE dX2_inspect_18 rfl ?_
  refine bc_callV hE (bk_X6_fair G _ (R.tr t) R.r _ _ _ _ _ _ _ _ _ _ (hR.htr t ht)) kc_X6 (hR.htr t ht) ok_X6_fair (lw_V q1495 q931 q932 q106 q933) rfl rfl (Nat.le_of_ble_eq_true rfl) (by decide) dX2_inspect_19 (fun _ _ _ h => h.elim) ?_
  rintro v_19 M_19 ⟨rfl, hu_19⟩
  obtain rfl := hu_19.symm
  refine bc_callSN hE (bk_X1_meet G _ _ 2 (s (15 + t))) ok_X1_meet q1229 q1230 q71 q1231 rfl rfl (Nat.le_of_ble_eq_true rfl) (by decide) dX2_inspect_22 (fun q9 E9 M9 h9 => by
      obtain ⟨hb9, rfl, hq9, u9, w9, hu9, hw9, e9⟩ := h9
      exact vr_catch1 (nm := "BrassInspector$Refusal") hE _ [] rfl (by decide) (by decide) q1488 q1233 (hcat q9 _ _ M9 _ _ u9 w9 (by decide) (by decide) (by unfold c_insp; rw [if_pos (show ¬ s (15 + t) = m_fn s from fun z => absurd hb9 (by rw [if_neg (show ¬ ¬ s (15 + t) = jmod (s 0) 5 from fun y => y z)]; decide))]) hu9 hw9 hq9 e9)) ?_
  rintro v_22 M_22 ⟨hb_22, rfl, hu_22⟩
  obtain rfl := hu_22.symm
  have h15 : ¬ ¬ s (15 + t) = m_fn s := fun z => hb_22 (if_pos z)
  refine vr_aload_n hE dX2_inspect_25 rfl ?_
  refine bc_callV hE (bk_X6_isInspectedNow G _ (R.tr t) R.r _ _ _ _ _ _ _ _ _ _ (hR.htr t ht) R.ra R.fi R.tl R.wl _ _ _ hR.hr) kc_X6 (hR.htr t ht) ok_X6_isInspectedNow (lw_V q1496 q1497 q1498 q106 q1499) rfl rfl (Nat.le_of_ble_eq_true rfl) (by decide) dX2_inspect_26 (fun _ _ _ h => h.elim) ?_
  rintro v_26 M_26 ⟨rfl, hu_26⟩
  obtain rfl := hu_26.symm
  apply vt_if_ne (tgt := 36) (J := 37) hE dX2_inspect_29 (by decide)
  · intro c_29 kt1
    refine vr_iconst (v := 0) hE dX2_inspect_36 (by decide) ?_
    exact kt1
  · intro c_29 kf1
    refine vr_iconst (v := 1) hE dX2_inspect_32 (by decide) ?_
    refine vr_goto (tgt := 37) hE dX2_inspect_33 (by decide) ?_
    exact kf1
  refine vr_iconst (v := 3) hE dX2_inspect_37 (by decide) ?_
  refine vr_iload_n hE dX2_inspect_38 rfl ?_
  refine bc_callSN hE (bk_X1_meet G _ _ 3 (nI t)) ok_X1_meet q1229 q1230 q71 q1231 rfl rfl (Nat.le_of_ble_eq_true rfl) (by decide) dX2_inspect_39 (fun q9 E9 M9 h9 => by
      obtain ⟨hb9, rfl, hq9, u9, w9, hu9, hw9, e9⟩ := h9
      exact vr_catch1 (nm := "BrassInspector$Refusal") hE _ [] rfl (by decide) (by decide) q1488 q1233 (hcat q9 _ _ M9 _ _ u9 w9 (by decide) (by decide) (by unfold c_insp; rw [if_neg h15, if_pos (show s (95 + t) = s 0 from c_here.mp hb9)]) hu9 hw9 hq9 e9)) ?_
  rintro v_39 M_39 ⟨hb_39, rfl, hu_39⟩
  obtain rfl := hu_39.symm
  have h95 : ¬ s (95 + t) = s 0 := fun z => hb_39 (c_here.mpr z)
  refine vr_goto (tgt := 60) hE dX2_inspect_42 (by decide) ?_
  refine vr_aload hE dX2_inspect_60 rfl ?_
  refine bc_callV hE (bk_X7_wear G _ (R.br u) _ _ _ _ (hR.hbr u hu)) kc_X7 (hR.hbr u hu) ok_X7_wear (lw_V q1286 q1287 q1288 q108 q1289) rfl rfl (Nat.le_of_ble_eq_true rfl) (by decide) dX2_inspect_62 (fun _ _ _ h => h.elim) ?_
  rintro v_62 M_62 ⟨rfl, hu_62⟩
  obtain rfl := hu_62.symm
  refine vr_bipush (v := 9) hE dX2_inspect_65 (by decide) ?_
  apply vt_icmp_gt (tgt := 74) (J := 75) hE dX2_inspect_67 (by decide)
  · intro c_67 kt2
    refine vr_iconst (v := 0) hE dX2_inspect_74 (by decide) ?_
    exact kt2
  · intro c_67 kf2
    refine vr_iconst (v := 1) hE dX2_inspect_70 (by decide) ?_
    refine vr_goto (tgt := 75) hE dX2_inspect_71 (by decide) ?_
    exact kf2
  refine vr_iconst (v := 4) hE dX2_inspect_75 (by decide) ?_
  refine vr_aload hE dX2_inspect_76 rfl ?_
  refine bc_callV hE (bk_X7_wear G _ (R.br u) _ _ _ _ (hR.hbr u hu)) kc_X7 (hR.hbr u hu) ok_X7_wear (lw_V q1286 q1287 q1288 q108 q1289) rfl rfl (Nat.le_of_ble_eq_true rfl) (by decide) dX2_inspect_78 (fun _ _ _ h => h.elim) ?_
  rintro v_78 M_78 ⟨rfl, hu_78⟩
  obtain rfl := hu_78.symm
  refine bc_callSN hE (bk_X1_meet G _ _ 4 (s (109 + u))) ok_X1_meet q1229 q1230 q71 q1231 rfl rfl (Nat.le_of_ble_eq_true rfl) (by decide) dX2_inspect_81 (fun q9 E9 M9 h9 => vr_out hE hQ (by decide) (by first | decide | exact ⟨by omega, by omega⟩) ⟨M9, (c_PX.of h9 (by unfold c_insp; rw [if_neg h15, if_neg h95, if_neg (fun z => absurd h9.1 (by rw [if_neg (Int32.not_lt.mpr z)]; decide))])), fun H h => hW _ H h⟩) ?_
  rintro v_81 M_81 ⟨hb_81, rfl, hu_81⟩
  obtain rfl := hu_81.symm
  have h109 : s (109 + u) ≤ 9 := Int32.not_lt.mp (fun z => hb_81 (if_pos z))
  refine vr_aload_n hE dX2_inspect_84 rfl ?_
  refine vr_aload hE dX2_inspect_85 rfl ?_
  refine bc_callV hE (bk_X6_looksAt G _ (R.tr t) R.r _ _ _ _ _ _ _ _ _ _ (hR.htr t ht) R.ra R.fi R.tl R.wl _ _ _ hR.hr (R.br u) _ _ _ _ (hR.hbr u hu) _ hR.hra f hf hff _ hR.hfi hR.nrf) kc_X6 (hR.htr t ht) ok_X6_looksAt (lw_V q1509 q1510 q1511 q106 q1512) rfl rfl (Nat.le_of_ble_eq_true rfl) (by decide) dX2_inspect_87 (fun _ _ _ h => h.elim) ?_
  rintro v_87 M_87 ⟨hv_87, e_87⟩
  have hfine : c_fine (ar5 s 5 f) (s (45 + t) - s (109 + u)) (s (75 + t)) = m_fine s t u f := by
    rw [ar5_lt hf]
    rfl
  rw [hfine] at hv_87 e_87
  obtain rfl := hv_87.symm
  have ht10 : t < 10 := Nat.lt_of_lt_of_le ht hR.hn
  have hu4 : u < 4 := Nat.lt_of_lt_of_le hu hR.hw
  have hN1 : RoundM Y (bu M R.fi (eI Y 5 (ar5 (upd s (10 + f) (s (10 + f) + m_fine s t u f)) 10))) R n w (upd s (10 + f) (s (10 + f) + m_fine s t u f)) := hR.fns (fun k9 hk9 => pk_un (by omega))
  have hN_87 : RoundM Y M_87 R n w (c_k7 s t u f) := by
    rw [e_87, ar5_upd hf, ar5_lt hf, k7_tS R.r ht10 hf]
    exact hN1.trader ht (k7_ne ht10 hf)
  have hk_87 : cKeep M M_87 R n w := (cKeep.rf.bu (Or.inl (Or.inr (Or.inr (Or.inl rfl)))) rfl).bu (Or.inl (fpr.tr ht)) e_87
  have hbr_87 : M_87 (R.br u) = some (.inr (4, bL (nI u) (s (105 + u)) (s (109 + u)) (s (113 + u)))) := by
    rw [e_87, bu_ne (bc_dist (hR.hbr u hu) (hR.htr t ht) (bc_ci (by decide))), bu_ne (bc_dist (hR.hbr u hu) hR.hfi bc_oi)]
    exact hR.hbr u hu
  refine vr_istore hE dX2_inspect_90 (hnl _ (by decide)) rfl ?_
  refine vr_aload hE dX2_inspect_92 rfl ?_
  refine bc_callV hE (bk_X7_isUsed G _ (R.br u) _ _ _ _ hbr_87) kc_X7 hbr_87 ok_X7_isUsed (lw_V q1523 q1524 q1525 q108 q1526) rfl rfl (Nat.le_of_ble_eq_true rfl) (by decide) dX2_inspect_94 (fun _ _ _ h => h.elim) ?_
  rintro v_94 M_94 ⟨rfl, e_94⟩
  have hR_r_94 := (congrFun e_94 R.r).trans ((bu_ne (bc_dist hN_87.hr hbr_87 (bc_ci (by decide)))).trans hN_87.hr)
  have h_R_br_u__94 := (congrFun e_94 (R.br u)).trans (bu_self _ _ _)
  have hN_94 : RoundM Y M_94 R n w (m_l9 (m_l8 (c_k7 s t u f) u) u) := by
    rw [e_94, k9_bS ht10 hu4 hf]
    exact hN_87.brass hu (fun k9 hk9 => by simp (disch := omega) only [m_l9, m_l8, pk_un])
  have hk_94 : cKeep M M_94 R n w := hk_87.bu (Or.inl (fpr.br hu)) e_94
  refine vr_aload_n hE dX2_inspect_97 rfl ?_
  refine vr_dup hE dX2_inspect_98 rfl ?_
  refine bc_get (z := 5) hE kc_X2 (by decide) q184 (Or.inl rfl) hR_r_94 rfl dX2_inspect_99 ?_
  refine vr_iconst (v := 1) hE dX2_inspect_102 (by decide) ?_
  refine vr_iadd hE dX2_inspect_103 ?_
  refine bc_put (z := 5) hE kc_X2 (by decide) q184 (Or.inl rfl) rfl hR_r_94 rfl rfl (Nat.le_of_ble_eq_true rfl) dX2_inspect_104 (by first | decide | omega) ?_
  refine bc_nm (fun M_104 e_104 => ?_)
  have h_R_br_u__104 := (congrFun e_104 (R.br u)).trans ((bu_ne (bc_dist h_R_br_u__94 hR_r_94 (bc_ci (by decide)))).trans h_R_br_u__94)
  have hR_r_104 := (congrFun e_104 R.r).trans (bu_self _ _ _)
  refine vr_iload hE dX2_inspect_107 rfl ?_
  refine vr_ireturn hE hQ rfl dX2_inspect_109 (by decide) ⟨_, ?_, fun H h => hW _ H h⟩
  refine ⟨_, _, by unfold c_insp; rw [if_neg h15, if_neg h95, if_pos h109], rfl, ?_, hk_94.bu (Or.inl (Or.inl rfl)) e_104⟩
  have z := hN_94.own (s' := m_looks s t u f) (fun k9 _ h3 _ => by show m_l10 _ k9 = _; exact pk_un h3)
  rw [looks_0 ht10 hu4 hf (Or.inl rfl), looks_3 ht10 hu4 hf, looks_0 ht10 hu4 hf (Or.inr rfl)] at z
  rw [e_104]
  have e0 : c_k7 s t u f 0 = s 0 := by
    simp (disch := omega) only [c_k7, m_l7, m_l6, m_lA, m_l5, m_l4, m_l3, m_l2, m_l1, pk_un]
  have e3 : c_k7 s t u f 3 = s 3 := by
    simp (disch := omega) only [c_k7, m_l7, m_l6, m_lA, m_l5, m_l4, m_l3, m_l2, m_l1, pk_un]
  have e4 : c_k7 s t u f 4 = s 4 := by
    simp (disch := omega) only [c_k7, m_l7, m_l6, m_lA, m_l5, m_l4, m_l3, m_l2, m_l1, pk_un]
  rw [e0, e3, e4]
  exact z
