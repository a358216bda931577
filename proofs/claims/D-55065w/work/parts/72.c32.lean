/-! the Reader -/
set_option maxRecDepth 100000
def c_hr (T : Nat → Nat) (e s : Nat) : Nat := if s < e then T s else 10
def RdM (Y : bi_Y) (M : va_M) (rd x bf v : Nat) (T : Nat → Nat) (e s : Nat) : Prop := (∃ r sv lt ln pl er, M x = some (.inr (0, xL r sv pl bf er lt ln))) ∧ BufT Y M bf v T e ∧ M rd = some (.inr (16, [.int (nI s), .ref x])) ∧ s ≤ e ∧ e ≤ 60
theorem BufT.obj {Y : bi_Y} {M : va_M} {sb v : Nat} {T : Nat → Nat} {e : Nat} (h : BufT Y M sb v T e) : ∃ w cd mb ct, M sb = some (.inr (21, sbL w cd mb ct)) := by
  rcases h with ⟨mb, c, f, ⟨h1, h2, h3⟩, h4⟩ | ⟨mb, c, f, ⟨h1, h2, h3⟩, h4⟩
  · exact ⟨_, _, _, _, h1⟩
  · exact ⟨_, _, _, _, h1⟩
theorem BufT.arr {Y : bi_Y} {M : va_M} {sb v : Nat} {T : Nat → Nat} {e : Nat} (h : BufT Y M sb v T e) : ∃ N f, M v = some (eB Y N f) := by
  rcases h with ⟨mb, c, f, ⟨h1, h2, h3⟩, h4⟩ | ⟨mb, c, f, ⟨h1, h2, h3⟩, h4⟩
  · exact ⟨_, _, h2⟩
  · exact ⟨_, _, h2⟩
theorem BufT.lt {Y : bi_Y} {M : va_M} {sb v : Nat} {T : Nat → Nat} {e : Nat} (h : BufT Y M sb v T e) {j : Nat} (hj : j < e) : T j < 65536 := by
  rcases h with ⟨mb, c, f, h1, h4⟩ | ⟨mb, c, f, h1, h4⟩
  · exact Nat.lt_trans (h4 j hj).1 (by decide)
  · exact (h4 j hj).1
theorem BufT.ext {Y : bi_Y} {M M' : va_M} {sb v : Nat} {T : Nat → Nat} {e : Nat} (h : BufT Y M sb v T e) (k1 : ∀ z, M sb = some z → M' sb = some z) (k2 : ∀ z, M v = some z → M' v = some z) : BufT Y M' sb v T e := by
  obtain ⟨w, cd, mb, ct, h1⟩ := h.obj
  obtain ⟨N, f, h2⟩ := h.arr
  exact h.keep ((k1 _ h1).trans h1.symm) ((k2 _ h2).trans h2.symm)
theorem RdM.facts {Y : bi_Y} {M : va_M} {rd x bf v : Nat} {T : Nat → Nat} {e s : Nat} (h : RdM Y M rd x bf v T e s) : ∃ r sv lt ln pl er w cd mb ct, M x = some (.inr (0, xL r sv pl bf er lt ln)) ∧ M bf = some (.inr (21, sbL w cd mb ct)) ∧ BufT Y M bf v T e ∧ M rd = some (.inr (16, [.int (nI s), .ref x])) ∧ s ≤ e ∧ e ≤ 60 := by
  obtain ⟨⟨r, sv, lt, ln, pl, er, h1⟩, h2, h3⟩ := h
  obtain ⟨w, cd, mb, ct, h4⟩ := h2.obj
  exact ⟨r, sv, lt, ln, pl, er, w, cd, mb, ct, h1, h4, h2, h3⟩
def RdK (M M' : va_M) (rd : Nat) : Prop := ∀ y z, M y = some z → y ≠ rd → M' y = some z
theorem RdK.rf {M : va_M} {rd : Nat} : RdK M M rd := fun _ _ z _ => z
theorem RdK.tr {M M1 M2 : va_M} {rd : Nat} (h : RdK M M1 rd) (h' : RdK M1 M2 rd) : RdK M M2 rd := fun y z hy hn => h' y z (h y z hy hn) hn
theorem RdM.at {Y : bi_Y} {M M' : va_M} {rd x bf v : Nat} {T : Nat → Nat} {e s s' : Nat} (h : RdM Y M rd x bf v T e s) (hs : s' ≤ e) (k : RdK M M' rd) (hr : M' rd = some (.inr (16, [.int (nI s'), .ref x]))) : RdM Y M' rd x bf v T e s' := by
  obtain ⟨⟨r, sv, lt, ln, pl, er, h1⟩, h2, h3, h4, h5⟩ := h
  obtain ⟨w, cd, mb, ct, h6⟩ := h2.obj
  obtain ⟨N, f, h7⟩ := h2.arr
  exact ⟨⟨r, sv, lt, ln, pl, er, k _ _ h1 (bc_dist h1 h3 (bc_ci (by decide)))⟩, h2.ext (fun z hz => k _ _ hz (bc_dist h6 h3 (bc_ci (by decide)))) (fun z hz => k _ _ hz (bc_dist h7 h3 bc_io)), hr, hs, h5⟩
theorem RdM.ext {Y : bi_Y} {M M' : va_M} {rd x bf v : Nat} {T : Nat → Nat} {e s : Nat} (h : RdM Y M rd x bf v T e s) (k : ∀ y z, M y = some z → M' y = some z) : RdM Y M' rd x bf v T e s := h.at h.2.2.2.1 (fun y z hy _ => k y z hy) (k _ _ h.2.2.1)
/-- a text error is thrown, its place told -/
def RPX (M : va_M) (rd : Nat) (fail : Nat → Prop) (q : Nat) (E : String) (M' : va_M) : Prop := ∃ pos u w, fail pos ∧ E = "BrassInspector$TextError" ∧ rf_ u ∧ rf_ w ∧ M' q = some (.inr (17, xT u w (nI pos))) ∧ RdK M M' rd
theorem RPX.tr {M M1 M' : va_M} {rd q : Nat} {f f' : Nat → Prop} {E : String} (h : RPX M1 rd f q E M') (k : RdK M M1 rd) (hf : ∀ p, f p → f' p) : RPX M rd f' q E M' := by
  obtain ⟨pos, u, w, h1, h2, h3, h4, h5, h6⟩ := h
  exact ⟨pos, u, w, hf _ h1, h2, h3, h4, h5, k.tr h6⟩
def c_dg (c : Nat) : Int32 := in_ (nI c) 48 57
def r_take (T : Nat → Nat) (e c s : Nat) : Nat ⊕ Nat := if c_hr T e s = c then .inr (s + 1) else .inl s
def r_word (T : Nat → Nat) (e : Nat) : List Nat → Nat → Nat ⊕ Nat
  | [], s => .inr s
  | c :: l, s => match r_take T e c s with | .inl p => .inl p | .inr s' => r_word T e l s'
def r_dig (T : Nat → Nat) (e s : Nat) : Nat ⊕ (Nat × Nat) := if c_dg (c_hr T e s) = 0 then .inl s else .inr (c_hr T e s - 48, s + 1)
def r_num (T : Nat → Nat) (e s : Nat) : Nat ⊕ (Nat × Nat) := match r_dig T e s with
  | .inl p => .inl p
  | .inr (v, s1) => match r_dig T e s1 with
    | .inl _ => .inr (v, s1)
    | .inr (v2, s2) => .inr (10 * v + v2, s2)
def r_sig (T : Nat → Nat) (e s : Nat) : Nat ⊕ (Int32 × Nat) := if c_hr T e s = 45 then (match r_dig T e (s + 1) with | .inl p => .inl p | .inr (v, s2) => .inr (- nI v, s2)) else (match r_dig T e s with | .inl p => .inl p | .inr (v, s2) => .inr (nI v, s2))
theorem hr_take {T : Nat → Nat} {e c s : Nat} (hc : c ≠ 10) (h : c_hr T e s = c) : s < e := by
  unfold c_hr at h
  by_cases z : s < e
  · exact z
  · rw [if_neg z] at h; exact absurd h.symm hc
theorem hr_lt {T : Nat → Nat} {e s : Nat} (h : ∀ j, j < e → T j < 65536) : c_hr T e s < 65536 := by
  unfold c_hr
  split
  · next z => exact h _ z
  · decide
theorem dg_in {c : Nat} (hc : c < 65536) (h : ¬ c_dg c = 0) : 48 ≤ c ∧ c ≤ 57 := by
  have h2 : (48 : Int32) ≤ nI c ∧ nI c ≤ 57 := Classical.byContradiction fun z => h ((in_0 _ _ _).mpr z)
  rw [Int32.le_iff_toInt_le, Int32.le_iff_toInt_le, nI_toInt (by omega)] at h2
  have e1 : (48 : Int32).toInt = 48 := rfl
  have e2 : (57 : Int32).toInt = 57 := rfl
  omega
theorem dg_lt {T : Nat → Nat} {e s : Nat} (hT : ∀ j, j < e → T j < 65536) (h : ¬ c_dg (c_hr T e s) = 0) : s < e := by
  have := dg_in (hr_lt hT) h
  by_cases z : s < e
  · exact z
  · unfold c_hr at this
    rw [if_neg z] at this
    omega
theorem ok_X17_here : bi_ok yX17_here RX17 0 := by decide +kernel
theorem bk_X17_here {Y : bi_Y} (G : bi_GS Y) (M : va_M) (rd x bf v e s : Nat) (T : Nat → Nat) (hD : RdM Y M rd x bf v T e s) : bc_Met Y yX17_here (ws_ yX17_here cX17_here 1 (some .char)) 4 88 0 0 M [.ref rd] (fun v9 M' => v9 = some (.int (nI (c_hr T e s))) ∧ M' = M) bi_nx := by
  obtain ⟨r, sv, lt, ln, pl, er, w0, cd, mb, ct, h_x, h_bf, hB, h_rd, hs, he⟩ := hD.facts
  have hT6 : ∀ j, j < e → T j < 65536 := fun j hj => hB.lt hj
  refine bc_Met.of (own := RX17) (L0 := [some (.ref rd)]) rfl (by decide) G (Nat.le_of_ble_eq_true rfl) rfl (fun X A hE hQ hW hnl hnm => ?_)
  have hnl : ∀ q, q < 1 → q < bi_nL X := fun q h => by rw [hnl]; exact h
  refine vr_aload_n hE dX17_here_0 rfl ?_
  refine bc_get (z := 0) hE kc_X17 (by decide) q2103 (Or.inl rfl) h_rd rfl dX17_here_1 ?_
  refine vr_aload_n hE dX17_here_4 rfl ?_
  refine bc_get (z := 1) hE kc_X17 (by decide) q2104 (Or.inl rfl) h_rd rfl dX17_here_5 ?_
  refine bc_getN (z := 3) hE kc_X1 (by decide) q259 (Or.inl rfl) h_x rfl dX17_here_8 ?_
  refine bc_callV hE (BufT_length G _ bf v e T hB) kc_J6 h_bf ok_J6_length (lw_V q2128 q699 q2908 q79 q700) rfl rfl (Nat.le_of_ble_eq_true rfl) (by decide) dX17_here_11 (fun _ _ _ h => h.elim) ?_
  rintro v_11 M_11 ⟨rfl, hu_11⟩
  obtain rfl := hu_11.symm
  refine vr_icmp_ge (tgt := 34) hE dX17_here_14 (by decide) (fun c_14 => ?_) (fun c_14 => ?_)
  · have hse : ¬ s < e := fun z => absurd ((nI_leI (by omega) (by omega)).mp (show nI e ≤ nI s from c_14)) (by omega)
    refine vr_bipush (v := 10) hE dX17_here_34 (by decide) ?_
    refine vr_ireturn hE hQ rfl dX17_here_36 (by decide) ⟨_, ?_, fun H h => hW _ H h⟩
    exact ⟨by unfold c_hr; rw [if_neg hse]; rfl, rfl⟩
  · have hse : s < e := Nat.lt_of_not_le fun z => c_14 ((nI_leI (by omega) (by omega)).mpr z)
    refine vr_aload_n hE dX17_here_17 rfl ?_
    refine bc_get (z := 1) hE kc_X17 (by decide) q2104 (Or.inl rfl) h_rd rfl dX17_here_18 ?_
    refine bc_getN (z := 3) hE kc_X1 (by decide) q259 (Or.inl rfl) h_x rfl dX17_here_21 ?_
    refine vr_aload_n hE dX17_here_24 rfl ?_
    refine bc_get (z := 0) hE kc_X17 (by decide) q2103 (Or.inl rfl) h_rd rfl dX17_here_25 ?_
    refine bc_callV hE (bk_J6_charAt G _ bf v e s T hB hse) kc_J6 h_bf ok_J6_charAt (lw_V q2129 q2130 q2131 q79 q2132) rfl rfl (Nat.le_of_ble_eq_true rfl) (by decide) dX17_here_28 (fun _ _ _ h => h.elim) ?_
    rintro v_28 M_28 ⟨rfl, hu_28⟩
    obtain rfl := hu_28.symm
    refine vr_goto (tgt := 36) hE dX17_here_31 (by decide) ?_
    refine vr_ireturn hE hQ (nI_chn (hB.lt hse)) dX17_here_36 (by decide) ⟨_, ?_, fun H h => hW _ H h⟩
    exact ⟨by unfold c_hr; rw [if_pos hse], rfl⟩
theorem ok_X17_need : bi_ok yX17_need RX17 1 := by decide +kernel
theorem bk_X17_need {Y : bi_Y} (G : bi_GS Y) (M : va_M) (rd x : Nat) (s : Int32) (b : Int32) (h_rd : M rd = some (.inr (16, [.int s, .ref x]))) : bc_Met Y yX17_need (ws_ yX17_need cX17_need 2 none) 6 125 1 7 M [.ref rd, .int b] (fun v9 M' => ¬ b = 0 ∧ v9 = none ∧ M' = M) (fun q E M' => b = 0 ∧ E = "BrassInspector$TextError" ∧ M q = none ∧ ∃ u w, rf_ u ∧ rf_ w ∧ M' = bu M q (.inr (17, xT u w s))) := by
  refine bc_Met.of (own := RX17) (L0 := [some (.ref rd), some (.int b)]) rfl (by decide) G (Nat.le_of_ble_eq_true rfl) rfl (fun X A hE hQ hW hnl hnm => ?_)
  have hnl : ∀ q, q < 2 → q < bi_nL X := fun q h => by rw [hnl]; exact h
  refine vr_iload_n hE dX17_need_0 rfl ?_
  refine vr_if_ne (tgt := 16) hE dX17_need_1 (by decide) (fun c_1 => ?_) (fun c_1 => ?_)
  · skip
    refine vr_return hE hQ dX17_need_16 (by decide) ⟨_, ?_, fun H h => hW _ H h⟩
    exact ⟨c_1, rfl, rfl⟩
  · skip
    refine bc_newX (fs := [.null, .null, .null, .null, .null, .int 0, .int 0]) hE kc_X18 q2143 q2144 q121 df_X18 (by decide) dX17_need_4 (fun q hn_q => ?_)
    refine bc_nm (fun M_4 e_4 => ?_)
    have nrd_q := bc_new_ne h_rd hn_q
    have hz_q : M q = none := hn_q
    have hrd_4 := (congrFun e_4 rd).trans ((bu_ne nrd_q).trans h_rd)
    have hq_4 := (congrFun e_4 q).trans (bu_self _ _ _)
    refine vr_dup hE dX17_need_7 rfl ?_
    refine vr_aload_n hE dX17_need_8 rfl ?_
    refine bc_get (z := 0) hE kc_X17 (by decide) q2103 (Or.inl rfl) hrd_4 rfl dX17_need_9 ?_
    refine bc_callI hE (bk_X18_init G _ q hq_4 s) ok_X18_init rfl q2152 q2153 q121 q2154 rfl rfl (Nat.le_of_ble_eq_true rfl) (by decide) dX17_need_12 (fun _ _ _ h => h.elim) ?_
    rintro v_12 M_12 ⟨rfl, u, w, hu, hw, e_12⟩
    have hrd_12 := (congrFun e_12 rd).trans ((bu_ne nrd_q).trans hrd_4)
    have hq_12 := (congrFun e_12 q).trans (bu_self _ _ _)
    refine bc_athrow hE kc_X18 hq_12 dX17_need_15 ?_
    refine vr_out hE hQ (fun _ z9 => by cases z9) (by decide) ⟨_, ?_, fun H h => hW _ H h⟩
    subst e_12
    subst e_4
    exact ⟨c_1, rfl, hn_q, u, w, hu, hw, by simp only [bu_bu]⟩
theorem ok_X17_take : bi_ok yX17_take RX17 1 := by decide +kernel
theorem bk_X17_take {Y : bi_Y} (G : bi_GS Y) (M : va_M) (rd x bf v e s : Nat) (T : Nat → Nat) (hD : RdM Y M rd x bf v T e s) (c : Nat) (hc : c < 256) (hc10 : c ≠ 10) : bc_Met Y yX17_take (ws_ yX17_take cX17_take 2 none) 7 146 1 7 M [.ref rd, .int (nI c)] (fun v9 M' => ∃ s', r_take T e c s = .inr s' ∧ v9 = none ∧ RdM Y M' rd x bf v T e s' ∧ RdK M M' rd) (RPX M rd (fun p => r_take T e c s = .inl p)) := by
  obtain ⟨r, sv, lt, ln, pl, er, w0, cd, mb, ct, h_x, h_bf, hB, h_rd, hs, he⟩ := hD.facts
  have hT6 : ∀ j, j < e → T j < 65536 := fun j hj => hB.lt hj
  refine bc_Met.of (own := RX17) (L0 := [some (.ref rd), some (.int (nI c))]) rfl (by decide) G (Nat.le_of_ble_eq_true rfl) rfl (fun X A hE hQ hW hnl hnm => ?_)
  have hnl : ∀ q, q < 2 → q < bi_nL X := fun q h => by rw [hnl]; exact h
  refine vr_aload_n hE dX17_take_0 rfl ?_
  refine vr_aload_n hE dX17_take_1 rfl ?_
  refine bc_callV hE (bk_X17_here G _ rd x bf v e s T hD) kc_X17 h_rd ok_X17_here (lw_V q2124 q2126 qs23 q120 q2127) rfl rfl (Nat.le_of_ble_eq_true rfl) (by decide) dX17_take_2 (fun _ _ _ h => h.elim) ?_
  rintro v_2 M_2 ⟨rfl, hu_2⟩
  obtain rfl := hu_2.symm
  refine vr_iload_n hE dX17_take_5 rfl ?_
  apply vt_icmp_ne (tgt := 13) (J := 14) hE dX17_take_6 (by decide)
  · intro c_6 kt1
    refine vr_iconst (v := 0) hE dX17_take_13 (by decide) ?_
    exact kt1
  · intro c_6 kf1
    refine vr_iconst (v := 1) hE dX17_take_9 (by decide) ?_
    refine vr_goto (tgt := 14) hE dX17_take_10 (by decide) ?_
    exact kf1
  refine bc_callV hE (bk_X17_need G _ rd x _ _ h_rd) kc_X17 h_rd ok_X17_need (lw_V q2139 q2141 qs24 q120 q2142) rfl rfl (Nat.le_of_ble_eq_true rfl) (by decide) dX17_take_14 (fun q9 E9 M9 h9 => vr_out hE hQ (fun _ z9 => by cases z9) (by first | decide | exact ⟨by omega, by omega⟩) ⟨M9, (by
        obtain ⟨hb9, rfl, hq9, u9, w9, hu9, hw9, e9⟩ := h9
        exact ⟨s, u9, w9, by unfold r_take; rw [if_neg (fun z => absurd hb9 (by rw [if_neg (fun w => w (by rw [z]))]; decide))], rfl, hu9, hw9, (congrFun e9 _).trans (bu_self _ _ _), fun y9 z9 hy9 _ => (congrFun e9 y9).trans ((bu_ne (bc_new_ne hy9 hq9)).trans hy9)⟩), fun H h => hW _ H h⟩) ?_
  rintro v_14 M_14 ⟨hb_14, rfl, hu_14⟩
  obtain rfl := hu_14.symm
  have hcc : c_hr T e s = c := (nI_eq (by have := hr_lt (s := s) hT6; omega) (by omega)).mp (Classical.byContradiction fun z => hb_14 (if_pos z))
  have hlt : s < e := hr_take hc10 hcc
  refine vr_aload_n hE dX17_take_17 rfl ?_
  refine vr_dup hE dX17_take_18 rfl ?_
  refine bc_get (z := 0) hE kc_X17 (by decide) q2103 (Or.inl rfl) h_rd rfl dX17_take_19 ?_
  refine vr_iconst (v := 1) hE dX17_take_22 (by decide) ?_
  refine vr_iadd hE dX17_take_23 ?_
  refine vr_to (w := .int (nI (s + 1))) (congrArg Value.int (nI_1 _)) ?_
  refine bc_put (z := 0) hE kc_X17 (by decide) q2103 (Or.inl rfl) rfl h_rd rfl rfl (Nat.le_of_ble_eq_true rfl) dX17_take_24 (by first | decide | omega) ?_
  refine bc_nm (fun M_24 e_24 => ?_)
  have hx_24 := (congrFun e_24 x).trans ((bu_ne (bc_dist h_x h_rd (bc_ci (by decide)))).trans h_x)
  have hbf_24 := (congrFun e_24 bf).trans ((bu_ne (bc_dist h_bf h_rd (bc_ci (by decide)))).trans h_bf)
  have hrd_24 := (congrFun e_24 rd).trans (bu_self _ _ _)
  refine vr_return hE hQ dX17_take_27 (by decide) ⟨_, ?_, fun H h => hW _ H h⟩
  exact ⟨s + 1, by unfold r_take; rw [if_pos hcc], rfl, hD.at (by omega) (fun y z hy hn => (congrFun e_24 y).trans ((bu_ne hn).trans hy)) hrd_24, (fun y z hy hn => (congrFun e_24 y).trans ((bu_ne hn).trans hy))⟩
theorem ok_X17_takeAll : bi_ok yX17_takeAll RX17 1 := by decide +kernel
theorem bk_X17_takeAll {Y : bi_Y} (G : bi_GS Y) (M : va_M) (rd x bf v e s : Nat) (T : Nat → Nat) (hD : RdM Y M rd x bf v T e s) (a av : Nat) (t : List Nat) (h z : Int32) (hS : bi_SA Y a av t h z) (ht : t.length ≤ 6) (h8 : ∀ c ∈ t, c < 256 ∧ c ≠ 10) : bc_Met Y yX17_takeAll (ws_ yX17_takeAll cX17_takeAll 3 none) 8 167 8 56 M [.ref rd, .ref a] (fun v9 M' => ∃ s', r_word T e t s = .inr s' ∧ v9 = none ∧ RdM Y M' rd x bf v T e s' ∧ RdK M M' rd) (RPX M rd (fun p => r_word T e t s = .inl p)) := by
  obtain ⟨r, sv, lt, ln, pl, er, w0, cd, mb, ct, h_x, h_bf, hB, h_rd, hs, he⟩ := hD.facts
  have hT6 : ∀ j, j < e → T j < 65536 := fun j hj => hB.lt hj
  refine bc_Met.of (own := RX17) (L0 := [some (.ref rd), some (.ref a), none]) rfl (by decide) G (Nat.le_of_ble_eq_true rfl) rfl (fun X A hE hQ hW hnl hnm => ?_)
  have hnl : ∀ q, q < 3 → q < bi_nL X := fun q h => by rw [hnl]; exact h
  refine vr_iconst (v := 0) hE dX17_takeAll_0 (by decide) ?_
  refine vr_istore_n hE dX17_takeAll_1 (hnl _ (by decide)) rfl ?_
  have hlp_2 : ∀ (d : Nat) (i s1 : Nat) (M1 : va_M), i + d = t.length → RdM Y M1 rd x bf v T e s1 → RdK M M1 rd → r_word T e t s = r_word T e (t.drop i) s1 → bi_V Y.1 X (bc_W Y (bi_A X) M1) i (7 * i) 2 [some (.ref rd), some (.ref a), some (.int (nI i))] [] := by
    intro d
    induction d with
    | zero =>
      intro i s1 M1 hi hD1 hk1 hw1'
      obtain ⟨r1, sv1, lt1, ln1, pl1, er1, w1, cd1, mb1, ct1, h_x1, h_bf1, hB1, h_rd1, hs1, he1⟩ := hD1.facts
      refine vr_iload_n hE dX17_takeAll_2 rfl ?_
      refine vr_aload_n hE dX17_takeAll_3 rfl ?_
      refine ro_callV (ci := 22) hE (ro_len G _ a av t (hS.any _) (by omega)) rfl (fun H hB9 hP9 => (hS.any _ H hB9 hP9).1) ok_J7_length (lw_V q2218 q610 q611 q80 q612) rfl rfl (Nat.le_of_ble_eq_true rfl) ⟨by decide, by decide, by omega, by omega⟩ dX17_takeAll_4 ?_
      rintro v_4 rfl
      refine vr_icmp_ge (tgt := 25) hE dX17_takeAll_7 (by decide) (fun c_7 => ?_) (fun c_7 => ?_)
      · skip
        refine vr_return hE hQ dX17_takeAll_25 ⟨by omega, by omega⟩ ⟨_, ?_, fun H h => hW _ H h⟩
        exact ⟨s1, by rw [hw1', List.drop_eq_nil_of_le (by omega)]; rfl, rfl, hD1, hk1⟩
      · exact absurd ((nI_leI (by omega) (by omega)).mpr (by omega)) c_7
    | succ d ih =>
      intro i s1 M1 hi hD1 hk1 hw1'
      obtain ⟨r1, sv1, lt1, ln1, pl1, er1, w1, cd1, mb1, ct1, h_x1, h_bf1, hB1, h_rd1, hs1, he1⟩ := hD1.facts
      have hti : t.getD i 0 ∈ t := by
        rw [List.getD_eq_getElem?_getD, List.getElem?_eq_getElem (by omega), Option.getD_some]
        exact List.getElem_mem _
      have hdr : t.drop i = t.getD i 0 :: t.drop (i + 1) := by
        rw [List.getD_eq_getElem?_getD, List.getElem?_eq_getElem (by omega), Option.getD_some]
        exact List.drop_eq_getElem_cons (by omega)
      have hst : r_word T e (t.drop i) s1 = (match r_take T e (t.getD i 0) s1 with | .inl p => .inl p | .inr s' => r_word T e (t.drop (i + 1)) s') := by rw [hdr]; rfl
      refine vr_iload_n hE dX17_takeAll_2 rfl ?_
      refine vr_aload_n hE dX17_takeAll_3 rfl ?_
      refine ro_callV (ci := 22) hE (ro_len G _ a av t (hS.any _) (by omega)) rfl (fun H hB9 hP9 => (hS.any _ H hB9 hP9).1) ok_J7_length (lw_V q2218 q610 q611 q80 q612) rfl rfl (Nat.le_of_ble_eq_true rfl) ⟨by decide, by decide, by omega, by omega⟩ dX17_takeAll_4 ?_
      rintro v_4 rfl
      refine vr_icmp_ge (tgt := 25) hE dX17_takeAll_7 (by decide) (fun c_7 => ?_) (fun c_7 => ?_)
      · exact absurd ((nI_leI (by omega) (by omega)).mp c_7) (by omega)
      skip
      refine vr_aload_n hE dX17_takeAll_10 rfl ?_
      refine vr_aload_n hE dX17_takeAll_11 rfl ?_
      refine vr_iload_n hE dX17_takeAll_12 rfl ?_
      refine ro_callV (ci := 22) hE (ro_cat G _ a av t (hS.any _) (by omega) i (by omega) (fun c hc => (h8 c hc).1)) rfl (fun H hB9 hP9 => (hS.any _ H hB9 hP9).1) ok_J7_charAt (lw_V q2219 q2220 q2221 q80 q2222) rfl rfl (Nat.le_of_ble_eq_true rfl) ⟨by decide, by decide, by omega, by omega⟩ dX17_takeAll_13 ?_
      rintro v_13 rfl
      refine bc_callV hE (bk_X17_take G _ rd x bf v e s1 T hD1 (t.getD i 0) (h8 _ hti).1 (h8 _ hti).2) kc_X17 h_rd1 ok_X17_take (lw_V q2230 q2232 qs26 q120 q2233) rfl rfl (Nat.le_of_ble_eq_true rfl) ⟨by decide, by decide, by omega, by omega⟩ dX17_takeAll_16 (fun q9 E9 M9 h9 => vr_out hE hQ (fun _ z9 => by cases z9) (by first | decide | exact ⟨by omega, by omega⟩) ⟨M9, (h9.tr hk1 (fun p hp => by rw [hw1', hst, hp])), fun H h => hW _ H h⟩) ?_
      rintro v_16 M_16 ⟨s2, hr_16, rfl, hD_16, hk_16⟩
      obtain ⟨r_16, sv_16, lt_16, ln_16, pl_16, er_16, w_16, cd_16, mb_16, ct_16, h_x_16, h_bf_16, hB_16, h_rd_16, hs_16, he_16⟩ := hD_16.facts
      refine vr_iinc hE dX17_takeAll_19 rfl (iinc_1 _) (hnl _ (by decide)) rfl ?_
      refine vr_goto (tgt := 2) hE dX17_takeAll_22 (by decide) ?_
      refine vr_kn (by omega) (by omega) (ih (i + 1) s2 M_16 (by omega) hD_16 (hk1.tr hk_16) ?_)
      rw [hw1', hst, hr_16]
  exact hlp_2 t.length 0 s M (Nat.zero_add _) hD RdK.rf rfl
theorem ok_X17_isDigit : bi_ok yX17_isDigit RX17 0 := by decide +kernel
theorem bk_X17_isDigit {Y : bi_Y} (G : bi_GS Y) (M : va_M) (rd x bf v e s : Nat) (T : Nat → Nat) (hD : RdM Y M rd x bf v T e s) : bc_Met Y yX17_isDigit (ws_ yX17_isDigit cX17_isDigit 1 (some .boolean)) 5 108 0 0 M [.ref rd] (fun v9 M' => v9 = some (.int (c_dg (c_hr T e s))) ∧ M' = M) bi_nx := by
  obtain ⟨r, sv, lt, ln, pl, er, w0, cd, mb, ct, h_x, h_bf, hB, h_rd, hs, he⟩ := hD.facts
  have hT6 : ∀ j, j < e → T j < 65536 := fun j hj => hB.lt hj
  refine bc_Met.of (own := RX17) (L0 := [some (.ref rd)]) rfl (by decide) G (Nat.le_of_ble_eq_true rfl) rfl (fun X A hE hQ hW hnl hnm => ?_)
  have hnl : ∀ q, q < 1 → q < bi_nL X := fun q h => by rw [hnl]; exact h
  refine vr_aload_n hE dX17_isDigit_0 rfl ?_
  refine bc_callV hE (bk_X17_here G _ rd x bf v e s T hD) kc_X17 h_rd ok_X17_here (lw_V q2124 q2126 qs23 q120 q2127) rfl rfl (Nat.le_of_ble_eq_true rfl) (by decide) dX17_isDigit_1 (fun _ _ _ h => h.elim) ?_
  rintro v_1 M_1 ⟨rfl, hu_1⟩
  obtain rfl := hu_1.symm
  refine vr_bipush (v := 48) hE dX17_isDigit_4 (by decide) ?_
  refine vr_icmp_lt (tgt := 22) hE dX17_isDigit_6 (by decide) (fun c_6 => ?_) (fun c_6 => ?_)
  · have h6 : c_dg (c_hr T e s) = 0 := by unfold c_dg in_; rw [if_pos c_6]
    refine vr_iconst (v := 0) hE dX17_isDigit_22 (by decide) ?_
    refine vr_ireturn hE hQ rfl dX17_isDigit_23 (by decide) ⟨_, ?_, fun H h => hW _ H h⟩
    exact ⟨by rw [h6], rfl⟩
  · skip
    refine vr_aload_n hE dX17_isDigit_9 rfl ?_
    refine bc_callV hE (bk_X17_here G _ rd x bf v e s T hD) kc_X17 h_rd ok_X17_here (lw_V q2124 q2126 qs23 q120 q2127) rfl rfl (Nat.le_of_ble_eq_true rfl) (by decide) dX17_isDigit_10 (fun _ _ _ h => h.elim) ?_
    rintro v_10 M_10 ⟨rfl, hu_10⟩
    obtain rfl := hu_10.symm
    refine vr_bipush (v := 57) hE dX17_isDigit_13 (by decide) ?_
    refine vr_icmp_gt (tgt := 22) hE dX17_isDigit_15 (by decide) (fun c_15 => ?_) (fun c_15 => ?_)
    · have h15 : c_dg (c_hr T e s) = 0 := by unfold c_dg in_; rw [if_neg c_6, if_pos c_15]
      refine vr_iconst (v := 0) hE dX17_isDigit_22 (by decide) ?_
      refine vr_ireturn hE hQ rfl dX17_isDigit_23 (by decide) ⟨_, ?_, fun H h => hW _ H h⟩
      exact ⟨by rw [h15], rfl⟩
    · have h15 : c_dg (c_hr T e s) = 1 := by unfold c_dg in_; rw [if_neg c_6, if_neg c_15]
      refine vr_iconst (v := 1) hE dX17_isDigit_18 (by decide) ?_
      refine vr_goto (tgt := 23) hE dX17_isDigit_19 (by decide) ?_
      refine vr_ireturn hE hQ rfl dX17_isDigit_23 (by decide) ⟨_, ?_, fun H h => hW _ H h⟩
      exact ⟨by rw [h15], rfl⟩
theorem ok_X17_digit : bi_ok yX17_digit RX17 0 := by decide +kernel
theorem bk_X17_digit {Y : bi_Y} (G : bi_GS Y) (M : va_M) (rd x bf v e s : Nat) (T : Nat → Nat) (hD : RdM Y M rd x bf v T e s) : bc_Met Y yX17_digit (ws_ yX17_digit cX17_digit 1 (some .int)) 7 146 1 7 M [.ref rd] (fun v9 M' => ∃ n s', r_dig T e s = .inr (n, s') ∧ n < 10 ∧ v9 = some (.int (nI n)) ∧ RdM Y M' rd x bf v T e s' ∧ RdK M M' rd) (RPX M rd (fun p => r_dig T e s = .inl p)) := by
  obtain ⟨r, sv, lt, ln, pl, er, w0, cd, mb, ct, h_x, h_bf, hB, h_rd, hs, he⟩ := hD.facts
  have hT6 : ∀ j, j < e → T j < 65536 := fun j hj => hB.lt hj
  refine bc_Met.of (own := RX17) (L0 := [some (.ref rd)]) rfl (by decide) G (Nat.le_of_ble_eq_true rfl) rfl (fun X A hE hQ hW hnl hnm => ?_)
  have hnl : ∀ q, q < 1 → q < bi_nL X := fun q h => by rw [hnl]; exact h
  refine vr_aload_n hE dX17_digit_0 rfl ?_
  refine vr_aload_n hE dX17_digit_1 rfl ?_
  refine bc_callV hE (bk_X17_isDigit G _ rd x bf v e s T hD) kc_X17 h_rd ok_X17_isDigit (lw_V q2244 q2246 qs29 q120 q2247) rfl rfl (Nat.le_of_ble_eq_true rfl) (by decide) dX17_digit_2 (fun _ _ _ h => h.elim) ?_
  rintro v_2 M_2 ⟨rfl, hu_2⟩
  obtain rfl := hu_2.symm
  refine bc_callV hE (bk_X17_need G _ rd x _ _ h_rd) kc_X17 h_rd ok_X17_need (lw_V q2139 q2141 qs24 q120 q2142) rfl rfl (Nat.le_of_ble_eq_true rfl) (by decide) dX17_digit_5 (fun q9 E9 M9 h9 => vr_out hE hQ (fun _ z9 => by cases z9) (by first | decide | exact ⟨by omega, by omega⟩) ⟨M9, (by
        obtain ⟨hb9, rfl, hq9, u9, w9, hu9, hw9, e9⟩ := h9
        exact ⟨s, u9, w9, by unfold r_dig; rw [if_pos hb9], rfl, hu9, hw9, (congrFun e9 _).trans (bu_self _ _ _), fun y9 z9 hy9 _ => (congrFun e9 y9).trans ((bu_ne (bc_new_ne hy9 hq9)).trans hy9)⟩), fun H h => hW _ H h⟩) ?_
  rintro v_5 M_5 ⟨hb_5, rfl, hu_5⟩
  obtain rfl := hu_5.symm
  have hdg := dg_in (hr_lt (s := s) hT6) hb_5
  have hlt : s < e := dg_lt hT6 hb_5
  have hts : c_hr T e s = T s := if_pos hlt
  refine vr_aload_n hE dX17_digit_8 rfl ?_
  refine vr_dup hE dX17_digit_9 rfl ?_
  refine bc_get (z := 0) hE kc_X17 (by decide) q2103 (Or.inl rfl) h_rd rfl dX17_digit_10 ?_
  refine vr_iconst (v := 1) hE dX17_digit_13 (by decide) ?_
  refine vr_iadd hE dX17_digit_14 ?_
  refine vr_to (w := .int (nI (s + 1))) (congrArg Value.int (nI_1 _)) ?_
  refine bc_put (z := 0) hE kc_X17 (by decide) q2103 (Or.inl rfl) rfl h_rd rfl rfl (Nat.le_of_ble_eq_true rfl) dX17_digit_15 (by first | decide | omega) ?_
  refine bc_nm (fun M_15 e_15 => ?_)
  have hx_15 := (congrFun e_15 x).trans ((bu_ne (bc_dist h_x h_rd (bc_ci (by decide)))).trans h_x)
  have hbf_15 := (congrFun e_15 bf).trans ((bu_ne (bc_dist h_bf h_rd (bc_ci (by decide)))).trans h_bf)
  have hrd_15 := (congrFun e_15 rd).trans (bu_self _ _ _)
  refine vr_aload_n hE dX17_digit_18 rfl ?_
  refine bc_get (z := 1) hE kc_X17 (by decide) q2104 (Or.inl rfl) hrd_15 rfl dX17_digit_19 ?_
  refine bc_getN (z := 3) hE kc_X1 (by decide) q259 (Or.inl rfl) hx_15 rfl dX17_digit_22 ?_
  refine vr_aload_n hE dX17_digit_25 rfl ?_
  refine bc_get (z := 0) hE kc_X17 (by decide) q2103 (Or.inl rfl) hrd_15 rfl dX17_digit_26 ?_
  refine vr_iconst (v := 1) hE dX17_digit_29 (by decide) ?_
  refine vr_isub hE dX17_digit_30 ?_
  refine vr_to (w := .int (nI s)) (congrArg Value.int (by rw [nI_succ, Int32.add_sub_cancel])) ?_
  have hK15 : RdK M M_15 rd := (fun y z hy hn => (congrFun e_15 y).trans ((bu_ne hn).trans hy))
  have hD15 : RdM Y M_15 rd x bf v T e (s + 1) := hD.at (by omega) hK15 hrd_15
  refine bc_callV hE (bk_J6_charAt G _ bf v e s T hD15.2.1 hlt) kc_J6 hbf_15 ok_J6_charAt (lw_V q2129 q2130 q2131 q79 q2132) rfl rfl (Nat.le_of_ble_eq_true rfl) (by decide) dX17_digit_31 (fun _ _ _ h => h.elim) ?_
  rintro v_31 M_31 ⟨rfl, hu_31⟩
  obtain rfl := hu_31.symm
  refine vr_bipush (v := 48) hE dX17_digit_34 (by decide) ?_
  refine vr_isub hE dX17_digit_36 ?_
  refine vr_ireturn hE hQ rfl dX17_digit_37 (by decide) ⟨_, ?_, fun H h => hW _ H h⟩
  exact ⟨c_hr T e s - 48, s + 1, by unfold r_dig; rw [if_neg hb_5], by omega, by rw [hts]; rw [hts] at hdg; exact congrArg (fun z => some (Value.int z)) (pk_sub (a := T s) (b := 48) (by omega)), hD15, hK15⟩
theorem ok_X17_number : bi_ok yX17_number RX17 0 := by decide +kernel
theorem bk_X17_number {Y : bi_Y} (G : bi_GS Y) (M : va_M) (rd x bf v e s : Nat) (T : Nat → Nat) (hD : RdM Y M rd x bf v T e s) : bc_Met Y yX17_number (ws_ yX17_number cX17_number 2 (some .int)) 8 166 2 14 M [.ref rd] (fun v9 M' => ∃ n s', r_num T e s = .inr (n, s') ∧ n < 100 ∧ v9 = some (.int (nI n)) ∧ RdM Y M' rd x bf v T e s' ∧ RdK M M' rd) (RPX M rd (fun p => r_num T e s = .inl p)) := by
  obtain ⟨r, sv, lt, ln, pl, er, w0, cd, mb, ct, h_x, h_bf, hB, h_rd, hs, he⟩ := hD.facts
  have hT6 : ∀ j, j < e → T j < 65536 := fun j hj => hB.lt hj
  refine bc_Met.of (own := RX17) (L0 := [some (.ref rd), none]) rfl (by decide) G (Nat.le_of_ble_eq_true rfl) rfl (fun X A hE hQ hW hnl hnm => ?_)
  have hnl : ∀ q, q < 2 → q < bi_nL X := fun q h => by rw [hnl]; exact h
  refine vr_aload_n hE dX17_number_0 rfl ?_
  refine bc_callV hE (bk_X17_digit G _ rd x bf v e s T hD) kc_X17 h_rd ok_X17_digit (lw_V q2240 q2242 qs28 q120 q2243) rfl rfl (Nat.le_of_ble_eq_true rfl) (by decide) dX17_number_1 (fun q9 E9 M9 h9 => vr_out hE hQ (fun _ z9 => by cases z9) (by first | decide | exact ⟨by omega, by omega⟩) ⟨M9, (h9.tr RdK.rf (fun p hp => by unfold r_num; rw [hp])), fun H h => hW _ H h⟩) ?_
  rintro v_1 M_1 ⟨n1, s1, hr_1, hn1, rfl, hD_1, hk_1⟩
  obtain ⟨r_1, sv_1, lt_1, ln_1, pl_1, er_1, w_1, cd_1, mb_1, ct_1, h_x_1, h_bf_1, hB_1, h_rd_1, hs_1, he_1⟩ := hD_1.facts
  refine vr_istore_n hE dX17_number_4 (hnl _ (by decide)) rfl ?_
  refine vr_aload_n hE dX17_number_5 rfl ?_
  refine bc_callV hE (bk_X17_isDigit G _ rd x bf v e s1 T hD_1) kc_X17 h_rd_1 ok_X17_isDigit (lw_V q2244 q2246 qs29 q120 q2247) rfl rfl (Nat.le_of_ble_eq_true rfl) (by decide) dX17_number_6 (fun _ _ _ h => h.elim) ?_
  rintro v_6 M_6 ⟨rfl, hu_6⟩
  obtain rfl := hu_6.symm
  refine vr_if_eq (tgt := 24) hE dX17_number_9 (by decide) (fun c_9 => ?_) (fun c_9 => ?_)
  · have hd2 : r_dig T e s1 = .inl s1 := by unfold r_dig; rw [if_pos c_9]
    refine vr_iload_n hE dX17_number_24 rfl ?_
    refine vr_ireturn hE hQ rfl dX17_number_25 (by decide) ⟨_, ?_, fun H h => hW _ H h⟩
    exact ⟨n1, s1, by unfold r_num; rw [hr_1]; dsimp only; rw [hd2], by omega, rfl, hD_1, hk_1⟩
  · have hd2 : ¬ c_dg (c_hr T e s1) = 0 := c_9
    refine vr_bipush (v := 10) hE dX17_number_12 (by decide) ?_
    refine vr_iload_n hE dX17_number_14 rfl ?_
    refine vr_imul hE dX17_number_15 ?_
    refine vr_aload_n hE dX17_number_16 rfl ?_
    refine bc_callV hE (bk_X17_digit G _ rd x bf v e s1 T hD_1) kc_X17 h_rd_1 ok_X17_digit (lw_V q2240 q2242 qs28 q120 q2243) rfl rfl (Nat.le_of_ble_eq_true rfl) (by decide) dX17_number_17 (fun q9 E9 M9 h9 => vr_out hE hQ (fun _ z9 => by cases z9) (by first | decide | exact ⟨by omega, by omega⟩) ⟨M9, (by
          exfalso
          obtain ⟨p9, u9, w9, hf9, -⟩ := h9
          unfold r_dig at hf9
          rw [if_neg hd2] at hf9
          cases hf9), fun H h => hW _ H h⟩) ?_
    rintro v_17 M_17 ⟨n2, s2, hr_17, hn2, rfl, hD_17, hk_17⟩
    obtain ⟨r_17, sv_17, lt_17, ln_17, pl_17, er_17, w_17, cd_17, mb_17, ct_17, h_x_17, h_bf_17, hB_17, h_rd_17, hs_17, he_17⟩ := hD_17.facts
    refine vr_iadd hE dX17_number_20 ?_
    refine vr_goto (tgt := 25) hE dX17_number_21 (by decide) ?_
    refine vr_ireturn hE hQ rfl dX17_number_25 (by decide) ⟨_, ?_, fun H h => hW _ H h⟩
    exact ⟨10 * n1 + n2, s2, by unfold r_num; rw [hr_1]; dsimp only; rw [hr_17], by omega, congrArg (fun z => some (Value.int z)) (by rw [show (10 : Int32) = nI 10 from rfl, show nI 10 * nI n1 = nI (10 * n1) from (Int32.ofNat_mul 10 n1).symm, nI_add]), hD_17, hk_1.tr hk_17⟩
