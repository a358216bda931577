/-! a round copied: the numbers on the way -/
set_option maxRecDepth 100000
/-- the copy's numbers when i traders and j weights stand in it, its own fields yet 0 -/
def c_cp (s : Nat → Int32) (i j : Nat) : Nat → Int32 := fun k => if k = 0 ∨ k = 3 ∨ k = 4 then 0 else if k = 1 then nI i else if k = 2 then nI j else s k
theorem c_cp_ge {s : Nat → Int32} {i j k : Nat} (h : 5 ≤ k) : c_cp s i j k = s k := by
  unfold c_cp
  rw [if_neg (by omega), if_neg (by omega), if_neg (by omega)]
theorem c_cp_i {s : Nat → Int32} {i i' j k : Nat} (h : k ≠ 1) : c_cp s i' j k = c_cp s i j k := by
  unfold c_cp
  by_cases h0 : k = 0 ∨ k = 3 ∨ k = 4
  · rw [if_pos h0, if_pos h0]
  · rw [if_neg h0, if_neg h0, if_neg h, if_neg h]
theorem c_cp_j {s : Nat → Int32} {i j j' k : Nat} (h : k ≠ 2) : c_cp s i j' k = c_cp s i j k := by
  unfold c_cp
  by_cases h0 : k = 0 ∨ k = 3 ∨ k = 4
  · rw [if_pos h0, if_pos h0]
  · rw [if_neg h0, if_neg h0]
    by_cases h1 : k = 1
    · rw [if_pos h1, if_pos h1]
    · rw [if_neg h1, if_neg h1, if_neg h, if_neg h]
theorem tS_cp (s : Nat → Int32) (i j r t : Nat) : tS (c_cp s i j) r t = tS s r t := by
  simp only [tS]
  rw [c_cp_ge (k := 15 + t) (by omega), c_cp_ge (k := 25 + t) (by omega), c_cp_ge (k := 35 + t) (by omega), c_cp_ge (k := 45 + t) (by omega), c_cp_ge (k := 55 + t) (by omega), c_cp_ge (k := 65 + t) (by omega), c_cp_ge (k := 75 + t) (by omega), c_cp_ge (k := 85 + t) (by omega), c_cp_ge (k := 95 + t) (by omega)]
theorem bS_cp (s : Nat → Int32) (i j t : Nat) : bS (c_cp s i j) t = bS s t := by
  simp only [bS]
  rw [c_cp_ge (k := 105 + t) (by omega), c_cp_ge (k := 109 + t) (by omega), c_cp_ge (k := 113 + t) (by omega)]
/-- rates copied -/
def c_c1 (s : Nat → Int32) : Nat → Int32 := fun k => if 5 ≤ k ∧ k < 10 then s k else s_0 k
theorem c_c1_a (s : Nat → Int32) : va_cpy (ar5 s 5) (ar5 s_0 5) 0 0 5 = ar5 (c_c1 s) 5 := by
  funext j
  by_cases h : j < 5
  · rw [pk_cpy_in (Nat.zero_le _) (by omega), ar5_lt h, show 0 + (j - 0) = j by omega, ar5_lt h]
    simp only [c_c1]
    rw [if_pos ⟨by omega, by omega⟩]
  · rw [pk_cpy_out (by omega)]
    simp only [ar5]
    rw [if_neg h, if_neg h]
theorem c_c1_e (s : Nat → Int32) : ∀ k, k < 5 ∨ 10 ≤ k → c_c1 s k = s_0 k := fun k hk => if_neg (by omega)
/-- .. and fines -/
theorem c_c2_a (s : Nat → Int32) : va_cpy (ar5 s 10) (ar5 (c_c1 s) 10) 0 0 5 = ar5 (c_cp s 0 0) 10 := by
  funext j
  by_cases h : j < 5
  · rw [pk_cpy_in (Nat.zero_le _) (by omega), ar5_lt h, show 0 + (j - 0) = j by omega, ar5_lt h, c_cp_ge (by omega)]
  · rw [pk_cpy_out (by omega)]
    simp only [ar5]
    rw [if_neg h, if_neg h]
/-- an empty round: its first numbers alone matter -/
theorem RoundM.cg0 {Y : bi_Y} {M : va_M} {R : cR} {s s' : Nat → Int32} (h : RoundM Y M R 0 0 s) (e : ∀ k, k < 15 → s' k = s k) : RoundM Y M R 0 0 s' := by
  refine ⟨?_, ?_, ?_, h.htl, h.hte, h.hwl, h.hwe, fun j hj => absurd hj (Nat.not_lt_zero _), fun j hj => absurd hj (Nat.not_lt_zero _), (e 1 (by omega)).trans h.h1, (e 2 (by omega)).trans h.h2, h.hn, h.hw, h.nrf, h.ntw, h.nte⟩
  · rw [e 0 (by omega), e 3 (by omega), e 4 (by omega)]
    exact h.hr
  · rw [ar5_eq (fun j hj => e (5 + j) (by omega))]
    exact h.hra
  · rw [ar5_eq (fun j hj => e (10 + j) (by omega))]
    exact h.hfi
/-- fines put into the copy: all that an empty round asks -/
theorem RoundM.cp0 {Y : bi_Y} {M : va_M} {R : cR} {s : Nat → Int32} (h : RoundM Y M R 0 0 (c_c1 s)) : RoundM Y ((bu M R.fi (eI Y 5 (ar5 (c_cp s 0 0) 10)))) R 0 0 (c_cp s 0 0) := by
  have h2 := h.fns (s' := fun k => if 10 ≤ k ∧ k < 15 then s k else c_c1 s k) (fun k hk => if_neg (by omega))
  have e : ar5 (fun k => if 10 ≤ k ∧ k < 15 then s k else c_c1 s k) 10 = ar5 (c_cp s 0 0) 10 := ar5_eq (fun j hj => by
    show (if 10 ≤ 10 + j ∧ 10 + j < 15 then s (10 + j) else _) = _
    rw [if_pos ⟨by omega, by omega⟩, c_cp_ge (by omega)])
  rw [e] at h2
  refine h2.cg0 (fun k hk => ?_)
  show c_cp s 0 0 k = if 10 ≤ k ∧ k < 15 then s k else c_c1 s k
  by_cases h10 : 10 ≤ k
  · rw [if_pos ⟨h10, hk⟩, c_cp_ge (by omega)]
  · rw [if_neg (fun z => h10 z.1)]
    by_cases h5 : 5 ≤ k
    · rw [c_cp_ge h5]
      simp only [c_c1]
      rw [if_pos ⟨h5, by omega⟩]
    · rcases (show k = 0 ∨ k = 1 ∨ k = 2 ∨ k = 3 ∨ k = 4 by omega) with rfl | rfl | rfl | rfl | rfl <;> rfl
/-- the copy whole -/
theorem RoundM.cpE {Y : bi_Y} {M : va_M} {R : cR} {n w : Nat} {s : Nat → Int32} (h : RoundM Y M R n w (c_cp s n w)) (h1 : s 1 = nI n) (h2 : s 2 = nI w) : RoundM Y (bu M R.r (.inr (1, rL R.ra R.fi R.tl R.wl (s 0) (s 3) (s 4)))) R n w s :=
  h.own (fun k k0 k3 k4 => by
    unfold c_cp
    rw [if_neg (by omega)]
    by_cases e1 : k = 1
    · rw [if_pos e1, e1, h1]
    · rw [if_neg e1]
      by_cases e2 : k = 2
      · rw [if_pos e2, e2, h2]
      · rw [if_neg e2])

theorem fpr_addT {M : va_M} {R : cR} {n w e te' : Nat} (h : ∀ x, fpr R n w x → M x = none) (he : M e = none) (ht : (0 < n ∧ te' = R.te) ∨ M te' = none) : ∀ x, fpr (R.r, R.ra, R.fi, R.tl, R.wl, te', R.we, fun j => if j = n then e else R.tr j, R.br) (n + 1) w x → M x = none := by
  intro x hx
  rcases hx with rfl | rfl | rfl | rfl | rfl | ⟨z, rfl⟩ | ⟨z, rfl⟩ | ⟨j, hj, rfl⟩ | ⟨j, hj, rfl⟩
  · exact h _ (Or.inl rfl)
  · exact h _ (Or.inr (Or.inl rfl))
  · exact h _ (Or.inr (Or.inr (Or.inl rfl)))
  · exact h _ (Or.inr (Or.inr (Or.inr (Or.inl rfl))))
  · exact h _ (Or.inr (Or.inr (Or.inr (Or.inr (Or.inl rfl)))))
  · rcases ht with ⟨h0, h1⟩ | h1
    · exact h _ (Or.inr (Or.inr (Or.inr (Or.inr (Or.inr (Or.inl ⟨h0, h1⟩))))))
    · exact h1
  · exact h _ (Or.inr (Or.inr (Or.inr (Or.inr (Or.inr (Or.inr (Or.inl ⟨z, rfl⟩)))))))
  · show M (if j = n then e else R.tr j) = none
    by_cases hjn : j = n
    · rw [if_pos hjn]
      exact he
    · rw [if_neg hjn]
      exact h _ (Or.inr (Or.inr (Or.inr (Or.inr (Or.inr (Or.inr (Or.inr (Or.inl ⟨j, by omega, rfl⟩))))))))
  · exact h _ (Or.inr (Or.inr (Or.inr (Or.inr (Or.inr (Or.inr (Or.inr (Or.inr ⟨j, hj, rfl⟩))))))))
theorem fpr_addW {M : va_M} {R : cR} {n w e te' : Nat} (h : ∀ x, fpr R n w x → M x = none) (he : M e = none) (ht : (0 < w ∧ te' = R.we) ∨ M te' = none) : ∀ x, fpr (R.r, R.ra, R.fi, R.tl, R.wl, R.te, te', R.tr, fun j => if j = w then e else R.br j) n (w + 1) x → M x = none := by
  intro x hx
  rcases hx with rfl | rfl | rfl | rfl | rfl | ⟨z, rfl⟩ | ⟨z, rfl⟩ | ⟨j, hj, rfl⟩ | ⟨j, hj, rfl⟩
  · exact h _ (Or.inl rfl)
  · exact h _ (Or.inr (Or.inl rfl))
  · exact h _ (Or.inr (Or.inr (Or.inl rfl)))
  · exact h _ (Or.inr (Or.inr (Or.inr (Or.inl rfl))))
  · exact h _ (Or.inr (Or.inr (Or.inr (Or.inr (Or.inl rfl)))))
  · exact h _ (Or.inr (Or.inr (Or.inr (Or.inr (Or.inr (Or.inl ⟨z, rfl⟩))))))
  · rcases ht with ⟨h0, h1⟩ | h1
    · exact h _ (Or.inr (Or.inr (Or.inr (Or.inr (Or.inr (Or.inr (Or.inl ⟨h0, h1⟩)))))))
    · exact h1
  · exact h _ (Or.inr (Or.inr (Or.inr (Or.inr (Or.inr (Or.inr (Or.inr (Or.inl ⟨j, hj, rfl⟩))))))))
  · show M (if j = w then e else R.br j) = none
    by_cases hjn : j = w
    · rw [if_pos hjn]
      exact he
    · rw [if_neg hjn]
      exact h _ (Or.inr (Or.inr (Or.inr (Or.inr (Or.inr (Or.inr (Or.inr (Or.inr ⟨j, by omega, rfl⟩))))))))
theorem vr_kn {l : Launch} {X : bi_X} {P : Heap → Prop} {k k' n n' pc : Nat} {L : List (Option Value)} {st : List Value} (hk : k' = k) (hn : n' = n) (h : bi_V l X P k' n' pc L st) : bi_V l X P k n pc L st := by
  subst hk hn
  exact h
/-- a cell that the larger world doesn't know, the smaller doesn't -/
theorem bc_sub_none {M M1 : va_M} (h : ∀ x e, M x = some e → M1 x = some e) {a : Nat} (z : M1 a = none) : M a = none := by
  cases hz : M a with
  | none => rfl
  | some e9 => exact absurd rfl (bc_new_ne (h a e9 hz) z)
theorem ok_X2_copy : bi_ok yX2_copy RX2 0 := by decide +kernel
theorem bk_X2_copy {Y : bi_Y} (G : bi_GS Y) (M : va_M) (R : cR) (n w : Nat) (s : Nat → Int32) (hR : RoundM Y M R n w s) : bc_Met Y yX2_copy (ws_ yX2_copy cX2_copy 4 (some (.object "BrassInspector$Round"))) 5 115 35 297 M [.ref R.r] (fun v M' => ∃ R' : cR, v = some (.ref R'.r) ∧ RoundM Y M' R' n w s ∧ (∀ x e, M x = some e → M' x = some e) ∧ ∀ x, fpr R' n w x → M x = none) bi_nx := by
  obtain ⟨ea, hz9, hT9⟩ := zt_EA G
  have hea : isEA Y ea := ⟨hz9, hT9⟩
  refine bc_Met.of (own := RX2) (L0 := [some (.ref R.r), none, none, none]) rfl (by decide) G (Nat.le_of_ble_eq_true rfl) rfl (fun X A hE hQ hW hnl hnm => ?_)
  have hnl : ∀ q, q < 4 → q < bi_nL X := fun q h => by rw [hnl]; exact h
  refine bc_new (fs := [.null, .null, .null, .null, .int 0, .int 0, .int 0]) hE kc_X2 q468 q135 q72 df_X2 (by decide) (by decide) dX2_copy_0 (fun q hn_q => ?_)
  refine bc_nm (fun M_0 e_0 => ?_)
  have hz_q : M q = none := hn_q
  have hq_0 := (congrFun e_0 q).trans (bu_self _ _ _)
  refine vr_dup hE dX2_copy_3 rfl ?_
  refine bc_callI hE (bk_X2_init G _ q hq_0 ea hea) ok_X2_init rfl q469 q137 q72 q138 rfl rfl (Nat.le_of_ble_eq_true rfl) (by decide) dX2_copy_4 (fun _ _ _ h => h.elim) ?_
  rintro v_4 M_4 ⟨⟨q9, ra1, fi1, tl1, wl1, te1, we1, tr1, br1⟩, hr1, rfl, hN0, hk0, hf0⟩
  obtain rfl : q = q9 := hr1.symm
  have hkA : ∀ x e, M x = some e → M_4 x = some e := fun x e z => hk0 x e ((congrFun e_0 x).trans ((bu_ne (bc_new_ne z hn_q)).trans z)) (bc_new_ne z hn_q)
  have hA : RoundM Y M_4 R n w s := hR.ext hkA
  have hfr : ∀ x, fpr (q, ra1, fi1, tl1, wl1, te1, we1, tr1, br1) 0 0 x → M x = none := fun x hx => (hf0 x hx).elim (fun z => by rw [z]; exact hn_q) (fun z => bu_none ((congrFun e_0 _).symm.trans z))
  refine vr_astore_n hE dX2_copy_7 (hnl _ (by decide)) rfl ?_
  refine vr_aload_n hE dX2_copy_8 rfl ?_
  refine bc_get (z := 0) hE kc_X2 (by decide) q174 (Or.inl rfl) hA.hr rfl dX2_copy_9 ?_
  refine vr_iconst (v := 0) hE dX2_copy_12 (by decide) ?_
  refine vr_aload_n hE dX2_copy_13 rfl ?_
  refine bc_get (z := 0) hE kc_X2 (by decide) q174 (Or.inl rfl) hN0.hr rfl dX2_copy_14 ?_
  refine vr_iconst (v := 0) hE dX2_copy_17 (by decide) ?_
  refine vr_iconst (v := 5) hE dX2_copy_18 (by decide) ?_
  refine bc_copy (t0 := 0) hE rfl rfl hA.hra hN0.hra rfl rfl rfl (by decide) (by decide) (by decide) (by decide) (fun _ _ => rfl) q470 q472 q471 q91 ⟨by decide, Nat.le_of_ble_eq_true rfl⟩ dX2_copy_19 (by first | decide | omega) ?_
  refine bc_nm (fun M_19 e_19 => ?_)
  have hN19 : RoundM Y M_19 (q, ra1, fi1, tl1, wl1, te1, we1, tr1, br1) 0 0 (c_c1 s) := by
    rw [e_19, c_c1_a]
    exact hN0.rts (c_c1_e s)
  have hk19 : ∀ x e, M x = some e → M_19 x = some e := fun x e z => (congrFun e_19 x).trans ((bu_ne (bc_new_ne z (hfr _ (Or.inr (Or.inl rfl))))).trans (hkA x e z))
  have hA19 : RoundM Y M_19 R n w s := hR.ext hk19
  refine vr_aload_n hE dX2_copy_22 rfl ?_
  refine bc_get (z := 1) hE kc_X2 (by decide) q176 (Or.inl rfl) hA19.hr rfl dX2_copy_23 ?_
  refine vr_iconst (v := 0) hE dX2_copy_26 (by decide) ?_
  refine vr_aload_n hE dX2_copy_27 rfl ?_
  refine bc_get (z := 1) hE kc_X2 (by decide) q176 (Or.inl rfl) hN19.hr rfl dX2_copy_28 ?_
  refine vr_iconst (v := 0) hE dX2_copy_31 (by decide) ?_
  refine vr_iconst (v := 5) hE dX2_copy_32 (by decide) ?_
  refine bc_copy (t0 := 0) hE rfl rfl hA19.hfi hN19.hfi rfl rfl rfl (by decide) (by decide) (by decide) (by decide) (fun _ _ => rfl) q470 q472 q471 q91 ⟨by decide, Nat.le_of_ble_eq_true rfl⟩ dX2_copy_33 (by first | decide | omega) ?_
  refine bc_nm (fun M_33 e_33 => ?_)
  have hN33 : RoundM Y M_33 (q, ra1, fi1, tl1, wl1, te1, we1, tr1, br1) 0 0 (c_cp s 0 0) := by
    rw [e_33, c_c2_a]
    exact hN19.cp0
  have hk33 : ∀ x e, M x = some e → M_33 x = some e := fun x e z => (congrFun e_33 x).trans ((bu_ne (bc_new_ne z (hfr _ (Or.inr (Or.inr (Or.inl rfl)))))).trans (hk19 x e z))
  have hA33 : RoundM Y M_33 R n w s := hR.ext hk33
  have nRq : R.r ≠ q := bc_new_ne hR.hr hn_q
  refine vr_aload_n hE dX2_copy_36 rfl ?_
  refine bc_get (z := 2) hE kc_X2 (by decide) q178 (Or.inl rfl) hA33.hr rfl dX2_copy_37 ?_
  refine bc_callF (ar := 0) hE (bk_J2_iterator G _ R.tl R.te n _ hA33.htl) kc_J2 hA33.htl (by decide +kernel) (lw_Fg q474 q478 q480 q75 q482) ⟨q476, q475, q481, q479, q477⟩ rfl rfl (Nat.le_of_ble_eq_true rfl) ⟨by decide, by decide, by omega, by omega⟩ dX2_copy_40 (fun _ _ _ h => h.elim) ?_
  rintro v_40 M_40 ⟨it, rfl, hnit040, e_40⟩
  have hk40 : ∀ x e, M x = some e → M_40 x = some e := fun x e z => (congrFun e_40 x).trans ((bu_ne (bc_new_ne (hk33 x e z) hnit040)).trans (hk33 x e z))
  have hnit : M it = none := bc_sub_none hk33 hnit040
  have hN40 := hN33.ext (fun x e z => (congrFun e_40 x).trans ((bu_ne (bc_new_ne z hnit040)).trans z))
  refine vr_astore_n hE dX2_copy_45 (hnl _ (by decide)) rfl ?_
  have hlp_46 : ∀ (c : Nat) (i : Nat) (lr : Int32) (M1 : va_M) (te2 we2 : Nat) (tr2 br2 : Nat → Nat), i + c = n → M1 it = some (.inr (23, itL (nI i) lr (nI n) R.tl)) → (∀ x e, M x = some e → M1 x = some e) → RoundM Y M1 (q, ra1, fi1, tl1, wl1, te2, we2, tr2, br2) i 0 (c_cp s i 0) → (∀ x, fpr (q, ra1, fi1, tl1, wl1, te2, we2, tr2, br2) i 0 x → M x = none) → bi_V Y.1 X (bc_W Y (bi_A X) M1) (6 + 2 * i) (27 + 21 * i) 46 [some (.ref R.r), some (.ref q), some (.ref it), none] [] := by
    intro c
    induction c with
    | zero =>
      intro i lr M1 te2 we2 tr2 br2 hi hit1 hk1 hN1 hfr1
      have hA1 : RoundM Y M1 R n w s := hR.ext hk1
      have hn10 := hR.hn
      have hw4 := hR.hw
      refine vr_aload_n hE dX2_copy_46 rfl ?_
      refine bc_callF (ar := 0) hE (bk_J15_hasNext G _ it R.tl R.te n i lr _ hit1 hA1.htl (by omega) (by omega)) kc_J15 hit1 (by decide +kernel) (lw_Fg q813 q848 q850 q92 q852) ⟨q815, q814, q851, q849, q847⟩ rfl rfl (Nat.le_of_ble_eq_true rfl) ⟨by decide, by decide, by omega, by omega⟩ dX2_copy_47 (fun _ _ _ h => h.elim) ?_
      rintro v_47 M_47 ⟨rfl, hu_47⟩
      obtain rfl := hu_47.symm
      refine vr_if_eq (tgt := 92) hE dX2_copy_52 (by decide) (fun c_52 => ?_) (fun c_52 => ?_)
      · skip
        have hin : i = n := by omega
        rw [hin] at hN1 hfr1
        refine vr_aload_n hE dX2_copy_92 rfl ?_
        refine bc_get (z := 3) hE kc_X2 (by decide) q180 (Or.inl rfl) hA1.hr rfl dX2_copy_93 ?_
        refine bc_callF (ar := 0) hE (bk_J2_iterator G _ R.wl R.we w _ hA1.hwl) kc_J2 hA1.hwl (by decide +kernel) (lw_Fg q474 q478 q480 q75 q482) ⟨q476, q475, q481, q479, q477⟩ rfl rfl (Nat.le_of_ble_eq_true rfl) ⟨by decide, by decide, by omega, by omega⟩ dX2_copy_96 (fun _ _ _ h => h.elim) ?_
        rintro v_96 M_96 ⟨jt, rfl, hnit096, e_96⟩
        have hk96 : ∀ x e, M x = some e → M_96 x = some e := fun x e z => (congrFun e_96 x).trans ((bu_ne (bc_new_ne (hk1 x e z) hnit096)).trans (hk1 x e z))
        have hnjt : M jt = none := bc_sub_none hk1 hnit096
        have hN96 := hN1.ext (fun x e z => (congrFun e_96 x).trans ((bu_ne (bc_new_ne z hnit096)).trans z))
        refine vr_astore_n hE dX2_copy_101 (hnl _ (by decide)) rfl ?_
        have hlp_102 : ∀ (c : Nat) (i : Nat) (lr : Int32) (M1 : va_M) (we2 : Nat) (br2 : Nat → Nat), i + c = w → M1 jt = some (.inr (23, itL (nI i) lr (nI w) R.wl)) → (∀ x e, M x = some e → M1 x = some e) → RoundM Y M1 (q, ra1, fi1, tl1, wl1, te2, we2, tr2, br2) n i (c_cp s n i) → (∀ x, fpr (q, ra1, fi1, tl1, wl1, te2, we2, tr2, br2) n i x → M x = none) → bi_V Y.1 X (bc_W Y (bi_A X) M1) (7 + 2 * n + 2 * i) (31 + 21 * n + 14 * i) 102 [some (.ref R.r), some (.ref q), some (.ref jt), none] [] := by
          intro c
          induction c with
          | zero =>
            intro i lr M1 we2 br2 hi hit1 hk1 hN1 hfr1
            have hA1 : RoundM Y M1 R n w s := hR.ext hk1
            have hn10 := hR.hn
            have hw4 := hR.hw
            refine vr_aload_n hE dX2_copy_102 rfl ?_
            refine bc_callF (ar := 0) hE (bk_J15_hasNext G _ jt R.wl R.we w i lr _ hit1 hA1.hwl (by omega) (by omega)) kc_J15 hit1 (by decide +kernel) (lw_Fg q813 q848 q850 q92 q852) ⟨q815, q814, q851, q849, q847⟩ rfl rfl (Nat.le_of_ble_eq_true rfl) ⟨by decide, by decide, by omega, by omega⟩ dX2_copy_103 (fun _ _ _ h => h.elim) ?_
            rintro v_103 M_103 ⟨rfl, hu_103⟩
            obtain rfl := hu_103.symm
            refine vr_if_eq (tgt := 138) hE dX2_copy_108 (by decide) (fun c_108 => ?_) (fun c_108 => ?_)
            · skip
              have hin : i = w := by omega
              rw [hin] at hN1 hfr1
              refine vr_aload_n hE dX2_copy_138 rfl ?_
              refine vr_aload_n hE dX2_copy_139 rfl ?_
              refine bc_get (z := 4) hE kc_X2 (by decide) q182 (Or.inl rfl) hA1.hr rfl dX2_copy_140 ?_
              refine bc_put (z := 4) hE kc_X2 (by decide) q182 (Or.inl rfl) rfl hN1.hr rfl rfl (Nat.le_of_ble_eq_true rfl) dX2_copy_143 (by first | decide | omega) ?_
              refine bc_nm (fun M_143 e_143 => ?_)
              have hjt_143 := (congrFun e_143 jt).trans ((bu_ne (bc_dist hit1 hN1.hr (bc_ci (by decide)))).trans hit1)
              have hR_r_143 := (congrFun e_143 R.r).trans ((bu_ne nRq).trans hA1.hr)
              have hR_tl_143 := (congrFun e_143 R.tl).trans ((bu_ne (bc_dist hA1.htl hN1.hr (bc_ci (by decide)))).trans hA1.htl)
              have hR_wl_143 := (congrFun e_143 R.wl).trans ((bu_ne (bc_dist hA1.hwl hN1.hr (bc_ci (by decide)))).trans hA1.hwl)
              have htl1_143 := (congrFun e_143 tl1).trans ((bu_ne (bc_dist hN1.htl hN1.hr (bc_ci (by decide)))).trans hN1.htl)
              have hwl1_143 := (congrFun e_143 wl1).trans ((bu_ne (bc_dist hN1.hwl hN1.hr (bc_ci (by decide)))).trans hN1.hwl)
              have hq_143 := (congrFun e_143 q).trans (bu_self _ _ _)
              refine vr_aload_n hE dX2_copy_146 rfl ?_
              refine vr_aload_n hE dX2_copy_147 rfl ?_
              refine bc_get (z := 5) hE kc_X2 (by decide) q184 (Or.inl rfl) hR_r_143 rfl dX2_copy_148 ?_
              refine bc_put (z := 5) hE kc_X2 (by decide) q184 (Or.inl rfl) rfl hq_143 rfl rfl (Nat.le_of_ble_eq_true rfl) dX2_copy_151 (by first | decide | omega) ?_
              refine bc_nm (fun M_151 e_151 => ?_)
              have hjt_151 := (congrFun e_151 jt).trans ((bu_ne (bc_dist hjt_143 hq_143 (bc_ci (by decide)))).trans hjt_143)
              have hR_r_151 := (congrFun e_151 R.r).trans ((bu_ne nRq).trans hR_r_143)
              have hR_tl_151 := (congrFun e_151 R.tl).trans ((bu_ne (bc_dist hR_tl_143 hq_143 (bc_ci (by decide)))).trans hR_tl_143)
              have hR_wl_151 := (congrFun e_151 R.wl).trans ((bu_ne (bc_dist hR_wl_143 hq_143 (bc_ci (by decide)))).trans hR_wl_143)
              have htl1_151 := (congrFun e_151 tl1).trans ((bu_ne (bc_dist htl1_143 hq_143 (bc_ci (by decide)))).trans htl1_143)
              have hwl1_151 := (congrFun e_151 wl1).trans ((bu_ne (bc_dist hwl1_143 hq_143 (bc_ci (by decide)))).trans hwl1_143)
              have hq_151 := (congrFun e_151 q).trans (bu_self _ _ _)
              refine vr_aload_n hE dX2_copy_154 rfl ?_
              refine vr_aload_n hE dX2_copy_155 rfl ?_
              refine bc_get (z := 6) hE kc_X2 (by decide) q185 (Or.inl rfl) hR_r_151 rfl dX2_copy_156 ?_
              refine bc_put (z := 6) hE kc_X2 (by decide) q185 (Or.inl rfl) rfl hq_151 rfl rfl (Nat.le_of_ble_eq_true rfl) dX2_copy_159 (by first | decide | omega) ?_
              refine bc_nm (fun M_159 e_159 => ?_)
              have hjt_159 := (congrFun e_159 jt).trans ((bu_ne (bc_dist hjt_151 hq_151 (bc_ci (by decide)))).trans hjt_151)
              have hR_r_159 := (congrFun e_159 R.r).trans ((bu_ne nRq).trans hR_r_151)
              have hR_tl_159 := (congrFun e_159 R.tl).trans ((bu_ne (bc_dist hR_tl_151 hq_151 (bc_ci (by decide)))).trans hR_tl_151)
              have hR_wl_159 := (congrFun e_159 R.wl).trans ((bu_ne (bc_dist hR_wl_151 hq_151 (bc_ci (by decide)))).trans hR_wl_151)
              have htl1_159 := (congrFun e_159 tl1).trans ((bu_ne (bc_dist htl1_151 hq_151 (bc_ci (by decide)))).trans htl1_151)
              have hwl1_159 := (congrFun e_159 wl1).trans ((bu_ne (bc_dist hwl1_151 hq_151 (bc_ci (by decide)))).trans hwl1_151)
              have hq_159 := (congrFun e_159 q).trans (bu_self _ _ _)
              refine vr_aload_n hE dX2_copy_162 rfl ?_
              refine vr_areturn hE hQ (Or.inl ⟨_, rfl⟩) (Or.inr ⟨_, rfl⟩) dX2_copy_163 ⟨by omega, by omega⟩ ⟨_, ?_, fun H h => hW _ H h⟩
              subst e_159
              subst e_151
              subst e_143
              exact ⟨(q, ra1, fi1, tl1, wl1, te2, we2, tr2, br2), rfl, by simp only [bu_bu]; exact hN1.cpE hR.h1 hR.h2, fun y e9 z => by simp only [bu_bu]; exact (bu_ne (bc_new_ne z (hfr1 _ (Or.inl rfl)))).trans (hk1 y e9 z), hfr1⟩
            · exact absurd (if_pos (show i = w by omega)) c_108
          | succ c ih =>
            intro i lr M1 we2 br2 hi hit1 hk1 hN1 hfr1
            have hA1 : RoundM Y M1 R n w s := hR.ext hk1
            have hn10 := hR.hn
            have hw4 := hR.hw
            refine vr_aload_n hE dX2_copy_102 rfl ?_
            refine bc_callF (ar := 0) hE (bk_J15_hasNext G _ jt R.wl R.we w i lr _ hit1 hA1.hwl (by omega) (by omega)) kc_J15 hit1 (by decide +kernel) (lw_Fg q813 q848 q850 q92 q852) ⟨q815, q814, q851, q849, q847⟩ rfl rfl (Nat.le_of_ble_eq_true rfl) ⟨by decide, by decide, by omega, by omega⟩ dX2_copy_103 (fun _ _ _ h => h.elim) ?_
            rintro v_103 M_103 ⟨rfl, hu_103⟩
            obtain rfl := hu_103.symm
            refine vr_if_eq (tgt := 138) hE dX2_copy_108 (by decide) (fun c_108 => ?_) (fun c_108 => ?_)
            · exact absurd c_108 (by rw [if_neg (show ¬ i = w by omega)]; decide)
            skip
            refine vr_aload_n hE dX2_copy_111 rfl ?_
            refine bc_callF (ar := 0) hE (bk_J15_next G _ jt R.wl R.we w i lr _ hit1 hA1.hwl (by omega) (by omega) (lsf R.br w) (hA1.we_ (by omega)) (R.br i) (lsf_lt (by omega))) kc_J15 hit1 (by decide +kernel) (lw_Fg q863 q1049 q1051 q92 q1053) ⟨q865, q864, q1052, q1050, q847⟩ rfl rfl (Nat.le_of_ble_eq_true rfl) ⟨by decide, by decide, by omega, by omega⟩ dX2_copy_112 (fun _ _ _ h => h.elim) ?_
            rintro v_112 M_112 ⟨rfl, e_112⟩
            have hR_r_112 := (congrFun e_112 R.r).trans ((bu_ne (bc_dist hA1.hr hit1 (bc_ci (by decide)))).trans hA1.hr)
            have hR_tl_112 := (congrFun e_112 R.tl).trans ((bu_ne (bc_dist hA1.htl hit1 (bc_ci (by decide)))).trans hA1.htl)
            have hR_wl_112 := (congrFun e_112 R.wl).trans ((bu_ne (bc_dist hA1.hwl hit1 (bc_ci (by decide)))).trans hA1.hwl)
            have h_R_br_i__112 := (congrFun e_112 (R.br i)).trans ((bu_ne (bc_dist (hA1.hbr i (by omega)) hit1 (bc_ci (by decide)))).trans (hA1.hbr i (by omega)))
            have hq_112 := (congrFun e_112 q).trans ((bu_ne (bc_dist hN1.hr hit1 (bc_ci (by decide)))).trans hN1.hr)
            have htl1_112 := (congrFun e_112 tl1).trans ((bu_ne (bc_dist hN1.htl hit1 (bc_ci (by decide)))).trans hN1.htl)
            have hwl1_112 := (congrFun e_112 wl1).trans ((bu_ne (bc_dist hN1.hwl hit1 (bc_ci (by decide)))).trans hN1.hwl)
            have hjt_112 := (congrFun e_112 jt).trans (bu_self _ _ _)
            have hN_112 : RoundM Y M_112 (q, ra1, fi1, tl1, wl1, te2, we2, tr2, br2) n i (c_cp s n i) := hN1.oth hit1 (by decide) e_112
            have hk_112 : ∀ y e9, M y = some e9 → M_112 y = some e9 := fun y e9 z => (congrFun e_112 y).trans ((bu_ne (bc_new_ne z hnjt)).trans (hk1 y e9 z))
            refine vr_castS hE kc_X7.1 (bc_cls kc_X7 h_R_br_i__112) q1186 dX2_copy_117 ?_
            refine vr_astore_n hE dX2_copy_120 (hnl _ (by decide)) rfl ?_
            refine vr_aload_n hE dX2_copy_121 rfl ?_
            refine bc_get (z := 3) hE kc_X2 (by decide) q180 (Or.inl rfl) hq_112 rfl dX2_copy_122 ?_
            refine vr_aload_n hE dX2_copy_125 rfl ?_
            refine bc_callV hE (bk_X7_copy G _ (R.br i) _ _ _ _ h_R_br_i__112) kc_X7 h_R_br_i__112 ok_X7_copy (lw_V q1187 q1188 q1189 q108 q1190) rfl rfl (Nat.le_of_ble_eq_true rfl) ⟨by decide, by decide, by omega, by omega⟩ dX2_copy_126 (fun _ _ _ h => h.elim) ?_
            rintro v_126 M_126 ⟨x, rfl, hn_x, e_126⟩
            have nR_r_x := bc_new_ne hR_r_112 hn_x
            have nR_tl_x := bc_new_ne hR_tl_112 hn_x
            have nR_wl_x := bc_new_ne hR_wl_112 hn_x
            have n_R_br_i__x := bc_new_ne h_R_br_i__112 hn_x
            have nq_x := bc_new_ne hq_112 hn_x
            have ntl1_x := bc_new_ne htl1_112 hn_x
            have nwl1_x := bc_new_ne hwl1_112 hn_x
            have njt_x := bc_new_ne hjt_112 hn_x
            have hR_r_126 := (congrFun e_126 R.r).trans ((bu_ne nR_r_x).trans hR_r_112)
            have hR_tl_126 := (congrFun e_126 R.tl).trans ((bu_ne nR_tl_x).trans hR_tl_112)
            have hR_wl_126 := (congrFun e_126 R.wl).trans ((bu_ne nR_wl_x).trans hR_wl_112)
            have h_R_br_i__126 := (congrFun e_126 (R.br i)).trans ((bu_ne n_R_br_i__x).trans h_R_br_i__112)
            have hq_126 := (congrFun e_126 q).trans ((bu_ne nq_x).trans hq_112)
            have htl1_126 := (congrFun e_126 tl1).trans ((bu_ne ntl1_x).trans htl1_112)
            have hwl1_126 := (congrFun e_126 wl1).trans ((bu_ne nwl1_x).trans hwl1_112)
            have hjt_126 := (congrFun e_126 jt).trans ((bu_ne njt_x).trans hjt_112)
            have hx_126 := (congrFun e_126 x).trans (bu_self _ _ _)
            have hq_126e : ∀ y e9, M_112 y = some e9 → M_126 y = some e9 := fun y e9 z => (congrFun e_126 y).trans ((bu_ne (bc_new_ne z hn_x)).trans z)
            have hN_126 := hN_112.ext hq_126e
            have hk_126 : ∀ y e9, M y = some e9 → M_126 y = some e9 := fun y e9 z => hq_126e y e9 (hk_112 y e9 z)
            refine bc_callF (ar := 1) hE (bk_J2_addX G _ wl1 we2 i _ hN_126.hwl br2 hN_126.hwe (by omega) x 4 4 _ _ _ _ kc_X7 q2943 hx_126 (Ne.symm nwl1_x)) kc_J2 hwl1_126 (by decide +kernel) (lw_Fg q1123 q1126 q1128 q75 q1130) ⟨q1125, q1124, q1129, q1127, q477⟩ rfl rfl (Nat.le_of_ble_eq_true rfl) ⟨by decide, by decide, by omega, by omega⟩ dX2_copy_129 (fun _ _ _ h => h.elim) ?_
            rintro v_129 M_129 ⟨te', rfl, ht9, e_129⟩
            have hN_129 := hN_126.addW (s' := (c_cp s n (i + 1))) (by omega) ht9 (hx_126.trans (by rw [bS_cp])) (fun k9 hk9 _ => c_cp_j hk9) rfl e_129
            have ht8 : (0 < i ∧ te' = we2) ∨ M te' = none := ht9.elim Or.inl (fun z => Or.inr (bc_sub_none hk_126 z.2))
            have hfr_129 := fpr_addW hfr1 (bc_sub_none hk_112 hn_x) ht8
            have hk_129 : ∀ y e9, M y = some e9 → M_129 y = some e9 := fun y e9 z => (congrFun e_129 y).trans ((bu_ne (bc_new_ne z (hfr1 _ (Or.inr (Or.inr (Or.inr (Or.inr (Or.inl rfl)))))))).trans ((bu_ne (ht8.elim (fun g9 => by rw [g9.2]; exact bc_new_ne z (hfr1 _ (Or.inr (Or.inr (Or.inr (Or.inr (Or.inr (Or.inr (Or.inl ⟨g9.1, rfl⟩))))))))) (fun g9 => bc_new_ne z g9))).trans (hk_126 y e9 z)))
            have hit_129 := (congrFun e_129 jt).trans ((bu_ne (bc_dist hjt_126 hN_126.hwl (bc_ci (by decide)))).trans ((bu_ne (ht9.elim (fun g9 => by rw [g9.2]; exact bc_dist hjt_126 (hN_126.we_ g9.1) bc_oi) (fun g9 => bc_new_ne hjt_126 g9.2))).trans hjt_126))
            refine vr_pop hE dX2_copy_134 rfl ?_
            refine vr_goto (tgt := 102) hE dX2_copy_135 (by decide) ?_
            refine vr_drop 3 ?_
            have h9 := ih (i + 1) _ M_129 _ _ (by omega) hit_129 hk_129 hN_129 hfr_129
            exact vr_kn (by omega) (by omega) h9
        exact vr_kn (by omega) (by omega) (hlp_102 w 0 _ M_96 we2 br2 (Nat.zero_add _) ((congrFun e_96 jt).trans (bu_self _ _ _)) hk96 hN96 hfr1)
      · exact absurd (if_pos (show i = n by omega)) c_52
    | succ c ih =>
      intro i lr M1 te2 we2 tr2 br2 hi hit1 hk1 hN1 hfr1
      have hA1 : RoundM Y M1 R n w s := hR.ext hk1
      have hn10 := hR.hn
      have hw4 := hR.hw
      refine vr_aload_n hE dX2_copy_46 rfl ?_
      refine bc_callF (ar := 0) hE (bk_J15_hasNext G _ it R.tl R.te n i lr _ hit1 hA1.htl (by omega) (by omega)) kc_J15 hit1 (by decide +kernel) (lw_Fg q813 q848 q850 q92 q852) ⟨q815, q814, q851, q849, q847⟩ rfl rfl (Nat.le_of_ble_eq_true rfl) ⟨by decide, by decide, by omega, by omega⟩ dX2_copy_47 (fun _ _ _ h => h.elim) ?_
      rintro v_47 M_47 ⟨rfl, hu_47⟩
      obtain rfl := hu_47.symm
      refine vr_if_eq (tgt := 92) hE dX2_copy_52 (by decide) (fun c_52 => ?_) (fun c_52 => ?_)
      · exact absurd c_52 (by rw [if_neg (show ¬ i = n by omega)]; decide)
      skip
      refine vr_aload_n hE dX2_copy_55 rfl ?_
      refine bc_callF (ar := 0) hE (bk_J15_next G _ it R.tl R.te n i lr _ hit1 hA1.htl (by omega) (by omega) (lsf R.tr n) (hA1.te_ (by omega)) (R.tr i) (lsf_lt (by omega))) kc_J15 hit1 (by decide +kernel) (lw_Fg q863 q1049 q1051 q92 q1053) ⟨q865, q864, q1052, q1050, q847⟩ rfl rfl (Nat.le_of_ble_eq_true rfl) ⟨by decide, by decide, by omega, by omega⟩ dX2_copy_56 (fun _ _ _ h => h.elim) ?_
      rintro v_56 M_56 ⟨rfl, e_56⟩
      have hR_r_56 := (congrFun e_56 R.r).trans ((bu_ne (bc_dist hA1.hr hit1 (bc_ci (by decide)))).trans hA1.hr)
      have hR_tl_56 := (congrFun e_56 R.tl).trans ((bu_ne (bc_dist hA1.htl hit1 (bc_ci (by decide)))).trans hA1.htl)
      have hR_wl_56 := (congrFun e_56 R.wl).trans ((bu_ne (bc_dist hA1.hwl hit1 (bc_ci (by decide)))).trans hA1.hwl)
      have h_R_tr_i__56 := (congrFun e_56 (R.tr i)).trans ((bu_ne (bc_dist (hA1.htr i (by omega)) hit1 (bc_ci (by decide)))).trans (hA1.htr i (by omega)))
      have hq_56 := (congrFun e_56 q).trans ((bu_ne (bc_dist hN1.hr hit1 (bc_ci (by decide)))).trans hN1.hr)
      have htl1_56 := (congrFun e_56 tl1).trans ((bu_ne (bc_dist hN1.htl hit1 (bc_ci (by decide)))).trans hN1.htl)
      have hwl1_56 := (congrFun e_56 wl1).trans ((bu_ne (bc_dist hN1.hwl hit1 (bc_ci (by decide)))).trans hN1.hwl)
      have hit_56 := (congrFun e_56 it).trans (bu_self _ _ _)
      have hN_56 : RoundM Y M_56 (q, ra1, fi1, tl1, wl1, te2, we2, tr2, br2) i 0 (c_cp s i 0) := hN1.oth hit1 (by decide) e_56
      have hk_56 : ∀ y e9, M y = some e9 → M_56 y = some e9 := fun y e9 z => (congrFun e_56 y).trans ((bu_ne (bc_new_ne z hnit)).trans (hk1 y e9 z))
      refine vr_castS hE kc_X6.1 (bc_cls kc_X6 h_R_tr_i__56) q1076 dX2_copy_61 ?_
      refine vr_astore_n hE dX2_copy_64 (hnl _ (by decide)) rfl ?_
      refine vr_aload_n hE dX2_copy_65 rfl ?_
      refine bc_get (z := 2) hE kc_X2 (by decide) q178 (Or.inl rfl) hq_56 rfl dX2_copy_66 ?_
      refine bc_new (fs := [.int 0, .int 0, .int 0, .int 0, .int 0, .int 0, .int 0, .int 0, .int 0, .int 0, .null]) hE kc_X6 q1076 q1077 q106 df_X6 (by decide) ⟨by omega, by omega⟩ dX2_copy_69 (fun x hn_x => ?_)
      refine bc_nm (fun M_69 e_69 => ?_)
      have nR_r_x := bc_new_ne hR_r_56 hn_x
      have nR_tl_x := bc_new_ne hR_tl_56 hn_x
      have nR_wl_x := bc_new_ne hR_wl_56 hn_x
      have n_R_tr_i__x := bc_new_ne h_R_tr_i__56 hn_x
      have nq_x := bc_new_ne hq_56 hn_x
      have ntl1_x := bc_new_ne htl1_56 hn_x
      have nwl1_x := bc_new_ne hwl1_56 hn_x
      have nit_x := bc_new_ne hit_56 hn_x
      have hR_r_69 := (congrFun e_69 R.r).trans ((bu_ne nR_r_x).trans hR_r_56)
      have hR_tl_69 := (congrFun e_69 R.tl).trans ((bu_ne nR_tl_x).trans hR_tl_56)
      have hR_wl_69 := (congrFun e_69 R.wl).trans ((bu_ne nR_wl_x).trans hR_wl_56)
      have h_R_tr_i__69 := (congrFun e_69 (R.tr i)).trans ((bu_ne n_R_tr_i__x).trans h_R_tr_i__56)
      have hq_69 := (congrFun e_69 q).trans ((bu_ne nq_x).trans hq_56)
      have htl1_69 := (congrFun e_69 tl1).trans ((bu_ne ntl1_x).trans htl1_56)
      have hwl1_69 := (congrFun e_69 wl1).trans ((bu_ne nwl1_x).trans hwl1_56)
      have hit_69 := (congrFun e_69 it).trans ((bu_ne nit_x).trans hit_56)
      have hx_69 := (congrFun e_69 x).trans (bu_self _ _ _)
      refine vr_dup hE dX2_copy_72 rfl ?_
      refine vr_aload_n hE dX2_copy_73 rfl ?_
      refine vr_dup hE dX2_copy_74 rfl ?_
      refine bc_callS hE (bk_J26_requireNonNull G _ q) ok_J26_requireNonNull (lw_S q1078 q1079 q105 q1080) rfl rfl (Nat.le_of_ble_eq_true rfl) ⟨by decide, by decide, by omega, by omega⟩ dX2_copy_75 (fun _ _ _ h => h.elim) ?_
      rintro v_75 M_75 ⟨rfl, hu_75⟩
      obtain rfl := hu_75.symm
      refine vr_pop hE dX2_copy_78 rfl ?_
      refine vr_aload_n hE dX2_copy_79 rfl ?_
      refine bc_callI hE (bk_X6_init G _ x q hx_69 (R.tr i) R.r _ _ _ _ _ _ _ _ _ _ h_R_tr_i__69 n_R_tr_i__x) ok_X6_init rfl q1081 q1082 q106 q1083 rfl rfl (Nat.le_of_ble_eq_true rfl) ⟨by decide, by decide, by omega, by omega⟩ dX2_copy_80 (fun _ _ _ h => h.elim) ?_
      rintro v_80 M_80 ⟨rfl, e_80⟩
      have hR_r_80 := (congrFun e_80 R.r).trans ((bu_ne nR_r_x).trans hR_r_69)
      have hR_tl_80 := (congrFun e_80 R.tl).trans ((bu_ne nR_tl_x).trans hR_tl_69)
      have hR_wl_80 := (congrFun e_80 R.wl).trans ((bu_ne nR_wl_x).trans hR_wl_69)
      have h_R_tr_i__80 := (congrFun e_80 (R.tr i)).trans ((bu_ne n_R_tr_i__x).trans h_R_tr_i__69)
      have hq_80 := (congrFun e_80 q).trans ((bu_ne nq_x).trans hq_69)
      have htl1_80 := (congrFun e_80 tl1).trans ((bu_ne ntl1_x).trans htl1_69)
      have hwl1_80 := (congrFun e_80 wl1).trans ((bu_ne nwl1_x).trans hwl1_69)
      have hit_80 := (congrFun e_80 it).trans ((bu_ne nit_x).trans hit_69)
      have hx_80 := (congrFun e_80 x).trans (bu_self _ _ _)
      have hq_80e : ∀ y e9, M_56 y = some e9 → M_80 y = some e9 := fun y e9 z => (congrFun e_80 y).trans ((bu_ne (bc_new_ne z hn_x)).trans ((congrFun e_69 y).trans ((bu_ne (bc_new_ne z hn_x)).trans z)))
      have hN_80 := hN_56.ext hq_80e
      have hk_80 : ∀ y e9, M y = some e9 → M_80 y = some e9 := fun y e9 z => hq_80e y e9 (hk_56 y e9 z)
      refine bc_callF (ar := 1) hE (bk_J2_addX G _ tl1 te2 i _ hN_80.htl tr2 hN_80.hte (by omega) x 3 11 _ _ _ _ kc_X6 q2941 hx_80 (Ne.symm ntl1_x)) kc_J2 htl1_80 (by decide +kernel) (lw_Fg q1123 q1126 q1128 q75 q1130) ⟨q1125, q1124, q1129, q1127, q477⟩ rfl rfl (Nat.le_of_ble_eq_true rfl) ⟨by decide, by decide, by omega, by omega⟩ dX2_copy_83 (fun _ _ _ h => h.elim) ?_
      rintro v_83 M_83 ⟨te', rfl, ht9, e_83⟩
      have hN_83 := hN_80.addT (s' := (c_cp s (i + 1) 0)) (by omega) ht9 (hx_80.trans (by rw [tS_cp])) (fun k9 hk9 _ => c_cp_i hk9) rfl e_83
      have ht8 : (0 < i ∧ te' = te2) ∨ M te' = none := ht9.elim Or.inl (fun z => Or.inr (bc_sub_none hk_80 z.2))
      have hfr_83 := fpr_addT hfr1 (bc_sub_none hk_56 hn_x) ht8
      have hk_83 : ∀ y e9, M y = some e9 → M_83 y = some e9 := fun y e9 z => (congrFun e_83 y).trans ((bu_ne (bc_new_ne z (hfr1 _ (Or.inr (Or.inr (Or.inr (Or.inl rfl))))))).trans ((bu_ne (ht8.elim (fun g9 => by rw [g9.2]; exact bc_new_ne z (hfr1 _ (Or.inr (Or.inr (Or.inr (Or.inr (Or.inr (Or.inl ⟨g9.1, rfl⟩)))))))) (fun g9 => bc_new_ne z g9))).trans (hk_80 y e9 z)))
      have hit_83 := (congrFun e_83 it).trans ((bu_ne (bc_dist hit_80 hN_80.htl (bc_ci (by decide)))).trans ((bu_ne (ht9.elim (fun g9 => by rw [g9.2]; exact bc_dist hit_80 (hN_80.te_ g9.1) bc_oi) (fun g9 => bc_new_ne hit_80 g9.2))).trans hit_80))
      refine vr_pop hE dX2_copy_88 rfl ?_
      refine vr_goto (tgt := 46) hE dX2_copy_89 (by decide) ?_
      refine vr_drop 3 ?_
      have h9 := ih (i + 1) _ M_83 _ _ _ _ (by omega) hit_83 hk_83 hN_83 hfr_83
      exact vr_kn (by omega) (by omega) h9
  exact vr_kn rfl rfl (hlp_46 n 0 _ M_40 te1 we1 tr1 br1 (Nat.zero_add _) ((congrFun e_40 it).trans (bu_self _ _ _)) hk40 hN40 (fun x hx => hfr x hx))
