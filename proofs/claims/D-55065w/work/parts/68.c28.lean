/-! StringBuilder, typed into -/
set_option maxRecDepth 100000
theorem or_pos : ∀ c, c < 64 → ∀ e, e < 64 → ¬ ((nI c ||| 0) ||| nI e) < 0 := by decide +kernel
/-- the builder's object and its bytes -/
def Bf (Y : bi_Y) (M : va_M) (sb v : Nat) (u : Bool) (mb : Int32) (c e : Nat) (f : Nat → Int32) : Prop := M sb = some (.inr (21, sbL v (if u then 1 else 0) mb (nI e))) ∧ M v = some (eB Y (if u then 2 * c else c) f) ∧ sb_Fit f ∧ (c = 16 ∨ c = 34) ∧ e ≤ c
/-- what the bytes say -/
def bTx (u : Bool) (T : Nat → Nat) (e : Nat) (f : Nat → Int32) : Prop := ∀ j, j < e → if u then T j < 65536 ∧ f (2 * j) = sb_b (T j) ∧ f (2 * j + 1) = sb_b (T j / 256) else T j < 256 ∧ f j = sb_b (T j)
def BufM (Y : bi_Y) (M : va_M) (sb v : Nat) (T : Nat → Nat) (e : Nat) : Prop := ∃ u mb c f, Bf Y M sb v u mb c e f ∧ bTx u T e f
def updN (T : Nat → Nat) (k x : Nat) : Nat → Nat := fun j => if j = k then x else T j
/-- what an append leaves -/
def bKp (M M' : va_M) (sb v v' : Nat) : Prop := (∀ q x, M q = some x → q ≠ sb → q ≠ v → M' q = some x) ∧ (v' = v ∨ M v' = none)
theorem ok_J16_newLength : bi_ok yJ16_newLength RJ16 3 := by decide +kernel
theorem bk_J16_newLength {Y : bi_Y} (G : bi_GS Y) (M : va_M) (a b c r : Nat) (hr : r = a + (if b < c then c else b)) (h0 : 0 < r) (h1 : r < 1000) (hb : b < 1000) (hc : c < 1000) : bc_Met Y yJ16_newLength (ws_ yJ16_newLength cJ16_newLength 4 (some .int)) 1 28 0 0 M [.int (nI a), .int (nI b), .int (nI c)] (fun v9 M' => v9 = some (.int (nI r)) ∧ M' = M) bi_nx := by
  refine bc_Met.of (own := RJ16) (L0 := [some (.int (nI a)), some (.int (nI b)), some (.int (nI c)), none]) rfl (by decide) G (Nat.le_of_ble_eq_true rfl) rfl (fun X A hE hQ hW hnl hnm => ?_)
  have hnl : ∀ q, q < 4 → q < bi_nL X := fun q h => by rw [hnl]; exact h
  refine vr_iload_n hE dJ16_newLength_0 rfl ?_
  refine vr_iload_n hE dJ16_newLength_1 rfl ?_
  refine vr_iload_n hE dJ16_newLength_2 rfl ?_
  refine vr_mmax hE q556 q557 q94 q558 ⟨by decide, Nat.le_of_ble_eq_true rfl, by first | decide | omega, by first | decide | omega⟩ dJ16_newLength_3 ?_
  refine vr_to (w := .int (nI (if b < c then c else b))) (congrArg Value.int (show (if nI b < nI c then nI c else nI b) = _ from by
      by_cases h : b < c
      · rw [if_pos h, if_pos (nI_lt h (by omega))]
      · rw [if_neg h, if_neg (nI_nlt (by omega) (by omega))])) ?_
  refine vr_iadd hE dJ16_newLength_6 ?_
  refine vr_to (w := .int (nI r)) (congrArg Value.int (by rw [hr]; exact nI_add _ _)) ?_
  refine vr_istore_n hE dJ16_newLength_7 (hnl _ (by decide)) rfl ?_
  refine vr_iconst (v := 0) hE dJ16_newLength_8 (by decide) ?_
  refine vr_iload_n hE dJ16_newLength_9 rfl ?_
  refine vr_icmp_ge (tgt := 21) hE dJ16_newLength_10 (by decide) (fun c_10 => ?_) (fun c_10 => ?_)
  · exact absurd c_10 (fun z => nI_nle h0 (by omega) z)
  skip
  refine vr_iload_n hE dJ16_newLength_13 rfl ?_
  refine vr_ldcI hE q559 dJ16_newLength_14 ?_
  refine vr_icmp_gt (tgt := 21) hE dJ16_newLength_16 (by decide) (fun c_16 => ?_) (fun c_16 => ?_)
  · exact absurd c_16 (nI_nlt (a := 2147483639) (b := r) (by omega) (by decide))
  skip
  refine vr_iload_n hE dJ16_newLength_19 rfl ?_
  refine vr_ireturn hE hQ rfl dJ16_newLength_20 (by decide) ⟨_, ?_, fun H h => hW _ H h⟩
  exact ⟨rfl, rfl⟩
theorem ok_J5_newCapacity : bi_ok yJ5_newCapacity RJ5 1 := by decide +kernel
theorem bk_J5_newCapacityL {Y : bi_Y} (G : bi_GS Y) (M : va_M) (sb v m : Nat) (mb ct : Int32) (f : Nat → Int32) (h_sb : M sb = some (.inr (21, sbL v 0 mb ct))) (h_v : M v = some (eB Y 16 f)) (hm : 16 < m) (hm2 : m ≤ 34) : bc_Met Y yJ5_newCapacity (ws_ yJ5_newCapacity cJ5_newCapacity 6 (some .int)) 3 80 0 0 M [.ref sb, .int (nI m)] (fun v9 M' => v9 = some (.int (nI 34)) ∧ M' = M) bi_nx := by
  refine bc_Met.of (own := RJ5) (L0 := [some (.ref sb), some (.int (nI m)), none, none, none, none]) rfl (by decide) G (Nat.le_of_ble_eq_true rfl) rfl (fun X A hE hQ hW hnl hnm => ?_)
  have hnl : ∀ q, q < 6 → q < bi_nL X := fun q h => by rw [hnl]; exact h
  refine vr_aload_n hE dJ5_newCapacity_0 rfl ?_
  refine bc_get (z := 0) hE kc_J6 (by decide) q240 (Or.inl rfl) h_sb rfl dJ5_newCapacity_1 ?_
  refine bc_alen (t0 := 1) hE rfl h_v dJ5_newCapacity_4 ?_
  refine vr_istore_n hE dJ5_newCapacity_5 (hnl _ (by decide)) rfl ?_
  refine vr_iload_n hE dJ5_newCapacity_6 rfl ?_
  refine vr_aload_n hE dJ5_newCapacity_7 rfl ?_
  refine bc_get (z := 1) hE kc_J6 (by decide) q241 (Or.inl rfl) h_sb rfl dJ5_newCapacity_8 ?_
  refine vr_ishl (v := (nI m)) hE dJ5_newCapacity_11 (sb_shl0 _) ?_
  refine vr_istore_n hE dJ5_newCapacity_12 (hnl _ (by decide)) rfl ?_
  refine vr_iload_n hE dJ5_newCapacity_13 rfl ?_
  refine vr_iload_n hE dJ5_newCapacity_14 rfl ?_
  refine vr_isub hE dJ5_newCapacity_15 ?_
  refine vr_to (w := .int (nI (m - 16))) (congrArg Value.int (pk_sub (a := m) (b := 16) (by omega))) ?_
  refine vr_istore hE dJ5_newCapacity_16 (hnl _ (by decide)) rfl ?_
  refine vr_iload_n hE dJ5_newCapacity_18 rfl ?_
  refine vr_iload hE dJ5_newCapacity_19 rfl ?_
  refine vr_iload_n hE dJ5_newCapacity_21 rfl ?_
  refine vr_iconst (v := 2) hE dJ5_newCapacity_22 (by decide) ?_
  refine vr_aload_n hE dJ5_newCapacity_23 rfl ?_
  refine bc_get (z := 1) hE kc_J6 (by decide) q241 (Or.inl rfl) h_sb rfl dJ5_newCapacity_24 ?_
  refine vr_ishl (v := 2) hE dJ5_newCapacity_27 (by decide) ?_
  refine vr_iadd hE dJ5_newCapacity_28 ?_
  refine vr_to (w := .int (nI 18)) (congrArg Value.int (by decide)) ?_
  refine bc_callS hE (bk_J16_newLength G _ 16 (m - 16) 18 34 (by split <;> omega) (by decide) (by decide) (by omega) (by decide)) ok_J16_newLength (lw_S q553 q554 q93 q555) rfl rfl (Nat.le_of_ble_eq_true rfl) (by decide) dJ5_newCapacity_29 (fun _ _ _ h => h.elim) ?_
  rintro v_29 M_29 ⟨rfl, hu_29⟩
  obtain rfl := hu_29.symm
  refine vr_istore hE dJ5_newCapacity_32 (hnl _ (by decide)) rfl ?_
  refine vr_iload hE dJ5_newCapacity_34 rfl ?_
  refine vr_ldcI hE q563 dJ5_newCapacity_36 ?_
  refine vr_icmp_ne (tgt := 51) hE dJ5_newCapacity_38 (by decide) (fun c_38 => ?_) (fun c_38 => ?_)
  · skip
    refine vr_iload hE dJ5_newCapacity_51 rfl ?_
    refine vr_aload_n hE dJ5_newCapacity_53 rfl ?_
    refine bc_get (z := 1) hE kc_J6 (by decide) q241 (Or.inl rfl) h_sb rfl dJ5_newCapacity_54 ?_
    refine vr_ishr (v := (nI 34)) hE dJ5_newCapacity_57 (by decide) ?_
    refine vr_ireturn hE hQ rfl dJ5_newCapacity_58 (by decide) ⟨_, ?_, fun H h => hW _ H h⟩
    exact ⟨rfl, rfl⟩
  · exact absurd c_38 (by decide)
theorem bk_J5_newCapacityU {Y : bi_Y} (G : bi_GS Y) (M : va_M) (sb v m : Nat) (mb ct : Int32) (f : Nat → Int32) (h_sb : M sb = some (.inr (21, sbL v 1 mb ct))) (h_v : M v = some (eB Y 32 f)) (hm : 16 < m) (hm2 : m ≤ 34) : bc_Met Y yJ5_newCapacity (ws_ yJ5_newCapacity cJ5_newCapacity 6 (some .int)) 3 80 0 0 M [.ref sb, .int (nI m)] (fun v9 M' => v9 = some (.int (nI 34)) ∧ M' = M) bi_nx := by
  refine bc_Met.of (own := RJ5) (L0 := [some (.ref sb), some (.int (nI m)), none, none, none, none]) rfl (by decide) G (Nat.le_of_ble_eq_true rfl) rfl (fun X A hE hQ hW hnl hnm => ?_)
  have hnl : ∀ q, q < 6 → q < bi_nL X := fun q h => by rw [hnl]; exact h
  refine vr_aload_n hE dJ5_newCapacity_0 rfl ?_
  refine bc_get (z := 0) hE kc_J6 (by decide) q240 (Or.inl rfl) h_sb rfl dJ5_newCapacity_1 ?_
  refine bc_alen (t0 := 1) hE rfl h_v dJ5_newCapacity_4 ?_
  refine vr_istore_n hE dJ5_newCapacity_5 (hnl _ (by decide)) rfl ?_
  refine vr_iload_n hE dJ5_newCapacity_6 rfl ?_
  refine vr_aload_n hE dJ5_newCapacity_7 rfl ?_
  refine bc_get (z := 1) hE kc_J6 (by decide) q241 (Or.inl rfl) h_sb rfl dJ5_newCapacity_8 ?_
  refine vr_ishl (v := (nI (2 * m))) hE dJ5_newCapacity_11 (shl1 m (by omega)) ?_
  refine vr_istore_n hE dJ5_newCapacity_12 (hnl _ (by decide)) rfl ?_
  refine vr_iload_n hE dJ5_newCapacity_13 rfl ?_
  refine vr_iload_n hE dJ5_newCapacity_14 rfl ?_
  refine vr_isub hE dJ5_newCapacity_15 ?_
  refine vr_to (w := .int (nI (2 * m - 32))) (congrArg Value.int (pk_sub (a := 2 * m) (b := 32) (by omega))) ?_
  refine vr_istore hE dJ5_newCapacity_16 (hnl _ (by decide)) rfl ?_
  refine vr_iload_n hE dJ5_newCapacity_18 rfl ?_
  refine vr_iload hE dJ5_newCapacity_19 rfl ?_
  refine vr_iload_n hE dJ5_newCapacity_21 rfl ?_
  refine vr_iconst (v := 2) hE dJ5_newCapacity_22 (by decide) ?_
  refine vr_aload_n hE dJ5_newCapacity_23 rfl ?_
  refine bc_get (z := 1) hE kc_J6 (by decide) q241 (Or.inl rfl) h_sb rfl dJ5_newCapacity_24 ?_
  refine vr_ishl (v := 4) hE dJ5_newCapacity_27 (by decide) ?_
  refine vr_iadd hE dJ5_newCapacity_28 ?_
  refine vr_to (w := .int (nI 36)) (congrArg Value.int (by decide)) ?_
  refine bc_callS hE (bk_J16_newLength G _ 32 (2 * m - 32) 36 68 (by split <;> omega) (by decide) (by decide) (by omega) (by decide)) ok_J16_newLength (lw_S q553 q554 q93 q555) rfl rfl (Nat.le_of_ble_eq_true rfl) (by decide) dJ5_newCapacity_29 (fun _ _ _ h => h.elim) ?_
  rintro v_29 M_29 ⟨rfl, hu_29⟩
  obtain rfl := hu_29.symm
  refine vr_istore hE dJ5_newCapacity_32 (hnl _ (by decide)) rfl ?_
  refine vr_iload hE dJ5_newCapacity_34 rfl ?_
  refine vr_ldcI hE q563 dJ5_newCapacity_36 ?_
  refine vr_icmp_ne (tgt := 51) hE dJ5_newCapacity_38 (by decide) (fun c_38 => ?_) (fun c_38 => ?_)
  · skip
    refine vr_iload hE dJ5_newCapacity_51 rfl ?_
    refine vr_aload_n hE dJ5_newCapacity_53 rfl ?_
    refine bc_get (z := 1) hE kc_J6 (by decide) q241 (Or.inl rfl) h_sb rfl dJ5_newCapacity_54 ?_
    refine vr_ishr (v := (nI 34)) hE dJ5_newCapacity_57 (by decide) ?_
    refine vr_ireturn hE hQ rfl dJ5_newCapacity_58 (by decide) ⟨_, ?_, fun H h => hW _ H h⟩
    exact ⟨rfl, rfl⟩
  · exact absurd c_38 (by decide)
theorem ok_J18_copyOf : bi_ok yJ18_copyOf RJ18 2 := by decide +kernel
theorem bk_J18_copyOf {Y : bi_Y} (G : bi_GS Y) (M : va_M) (v N N9 : Nat) (f : Nat → Int32) (h_v : M v = some (eB Y N f)) (hF : sb_Fit f) (hN : N < N9) (hN9 : N9 ≤ 100) : bc_Met Y yJ18_copyOf (ws_ yJ18_copyOf cJ18_copyOf 3 (some (.array .byte))) 1 60 1 100 M [.ref v, .int (nI N9)] (fun v9 M' => ∃ q, v9 = some (.ref q) ∧ M q = none ∧ M' = bu M q (eB Y N9 (va_cpy f (fun _ => 0) 0 0 N))) bi_nx := by
  refine bc_Met.of (own := RJ18) (L0 := [some (.ref v), some (.int (nI N9)), none]) rfl (by decide) G (Nat.le_of_ble_eq_true rfl) rfl (fun X A hE hQ hW hnl hnm => ?_)
  have hnl : ∀ q, q < 3 → q < bi_nL X := fun q h => by rw [hnl]; exact h
  refine vr_iload_n hE dJ18_copyOf_0 rfl ?_
  refine vr_aload_n hE dJ18_copyOf_1 rfl ?_
  refine bc_alen (t0 := 1) hE rfl h_v dJ18_copyOf_2 ?_
  refine vr_icmp_ne (tgt := 14) hE dJ18_copyOf_3 (by decide) (fun c_3 => ?_) (fun c_3 => ?_)
  · skip
    refine vr_iload_n hE dJ18_copyOf_14 rfl ?_
    refine bc_newb (N := N9) hE q254 rfl (by omega) ⟨by omega, by omega⟩ dJ18_copyOf_15 (fun q hn_q => ?_)
    refine bc_nm (fun M_15 e_15 => ?_)
    have nv_q := bc_new_ne h_v hn_q
    have hz_q : M q = none := hn_q
    have hv_15 := (congrFun e_15 v).trans ((bu_ne nv_q).trans h_v)
    have hq_15 := (congrFun e_15 q).trans (bu_self _ _ _)
    refine vr_astore_n hE dJ18_copyOf_17 (hnl _ (by decide)) rfl ?_
    refine vr_aload_n hE dJ18_copyOf_18 rfl ?_
    refine vr_iconst (v := 0) hE dJ18_copyOf_19 (by decide) ?_
    refine vr_aload_n hE dJ18_copyOf_20 rfl ?_
    refine vr_iconst (v := 0) hE dJ18_copyOf_21 (by decide) ?_
    refine vr_aload_n hE dJ18_copyOf_22 rfl ?_
    refine bc_alen (t0 := 1) hE rfl hv_15 dJ18_copyOf_23 ?_
    refine vr_iload_n hE dJ18_copyOf_24 rfl ?_
    refine vr_mmin hE q574 q575 q94 q576 ⟨by decide, Nat.le_of_ble_eq_true rfl, by first | decide | omega, by first | decide | omega⟩ dJ18_copyOf_25 ?_
    refine vr_to (w := .int (nI N)) (congrArg Value.int (show (if nI N9 < nI N then nI N9 else nI N) = _ from if_neg (nI_nlt (by omega) (by omega)))) ?_
    refine bc_copy (t0 := 1) hE rfl rfl hv_15 hq_15 (show (0 : Int32) = nI 0 from rfl) (show (0 : Int32) = nI 0 from rfl) rfl (by omega) (by omega) (by first | decide | omega) (by first | decide | omega) (fun i _ => hF _) q577 q472 q471 q91 ⟨by decide, Nat.le_of_ble_eq_true rfl⟩ dJ18_copyOf_28 (by first | decide | omega) ?_
    refine bc_nm (fun M_28 e_28 => ?_)
    have hv_28 := (congrFun e_28 v).trans ((bu_ne nv_q).trans hv_15)
    have hq_28 := (congrFun e_28 q).trans (bu_self _ _ _)
    refine vr_aload_n hE dJ18_copyOf_31 rfl ?_
    refine vr_areturn hE hQ (Or.inr ⟨_, rfl⟩) (Or.inr ⟨_, rfl⟩) dJ18_copyOf_32 ⟨by omega, by omega⟩ ⟨_, ?_, fun H h => hW _ H h⟩
    subst e_28
    subst e_15
    exact ⟨q, rfl, hn_q, bu_bu _ _ _ _⟩
  · exact absurd ((nI_eq (a := N9) (b := N) (by omega) (by omega)).mp c_3) (by omega)
