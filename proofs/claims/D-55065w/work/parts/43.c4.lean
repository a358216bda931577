/-! ArrayList, its iterator -/
set_option maxRecDepth 100000
abbrev alL (mc : Int32) (ed n : Nat) : List Value := [.int mc, .ref ed, .int (nI n)]
abbrev itL (cu lr mc : Int32) (l : Nat) : List Value := [.int cu, .int lr, .int mc, .ref l]
/-- the shared empty array -/
def isEA (Y : bi_Y) (ea : Nat) : Prop := bi_Z Y "java/util/ArrayList" "DEFAULTCAPACITY_EMPTY_ELEMENTDATA" "[Ljava/lang/Object;" (.ref ea) ∧ bi_arr Y (.object "java/lang/Object") ea 0 (fun _ => .null) Y.2.2.1.heap
theorem isEA.arr {Y : bi_Y} {ea : Nat} (h : isEA Y ea) (P : Heap → Prop) : ∀ H, bi_B Y H → P H → bi_arr Y (.object "java/lang/Object") ea 0 (fun _ => .null) H := fun H hB _ => h.2.kept (hB.2 _ h.2.lt)
theorem c_maxN {a b : Nat} (hb : b < 2 ^ 31) (h : b ≤ a) (ha : a < 2 ^ 31) : c_max (nI a) (nI b) = nI a := by
  unfold c_max
  rw [if_neg]
  exact nI_nlt h ha
theorem c_hn {c n : Nat} (hc : c < 2 ^ 31) (hn : n < 2 ^ 31) : (if nI c = nI n then (0 : Int32) else 1) = if c = n then 0 else 1 := by
  by_cases h : c = n
  · rw [if_pos h, if_pos (by rw [h])]
  · rw [if_neg h, if_neg (fun z => h ((nI_eq hc hn).mp z))]
theorem ok_J0_init : bi_ok yJ0_init RJ0 0 := by decide +kernel
theorem bk_J0_init {Y : bi_Y} (G : bi_GS Y) (M : va_M) (l : Nat) : bc_Met Y yJ0_init (ws_ yJ0_init cJ0_init 1 none) 1 28 0 0 M [.ref l] (fun v M' => v = none ∧ M' = M) bi_nx := by
  refine bc_Met.of (own := RJ0) (L0 := [some (.ref l)]) rfl (by decide) G (Nat.le_of_ble_eq_true rfl) rfl (fun X A hE hQ hW hnl hnm => ?_)
  have hnl : ∀ q, q < 1 → q < bi_nL X := fun q h => by rw [hnl]; exact h
  refine vr_aload_n hE dJ0_init_0 rfl ?_
  refine vr_objInit hE q151 q132 q133 dJ0_init_1 ⟨by decide, Nat.le_of_ble_eq_true rfl⟩ ?_
  refine vr_return hE hQ dJ0_init_4 (by decide) ⟨_, ?_, fun H h => hW _ H h⟩
  exact ⟨rfl, rfl⟩
theorem ok_J1_init : bi_ok yJ1_init RJ1 0 := by decide +kernel
theorem bk_J1_init_J2 {Y : bi_Y} (G : bi_GS Y) (M : va_M) (l : Nat) (h_l : M l = some (.inr (18, [.int 0, .null, .int 0]))) : bc_Met Y yJ1_init (ws_ yJ1_init cJ1_init 1 none) 2 48 0 0 M [.ref l] (fun v M' => v = none ∧ M' = bu M l (.inr (18, [.int 0, .null, .int 0]))) bi_nx := by
  refine bc_Met.of (own := RJ1) (L0 := [some (.ref l)]) rfl (by decide) G (Nat.le_of_ble_eq_true rfl) rfl (fun X A hE hQ hW hnl hnm => ?_)
  have hnl : ∀ q, q < 1 → q < bi_nL X := fun q h => by rw [hnl]; exact h
  refine vr_aload_n hE dJ1_init_0 rfl ?_
  refine bc_callI hE (bk_J0_init G _ l) ok_J0_init rfl q148 q149 q73 q150 rfl rfl (Nat.le_of_ble_eq_true rfl) (by decide) dJ1_init_1 (fun _ _ _ h => h.elim) ?_
  rintro v_1 M_1 ⟨rfl, hu_1⟩
  obtain rfl := hu_1.symm
  refine vr_aload_n hE dJ1_init_4 rfl ?_
  refine vr_iconst (v := 0) hE dJ1_init_5 (by decide) ?_
  refine bc_put (z := 0) hE kc_J2 (by decide) q158 (Or.inl rfl) rfl h_l rfl rfl (Nat.le_of_ble_eq_true rfl) dJ1_init_6 (by first | decide | omega) ?_
  refine bc_nm (fun M_6 e_6 => ?_)
  have hl_6 := (congrFun e_6 l).trans (bu_self _ _ _)
  refine vr_return hE hQ dJ1_init_9 (by decide) ⟨_, ?_, fun H h => hW _ H h⟩
  subst e_6
  exact ⟨rfl, by first | rfl | (simp only [bu_bu] <;> rfl)⟩
theorem ok_J2_init : bi_ok yJ2_init RJ2 0 := by decide +kernel
theorem bk_J2_init {Y : bi_Y} (G : bi_GS Y) (M : va_M) (l : Nat) (h_l : M l = some (.inr (18, [.int 0, .null, .int 0]))) (ea : Nat) (hea : isEA Y ea) : bc_Met Y yJ2_init (ws_ yJ2_init cJ2_init 1 none) 3 68 0 0 M [.ref l] (fun v M' => v = none ∧ M' = bu M l (.inr (18, alL 0 ea 0))) bi_nx := by
  refine bc_Met.of (own := RJ2) (L0 := [some (.ref l)]) rfl (by decide) G (Nat.le_of_ble_eq_true rfl) rfl (fun X A hE hQ hW hnl hnm => ?_)
  have hnl : ∀ q, q < 1 → q < bi_nL X := fun q h => by rw [hnl]; exact h
  refine vr_aload_n hE dJ2_init_0 rfl ?_
  refine bc_callI hE (bk_J1_init_J2 G _ l h_l) ok_J1_init rfl q145 q146 q74 q147 rfl rfl (Nat.le_of_ble_eq_true rfl) (by decide) dJ2_init_1 (fun _ _ _ h => h.elim) ?_
  rintro v_1 M_1 ⟨rfl, e_1⟩
  have hl_1 := (congrFun e_1 l).trans (bu_self _ _ _)
  refine vr_aload_n hE dJ2_init_4 rfl ?_
  refine wr_gets hE hea.1 q152 dJ2_init_5 ?_
  refine bc_put (z := 1) hE kc_J2 (by decide) q154 (Or.inl rfl) rfl hl_1 rfl rfl (Nat.le_of_ble_eq_true rfl) dJ2_init_8 (by first | decide | omega) ?_
  refine bc_nm (fun M_8 e_8 => ?_)
  have hl_8 := (congrFun e_8 l).trans (bu_self _ _ _)
  refine vr_return hE hQ dJ2_init_11 (by decide) ⟨_, ?_, fun H h => hW _ H h⟩
  subst e_8
  subst e_1
  exact ⟨rfl, by first | rfl | (simp only [bu_bu] <;> rfl)⟩
theorem ok_J2_size : bi_ok yJ2_size RJ2 0 := by decide +kernel
theorem bk_J2_size {Y : bi_Y} (G : bi_GS Y) (M : va_M) (l ed n : Nat) (mc : Int32) (h_l : M l = some (.inr (18, alL mc ed n))) : bc_Met Y yJ2_size (ws_ yJ2_size cJ2_size 1 (some .int)) 0 0 0 0 M [.ref l] (fun v M' => v = some (.int (nI n)) ∧ M' = M) bi_nx := by
  refine bc_Met.of (own := RJ2) (L0 := [some (.ref l)]) rfl (by decide) G (Nat.le_of_ble_eq_true rfl) rfl (fun X A hE hQ hW hnl hnm => ?_)
  have hnl : ∀ q, q < 1 → q < bi_nL X := fun q h => by rw [hnl]; exact h
  refine vr_aload_n hE dJ2_size_0 rfl ?_
  refine bc_get (z := 2) hE kc_J2 (by decide) q157 (Or.inl rfl) h_l rfl dJ2_size_1 ?_
  refine vr_ireturn hE hQ rfl dJ2_size_4 (by decide) ⟨_, ?_, fun H h => hW _ H h⟩
  exact ⟨rfl, rfl⟩
theorem ok_J26_checkIndex : bi_ok yJ26_checkIndex RJ26 2 := by decide +kernel
theorem ro_ock {Y : bi_Y} (G : bi_GS Y) (P : Heap → Prop) (i m : Nat) (hi : i < m) (hm : m < 2 ^ 31) : bi_Met Y yJ26_checkIndex (ws_ yJ26_checkIndex cJ26_checkIndex 2 (some .int)) 1 22 0 0 P (fun _ => False) [.int (nI i), .int (nI m)] (fun v (_ : Unit) => v = some (.int (nI i))) bi_nx (fun _ => P) := by
  refine bi_Met.of (own := RJ26) (L0 := [some (.int (nI i)), some (.int (nI m))]) rfl (by decide) G (fun _ h => h.elim) (Nat.le_of_ble_eq_true rfl) rfl (fun X hE hQ hA hnl hnm => ?_)
  have hnl : ∀ q, q < 2 → q < bi_nL X := fun q h => by rw [hnl]; exact h
  refine vr_iload_n hE dJ26_checkIndex_0 rfl ?_
  refine vr_iload_n hE dJ26_checkIndex_1 rfl ?_
  refine vr_null hE dJ26_checkIndex_2 ?_
  refine ro_callS hE (ro_pckN G P i m hi hm) ok_J19_checkIndex (lw_S q903 q904 q96 q905) rfl rfl (Nat.le_of_ble_eq_true rfl) (by decide) dJ26_checkIndex_3 ?_
  rintro v_3 rfl
  refine vr_ireturn hE hQ rfl dJ26_checkIndex_6 (by decide) ⟨(), ?_, fun H h => h⟩
  exact rfl
theorem ok_J2_elementData : bi_ok yJ2_elementData RJ2 1 := by decide +kernel
theorem bk_J2_elementData {Y : bi_Y} (G : bi_GS Y) (M : va_M) (l ed n : Nat) (mc : Int32) (h_l : M l = some (.inr (18, alL mc ed n))) (f : Nat → Option Nat) (h_ed : M ed = some (eQ Y 10 f)) (i x : Nat) (hi : i < 10) (hx : f i = some x) : bc_Met Y yJ2_elementData (ws_ yJ2_elementData cJ2_elementData 2 (some (.object "java/lang/Object"))) 0 0 0 0 M [.ref l, .int (nI i)] (fun v M' => v = some (.ref x) ∧ M' = M) bi_nx := by
  refine bc_Met.of (own := RJ2) (L0 := [some (.ref l), some (.int (nI i))]) rfl (by decide) G (Nat.le_of_ble_eq_true rfl) rfl (fun X A hE hQ hW hnl hnm => ?_)
  have hnl : ∀ q, q < 2 → q < bi_nL X := fun q h => by rw [hnl]; exact h
  refine vr_aload_n hE dJ2_elementData_0 rfl ?_
  refine bc_get (z := 1) hE kc_J2 (by decide) q154 (Or.inl rfl) h_l rfl dJ2_elementData_1 ?_
  refine vr_iload_n hE dJ2_elementData_4 rfl ?_
  refine bc_aald hE h_ed rfl (by omega) (by omega) (by rw [hx] <;> rfl) dJ2_elementData_5 ?_
  refine vr_areturn hE hQ (Or.inl ⟨_, rfl⟩) (Or.inr ⟨_, rfl⟩) dJ2_elementData_6 (by decide) ⟨_, ?_, fun H h => hW _ H h⟩
  exact ⟨rfl, rfl⟩
theorem ok_J2_get : bi_ok yJ2_get RJ2 1 := by decide +kernel
theorem bk_J2_get {Y : bi_Y} (G : bi_GS Y) (M : va_M) (l ed n : Nat) (mc : Int32) (h_l : M l = some (.inr (18, alL mc ed n))) (f : Nat → Option Nat) (h_ed : M ed = some (eQ Y 10 f)) (hn : n ≤ 10) (i x : Nat) (hi : i < n) (hx : f i = some x) : bc_Met Y yJ2_get (ws_ yJ2_get cJ2_get 2 (some (.object "java/lang/Object"))) 2 43 0 0 M [.ref l, .int (nI i)] (fun v M' => v = some (.ref x) ∧ M' = M) bi_nx := by
  refine bc_Met.of (own := RJ2) (L0 := [some (.ref l), some (.int (nI i))]) rfl (by decide) G (Nat.le_of_ble_eq_true rfl) rfl (fun X A hE hQ hW hnl hnm => ?_)
  have hnl : ∀ q, q < 2 → q < bi_nL X := fun q h => by rw [hnl]; exact h
  refine vr_iload_n hE dJ2_get_0 rfl ?_
  refine vr_aload_n hE dJ2_get_1 rfl ?_
  refine bc_get (z := 2) hE kc_J2 (by decide) q157 (Or.inl rfl) h_l rfl dJ2_get_2 ?_
  refine ro_callS hE (ro_ock G _ i n hi (by omega)) ok_J26_checkIndex (lw_S q900 q901 q105 q902) rfl rfl (Nat.le_of_ble_eq_true rfl) (by decide) dJ2_get_5 ?_
  rintro v_5 rfl
  refine vr_pop hE dJ2_get_8 rfl ?_
  refine vr_aload_n hE dJ2_get_9 rfl ?_
  refine vr_iload_n hE dJ2_get_10 rfl ?_
  refine bc_callV hE (bk_J2_elementData G _ l ed n mc h_l f h_ed i x (by omega) hx) kc_J2 h_l ok_J2_elementData (lw_V q906 q907 q908 q75 q909) rfl rfl (Nat.le_of_ble_eq_true rfl) (by decide) dJ2_get_11 (fun _ _ _ h => h.elim) ?_
  rintro v_11 M_11 ⟨rfl, hu_11⟩
  obtain rfl := hu_11.symm
  refine vr_areturn hE hQ (Or.inl ⟨_, rfl⟩) (Or.inr ⟨_, rfl⟩) dJ2_get_14 (by decide) ⟨_, ?_, fun H h => hW _ H h⟩
  exact ⟨rfl, rfl⟩
theorem ok_J2_grow_2 : bi_ok yJ2_grow_2 RJ2 1 := by decide +kernel
theorem bk_J2_grow_2 {Y : bi_Y} (G : bi_GS Y) (M : va_M) (l ea : Nat) (mc : Int32) (h_l : M l = some (.inr (18, alL mc ea 0))) (hea : isEA Y ea) : bc_Met Y yJ2_grow_2 (ws_ yJ2_grow_2 cJ2_grow_2 4 (some (.array (.object "java/lang/Object")))) 1 28 1 10 M [.ref l, .int 1] (fun v M' => ∃ q, v = some (.ref q) ∧ M q = none ∧ q ≠ l ∧ M' = bu (bu M q (eQ Y 10 (fun _ => none))) l (.inr (18, alL mc q 0))) bi_nx := by
  refine bc_Met.of (own := RJ2) (L0 := [some (.ref l), some (.int 1), none, none]) rfl (by decide) G (Nat.le_of_ble_eq_true rfl) rfl (fun X A hE hQ hW hnl hnm => ?_)
  have hnl : ∀ q, q < 4 → q < bi_nL X := fun q h => by rw [hnl]; exact h
  refine vr_aload_n hE dJ2_grow_2_0 rfl ?_
  refine bc_get (z := 1) hE kc_J2 (by decide) q154 (Or.inl rfl) h_l rfl dJ2_grow_2_1 ?_
  refine wr_alen hE (hea.arr _) dJ2_grow_2_4 ?_
  refine vr_istore_n hE dJ2_grow_2_5 (hnl _ (by decide)) rfl ?_
  refine vr_iload_n hE dJ2_grow_2_6 rfl ?_
  refine vr_if_gt (tgt := 20) hE dJ2_grow_2_7 (by decide) (fun c_7 => ?_) (fun c_7 => ?_)
  · exact absurd c_7 (by decide)
  refine vr_aload_n hE dJ2_grow_2_10 rfl ?_
  refine bc_get (z := 1) hE kc_J2 (by decide) q154 (Or.inl rfl) h_l rfl dJ2_grow_2_11 ?_
  refine wr_gets hE hea.1 q152 dJ2_grow_2_14 ?_
  refine vr_acmp_eq (tgt := 45) hE (some ea) (some ea) rfl rfl dJ2_grow_2_17 (by decide) (fun c_17 => ?_) (fun c_17 => ?_)
  rotate_left
  · exact absurd rfl c_17
  refine vr_aload_n hE dJ2_grow_2_45 rfl ?_
  refine vr_bipush (v := 10) hE dJ2_grow_2_46 (by decide) ?_
  refine vr_iload_n hE dJ2_grow_2_48 rfl ?_
  refine vr_mmax hE q1154 q557 q94 q558 ⟨by decide, Nat.le_of_ble_eq_true rfl, by decide, by decide⟩ dJ2_grow_2_49 ?_
  refine vr_to (w := .int (nI 10)) (by decide) ?_
  refine bc_newq (N := 10) hE q1155 q1152 rfl (by decide) (by decide) dJ2_grow_2_52 (fun q hn_q => ?_)
  refine bc_nm (fun M_52 e_52 => ?_)
  have nl_q := bc_new_ne h_l hn_q
  have hz_q : M q = none := hn_q
  have hl_52 := (congrFun e_52 l).trans ((bu_ne nl_q).trans h_l)
  have hq_52 := (congrFun e_52 q).trans (bu_self _ _ _)
  refine vr_dup_x1 hE dJ2_grow_2_55 rfl rfl ?_
  refine bc_put (z := 1) hE kc_J2 (by decide) q154 (Or.inl rfl) rfl hl_52 rfl rfl (Nat.le_of_ble_eq_true rfl) dJ2_grow_2_56 (by first | decide | omega) ?_
  refine bc_nm (fun M_56 e_56 => ?_)
  have hq_56 := (congrFun e_56 q).trans ((bu_ne (Ne.symm nl_q)).trans hq_52)
  have hl_56 := (congrFun e_56 l).trans (bu_self _ _ _)
  refine vr_areturn hE hQ (Or.inr ⟨_, rfl⟩) (Or.inr ⟨_, rfl⟩) dJ2_grow_2_59 (by decide) ⟨_, ?_, fun H h => hW _ H h⟩
  subst e_56
  subst e_52
  exact ⟨q, rfl, hn_q, (bc_new_ne h_l hn_q).symm, rfl⟩
theorem ok_J2_grow : bi_ok yJ2_grow RJ2 0 := by decide +kernel
theorem bk_J2_grow {Y : bi_Y} (G : bi_GS Y) (M : va_M) (l ea : Nat) (mc : Int32) (h_l : M l = some (.inr (18, alL mc ea 0))) (hea : isEA Y ea) : bc_Met Y yJ2_grow (ws_ yJ2_grow cJ2_grow 1 (some (.array (.object "java/lang/Object")))) 2 51 1 10 M [.ref l] (fun v M' => ∃ q, v = some (.ref q) ∧ M q = none ∧ q ≠ l ∧ M' = bu (bu M q (eQ Y 10 (fun _ => none))) l (.inr (18, alL mc q 0))) bi_nx := by
  refine bc_Met.of (own := RJ2) (L0 := [some (.ref l)]) rfl (by decide) G (Nat.le_of_ble_eq_true rfl) rfl (fun X A hE hQ hW hnl hnm => ?_)
  have hnl : ∀ q, q < 1 → q < bi_nL X := fun q h => by rw [hnl]; exact h
  refine vr_aload_n hE dJ2_grow_0 rfl ?_
  refine vr_aload_n hE dJ2_grow_1 rfl ?_
  refine bc_get (z := 2) hE kc_J2 (by decide) q157 (Or.inl rfl) h_l rfl dJ2_grow_2 ?_
  refine vr_iconst (v := 1) hE dJ2_grow_5 (by decide) ?_
  refine vr_iadd hE dJ2_grow_6 ?_
  refine vr_to (w := .int 1) (by decide) ?_
  refine bc_callV hE (bk_J2_grow_2 G _ l ea mc h_l hea) kc_J2 h_l ok_J2_grow_2 (lw_V q1139 q1141 qs13 q75 q1142) rfl rfl (Nat.le_of_ble_eq_true rfl) (by decide) dJ2_grow_7 (fun _ _ _ h => h.elim) ?_
  rintro v_7 M_7 ⟨q, rfl, hn_q, hql, e_7⟩
  refine vr_areturn hE hQ (Or.inr ⟨_, rfl⟩) (Or.inr ⟨_, rfl⟩) dJ2_grow_10 (by decide) ⟨_, ?_, fun H h => hW _ H h⟩
  subst e_7
  exact ⟨q, rfl, hn_q, hql, rfl⟩
theorem ok_J2_add_2 : bi_ok yJ2_add_2 RJ2 3 := by decide +kernel
theorem bk_J2_add2S {Y : bi_Y} (G : bi_GS Y) (M : va_M) (l ed n : Nat) (mc : Int32) (h_l : M l = some (.inr (18, alL mc ed n))) (f : Nat → Option Nat) (h_ed : M ed = some (eQ Y 10 f)) (hn : n < 10) (e ci Nc : Nat) (C : String) (T : u_T) (ty : Nat → FieldType) (vs : List Value) (hC : bc_C ci C T Nc ty) (hca : Cond.castable C "java/lang/Object" ∈ lw_tbl) (h_e : M e = some (.inr (ci, vs))) (hel : e ≠ l) : bc_Met Y yJ2_add_2 (ws_ yJ2_add_2 cJ2_add_2 4 none) 0 0 0 0 M [.ref l, .ref e, .ref ed, .int (nI n)] (fun v M' => v = none ∧ M' = bu (bu M ed (eQ Y 10 (va_up f n (some e)))) l (.inr (18, alL mc ed (n + 1)))) bi_nx := by
  refine bc_Met.of (own := RJ2) (L0 := [some (.ref l), some (.ref e), some (.ref ed), some (.int (nI n))]) rfl (by decide) G (Nat.le_of_ble_eq_true rfl) rfl (fun X A hE hQ hW hnl hnm => ?_)
  have hnl : ∀ q, q < 4 → q < bi_nL X := fun q h => by rw [hnl]; exact h
  refine vr_iload_n hE dJ2_add_2_0 rfl ?_
  refine vr_aload_n hE dJ2_add_2_1 rfl ?_
  refine bc_alen (t0 := 2) hE rfl h_ed dJ2_add_2_2 ?_
  refine vr_icmp_ne (tgt := 11) hE dJ2_add_2_3 (by decide) (fun c_3 => ?_) (fun c_3 => ?_)
  · skip
    refine vr_aload_n hE dJ2_add_2_11 rfl ?_
    refine vr_iload_n hE dJ2_add_2_12 rfl ?_
    refine vr_aload_n hE dJ2_add_2_13 rfl ?_
    refine bc_aast hE hC h_e hca h_ed rfl (by omega) (by omega) dJ2_add_2_14 (by first | decide | omega) ?_
    refine bc_nm (fun M_14 e_14 => ?_)
    have hl_14 := (congrFun e_14 l).trans ((bu_ne (bc_dist h_l h_ed bc_oi)).trans h_l)
    have he_14 := (congrFun e_14 e).trans ((bu_ne (bc_dist h_e h_ed bc_oi)).trans h_e)
    have hed_14 := (congrFun e_14 ed).trans (bu_self _ _ _)
    refine vr_aload_n hE dJ2_add_2_15 rfl ?_
    refine vr_iload_n hE dJ2_add_2_16 rfl ?_
    refine vr_iconst (v := 1) hE dJ2_add_2_17 (by decide) ?_
    refine vr_iadd hE dJ2_add_2_18 ?_
    refine vr_to (w := .int (nI (n + 1))) (congrArg Value.int (nI_1 n)) ?_
    refine bc_put (z := 2) hE kc_J2 (by decide) q157 (Or.inl rfl) rfl hl_14 rfl rfl (Nat.le_of_ble_eq_true rfl) dJ2_add_2_19 (by first | decide | omega) ?_
    refine bc_nm (fun M_19 e_19 => ?_)
    have he_19 := (congrFun e_19 e).trans ((bu_ne hel).trans he_14)
    have hed_19 := (congrFun e_19 ed).trans ((bu_ne (bc_dist hed_14 hl_14 bc_io)).trans hed_14)
    have hl_19 := (congrFun e_19 l).trans (bu_self _ _ _)
    refine vr_return hE hQ dJ2_add_2_22 (by decide) ⟨_, ?_, fun H h => hW _ H h⟩
    subst e_19
    subst e_14
    exact ⟨rfl, rfl⟩
  · exact absurd ((nI_eq (a := n) (b := 10) (by omega) (by decide)).mp c_3) (by omega)
theorem bk_J2_add20 {Y : bi_Y} (G : bi_GS Y) (M : va_M) (l ea : Nat) (mc : Int32) (h_l : M l = some (.inr (18, alL mc ea 0))) (hea : isEA Y ea) (e ci Nc : Nat) (C : String) (T : u_T) (ty : Nat → FieldType) (vs : List Value) (hC : bc_C ci C T Nc ty) (hca : Cond.castable C "java/lang/Object" ∈ lw_tbl) (h_e : M e = some (.inr (ci, vs))) (hel : e ≠ l) : bc_Met Y yJ2_add_2 (ws_ yJ2_add_2 cJ2_add_2 4 none) 3 71 1 10 M [.ref l, .ref e, .ref ea, .int (nI 0)] (fun v M' => ∃ q, v = none ∧ M q = none ∧ q ≠ l ∧ M' = bu (bu M q (eQ Y 10 (va_up (fun _ => none) 0 (some e)))) l (.inr (18, alL mc q 1))) bi_nx := by
  refine bc_Met.of (own := RJ2) (L0 := [some (.ref l), some (.ref e), some (.ref ea), some (.int (nI 0))]) rfl (by decide) G (Nat.le_of_ble_eq_true rfl) rfl (fun X A hE hQ hW hnl hnm => ?_)
  have hnl : ∀ q, q < 4 → q < bi_nL X := fun q h => by rw [hnl]; exact h
  refine vr_iload_n hE dJ2_add_2_0 rfl ?_
  refine vr_aload_n hE dJ2_add_2_1 rfl ?_
  refine wr_alen hE (hea.arr _) dJ2_add_2_2 ?_
  refine vr_icmp_ne (tgt := 11) hE dJ2_add_2_3 (by decide) (fun c_3 => ?_) (fun c_3 => ?_)
  · exact absurd rfl c_3
  refine vr_aload_n hE dJ2_add_2_6 rfl ?_
  refine bc_callV hE (bk_J2_grow G _ l ea mc h_l hea) kc_J2 h_l ok_J2_grow (lw_V q1135 q1137 qs12 q75 q1138) rfl rfl (Nat.le_of_ble_eq_true rfl) (by decide) dJ2_add_2_7 (fun _ _ _ h => h.elim) ?_
  rintro v_7 M_7 ⟨q, rfl, hn_q, hql, e_7⟩
  have hq_7 := (congrFun e_7 q).trans ((bu_ne hql).trans (bu_self _ _ _))
  have hl_7 := (congrFun e_7 l).trans (bu_self _ _ _)
  have neq := bc_new_ne h_e hn_q
  have he_7 := (congrFun e_7 e).trans ((bu_ne hel).trans ((bu_ne neq).trans h_e))
  refine vr_astore_n hE dJ2_add_2_10 (hnl _ (by decide)) rfl ?_
  refine vr_aload_n hE dJ2_add_2_11 rfl ?_
  refine vr_iload_n hE dJ2_add_2_12 rfl ?_
  refine vr_aload_n hE dJ2_add_2_13 rfl ?_
  refine bc_aast hE hC he_7 hca hq_7 rfl (by decide) (by decide) dJ2_add_2_14 (by first | decide | omega) ?_
  refine bc_nm (fun M_14 e_14 => ?_)
  have hl_14 := (congrFun e_14 l).trans ((bu_ne (bc_dist hl_7 hq_7 bc_oi)).trans hl_7)
  have he_14 := (congrFun e_14 e).trans ((bu_ne neq).trans he_7)
  have hq_14 := (congrFun e_14 q).trans (bu_self _ _ _)
  refine vr_aload_n hE dJ2_add_2_15 rfl ?_
  refine vr_iload_n hE dJ2_add_2_16 rfl ?_
  refine vr_iconst (v := 1) hE dJ2_add_2_17 (by decide) ?_
  refine vr_iadd hE dJ2_add_2_18 ?_
  refine bc_put (z := 2) hE kc_J2 (by decide) q157 (Or.inl rfl) rfl hl_14 rfl rfl (Nat.le_of_ble_eq_true rfl) dJ2_add_2_19 (by first | decide | omega) ?_
  refine bc_nm (fun M_19 e_19 => ?_)
  have he_19 := (congrFun e_19 e).trans ((bu_ne hel).trans he_14)
  have hq_19 := (congrFun e_19 q).trans ((bu_ne (bc_dist hq_14 hl_14 bc_io)).trans hq_14)
  have hl_19 := (congrFun e_19 l).trans (bu_self _ _ _)
  refine vr_return hE hQ dJ2_add_2_22 (by decide) ⟨_, ?_, fun H h => hW _ H h⟩
  subst e_19
  subst e_14
  subst e_7
  refine ⟨q, rfl, hn_q, hql, ?_⟩
  rw [bu_comm (M := bu M q (eQ Y 10 (fun _ => none))) _ _ (Ne.symm hql), bu_bu, bu_bu]
  rfl
theorem ok_J2_add : bi_ok yJ2_add RJ2 1 := by decide +kernel
theorem bk_J2_addS {Y : bi_Y} (G : bi_GS Y) (M : va_M) (l ed n : Nat) (mc : Int32) (h_l : M l = some (.inr (18, alL mc ed n))) (f : Nat → Option Nat) (h_ed : M ed = some (eQ Y 10 f)) (hn : n < 10) (e ci Nc : Nat) (C : String) (T : u_T) (ty : Nat → FieldType) (vs : List Value) (hC : bc_C ci C T Nc ty) (hca : Cond.castable C "java/lang/Object" ∈ lw_tbl) (h_e : M e = some (.inr (ci, vs))) (hel : e ≠ l) : bc_Met Y yJ2_add (ws_ yJ2_add cJ2_add 2 (some .boolean)) 4 94 0 0 M [.ref l, .ref e] (fun v M' => v = some (.int 1) ∧ M' = bu (bu M ed (eQ Y 10 (va_up f n (some e)))) l (.inr (18, alL (mc + 1) ed (n + 1)))) bi_nx := by
  refine bc_Met.of (own := RJ2) (L0 := [some (.ref l), some (.ref e)]) rfl (by decide) G (Nat.le_of_ble_eq_true rfl) rfl (fun X A hE hQ hW hnl hnm => ?_)
  have hnl : ∀ q, q < 2 → q < bi_nL X := fun q h => by rw [hnl]; exact h
  refine vr_aload_n hE dJ2_add_0 rfl ?_
  refine vr_dup hE dJ2_add_1 rfl ?_
  refine bc_get (z := 0) hE kc_J2 (by decide) q165 (Or.inr q162) h_l rfl dJ2_add_2 ?_
  refine vr_iconst (v := 1) hE dJ2_add_5 (by decide) ?_
  refine vr_iadd hE dJ2_add_6 ?_
  refine bc_put (z := 0) hE kc_J2 (by decide) q165 (Or.inr q162) rfl h_l rfl rfl (Nat.le_of_ble_eq_true rfl) dJ2_add_7 (by first | decide | omega) ?_
  refine bc_nm (fun M_7 e_7 => ?_)
  have hed_7 := (congrFun e_7 ed).trans ((bu_ne (bc_dist h_ed h_l bc_io)).trans h_ed)
  have he_7 := (congrFun e_7 e).trans ((bu_ne hel).trans h_e)
  have hl_7 := (congrFun e_7 l).trans (bu_self _ _ _)
  refine vr_aload_n hE dJ2_add_10 rfl ?_
  refine vr_aload_n hE dJ2_add_11 rfl ?_
  refine vr_aload_n hE dJ2_add_12 rfl ?_
  refine bc_get (z := 1) hE kc_J2 (by decide) q154 (Or.inl rfl) hl_7 rfl dJ2_add_13 ?_
  refine vr_aload_n hE dJ2_add_16 rfl ?_
  refine bc_get (z := 2) hE kc_J2 (by decide) q157 (Or.inl rfl) hl_7 rfl dJ2_add_17 ?_
  refine bc_callV hE (bk_J2_add2S G _ l ed n _ hl_7 f hed_7 hn e ci Nc C T ty vs hC hca he_7 hel) kc_J2 hl_7 ok_J2_add_2 (lw_V q1131 q1133 qs11 q75 q1134) rfl rfl (Nat.le_of_ble_eq_true rfl) (by decide) dJ2_add_20 (fun _ _ _ h => h.elim) ?_
  rintro v_20 M_20 ⟨rfl, e_20⟩
  refine vr_iconst (v := 1) hE dJ2_add_23 (by decide) ?_
  refine vr_ireturn hE hQ rfl dJ2_add_24 (by decide) ⟨_, ?_, fun H h => hW _ H h⟩
  subst e_20
  subst e_7
  exact ⟨rfl, by rw [bu_comm (M := M) _ _ (bc_dist h_l h_ed bc_oi), bu_bu] <;> rfl⟩
theorem bk_J2_add0 {Y : bi_Y} (G : bi_GS Y) (M : va_M) (l ea : Nat) (mc : Int32) (h_l : M l = some (.inr (18, alL mc ea 0))) (hea : isEA Y ea) (e ci Nc : Nat) (C : String) (T : u_T) (ty : Nat → FieldType) (vs : List Value) (hC : bc_C ci C T Nc ty) (hca : Cond.castable C "java/lang/Object" ∈ lw_tbl) (h_e : M e = some (.inr (ci, vs))) (hel : e ≠ l) : bc_Met Y yJ2_add (ws_ yJ2_add cJ2_add 2 (some .boolean)) 4 94 1 10 M [.ref l, .ref e] (fun v M' => ∃ q, v = some (.int 1) ∧ M q = none ∧ q ≠ l ∧ M' = bu (bu M q (eQ Y 10 (va_up (fun _ => none) 0 (some e)))) l (.inr (18, alL (mc + 1) q 1))) bi_nx := by
  refine bc_Met.of (own := RJ2) (L0 := [some (.ref l), some (.ref e)]) rfl (by decide) G (Nat.le_of_ble_eq_true rfl) rfl (fun X A hE hQ hW hnl hnm => ?_)
  have hnl : ∀ q, q < 2 → q < bi_nL X := fun q h => by rw [hnl]; exact h
  refine vr_aload_n hE dJ2_add_0 rfl ?_
  refine vr_dup hE dJ2_add_1 rfl ?_
  refine bc_get (z := 0) hE kc_J2 (by decide) q165 (Or.inr q162) h_l rfl dJ2_add_2 ?_
  refine vr_iconst (v := 1) hE dJ2_add_5 (by decide) ?_
  refine vr_iadd hE dJ2_add_6 ?_
  refine bc_put (z := 0) hE kc_J2 (by decide) q165 (Or.inr q162) rfl h_l rfl rfl (Nat.le_of_ble_eq_true rfl) dJ2_add_7 (by first | decide | omega) ?_
  refine bc_nm (fun M_7 e_7 => ?_)
  have he_7 := (congrFun e_7 e).trans ((bu_ne hel).trans h_e)
  have hl_7 := (congrFun e_7 l).trans (bu_self _ _ _)
  refine vr_aload_n hE dJ2_add_10 rfl ?_
  refine vr_aload_n hE dJ2_add_11 rfl ?_
  refine vr_aload_n hE dJ2_add_12 rfl ?_
  refine bc_get (z := 1) hE kc_J2 (by decide) q154 (Or.inl rfl) hl_7 rfl dJ2_add_13 ?_
  refine vr_aload_n hE dJ2_add_16 rfl ?_
  refine bc_get (z := 2) hE kc_J2 (by decide) q157 (Or.inl rfl) hl_7 rfl dJ2_add_17 ?_
  refine bc_callV hE (bk_J2_add20 G _ l ea _ hl_7 hea e ci Nc C T ty vs hC hca he_7 hel) kc_J2 hl_7 ok_J2_add_2 (lw_V q1131 q1133 qs11 q75 q1134) rfl rfl (Nat.le_of_ble_eq_true rfl) (by decide) dJ2_add_20 (fun _ _ _ h => h.elim) ?_
  rintro v_20 M_20 ⟨q, rfl, hn_20, hql, e_20⟩
  have hn_q : M q = none := by
    have z := hn_20
    rw [e_7, bu_ne hql] at z
    exact z
  refine vr_iconst (v := 1) hE dJ2_add_23 (by decide) ?_
  refine vr_ireturn hE hQ rfl dJ2_add_24 (by decide) ⟨_, ?_, fun H h => hW _ H h⟩
  subst e_20
  subst e_7
  exact ⟨q, rfl, hn_q, hql, by rw [bu_comm (M := M) _ _ (Ne.symm hql), bu_bu] <;> rfl⟩
theorem ok_J15_init : bi_ok yJ15_init RJ15 1 := by decide +kernel
theorem bk_J15_init {Y : bi_Y} (G : bi_GS Y) (M : va_M) (it l ed n : Nat) (mc : Int32) (h_it : M it = some (.inr (23, [.int 0, .int 0, .int 0, .null]))) (h_l : M l = some (.inr (18, alL mc ed n))) : bc_Met Y yJ15_init (ws_ yJ15_init cJ15_init 2 none) 1 28 0 0 M [.ref it, .ref l] (fun v M' => v = none ∧ M' = bu M it (.inr (23, itL 0 (-1) mc l))) bi_nx := by
  refine bc_Met.of (own := RJ15) (L0 := [some (.ref it), some (.ref l)]) rfl (by decide) G (Nat.le_of_ble_eq_true rfl) rfl (fun X A hE hQ hW hnl hnm => ?_)
  have hnl : ∀ q, q < 2 → q < bi_nL X := fun q h => by rw [hnl]; exact h
  refine vr_aload_n hE dJ15_init_0 rfl ?_
  refine vr_aload_n hE dJ15_init_1 rfl ?_
  refine bc_putF (z := 3) hE kc_J15 (by decide) q494 rfl rfl (hnm _ rfl) h_it rfl rfl (Nat.le_of_ble_eq_true rfl) dJ15_init_2 (by first | decide | omega) ?_
  refine bc_nm (fun M_2 e_2 => ?_)
  have hl_2 := (congrFun e_2 l).trans ((bu_ne (bc_dist h_l h_it (bc_ci (by decide)))).trans h_l)
  have hit_2 := (congrFun e_2 it).trans (bu_self _ _ _)
  refine vr_aload_n hE dJ15_init_5 rfl ?_
  refine vr_objInit hE q488 q132 q133 dJ15_init_6 ⟨by decide, Nat.le_of_ble_eq_true rfl⟩ ?_
  refine vr_aload_n hE dJ15_init_9 rfl ?_
  refine vr_iconst (v := -1) hE dJ15_init_10 (by decide) ?_
  refine bc_put (z := 1) hE kc_J15 (by decide) q492 (Or.inl rfl) rfl hit_2 rfl rfl (Nat.le_of_ble_eq_true rfl) dJ15_init_11 (by first | decide | omega) ?_
  refine bc_nm (fun M_11 e_11 => ?_)
  have hl_11 := (congrFun e_11 l).trans ((bu_ne (bc_dist hl_2 hit_2 (bc_ci (by decide)))).trans hl_2)
  have hit_11 := (congrFun e_11 it).trans (bu_self _ _ _)
  refine vr_aload_n hE dJ15_init_14 rfl ?_
  refine vr_aload_n hE dJ15_init_15 rfl ?_
  refine bc_get (z := 3) hE kc_J15 (by decide) q494 (Or.inl rfl) hit_11 rfl dJ15_init_16 ?_
  refine bc_get (z := 0) hE kc_J2 (by decide) q161 (Or.inr q162) hl_11 rfl dJ15_init_19 ?_
  refine bc_put (z := 2) hE kc_J15 (by decide) q493 (Or.inl rfl) rfl hit_11 rfl rfl (Nat.le_of_ble_eq_true rfl) dJ15_init_22 (by first | decide | omega) ?_
  refine bc_nm (fun M_22 e_22 => ?_)
  have hl_22 := (congrFun e_22 l).trans ((bu_ne (bc_dist hl_11 hit_11 (bc_ci (by decide)))).trans hl_11)
  have hit_22 := (congrFun e_22 it).trans (bu_self _ _ _)
  refine vr_return hE hQ dJ15_init_25 (by decide) ⟨_, ?_, fun H h => hW _ H h⟩
  subst e_22
  subst e_11
  subst e_2
  exact ⟨rfl, by first | rfl | (simp only [bu_bu] <;> rfl)⟩
theorem ok_J2_iterator : bi_ok yJ2_iterator RJ2 0 := by decide +kernel
theorem bk_J2_iterator {Y : bi_Y} (G : bi_GS Y) (M : va_M) (l ed n : Nat) (mc : Int32) (h_l : M l = some (.inr (18, alL mc ed n))) : bc_Met Y yJ2_iterator (ws_ yJ2_iterator cJ2_iterator 1 (some (.object "java/util/Iterator"))) 2 49 1 4 M [.ref l] (fun v M' => ∃ q, v = some (.ref q) ∧ M q = none ∧ M' = bu M q (.inr (23, itL 0 (-1) mc l))) bi_nx := by
  refine bc_Met.of (own := RJ2) (L0 := [some (.ref l)]) rfl (by decide) G (Nat.le_of_ble_eq_true rfl) rfl (fun X A hE hQ hW hnl hnm => ?_)
  have hnl : ∀ q, q < 1 → q < bi_nL X := fun q h => by rw [hnl]; exact h
  refine bc_new (fs := [.int 0, .int 0, .int 0, .null]) hE kc_J15 q483 q484 q92 df_J15 (by decide) (by decide) dJ2_iterator_0 (fun q hn_q => ?_)
  refine bc_nm (fun M_0 e_0 => ?_)
  have nl_q := bc_new_ne h_l hn_q
  have hz_q : M q = none := hn_q
  have hl_0 := (congrFun e_0 l).trans ((bu_ne nl_q).trans h_l)
  have hq_0 := (congrFun e_0 q).trans (bu_self _ _ _)
  refine vr_dup hE dJ2_iterator_3 rfl ?_
  refine vr_aload_n hE dJ2_iterator_4 rfl ?_
  refine bc_callI hE (bk_J15_init G _ q l ed n mc hq_0 hl_0) ok_J15_init rfl q485 q486 q92 q487 rfl rfl (Nat.le_of_ble_eq_true rfl) (by decide) dJ2_iterator_5 (fun _ _ _ h => h.elim) ?_
  rintro v_5 M_5 ⟨rfl, e_5⟩
  have hl_5 := (congrFun e_5 l).trans ((bu_ne nl_q).trans hl_0)
  have hq_5 := (congrFun e_5 q).trans (bu_self _ _ _)
  refine vr_areturn hE hQ (Or.inl ⟨_, rfl⟩) (Or.inr ⟨_, rfl⟩) dJ2_iterator_8 (by decide) ⟨_, ?_, fun H h => hW _ H h⟩
  subst e_5
  subst e_0
  exact ⟨q, rfl, hn_q, by simp only [bu_bu] <;> rfl⟩
theorem ok_J15_hasNext : bi_ok yJ15_hasNext RJ15 0 := by decide +kernel
theorem bk_J15_hasNext {Y : bi_Y} (G : bi_GS Y) (M : va_M) (it l ed n c : Nat) (lr mc : Int32) (h_it : M it = some (.inr (23, itL (nI c) lr mc l))) (h_l : M l = some (.inr (18, alL mc ed n))) (hc : c ≤ n) (hn : n ≤ 10) : bc_Met Y yJ15_hasNext (ws_ yJ15_hasNext cJ15_hasNext 1 (some .boolean)) 0 0 0 0 M [.ref it] (fun v M' => v = some (.int (if c = n then 0 else 1)) ∧ M' = M) bi_nx := by
  refine bc_Met.of (own := RJ15) (L0 := [some (.ref it)]) rfl (by decide) G (Nat.le_of_ble_eq_true rfl) rfl (fun X A hE hQ hW hnl hnm => ?_)
  have hnl : ∀ q, q < 1 → q < bi_nL X := fun q h => by rw [hnl]; exact h
  refine vr_aload_n hE dJ15_hasNext_0 rfl ?_
  refine bc_get (z := 0) hE kc_J15 (by decide) q491 (Or.inl rfl) h_it rfl dJ15_hasNext_1 ?_
  refine vr_aload_n hE dJ15_hasNext_4 rfl ?_
  refine bc_get (z := 3) hE kc_J15 (by decide) q494 (Or.inl rfl) h_it rfl dJ15_hasNext_5 ?_
  refine bc_getN (z := 2) hE kc_J2 (by decide) q156 (Or.inl rfl) h_l rfl dJ15_hasNext_8 ?_
  apply vt_icmp_eq (tgt := 18) (J := 19) hE dJ15_hasNext_11 (by decide)
  · intro c_11 kt1
    refine vr_iconst (v := 0) hE dJ15_hasNext_18 (by decide) ?_
    exact kt1
  · intro c_11 kf1
    refine vr_iconst (v := 1) hE dJ15_hasNext_14 (by decide) ?_
    refine vr_goto (tgt := 19) hE dJ15_hasNext_15 (by decide) ?_
    exact kf1
  refine vr_to (w := .int (if c = n then 0 else 1)) (congrArg Value.int (c_hn (by omega) (by omega))) ?_
  refine vr_ireturn hE hQ (by split <;> rfl) dJ15_hasNext_19 (by decide) ⟨_, ?_, fun H h => hW _ H h⟩
  exact ⟨rfl, rfl⟩
theorem ok_J15_checkForComodification : bi_ok yJ15_checkForComodification RJ15 0 := by decide +kernel
theorem bk_J15_checkForComodification {Y : bi_Y} (G : bi_GS Y) (M : va_M) (it l ed n c : Nat) (lr mc : Int32) (h_it : M it = some (.inr (23, itL (nI c) lr mc l))) (h_l : M l = some (.inr (18, alL mc ed n))) : bc_Met Y yJ15_checkForComodification (ws_ yJ15_checkForComodification cJ15_checkForComodification 1 none) 0 0 0 0 M [.ref it] (fun v M' => v = none ∧ M' = M) bi_nx := by
  refine bc_Met.of (own := RJ15) (L0 := [some (.ref it)]) rfl (by decide) G (Nat.le_of_ble_eq_true rfl) rfl (fun X A hE hQ hW hnl hnm => ?_)
  have hnl : ∀ q, q < 1 → q < bi_nL X := fun q h => by rw [hnl]; exact h
  refine vr_aload_n hE dJ15_checkForComodification_0 rfl ?_
  refine bc_get (z := 3) hE kc_J15 (by decide) q494 (Or.inl rfl) h_it rfl dJ15_checkForComodification_1 ?_
  refine bc_get (z := 0) hE kc_J2 (by decide) q161 (Or.inr q162) h_l rfl dJ15_checkForComodification_4 ?_
  refine vr_aload_n hE dJ15_checkForComodification_7 rfl ?_
  refine bc_get (z := 2) hE kc_J15 (by decide) q493 (Or.inl rfl) h_it rfl dJ15_checkForComodification_8 ?_
  refine vr_icmp_eq (tgt := 22) hE dJ15_checkForComodification_11 (by decide) (fun c_11 => ?_) (fun c_11 => ?_)
  · skip
    refine vr_return hE hQ dJ15_checkForComodification_22 (by decide) ⟨_, ?_, fun H h => hW _ H h⟩
    exact ⟨rfl, rfl⟩
  · exact absurd rfl c_11
theorem ok_J15_next : bi_ok yJ15_next RJ15 0 := by decide +kernel
theorem bk_J15_next {Y : bi_Y} (G : bi_GS Y) (M : va_M) (it l ed n c : Nat) (lr mc : Int32) (h_it : M it = some (.inr (23, itL (nI c) lr mc l))) (h_l : M l = some (.inr (18, alL mc ed n))) (hc : c < n) (hn : n ≤ 10) (f : Nat → Option Nat) (h_ed : M ed = some (eQ Y 10 f)) (x : Nat) (hx : f c = some x) : bc_Met Y yJ15_next (ws_ yJ15_next cJ15_next 3 (some (.object "java/lang/Object"))) 1 20 0 0 M [.ref it] (fun v M' => v = some (.ref x) ∧ M' = bu M it (.inr (23, itL (nI (c + 1)) (nI c) mc l))) bi_nx := by
  refine bc_Met.of (own := RJ15) (L0 := [some (.ref it), none, none]) rfl (by decide) G (Nat.le_of_ble_eq_true rfl) rfl (fun X A hE hQ hW hnl hnm => ?_)
  have hnl : ∀ q, q < 3 → q < bi_nL X := fun q h => by rw [hnl]; exact h
  refine vr_aload_n hE dJ15_next_0 rfl ?_
  refine bc_callV hE (bk_J15_checkForComodification G _ it l ed n c lr mc h_it h_l) kc_J15 h_it ok_J15_checkForComodification (lw_V q1054 q1055 q1056 q92 q1059) rfl rfl (Nat.le_of_ble_eq_true rfl) (by decide) dJ15_next_1 (fun _ _ _ h => h.elim) ?_
  rintro v_1 M_1 ⟨rfl, hu_1⟩
  obtain rfl := hu_1.symm
  refine vr_aload_n hE dJ15_next_4 rfl ?_
  refine bc_get (z := 0) hE kc_J15 (by decide) q491 (Or.inl rfl) h_it rfl dJ15_next_5 ?_
  refine vr_istore_n hE dJ15_next_8 (hnl _ (by decide)) rfl ?_
  refine vr_iload_n hE dJ15_next_9 rfl ?_
  refine vr_aload_n hE dJ15_next_10 rfl ?_
  refine bc_get (z := 3) hE kc_J15 (by decide) q494 (Or.inl rfl) h_it rfl dJ15_next_11 ?_
  refine bc_getN (z := 2) hE kc_J2 (by decide) q156 (Or.inl rfl) h_l rfl dJ15_next_14 ?_
  refine vr_icmp_lt (tgt := 28) hE dJ15_next_17 (by decide) (fun c_17 => ?_) (fun c_17 => ?_)
  · skip
    refine vr_aload_n hE dJ15_next_28 rfl ?_
    refine bc_get (z := 3) hE kc_J15 (by decide) q494 (Or.inl rfl) h_it rfl dJ15_next_29 ?_
    refine bc_get (z := 1) hE kc_J2 (by decide) q155 (Or.inl rfl) h_l rfl dJ15_next_32 ?_
    refine vr_astore_n hE dJ15_next_35 (hnl _ (by decide)) rfl ?_
    refine vr_iload_n hE dJ15_next_36 rfl ?_
    refine vr_aload_n hE dJ15_next_37 rfl ?_
    refine bc_alen (t0 := 2) hE rfl h_ed dJ15_next_38 ?_
    refine vr_icmp_lt (tgt := 50) hE dJ15_next_39 (by decide) (fun c_39 => ?_) (fun c_39 => ?_)
    · skip
      refine vr_aload_n hE dJ15_next_50 rfl ?_
      refine vr_iload_n hE dJ15_next_51 rfl ?_
      refine vr_iconst (v := 1) hE dJ15_next_52 (by decide) ?_
      refine vr_iadd hE dJ15_next_53 ?_
      refine vr_to (w := .int (nI (c + 1))) (congrArg Value.int (nI_1 c)) ?_
      refine bc_put (z := 0) hE kc_J15 (by decide) q491 (Or.inl rfl) rfl h_it rfl rfl (Nat.le_of_ble_eq_true rfl) dJ15_next_54 (by first | decide | omega) ?_
      refine bc_nm (fun M_54 e_54 => ?_)
      have hl_54 := (congrFun e_54 l).trans ((bu_ne (bc_dist h_l h_it (bc_ci (by decide)))).trans h_l)
      have hed_54 := (congrFun e_54 ed).trans ((bu_ne (bc_dist h_ed h_it bc_io)).trans h_ed)
      have hit_54 := (congrFun e_54 it).trans (bu_self _ _ _)
      refine vr_aload_n hE dJ15_next_57 rfl ?_
      refine vr_aload_n hE dJ15_next_58 rfl ?_
      refine vr_iload_n hE dJ15_next_59 rfl ?_
      refine vr_dup_x1 hE dJ15_next_60 rfl rfl ?_
      refine bc_put (z := 1) hE kc_J15 (by decide) q492 (Or.inl rfl) rfl hit_54 rfl rfl (Nat.le_of_ble_eq_true rfl) dJ15_next_61 (by first | decide | omega) ?_
      refine bc_nm (fun M_61 e_61 => ?_)
      have hl_61 := (congrFun e_61 l).trans ((bu_ne (bc_dist hl_54 hit_54 (bc_ci (by decide)))).trans hl_54)
      have hed_61 := (congrFun e_61 ed).trans ((bu_ne (bc_dist hed_54 hit_54 bc_io)).trans hed_54)
      have hit_61 := (congrFun e_61 it).trans (bu_self _ _ _)
      refine bc_aald hE hed_61 rfl (by omega) (by omega) (by rw [hx] <;> rfl) dJ15_next_64 ?_
      refine vr_areturn hE hQ (Or.inl ⟨_, rfl⟩) (Or.inr ⟨_, rfl⟩) dJ15_next_65 (by decide) ⟨_, ?_, fun H h => hW _ H h⟩
      subst e_61
      subst e_54
      exact ⟨rfl, by first | rfl | (simp only [bu_bu] <;> rfl)⟩
    · exact absurd (show nI c < nI 10 from nI_lt (by omega) (by decide)) c_39
  · exact absurd (show nI c < nI n from nI_lt hc (by omega)) c_17
