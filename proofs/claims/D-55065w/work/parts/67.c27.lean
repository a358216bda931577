/-! StringBuilder -/
set_option maxRecDepth 100000
theorem nI_bv (n : Nat) : (nI n).toBitVec = BitVec.ofNat 32 n := rfl
theorem nI_shr8 (c : Nat) (h : c < 65536) : nI c >>> ((8 : Int32) &&& 31) = nI (c / 256) := by
  rw [show ((8 : Int32) &&& 31) = 8 by decide]
  apply Int32.toBitVec_inj.mp
  rw [Int32.toBitVec_shiftRight, nI_bv, nI_bv]
  rw [show ((8 : Int32).toBitVec.smod 32) = 8#32 by decide]
  apply BitVec.eq_of_toNat_eq
  rw [BitVec.sshiftRight_eq', BitVec.toNat_sshiftRight_of_msb_false]
  · simp [Nat.shiftRight_eq_div_pow]
    omega
  · rw [BitVec.msb_eq_false_iff_two_mul_lt]
    simp
    omega
theorem sb_mod (c : Nat) : sb_b c = sb_b (c % 256) := by
  unfold sb_b
  have : (nI c).toInt8 = (nI (c % 256)).toInt8 := by
    apply Int8.toBitVec_inj.mp
    rw [Int32.toBitVec_toInt8, Int32.toBitVec_toInt8, nI_bv, nI_bv]
    apply BitVec.eq_of_toNat_eq
    rw [BitVec.signExtend_eq_setWidth_of_le _ (by decide), BitVec.signExtend_eq_setWidth_of_le _ (by decide)]
    simp
  rw [this]
theorem sb_or (a b : Nat) (ha : a < 256) (hb : b < 256) : (nI a <<< ((0 : Int32) &&& 31)) ||| (nI b <<< ((8 : Int32) &&& 31)) = nI (a + 256 * b) := by
  rw [show ((8 : Int32) &&& 31) = 8 by decide, show ((0 : Int32) &&& 31) = 0 by decide]
  apply Int32.toBitVec_inj.mp
  rw [Int32.toBitVec_or, Int32.toBitVec_shiftLeft, Int32.toBitVec_shiftLeft, nI_bv, nI_bv, nI_bv]
  rw [show ((8 : Int32).toBitVec.smod 32) = 8#32 by decide, show ((0 : Int32).toBitVec.smod 32) = 0#32 by decide]
  apply BitVec.eq_of_toNat_eq
  rw [BitVec.toNat_or]
  simp
  rw [Nat.mod_eq_of_lt (show b < 4294967296 by omega), Nat.shiftLeft_eq, Nat.mod_eq_of_lt (show a < 4294967296 by omega), Nat.mod_eq_of_lt (show b * 2 ^ 8 < 4294967296 by omega), Nat.mod_eq_of_lt (show a + 256 * b < 4294967296 by omega)]
  have := Nat.shiftLeft_add_eq_or_of_lt (show a < 2^8 by omega) b
  rw [Nat.shiftLeft_eq] at this
  rw [Nat.or_comm, ← this]
  omega
theorem i2c_n {t : Nat} (h : t < 65536) : ((nI t).toUInt32 % 65536).toInt32 = nI t := by
  apply Int32.toBitVec_inj.mp
  apply BitVec.eq_of_toNat_eq
  rw [nI_bv]
  simp [UInt32.toBitVec_mod, nI_bv]
  omega

abbrev sbL (v : Nat) (cd mb ct : Int32) : List Value := [.ref v, .int cd, .int mb, .int ct]
theorem sb_and9 (c : Nat) : sb_b c &&& 255 = nI (c % 256) := by
  rw [sb_mod]
  exact sb_and _ (by omega)
theorem shl1 : ∀ c, c < 128 → nI c <<< ((1 : Int32) &&& 31) = nI (2 * c) := by decide +kernel
theorem shr1 : ∀ c, c < 128 → nI (2 * c) >>> ((1 : Int32) &&& 31) = nI c := by decide +kernel
section LSU
variable {own : String} {idx : Nat} {y : MethodName}
theorem lw_SUP {b : ByteArray} {L9 : Nat} {r : Option FieldType} (q1 : Cond.methodLink own idx y ∈ lw_all) (q2 : Cond.sameMethod y.cls y.cls y.name y.desc ∈ lw_all) (q3 : Cond.superclass own y.cls ∈ lw_all) (q4 : Cond.instanceMethod y ∈ lw_all) (q5 : Cond.initialized y.cls ∈ lw_all) (q6 : Cond.code y b L9 r ∈ lw_all) : GoodIn lw_all (va_wsSU own idx y (ws_ y b L9 r)) := by
  refine lw_app ?_ (lw_meth q6)
  intro w hw
  simp only [List.mem_cons, List.not_mem_nil, or_false] at hw
  rcases hw with e | e | e | e | e
  · rw [e]; exact q1
  · rw [e]; exact q2
  · rw [e]; exact q3
  · rw [e]; exact q4
  · rw [e]; exact q5
end LSU
theorem ok_J5_length : bi_ok yJ5_length RJ5 0 := by decide +kernel
theorem bk_J5_length {Y : bi_Y} (G : bi_GS Y) (M : va_M) (sb v : Nat) (cd mb ct : Int32) (h_sb : M sb = some (.inr (21, sbL v cd mb ct))) : bc_Met Y yJ5_length (ws_ yJ5_length cJ5_length 1 (some .int)) 0 0 0 0 M [.ref sb] (fun v9 M' => v9 = some (.int ct) ∧ M' = M) bi_nx := by
  refine bc_Met.of (own := RJ5) (L0 := [some (.ref sb)]) rfl (by decide) G (Nat.le_of_ble_eq_true rfl) rfl (fun X A hE hQ hW hnl hnm => ?_)
  have hnl : ∀ q, q < 1 → q < bi_nL X := fun q h => by rw [hnl]; exact h
  refine vr_aload_n hE dJ5_length_0 rfl ?_
  refine bc_get (z := 3) hE kc_J6 (by decide) q244 (Or.inl rfl) h_sb rfl dJ5_length_1 ?_
  refine vr_ireturn hE hQ rfl dJ5_length_4 (by decide) ⟨_, ?_, fun H h => hW _ H h⟩
  exact ⟨rfl, rfl⟩
theorem ok_J6_length : bi_ok yJ6_length RJ6 0 := by decide +kernel
theorem bk_J6_length {Y : bi_Y} (G : bi_GS Y) (M : va_M) (sb v : Nat) (cd mb ct : Int32) (h_sb : M sb = some (.inr (21, sbL v cd mb ct))) : bc_Met Y yJ6_length (ws_ yJ6_length cJ6_length 1 (some .int)) 1 20 0 0 M [.ref sb] (fun v9 M' => v9 = some (.int ct) ∧ M' = M) bi_nx := by
  refine bc_Met.of (own := RJ6) (L0 := [some (.ref sb)]) rfl (by decide) G (Nat.le_of_ble_eq_true rfl) rfl (fun X A hE hQ hW hnl hnm => ?_)
  have hnl : ∀ q, q < 1 → q < bi_nL X := fun q h => by rw [hnl]; exact h
  refine vr_aload_n hE dJ6_length_0 rfl ?_
  refine bc_callSU (ar := 0) hE (bk_J5_length G _ sb v cd mb ct h_sb) kc_J6 h_sb ⟨by decide, by decide +kernel⟩ (lw_SUP q701 q697 q253 q696 q78 q702) rfl rfl (Nat.le_of_ble_eq_true rfl) (by decide) dJ6_length_1 (fun _ _ _ h => h.elim) ?_
  rintro v_1 M_1 ⟨rfl, hu_1⟩
  obtain rfl := hu_1.symm
  refine vr_ireturn hE hQ rfl dJ6_length_4 (by decide) ⟨_, ?_, fun H h => hW _ H h⟩
  exact ⟨rfl, rfl⟩
theorem ok_J5_isLatin1 : bi_ok yJ5_isLatin1 RJ5 0 := by decide +kernel
theorem bk_J5_isLatin1L {Y : bi_Y} (G : bi_GS Y) (M : va_M) (sb v : Nat) (mb ct : Int32) (h_sb : M sb = some (.inr (21, sbL v 0 mb ct))) : bc_Met Y yJ5_isLatin1 (ws_ yJ5_isLatin1 cJ5_isLatin1 1 (some .boolean)) 0 0 0 0 M [.ref sb] (fun v9 M' => v9 = some (.int 1) ∧ M' = M) bi_nx := by
  refine bc_Met.of (own := RJ5) (L0 := [some (.ref sb)]) rfl (by decide) G (Nat.le_of_ble_eq_true rfl) rfl (fun X A hE hQ hW hnl hnm => ?_)
  have hnl : ∀ q, q < 1 → q < bi_nL X := fun q h => by rw [hnl]; exact h
  refine wr_gets hE (zs_CS G) q231 dJ5_isLatin1_0 ?_
  refine vr_if_eq (tgt := 17) hE dJ5_isLatin1_3 (by decide) (fun c_3 => ?_) (fun c_3 => ?_)
  · exact absurd c_3 (by decide)
  refine vr_aload_n hE dJ5_isLatin1_6 rfl ?_
  refine bc_get (z := 1) hE kc_J6 (by decide) q241 (Or.inl rfl) h_sb rfl dJ5_isLatin1_7 ?_
  refine vr_if_ne (tgt := 17) hE dJ5_isLatin1_10 (by decide) (fun c_10 => ?_) (fun c_10 => ?_)
  · exact absurd rfl c_10
  refine vr_iconst (v := 1) hE dJ5_isLatin1_13 (by decide) ?_
  refine vr_goto (tgt := 18) hE dJ5_isLatin1_14 (by decide) ?_
  refine vr_ireturn hE hQ rfl dJ5_isLatin1_18 (by decide) ⟨_, ?_, fun H h => hW _ H h⟩
  exact ⟨rfl, rfl⟩
theorem bk_J5_isLatin1U {Y : bi_Y} (G : bi_GS Y) (M : va_M) (sb v : Nat) (mb ct : Int32) (h_sb : M sb = some (.inr (21, sbL v 1 mb ct))) : bc_Met Y yJ5_isLatin1 (ws_ yJ5_isLatin1 cJ5_isLatin1 1 (some .boolean)) 0 0 0 0 M [.ref sb] (fun v9 M' => v9 = some (.int 0) ∧ M' = M) bi_nx := by
  refine bc_Met.of (own := RJ5) (L0 := [some (.ref sb)]) rfl (by decide) G (Nat.le_of_ble_eq_true rfl) rfl (fun X A hE hQ hW hnl hnm => ?_)
  have hnl : ∀ q, q < 1 → q < bi_nL X := fun q h => by rw [hnl]; exact h
  refine wr_gets hE (zs_CS G) q231 dJ5_isLatin1_0 ?_
  refine vr_if_eq (tgt := 17) hE dJ5_isLatin1_3 (by decide) (fun c_3 => ?_) (fun c_3 => ?_)
  · exact absurd c_3 (by decide)
  refine vr_aload_n hE dJ5_isLatin1_6 rfl ?_
  refine bc_get (z := 1) hE kc_J6 (by decide) q241 (Or.inl rfl) h_sb rfl dJ5_isLatin1_7 ?_
  refine vr_if_ne (tgt := 17) hE dJ5_isLatin1_10 (by decide) (fun c_10 => ?_) (fun c_10 => ?_)
  · skip
    refine vr_iconst (v := 0) hE dJ5_isLatin1_17 (by decide) ?_
    refine vr_ireturn hE hQ rfl dJ5_isLatin1_18 (by decide) ⟨_, ?_, fun H h => hW _ H h⟩
    exact ⟨rfl, rfl⟩
  · exact absurd c_10 (by decide)
theorem ok_J8_length : bi_ok yJ8_length RJ8 1 := by decide +kernel
theorem bk_J8_length {Y : bi_Y} (G : bi_GS Y) (M : va_M) (v c : Nat) (f : Nat → Int32) (h_v : M v = some (eB Y (2 * c) f)) (hc : c < 128) : bc_Met Y yJ8_length (ws_ yJ8_length cJ8_length 1 (some .int)) 0 0 0 0 M [.ref v] (fun v9 M' => v9 = some (.int (nI c)) ∧ M' = M) bi_nx := by
  refine bc_Met.of (own := RJ8) (L0 := [some (.ref v)]) rfl (by decide) G (Nat.le_of_ble_eq_true rfl) rfl (fun X A hE hQ hW hnl hnm => ?_)
  have hnl : ∀ q, q < 1 → q < bi_nL X := fun q h => by rw [hnl]; exact h
  refine vr_aload_n hE dJ8_length_0 rfl ?_
  refine bc_alen (t0 := 1) hE rfl h_v dJ8_length_1 ?_
  refine vr_iconst (v := 1) hE dJ8_length_2 (by decide) ?_
  refine vr_ishr (v := (nI c)) hE dJ8_length_3 (shr1 c hc) ?_
  refine vr_ireturn hE hQ rfl dJ8_length_4 (by decide) ⟨_, ?_, fun H h => hW _ H h⟩
  exact ⟨rfl, rfl⟩
theorem ok_J8_getChar : bi_ok yJ8_getChar RJ8 2 := by decide +kernel
theorem bk_J8_getChar {Y : bi_Y} (G : bi_GS Y) (M : va_M) (v c i t : Nat) (f : Nat → Int32) (h_v : M v = some (eB Y (2 * c) f)) (hc : c < 100) (hi : i < c) (ht : t < 65536) (hf0 : f (2 * i) = sb_b t) (hf1 : f (2 * i + 1) = sb_b (t / 256)) : bc_Met Y yJ8_getChar (ws_ yJ8_getChar cJ8_getChar 2 (some .char)) 0 0 0 0 M [.ref v, .int (nI i)] (fun v9 M' => v9 = some (.int (nI t)) ∧ M' = M) bi_nx := by
  refine bc_Met.of (own := RJ8) (L0 := [some (.ref v), some (.int (nI i))]) rfl (by decide) G (Nat.le_of_ble_eq_true rfl) rfl (fun X A hE hQ hW hnl hnm => ?_)
  have hnl : ∀ q, q < 2 → q < bi_nL X := fun q h => by rw [hnl]; exact h
  refine wr_gets hE (zs_AS G) q603 dJ8_getChar_0 ?_
  refine vr_if_ne (tgt := 28) hE dJ8_getChar_3 (by decide) (fun c_3 => ?_) (fun c_3 => ?_)
  · skip
    refine vr_iload_n hE dJ8_getChar_28 rfl ?_
    refine vr_iconst (v := 1) hE dJ8_getChar_29 (by decide) ?_
    refine vr_ishl (v := (nI (2 * i))) hE dJ8_getChar_30 (shl1 i (by omega)) ?_
    refine vr_istore_n hE dJ8_getChar_31 (hnl _ (by decide)) rfl ?_
    refine vr_aload_n hE dJ8_getChar_32 rfl ?_
    refine vr_iload_n hE dJ8_getChar_33 rfl ?_
    refine vr_iinc hE dJ8_getChar_34 rfl (iinc_1 _) (hnl _ (by decide)) rfl ?_
    refine bc_bald hE h_v rfl (by omega) (by omega) dJ8_getChar_37 ?_
    refine vr_sipush (v := 255) hE dJ8_getChar_38 (by decide) ?_
    refine vr_iand hE dJ8_getChar_41 ?_
    refine vr_to (w := .int (nI (t % 256))) (congrArg Value.int (by rw [hf0]; exact sb_and9 t)) ?_
    refine wr_gets hE (zs_HI G) q605 dJ8_getChar_42 ?_
    refine vr_ishl (v := (nI (t % 256))) hE dJ8_getChar_45 (sb_shl0 _) ?_
    refine vr_aload_n hE dJ8_getChar_46 rfl ?_
    refine vr_iload_n hE dJ8_getChar_47 rfl ?_
    refine bc_bald hE h_v rfl (by omega) (by omega) dJ8_getChar_48 ?_
    refine vr_sipush (v := 255) hE dJ8_getChar_49 (by decide) ?_
    refine vr_iand hE dJ8_getChar_52 ?_
    refine vr_to (w := .int (nI (t / 256))) (congrArg Value.int (by rw [hf1, sb_and9, Nat.mod_eq_of_lt (by omega)])) ?_
    refine wr_gets hE (zs_LO G) q607 dJ8_getChar_53 ?_
    refine vr_ishl (v := (nI (t / 256) <<< ((8 : Int32) &&& 31))) hE dJ8_getChar_56 rfl ?_
    refine vr_ior hE dJ8_getChar_57 ?_
    refine vr_to (w := .int (nI t)) (congrArg Value.int (by have z := sb_or (t % 256) (t / 256) (by omega) (by omega); rw [sb_shl0] at z; rw [z]; congr 1; omega)) ?_
    refine vr_i2c (v := nI t) hE dJ8_getChar_58 (i2c_n ht) ?_
    refine vr_ireturn hE hQ (nI_chn ht) dJ8_getChar_59 (by decide) ⟨_, ?_, fun H h => hW _ H h⟩
    exact ⟨rfl, rfl⟩
  · exact absurd c_3 (by decide)
theorem ok_J5_charAt : bi_ok yJ5_charAt RJ5 1 := by decide +kernel
theorem bk_J5_charAtL {Y : bi_Y} (G : bi_GS Y) (M : va_M) (sb v c e i t : Nat) (mb : Int32) (f : Nat → Int32) (h_sb : M sb = some (.inr (21, sbL v 0 mb (nI e)))) (h_v : M v = some (eB Y (c) f)) (hc : c < 100) (he : e ≤ c) (hi : i < e) (ht : t < 256) (hf0 : f i = sb_b t) : bc_Met Y yJ5_charAt (ws_ yJ5_charAt cJ5_charAt 5 (some .char)) 2 43 0 0 M [.ref sb, .int (nI i)] (fun v9 M' => v9 = some (.int (nI t)) ∧ M' = M) bi_nx := by
  refine bc_Met.of (own := RJ5) (L0 := [some (.ref sb), some (.int (nI i)), none, none, none]) rfl (by decide) G (Nat.le_of_ble_eq_true rfl) rfl (fun X A hE hQ hW hnl hnm => ?_)
  have hnl : ∀ q, q < 5 → q < bi_nL X := fun q h => by rw [hnl]; exact h
  refine vr_aload_n hE dJ5_charAt_0 rfl ?_
  refine bc_get (z := 1) hE kc_J6 (by decide) q241 (Or.inl rfl) h_sb rfl dJ5_charAt_1 ?_
  refine vr_istore_n hE dJ5_charAt_4 (hnl _ (by decide)) rfl ?_
  refine vr_aload_n hE dJ5_charAt_5 rfl ?_
  refine bc_get (z := 0) hE kc_J6 (by decide) q240 (Or.inl rfl) h_sb rfl dJ5_charAt_6 ?_
  refine vr_astore_n hE dJ5_charAt_9 (hnl _ (by decide)) rfl ?_
  refine vr_aload_n hE dJ5_charAt_10 rfl ?_
  refine bc_get (z := 3) hE kc_J6 (by decide) q244 (Or.inl rfl) h_sb rfl dJ5_charAt_11 ?_
  refine vr_aload_n hE dJ5_charAt_14 rfl ?_
  refine bc_alen (t0 := 1) hE rfl h_v dJ5_charAt_15 ?_
  refine vr_iload_n hE dJ5_charAt_16 rfl ?_
  refine vr_ishr (v := (nI c)) hE dJ5_charAt_17 (sb_shr0 _) ?_
  refine vr_mmin hE q2136 q575 q94 q576 ⟨by decide, Nat.le_of_ble_eq_true rfl, by decide, by decide⟩ dJ5_charAt_18 ?_
  refine vr_to (w := .int (nI e)) (congrArg Value.int (if_neg (nI_nlt (by omega) (by omega)))) ?_
  refine vr_istore hE dJ5_charAt_21 (hnl _ (by decide)) rfl ?_
  refine vr_iload_n hE dJ5_charAt_23 rfl ?_
  refine vr_iload hE dJ5_charAt_24 rfl ?_
  refine ro_callS hE (ro_ck G _ i e hi (by omega)) ok_J7_checkIndex (lw_S q2137 q2083 q80 q2084) rfl rfl (Nat.le_of_ble_eq_true rfl) (by decide) dJ5_charAt_26 ?_
  rintro v_26 rfl
  refine vr_iload_n hE dJ5_charAt_29 rfl ?_
  refine vr_if_ne (tgt := 42) hE dJ5_charAt_30 (by decide) (fun c_30 => ?_) (fun c_30 => ?_)
  · exact absurd rfl c_30
  refine vr_aload_n hE dJ5_charAt_33 rfl ?_
  refine vr_iload_n hE dJ5_charAt_34 rfl ?_
  refine bc_bald hE h_v rfl (by omega) (by omega) dJ5_charAt_35 ?_
  refine vr_sipush (v := 255) hE dJ5_charAt_36 (by decide) ?_
  refine vr_iand hE dJ5_charAt_39 ?_
  refine vr_to (w := .int (nI t)) (congrArg Value.int (by rw [hf0]; exact sb_and t ht)) ?_
  refine vr_i2c (v := nI t) hE dJ5_charAt_40 (i2c_n (by omega)) ?_
  refine vr_ireturn hE hQ (nI_chn (by omega)) dJ5_charAt_41 (by decide) ⟨_, ?_, fun H h => hW _ H h⟩
  exact ⟨rfl, rfl⟩
theorem ok_J6_charAt : bi_ok yJ6_charAt RJ6 1 := by decide +kernel
theorem bk_J6_charAtL {Y : bi_Y} (G : bi_GS Y) (M : va_M) (sb v c e i t : Nat) (mb : Int32) (f : Nat → Int32) (h_sb : M sb = some (.inr (21, sbL v 0 mb (nI e)))) (h_v : M v = some (eB Y (c) f)) (hc : c < 100) (he : e ≤ c) (hi : i < e) (ht : t < 256) (hf0 : f i = sb_b t) : bc_Met Y yJ6_charAt (ws_ yJ6_charAt cJ6_charAt 2 (some .char)) 3 67 0 0 M [.ref sb, .int (nI i)] (fun v9 M' => v9 = some (.int (nI t)) ∧ M' = M) bi_nx := by
  refine bc_Met.of (own := RJ6) (L0 := [some (.ref sb), some (.int (nI i))]) rfl (by decide) G (Nat.le_of_ble_eq_true rfl) rfl (fun X A hE hQ hW hnl hnm => ?_)
  have hnl : ∀ q, q < 2 → q < bi_nL X := fun q h => by rw [hnl]; exact h
  refine vr_aload_n hE dJ6_charAt_0 rfl ?_
  refine vr_iload_n hE dJ6_charAt_1 rfl ?_
  refine bc_callSU (ar := 1) hE (bk_J5_charAtL G _ sb v c e i t mb f h_sb h_v hc he hi ht hf0) kc_J6 h_sb ⟨by decide, by decide +kernel⟩ (lw_SUP q2133 q2910 q253 q2134 q78 q2135) rfl rfl (Nat.le_of_ble_eq_true rfl) (by decide) dJ6_charAt_2 (fun _ _ _ h => h.elim) ?_
  rintro v_2 M_2 ⟨rfl, hu_2⟩
  obtain rfl := hu_2.symm
  refine vr_ireturn hE hQ (nI_chn (by omega)) dJ6_charAt_5 (by decide) ⟨_, ?_, fun H h => hW _ H h⟩
  exact ⟨rfl, rfl⟩
theorem bk_J5_charAtU {Y : bi_Y} (G : bi_GS Y) (M : va_M) (sb v c e i t : Nat) (mb : Int32) (f : Nat → Int32) (h_sb : M sb = some (.inr (21, sbL v 1 mb (nI e)))) (h_v : M v = some (eB Y (2 * c) f)) (hc : c < 100) (he : e ≤ c) (hi : i < e) (ht : t < 65536) (hf0 : f (2 * i) = sb_b t) (hf1 : f (2 * i + 1) = sb_b (t / 256)) : bc_Met Y yJ5_charAt (ws_ yJ5_charAt cJ5_charAt 5 (some .char)) 2 43 0 0 M [.ref sb, .int (nI i)] (fun v9 M' => v9 = some (.int (nI t)) ∧ M' = M) bi_nx := by
  refine bc_Met.of (own := RJ5) (L0 := [some (.ref sb), some (.int (nI i)), none, none, none]) rfl (by decide) G (Nat.le_of_ble_eq_true rfl) rfl (fun X A hE hQ hW hnl hnm => ?_)
  have hnl : ∀ q, q < 5 → q < bi_nL X := fun q h => by rw [hnl]; exact h
  refine vr_aload_n hE dJ5_charAt_0 rfl ?_
  refine bc_get (z := 1) hE kc_J6 (by decide) q241 (Or.inl rfl) h_sb rfl dJ5_charAt_1 ?_
  refine vr_istore_n hE dJ5_charAt_4 (hnl _ (by decide)) rfl ?_
  refine vr_aload_n hE dJ5_charAt_5 rfl ?_
  refine bc_get (z := 0) hE kc_J6 (by decide) q240 (Or.inl rfl) h_sb rfl dJ5_charAt_6 ?_
  refine vr_astore_n hE dJ5_charAt_9 (hnl _ (by decide)) rfl ?_
  refine vr_aload_n hE dJ5_charAt_10 rfl ?_
  refine bc_get (z := 3) hE kc_J6 (by decide) q244 (Or.inl rfl) h_sb rfl dJ5_charAt_11 ?_
  refine vr_aload_n hE dJ5_charAt_14 rfl ?_
  refine bc_alen (t0 := 1) hE rfl h_v dJ5_charAt_15 ?_
  refine vr_iload_n hE dJ5_charAt_16 rfl ?_
  refine vr_ishr (v := (nI c)) hE dJ5_charAt_17 (shr1 c (by omega)) ?_
  refine vr_mmin hE q2136 q575 q94 q576 ⟨by decide, Nat.le_of_ble_eq_true rfl, by decide, by decide⟩ dJ5_charAt_18 ?_
  refine vr_to (w := .int (nI e)) (congrArg Value.int (if_neg (nI_nlt (by omega) (by omega)))) ?_
  refine vr_istore hE dJ5_charAt_21 (hnl _ (by decide)) rfl ?_
  refine vr_iload_n hE dJ5_charAt_23 rfl ?_
  refine vr_iload hE dJ5_charAt_24 rfl ?_
  refine ro_callS hE (ro_ck G _ i e hi (by omega)) ok_J7_checkIndex (lw_S q2137 q2083 q80 q2084) rfl rfl (Nat.le_of_ble_eq_true rfl) (by decide) dJ5_charAt_26 ?_
  rintro v_26 rfl
  refine vr_iload_n hE dJ5_charAt_29 rfl ?_
  refine vr_if_ne (tgt := 42) hE dJ5_charAt_30 (by decide) (fun c_30 => ?_) (fun c_30 => ?_)
  · skip
    refine vr_aload_n hE dJ5_charAt_42 rfl ?_
    refine vr_iload_n hE dJ5_charAt_43 rfl ?_
    refine bc_callS hE (bk_J8_getChar G _ v c i t f h_v hc (by omega) ht hf0 hf1) ok_J8_getChar (lw_S q2138 q731 q81 q732) rfl rfl (Nat.le_of_ble_eq_true rfl) (by decide) dJ5_charAt_44 (fun _ _ _ h => h.elim) ?_
    rintro v_44 M_44 ⟨rfl, hu_44⟩
    obtain rfl := hu_44.symm
    refine vr_ireturn hE hQ (nI_chn (by omega)) dJ5_charAt_47 (by decide) ⟨_, ?_, fun H h => hW _ H h⟩
    exact ⟨rfl, rfl⟩
  · exact absurd c_30 (by decide)
theorem bk_J6_charAtU {Y : bi_Y} (G : bi_GS Y) (M : va_M) (sb v c e i t : Nat) (mb : Int32) (f : Nat → Int32) (h_sb : M sb = some (.inr (21, sbL v 1 mb (nI e)))) (h_v : M v = some (eB Y (2 * c) f)) (hc : c < 100) (he : e ≤ c) (hi : i < e) (ht : t < 65536) (hf0 : f (2 * i) = sb_b t) (hf1 : f (2 * i + 1) = sb_b (t / 256)) : bc_Met Y yJ6_charAt (ws_ yJ6_charAt cJ6_charAt 2 (some .char)) 3 67 0 0 M [.ref sb, .int (nI i)] (fun v9 M' => v9 = some (.int (nI t)) ∧ M' = M) bi_nx := by
  refine bc_Met.of (own := RJ6) (L0 := [some (.ref sb), some (.int (nI i))]) rfl (by decide) G (Nat.le_of_ble_eq_true rfl) rfl (fun X A hE hQ hW hnl hnm => ?_)
  have hnl : ∀ q, q < 2 → q < bi_nL X := fun q h => by rw [hnl]; exact h
  refine vr_aload_n hE dJ6_charAt_0 rfl ?_
  refine vr_iload_n hE dJ6_charAt_1 rfl ?_
  refine bc_callSU (ar := 1) hE (bk_J5_charAtU G _ sb v c e i t mb f h_sb h_v hc he hi ht hf0 hf1) kc_J6 h_sb ⟨by decide, by decide +kernel⟩ (lw_SUP q2133 q2910 q253 q2134 q78 q2135) rfl rfl (Nat.le_of_ble_eq_true rfl) (by decide) dJ6_charAt_2 (fun _ _ _ h => h.elim) ?_
  rintro v_2 M_2 ⟨rfl, hu_2⟩
  obtain rfl := hu_2.symm
  refine vr_ireturn hE hQ (nI_chn (by omega)) dJ6_charAt_5 (by decide) ⟨_, ?_, fun H h => hW _ H h⟩
  exact ⟨rfl, rfl⟩
