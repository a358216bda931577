/-! String's methods on Latin-1 Strings: they read alone, in any world -/
set_option maxRecDepth 100000
theorem sb_and : ∀ c, c < 256 → sb_b c &&& 255 = Int32.ofNat c := by decide +kernel
theorem sb_inj : ∀ c, c < 256 → ∀ e, e < 256 → sb_b c = sb_b e → c = e := by decide +kernel
theorem nI_mod {c : Nat} (h : c < 65536) : UInt32.ofNat c % 65536 = UInt32.ofNat c := by
  apply UInt32.toNat_inj.mp
  rw [UInt32.toNat_mod, UInt32.toNat_ofNat]
  show c % 2 ^ 32 % 65536 = c % 2 ^ 32
  omega
theorem nI_chr {c : Nat} (h : c < 65536) : (Int32.toUInt32 (nI c) % 65536).toInt32 = nI c := congrArg UInt32.toInt32 (nI_mod h)
theorem nI_chn {c : Nat} (h : c < 65536) : narrow .char (.int (nI c)) = .int (nI c) := by
  show Value.int (UInt32.ofNat c).toUInt16.toUInt32.toInt32 = _
  rw [UInt32.toUInt32_toUInt16, nI_mod h]
  rfl
theorem nI_shr0 (x : Int32) : x >>> ((0 : Int32) &&& 31) = x := by
  rw [show (0 : Int32) &&& 31 = 0 by decide]
  exact Int32.shiftRight_zero

theorem ok_J7_coder : bi_ok yJ7_coder RJ7 0 := by decide +kernel
theorem ro_coder {Y : bi_Y} (G : bi_GS Y) (P : Heap → Prop) (a v : Nat) (t : List Nat) (hs : ∀ H, bi_B Y H → P H → bi_Str Y a v t H) : bi_Met Y yJ7_coder (ws_ yJ7_coder cJ7_coder 1 (some .byte)) 0 0 0 0 P (fun _ => False) [.ref a] (fun v (_ : Unit) => v = some (.int 0)) bi_nx (fun _ => P) := by
  refine bi_Met.of (own := RJ7) (L0 := [some (.ref a)]) rfl (by decide) G (fun _ h => h.elim) (Nat.le_of_ble_eq_true rfl) rfl (fun X hE hQ hA hnl hnm => ?_)
  have hnl : ∀ q, q < 1 → q < bi_nL X := fun q h => by rw [hnl]; exact h
  refine wr_gets hE (zs_CS G) q617 dJ7_coder_0 ?_
  refine vr_if_eq (tgt := 13) hE dJ7_coder_3 (by decide) (fun c_3 => ?_) (fun c_3 => ?_)
  · exact absurd c_3 (by decide)
  refine vr_aload_n hE dJ7_coder_6 rfl ?_
  refine wr_get (ci := 22) hE rfl in_J7 (z := 1) (by decide) q738 rfl (fun H hB h => (hs H hB h).2.2.1) dJ7_coder_7 ?_
  refine vr_goto (tgt := 14) hE dJ7_coder_10 (by decide) ?_
  refine vr_ireturn hE hQ rfl dJ7_coder_14 (by decide) ⟨(), ?_, fun H h => h⟩
  exact rfl
theorem ok_J7_isLatin1 : bi_ok yJ7_isLatin1 RJ7 0 := by decide +kernel
theorem ro_isLatin1 {Y : bi_Y} (G : bi_GS Y) (P : Heap → Prop) (a v : Nat) (t : List Nat) (hs : ∀ H, bi_B Y H → P H → bi_Str Y a v t H) : bi_Met Y yJ7_isLatin1 (ws_ yJ7_isLatin1 cJ7_isLatin1 1 (some .boolean)) 0 0 0 0 P (fun _ => False) [.ref a] (fun v (_ : Unit) => v = some (.int 1)) bi_nx (fun _ => P) := by
  refine bi_Met.of (own := RJ7) (L0 := [some (.ref a)]) rfl (by decide) G (fun _ h => h.elim) (Nat.le_of_ble_eq_true rfl) rfl (fun X hE hQ hA hnl hnm => ?_)
  have hnl : ∀ q, q < 1 → q < bi_nL X := fun q h => by rw [hnl]; exact h
  refine wr_gets hE (zs_CS G) q617 dJ7_isLatin1_0 ?_
  refine vr_if_eq (tgt := 17) hE dJ7_isLatin1_3 (by decide) (fun c_3 => ?_) (fun c_3 => ?_)
  · exact absurd c_3 (by decide)
  refine vr_aload_n hE dJ7_isLatin1_6 rfl ?_
  refine wr_get (ci := 22) hE rfl in_J7 (z := 1) (by decide) q738 rfl (fun H hB h => (hs H hB h).2.2.1) dJ7_isLatin1_7 ?_
  refine vr_if_ne (tgt := 17) hE dJ7_isLatin1_10 (by decide) (fun c_10 => ?_) (fun c_10 => ?_)
  · exact absurd rfl c_10
  refine vr_iconst (v := 1) hE dJ7_isLatin1_13 (by decide) ?_
  refine vr_goto (tgt := 18) hE dJ7_isLatin1_14 (by decide) ?_
  refine vr_ireturn hE hQ rfl dJ7_isLatin1_18 (by decide) ⟨(), ?_, fun H h => h⟩
  exact rfl
theorem ok_J7_length : bi_ok yJ7_length RJ7 0 := by decide +kernel
theorem ro_len {Y : bi_Y} (G : bi_GS Y) (P : Heap → Prop) (a v : Nat) (t : List Nat) (hs : ∀ H, bi_B Y H → P H → bi_Str Y a v t H) (ht : t.length < 2 ^ 31) : bi_Met Y yJ7_length (ws_ yJ7_length cJ7_length 1 (some .int)) 1 20 0 0 P (fun _ => False) [.ref a] (fun v (_ : Unit) => v = some (.int (nI t.length))) bi_nx (fun _ => P) := by
  refine bi_Met.of (own := RJ7) (L0 := [some (.ref a)]) rfl (by decide) G (fun _ h => h.elim) (Nat.le_of_ble_eq_true rfl) rfl (fun X hE hQ hA hnl hnm => ?_)
  have hnl : ∀ q, q < 1 → q < bi_nL X := fun q h => by rw [hnl]; exact h
  refine vr_aload_n hE dJ7_length_0 rfl ?_
  refine wr_get (ci := 22) hE rfl in_J7 (z := 0) (by decide) q737 rfl (fun H hB h => (hs H hB h).2.1) dJ7_length_1 ?_
  refine wr_alen hE (fun H hB h => (hs H hB h).2.2.2.1) dJ7_length_4 ?_
  refine vr_aload_n hE dJ7_length_5 rfl ?_
  refine ro_callV (ci := 22) hE (ro_coder G P a v t hs) rfl (fun H hB h => (hs H hB h).1) ok_J7_coder (lw_V q613 q614 q615 q80 q616) rfl rfl (Nat.le_of_ble_eq_true rfl) (by decide) dJ7_length_6 ?_
  rintro v_6 rfl
  refine vr_ishr (v := nI t.length) hE dJ7_length_9 (nI_shr0 _) ?_
  refine vr_ireturn hE hQ rfl dJ7_length_10 (by decide) ⟨(), ?_, fun H h => h⟩
  exact rfl
theorem ok_J19_checkIndex : bi_ok yJ19_checkIndex RJ19 3 := by decide +kernel
theorem ro_pckN {Y : bi_Y} (G : bi_GS Y) (P : Heap → Prop) (i m : Nat) (hi : i < m) (hm : m < 2 ^ 31) : bi_Met Y yJ19_checkIndex (ws_ yJ19_checkIndex cJ19_checkIndex 3 (some .int)) 0 0 0 0 P (fun _ => False) [.int (nI i), .int (nI m), .null] (fun v (_ : Unit) => v = some (.int (nI i))) bi_nx (fun _ => P) := by
  refine bi_Met.of (own := RJ19) (L0 := [some (.int (nI i)), some (.int (nI m)), some (.null)]) rfl (by decide) G (fun _ h => h.elim) (Nat.le_of_ble_eq_true rfl) rfl (fun X hE hQ hA hnl hnm => ?_)
  have hnl : ∀ q, q < 3 → q < bi_nL X := fun q h => by rw [hnl]; exact h
  refine vr_iload_n hE dJ19_checkIndex_0 rfl ?_
  refine vr_if_lt (tgt := 9) hE dJ19_checkIndex_1 (by decide) (fun c_1 => ?_) (fun c_1 => ?_)
  · exact absurd (Int32.lt_iff_toInt_lt.mp c_1) (by rw [nI_toInt (by omega), Int32.toInt_zero]; omega)
  refine vr_iload_n hE dJ19_checkIndex_4 rfl ?_
  refine vr_iload_n hE dJ19_checkIndex_5 rfl ?_
  refine vr_icmp_lt (tgt := 16) hE dJ19_checkIndex_6 (by decide) (fun c_6 => ?_) (fun c_6 => ?_)
  · skip
    refine vr_iload_n hE dJ19_checkIndex_16 rfl ?_
    refine vr_ireturn hE hQ rfl dJ19_checkIndex_17 (by decide) ⟨(), ?_, fun H h => h⟩
    exact rfl
  · exact absurd (by rw [Int32.lt_iff_toInt_lt, nI_toInt (by omega), nI_toInt (by omega)]; omega) c_6
theorem ok_J7_checkIndex : bi_ok yJ7_checkIndex RJ7 2 := by decide +kernel
theorem ro_ckN {Y : bi_Y} (G : bi_GS Y) (P : Heap → Prop) (i m : Nat) (hi : i < m) (hm : m < 2 ^ 31) (hZ : bi_Z Y "jdk/internal/util/Preconditions" "SIOOBE_FORMATTER" "Ljava/util/function/BiFunction;" (.null)) : bi_Met Y yJ7_checkIndex (ws_ yJ7_checkIndex cJ7_checkIndex 2 none) 1 22 0 0 P (fun _ => False) [.int (nI i), .int (nI m)] (fun v (_ : Unit) => v = none) bi_nx (fun _ => P) := by
  refine bi_Met.of (own := RJ7) (L0 := [some (.int (nI i)), some (.int (nI m))]) rfl (by decide) G (fun _ h => h.elim) (Nat.le_of_ble_eq_true rfl) rfl (fun X hE hQ hA hnl hnm => ?_)
  have hnl : ∀ q, q < 2 → q < bi_nL X := fun q h => by rw [hnl]; exact h
  refine vr_iload_n hE dJ7_checkIndex_0 rfl ?_
  refine vr_iload_n hE dJ7_checkIndex_1 rfl ?_
  refine wr_gets hE hZ q595 dJ7_checkIndex_2 ?_
  refine ro_callS hE (ro_pckN G P i m hi hm) ok_J19_checkIndex (lw_S q2085 q904 q96 q905) rfl rfl (Nat.le_of_ble_eq_true rfl) (by decide) dJ7_checkIndex_5 ?_
  rintro v_5 rfl
  refine vr_pop hE dJ7_checkIndex_8 rfl ?_
  refine vr_return hE hQ dJ7_checkIndex_9 (by decide) ⟨(), ?_, fun H h => h⟩
  exact rfl
theorem ro_pckR {Y : bi_Y} (G : bi_GS Y) (P : Heap → Prop) (i m : Nat) (hi : i < m) (hm : m < 2 ^ 31) (tf : Nat) : bi_Met Y yJ19_checkIndex (ws_ yJ19_checkIndex cJ19_checkIndex 3 (some .int)) 0 0 0 0 P (fun _ => False) [.int (nI i), .int (nI m), .ref tf] (fun v (_ : Unit) => v = some (.int (nI i))) bi_nx (fun _ => P) := by
  refine bi_Met.of (own := RJ19) (L0 := [some (.int (nI i)), some (.int (nI m)), some (.ref tf)]) rfl (by decide) G (fun _ h => h.elim) (Nat.le_of_ble_eq_true rfl) rfl (fun X hE hQ hA hnl hnm => ?_)
  have hnl : ∀ q, q < 3 → q < bi_nL X := fun q h => by rw [hnl]; exact h
  refine vr_iload_n hE dJ19_checkIndex_0 rfl ?_
  refine vr_if_lt (tgt := 9) hE dJ19_checkIndex_1 (by decide) (fun c_1 => ?_) (fun c_1 => ?_)
  · exact absurd (Int32.lt_iff_toInt_lt.mp c_1) (by rw [nI_toInt (by omega), Int32.toInt_zero]; omega)
  refine vr_iload_n hE dJ19_checkIndex_4 rfl ?_
  refine vr_iload_n hE dJ19_checkIndex_5 rfl ?_
  refine vr_icmp_lt (tgt := 16) hE dJ19_checkIndex_6 (by decide) (fun c_6 => ?_) (fun c_6 => ?_)
  · skip
    refine vr_iload_n hE dJ19_checkIndex_16 rfl ?_
    refine vr_ireturn hE hQ rfl dJ19_checkIndex_17 (by decide) ⟨(), ?_, fun H h => h⟩
    exact rfl
  · exact absurd (by rw [Int32.lt_iff_toInt_lt, nI_toInt (by omega), nI_toInt (by omega)]; omega) c_6
theorem ro_ckR {Y : bi_Y} (G : bi_GS Y) (P : Heap → Prop) (i m : Nat) (hi : i < m) (hm : m < 2 ^ 31) (tf : Nat) (hZ : bi_Z Y "jdk/internal/util/Preconditions" "SIOOBE_FORMATTER" "Ljava/util/function/BiFunction;" (.ref tf)) : bi_Met Y yJ7_checkIndex (ws_ yJ7_checkIndex cJ7_checkIndex 2 none) 1 22 0 0 P (fun _ => False) [.int (nI i), .int (nI m)] (fun v (_ : Unit) => v = none) bi_nx (fun _ => P) := by
  refine bi_Met.of (own := RJ7) (L0 := [some (.int (nI i)), some (.int (nI m))]) rfl (by decide) G (fun _ h => h.elim) (Nat.le_of_ble_eq_true rfl) rfl (fun X hE hQ hA hnl hnm => ?_)
  have hnl : ∀ q, q < 2 → q < bi_nL X := fun q h => by rw [hnl]; exact h
  refine vr_iload_n hE dJ7_checkIndex_0 rfl ?_
  refine vr_iload_n hE dJ7_checkIndex_1 rfl ?_
  refine wr_gets hE hZ q595 dJ7_checkIndex_2 ?_
  refine ro_callS hE (ro_pckR G P i m hi hm tf) ok_J19_checkIndex (lw_S q2085 q904 q96 q905) rfl rfl (Nat.le_of_ble_eq_true rfl) (by decide) dJ7_checkIndex_5 ?_
  rintro v_5 rfl
  refine vr_pop hE dJ7_checkIndex_8 rfl ?_
  refine vr_return hE hQ dJ7_checkIndex_9 (by decide) ⟨(), ?_, fun H h => h⟩
  exact rfl
theorem ro_ck {Y : bi_Y} (G : bi_GS Y) (P : Heap → Prop) (i m : Nat) (hi : i < m) (hm : m < 2 ^ 31) : bi_Met Y yJ7_checkIndex (ws_ yJ7_checkIndex cJ7_checkIndex 2 none) 1 22 0 0 P (fun _ => False) [.int (nI i), .int (nI m)] (fun v (_ : Unit) => v = none) bi_nx (fun _ => P) := by
  obtain ⟨fv, rfl | ⟨tf, rfl⟩, hZ⟩ := zr_SF G
  · exact ro_ckN G P i m hi hm hZ
  · exact ro_ckR G P i m hi hm tf hZ
theorem ok_J20_charAt : bi_ok yJ20_charAt RJ20 2 := by decide +kernel
theorem ro_cat0 {Y : bi_Y} (G : bi_GS Y) (P : Heap → Prop) (v : Nat) (t : List Nat) (ha : ∀ H, bi_B Y H → P H → bi_arr Y .byte v t.length (fun j => .int (sb_b (t.getD j 0))) H) (h8 : ∀ c ∈ t, c < 256) (ht : t.length < 2 ^ 31) (i : Nat) (hi : i < t.length) : bi_Met Y yJ20_charAt (ws_ yJ20_charAt cJ20_charAt 2 (some .char)) 2 43 0 0 P (fun _ => False) [.ref v, .int (nI i)] (fun v (_ : Unit) => v = some (.int (nI (t.getD i 0)))) bi_nx (fun _ => P) := by
  refine bi_Met.of (own := RJ20) (L0 := [some (.ref v), some (.int (nI i))]) rfl (by decide) G (fun _ h => h.elim) (Nat.le_of_ble_eq_true rfl) rfl (fun X hE hQ hA hnl hnm => ?_)
  have hnl : ∀ q, q < 2 → q < bi_nL X := fun q h => by rw [hnl]; exact h
  have hg : t.getD i 0 < 256 := by
    rw [List.getD_eq_getElem?_getD, List.getElem?_eq_getElem hi]
    exact h8 _ (List.getElem_mem hi)
  refine vr_iload_n hE dJ20_charAt_0 rfl ?_
  refine vr_aload_n hE dJ20_charAt_1 rfl ?_
  refine wr_alen hE ha dJ20_charAt_2 ?_
  refine ro_callS hE (ro_ck G P i t.length hi ht) ok_J7_checkIndex (lw_S q2226 q2083 q80 q2084) rfl rfl (Nat.le_of_ble_eq_true rfl) (by decide) dJ20_charAt_3 ?_
  rintro v_3 rfl
  refine vr_aload_n hE dJ20_charAt_6 rfl ?_
  refine vr_iload_n hE dJ20_charAt_7 rfl ?_
  refine wr_bald hE ha rfl hi ht dJ20_charAt_8 ?_
  refine vr_sipush (v := 255) hE dJ20_charAt_9 (by decide) ?_
  refine vr_iand hE dJ20_charAt_12 ?_
  refine vr_to (w := .int (nI (t.getD i 0))) (congrArg Value.int (sb_and _ hg)) ?_
  refine vr_i2c (v := nI (t.getD i 0)) hE dJ20_charAt_13 (nI_chr (by omega)) ?_
  refine vr_ireturn hE hQ (nI_chn (by omega)) dJ20_charAt_14 (by decide) ⟨(), ?_, fun H h => h⟩
  exact rfl
theorem ok_J7_charAt : bi_ok yJ7_charAt RJ7 1 := by decide +kernel
theorem ro_cat {Y : bi_Y} (G : bi_GS Y) (P : Heap → Prop) (a v : Nat) (t : List Nat) (hs : ∀ H, bi_B Y H → P H → bi_Str Y a v t H) (ht : t.length < 2 ^ 31) (i : Nat) (hi : i < t.length) (h8 : ∀ c ∈ t, c < 256) : bi_Met Y yJ7_charAt (ws_ yJ7_charAt cJ7_charAt 2 (some .char)) 3 64 0 0 P (fun _ => False) [.ref a, .int (nI i)] (fun v (_ : Unit) => v = some (.int (nI (t.getD i 0)))) bi_nx (fun _ => P) := by
  refine bi_Met.of (own := RJ7) (L0 := [some (.ref a), some (.int (nI i))]) rfl (by decide) G (fun _ h => h.elim) (Nat.le_of_ble_eq_true rfl) rfl (fun X hE hQ hA hnl hnm => ?_)
  have hnl : ∀ q, q < 2 → q < bi_nL X := fun q h => by rw [hnl]; exact h
  have hg : t.getD i 0 < 256 := by
    rw [List.getD_eq_getElem?_getD, List.getElem?_eq_getElem hi]
    exact h8 _ (List.getElem_mem hi)
  refine vr_aload_n hE dJ7_charAt_0 rfl ?_
  refine ro_callV (ci := 22) hE (ro_isLatin1 G P a v t hs) rfl (fun H hB h => (hs H hB h).1) ok_J7_isLatin1 (lw_V q1419 q1420 q1421 q80 q1422) rfl rfl (Nat.le_of_ble_eq_true rfl) (by decide) dJ7_charAt_1 ?_
  rintro v_1 rfl
  refine vr_if_eq (tgt := 16) hE dJ7_charAt_4 (by decide) (fun c_4 => ?_) (fun c_4 => ?_)
  · exact absurd c_4 (by decide)
  refine vr_aload_n hE dJ7_charAt_7 rfl ?_
  refine wr_get (ci := 22) hE rfl in_J7 (z := 0) (by decide) q737 rfl (fun H hB h => (hs H hB h).2.1) dJ7_charAt_8 ?_
  refine vr_iload_n hE dJ7_charAt_11 rfl ?_
  refine ro_callS hE (ro_cat0 G P v t (fun H hB h => (hs H hB h).2.2.2.1) h8 ht i hi) ok_J20_charAt (lw_S q2223 q2224 q97 q2225) rfl rfl (Nat.le_of_ble_eq_true rfl) (by decide) dJ7_charAt_12 ?_
  rintro v_12 rfl
  refine vr_ireturn hE hQ (nI_chn (by omega)) dJ7_charAt_15 (by decide) ⟨(), ?_, fun H h => h⟩
  exact rfl
