/-! StringBuilder, appended to -/
set_option maxRecDepth 100000
theorem fx_0 {f : Nat → Int32} {i x y : Nat} : upd (upd f (2 * i) (vp_nar .byte (sb_b x))) (2 * i + 1) (vp_nar .byte (sb_b y)) (2 * i) = sb_b x := by
  rw [pk_un (by omega), pk_us]; exact pk_vb _
theorem fx_1 {f : Nat → Int32} {i x y : Nat} : upd (upd f (2 * i) (vp_nar .byte (sb_b x))) (2 * i + 1) (vp_nar .byte (sb_b y)) (2 * i + 1) = sb_b y := by
  rw [pk_us]; exact pk_vb _
theorem fx_n {f : Nat → Int32} {i x y j : Nat} (h : j ≠ 2 * i) (h' : j ≠ 2 * i + 1) : upd (upd f (2 * i) (vp_nar .byte (sb_b x))) (2 * i + 1) (vp_nar .byte (sb_b y)) j = f j := by
  rw [pk_un (by omega), pk_un (by omega)]
theorem updN_s {T : Nat → Nat} {k x : Nat} : updN T k x k = x := if_pos rfl
theorem updN_n {T : Nat → Nat} {k x j : Nat} (h : j ≠ k) : updN T k x j = T j := if_neg h
theorem ok_J19_checkFromIndexSize : bi_ok yJ19_checkFromIndexSize RJ19 4 := by decide +kernel
theorem bk_J19_cfisN {Y : bi_Y} (G : bi_GS Y) (M : va_M) (c e : Nat) (hc : c < 64) (he : e ≤ c) : bc_Met Y yJ19_checkFromIndexSize (ws_ yJ19_checkFromIndexSize cJ19_checkFromIndexSize 4 (some .int)) 0 0 0 0 M [.int 0, .int (nI e), .int (nI c), .null] (fun v9 M' => v9 = some (.int 0) ∧ M' = M) bi_nx := by
  refine bc_Met.of (own := RJ19) (L0 := [some (.int 0), some (.int (nI e)), some (.int (nI c)), some (.null)]) rfl (by decide) G (Nat.le_of_ble_eq_true rfl) rfl (fun X A hE hQ hW hnl hnm => ?_)
  have hnl : ∀ q, q < 4 → q < bi_nL X := fun q h => by rw [hnl]; exact h
  refine vr_iload_n hE dJ19_checkFromIndexSize_0 rfl ?_
  refine vr_iload_n hE dJ19_checkFromIndexSize_1 rfl ?_
  refine vr_ior hE dJ19_checkFromIndexSize_2 ?_
  refine vr_iload_n hE dJ19_checkFromIndexSize_3 rfl ?_
  refine vr_ior hE dJ19_checkFromIndexSize_4 ?_
  refine vr_if_lt (tgt := 15) hE dJ19_checkFromIndexSize_5 (by decide) (fun c_5 => ?_) (fun c_5 => ?_)
  · exact absurd c_5 (or_pos c hc e (by omega))
  skip
  refine vr_iload_n hE dJ19_checkFromIndexSize_8 rfl ?_
  refine vr_iload_n hE dJ19_checkFromIndexSize_9 rfl ?_
  refine vr_iload_n hE dJ19_checkFromIndexSize_10 rfl ?_
  refine vr_isub hE dJ19_checkFromIndexSize_11 ?_
  refine vr_icmp_le (tgt := 23) hE dJ19_checkFromIndexSize_12 (by decide) (fun c_12 => ?_) (fun c_12 => ?_)
  · skip
    refine vr_iload_n hE dJ19_checkFromIndexSize_23 rfl ?_
    refine vr_ireturn hE hQ rfl dJ19_checkFromIndexSize_24 (by decide) ⟨_, ?_, fun H h => hW _ H h⟩
    exact ⟨rfl, rfl⟩
  · exact absurd (show nI e ≤ nI c - 0 from by rw [Int32.sub_zero]; exact nI_le he (by omega)) c_12
theorem ok_J7_checkBoundsOffCount : bi_ok yJ7_checkBoundsOffCount RJ7 3 := by decide +kernel
theorem bk_J7_cbocN {Y : bi_Y} (G : bi_GS Y) (M : va_M) (c e : Nat) (hc : c < 64) (he : e ≤ c) (hZ : bi_Z Y "jdk/internal/util/Preconditions" "SIOOBE_FORMATTER" "Ljava/util/function/BiFunction;" (.null)) : bc_Met Y yJ7_checkBoundsOffCount (ws_ yJ7_checkBoundsOffCount cJ7_checkBoundsOffCount 3 (some .int)) 1 23 0 0 M [.int 0, .int (nI e), .int (nI c)] (fun v9 M' => v9 = some (.int 0) ∧ M' = M) bi_nx := by
  refine bc_Met.of (own := RJ7) (L0 := [some (.int 0), some (.int (nI e)), some (.int (nI c))]) rfl (by decide) G (Nat.le_of_ble_eq_true rfl) rfl (fun X A hE hQ hW hnl hnm => ?_)
  have hnl : ∀ q, q < 3 → q < bi_nL X := fun q h => by rw [hnl]; exact h
  refine vr_iload_n hE dJ7_checkBoundsOffCount_0 rfl ?_
  refine vr_iload_n hE dJ7_checkBoundsOffCount_1 rfl ?_
  refine vr_iload_n hE dJ7_checkBoundsOffCount_2 rfl ?_
  refine wr_gets hE hZ q595 dJ7_checkBoundsOffCount_3 ?_
  refine bc_callS hE (bk_J19_cfisN G _ c e hc he) ok_J19_checkFromIndexSize (lw_S q643 q644 q96 q645) rfl rfl (Nat.le_of_ble_eq_true rfl) (by decide) dJ7_checkBoundsOffCount_6 (fun _ _ _ h => h.elim) ?_
  rintro v_6 M_6 ⟨rfl, hu_6⟩
  obtain rfl := hu_6.symm
  refine vr_ireturn hE hQ rfl dJ7_checkBoundsOffCount_9 (by decide) ⟨_, ?_, fun H h => hW _ H h⟩
  exact ⟨rfl, rfl⟩
theorem bk_J19_cfisR {Y : bi_Y} (G : bi_GS Y) (M : va_M) (c e : Nat) (hc : c < 64) (he : e ≤ c) (tf : Nat) : bc_Met Y yJ19_checkFromIndexSize (ws_ yJ19_checkFromIndexSize cJ19_checkFromIndexSize 4 (some .int)) 0 0 0 0 M [.int 0, .int (nI e), .int (nI c), .ref tf] (fun v9 M' => v9 = some (.int 0) ∧ M' = M) bi_nx := by
  refine bc_Met.of (own := RJ19) (L0 := [some (.int 0), some (.int (nI e)), some (.int (nI c)), some (.ref tf)]) rfl (by decide) G (Nat.le_of_ble_eq_true rfl) rfl (fun X A hE hQ hW hnl hnm => ?_)
  have hnl : ∀ q, q < 4 → q < bi_nL X := fun q h => by rw [hnl]; exact h
  refine vr_iload_n hE dJ19_checkFromIndexSize_0 rfl ?_
  refine vr_iload_n hE dJ19_checkFromIndexSize_1 rfl ?_
  refine vr_ior hE dJ19_checkFromIndexSize_2 ?_
  refine vr_iload_n hE dJ19_checkFromIndexSize_3 rfl ?_
  refine vr_ior hE dJ19_checkFromIndexSize_4 ?_
  refine vr_if_lt (tgt := 15) hE dJ19_checkFromIndexSize_5 (by decide) (fun c_5 => ?_) (fun c_5 => ?_)
  · exact absurd c_5 (or_pos c hc e (by omega))
  skip
  refine vr_iload_n hE dJ19_checkFromIndexSize_8 rfl ?_
  refine vr_iload_n hE dJ19_checkFromIndexSize_9 rfl ?_
  refine vr_iload_n hE dJ19_checkFromIndexSize_10 rfl ?_
  refine vr_isub hE dJ19_checkFromIndexSize_11 ?_
  refine vr_icmp_le (tgt := 23) hE dJ19_checkFromIndexSize_12 (by decide) (fun c_12 => ?_) (fun c_12 => ?_)
  · skip
    refine vr_iload_n hE dJ19_checkFromIndexSize_23 rfl ?_
    refine vr_ireturn hE hQ rfl dJ19_checkFromIndexSize_24 (by decide) ⟨_, ?_, fun H h => hW _ H h⟩
    exact ⟨rfl, rfl⟩
  · exact absurd (show nI e ≤ nI c - 0 from by rw [Int32.sub_zero]; exact nI_le he (by omega)) c_12
theorem bk_J7_cbocR {Y : bi_Y} (G : bi_GS Y) (M : va_M) (c e : Nat) (hc : c < 64) (he : e ≤ c) (tf : Nat) (hZ : bi_Z Y "jdk/internal/util/Preconditions" "SIOOBE_FORMATTER" "Ljava/util/function/BiFunction;" (.ref tf)) : bc_Met Y yJ7_checkBoundsOffCount (ws_ yJ7_checkBoundsOffCount cJ7_checkBoundsOffCount 3 (some .int)) 1 23 0 0 M [.int 0, .int (nI e), .int (nI c)] (fun v9 M' => v9 = some (.int 0) ∧ M' = M) bi_nx := by
  refine bc_Met.of (own := RJ7) (L0 := [some (.int 0), some (.int (nI e)), some (.int (nI c))]) rfl (by decide) G (Nat.le_of_ble_eq_true rfl) rfl (fun X A hE hQ hW hnl hnm => ?_)
  have hnl : ∀ q, q < 3 → q < bi_nL X := fun q h => by rw [hnl]; exact h
  refine vr_iload_n hE dJ7_checkBoundsOffCount_0 rfl ?_
  refine vr_iload_n hE dJ7_checkBoundsOffCount_1 rfl ?_
  refine vr_iload_n hE dJ7_checkBoundsOffCount_2 rfl ?_
  refine wr_gets hE hZ q595 dJ7_checkBoundsOffCount_3 ?_
  refine bc_callS hE (bk_J19_cfisR G _ c e hc he tf) ok_J19_checkFromIndexSize (lw_S q643 q644 q96 q645) rfl rfl (Nat.le_of_ble_eq_true rfl) (by decide) dJ7_checkBoundsOffCount_6 (fun _ _ _ h => h.elim) ?_
  rintro v_6 M_6 ⟨rfl, hu_6⟩
  obtain rfl := hu_6.symm
  refine vr_ireturn hE hQ rfl dJ7_checkBoundsOffCount_9 (by decide) ⟨_, ?_, fun H h => hW _ H h⟩
  exact ⟨rfl, rfl⟩
theorem bk_J7_cboc {Y : bi_Y} (G : bi_GS Y) (M : va_M) (c e : Nat) (hc : c < 64) (he : e ≤ c) : bc_Met Y yJ7_checkBoundsOffCount (ws_ yJ7_checkBoundsOffCount cJ7_checkBoundsOffCount 3 (some .int)) 1 23 0 0 M [.int 0, .int (nI e), .int (nI c)] (fun v9 M' => v9 = some (.int 0) ∧ M' = M) bi_nx := by
  obtain ⟨fv, rfl | ⟨tf, rfl⟩, hZ⟩ := zr_SF G
  · exact bk_J7_cbocN G M c e hc he hZ
  · exact bk_J7_cbocR G M c e hc he tf hZ
theorem ok_J8_checkBoundsOffCount : bi_ok yJ8_checkBoundsOffCount RJ8 3 := by decide +kernel
theorem bk_J8_checkBoundsOffCount {Y : bi_Y} (G : bi_GS Y) (M : va_M) (v c e : Nat) (f : Nat → Int32) (h_v : M v = some (eB Y (2 * c) f)) (hc : c < 64) (he : e ≤ c) : bc_Met Y yJ8_checkBoundsOffCount (ws_ yJ8_checkBoundsOffCount cJ8_checkBoundsOffCount 3 none) 2 45 0 0 M [.int 0, .int (nI e), .ref v] (fun v9 M' => v9 = none ∧ M' = M) bi_nx := by
  refine bc_Met.of (own := RJ8) (L0 := [some (.int 0), some (.int (nI e)), some (.ref v)]) rfl (by decide) G (Nat.le_of_ble_eq_true rfl) rfl (fun X A hE hQ hW hnl hnm => ?_)
  have hnl : ∀ q, q < 3 → q < bi_nL X := fun q h => by rw [hnl]; exact h
  refine vr_iload_n hE dJ8_checkBoundsOffCount_0 rfl ?_
  refine vr_iload_n hE dJ8_checkBoundsOffCount_1 rfl ?_
  refine vr_aload_n hE dJ8_checkBoundsOffCount_2 rfl ?_
  refine bc_callS hE (bk_J8_length G _ v c f h_v (by omega)) ok_J8_length (lw_S q589 q590 q81 q591) rfl rfl (Nat.le_of_ble_eq_true rfl) (by decide) dJ8_checkBoundsOffCount_3 (fun _ _ _ h => h.elim) ?_
  rintro v_3 M_3 ⟨rfl, hu_3⟩
  obtain rfl := hu_3.symm
  refine bc_callS hE (bk_J7_cboc G _ c e hc he) ok_J7_checkBoundsOffCount (lw_S q640 q641 q80 q642) rfl rfl (Nat.le_of_ble_eq_true rfl) (by decide) dJ8_checkBoundsOffCount_6 (fun _ _ _ h => h.elim) ?_
  rintro v_6 M_6 ⟨rfl, hu_6⟩
  obtain rfl := hu_6.symm
  refine vr_pop hE dJ8_checkBoundsOffCount_9 rfl ?_
  refine vr_return hE hQ dJ8_checkBoundsOffCount_10 (by decide) ⟨_, ?_, fun H h => hW _ H h⟩
  exact ⟨rfl, rfl⟩
theorem ok_J8_inflate : bi_ok yJ8_inflate RJ8 5 := by decide +kernel
theorem bk_J8_inflate {Y : bi_Y} (G : bi_GS Y) (M : va_M) (a v c e : Nat) (T : Nat → Nat) (f : Nat → Int32) (h_a : M a = some (eB Y c f)) (hne : a ≠ v) (hc : c < 64) (he : e ≤ c) (hT : ∀ j, j < e → T j < 256 ∧ f j = sb_b (T j)) (g0 : Nat → Int32) (h_v : M v = some (eB Y (2 * c) g0)) (hg0 : sb_Fit g0) : bc_Met Y yJ8_inflate (ws_ yJ8_inflate cJ8_inflate 6 none) 3 67 0 0 M [.ref a, .int 0, .ref v, .int 0, .int (nI e)] (fun v9 M' => v9 = none ∧ ∃ g, M' v = some (eB Y (2 * c) g) ∧ sb_Fit g ∧ (∀ j, j < e → g (2 * j) = sb_b (T j) ∧ g (2 * j + 1) = sb_b (T j / 256)) ∧ ∀ y, y ≠ v → M' y = M y) bi_nx := by
  refine bc_Met.of (own := RJ8) (L0 := [some (.ref a), some (.int 0), some (.ref v), some (.int 0), some (.int (nI e)), none]) rfl (by decide) G (Nat.le_of_ble_eq_true rfl) rfl (fun X A hE hQ hW hnl hnm => ?_)
  have hnl : ∀ q, q < 6 → q < bi_nL X := fun q h => by rw [hnl]; exact h
  refine vr_iload_n hE dJ8_inflate_0 rfl ?_
  refine vr_iload hE dJ8_inflate_1 rfl ?_
  refine vr_aload_n hE dJ8_inflate_3 rfl ?_
  refine bc_callS hE (bk_J8_checkBoundsOffCount G _ v c e g0 h_v hc he) ok_J8_checkBoundsOffCount (lw_S q637 q638 q81 q639) rfl rfl (Nat.le_of_ble_eq_true rfl) (by decide) dJ8_inflate_4 (fun _ _ _ h => h.elim) ?_
  rintro v_4 M_4 ⟨rfl, hu_4⟩
  obtain rfl := hu_4.symm
  refine vr_iconst (v := 0) hE dJ8_inflate_7 (by decide) ?_
  refine vr_istore hE dJ8_inflate_8 (hnl _ (by decide)) rfl ?_
  have hlp_10 : ∀ (d : Nat) (i : Nat) (g : Nat → Int32) (M1 : va_M), i + d = e → M1 a = some (eB Y c f) → M1 v = some (eB Y (2 * c) g) → sb_Fit g → (∀ j, j < i → g (2 * j) = sb_b (T j) ∧ g (2 * j + 1) = sb_b (T j / 256)) → (∀ y, y ≠ v → M1 y = M y) → bi_V Y.1 X (bc_W Y (bi_A X) M1) 0 0 10 [some (.ref a), some (.int (nI i)), some (.ref v), some (.int (nI i)), some (.int (nI e)), some (.int (nI i))] [] := by
    intro d
    induction d with
    | zero =>
      intro i g M1 hi ha1 hv1 hg1 hb1 hk1
      refine vr_iload hE dJ8_inflate_10 rfl ?_
      refine vr_iload hE dJ8_inflate_12 rfl ?_
      refine vr_icmp_ge (tgt := 41) hE dJ8_inflate_14 (by decide) (fun c_14 => ?_) (fun c_14 => ?_)
      · have hie : i = e := by omega
        refine vr_return hE hQ dJ8_inflate_41 (by decide) ⟨_, ?_, fun H h => hW _ H h⟩
        exact ⟨rfl, g, hv1, hg1, fun j hj => hb1 j (by omega), hk1⟩
      · exact absurd (nI_le (a := e) (b := i) (by omega) (by omega)) c_14
    | succ d ih =>
      intro i g M1 hi ha1 hv1 hg1 hb1 hk1
      refine vr_iload hE dJ8_inflate_10 rfl ?_
      refine vr_iload hE dJ8_inflate_12 rfl ?_
      refine vr_icmp_ge (tgt := 41) hE dJ8_inflate_14 (by decide) (fun c_14 => ?_) (fun c_14 => ?_)
      · exact absurd ((nI_leI (by omega) (by omega)).mp (show nI e ≤ nI i from c_14)) (by omega)
      skip
      refine vr_aload_n hE dJ8_inflate_17 rfl ?_
      refine vr_iload_n hE dJ8_inflate_18 rfl ?_
      refine vr_iinc hE dJ8_inflate_19 rfl (iinc_1 _) (hnl _ (by decide)) rfl ?_
      refine vr_aload_n hE dJ8_inflate_22 rfl ?_
      refine vr_iload_n hE dJ8_inflate_23 rfl ?_
      refine vr_iinc hE dJ8_inflate_24 rfl (iinc_1 _) (hnl _ (by decide)) rfl ?_
      refine bc_bald hE ha1 rfl (by omega) (by omega) dJ8_inflate_27 ?_
      refine vr_sipush (v := 255) hE dJ8_inflate_28 (by decide) ?_
      refine vr_iand hE dJ8_inflate_31 ?_
      refine vr_to (w := .int (nI (T i))) (congrArg Value.int (by rw [(hT i (by omega)).2]; exact sb_and _ (hT i (by omega)).1)) ?_
      have hTi := (hT i (by omega)).1
      refine bc_callS hE (bk_J8_putChar G _ v c i (T i) g hv1 (by omega) (by omega) (by omega)) ok_J8_putChar (lw_S q600 q601 q81 q602) rfl rfl (Nat.le_of_ble_eq_true rfl) (by decide) dJ8_inflate_32 (fun _ _ _ h => h.elim) ?_
      rintro v_32 M_32 ⟨rfl, e_32⟩
      have ha_32 := (congrFun e_32 a).trans ((bu_ne hne).trans ha1)
      have hv_32 := (congrFun e_32 v).trans (bu_self _ _ _)
      refine vr_iinc hE dJ8_inflate_35 rfl (iinc_1 _) (hnl _ (by decide)) rfl ?_
      refine vr_goto (tgt := 10) hE dJ8_inflate_38 (by decide) ?_
      refine ih (i + 1) _ M_32 (by omega) ha_32 hv_32 (fit_fx (fit_fx hg1)) (fun j hj => ?_) (fun y hy => (congrFun e_32 y).trans ((bu_ne hy).trans (hk1 y hy)))
      by_cases hji : j = i
      · subst hji; exact ⟨fx_0, fx_1⟩
      · rw [fx_n (by omega) (by omega), fx_n (by omega) (by omega)]; exact hb1 j (by omega)
  exact hlp_10 e 0 _ M (Nat.zero_add _) h_a h_v hg0 (fun j hj => absurd hj (Nat.not_lt_zero _)) (fun _ _ => rfl)
theorem ok_J20_inflate : bi_ok yJ20_inflate RJ20 5 := by decide +kernel
theorem bk_J20_inflate {Y : bi_Y} (G : bi_GS Y) (M : va_M) (a v c e : Nat) (T : Nat → Nat) (f : Nat → Int32) (h_a : M a = some (eB Y c f)) (hne : a ≠ v) (hc : c < 64) (he : e ≤ c) (hT : ∀ j, j < e → T j < 256 ∧ f j = sb_b (T j)) (g0 : Nat → Int32) (h_v : M v = some (eB Y (2 * c) g0)) (hg0 : sb_Fit g0) : bc_Met Y yJ20_inflate (ws_ yJ20_inflate cJ20_inflate 5 none) 4 92 0 0 M [.ref a, .int 0, .ref v, .int 0, .int (nI e)] (fun v9 M' => v9 = none ∧ ∃ g, M' v = some (eB Y (2 * c) g) ∧ sb_Fit g ∧ (∀ j, j < e → g (2 * j) = sb_b (T j) ∧ g (2 * j + 1) = sb_b (T j / 256)) ∧ ∀ y, y ≠ v → M' y = M y) bi_nx := by
  refine bc_Met.of (own := RJ20) (L0 := [some (.ref a), some (.int 0), some (.ref v), some (.int 0), some (.int (nI e))]) rfl (by decide) G (Nat.le_of_ble_eq_true rfl) rfl (fun X A hE hQ hW hnl hnm => ?_)
  have hnl : ∀ q, q < 5 → q < bi_nL X := fun q h => by rw [hnl]; exact h
  refine vr_aload_n hE dJ20_inflate_0 rfl ?_
  refine vr_iload_n hE dJ20_inflate_1 rfl ?_
  refine vr_aload_n hE dJ20_inflate_2 rfl ?_
  refine vr_iload_n hE dJ20_inflate_3 rfl ?_
  refine vr_iload hE dJ20_inflate_4 rfl ?_
  refine bc_callS hE (bk_J8_inflate G _ a v c e T f h_a hne hc he hT g0 h_v hg0) ok_J8_inflate (lw_S q634 q635 q81 q636) rfl rfl (Nat.le_of_ble_eq_true rfl) (by decide) dJ20_inflate_6 (fun _ _ _ h => h.elim) ?_
  rintro v_6 M_6 ⟨rfl, h_6⟩
  refine vr_return hE hQ dJ20_inflate_9 (by decide) ⟨_, ?_, fun H h => hW _ H h⟩
  exact ⟨rfl, h_6⟩
theorem ok_J8_newBytesLength : bi_ok yJ8_newBytesLength RJ8 1 := by decide +kernel
theorem bk_J8_newBytesLength {Y : bi_Y} (G : bi_GS Y) (M : va_M) (c : Nat) (hc : c < 100) : bc_Met Y yJ8_newBytesLength (ws_ yJ8_newBytesLength cJ8_newBytesLength 1 (some .int)) 0 0 0 0 M [.int (nI c)] (fun v9 M' => v9 = some (.int (nI (2 * c))) ∧ M' = M) bi_nx := by
  refine bc_Met.of (own := RJ8) (L0 := [some (.int (nI c))]) rfl (by decide) G (Nat.le_of_ble_eq_true rfl) rfl (fun X A hE hQ hW hnl hnm => ?_)
  have hnl : ∀ q, q < 1 → q < bi_nL X := fun q h => by rw [hnl]; exact h
  refine vr_iload_n hE dJ8_newBytesLength_0 rfl ?_
  refine vr_if_ge (tgt := 12) hE dJ8_newBytesLength_1 (by decide) (fun c_1 => ?_) (fun c_1 => ?_)
  · skip
    refine vr_iload_n hE dJ8_newBytesLength_12 rfl ?_
    refine vr_ldcI hE q239 dJ8_newBytesLength_13 ?_
    refine vr_icmp_lt (tgt := 55) hE dJ8_newBytesLength_15 (by decide) (fun c_15 => ?_) (fun c_15 => ?_)
    · skip
      refine vr_iload_n hE dJ8_newBytesLength_55 rfl ?_
      refine vr_iconst (v := 1) hE dJ8_newBytesLength_56 (by decide) ?_
      refine vr_ishl (v := (nI (2 * c))) hE dJ8_newBytesLength_57 (shl1 c (by omega)) ?_
      refine vr_ireturn hE hQ rfl dJ8_newBytesLength_58 (by decide) ⟨_, ?_, fun H h => hW _ H h⟩
      exact ⟨rfl, rfl⟩
    · exact absurd (nI_lt (a := c) (b := 1073741823) (by omega) (by decide)) c_15
  · exact absurd (nI_le (a := 0) (b := c) (Nat.zero_le _) (by omega)) c_1
theorem ok_J8_newBytesFor : bi_ok yJ8_newBytesFor RJ8 1 := by decide +kernel
theorem bk_J8_newBytesFor {Y : bi_Y} (G : bi_GS Y) (M : va_M) (c : Nat) (hc : c < 100) : bc_Met Y yJ8_newBytesFor (ws_ yJ8_newBytesFor cJ8_newBytesFor 1 (some (.array .byte))) 1 20 1 200 M [.int (nI c)] (fun v9 M' => ∃ q, v9 = some (.ref q) ∧ M q = none ∧ M' = bu M q (eB Y (2 * c) (fun _ => 0))) bi_nx := by
  refine bc_Met.of (own := RJ8) (L0 := [some (.int (nI c))]) rfl (by decide) G (Nat.le_of_ble_eq_true rfl) rfl (fun X A hE hQ hW hnl hnm => ?_)
  have hnl : ∀ q, q < 1 → q < bi_nL X := fun q h => by rw [hnl]; exact h
  refine vr_iload_n hE dJ8_newBytesFor_0 rfl ?_
  refine bc_callS hE (bk_J8_newBytesLength G _ c hc) ok_J8_newBytesLength (lw_S q236 q237 q81 q238) rfl rfl (Nat.le_of_ble_eq_true rfl) (by decide) dJ8_newBytesFor_1 (fun _ _ _ h => h.elim) ?_
  rintro v_1 M_1 ⟨rfl, hu_1⟩
  obtain rfl := hu_1.symm
  refine bc_newb (N := (2 * c)) hE q254 rfl (by omega) ⟨by omega, by omega⟩ dJ8_newBytesFor_4 (fun q hn_q => ?_)
  refine bc_nm (fun M_4 e_4 => ?_)
  have hz_q : M q = none := hn_q
  have hq_4 := (congrFun e_4 q).trans (bu_self _ _ _)
  refine vr_areturn hE hQ (Or.inr ⟨_, rfl⟩) (Or.inr ⟨_, rfl⟩) dJ8_newBytesFor_6 ⟨by omega, by omega⟩ ⟨_, ?_, fun H h => hW _ H h⟩
  subst e_4
  exact ⟨q, rfl, hn_q, rfl⟩
theorem ok_J5_inflate : bi_ok yJ5_inflate RJ5 0 := by decide +kernel
theorem bk_J5_inflate {Y : bi_Y} (G : bi_GS Y) (M : va_M) (sb v c e : Nat) (mb : Int32) (T : Nat → Nat) (f : Nat → Int32) (hB : BfL Y M sb v mb c e f) (hT : ∀ j, j < e → T j < 256 ∧ f j = sb_b (T j)) : bc_Met Y yJ5_inflate (ws_ yJ5_inflate cJ5_inflate 2 none) 5 116 1 200 M [.ref sb] (fun v9 M' => v9 = none ∧ ∃ v' f', BfU Y M' sb v' mb c e f' ∧ (∀ j, j < e → f' (2 * j) = sb_b (T j) ∧ f' (2 * j + 1) = sb_b (T j / 256)) ∧ (∀ q x, M q = some x → q ≠ sb → M' q = some x) ∧ M v' = none) bi_nx := by
  obtain ⟨h_sb, h_v, hF, hc, he⟩ := id hB
  have hc64 : c < 64 := by omega
  refine bc_Met.of (own := RJ5) (L0 := [some (.ref sb), none]) rfl (by decide) G (Nat.le_of_ble_eq_true rfl) rfl (fun X A hE hQ hW hnl hnm => ?_)
  have hnl : ∀ q, q < 2 → q < bi_nL X := fun q h => by rw [hnl]; exact h
  refine vr_aload_n hE dJ5_inflate_0 rfl ?_
  refine bc_callO (ar := 0) hE (bk_J5_isLatin1L G _ sb v mb _ h_sb) kc_J6 h_sb rfl ⟨by decide, by decide, by decide +kernel⟩ (lw_U q578 q580 q581 q579 q78 q582) rfl rfl (Nat.le_of_ble_eq_true rfl) (by decide) dJ5_inflate_1 (fun _ _ _ h => h.elim) ?_
  rintro v_1 M_1 ⟨rfl, hu_1⟩
  obtain rfl := hu_1.symm
  refine vr_if_ne (tgt := 8) hE dJ5_inflate_4 (by decide) (fun c_4 => ?_) (fun c_4 => ?_)
  · skip
    refine vr_aload_n hE dJ5_inflate_8 rfl ?_
    refine bc_get (z := 0) hE kc_J6 (by decide) q240 (Or.inl rfl) h_sb rfl dJ5_inflate_9 ?_
    refine bc_alen (t0 := 1) hE rfl h_v dJ5_inflate_12 ?_
    refine bc_callS hE (bk_J8_newBytesFor G _ c (by omega)) ok_J8_newBytesFor (lw_S q233 q234 q81 q235) rfl rfl (Nat.le_of_ble_eq_true rfl) (by decide) dJ5_inflate_13 (fun _ _ _ h => h.elim) ?_
    rintro v_13 M_13 ⟨q, rfl, hnq, e_13⟩
    have hq_13 := (congrFun e_13 q).trans (bu_self _ _ _)
    have hx_13 : ∀ y x, M y = some x → M_13 y = some x := fun y x z => (congrFun e_13 y).trans ((bu_ne (bc_new_ne z hnq)).trans z)
    refine vr_astore_n hE dJ5_inflate_16 (hnl _ (by decide)) rfl ?_
    refine vr_aload_n hE dJ5_inflate_17 rfl ?_
    refine bc_get (z := 0) hE kc_J6 (by decide) q240 (Or.inl rfl) (hx_13 _ _ h_sb) rfl dJ5_inflate_18 ?_
    refine vr_iconst (v := 0) hE dJ5_inflate_21 (by decide) ?_
    refine vr_aload_n hE dJ5_inflate_22 rfl ?_
    refine vr_iconst (v := 0) hE dJ5_inflate_23 (by decide) ?_
    refine vr_aload_n hE dJ5_inflate_24 rfl ?_
    refine bc_get (z := 3) hE kc_J6 (by decide) q244 (Or.inl rfl) (hx_13 _ _ h_sb) rfl dJ5_inflate_25 ?_
    refine bc_callS hE (bk_J20_inflate G _ v q c e T f (hx_13 _ _ h_v) (bc_new_ne h_v hnq) hc64 he hT _ hq_13 sb_fit0) ok_J20_inflate (lw_S q631 q632 q97 q633) rfl rfl (Nat.le_of_ble_eq_true rfl) (by decide) dJ5_inflate_28 (fun _ _ _ h => h.elim) ?_
    rintro v_28 M_28 ⟨rfl, g9, hq_28, hg9, hb9, hk_28⟩
    have hqs : sb ≠ q := bc_new_ne h_sb hnq
    have hsb_28 := (hk_28 sb hqs).trans (hx_13 _ _ h_sb)
    refine vr_aload_n hE dJ5_inflate_31 rfl ?_
    refine vr_aload_n hE dJ5_inflate_32 rfl ?_
    refine bc_put (z := 0) hE kc_J6 (by decide) q240 (Or.inl rfl) rfl hsb_28 rfl rfl (Nat.le_of_ble_eq_true rfl) dJ5_inflate_33 (by first | decide | omega) ?_
    refine bc_nm (fun M_33 e_33 => ?_)
    have hq_33 := (congrFun e_33 q).trans ((bu_ne (Ne.symm hqs)).trans hq_28)
    have hsb_33 := (congrFun e_33 sb).trans (bu_self _ _ _)
    refine vr_aload_n hE dJ5_inflate_36 rfl ?_
    refine vr_iconst (v := 1) hE dJ5_inflate_37 (by decide) ?_
    refine bc_put (z := 1) hE kc_J6 (by decide) q241 (Or.inl rfl) rfl hsb_33 rfl rfl (Nat.le_of_ble_eq_true rfl) dJ5_inflate_38 (by first | decide | omega) ?_
    refine bc_nm (fun M_38 e_38 => ?_)
    have hq_38 := (congrFun e_38 q).trans ((bu_ne (Ne.symm hqs)).trans hq_33)
    have hsb_38 := (congrFun e_38 sb).trans (bu_self _ _ _)
    refine vr_return hE hQ dJ5_inflate_41 (by decide) ⟨_, ?_, fun H h => hW _ H h⟩
    refine ⟨rfl, q, g9, ⟨hsb_38, hq_38, hg9, hc, he⟩, hb9, fun y x hy hys => ?_, hnq⟩
    have hyq : y ≠ q := bc_new_ne hy hnq
    exact (congrFun e_38 y).trans ((bu_ne hys).trans ((congrFun e_33 y).trans ((bu_ne hys).trans ((hk_28 y hyq).trans (hx_13 y x hy)))))
  · exact absurd c_4 (by decide)
