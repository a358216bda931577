/-! the Reader's words -/
set_option maxRecDepth 100000
theorem ev_se {Y : bi_Y} (G : bi_GS Y) {t1 t2 : Term} (q : bi_NL (Cond.eq t1 t2)) {a : Nat} (h : ev_ Y t2 a) : ev_ Y t1 a := by
  have z := bi_nl G q
  unfold ev_ at h ⊢
  cases h1 : t1.eval #[Value.ref Y.2.2.2] Y.2.2.1 none [] Y.2.2.1 with
  | none => simp [Cond.before, Cond.holds, Cond.value, h1] at z
  | some w =>
    simp only [Cond.before, Cond.holds, Cond.value, h, h1] at z
    cases w <;> simp_all
theorem ok_J20_indexOfChar : bi_ok yJ20_indexOfChar RJ20 4 := by decide +kernel
theorem bk_J20_indexOfChar {Y : bi_Y} (G : bi_GS Y) (M : va_M) (a c : Nat) (t : List Nat) (ha : ∀ H, bi_B Y H → bi_arr Y .byte a t.length (fun j => .int (sb_b (t.getD j 0))) H) (htl : t.length < 100) (h8 : ∀ c ∈ t, c < 256) (hc : c < 256) : bc_Met Y yJ20_indexOfChar (ws_ yJ20_indexOfChar cJ20_indexOfChar 6 (some .int)) 0 0 0 0 M [.ref a, .int (nI c), .int 0, .int (nI t.length)] (fun v9 M' => (c ∈ t → ∃ j, v9 = some (.int (nI j)) ∧ j < t.length) ∧ (¬ c ∈ t → v9 = some (.int (-1))) ∧ M' = M) bi_nx := by
  refine bc_Met.of (own := RJ20) (L0 := [some (.ref a), some (.int (nI c)), some (.int 0), some (.int (nI t.length)), none, none]) rfl (by decide) G (Nat.le_of_ble_eq_true rfl) rfl (fun X A hE hQ hW hnl hnm => ?_)
  have hnl : ∀ q, q < 6 → q < bi_nL X := fun q h => by rw [hnl]; exact h
  refine vr_iload_n hE dJ20_indexOfChar_0 rfl ?_
  refine vr_i2b (v := (sb_b c)) hE dJ20_indexOfChar_1 rfl ?_
  refine vr_istore hE dJ20_indexOfChar_2 (hnl _ (by decide)) rfl ?_
  refine vr_iload_n hE dJ20_indexOfChar_4 rfl ?_
  refine vr_istore hE dJ20_indexOfChar_5 (hnl _ (by decide)) rfl ?_
  have hlp_7 : ∀ (d : Nat) (i : Nat), i + d = t.length → (∀ j, j < i → t.getD j 0 ≠ c) → bi_V Y.1 X (bc_W Y (bi_A X) M) 0 0 7 [some (.ref a), some (.int (nI c)), some (.int 0), some (.int (nI t.length)), some (.int (sb_b c)), some (.int (nI i))] [] := by
    intro d
    induction d with
    | zero =>
      intro i hi hno
      refine vr_iload hE dJ20_indexOfChar_7 rfl ?_
      refine vr_iload_n hE dJ20_indexOfChar_9 rfl ?_
      refine vr_icmp_ge (tgt := 31) hE dJ20_indexOfChar_10 (by decide) (fun c_10 => ?_) (fun c_10 => ?_)
      · skip
        refine vr_iconst (v := -1) hE dJ20_indexOfChar_31 (by decide) ?_
        refine vr_ireturn hE hQ rfl dJ20_indexOfChar_32 (by decide) ⟨_, ?_, fun H h => hW _ H h⟩
        have hn : ¬ c ∈ t := fun hm => by
          obtain ⟨j, hj, e⟩ := List.getElem_of_mem hm
          refine hno j (by omega) ?_
          rw [List.getD_eq_getElem?_getD, List.getElem?_eq_getElem hj, Option.getD_some]
          exact e
        exact ⟨fun z => absurd z hn, fun _ => rfl, rfl⟩
      · exact absurd ((nI_leI (a := t.length) (b := i) (by omega) (by omega)).mpr (by omega)) c_10
    | succ d ih =>
      intro i hi hno
      refine vr_iload hE dJ20_indexOfChar_7 rfl ?_
      refine vr_iload_n hE dJ20_indexOfChar_9 rfl ?_
      refine vr_icmp_ge (tgt := 31) hE dJ20_indexOfChar_10 (by decide) (fun c_10 => ?_) (fun c_10 => ?_)
      · exact absurd ((nI_leI (a := t.length) (b := i) (by omega) (by omega)).mp c_10) (by omega)
      have hti : t.getD i 0 ∈ t := by
        rw [List.getD_eq_getElem?_getD, List.getElem?_eq_getElem (by omega), Option.getD_some]
        exact List.getElem_mem _
      refine vr_aload_n hE dJ20_indexOfChar_13 rfl ?_
      refine vr_iload hE dJ20_indexOfChar_14 rfl ?_
      refine wr_bald hE (fun H hB9 _ => ha H hB9) rfl (by omega) (by omega) dJ20_indexOfChar_16 ?_
      refine vr_iload hE dJ20_indexOfChar_17 rfl ?_
      refine vr_icmp_ne (tgt := 25) hE dJ20_indexOfChar_19 (by decide) (fun c_19 => ?_) (fun c_19 => ?_)
      · skip
        refine vr_iinc hE dJ20_indexOfChar_25 rfl (iinc_1 _) (hnl _ (by decide)) rfl ?_
        refine vr_goto (tgt := 7) hE dJ20_indexOfChar_28 (by decide) ?_
        refine ih (i + 1) (by omega) (fun j hj => ?_)
        by_cases hji : j = i
        · subst hji; exact fun z => c_19 (by rw [z])
        · exact hno j (by omega)
      · have hic : t.getD i 0 = c := sb_inj _ (h8 _ hti) _ hc c_19
        refine vr_iload hE dJ20_indexOfChar_22 rfl ?_
        refine vr_ireturn hE hQ rfl dJ20_indexOfChar_24 (by decide) ⟨_, ?_, fun H h => hW _ H h⟩
        exact ⟨fun _ => ⟨i, rfl, by omega⟩, fun z => absurd (hic ▸ hti) z, rfl⟩
  exact hlp_7 t.length 0 (Nat.zero_add _) (fun j hj => absurd hj (Nat.not_lt_zero _))
theorem ok_J20_canEncode_2 : bi_ok yJ20_canEncode_2 RJ20 1 := by decide +kernel
theorem bk_J20_canEncode_2 {Y : bi_Y} (G : bi_GS Y) (M : va_M) (c : Nat) (hc : c < 65536) : bc_Met Y yJ20_canEncode_2 (ws_ yJ20_canEncode_2 cJ20_canEncode_2 1 (some .boolean)) 0 0 0 0 M [.int (nI c)] (fun v9 M' => v9 = some (.int (if c < 256 then 1 else 0)) ∧ M' = M) bi_nx := by
  refine bc_Met.of (own := RJ20) (L0 := [some (.int (nI c))]) rfl (by decide) G (Nat.le_of_ble_eq_true rfl) rfl (fun X A hE hQ hW hnl hnm => ?_)
  have hnl : ∀ q, q < 1 → q < bi_nL X := fun q h => by rw [hnl]; exact h
  refine vr_iload_n hE dJ20_canEncode_2_0 rfl ?_
  refine vr_if_lt (tgt := 15) hE dJ20_canEncode_2_1 (by decide) (fun c_1 => ?_) (fun c_1 => ?_)
  · exact absurd c_1 (nI_pos (by omega))
  skip
  refine vr_iload_n hE dJ20_canEncode_2_4 rfl ?_
  refine vr_sipush (v := 255) hE dJ20_canEncode_2_5 (by decide) ?_
  refine vr_icmp_gt (tgt := 15) hE dJ20_canEncode_2_8 (by decide) (fun c_8 => ?_) (fun c_8 => ?_)
  · have hn : ¬ c < 256 := fun z => absurd c_8 (nI_nlt (a := 255) (b := c) (by omega) (by decide))
    refine vr_iconst (v := 0) hE dJ20_canEncode_2_15 (by decide) ?_
    refine vr_ireturn hE hQ rfl dJ20_canEncode_2_16 (by decide) ⟨_, ?_, fun H h => hW _ H h⟩
    exact ⟨by rw [if_neg hn], rfl⟩
  · have hn : c < 256 := Classical.byContradiction fun z => c_8 (nI_lt (a := 255) (b := c) (by omega) (by omega))
    refine vr_iconst (v := 1) hE dJ20_canEncode_2_11 (by decide) ?_
    refine vr_goto (tgt := 16) hE dJ20_canEncode_2_12 (by decide) ?_
    refine vr_ireturn hE hQ rfl dJ20_canEncode_2_16 (by decide) ⟨_, ?_, fun H h => hW _ H h⟩
    exact ⟨by rw [if_pos hn], rfl⟩
theorem ok_J20_indexOf : bi_ok yJ20_indexOf RJ20 4 := by decide +kernel
theorem bk_J20_indexOf {Y : bi_Y} (G : bi_GS Y) (M : va_M) (a c : Nat) (t : List Nat) (ha : ∀ H, bi_B Y H → bi_arr Y .byte a t.length (fun j => .int (sb_b (t.getD j 0))) H) (htl : t.length < 100) (h8 : ∀ c ∈ t, c < 256) (hc : c < 65536) (ht0 : 0 < t.length) : bc_Met Y yJ20_indexOf (ws_ yJ20_indexOf cJ20_indexOf 4 (some .int)) 1 28 0 0 M [.ref a, .int (nI c), .int 0, .int (nI t.length)] (fun v9 M' => (c ∈ t → ∃ j, v9 = some (.int (nI j)) ∧ j < t.length) ∧ (¬ c ∈ t → v9 = some (.int (-1))) ∧ M' = M) bi_nx := by
  refine bc_Met.of (own := RJ20) (L0 := [some (.ref a), some (.int (nI c)), some (.int 0), some (.int (nI t.length))]) rfl (by decide) G (Nat.le_of_ble_eq_true rfl) rfl (fun X A hE hQ hW hnl hnm => ?_)
  have hnl : ∀ q, q < 4 → q < bi_nL X := fun q h => by rw [hnl]; exact h
  refine vr_iload_n hE dJ20_indexOf_0 rfl ?_
  refine bc_callS hE (bk_J20_canEncode_2 G _ c hc) ok_J20_canEncode_2 (lw_S q2176 q2177 q97 q2178) rfl rfl (Nat.le_of_ble_eq_true rfl) (by decide) dJ20_indexOf_1 (fun _ _ _ h => h.elim) ?_
  rintro v_1 M_1 ⟨rfl, hu_1⟩
  obtain rfl := hu_1.symm
  refine vr_if_ne (tgt := 9) hE dJ20_indexOf_4 (by decide) (fun c_4 => ?_) (fun c_4 => ?_)
  · have h256 : c < 256 := Classical.byContradiction fun z => c_4 (if_neg z)
    refine vr_iload_n hE dJ20_indexOf_9 rfl ?_
    refine vr_iconst (v := 0) hE dJ20_indexOf_10 (by decide) ?_
    refine vr_mmax hE q2179 q557 q94 q558 ⟨by decide, Nat.le_of_ble_eq_true rfl, by first | decide | omega, by first | decide | omega⟩ dJ20_indexOf_11 ?_
    refine vr_to (w := .int 0) rfl ?_
    refine vr_istore_n hE dJ20_indexOf_14 (hnl _ (by decide)) rfl ?_
    refine vr_iload_n hE dJ20_indexOf_15 rfl ?_
    refine vr_aload_n hE dJ20_indexOf_16 rfl ?_
    refine wr_alen hE (fun H hB9 _ => ha H hB9) dJ20_indexOf_17 ?_
    refine vr_mmin hE q2180 q575 q94 q576 ⟨by decide, Nat.le_of_ble_eq_true rfl, by first | decide | omega, by first | decide | omega⟩ dJ20_indexOf_18 ?_
    refine vr_to (w := .int (nI t.length)) (congrArg Value.int (show (if nI t.length < nI t.length then nI t.length else nI t.length) = _ from by split <;> rfl)) ?_
    refine vr_istore_n hE dJ20_indexOf_21 (hnl _ (by decide)) rfl ?_
    refine vr_iload_n hE dJ20_indexOf_22 rfl ?_
    refine vr_iload_n hE dJ20_indexOf_23 rfl ?_
    refine vr_icmp_lt (tgt := 29) hE dJ20_indexOf_24 (by decide) (fun c_24 => ?_) (fun c_24 => ?_)
    · skip
      refine vr_aload_n hE dJ20_indexOf_29 rfl ?_
      refine vr_iload_n hE dJ20_indexOf_30 rfl ?_
      refine vr_iload_n hE dJ20_indexOf_31 rfl ?_
      refine vr_iload_n hE dJ20_indexOf_32 rfl ?_
      refine bc_callS hE (bk_J20_indexOfChar G _ a c t ha htl h8 h256) ok_J20_indexOfChar (lw_S q2181 q2182 q97 q2183) rfl rfl (Nat.le_of_ble_eq_true rfl) (by decide) dJ20_indexOf_33 (fun _ _ _ h => h.elim) ?_
      rintro v_33 M_33 ⟨h1_33, h2_33, rfl⟩
      by_cases hcm : c ∈ t
      · obtain ⟨j, hj1, hj2⟩ := h1_33 hcm
        subst hj1
        refine vr_ireturn hE hQ rfl dJ20_indexOf_36 (by decide) ⟨_, ?_, fun H h => hW _ H h⟩
        exact ⟨fun _ => ⟨j, rfl, hj2⟩, fun z => absurd hcm z, rfl⟩
      obtain rfl := (h2_33 hcm)
      refine vr_ireturn hE hQ rfl dJ20_indexOf_36 (by decide) ⟨_, ?_, fun H h => hW _ H h⟩
      exact ⟨fun z => absurd z hcm, fun _ => rfl, rfl⟩
    · exact absurd (nI_lt (a := 0) (b := t.length) ht0 (by omega)) c_24
  · have h256 : ¬ c < 256 := fun z => absurd c_4 (by rw [if_pos z]; decide)
    refine vr_iconst (v := -1) hE dJ20_indexOf_7 (by decide) ?_
    refine vr_ireturn hE hQ rfl dJ20_indexOf_8 (by decide) ⟨_, ?_, fun H h => hW _ H h⟩
    exact ⟨fun z => absurd (h8 c z) h256, fun _ => rfl, rfl⟩
