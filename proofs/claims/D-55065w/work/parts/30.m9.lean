/-! the reference writes -/
set_option maxRecDepth 100000
def m_out (σ : bi_S) (L : List Int32) : bi_S := setR (sF σ 13 (nI L.length)) 6 (fun k => if k < L.length then L.getD k 0 else σ.2 6 k)
theorem m_out_put (σ : bi_S) (L : List Int32) (c : Int32) : sF (sA (m_out σ L) 6 L.length c) 13 (nI (L.length + 1)) = m_out σ (L ++ [c]) := by
  refine Prod.ext ?_ (funext fun i => ?_)
  · show upd (upd σ.1 13 (nI L.length)) 13 (nI (L.length + 1)) = upd σ.1 13 (nI (L ++ [c]).length)
    rw [List.length_append]
    funext k
    simp only [upd]
    by_cases h : k = 13 <;> simp [h]
  · by_cases h : i = 6
    · subst h
      show upd (fun k => if k < L.length then L.getD k 0 else σ.2 6 k) L.length c = fun k => if k < (L ++ [c]).length then (L ++ [c]).getD k 0 else σ.2 6 k
      funext k
      simp only [upd, List.length_append, List.length_cons, List.length_nil]
      by_cases h1 : k = L.length
      · subst h1
        rw [if_pos rfl, if_pos (by omega), List.getD_eq_getElem?_getD, List.getElem?_append_right (Nat.le_refl _), Nat.sub_self]
        rfl
      · rw [if_neg h1]
        by_cases h2 : k < L.length
        · rw [if_pos h2, if_pos (by omega), List.getD_eq_getElem?_getD, List.getD_eq_getElem?_getD, List.getElem?_append_left h2]
        · rw [if_neg h2, if_neg (by omega)]
    · show (if i = 6 then _ else (if i = 6 then _ else σ.2 i)) = (if i = 6 then _ else σ.2 i)
      rw [if_neg h, if_neg h, if_neg h]
theorem m_out_nil (σ : bi_S) : sF σ 13 0 = m_out σ [] := by
  refine Prod.ext rfl (funext fun i => ?_)
  show σ.2 i = if i = 6 then _ else σ.2 i
  by_cases h : i = 6
  · subst h; rfl
  · rw [if_neg h]
def m_dg (v : Nat) : Nat → List Int32
  | 0 => []
  | k + 1 => nI (48 + v / 10 ^ k % 10) :: m_dg v k
def m_kf (v : Nat) : Nat → Nat → Nat
  | 0, k => k
  | c + 1, k => if v / 10 ^ k ≤ 9 then k else m_kf v c (k + 1)
/-- the digits of a number -/
def m_dec (v : Nat) : List Int32 := m_dg v (m_kf v 9 0 + 1)
theorem m_dg_len (v : Nat) : ∀ k, (m_dg v k).length = k := by
  intro k
  induction k with
  | zero => rfl
  | succ k ih => simp [m_dg, ih]
theorem m_kf_le (v : Nat) : ∀ c k, m_kf v c k ≤ c + k := by
  intro c
  induction c with
  | zero => intro k; simp [m_kf]
  | succ c ih =>
    intro k
    simp only [m_kf]
    split
    · omega
    · have := ih (k + 1); omega
theorem m_dec_len (v : Nat) : (m_dec v).length ≤ 10 := by
  unfold m_dec
  rw [m_dg_len]
  have := m_kf_le v 9 0
  omega
theorem m_dec_len1 {v : Nat} (h : v ≤ 9) : (m_dec v).length = 1 := by
  unfold m_dec
  rw [m_dg_len]
  show (if v / 10 ^ 0 ≤ 9 then 0 else _) + 1 = 1
  rw [if_pos (by rw [Nat.pow_zero, Nat.div_one]; exact h)]
theorem p10_lt : ∀ k, k ≤ 9 → 10 ^ k < 2 ^ 31 := by decide
theorem p10_pos (k : Nat) : 0 < 10 ^ k := Nat.pow_pos (by decide)
def m_p10 (j : Nat) : Nat := if j = 0 then 0 else 10 ^ (j - 1)
theorem m_p10_d (j : Nat) : 10 ^ j / 10 = m_p10 j := by
  unfold m_p10
  cases j with
  | zero => rfl
  | succ j => rw [if_neg (Nat.succ_ne_zero j), Nat.pow_succ, Nat.mul_div_cancel _ (by decide)]; rfl
def KW_seal : List Nat := [32, 115, 101, 97, 108, 32]
def KW_barred : List Nat := [32, 98, 97, 114, 114, 101, 100]
def m_l1_ (s : Nat → Int32) (t : Nat) : List Int32 := m_dec t ++ [64] ++ m_dec (ix (s (15 + t))) ++ [32] ++ m_dec (ix (s (25 + t)))
def m_l2_ (s : Nat → Int32) (t : Nat) : List Int32 := if s (35 + t) ≤ 0 then [] else [47] ++ m_dec (ix (s (35 + t)))
def m_l3_ (s : Nat → Int32) (t : Nat) : List Int32 := if s (65 + t) = -1 then [] else KW_seal.map nI ++ m_dec (ix (s (65 + t)))
def m_l4_ (s : Nat → Int32) (t : Nat) : List Int32 := if m_barred s t = 0 then [] else KW_barred.map nI
def m_line (s : Nat → Int32) (t : Nat) : List Int32 := m_l1_ s t ++ m_l2_ s t ++ m_l3_ s t ++ m_l4_ s t
def m_describe (σ : bi_S) (a : Int32) : bi_P2 := if in_ a 0 (σ.2 0 1 - 1) = 0 then m_no (m_pre σ) 1 else (m_out (m_pre σ) (m_line (σ.2 0) (ix a)), nI (m_line (σ.2 0) (ix a)).length)
/-! .. walked -/
theorem ok_X3_puts : bi_ok yX3_puts RX3 1 := by decide +kernel
theorem mo_puts {Y : bi_Y} {mo : Nat} {ad : Nat → Nat} (G : mo_G Y mo ad) (σ : bi_S) (L : List Int32) (hL : L.length < 60) (c : Int32) : bi_Met Y yX3_puts (ws_ yX3_puts cX3_puts 2 none) 0 0 0 0 (mo_P Y.2.1 mo ad (m_out σ L)) (mo_F mo ad) [.ref mo, .int c] (fun v u => v = none ∧ u = m_out σ (L ++ [c])) bi_nx (mo_P Y.2.1 mo ad) := by
  refine bi_Met.of (own := RX3) (L0 := [some (.ref mo), some (.int c)]) rfl (by decide) G.1 G.2 (Nat.le_of_ble_eq_true rfl) rfl (fun X hE hQ hA hnl hnm => ?_)
  have hnl : ∀ q, q < 2 → q < bi_nL X := fun q h => by rw [hnl]; exact h
  refine vr_aload_n hE dX3_puts_0 rfl ?_
  refine mr_get hE (z := 9) (by decide) q2516 rfl rfl dX3_puts_1 ?_
  refine vr_aload_n hE dX3_puts_4 rfl ?_
  refine mr_get hE (z := 13) (by decide) q2520 rfl rfl dX3_puts_5 ?_
  refine vr_iload_n hE dX3_puts_8 rfl ?_
  refine mr_ast hE hA (j := 6) (by decide) rfl (by show _ < 60; omega) dX3_puts_9 ?_
  refine vr_aload_n hE dX3_puts_10 rfl ?_
  refine vr_dup hE dX3_puts_11 rfl ?_
  refine mr_get hE (z := 13) (by decide) q2520 rfl rfl dX3_puts_12 ?_
  refine vr_iconst (v := 1) hE dX3_puts_15 (by decide) ?_
  refine vr_iadd hE dX3_puts_16 ?_
  refine vr_to (w := .int (nI (L.length + 1))) (congrArg Value.int (nI_1 _)) ?_
  refine mr_put hE hA (z := 13) (by decide) q2520 rfl rfl rfl rfl (fun _ => rfl) dX3_puts_17 ?_
  refine vr_return hE hQ dX3_puts_20 (by decide) ⟨_, ?_, fun H h => h⟩
  exact ⟨rfl, m_out_put σ L c⟩
theorem ok_X3_putsNumber : bi_ok yX3_putsNumber RX3 1 := by decide +kernel
theorem mo_putsNumber {Y : bi_Y} {mo : Nat} {ad : Nat → Nat} (G : mo_G Y mo ad) (σ : bi_S) (L : List Int32) (v : Nat) (hv : v < 2 ^ 31) (hlen : L.length + (m_dec v).length ≤ 60) : bi_Met Y yX3_putsNumber (ws_ yX3_putsNumber cX3_putsNumber 4 none) 1 21 0 0 (mo_P Y.2.1 mo ad (m_out σ L)) (mo_F mo ad) [.ref mo, .int (nI v)] (fun v9 u => v9 = none ∧ u = m_out σ (L ++ m_dec v)) bi_nx (mo_P Y.2.1 mo ad) := by
  refine bi_Met.of (own := RX3) (L0 := [some (.ref mo), some (.int (nI v)), none, none]) rfl (by decide) G.1 G.2 (Nat.le_of_ble_eq_true rfl) rfl (fun X hE hQ hA hnl hnm => ?_)
  have hnl : ∀ q, q < 4 → q < bi_nL X := fun q h => by rw [hnl]; exact h
  refine vr_iconst (v := 1) hE dX3_putsNumber_0 (by decide) ?_
  refine vr_istore_n hE dX3_putsNumber_1 (hnl _ (by decide)) rfl ?_
  have hlp_20 : ∀ (c : Nat) (L1 : List Int32), c ≤ 10 → L1.length + c ≤ 60 → L1 ++ m_dg v c = L ++ m_dec v → bi_V Y.1 X (mo_P Y.2.1 mo ad (m_out σ L1)) 0 0 20 [some (.ref mo), some (.int (nI v)), some (.int (nI (10 ^ (m_kf v 9 0)))), some (.int (nI (m_p10 c)))] [] := by
    intro c
    induction c with
    | zero =>
      intro L1 hc10 hlen hL1
      refine vr_iload_n hE dX3_putsNumber_20 rfl ?_
      refine vr_if_le (tgt := 45) hE dX3_putsNumber_21 (by decide) (fun c_21 => ?_) (fun c_21 => ?_)
      · skip
        refine vr_return hE hQ dX3_putsNumber_45 (by decide) ⟨_, ?_, fun H h => h⟩
        exact ⟨rfl, by rw [← hL1, show m_dg v 0 = [] from rfl, List.append_nil]⟩
      · exact absurd (show (0 : Int32) ≤ 0 by decide) c_21
    | succ c ih =>
      intro L1 hc10 hlen hL1
      have hp := p10_pos c
      have hp2 := p10_lt c (by omega)
      refine vr_L (L' := [some (.ref mo), some (.int (nI v)), some (.int (nI (10 ^ (m_kf v 9 0)))), some (.int (nI (10 ^ c)))]) rfl ?_
      refine vr_iload_n hE dX3_putsNumber_20 rfl ?_
      refine vr_if_le (tgt := 45) hE dX3_putsNumber_21 (by decide) (fun c_21 => ?_) (fun c_21 => ?_)
      · exact absurd c_21 (nI_nle hp hp2)
      skip
      refine vr_aload_n hE dX3_putsNumber_24 rfl ?_
      refine vr_bipush (v := 48) hE dX3_putsNumber_25 (by decide) ?_
      refine vr_iload_n hE dX3_putsNumber_27 rfl ?_
      refine vr_iload_n hE dX3_putsNumber_28 rfl ?_
      refine vr_idiv hE dX3_putsNumber_29 (nI_ne0 hp hp2) ?_
      refine vr_bipush (v := 10) hE dX3_putsNumber_30 (by decide) ?_
      refine vr_irem hE dX3_putsNumber_32 (by decide) ?_
      refine vr_iadd hE dX3_putsNumber_33 ?_
      refine vr_to (w := .int (nI (48 + v / 10 ^ c % 10))) (congrArg Value.int (by
        rw [pk_div hv hp hp2, show (10 : Int32) = nI 10 from rfl, pk_rem (Nat.lt_of_le_of_lt (Nat.div_le_self _ _) hv) (by decide) (by decide)]
        exact nI_add 48 _)) ?_
      refine mr_call hE hA (mo_puts G σ L1 (by omega) _) ok_X3_puts (lw_V q2844 q2846 qs66 q82 q2847) rfl rfl (Nat.le_of_ble_eq_true rfl) (by decide) dX3_putsNumber_34 ?_
      rintro v_34 u_34 ⟨rfl, hu_34⟩
      obtain rfl := hu_34.symm
      refine vr_iload_n hE dX3_putsNumber_37 rfl ?_
      refine vr_bipush (v := 10) hE dX3_putsNumber_38 (by decide) ?_
      refine vr_idiv hE dX3_putsNumber_40 (by decide) ?_
      refine vr_to (w := .int (nI (m_p10 c))) (congrArg Value.int ((pk_div hp2 (d := 10) (by decide) (by decide)).trans (congrArg nI (m_p10_d c)))) ?_
      refine vr_istore_n hE dX3_putsNumber_41 (hnl _ (by decide)) rfl ?_
      refine vr_goto (tgt := 20) hE dX3_putsNumber_42 (by decide) ?_
      exact ih (L1 ++ [nI (48 + v / 10 ^ c % 10)]) (by omega) (by rw [List.length_append]; show _ + 1 + c ≤ 60; omega) (by rw [← hL1, List.append_assoc]; rfl)
  skip
  have hlp_2 : ∀ (c : Nat) (k : Nat), c + k = 9 → m_kf v c k = m_kf v 9 0 → bi_V Y.1 X (mo_P Y.2.1 mo ad (m_out σ L)) 0 0 2 [some (.ref mo), some (.int (nI v)), some (.int (nI (10 ^ k))), none] [] := by
    intro c
    induction c with
    | zero =>
      intro k hk hkf
      obtain rfl : k = 9 := by omega
      have hp := p10_pos 9
      have hp2 := p10_lt 9 (by omega)
      have hd9 : v / 10 ^ 9 ≤ 9 := by omega
      refine vr_iload_n hE dX3_putsNumber_2 rfl ?_
      refine vr_iload_n hE dX3_putsNumber_3 rfl ?_
      refine vr_idiv hE dX3_putsNumber_4 (nI_ne0 hp hp2) ?_
      refine vr_to (w := .int (nI (v / 10 ^ 9))) (congrArg Value.int (pk_div hv hp hp2)) ?_
      refine vr_bipush (v := 9) hE dX3_putsNumber_5 (by decide) ?_
      refine vr_icmp_le (tgt := 18) hE dX3_putsNumber_7 (by decide) (fun c_7 => ?_) (fun c_7 => ?_)
      · skip
        have hkk := hkf
        rw [m_kf] at hkk
        refine vr_L (L' := [some (.ref mo), some (.int (nI v)), some (.int (nI (10 ^ (m_kf v 9 0)))), none]) (by rw [← hkk]) ?_
        refine vr_iload_n hE dX3_putsNumber_18 rfl ?_
        refine vr_istore_n hE dX3_putsNumber_19 (hnl _ (by decide)) rfl ?_
        exact hlp_20 (m_kf v 9 0 + 1) L (by have := m_kf_le v 9 0; omega) (by have := m_dg_len v (m_kf v 9 0 + 1); have h9 := hlen; unfold m_dec at h9; rw [this] at h9; omega) rfl
      · exact absurd (nI_le (a := v / 10 ^ 9) (b := 9) hd9 (by decide)) c_7
    | succ c ih =>
      intro k hk hkf
      have hp := p10_pos k
      have hp2 := p10_lt k (by omega)
      refine vr_iload_n hE dX3_putsNumber_2 rfl ?_
      refine vr_iload_n hE dX3_putsNumber_3 rfl ?_
      refine vr_idiv hE dX3_putsNumber_4 (nI_ne0 hp hp2) ?_
      refine vr_to (w := .int (nI (v / 10 ^ k))) (congrArg Value.int (pk_div hv hp hp2)) ?_
      refine vr_bipush (v := 9) hE dX3_putsNumber_5 (by decide) ?_
      refine vr_icmp_le (tgt := 18) hE dX3_putsNumber_7 (by decide) (fun c_7 => ?_) (fun c_7 => ?_)
      · have hd9 : v / 10 ^ k ≤ 9 := Classical.byContradiction fun z => absurd c_7 (nI_ge (a := 9) (by omega) (Nat.lt_of_le_of_lt (Nat.div_le_self _ _) hv))
        have hkk := hkf
        rw [m_kf, if_pos hd9] at hkk
        refine vr_L (L' := [some (.ref mo), some (.int (nI v)), some (.int (nI (10 ^ (m_kf v 9 0)))), none]) (by rw [← hkk]) ?_
        refine vr_iload_n hE dX3_putsNumber_18 rfl ?_
        refine vr_istore_n hE dX3_putsNumber_19 (hnl _ (by decide)) rfl ?_
        exact hlp_20 (m_kf v 9 0 + 1) L (by have := m_kf_le v 9 0; omega) (by have := m_dg_len v (m_kf v 9 0 + 1); have h9 := hlen; unfold m_dec at h9; rw [this] at h9; omega) rfl
      · have hd9 : ¬ v / 10 ^ k ≤ 9 := fun z => c_7 (nI_le (a := v / 10 ^ k) (b := 9) z (by decide))
        refine vr_iload_n hE dX3_putsNumber_10 rfl ?_
        refine vr_bipush (v := 10) hE dX3_putsNumber_11 (by decide) ?_
        refine vr_imul hE dX3_putsNumber_13 ?_
        refine vr_to (w := .int (nI (10 ^ (k + 1)))) (congrArg Value.int ((pk_mul (10 ^ k) 10).trans (congrArg nI (Nat.pow_succ 10 k).symm))) ?_
        refine vr_istore_n hE dX3_putsNumber_14 (hnl _ (by decide)) rfl ?_
        refine vr_goto (tgt := 2) hE dX3_putsNumber_15 (by decide) ?_
        exact ih (k + 1) (by omega) (by rw [← hkf, m_kf, if_neg hd9])
  exact hlp_2 9 0 rfl rfl
theorem ok_X3_putsWord : bi_ok yX3_putsWord RX3 1 := by decide +kernel
theorem mo_putsWord {Y : bi_Y} {mo : Nat} {ad : Nat → Nat} (G : mo_G Y mo ad) (σ : bi_S) (L : List Int32) (a v : Nat) (t : List Nat) (x z : Int32) (S9 : bi_SA Y a v t x z) (ht : t.length < 2 ^ 31) (hlen : L.length + t.length ≤ 60) : bi_Met Y yX3_putsWord (ws_ yX3_putsWord cX3_putsWord 3 none) 4 85 0 0 (mo_P Y.2.1 mo ad (m_out σ L)) (mo_F mo ad) [.ref mo, .ref a] (fun v u => v = none ∧ u = m_out σ (L ++ t.map nI)) bi_nx (mo_P Y.2.1 mo ad) := by
  refine bi_Met.of (own := RX3) (L0 := [some (.ref mo), some (.ref a), none]) rfl (by decide) G.1 G.2 (Nat.le_of_ble_eq_true rfl) rfl (fun X hE hQ hA hnl hnm => ?_)
  have hnl : ∀ q, q < 3 → q < bi_nL X := fun q h => by rw [hnl]; exact h
  refine vr_iconst (v := 0) hE dX3_putsWord_0 (by decide) ?_
  refine vr_istore_n hE dX3_putsWord_1 (hnl _ (by decide)) rfl ?_
  have hlp_2 : ∀ (c : Nat) (i : Nat) (L1 : List Int32), i + c = t.length → L1.length + c ≤ 60 → L1 ++ (t.drop i).map nI = L ++ t.map nI → bi_V Y.1 X (mo_P Y.2.1 mo ad (m_out σ L1)) 0 0 2 [some (.ref mo), some (.ref a), some (.int (nI i))] [] := by
    intro c
    induction c with
    | zero =>
      intro i L1 hi hlen hL1
      refine vr_iload_n hE dX3_putsWord_2 rfl ?_
      refine vr_aload_n hE dX3_putsWord_3 rfl ?_
      refine ro_callV (ci := 22) hE (ro_len G.1 _ a v t (S9.any _) ht) rfl (fun H hB h => (S9.any _ H hB h).1) ok_J7_length (lw_V q2805 q610 q611 q80 q612) rfl rfl (Nat.le_of_ble_eq_true rfl) (by decide) dX3_putsWord_4 ?_
      rintro v_4 rfl
      refine vr_icmp_ge (tgt := 25) hE dX3_putsWord_7 (by decide) (fun c_7 => ?_) (fun c_7 => ?_)
      · skip
        refine vr_return hE hQ dX3_putsWord_25 (by decide) ⟨_, ?_, fun H h => h⟩
        exact ⟨rfl, by rw [← hL1, show i = t.length by omega, List.drop_length, List.map_nil, List.append_nil]⟩
      · exact absurd (by rw [show i = t.length by omega]; exact nI_le (Nat.le_refl _) ht) c_7
    | succ c ih =>
      intro i L1 hi hlen hL1
      have hd : t.drop i = t.getD i 0 :: t.drop (i + 1) := by
        rw [List.getD_eq_getElem?_getD, List.getElem?_eq_getElem (show i < t.length by omega)]
        exact List.drop_eq_getElem_cons (by omega)
      refine vr_iload_n hE dX3_putsWord_2 rfl ?_
      refine vr_aload_n hE dX3_putsWord_3 rfl ?_
      refine ro_callV (ci := 22) hE (ro_len G.1 _ a v t (S9.any _) ht) rfl (fun H hB h => (S9.any _ H hB h).1) ok_J7_length (lw_V q2805 q610 q611 q80 q612) rfl rfl (Nat.le_of_ble_eq_true rfl) (by decide) dX3_putsWord_4 ?_
      rintro v_4 rfl
      refine vr_icmp_ge (tgt := 25) hE dX3_putsWord_7 (by decide) (fun c_7 => ?_) (fun c_7 => ?_)
      · exact absurd c_7 (nI_ge (show i < t.length by omega) ht)
      skip
      refine vr_aload_n hE dX3_putsWord_10 rfl ?_
      refine vr_aload_n hE dX3_putsWord_11 rfl ?_
      refine vr_iload_n hE dX3_putsWord_12 rfl ?_
      refine ro_callV (ci := 22) hE (ro_cat G.1 _ a v t (S9.any _) ht i (by omega) S9.1.2.2.2.2) rfl (fun H hB h => (S9.any _ H hB h).1) ok_J7_charAt (lw_V q2806 q2220 q2221 q80 q2222) rfl rfl (Nat.le_of_ble_eq_true rfl) (by decide) dX3_putsWord_13 ?_
      rintro v_13 rfl
      refine mr_call hE hA (mo_puts G σ L1 (by omega) _) ok_X3_puts (lw_V q2844 q2846 qs66 q82 q2847) rfl rfl (Nat.le_of_ble_eq_true rfl) (by decide) dX3_putsWord_16 ?_
      rintro v_16 u_16 ⟨rfl, hu_16⟩
      obtain rfl := hu_16.symm
      refine vr_iinc hE dX3_putsWord_19 rfl (iinc_1 _) (hnl _ (by decide)) rfl ?_
      refine vr_goto (tgt := 2) hE dX3_putsWord_22 (by decide) ?_
      exact ih (i + 1) _ (by omega) (by rw [List.length_append]; show _ + 1 + c ≤ 60; omega) (by rw [← hL1, hd, List.map_cons, List.append_assoc]; rfl)
  exact hlp_2 t.length 0 L (Nat.zero_add _) hlen rfl
theorem ok_X3_describe : bi_ok yX3_describe RX3 1 := by decide +kernel
theorem mo_describe {Y : bi_Y} {mo : Nat} {ad : Nat → Nat} (G : mo_G Y mo ad) (σ : bi_S) (n : Nat) (hn : n ≤ 10) (h1 : σ.2 0 1 = nI n) (hfT : ∀ t, t < n → ∃ f, f < 5 ∧ σ.2 0 (15 + t) = nI f) (hcT : ∀ t, t < n → ∃ c, c < 2 ^ 31 ∧ σ.2 0 (25 + t) = nI c) (hsT : ∀ t, t < n → σ.2 0 (65 + t) = -1 ∨ ∃ c, c < 2 ^ 31 ∧ σ.2 0 (65 + t) = nI c) (a : Int32) : bi_Met Y yX3_describe (ws_ yX3_describe cX3_describe 2 (some .int)) 5 107 0 0 (mo_P Y.2.1 mo ad σ) (mo_F mo ad) [.ref mo, .int a] (fun v u => v = some (.int (m_describe σ a).2) ∧ u = (m_describe σ a).1) bi_nx (mo_P Y.2.1 mo ad) := by
  refine bi_Met.of (own := RX3) (L0 := [some (.ref mo), some (.int a)]) rfl (by decide) G.1 G.2 (Nat.le_of_ble_eq_true rfl) rfl (fun X hE hQ hA hnl hnm => ?_)
  have hnl : ∀ q, q < 2 → q < bi_nL X := fun q h => by rw [hnl]; exact h
  obtain ⟨a231, v231, e231, S231⟩ := sk_X3_231 G.1
  obtain ⟨a237, v237, e237, S237⟩ := sk_X3_237 G.1
  refine vr_aload_n hE dX3_describe_0 rfl ?_
  refine vr_iconst (v := 0) hE dX3_describe_1 (by decide) ?_
  refine mr_put hE hA (z := 0) (by decide) q2507 rfl rfl rfl rfl (fun _ => rfl) dX3_describe_2 ?_
  refine vr_aload_n hE dX3_describe_5 rfl ?_
  refine vr_iload_n hE dX3_describe_6 rfl ?_
  refine mr_call hE hA (mo_isTrader G _ _) ok_X3_isTrader (lw_V q2623 q2625 qs39 q82 q2626) rfl rfl (Nat.le_of_ble_eq_true rfl) (by decide) dX3_describe_7 ?_
  rintro v_7 u_7 ⟨rfl, hu_7⟩
  obtain rfl := hu_7.symm
  refine vr_if_ne (tgt := 19) hE dX3_describe_10 (by decide) (fun c_10 => ?_) (fun c_10 => ?_)
  · replace c_10 : ¬ in_ a 0 (σ.2 0 1 - 1) = 0 := c_10
    obtain ⟨j, hj, rfl⟩ := in_T h1 (by omega) c_10
    obtain ⟨f, hf5, ef⟩ := hfT j hj
    obtain ⟨c, hc, ec⟩ := hcT j hj
    have hfx : ix (σ.2 0 (15 + j)) = f := by rw [ef]; exact ix_nI (by omega)
    have hcx : ix (σ.2 0 (25 + j)) = c := by rw [ec]; exact ix_nI hc
    have hj1 := m_dec_len1 (v := j) (by omega)
    have hf1 := m_dec_len1 (v := f) (by omega)
    have hc1 := m_dec_len c
    have hA1 : (m_l1_ (σ.2 0) j).length ≤ 14 := by
      unfold m_l1_
      rw [hfx, hcx]
      simp only [List.length_append, List.length_cons, List.length_nil]
      omega
    have eA1 : m_dec j ++ [64] ++ m_dec f ++ [32] ++ m_dec c = m_l1_ (σ.2 0) j := by unfold m_l1_; rw [hfx, hcx]
    refine vr_aload_n hE dX3_describe_19 rfl ?_
    refine vr_iconst (v := 0) hE dX3_describe_20 (by decide) ?_
    refine mr_put hE hA (z := 13) (by decide) q2520 rfl rfl rfl rfl (fun _ => rfl) dX3_describe_21 ?_
    refine vr_P (P' := mo_P Y.2.1 mo ad (m_out (m_pre σ) [])) (fun H h => by rw [← m_out_nil]; exact h) ?_
    refine vr_aload_n hE dX3_describe_24 rfl ?_
    refine vr_iload_n hE dX3_describe_25 rfl ?_
    refine mr_call hE hA (mo_putsNumber G (m_pre σ) [] j (by omega) (by rw [hj1]; decide)) ok_X3_putsNumber (lw_V q2840 q2842 qs65 q82 q2843) rfl rfl (Nat.le_of_ble_eq_true rfl) (by decide) dX3_describe_26 ?_
    rintro v_26 u_26 ⟨rfl, hu_26⟩
    obtain rfl := hu_26.symm
    refine vr_aload_n hE dX3_describe_29 rfl ?_
    refine vr_bipush (v := 64) hE dX3_describe_30 (by decide) ?_
    refine mr_call hE hA (mo_puts G (m_pre σ) ([] ++ m_dec j) (by rw [List.nil_append, hj1]; decide) _) ok_X3_puts (lw_V q2844 q2846 qs66 q82 q2847) rfl rfl (Nat.le_of_ble_eq_true rfl) (by decide) dX3_describe_32 ?_
    rintro v_32 u_32 ⟨rfl, hu_32⟩
    obtain rfl := hu_32.symm
    refine vr_aload_n hE dX3_describe_35 rfl ?_
    refine vr_aload_n hE dX3_describe_36 rfl ?_
    refine mr_get hE (z := 1) (by decide) q2508 rfl rfl dX3_describe_37 ?_
    refine vr_bipush (v := 15) hE dX3_describe_40 (by decide) ?_
    refine vr_iload_n hE dX3_describe_42 rfl ?_
    refine vr_iadd hE dX3_describe_43 ?_
    refine mr_ald hE (j := 0) (by decide) (nI_add 15 _) (by show _ < 117; omega) dX3_describe_44 ?_
    refine vr_to (w := .int (nI f)) (congrArg Value.int ef) ?_
    refine mr_call hE hA (mo_putsNumber G (m_pre σ) (m_dec j ++ [64]) f (by omega) (by simp only [List.length_append, List.length_cons, List.length_nil]; omega)) ok_X3_putsNumber (lw_V q2840 q2842 qs65 q82 q2843) rfl rfl (Nat.le_of_ble_eq_true rfl) (by decide) dX3_describe_45 ?_
    rintro v_45 u_45 ⟨rfl, hu_45⟩
    obtain rfl := hu_45.symm
    refine vr_aload_n hE dX3_describe_48 rfl ?_
    refine vr_bipush (v := 32) hE dX3_describe_49 (by decide) ?_
    refine mr_call hE hA (mo_puts G (m_pre σ) (m_dec j ++ [64] ++ m_dec f) (by simp only [List.length_append, List.length_cons, List.length_nil]; omega) _) ok_X3_puts (lw_V q2844 q2846 qs66 q82 q2847) rfl rfl (Nat.le_of_ble_eq_true rfl) (by decide) dX3_describe_51 ?_
    rintro v_51 u_51 ⟨rfl, hu_51⟩
    obtain rfl := hu_51.symm
    refine vr_aload_n hE dX3_describe_54 rfl ?_
    refine vr_aload_n hE dX3_describe_55 rfl ?_
    refine mr_get hE (z := 1) (by decide) q2508 rfl rfl dX3_describe_56 ?_
    refine vr_bipush (v := 25) hE dX3_describe_59 (by decide) ?_
    refine vr_iload_n hE dX3_describe_61 rfl ?_
    refine vr_iadd hE dX3_describe_62 ?_
    refine mr_ald hE (j := 0) (by decide) (nI_add 25 _) (by show _ < 117; omega) dX3_describe_63 ?_
    refine vr_to (w := .int (nI c)) (congrArg Value.int ec) ?_
    refine mr_call hE hA (mo_putsNumber G (m_pre σ) (m_dec j ++ [64] ++ m_dec f ++ [32]) c hc (by simp only [List.length_append, List.length_cons, List.length_nil]; omega)) ok_X3_putsNumber (lw_V q2840 q2842 qs65 q82 q2843) rfl rfl (Nat.le_of_ble_eq_true rfl) (by decide) dX3_describe_64 ?_
    rintro v_64 u_64 ⟨rfl, hu_64⟩
    obtain rfl := hu_64.symm
    refine vr_P (P' := mo_P Y.2.1 mo ad (m_out (m_pre σ) (m_l1_ (σ.2 0) j))) (fun H h => by rw [← eA1]; exact h) ?_
    refine vr_aload_n hE dX3_describe_67 rfl ?_
    refine mr_get hE (z := 1) (by decide) q2508 rfl rfl dX3_describe_68 ?_
    refine vr_bipush (v := 35) hE dX3_describe_71 (by decide) ?_
    refine vr_iload_n hE dX3_describe_73 rfl ?_
    refine vr_iadd hE dX3_describe_74 ?_
    refine mr_ald hE (j := 0) (by decide) (nI_add 35 _) (by show _ < 117; omega) dX3_describe_75 ?_
    apply vs_if_le (PF := (fun (_ : Unit) => mo_P Y.2.1 mo ad (m_out (m_pre σ) (m_l1_ (σ.2 0) j ++ m_l2_ (σ.2 0) j)))) (va := ()) (vb := ()) (tgt := 98) (J := 98) hE dX3_describe_76 (by decide)
    · intro c_76 kt1
      refine vr_P (fun H h => ?_) kt1
      rw [show (m_l1_ (σ.2 0) j ++ m_l2_ (σ.2 0) j) = (m_l1_ (σ.2 0) j) from by rw [m_l2_, if_pos (show σ.2 0 (35 + j) ≤ 0 from c_76), List.append_nil]]
      exact h
    · intro c_76 kf1
      refine vr_aload_n hE dX3_describe_79 rfl ?_
      refine vr_bipush (v := 47) hE dX3_describe_80 (by decide) ?_
      replace c_76 : ¬ σ.2 0 (35 + j) ≤ 0 := c_76
      obtain ⟨d, hd31, ed⟩ := nI_of (x := σ.2 0 (35 + j)) (fun z => c_76 (Int32.le_of_lt z))
      have hd1 := m_dec_len d
      have hdx : ix (σ.2 0 (35 + j)) = d := by rw [ed]; exact ix_nI hd31
      have e2 : m_l2_ (σ.2 0) j = [47] ++ m_dec d := by rw [m_l2_, if_neg c_76, hdx]
      refine mr_call hE hA (mo_puts G (m_pre σ) (m_l1_ (σ.2 0) j) (by omega) _) ok_X3_puts (lw_V q2844 q2846 qs66 q82 q2847) rfl rfl (Nat.le_of_ble_eq_true rfl) (by decide) dX3_describe_82 ?_
      rintro v_82 u_82 ⟨rfl, hu_82⟩
      obtain rfl := hu_82.symm
      refine vr_aload_n hE dX3_describe_85 rfl ?_
      refine vr_aload_n hE dX3_describe_86 rfl ?_
      refine mr_get hE (z := 1) (by decide) q2508 rfl rfl dX3_describe_87 ?_
      refine vr_bipush (v := 35) hE dX3_describe_90 (by decide) ?_
      refine vr_iload_n hE dX3_describe_92 rfl ?_
      refine vr_iadd hE dX3_describe_93 ?_
      refine mr_ald hE (j := 0) (by decide) (nI_add 35 _) (by show _ < 117; omega) dX3_describe_94 ?_
      refine vr_to (w := .int (nI d)) (congrArg Value.int ed) ?_
      refine mr_call hE hA (mo_putsNumber G (m_pre σ) ((m_l1_ (σ.2 0) j) ++ [47]) d hd31 (by simp only [List.length_append, List.length_cons, List.length_nil]; omega)) ok_X3_putsNumber (lw_V q2840 q2842 qs65 q82 q2843) rfl rfl (Nat.le_of_ble_eq_true rfl) (by decide) dX3_describe_95 ?_
      rintro v_95 u_95 ⟨rfl, hu_95⟩
      obtain rfl := hu_95.symm
      refine vr_P (fun H h => ?_) kf1
      rw [e2, ← List.append_assoc]
      exact h
    refine vr_P (P' := mo_P Y.2.1 mo ad (m_out (m_pre σ) (m_l1_ (σ.2 0) j ++ m_l2_ (σ.2 0) j))) (fun H h => h) ?_
    have hB2 : (m_l1_ (σ.2 0) j ++ m_l2_ (σ.2 0) j).length ≤ 25 := by
      rw [List.length_append]
      unfold m_l2_
      split
      · simp only [List.length_nil]; omega
      · have := m_dec_len (ix (σ.2 0 (35 + j)))
        simp only [List.length_append, List.length_cons, List.length_nil]; omega
    have hB2s : (m_l1_ (σ.2 0) j).length + (m_l2_ (σ.2 0) j).length ≤ 25 := by rw [← List.length_append]; exact hB2
    refine vr_aload_n hE dX3_describe_98 rfl ?_
    refine mr_get hE (z := 1) (by decide) q2508 rfl rfl dX3_describe_99 ?_
    refine vr_bipush (v := 65) hE dX3_describe_102 (by decide) ?_
    refine vr_iload_n hE dX3_describe_104 rfl ?_
    refine vr_iadd hE dX3_describe_105 ?_
    refine mr_ald hE (j := 0) (by decide) (nI_add 65 _) (by show _ < 117; omega) dX3_describe_106 ?_
    refine vr_iconst (v := -1) hE dX3_describe_107 (by decide) ?_
    apply vs_icmp_eq (PF := (fun (_ : Unit) => mo_P Y.2.1 mo ad (m_out (m_pre σ) (m_l1_ (σ.2 0) j ++ m_l2_ (σ.2 0) j ++ m_l3_ (σ.2 0) j)))) (va := ()) (vb := ()) (tgt := 130) (J := 130) hE dX3_describe_108 (by decide)
    · intro c_108 kt2
      refine vr_P (fun H h => ?_) kt2
      rw [show (m_l1_ (σ.2 0) j ++ m_l2_ (σ.2 0) j ++ m_l3_ (σ.2 0) j) = (m_l1_ (σ.2 0) j ++ m_l2_ (σ.2 0) j) from by rw [m_l3_, if_pos (show σ.2 0 (65 + j) = -1 from c_108), List.append_nil]]
      exact h
    · intro c_108 kf2
      refine vr_aload_n hE dX3_describe_111 rfl ?_
      refine wr_ldcS (idx := 231) hE q2848 e231 dX3_describe_112 ?_
      replace c_108 : ¬ σ.2 0 (65 + j) = -1 := c_108
      obtain ⟨d, hd31, ed⟩ := (hsT j hj).resolve_left c_108
      have hd1 := m_dec_len d
      have hdx : ix (σ.2 0 (65 + j)) = d := by rw [ed]; exact ix_nI hd31
      have e3 : m_l3_ (σ.2 0) j = KW_seal.map nI ++ m_dec d := by rw [m_l3_, if_neg c_108, hdx]
      refine mr_call hE hA (mo_putsWord G (m_pre σ) (m_l1_ (σ.2 0) j ++ m_l2_ (σ.2 0) j) a231 v231 _ _ _ S231 (by decide) (by show _ + 6 ≤ 60; omega)) ok_X3_putsWord (lw_V q2849 q2851 qs67 q82 q2852) rfl rfl (Nat.le_of_ble_eq_true rfl) (by decide) dX3_describe_114 ?_
      rintro v_114 u_114 ⟨rfl, hu_114⟩
      obtain rfl := hu_114.symm
      refine vr_aload_n hE dX3_describe_117 rfl ?_
      refine vr_aload_n hE dX3_describe_118 rfl ?_
      refine mr_get hE (z := 1) (by decide) q2508 rfl rfl dX3_describe_119 ?_
      refine vr_bipush (v := 65) hE dX3_describe_122 (by decide) ?_
      refine vr_iload_n hE dX3_describe_124 rfl ?_
      refine vr_iadd hE dX3_describe_125 ?_
      refine mr_ald hE (j := 0) (by decide) (nI_add 65 _) (by show _ < 117; omega) dX3_describe_126 ?_
      refine vr_to (w := .int (nI d)) (congrArg Value.int ed) ?_
      refine mr_call hE hA (mo_putsNumber G (m_pre σ) ((m_l1_ (σ.2 0) j ++ m_l2_ (σ.2 0) j) ++ KW_seal.map nI) d hd31 (by simp only [List.length_append, List.length_map, show KW_seal.length = 6 from rfl]; omega)) ok_X3_putsNumber (lw_V q2840 q2842 qs65 q82 q2843) rfl rfl (Nat.le_of_ble_eq_true rfl) (by decide) dX3_describe_127 ?_
      rintro v_127 u_127 ⟨rfl, hu_127⟩
      obtain rfl := hu_127.symm
      refine vr_P (fun H h => ?_) kf2
      rw [e3, ← List.append_assoc]
      exact h
    refine vr_P (P' := mo_P Y.2.1 mo ad (m_out (m_pre σ) (m_l1_ (σ.2 0) j ++ m_l2_ (σ.2 0) j ++ m_l3_ (σ.2 0) j))) (fun H h => h) ?_
    have hB3 : (m_l1_ (σ.2 0) j ++ m_l2_ (σ.2 0) j ++ m_l3_ (σ.2 0) j).length ≤ 41 := by
      rw [List.length_append]
      unfold m_l3_
      split
      · simp only [List.length_nil]; omega
      · have := m_dec_len (ix (σ.2 0 (65 + j)))
        simp only [List.length_append, List.length_map, show KW_seal.length = 6 from rfl]; omega
    refine vr_aload_n hE dX3_describe_130 rfl ?_
    refine vr_iload_n hE dX3_describe_131 rfl ?_
    refine mr_call hE hA (mo_isBarred G _ j (by omega)) ok_X3_isBarred (lw_V q2643 q2645 qs42 q82 q2646) rfl rfl (Nat.le_of_ble_eq_true rfl) (by decide) dX3_describe_132 ?_
    rintro v_132 u_132 ⟨rfl, hu_132⟩
    obtain rfl := hu_132.symm
    refine vr_if_eq (tgt := 144) hE dX3_describe_135 (by decide) (fun c_135 => ?_) (fun c_135 => ?_)
    · have e4 : (m_l1_ (σ.2 0) j ++ m_l2_ (σ.2 0) j ++ m_l3_ (σ.2 0) j) = m_line (σ.2 0) j := by rw [m_line, m_l4_, if_pos (show m_barred (σ.2 0) j = 0 from c_135), List.append_nil]
      refine vr_P (P' := mo_P Y.2.1 mo ad (m_out (m_pre σ) (m_line (σ.2 0) j))) (fun H h => by rw [← e4]; exact h) ?_
      refine vr_aload_n hE dX3_describe_144 rfl ?_
      refine mr_get hE (z := 13) (by decide) q2520 rfl rfl dX3_describe_145 ?_
      refine vr_ireturn hE hQ rfl dX3_describe_148 (by decide) ⟨_, ?_, fun H h => h⟩
      exact ⟨by rw [m_describe, if_neg c_10, ix_nI (show j < 2 ^ 31 by omega)] <;> rfl, by rw [m_describe, if_neg c_10, ix_nI (show j < 2 ^ 31 by omega)] <;> rfl⟩
    · have e4 : (m_l1_ (σ.2 0) j ++ m_l2_ (σ.2 0) j ++ m_l3_ (σ.2 0) j) ++ KW_barred.map nI = m_line (σ.2 0) j := by rw [m_line, m_l4_, if_neg (show ¬ m_barred (σ.2 0) j = 0 from c_135)]
      refine vr_aload_n hE dX3_describe_138 rfl ?_
      refine wr_ldcS (idx := 237) hE q2853 e237 dX3_describe_139 ?_
      refine mr_call hE hA (mo_putsWord G (m_pre σ) (m_l1_ (σ.2 0) j ++ m_l2_ (σ.2 0) j ++ m_l3_ (σ.2 0) j) a237 v237 _ _ _ S237 (by decide) (by show _ + 7 ≤ 60; omega)) ok_X3_putsWord (lw_V q2849 q2851 qs67 q82 q2852) rfl rfl (Nat.le_of_ble_eq_true rfl) (by decide) dX3_describe_141 ?_
      rintro v_141 u_141 ⟨rfl, hu_141⟩
      obtain rfl := hu_141.symm
      refine vr_P (P' := mo_P Y.2.1 mo ad (m_out (m_pre σ) (m_line (σ.2 0) j))) (fun H h => by rw [← e4]; exact h) ?_
      refine vr_aload_n hE dX3_describe_144 rfl ?_
      refine mr_get hE (z := 13) (by decide) q2520 rfl rfl dX3_describe_145 ?_
      refine vr_ireturn hE hQ rfl dX3_describe_148 (by decide) ⟨_, ?_, fun H h => h⟩
      exact ⟨by rw [m_describe, if_neg c_10, ix_nI (show j < 2 ^ 31 by omega)] <;> rfl, by rw [m_describe, if_neg c_10, ix_nI (show j < 2 ^ 31 by omega)] <;> rfl⟩
  · replace c_10 : in_ a 0 (σ.2 0 1 - 1) = 0 := c_10
    refine vr_aload_n hE dX3_describe_13 rfl ?_
    refine vr_iconst (v := 1) hE dX3_describe_14 (by decide) ?_
    refine mr_call hE hA (mo_fails G _ _) ok_X3_fails (lw_V q2595 q2597 qs34 q82 q2598) rfl rfl (Nat.le_of_ble_eq_true rfl) (by decide) dX3_describe_15 ?_
    rintro v_15 u_15 ⟨rfl, hu_15⟩
    obtain rfl := hu_15.symm
    refine vr_ireturn hE hQ rfl dX3_describe_18 (by decide) ⟨_, ?_, fun H h => h⟩
    exact ⟨by rw [m_describe, if_pos c_10] <;> rfl, by rw [m_describe, if_pos c_10] <;> rfl⟩
