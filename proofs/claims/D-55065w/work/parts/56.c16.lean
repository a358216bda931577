/-! days go by; who is next -/
set_option maxRecDepth 100000
section CLDC
variable {Y : bi_Y} {X : bi_X} {cc : ByteArray} {ret : Option FieldType} {own : String} {fr lo mc ms : Nat} {hh : List ExceptionTableEntry} {P : Heap → Prop} {k n pc : Nat} {L : List (Option Value)} {rest : List Value}
theorem vr_ldcI (hE : bi_E Y X cc ret own fr lo mc ms hh) {idx : Nat} {v : Int32} (q : Cond.constant own idx v ∈ lw_all) (d : decode cc pc = .ok (.ldc idx, 2)) (kk : bi_V Y.1 X P k n (pc + 2) L (.int v :: rest)) : bi_V Y.1 X P k n pc L rest := fun H locs ls h1 h2 h3 =>
  lv_ldc hE.x hE.b hE.ow (hE.ts _ q) d (kk H locs ls h1 h2 h3)
end CLDC
theorem c_er.days {s : Nat → Int32} {n : Nat} (h : c_er s n) (hn : n ≤ 10) : ∀ d, c_er (m_days s n d).1 n := by
  intro d
  cases d with
  | zero => exact h
  | succ d => exact c_er.day hn
theorem cKeep.tr {M M1 M2 : va_M} {R : cR} {n w : Nat} (h : cKeep M M1 R n w) (h' : cKeep M1 M2 R n w) : cKeep M M2 R n w := fun q e z hq => h' q e (h q e z hq) hq
theorem nx_skip {s : Nat → Int32} {c k : Nat} : m_nx s (c_nf s (m_fn s) c k) = m_nx s k :=
  accG (m_nx s) (fun j h1 h2 => by simp only [m_nx]; rw [if_neg (fun z => (c_nf_ok s (m_fn s) c k).2.2.1 j h1 h2 z.1)]) (c_nf_ok s (m_fn s) c k).1
/-- days since -/
def c_dys (s : Nat → Int32) (t : Nat) : Int32 := if ¬ s (95 + t) = -1 then s 0 - s (95 + t) else 2147483647
/-- the days of inspections -/
def c_in (s : Nat → Int32) (n : Nat) : Prop := ∃ d, d < 2 ^ 20 ∧ s 0 = nI d ∧ ∀ t, t < n → s (95 + t) = -1 ∨ ∃ i, i ≤ d ∧ s (95 + t) = nI i
theorem c_dys_ok {s : Nat → Int32} {n a b : Nat} (h : c_in s n) (ha : a < n) (hb : b < n) : c_dys s a ≤ c_dys s b ↔ s (95 + b) ≤ s (95 + a) := by
  obtain ⟨d, hd, h0, hI⟩ := h
  have m1 : (-1 : Int32).toInt = -1 := rfl
  have mx : (2147483647 : Int32).toInt = 2147483647 := rfl
  have hs : ∀ i, i ≤ d → (nI d - nI i).toInt = (d : Int) - i := fun i hi => by
    rw [Int32.toInt_sub, nI_toInt (by omega), nI_toInt (by omega)]
    exact Int.bmod_eq_of_le (by omega) (by omega)
  unfold c_dys
  rw [Int32.le_iff_toInt_le, Int32.le_iff_toInt_le, h0]
  rcases hI a ha with ea | ⟨i, hi, ea⟩ <;> rcases hI b hb with eb | ⟨j, hj, eb⟩
  · rw [ea, eb]
    simp
  · rw [ea, eb, if_neg (show ¬ ¬ (-1 : Int32) = -1 by decide), if_pos (nI_neg1 (show j < 2 ^ 31 by omega)), hs j hj, mx, m1, nI_toInt (show j < 2 ^ 31 by omega)]
    omega
  · rw [ea, eb, if_pos (nI_neg1 (show i < 2 ^ 31 by omega)), if_neg (show ¬ ¬ (-1 : Int32) = -1 by decide), hs i hi, mx, m1, nI_toInt (show i < 2 ^ 31 by omega)]
    omega
  · rw [ea, eb, if_pos (nI_neg1 (by omega)), if_pos (nI_neg1 (by omega)), hs i hi, hs j hj, nI_toInt (by omega), nI_toInt (by omega)]
    omega
def c_lv : Option Nat → Nat → Value
  | none, _ => .null
  | some _, lg => .ref lg
theorem c_nx_lt {s : Nat → Int32} : ∀ n b, m_nx s n = some b → b < n := by
  intro n
  induction n with
  | zero => exact fun b h => by cases h
  | succ n ih =>
    intro b h
    simp only [m_nx] at h
    split at h
    · cases hm : m_nx s n with
      | none =>
        rw [hm] at h
        have := Option.some.inj h
        omega
      | some b' =>
        rw [hm] at h
        have hb := ih b' hm
        dsimp only at h
        by_cases hc : s (95 + b') ≤ s (95 + n)
        · rw [if_pos hc] at h
          have := Option.some.inj h
          omega
        · rw [if_neg hc] at h
          have := Option.some.inj h
          omega
    · have := ih b h
      omega
theorem ok_X2_pass : bi_ok yX2_pass RX2 1 := by decide +kernel
theorem bk_X2_pass {Y : bi_Y} (G : bi_GS Y) (M : va_M) (R : cR) (n w : Nat) (s : Nat → Int32) (hR : RoundM Y M R n w s) (hEr : c_er s n) (d : Nat) (hd : d ≤ 40) : bc_Met Y yX2_pass (ws_ yX2_pass cX2_pass 4 (some .int)) 7 150 (24 * d) (62 * d) M [.ref R.r, .int (nI d)] (fun v M' => v = some (.int (m_days s n d).2) ∧ RoundM Y M' R n w (m_days s n d).1 ∧ cKeep M M' R n w) bi_nx := by
  refine bc_Met.of (own := RX2) (L0 := [some (.ref R.r), some (.int (nI d)), none, none]) rfl (by decide) G (Nat.le_of_ble_eq_true rfl) rfl (fun X A hE hQ hW hnl hnm => ?_)
  have hnl : ∀ q, q < 4 → q < bi_nL X := fun q h => by rw [hnl]; exact h
  refine vr_iconst (v := 0) hE dX2_pass_0 (by decide) ?_
  refine vr_istore_n hE dX2_pass_1 (hnl _ (by decide)) rfl ?_
  refine vr_iconst (v := 0) hE dX2_pass_2 (by decide) ?_
  refine vr_istore_n hE dX2_pass_3 (hnl _ (by decide)) rfl ?_
  have hlp_4 : ∀ (c : Nat) (i : Nat) (M1 : va_M), i + c = d → RoundM Y M1 R n w (m_days s n i).1 → cKeep M M1 R n w → bi_V Y.1 X (bc_W Y (bi_A X) M1) (24 * i) (62 * i) 4 [some (.ref R.r), some (.int (nI d)), some (.int (m_days s n i).2), some (.int (nI i))] [] := by
    intro c
    induction c with
    | zero =>
      intro i M1 hi hR1 hk1
      refine vr_iload_n hE dX2_pass_4 rfl ?_
      refine vr_iload_n hE dX2_pass_5 rfl ?_
      refine vr_icmp_ge (tgt := 22) hE dX2_pass_6 (by decide) (fun c_6 => ?_) (fun c_6 => ?_)
      · have hid : i = d := by omega
        rw [hid] at hR1
        refine vr_iload_n hE dX2_pass_22 rfl ?_
        refine vr_ireturn hE hQ rfl dX2_pass_23 ⟨by omega, by omega⟩ ⟨_, ?_, fun H h => hW _ H h⟩
        exact ⟨by rw [hid], hR1, hk1⟩
      · exact absurd (show nI d ≤ nI i from nI_le (by omega) (by omega)) c_6
    | succ c ih =>
      intro i M1 hi hR1 hk1
      refine vr_iload_n hE dX2_pass_4 rfl ?_
      refine vr_iload_n hE dX2_pass_5 rfl ?_
      refine vr_icmp_ge (tgt := 22) hE dX2_pass_6 (by decide) (fun c_6 => ?_) (fun c_6 => ?_)
      · exact absurd (show nI d ≤ nI i from c_6) (nI_ge (by omega) (by omega))
      skip
      refine vr_iload_n hE dX2_pass_9 rfl ?_
      refine vr_aload_n hE dX2_pass_10 rfl ?_
      refine bc_callV hE (bk_X2_dayGoesBy G _ R n w _ hR1 (hEr.days hR.hn i)) kc_X2 hR1.hr ok_X2_dayGoesBy (lw_V q1327 q1329 qs14 q72 q1330) rfl rfl (Nat.le_of_ble_eq_true rfl) ⟨by decide, by decide, by omega, by omega⟩ dX2_pass_11 (fun _ _ _ h => h.elim) ?_
      rintro v_11 M_11 ⟨rfl, hR_11, hk_11⟩
      refine vr_iadd hE dX2_pass_14 ?_
      refine vr_istore_n hE dX2_pass_15 (hnl _ (by decide)) rfl ?_
      refine vr_iinc hE dX2_pass_16 rfl (iinc_1 _) (hnl _ (by decide)) rfl ?_
      refine vr_goto (tgt := 4) hE dX2_pass_19 (by decide) ?_
      exact vr_kn (by omega) (by omega) (ih (i + 1) M_11 (by omega) hR_11 (hk1.tr hk_11))
  exact hlp_4 d 0 M (Nat.zero_add _) hR cKeep.rf
theorem ok_X14_init : bi_ok yX14_init RX14 2 := by decide +kernel
theorem bk_X14_init {Y : bi_Y} (G : bi_GS Y) (M : va_M) (a r t : Nat) (h_a : M a = some (.inr (15, [.null, .null]))) : bc_Met Y yX14_init (ws_ yX14_init cX14_init 3 none) 1 28 0 0 M [.ref a, .ref r, .ref t] (fun v M' => v = none ∧ M' = bu M a (.inr (15, [.ref t, .ref r]))) bi_nx := by
  refine bc_Met.of (own := RX14) (L0 := [some (.ref a), some (.ref r), some (.ref t)]) rfl (by decide) G (Nat.le_of_ble_eq_true rfl) rfl (fun X A hE hQ hW hnl hnm => ?_)
  have hnl : ∀ q, q < 3 → q < bi_nL X := fun q h => by rw [hnl]; exact h
  refine vr_aload_n hE dX14_init_0 rfl ?_
  refine vr_aload_n hE dX14_init_1 rfl ?_
  refine bc_putF (z := 1) hE kc_X14 (by decide) q1859 rfl rfl (hnm _ rfl) h_a rfl rfl (Nat.le_of_ble_eq_true rfl) dX14_init_2 (by first | decide | omega) ?_
  refine bc_nm (fun M_2 e_2 => ?_)
  have ha_2 := (congrFun e_2 a).trans (bu_self _ _ _)
  refine vr_aload_n hE dX14_init_5 rfl ?_
  refine vr_objInit hE q1856 q132 q133 dX14_init_6 ⟨by decide, Nat.le_of_ble_eq_true rfl⟩ ?_
  refine vr_aload_n hE dX14_init_9 rfl ?_
  refine vr_aload_n hE dX14_init_10 rfl ?_
  refine bc_putF (z := 0) hE kc_X14 (by decide) q1857 rfl rfl (hnm _ rfl) ha_2 rfl rfl (Nat.le_of_ble_eq_true rfl) dX14_init_11 (by first | decide | omega) ?_
  refine bc_nm (fun M_11 e_11 => ?_)
  have ha_11 := (congrFun e_11 a).trans (bu_self _ _ _)
  refine vr_return hE hQ dX14_init_14 (by decide) ⟨_, ?_, fun H h => hW _ H h⟩
  subst e_11
  subst e_2
  exact ⟨rfl, by first | rfl | (simp only [bu_bu] <;> rfl)⟩
theorem ok_X14_days : bi_ok yX14_days RX14 0 := by decide +kernel
theorem bk_X14_days {Y : bi_Y} (G : bi_GS Y) (M : va_M) (a r t : Nat) (h_a : M a = some (.inr (15, [.ref t, .ref r]))) (nu fa co de er dr se sh fn ic : Int32) (h_t : M t = some (.inr (3, tL nu fa co de er dr se sh fn ic r))) (ra fi tl wl : Nat) (dy ip ls : Int32) (h_r : M r = some (.inr (1, rL ra fi tl wl dy ip ls))) : bc_Met Y yX14_days (ws_ yX14_days cX14_days 1 (some .int)) 1 20 0 0 M [.ref a] (fun v M' => v = some (.int (if ¬ ic = -1 then dy - ic else 2147483647)) ∧ M' = M) bi_nx := by
  refine bc_Met.of (own := RX14) (L0 := [some (.ref a)]) rfl (by decide) G (Nat.le_of_ble_eq_true rfl) rfl (fun X A hE hQ hW hnl hnm => ?_)
  have hnl : ∀ q, q < 1 → q < bi_nL X := fun q h => by rw [hnl]; exact h
  refine vr_aload_n hE dX14_days_0 rfl ?_
  refine bc_get (z := 0) hE kc_X14 (by decide) q1857 (Or.inl rfl) h_a rfl dX14_days_1 ?_
  refine bc_callV hE (bk_X6_inspected G _ t r _ _ _ _ _ _ _ _ _ _ h_t) kc_X6 h_t ok_X6_inspected (lw_V q1869 q1794 q1795 q106 q1796) rfl rfl (Nat.le_of_ble_eq_true rfl) (by decide) dX14_days_4 (fun _ _ _ h => h.elim) ?_
  rintro v_4 M_4 ⟨rfl, hu_4⟩
  obtain rfl := hu_4.symm
  refine vr_iconst (v := -1) hE dX14_days_7 (by decide) ?_
  apply vt_icmp_ne (tgt := 16) (J := 31) hE dX14_days_8 (by decide)
  · intro c_8 kt1
    refine vr_aload_n hE dX14_days_16 rfl ?_
    refine bc_get (z := 1) hE kc_X14 (by decide) q1859 (Or.inl rfl) h_a rfl dX14_days_17 ?_
    refine bc_getN (z := 4) hE kc_X2 (by decide) q181 (Or.inl rfl) h_r rfl dX14_days_20 ?_
    refine vr_aload_n hE dX14_days_23 rfl ?_
    refine bc_get (z := 0) hE kc_X14 (by decide) q1857 (Or.inl rfl) h_a rfl dX14_days_24 ?_
    refine bc_callV hE (bk_X6_inspected G _ t r _ _ _ _ _ _ _ _ _ _ h_t) kc_X6 h_t ok_X6_inspected (lw_V q1869 q1794 q1795 q106 q1796) rfl rfl (Nat.le_of_ble_eq_true rfl) (by decide) dX14_days_27 (fun _ _ _ h => h.elim) ?_
    rintro v_27 M_27 ⟨rfl, hu_27⟩
    obtain rfl := hu_27.symm
    refine vr_isub hE dX14_days_30 ?_
    exact kt1
  · intro c_8 kf1
    refine vr_ldcI hE q1870 dX14_days_11 ?_
    refine vr_goto (tgt := 31) hE dX14_days_13 (by decide) ?_
    exact kf1
  refine vr_ireturn hE hQ rfl dX14_days_31 (by decide) ⟨_, ?_, fun H h => hW _ H h⟩
  exact ⟨rfl, rfl⟩
theorem ok_X2_next : bi_ok yX2_next RX2 0 := by decide +kernel
theorem bk_X2_next {Y : bi_Y} (G : bi_GS Y) (M : va_M) (R : cR) (n w : Nat) (s : Nat → Int32) (hR : RoundM Y M R n w s) (hI : c_in s n) : bc_Met Y yX2_next (ws_ yX2_next cX2_next 6 (some (.object "BrassInspector$Round$Trader"))) 6 127 12 24 M [.ref R.r] (fun v M' => v = some (match m_nx s n with | none => .null | some b => .ref (R.tr b)) ∧ M' = M) bi_nx := by
  refine bc_Met.of (own := RX2) (L0 := [some (.ref R.r), none, none, none, none, none]) rfl (by decide) G (Nat.le_of_ble_eq_true rfl) rfl (fun X A hE hQ hW hnl hnm => ?_)
  have hnl : ∀ q, q < 6 → q < bi_nL X := fun q h => by rw [hnl]; exact h
  refine vr_null hE dX2_next_0 ?_
  refine vr_astore_nN hE dX2_next_1 (hnl _ (by decide)) rfl ?_
  refine vr_aload_n hE dX2_next_2 rfl ?_
  refine vr_aload_n hE dX2_next_3 rfl ?_
  refine bc_callV hE (bk_X2_fairNow G _ R.r _ _ _ _ _ _ _ hR.hr) kc_X2 hR.hr ok_X2_fairNow (lw_V q1331 q1332 q1333 q72 q1334) rfl rfl (Nat.le_of_ble_eq_true rfl) (by decide) dX2_next_4 (fun _ _ _ h => h.elim) ?_
  rintro v_4 M_4 ⟨rfl, hu_4⟩
  obtain rfl := hu_4.symm
  refine bc_callV hE (bk_X2_of G _ R n w s hR (m_fn s)) kc_X2 hR.hr ok_X2_of (lw_V q1335 q1336 q1337 q72 q1338) rfl rfl (Nat.le_of_ble_eq_true rfl) (by decide) dX2_next_7 (fun _ _ _ h => h.elim) ?_
  rintro v_7 M_7 ⟨of, rfl, hnof, e_7⟩
  have hof_7 := (congrFun e_7 of).trans (bu_self _ _ _)
  have hx_7 : ∀ q e, M q = some e → M_7 q = some e := fun q e z => (congrFun e_7 q).trans ((bu_ne (bc_new_ne z hnof)).trans z)
  have hR_7 : RoundM Y M_7 R n w s := hR.ext hx_7
  refine bc_callF (ar := 0) hE (bk_X9_iterator G _ R n w s hR_7 of (m_fn s) hof_7) kc_X9 hof_7 (by decide +kernel) (lw_Fg q1355 q1359 q1361 q110 q1363) ⟨q1357, q1356, q1362, q1360, q1358⟩ rfl rfl (Nat.le_of_ble_eq_true rfl) (by decide) dX2_next_10 (fun _ _ _ h => h.elim) ?_
  rintro v_10 M_10 ⟨jt, rfl, hnjt0, e_10⟩
  have hjt_10 := (congrFun e_10 jt).trans (bu_self _ _ _)
  have hofn_10 := (congrFun e_10 of).trans ((bu_ne (bc_new_ne hof_7 hnjt0)).trans hof_7)
  have hx_10 : ∀ q e, M q = some e → M_10 q = some e := fun q e z => (congrFun e_10 q).trans ((bu_ne (bc_new_ne (hx_7 q e z) hnjt0)).trans (hx_7 q e z))
  have hnjt : M jt = none := by
    cases hz : M jt with
    | none => rfl
    | some e9 => exact absurd rfl (bc_new_ne (hx_7 jt e9 hz) hnjt0)
  refine vr_astore_n hE dX2_next_15 (hnl _ (by decide)) rfl ?_
  have hlp_16 : ∀ (c : Nat) (k v lg : Nat) (M1 : va_M), n ≤ c + k → k ≤ n → v ≤ k → (k < n → s (15 + k) = m_fn s) → M1 jt = some (.inr (7, [.int (nI k), .ref of])) → M1 of = some (.inr (6, [.int (m_fn s), .ref R.r])) → (∀ q e, M q = some e → M1 q = some e) → (∀ b, m_nx s k = some b → M1 lg = some (.inr (15, [.ref (R.tr b), .ref R.r]))) → bi_V Y.1 X (bc_W Y (bi_A X) M1) (2 + v) (4 + 2 * v) 16 [some (.ref R.r), some (c_lv (m_nx s k) lg), some (.ref jt), none, none, none] [] := by
    intro c
    induction c with
    | zero =>
      intro k v lg M1 hc hk hv hm hjt1 hof1 hk1 hlg1
      have hn10 := hR.hn
      have hw4 := hR.hw
      have hR1 : RoundM Y M1 R n w s := hR.ext hk1
      refine vr_aload_n hE dX2_next_16 rfl ?_
      refine bc_callF (ar := 0) hE (bk_X10_hasNext G _ R n w _ hR1 of (m_fn s) hof1 jt k hjt1 hk) kc_X10 hjt1 (by decide +kernel) (lw_Fg q813 q817 q819 q111 q821) ⟨q815, q814, q820, q818, q816⟩ rfl rfl (Nat.le_of_ble_eq_true rfl) ⟨by decide, by decide, by omega, by omega⟩ dX2_next_17 (fun _ _ _ h => h.elim) ?_
      rintro v_17 M_17 ⟨rfl, hu_17⟩
      obtain rfl := hu_17.symm
      refine vr_if_eq (tgt := 91) hE dX2_next_22 (by decide) (fun c_22 => ?_) (fun c_22 => ?_)
      · skip
        have hkn9 : k = n := by omega
        cases ho : m_nx s k with
        | none =>
          refine vr_L (L' := [some (.ref R.r), some .null, some (.ref jt), none, none, none]) (by first | rfl | (rw [ho]; rfl)) ?_
          refine vr_aload_nN hE dX2_next_91 rfl ?_
          refine vr_ifnonnullN hE dX2_next_92 ?_
          refine vr_null hE dX2_next_95 ?_
          refine vr_goto (tgt := 103) hE dX2_next_96 (by decide) ?_
          refine vr_areturn hE hQ (Or.inl ⟨_, rfl⟩) (Or.inl rfl) dX2_next_103 ⟨by omega, by omega⟩ ⟨M, ?_, fun H h => hW _ H (h.less hk1)⟩
          exact ⟨by rw [← hkn9, ho], rfl⟩
        | some b =>
          refine vr_L (L' := [some (.ref R.r), some (.ref lg), some (.ref jt), none, none, none]) (by first | rfl | (rw [ho]; rfl)) ?_
          refine vr_aload_n hE dX2_next_91 rfl ?_
          refine vr_ifnonnull (tgt := 99) hE dX2_next_92 (by decide) ?_
          refine vr_aload_n hE dX2_next_99 rfl ?_
          refine bc_getN (z := 0) hE kc_X14 (by decide) q1858 (Or.inl rfl) (hlg1 b ho) rfl dX2_next_100 ?_
          refine vr_areturn hE hQ (Or.inl ⟨_, rfl⟩) (Or.inr ⟨_, rfl⟩) dX2_next_103 ⟨by omega, by omega⟩ ⟨M, ?_, fun H h => hW _ H (h.less hk1)⟩
          exact ⟨by rw [← hkn9, ho], rfl⟩
      · exact absurd (if_pos (show n ≤ k by omega)) c_22
    | succ c ih =>
      intro k v lg M1 hc hk hv hm hjt1 hof1 hk1 hlg1
      have hn10 := hR.hn
      have hw4 := hR.hw
      have hR1 : RoundM Y M1 R n w s := hR.ext hk1
      refine vr_aload_n hE dX2_next_16 rfl ?_
      refine bc_callF (ar := 0) hE (bk_X10_hasNext G _ R n w _ hR1 of (m_fn s) hof1 jt k hjt1 hk) kc_X10 hjt1 (by decide +kernel) (lw_Fg q813 q817 q819 q111 q821) ⟨q815, q814, q820, q818, q816⟩ rfl rfl (Nat.le_of_ble_eq_true rfl) ⟨by decide, by decide, by omega, by omega⟩ dX2_next_17 (fun _ _ _ h => h.elim) ?_
      rintro v_17 M_17 ⟨rfl, hu_17⟩
      obtain rfl := hu_17.symm
      refine vr_if_eq (tgt := 91) hE dX2_next_22 (by decide) (fun c_22 => ?_) (fun c_22 => ?_)
      · have hkn : k = n := Classical.byContradiction fun z => absurd c_22 (by rw [if_neg (show ¬ n ≤ k by omega)]; decide)
        have hkn9 : k = n := by omega
        cases ho : m_nx s k with
        | none =>
          refine vr_L (L' := [some (.ref R.r), some .null, some (.ref jt), none, none, none]) (by first | rfl | (rw [ho]; rfl)) ?_
          refine vr_aload_nN hE dX2_next_91 rfl ?_
          refine vr_ifnonnullN hE dX2_next_92 ?_
          refine vr_null hE dX2_next_95 ?_
          refine vr_goto (tgt := 103) hE dX2_next_96 (by decide) ?_
          refine vr_areturn hE hQ (Or.inl ⟨_, rfl⟩) (Or.inl rfl) dX2_next_103 ⟨by omega, by omega⟩ ⟨M, ?_, fun H h => hW _ H (h.less hk1)⟩
          exact ⟨by rw [← hkn9, ho], rfl⟩
        | some b =>
          refine vr_L (L' := [some (.ref R.r), some (.ref lg), some (.ref jt), none, none, none]) (by first | rfl | (rw [ho]; rfl)) ?_
          refine vr_aload_n hE dX2_next_91 rfl ?_
          refine vr_ifnonnull (tgt := 99) hE dX2_next_92 (by decide) ?_
          refine vr_aload_n hE dX2_next_99 rfl ?_
          refine bc_getN (z := 0) hE kc_X14 (by decide) q1858 (Or.inl rfl) (hlg1 b ho) rfl dX2_next_100 ?_
          refine vr_areturn hE hQ (Or.inl ⟨_, rfl⟩) (Or.inr ⟨_, rfl⟩) dX2_next_103 ⟨by omega, by omega⟩ ⟨M, ?_, fun H h => hW _ H (h.less hk1)⟩
          exact ⟨by rw [← hkn9, ho], rfl⟩
      · have hkn : k < n := Nat.lt_of_not_le (fun z => c_22 (if_pos z))
        refine vr_aload_n hE dX2_next_25 rfl ?_
        refine bc_callF (ar := 0) hE (bk_X10_next G _ R n w _ hR1 of (m_fn s) hof1 jt k hjt1 hkn) kc_X10 hjt1 (by decide +kernel) (lw_Fg q863 q866 q868 q111 q870) ⟨q865, q864, q869, q867, q816⟩ rfl rfl (Nat.le_of_ble_eq_true rfl) ⟨by decide, by decide, by omega, by omega⟩ dX2_next_26 (fun _ _ _ h => h.elim) ?_
        rintro v_26 M_26 ⟨rfl, e_26⟩
        have hR_r_26 := (congrFun e_26 R.r).trans ((bu_ne (bc_dist hR1.hr hjt1 (bc_ci (by decide)))).trans hR1.hr)
        have hR_tl_26 := (congrFun e_26 R.tl).trans ((bu_ne (bc_dist hR1.htl hjt1 (bc_ci (by decide)))).trans hR1.htl)
        have hR_wl_26 := (congrFun e_26 R.wl).trans ((bu_ne (bc_dist hR1.hwl hjt1 (bc_ci (by decide)))).trans hR1.hwl)
        have h_R_tr_k__26 := (congrFun e_26 (R.tr k)).trans ((bu_ne (bc_dist (hR1.htr k (by omega)) hjt1 (bc_ci (by decide)))).trans (hR1.htr k (by omega)))
        have hof_26 := (congrFun e_26 of).trans ((bu_ne (bc_dist hof1 hjt1 (bc_ci (by decide)))).trans hof1)
        have hjt_26 := (congrFun e_26 jt).trans (bu_self _ _ _)
        have hR_26 : RoundM Y M_26 R n w s := hR1.oth hjt1 (by decide) e_26
        have hkx_26 : ∀ q e, M q = some e → M_26 q = some e := fun q e z => (congrFun e_26 q).trans ((bu_ne (bc_new_ne z hnjt)).trans (hk1 q e z))
        cases ho : m_nx s k with
        | none =>
          refine vr_L (L' := [some (.ref R.r), some .null, some (.ref jt), none, none, none]) (by first | rfl | (rw [ho]; rfl)) ?_
          refine vr_castS hE kc_X6.1 (bc_cls kc_X6 h_R_tr_k__26) q1076 dX2_next_31 ?_
          refine vr_astore_n hE dX2_next_34 (hnl _ (by decide)) rfl ?_
          refine bc_new (fs := [.null, .null]) hE kc_X14 q1851 q1852 q117 df_X14 (by decide) ⟨by omega, by omega⟩ dX2_next_35 (fun x hn_x => ?_)
          refine bc_nm (fun M_35 e_35 => ?_)
          have nR_r_x := bc_new_ne hR_r_26 hn_x
          have nR_tl_x := bc_new_ne hR_tl_26 hn_x
          have nR_wl_x := bc_new_ne hR_wl_26 hn_x
          have n_R_tr_k__x := bc_new_ne h_R_tr_k__26 hn_x
          have nof_x := bc_new_ne hof_26 hn_x
          have njt_x := bc_new_ne hjt_26 hn_x
          have hR_r_35 := (congrFun e_35 R.r).trans ((bu_ne nR_r_x).trans hR_r_26)
          have hR_tl_35 := (congrFun e_35 R.tl).trans ((bu_ne nR_tl_x).trans hR_tl_26)
          have hR_wl_35 := (congrFun e_35 R.wl).trans ((bu_ne nR_wl_x).trans hR_wl_26)
          have h_R_tr_k__35 := (congrFun e_35 (R.tr k)).trans ((bu_ne n_R_tr_k__x).trans h_R_tr_k__26)
          have hof_35 := (congrFun e_35 of).trans ((bu_ne nof_x).trans hof_26)
          have hjt_35 := (congrFun e_35 jt).trans ((bu_ne njt_x).trans hjt_26)
          have hx_35 := (congrFun e_35 x).trans (bu_self _ _ _)
          refine vr_dup hE dX2_next_38 rfl ?_
          refine vr_aload_n hE dX2_next_39 rfl ?_
          refine vr_aload_n hE dX2_next_40 rfl ?_
          refine bc_callI hE (bk_X14_init G _ x R.r (R.tr k) hx_35) ok_X14_init rfl q1853 q1854 q117 q1855 rfl rfl (Nat.le_of_ble_eq_true rfl) ⟨by decide, by decide, by omega, by omega⟩ dX2_next_41 (fun _ _ _ h => h.elim) ?_
          rintro v_41 M_41 ⟨rfl, e_41⟩
          have hR_r_41 := (congrFun e_41 R.r).trans ((bu_ne nR_r_x).trans hR_r_35)
          have hR_tl_41 := (congrFun e_41 R.tl).trans ((bu_ne nR_tl_x).trans hR_tl_35)
          have hR_wl_41 := (congrFun e_41 R.wl).trans ((bu_ne nR_wl_x).trans hR_wl_35)
          have h_R_tr_k__41 := (congrFun e_41 (R.tr k)).trans ((bu_ne n_R_tr_k__x).trans h_R_tr_k__35)
          have hof_41 := (congrFun e_41 of).trans ((bu_ne nof_x).trans hof_35)
          have hjt_41 := (congrFun e_41 jt).trans ((bu_ne njt_x).trans hjt_35)
          have hx_41 := (congrFun e_41 x).trans (bu_self _ _ _)
          have hkx_41 : ∀ q e, M q = some e → M_41 q = some e := fun q e z => (congrFun e_41 q).trans ((bu_ne (bc_new_ne (hkx_26 q e z) hn_x)).trans ((congrFun e_35 q).trans ((bu_ne (bc_new_ne (hkx_26 q e z) hn_x)).trans (hkx_26 q e z))))
          refine vr_astore hE dX2_next_44 (hnl _ (by decide)) rfl ?_
          refine vr_aload_n hE dX2_next_46 rfl ?_
          refine bc_callV hE (bk_X6_isInspectedNow G _ (R.tr k) R.r _ _ _ _ _ _ _ _ _ _ h_R_tr_k__41 _ _ _ _ _ _ _ hR_r_41) kc_X6 h_R_tr_k__41 ok_X6_isInspectedNow (lw_V q1496 q1497 q1498 q106 q1499) rfl rfl (Nat.le_of_ble_eq_true rfl) ⟨by decide, by decide, by omega, by omega⟩ dX2_next_47 (fun _ _ _ h => h.elim) ?_
          rintro v_47 M_47 ⟨rfl, hu_47⟩
          obtain rfl := hu_47.symm
          refine vr_if_ne (tgt := 73) hE dX2_next_50 (by decide) (fun c_50 => ?_) (fun c_50 => ?_)
          · have hnow : s (95 + k) = s 0 := Classical.byContradiction fun z => c_50 (if_pos z)
            refine vr_iconst (v := 0) hE dX2_next_73 (by decide) ?_
            refine vr_istore hE dX2_next_74 (hnl _ (by decide)) rfl ?_
            refine vr_iload hE dX2_next_76 rfl ?_
            refine vr_if_eq (tgt := 86) hE dX2_next_78 (by decide) (fun c_78 => ?_) (fun c_78 => ?_)
            · skip
              refine vr_aload_nN hE dX2_next_86 rfl ?_
              refine vr_astore_nN hE dX2_next_87 (hnl _ (by decide)) rfl ?_
              refine vr_goto (tgt := 16) hE dX2_next_88 (by decide) ?_
              refine vr_drop 5 (vr_drop 4 (vr_drop 3 ?_))
              have hst : m_nx s (k + 1) = none := by
                simp only [m_nx, ho]
                rw [if_neg (fun z => z.2 hnow)]
              have hnf := c_nf_ok s (m_fn s) (n - (k + 1)) (k + 1)
              have hz := ih (c_nf s (m_fn s) (n - (k + 1)) (k + 1)) (v + 1) lg M_41 (by omega) (by omega) (by omega) (fun z => hnf.2.2.2 (by omega)) hjt_41 hof_41 hkx_41 (by rw [nx_skip, hst]; exact fun b9 hb9 => by first | cases hb9; exact hx_41 | cases hb9; exact hlg_41 | cases hb9)
              rw [nx_skip, hst] at hz
              exact vr_kn (by omega) (by omega) hz
            · exact absurd rfl c_78
          · have hnow : ¬ s (95 + k) = s 0 := fun z => absurd c_50 (by rw [if_neg (fun y => y z)]; decide)
            refine vr_aload_nN hE dX2_next_53 rfl ?_
            refine vr_ifnullN (tgt := 69) hE dX2_next_54 (by decide) ?_
            refine vr_iconst (v := 1) hE dX2_next_69 (by decide) ?_
            refine vr_goto (tgt := 74) hE dX2_next_70 (by decide) ?_
            refine vr_istore hE dX2_next_74 (hnl _ (by decide)) rfl ?_
            refine vr_iload hE dX2_next_76 rfl ?_
            refine vr_if_eq (tgt := 86) hE dX2_next_78 (by decide) (fun c_78 => ?_) (fun c_78 => ?_)
            · exact absurd c_78 (by decide)
            skip
            refine vr_aload hE dX2_next_81 rfl ?_
            refine vr_goto (tgt := 87) hE dX2_next_83 (by decide) ?_
            refine vr_astore_n hE dX2_next_87 (hnl _ (by decide)) rfl ?_
            refine vr_goto (tgt := 16) hE dX2_next_88 (by decide) ?_
            refine vr_drop 5 (vr_drop 4 (vr_drop 3 ?_))
            have hst : m_nx s (k + 1) = some k := by
              simp only [m_nx, ho]
              rw [if_pos ⟨hm hkn, hnow⟩]
            have hnf := c_nf_ok s (m_fn s) (n - (k + 1)) (k + 1)
            have hz := ih (c_nf s (m_fn s) (n - (k + 1)) (k + 1)) (v + 1) x M_41 (by omega) (by omega) (by omega) (fun z => hnf.2.2.2 (by omega)) hjt_41 hof_41 hkx_41 (by rw [nx_skip, hst]; exact fun b9 hb9 => by first | cases hb9; exact hx_41 | cases hb9; exact hlg_41 | cases hb9)
            rw [nx_skip, hst] at hz
            exact vr_kn (by omega) (by omega) hz
        | some b =>
          refine vr_L (L' := [some (.ref R.r), some (.ref lg), some (.ref jt), none, none, none]) (by first | rfl | (rw [ho]; rfl)) ?_
          have hbk := c_nx_lt _ _ ho
          have hbf := hR_26.htr b (by omega)
          have hlg_26 := (congrFun e_26 lg).trans ((bu_ne (bc_dist (hlg1 b ho) hjt1 (bc_ci (by decide)))).trans (hlg1 b ho))
          refine vr_castS hE kc_X6.1 (bc_cls kc_X6 h_R_tr_k__26) q1076 dX2_next_31 ?_
          refine vr_astore_n hE dX2_next_34 (hnl _ (by decide)) rfl ?_
          refine bc_new (fs := [.null, .null]) hE kc_X14 q1851 q1852 q117 df_X14 (by decide) ⟨by omega, by omega⟩ dX2_next_35 (fun x hn_x => ?_)
          refine bc_nm (fun M_35 e_35 => ?_)
          have nR_r_x := bc_new_ne hR_r_26 hn_x
          have nR_tl_x := bc_new_ne hR_tl_26 hn_x
          have nR_wl_x := bc_new_ne hR_wl_26 hn_x
          have n_R_tr_k__x := bc_new_ne h_R_tr_k__26 hn_x
          have nof_x := bc_new_ne hof_26 hn_x
          have njt_x := bc_new_ne hjt_26 hn_x
          have nlg_x := bc_new_ne hlg_26 hn_x
          have n_R_tr_b__x := bc_new_ne hbf hn_x
          have hR_r_35 := (congrFun e_35 R.r).trans ((bu_ne nR_r_x).trans hR_r_26)
          have hR_tl_35 := (congrFun e_35 R.tl).trans ((bu_ne nR_tl_x).trans hR_tl_26)
          have hR_wl_35 := (congrFun e_35 R.wl).trans ((bu_ne nR_wl_x).trans hR_wl_26)
          have h_R_tr_k__35 := (congrFun e_35 (R.tr k)).trans ((bu_ne n_R_tr_k__x).trans h_R_tr_k__26)
          have hof_35 := (congrFun e_35 of).trans ((bu_ne nof_x).trans hof_26)
          have hjt_35 := (congrFun e_35 jt).trans ((bu_ne njt_x).trans hjt_26)
          have hlg_35 := (congrFun e_35 lg).trans ((bu_ne nlg_x).trans hlg_26)
          have h_R_tr_b__35 := (congrFun e_35 (R.tr b)).trans ((bu_ne n_R_tr_b__x).trans hbf)
          have hx_35 := (congrFun e_35 x).trans (bu_self _ _ _)
          refine vr_dup hE dX2_next_38 rfl ?_
          refine vr_aload_n hE dX2_next_39 rfl ?_
          refine vr_aload_n hE dX2_next_40 rfl ?_
          refine bc_callI hE (bk_X14_init G _ x R.r (R.tr k) hx_35) ok_X14_init rfl q1853 q1854 q117 q1855 rfl rfl (Nat.le_of_ble_eq_true rfl) ⟨by decide, by decide, by omega, by omega⟩ dX2_next_41 (fun _ _ _ h => h.elim) ?_
          rintro v_41 M_41 ⟨rfl, e_41⟩
          have hR_r_41 := (congrFun e_41 R.r).trans ((bu_ne nR_r_x).trans hR_r_35)
          have hR_tl_41 := (congrFun e_41 R.tl).trans ((bu_ne nR_tl_x).trans hR_tl_35)
          have hR_wl_41 := (congrFun e_41 R.wl).trans ((bu_ne nR_wl_x).trans hR_wl_35)
          have h_R_tr_k__41 := (congrFun e_41 (R.tr k)).trans ((bu_ne n_R_tr_k__x).trans h_R_tr_k__35)
          have hof_41 := (congrFun e_41 of).trans ((bu_ne nof_x).trans hof_35)
          have hjt_41 := (congrFun e_41 jt).trans ((bu_ne njt_x).trans hjt_35)
          have hlg_41 := (congrFun e_41 lg).trans ((bu_ne nlg_x).trans hlg_35)
          have h_R_tr_b__41 := (congrFun e_41 (R.tr b)).trans ((bu_ne n_R_tr_b__x).trans h_R_tr_b__35)
          have hx_41 := (congrFun e_41 x).trans (bu_self _ _ _)
          have hkx_41 : ∀ q e, M q = some e → M_41 q = some e := fun q e z => (congrFun e_41 q).trans ((bu_ne (bc_new_ne (hkx_26 q e z) hn_x)).trans ((congrFun e_35 q).trans ((bu_ne (bc_new_ne (hkx_26 q e z) hn_x)).trans (hkx_26 q e z))))
          refine vr_astore hE dX2_next_44 (hnl _ (by decide)) rfl ?_
          refine vr_aload_n hE dX2_next_46 rfl ?_
          refine bc_callV hE (bk_X6_isInspectedNow G _ (R.tr k) R.r _ _ _ _ _ _ _ _ _ _ h_R_tr_k__41 _ _ _ _ _ _ _ hR_r_41) kc_X6 h_R_tr_k__41 ok_X6_isInspectedNow (lw_V q1496 q1497 q1498 q106 q1499) rfl rfl (Nat.le_of_ble_eq_true rfl) ⟨by decide, by decide, by omega, by omega⟩ dX2_next_47 (fun _ _ _ h => h.elim) ?_
          rintro v_47 M_47 ⟨rfl, hu_47⟩
          obtain rfl := hu_47.symm
          refine vr_if_ne (tgt := 73) hE dX2_next_50 (by decide) (fun c_50 => ?_) (fun c_50 => ?_)
          · have hnow : s (95 + k) = s 0 := Classical.byContradiction fun z => c_50 (if_pos z)
            refine vr_iconst (v := 0) hE dX2_next_73 (by decide) ?_
            refine vr_istore hE dX2_next_74 (hnl _ (by decide)) rfl ?_
            refine vr_iload hE dX2_next_76 rfl ?_
            refine vr_if_eq (tgt := 86) hE dX2_next_78 (by decide) (fun c_78 => ?_) (fun c_78 => ?_)
            · skip
              refine vr_aload_n hE dX2_next_86 rfl ?_
              refine vr_astore_n hE dX2_next_87 (hnl _ (by decide)) rfl ?_
              refine vr_goto (tgt := 16) hE dX2_next_88 (by decide) ?_
              refine vr_drop 5 (vr_drop 4 (vr_drop 3 ?_))
              have hst : m_nx s (k + 1) = some b := by
                simp only [m_nx, ho]
                rw [if_neg (fun z => z.2 hnow)]
              have hnf := c_nf_ok s (m_fn s) (n - (k + 1)) (k + 1)
              have hz := ih (c_nf s (m_fn s) (n - (k + 1)) (k + 1)) (v + 1) lg M_41 (by omega) (by omega) (by omega) (fun z => hnf.2.2.2 (by omega)) hjt_41 hof_41 hkx_41 (by rw [nx_skip, hst]; exact fun b9 hb9 => by first | cases hb9; exact hx_41 | cases hb9; exact hlg_41 | cases hb9)
              rw [nx_skip, hst] at hz
              exact vr_kn (by omega) (by omega) hz
            · exact absurd rfl c_78
          · have hnow : ¬ s (95 + k) = s 0 := fun z => absurd c_50 (by rw [if_neg (fun y => y z)]; decide)
            refine vr_aload_n hE dX2_next_53 rfl ?_
            refine vr_ifnull hE dX2_next_54 ?_
            refine vr_aload hE dX2_next_57 rfl ?_
            refine bc_callV hE (bk_X14_days G _ x R.r (R.tr k) hx_41 _ _ _ _ _ _ _ _ _ _ h_R_tr_k__41 _ _ _ _ _ _ _ hR_r_41) kc_X14 hx_41 ok_X14_days (lw_V q1865 q1866 q1867 q117 q1868) rfl rfl (Nat.le_of_ble_eq_true rfl) ⟨by decide, by decide, by omega, by omega⟩ dX2_next_59 (fun _ _ _ h => h.elim) ?_
            rintro v_59 M_59 ⟨rfl, hu_59⟩
            obtain rfl := hu_59.symm
            refine vr_aload_n hE dX2_next_62 rfl ?_
            refine bc_callV hE (bk_X14_days G _ lg R.r (R.tr b) hlg_41 _ _ _ _ _ _ _ _ _ _ h_R_tr_b__41 _ _ _ _ _ _ _ hR_r_41) kc_X14 hlg_41 ok_X14_days (lw_V q1865 q1866 q1867 q117 q1868) rfl rfl (Nat.le_of_ble_eq_true rfl) ⟨by decide, by decide, by omega, by omega⟩ dX2_next_63 (fun _ _ _ h => h.elim) ?_
            rintro v_63 M_63 ⟨rfl, hu_63⟩
            obtain rfl := hu_63.symm
            refine vr_icmp_le (tgt := 73) hE dX2_next_66 (by decide) (fun c_66 => ?_) (fun c_66 => ?_)
            · have hcm : s (95 + b) ≤ s (95 + k) := (c_dys_ok hI hkn (by omega)).mp c_66
              refine vr_iconst (v := 0) hE dX2_next_73 (by decide) ?_
              refine vr_istore hE dX2_next_74 (hnl _ (by decide)) rfl ?_
              refine vr_iload hE dX2_next_76 rfl ?_
              refine vr_if_eq (tgt := 86) hE dX2_next_78 (by decide) (fun c_78 => ?_) (fun c_78 => ?_)
              · skip
                refine vr_aload_n hE dX2_next_86 rfl ?_
                refine vr_astore_n hE dX2_next_87 (hnl _ (by decide)) rfl ?_
                refine vr_goto (tgt := 16) hE dX2_next_88 (by decide) ?_
                refine vr_drop 5 (vr_drop 4 (vr_drop 3 ?_))
                have hst : m_nx s (k + 1) = some b := by
                  simp only [m_nx, ho]
                  rw [if_pos ⟨hm hkn, hnow⟩, if_pos hcm]
                have hnf := c_nf_ok s (m_fn s) (n - (k + 1)) (k + 1)
                have hz := ih (c_nf s (m_fn s) (n - (k + 1)) (k + 1)) (v + 1) lg M_41 (by omega) (by omega) (by omega) (fun z => hnf.2.2.2 (by omega)) hjt_41 hof_41 hkx_41 (by rw [nx_skip, hst]; exact fun b9 hb9 => by first | cases hb9; exact hx_41 | cases hb9; exact hlg_41 | cases hb9)
                rw [nx_skip, hst] at hz
                exact vr_kn (by omega) (by omega) hz
              · exact absurd rfl c_78
            · have hcm : ¬ s (95 + b) ≤ s (95 + k) := fun z => c_66 ((c_dys_ok hI hkn (by omega)).mpr z)
              refine vr_iconst (v := 1) hE dX2_next_69 (by decide) ?_
              refine vr_goto (tgt := 74) hE dX2_next_70 (by decide) ?_
              refine vr_istore hE dX2_next_74 (hnl _ (by decide)) rfl ?_
              refine vr_iload hE dX2_next_76 rfl ?_
              refine vr_if_eq (tgt := 86) hE dX2_next_78 (by decide) (fun c_78 => ?_) (fun c_78 => ?_)
              · exact absurd c_78 (by decide)
              skip
              refine vr_aload hE dX2_next_81 rfl ?_
              refine vr_goto (tgt := 87) hE dX2_next_83 (by decide) ?_
              refine vr_astore_n hE dX2_next_87 (hnl _ (by decide)) rfl ?_
              refine vr_goto (tgt := 16) hE dX2_next_88 (by decide) ?_
              refine vr_drop 5 (vr_drop 4 (vr_drop 3 ?_))
              have hst : m_nx s (k + 1) = some k := by
                simp only [m_nx, ho]
                rw [if_pos ⟨hm hkn, hnow⟩, if_neg hcm]
              have hnf := c_nf_ok s (m_fn s) (n - (k + 1)) (k + 1)
              have hz := ih (c_nf s (m_fn s) (n - (k + 1)) (k + 1)) (v + 1) x M_41 (by omega) (by omega) (by omega) (fun z => hnf.2.2.2 (by omega)) hjt_41 hof_41 hkx_41 (by rw [nx_skip, hst]; exact fun b9 hb9 => by first | cases hb9; exact hx_41 | cases hb9; exact hlg_41 | cases hb9)
              rw [nx_skip, hst] at hz
              exact vr_kn (by omega) (by omega) hz
  have hnf := c_nf_ok s (m_fn s) n 0
  have hn10 := hR.hn
  have hz := hlp_16 n (c_nf s (m_fn s) n 0) 0 0 M_10 (by omega) (by omega) (Nat.zero_le _) (fun z => hnf.2.2.2 (by omega)) hjt_10 hofn_10 hx_10 (by rw [nx_skip]; exact fun b hb => by cases hb)
  rw [nx_skip] at hz
  exact hz
