/-! a day goes by -/
set_option maxRecDepth 100000
theorem accG {α : Type} (acc : Nat → α) {a b : Nat} (h : ∀ j, a ≤ j → j < b → acc (j + 1) = acc j) (hab : a ≤ b) : acc b = acc a := by
  obtain ⟨d, rfl⟩ := Nat.exists_eq_add_of_le hab
  clear hab
  induction d with
  | zero => rfl
  | succ d ih =>
    rw [show a + (d + 1) = a + d + 1 by omega, h (a + d) (by omega) (by omega)]
    exact ih (fun j h1 h2 => h j h1 (by omega))
theorem c_nf_eq {s s' : Nat → Int32} {f : Int32} : ∀ c k, (∀ j, j < c + k → s' (15 + j) = s (15 + j)) → c_nf s' f c k = c_nf s f c k := by
  intro c
  induction c with
  | zero => exact fun _ _ => rfl
  | succ c ih =>
    intro k h
    simp only [c_nf]
    rw [h k (by omega), ih (k + 1) (fun j hj => h j (by omega))]
theorem d1_fn (s : Nat → Int32) {i : Nat} (h : i ≤ 10) : m_fn (m_d1 s i).1 = m_fn s := by
  unfold m_fn
  rw [m_d1_ne (Or.inl (by decide)) i h]
theorem d1_skip {s : Nat → Int32} {c k : Nat} (hck : c + k ≤ 10) : m_d1 s (c_nf s (m_fn s) c k) = m_d1 s k :=
  accG (m_d1 s) (fun j h1 h2 => by
    have hh := c_nf_ok s (m_fn s) c k
    show m_d1s (m_d1 s j) j = m_d1 s j
    unfold m_d1s
    rw [if_neg]
    intro z
    apply hh.2.2.1 j h1 h2
    rw [← m_d1_ne (s := s) (j := 15 + j) (Or.inl (by omega)) j (by omega), z.1, d1_fn s (by omega)]) (c_nf_ok s (m_fn s) c k).1
theorem sells_g (s : Nat → Int32) (t : Nat) : (20 + c_tens (s (45 + t)) + 10) = 30 + m_tens s t := by
  show 20 + m_tens s t + 10 = _
  rw [Int32.add_assoc, Int32.add_comm (m_tens s t) 10, ← Int32.add_assoc]
  rfl
theorem sells_ok (s : Nat → Int32) (r : Nat) {t : Nat} (ht : t < 10) : tL (nI t) (s (15 + t)) (c_min 999 (s (25 + t) + ((20 + c_tens (s (45 + t)) + 10) - c_min ((20 + c_tens (s (45 + t)) + 10) / 2) (s (35 + t))))) (s (35 + t) - c_min ((20 + c_tens (s (45 + t)) + 10) / 2) (s (35 + t))) (s (45 + t)) (s (55 + t)) (s (65 + t)) (s (75 + t)) (s (85 + t)) (s (95 + t)) r = tS (m_gets s t (30 + m_tens s t)) r t := by
  rw [sells_g, c_min_eq 999, c_min_eq ((30 + m_tens s t) / 2)]
  generalize hc : 30 + m_tens s t = c
  have e35 : m_gets s t c (35 + t) = s (35 + t) - m_gpay s t c := by
    simp only [m_gets]
    rw [pk_un (by omega), pk_us]
  have e25 : m_gets s t c (25 + t) = if s (25 + t) + (c - m_gpay s t c) ≤ 999 then s (25 + t) + (c - m_gpay s t c) else 999 := by
    simp only [m_gets]
    have ea : ∀ a c g : Int32, a + c - g = a + (c - g) := fun a c g => by rw [Int32.sub_eq_add_neg, Int32.add_assoc, ← Int32.sub_eq_add_neg]
    rw [pk_us, pk_un (by omega), ea]
  simp only [tS]
  rw [e35, e25]
  simp (disch := omega) only [m_gets_ne]
  rfl
/-- each scale drifts; each seal ages -/
def c_d2a (s : Nat → Int32) : Nat → Nat → Int32
  | 0 => s
  | i + 1 => m_d2a (c_d2a s i) i
def c_d2b (s : Nat → Int32) : Nat → Nat → Int32
  | 0 => s
  | i + 1 => m_d2b (c_d2b s i) i
theorem d2a_ne {s : Nat → Int32} {i j : Nat} (h : j ≠ 45 + i) : m_d2a s i j = s j := pk_un h
theorem d2b_ne {s : Nat → Int32} {i j : Nat} (h : j ≠ 65 + i) : m_d2b s i j = s j := pk_un h
theorem d2_comm {x : Nat → Int32} {i j : Nat} (hi : i < 10) (hj : j < 10) : m_d2a (m_d2b x i) j = m_d2b (m_d2a x j) i := by
  funext k
  by_cases h1 : k = 45 + j
  · subst h1
    rw [d2b_ne (by omega)]
    show upd _ _ _ _ = upd _ _ _ _
    rw [pk_us, pk_us, d2b_ne (by omega), d2b_ne (by omega)]
  · rw [d2a_ne h1]
    by_cases h2 : k = 65 + i
    · subst h2
      show upd _ _ _ _ = upd _ _ _ _
      rw [pk_us, pk_us, d2a_ne (by omega), d2a_ne (by omega)]
    · rw [d2b_ne h2, d2b_ne h2, d2a_ne h1]
theorem d2_commB {x : Nat → Int32} {j : Nat} (hj : j < 10) : ∀ i, i ≤ 10 → m_d2a (c_d2b x i) j = c_d2b (m_d2a x j) i := by
  intro i
  induction i with
  | zero => intro _; rfl
  | succ i ih =>
    intro hi
    show m_d2a (m_d2b (c_d2b x i) i) j = m_d2b (c_d2b (m_d2a x j) i) i
    rw [d2_comm (by omega) hj, ih (by omega)]
theorem d2_ok (s : Nat → Int32) : ∀ i, i ≤ 10 → c_d2b (c_d2a s i) i = m_d2 s i := by
  intro i
  induction i with
  | zero => intro _; rfl
  | succ i ih =>
    intro hi
    show m_d2b (c_d2b (m_d2a (c_d2a s i) i) i) i = m_d2b (m_d2a (m_d2 s i) i) i
    rw [← ih (by omega), d2_commB (by omega) i (by omega)]
theorem d2a_ok (s : Nat → Int32) (r : Nat) {t : Nat} (ht : t < 10) : tL (nI t) (s (15 + t)) (s (25 + t)) (s (35 + t)) (m_drifted (s (45 + t)) (s (55 + t))) (s (55 + t)) (s (65 + t)) (s (75 + t)) (s (85 + t)) (s (95 + t)) r = tS (m_d2a s t) r t := by
  have e : m_d2a s t (45 + t) = m_drifted (s (45 + t)) (s (55 + t)) := pk_us
  simp only [tS]
  rw [e]
  simp (disch := omega) only [d2a_ne]
theorem d2b_ok (s : Nat → Int32) (r : Nat) {t : Nat} (ht : t < 10) : tL (nI t) (s (15 + t)) (s (25 + t)) (s (35 + t)) (s (45 + t)) (s (55 + t)) (if s (65 + t) = -1 then s (65 + t) else if s 0 - s (65 + t) < 30 then s (65 + t) else -1) (s (75 + t)) (s (85 + t)) (s (95 + t)) r = tS (m_d2b s t) r t := by
  have e : m_d2b s t (65 + t) = if s (65 + t) = -1 then s (65 + t) else if s 0 - s (65 + t) < 30 then s (65 + t) else -1 := pk_us
  simp only [tS]
  rw [e]
  simp (disch := omega) only [d2b_ne]
/-- errors lie in their table -/
def c_er (s : Nat → Int32) (n : Nat) : Prop := ∀ t, t < n → ∃ j, j < 101 ∧ s (45 + t) = nI j - 50
theorem c_er.of {s s' : Nat → Int32} {n : Nat} (h : c_er s n) (e : ∀ t, t < n → s' (45 + t) = s (45 + t)) : c_er s' n := fun t ht => by
  obtain ⟨j, h1, h2⟩ := h t ht
  exact ⟨j, h1, (e t ht).trans h2⟩
theorem c_er.d1 {s : Nat → Int32} {n i : Nat} (h : c_er s n) (hi : i ≤ 10) : c_er (m_d1 s i).1 n := h.of (fun t _ => m_d1_ne (Or.inr (by omega)) i hi)
theorem drifted_in (e d : Int32) : ∃ j, j < 101 ∧ m_drifted e d = nI j - 50 := by
  unfold m_drifted
  by_cases h1 : e + d ≤ 50
  · rw [if_pos h1]
    by_cases h2 : -50 ≤ e + d
    · rw [if_pos h2]
      refine ⟨(e + d + 50).toNatClampNeg, ?_, ?_⟩
      · rw [Int32.le_iff_toInt_le] at h1 h2
        have a1 : (50 : Int32).toInt = 50 := rfl
        have a2 : (-50 : Int32).toInt = -50 := rfl
        rw [a1] at h1
        rw [a2] at h2
        have : (e + d + 50).toInt = (e + d).toInt + 50 := by
          rw [Int32.toInt_add]
          rw [a1]
          exact Int.bmod_eq_of_le (by omega) (by omega)
        rw [← Int32.toNat_toInt, this]
        omega
      · rw [Int32.le_iff_toInt_le] at h1 h2
        have a1 : (50 : Int32).toInt = 50 := rfl
        have a2 : (-50 : Int32).toInt = -50 := rfl
        rw [a1] at h1
        rw [a2] at h2
        have : (e + d + 50).toInt = (e + d).toInt + 50 := by
          rw [Int32.toInt_add]
          rw [a1]
          exact Int.bmod_eq_of_le (by omega) (by omega)
        have e1 : nI (e + d + 50).toNatClampNeg = e + d + 50 := by
          apply Int32.toInt_inj.mp
          rw [nI_toInt (by rw [← Int32.toNat_toInt, this]; omega), ← Int32.toNat_toInt, this]
          omega
        rw [e1, Int32.add_sub_cancel]
    · rw [if_neg h2]
      exact ⟨0, by decide, by decide⟩
  · rw [if_neg h1]
    exact ⟨100, by decide, by decide⟩
theorem c_d2a_er {s : Nat → Int32} : ∀ i t, t < i → i ≤ 10 → ∃ j, j < 101 ∧ c_d2a s i (45 + t) = nI j - 50 := by
  intro i
  induction i with
  | zero => exact fun t h => absurd h (Nat.not_lt_zero _)
  | succ i ih =>
    intro t ht hi
    by_cases h : t = i
    · subst h
      obtain ⟨j, h1, h2⟩ := drifted_in (c_d2a s t (45 + t)) (c_d2a s t (55 + t))
      exact ⟨j, h1, pk_us.trans h2⟩
    · obtain ⟨j, h1, h2⟩ := ih t (by omega) (by omega)
      exact ⟨j, h1, (d2a_ne (by omega)).trans h2⟩
theorem c_d2b_ne {s : Nat → Int32} {j : Nat} : ∀ i, (∀ t, t < i → j ≠ 65 + t) → c_d2b s i j = s j := by
  intro i
  induction i with
  | zero => exact fun _ => rfl
  | succ i ih => exact fun h => (d2b_ne (h i (Nat.lt_succ_self i))).trans (ih (fun t ht => h t (by omega)))
theorem c_d2a_ne {s : Nat → Int32} {j : Nat} : ∀ i, (∀ t, t < i → j ≠ 45 + t) → c_d2a s i j = s j := by
  intro i
  induction i with
  | zero => exact fun _ => rfl
  | succ i ih => exact fun h => (d2a_ne (h i (Nat.lt_succ_self i))).trans (ih (fun t ht => h t (by omega)))
theorem m_d3_ne {s : Nat → Int32} {l : Int32} {j : Nat} (h0 : j ≠ 0) (h4 : j ≠ 4) : m_d3 s l j = s j := by
  simp only [m_d3]
  rw [pk_un h0, pk_un h4]
theorem c_er.day {s : Nat → Int32} {n : Nat} (hn : n ≤ 10) : c_er (m_day s n) n := fun t ht => by
  obtain ⟨j, h1, h2⟩ := c_d2a_er (s := (m_d1 s n).1) n t ht hn
  refine ⟨j, h1, ?_⟩
  show m_d3 (m_d2 (m_d1 s n).1 n) _ (45 + t) = _
  rw [m_d3_ne (by omega) (by omega), ← d2_ok _ n hn, c_d2b_ne n (fun t ht => by omega)]
  exact h2
theorem cKeep.rf {M : va_M} {R : cR} {n w : Nat} : cKeep M M R n w := fun _ _ z _ => z
theorem cKeep.bu {M M1 M2 : va_M} {R : cR} {n w a : Nat} {e : va_E} (h : cKeep M M1 R n w) (ha : fpr R n w a ∨ M a = none) (he : M2 = bu M1 a e) : cKeep M M2 R n w := fun q x z hq =>
  (congrFun he q).trans ((bu_ne (ha.elim (fun g (y : q = a) => hq (by rw [y]; exact g)) (fun g => bc_new_ne z g))).trans (h q x z hq))
theorem fpr.tr {R : cR} {n w t : Nat} (h : t < n) : fpr R n w (R.tr t) := Or.inr (Or.inr (Or.inr (Or.inr (Or.inr (Or.inr (Or.inr (Or.inl ⟨t, h, rfl⟩)))))))
theorem fpr.br {R : cR} {n w t : Nat} (h : t < w) : fpr R n w (R.br t) := Or.inr (Or.inr (Or.inr (Or.inr (Or.inr (Or.inr (Or.inr (Or.inr ⟨t, h, rfl⟩)))))))
theorem ok_X2_dayGoesBy : bi_ok yX2_dayGoesBy RX2 0 := by decide +kernel
theorem bk_X2_dayGoesBy {Y : bi_Y} (G : bi_GS Y) (M : va_M) (R : cR) (n w : Nat) (s : Nat → Int32) (hR : RoundM Y M R n w s) (hEr : c_er s n) : bc_Met Y yX2_dayGoesBy (ws_ yX2_dayGoesBy cX2_dayGoesBy 4 (some .int)) 6 127 24 62 M [.ref R.r] (fun v M' => v = some (.int (m_dayL s n)) ∧ RoundM Y M' R n w (m_day s n) ∧ cKeep M M' R n w) bi_nx := by
  refine bc_Met.of (own := RX2) (L0 := [some (.ref R.r), none, none, none]) rfl (by decide) G (Nat.le_of_ble_eq_true rfl) rfl (fun X A hE hQ hW hnl hnm => ?_)
  have hnl : ∀ q, q < 4 → q < bi_nL X := fun q h => by rw [hnl]; exact h
  refine vr_iconst (v := 0) hE dX2_dayGoesBy_0 (by decide) ?_
  refine vr_istore_n hE dX2_dayGoesBy_1 (hnl _ (by decide)) rfl ?_
  refine vr_aload_n hE dX2_dayGoesBy_2 rfl ?_
  refine vr_aload_n hE dX2_dayGoesBy_3 rfl ?_
  refine bc_callV hE (bk_X2_fairNow G _ R.r _ _ _ _ _ _ _ hR.hr) kc_X2 hR.hr ok_X2_fairNow (lw_V q1331 q1332 q1333 q72 q1334) rfl rfl (Nat.le_of_ble_eq_true rfl) (by decide) dX2_dayGoesBy_4 (fun _ _ _ h => h.elim) ?_
  rintro v_4 M_4 ⟨rfl, hu_4⟩
  obtain rfl := hu_4.symm
  refine bc_callV hE (bk_X2_of G _ R n w s hR (m_fn s)) kc_X2 hR.hr ok_X2_of (lw_V q1335 q1336 q1337 q72 q1338) rfl rfl (Nat.le_of_ble_eq_true rfl) (by decide) dX2_dayGoesBy_7 (fun _ _ _ h => h.elim) ?_
  rintro v_7 M_7 ⟨of, rfl, hnof, e_7⟩
  have hof_7 := (congrFun e_7 of).trans (bu_self _ _ _)
  have hx_7 : ∀ q e, M q = some e → M_7 q = some e := fun q e z => (congrFun e_7 q).trans ((bu_ne (bc_new_ne z hnof)).trans z)
  have hR_7 : RoundM Y M_7 R n w s := hR.ext hx_7
  refine bc_callF (ar := 0) hE (bk_X9_iterator G _ R n w s hR_7 of (m_fn s) hof_7) kc_X9 hof_7 (by decide +kernel) (lw_Fg q1355 q1359 q1361 q110 q1363) ⟨q1357, q1356, q1362, q1360, q1358⟩ rfl rfl (Nat.le_of_ble_eq_true rfl) (by decide) dX2_dayGoesBy_10 (fun _ _ _ h => h.elim) ?_
  rintro v_10 M_10 ⟨jt, rfl, hnjt0, e_10⟩
  have hjt_10 := (congrFun e_10 jt).trans (bu_self _ _ _)
  have hofn_10 := (congrFun e_10 of).trans ((bu_ne (bc_new_ne hof_7 hnjt0)).trans hof_7)
  have hx_10 : ∀ q e, M q = some e → M_10 q = some e := fun q e z => (congrFun e_10 q).trans ((bu_ne (bc_new_ne (hx_7 q e z) hnjt0)).trans (hx_7 q e z))
  have hnjt : M jt = none := by
    cases hz : M jt with
    | none => rfl
    | some e9 => exact absurd rfl (bc_new_ne (hx_7 jt e9 hz) hnjt0)
  refine vr_astore_n hE dX2_dayGoesBy_15 (hnl _ (by decide)) rfl ?_
  have hlp_16 : ∀ (c : Nat) (k v : Nat) (M1 : va_M), n ≤ c + k → k ≤ n → v ≤ k → (k < n → s (15 + k) = m_fn s) → M1 jt = some (.inr (7, [.int (nI k), .ref of])) → M1 of = some (.inr (6, [.int (m_fn s), .ref R.r])) → RoundM Y M1 R n w (m_d1 s k).1 → cKeep M M1 R n w → bi_V Y.1 X (bc_W Y (bi_A X) M1) (2 + 2 * v) (4 + 5 * v) 16 [some (.ref R.r), some (.int (m_d1 s k).2), some (.ref jt), none] [] := by
    intro c
    induction c with
    | zero =>
      intro k v M1 hc hk hv hm hjt1 hof1 hR1 hk1
      have hn10 := hR.hn
      have hw4 := hR.hw
      
      refine vr_aload_n hE dX2_dayGoesBy_16 rfl ?_
      refine bc_callF (ar := 0) hE (bk_X10_hasNext G _ R n w _ hR1 of (m_fn s) hof1 jt k hjt1 hk) kc_X10 hjt1 (by decide +kernel) (lw_Fg q813 q817 q819 q111 q821) ⟨q815, q814, q820, q818, q816⟩ rfl rfl (Nat.le_of_ble_eq_true rfl) ⟨by decide, by decide, by omega, by omega⟩ dX2_dayGoesBy_17 (fun _ _ _ h => h.elim) ?_
      rintro v_17 M_17 ⟨rfl, hu_17⟩
      obtain rfl := hu_17.symm
      refine vr_if_eq (tgt := 56) hE dX2_dayGoesBy_22 (by decide) (fun c_22 => ?_) (fun c_22 => ?_)
      · skip
        have hkn9 : k = n := by omega
        rw [hkn9] at hR1
        refine vr_aload_n hE dX2_dayGoesBy_56 rfl ?_
        refine bc_get (z := 2) hE kc_X2 (by decide) q178 (Or.inl rfl) hR1.hr rfl dX2_dayGoesBy_57 ?_
        refine bc_callF (ar := 0) hE (bk_J2_iterator G _ R.tl R.te n _ hR1.htl) kc_J2 hR1.htl (by decide +kernel) (lw_Fg q474 q478 q480 q75 q482) ⟨q476, q475, q481, q479, q477⟩ rfl rfl (Nat.le_of_ble_eq_true rfl) ⟨by decide, by decide, by omega, by omega⟩ dX2_dayGoesBy_60 (fun _ _ _ h => h.elim) ?_
        rintro v_60 M_60 ⟨it, rfl, hnit0, e_60⟩
        have hit_60 := (congrFun e_60 it).trans (bu_self _ _ _)
        have hR_60 : RoundM Y M_60 R n w (m_d1 s n).1 := hR1.ext (fun q9 x9 z9 => (congrFun e_60 q9).trans ((bu_ne (bc_new_ne z9 hnit0)).trans z9))
        have hnit : fpr R n w it ∨ M it = none := by
          by_cases hf9 : fpr R n w it
          · exact Or.inl hf9
          · refine Or.inr ?_
            cases hz : M it with
            | none => rfl
            | some e9 => exact absurd rfl (bc_new_ne (hk1 it e9 hz hf9) hnit0)
        have hk_60 : cKeep M M_60 R n w := hk1.bu hnit e_60
        refine vr_astore_n hE dX2_dayGoesBy_65 (hnl _ (by decide)) rfl ?_
        refine vr_L (L' := [some (.ref R.r), some (.int (m_dayL s n)), some (.ref it), none]) (by rw [hkn9]; rfl) ?_
        have hlp_66 : ∀ (c : Nat) (i : Nat) (lr : Int32) (M1 : va_M), i + c = n → M1 it = some (.inr (23, itL (nI i) lr (nI n) R.tl)) → RoundM Y M1 R n w (c_d2a (m_d1 s n).1 i) → cKeep M M1 R n w → bi_V Y.1 X (bc_W Y (bi_A X) M1) (3 + 2 * v) (8 + 5 * v) 66 [some (.ref R.r), some (.int (m_dayL s n)), some (.ref it), none] [] := by
          intro c
          induction c with
          | zero =>
            intro i lr M1 hi hit1 hR1 hk1
            have hn10 := hR.hn
            have hw4 := hR.hw
            refine vr_aload_n hE dX2_dayGoesBy_66 rfl ?_
            skip
            refine bc_callF (ar := 0) hE (bk_J15_hasNext G _ it R.tl R.te n i lr _ hit1 hR1.htl (by omega) hR1.hn) kc_J15 hit1 (by decide +kernel) (lw_Fg q813 q848 q850 q92 q852) ⟨q815, q814, q851, q849, q847⟩ rfl rfl (Nat.le_of_ble_eq_true rfl) ⟨by decide, by decide, by omega, by omega⟩ dX2_dayGoesBy_67 (fun _ _ _ h => h.elim) ?_
            rintro v_67 M_67 ⟨rfl, hu_67⟩
            obtain rfl := hu_67.symm
            refine vr_if_eq (tgt := 92) hE dX2_dayGoesBy_72 (by decide) (fun c_72 => ?_) (fun c_72 => ?_)
            · have hin : i = n := by omega
              rw [hin] at hR1
              refine vr_aload_n hE dX2_dayGoesBy_92 rfl ?_
              refine bc_get (z := 2) hE kc_X2 (by decide) q178 (Or.inl rfl) hR1.hr rfl dX2_dayGoesBy_93 ?_
              refine bc_callF (ar := 0) hE (bk_J2_iterator G _ R.tl R.te n _ hR1.htl) kc_J2 hR1.htl (by decide +kernel) (lw_Fg q474 q478 q480 q75 q482) ⟨q476, q475, q481, q479, q477⟩ rfl rfl (Nat.le_of_ble_eq_true rfl) ⟨by decide, by decide, by omega, by omega⟩ dX2_dayGoesBy_96 (fun _ _ _ h => h.elim) ?_
              rintro v_96 M_96 ⟨it, rfl, hnit0, e_96⟩
              have hit_96 := (congrFun e_96 it).trans (bu_self _ _ _)
              have hR_96 : RoundM Y M_96 R n w (c_d2a (m_d1 s n).1 n) := hR1.ext (fun q9 x9 z9 => (congrFun e_96 q9).trans ((bu_ne (bc_new_ne z9 hnit0)).trans z9))
              have hnit : fpr R n w it ∨ M it = none := by
                by_cases hf9 : fpr R n w it
                · exact Or.inl hf9
                · refine Or.inr ?_
                  cases hz : M it with
                  | none => rfl
                  | some e9 => exact absurd rfl (bc_new_ne (hk1 it e9 hz hf9) hnit0)
              have hk_96 : cKeep M M_96 R n w := hk1.bu hnit e_96
              refine vr_astore_n hE dX2_dayGoesBy_101 (hnl _ (by decide)) rfl ?_
              have hlp_102 : ∀ (c : Nat) (i : Nat) (lr : Int32) (M1 : va_M), i + c = n → M1 it = some (.inr (23, itL (nI i) lr (nI n) R.tl)) → RoundM Y M1 R n w (c_d2b (c_d2a (m_d1 s n).1 n) i) → cKeep M M1 R n w → bi_V Y.1 X (bc_W Y (bi_A X) M1) (4 + 2 * v) (12 + 5 * v) 102 [some (.ref R.r), some (.int (m_dayL s n)), some (.ref it), none] [] := by
                intro c
                induction c with
                | zero =>
                  intro i lr M1 hi hit1 hR1 hk1
                  have hn10 := hR.hn
                  have hw4 := hR.hw
                  refine vr_aload_n hE dX2_dayGoesBy_102 rfl ?_
                  skip
                  refine bc_callF (ar := 0) hE (bk_J15_hasNext G _ it R.tl R.te n i lr _ hit1 hR1.htl (by omega) hR1.hn) kc_J15 hit1 (by decide +kernel) (lw_Fg q813 q848 q850 q92 q852) ⟨q815, q814, q851, q849, q847⟩ rfl rfl (Nat.le_of_ble_eq_true rfl) ⟨by decide, by decide, by omega, by omega⟩ dX2_dayGoesBy_103 (fun _ _ _ h => h.elim) ?_
                  rintro v_103 M_103 ⟨rfl, hu_103⟩
                  obtain rfl := hu_103.symm
                  refine vr_if_eq (tgt := 128) hE dX2_dayGoesBy_108 (by decide) (fun c_108 => ?_) (fun c_108 => ?_)
                  · have hin : i = n := by omega
                    rw [hin] at hR1
                    refine vr_aload_n hE dX2_dayGoesBy_128 rfl ?_
                    refine vr_dup hE dX2_dayGoesBy_129 rfl ?_
                    refine bc_get (z := 4) hE kc_X2 (by decide) q182 (Or.inl rfl) hR1.hr rfl dX2_dayGoesBy_130 ?_
                    refine vr_iconst (v := 1) hE dX2_dayGoesBy_133 (by decide) ?_
                    refine vr_iadd hE dX2_dayGoesBy_134 ?_
                    refine bc_put (z := 4) hE kc_X2 (by decide) q182 (Or.inl rfl) rfl hR1.hr rfl rfl (Nat.le_of_ble_eq_true rfl) dX2_dayGoesBy_135 (by first | decide | omega) ?_
                    refine bc_nm (fun M_135 e_135 => ?_)
                    have hit_135 := (congrFun e_135 it).trans ((bu_ne (bc_dist hit1 hR1.hr (bc_ci (by decide)))).trans hit1)
                    have hR_tl_135 := (congrFun e_135 R.tl).trans ((bu_ne (bc_dist hR1.htl hR1.hr (bc_ci (by decide)))).trans hR1.htl)
                    have hR_wl_135 := (congrFun e_135 R.wl).trans ((bu_ne (bc_dist hR1.hwl hR1.hr (bc_ci (by decide)))).trans hR1.hwl)
                    have hR_r_135 := (congrFun e_135 R.r).trans (bu_self _ _ _)
                    refine vr_aload_n hE dX2_dayGoesBy_138 rfl ?_
                    refine vr_dup hE dX2_dayGoesBy_139 rfl ?_
                    refine bc_get (z := 6) hE kc_X2 (by decide) q185 (Or.inl rfl) hR_r_135 rfl dX2_dayGoesBy_140 ?_
                    refine vr_iload_n hE dX2_dayGoesBy_143 rfl ?_
                    refine vr_iadd hE dX2_dayGoesBy_144 ?_
                    refine bc_put (z := 6) hE kc_X2 (by decide) q185 (Or.inl rfl) rfl hR_r_135 rfl rfl (Nat.le_of_ble_eq_true rfl) dX2_dayGoesBy_145 (by first | decide | omega) ?_
                    refine bc_nm (fun M_145 e_145 => ?_)
                    have hit_145 := (congrFun e_145 it).trans ((bu_ne (bc_dist hit_135 hR_r_135 (bc_ci (by decide)))).trans hit_135)
                    have hR_tl_145 := (congrFun e_145 R.tl).trans ((bu_ne (bc_dist hR_tl_135 hR_r_135 (bc_ci (by decide)))).trans hR_tl_135)
                    have hR_wl_145 := (congrFun e_145 R.wl).trans ((bu_ne (bc_dist hR_wl_135 hR_r_135 (bc_ci (by decide)))).trans hR_wl_135)
                    have hR_r_145 := (congrFun e_145 R.r).trans (bu_self _ _ _)
                    refine vr_iload_n hE dX2_dayGoesBy_148 rfl ?_
                    refine vr_ireturn hE hQ rfl dX2_dayGoesBy_149 ⟨by omega, by omega⟩ ⟨_, ?_, fun H h => hW _ H h⟩
                    subst e_145
                    subst e_135
                    have hz9 : RoundM Y (bu M1 R.r (.inr (1, rL R.ra R.fi R.tl R.wl (m_day s n 0) (m_day s n 3) (m_day s n 4)))) R n w (m_day s n) := by
                      refine RoundM.own ?_ (fun k9 h0 _ h4 => m_d3_ne h0 h4)
                      rw [← d2_ok _ n hR.hn]
                      exact hR1
                    have e0 : m_day s n 0 = m_d2 (m_d1 s n).1 n 0 + 1 := by
                      show m_d3 _ _ 0 = _
                      simp only [m_d3]
                      rw [pk_us, pk_un (by decide)]
                    have e3 : m_day s n 3 = m_d2 (m_d1 s n).1 n 3 := m_d3_ne (by decide) (by decide)
                    have e4 : m_day s n 4 = m_d2 (m_d1 s n).1 n 4 + m_dayL s n := by
                      show m_d3 _ _ 4 = _
                      simp only [m_d3]
                      rw [pk_un (by decide), pk_us]
                    rw [e0, e3, e4, ← d2_ok _ n hR.hn] at hz9
                    exact ⟨rfl, by simp only [bu_bu]; exact hz9, by simp only [bu_bu]; exact hk1.bu (Or.inl (Or.inl rfl)) rfl⟩
                  · exact absurd (if_pos (show i = n by omega)) c_108
                | succ c ih =>
                  intro i lr M1 hi hit1 hR1 hk1
                  have hn10 := hR.hn
                  have hw4 := hR.hw
                  refine vr_aload_n hE dX2_dayGoesBy_102 rfl ?_
                  refine bc_callF (ar := 0) hE (bk_J15_hasNext G _ it R.tl R.te n i lr _ hit1 hR1.htl (by omega) hR1.hn) kc_J15 hit1 (by decide +kernel) (lw_Fg q813 q848 q850 q92 q852) ⟨q815, q814, q851, q849, q847⟩ rfl rfl (Nat.le_of_ble_eq_true rfl) ⟨by decide, by decide, by omega, by omega⟩ dX2_dayGoesBy_103 (fun _ _ _ h => h.elim) ?_
                  rintro v_103 M_103 ⟨rfl, hu_103⟩
                  obtain rfl := hu_103.symm
                  refine vr_if_eq (tgt := 128) hE dX2_dayGoesBy_108 (by decide) (fun c_108 => ?_) (fun c_108 => ?_)
                  · exact absurd c_108 (by rw [if_neg (show ¬ i = n by omega)]; decide)
                  skip
                  refine vr_aload_n hE dX2_dayGoesBy_111 rfl ?_
                  refine bc_callF (ar := 0) hE (bk_J15_next G _ it R.tl R.te n i lr _ hit1 hR1.htl (by omega) hR1.hn (lsf R.tr n) (hR1.te_ (by omega)) (R.tr i) (lsf_lt (by omega))) kc_J15 hit1 (by decide +kernel) (lw_Fg q863 q1049 q1051 q92 q1053) ⟨q865, q864, q1052, q1050, q847⟩ rfl rfl (Nat.le_of_ble_eq_true rfl) ⟨by decide, by decide, by omega, by omega⟩ dX2_dayGoesBy_112 (fun _ _ _ h => h.elim) ?_
                  rintro v_112 M_112 ⟨rfl, e_112⟩
                  have hR_r_112 := (congrFun e_112 R.r).trans ((bu_ne (bc_dist hR1.hr hit1 (bc_ci (by decide)))).trans hR1.hr)
                  have hR_tl_112 := (congrFun e_112 R.tl).trans ((bu_ne (bc_dist hR1.htl hit1 (bc_ci (by decide)))).trans hR1.htl)
                  have hR_wl_112 := (congrFun e_112 R.wl).trans ((bu_ne (bc_dist hR1.hwl hit1 (bc_ci (by decide)))).trans hR1.hwl)
                  have h_R_tr_i__112 := (congrFun e_112 (R.tr i)).trans ((bu_ne (bc_dist (hR1.htr i (by omega)) hit1 (bc_ci (by decide)))).trans (hR1.htr i (by omega)))
                  have hit_112 := (congrFun e_112 it).trans (bu_self _ _ _)
                  have hR_112 : RoundM Y M_112 R n w (c_d2b (c_d2a (m_d1 s n).1 n) i) := hR1.oth hit1 (by decide) e_112
                  have hk_112 : cKeep M M_112 R n w := hk1.bu hnit e_112
                  refine vr_castS hE kc_X6.1 (bc_cls kc_X6 h_R_tr_i__112) q1076 dX2_dayGoesBy_117 ?_
                  refine vr_astore_n hE dX2_dayGoesBy_120 (hnl _ (by decide)) rfl ?_
                  refine vr_aload_n hE dX2_dayGoesBy_121 rfl ?_
                  refine bc_callV hE (bk_X6_sealAges G _ (R.tr i) R.r _ _ _ _ _ _ _ _ _ _ h_R_tr_i__112 R.ra R.fi R.tl R.wl _ _ _ hR_r_112) kc_X6 h_R_tr_i__112 ok_X6_sealAges (lw_V q1401 q1402 q1403 q106 q1404) rfl rfl (Nat.le_of_ble_eq_true rfl) ⟨by decide, by decide, by omega, by omega⟩ dX2_dayGoesBy_122 (fun _ _ _ h => h.elim) ?_
                  rintro v_122 M_122 ⟨rfl, e_122⟩
                  have hR_r_122 := (congrFun e_122 R.r).trans ((bu_ne (bc_dist hR_r_112 h_R_tr_i__112 (bc_ci (by decide)))).trans hR_r_112)
                  have hR_tl_122 := (congrFun e_122 R.tl).trans ((bu_ne (bc_dist hR_tl_112 h_R_tr_i__112 (bc_ci (by decide)))).trans hR_tl_112)
                  have hR_wl_122 := (congrFun e_122 R.wl).trans ((bu_ne (bc_dist hR_wl_112 h_R_tr_i__112 (bc_ci (by decide)))).trans hR_wl_112)
                  have hit_122 := (congrFun e_122 it).trans ((bu_ne (bc_dist hit_112 h_R_tr_i__112 (bc_ci (by decide)))).trans hit_112)
                  have h_R_tr_i__122 := (congrFun e_122 (R.tr i)).trans (bu_self _ _ _)
                  have hR_122 : RoundM Y M_122 R n w (c_d2b (c_d2a (m_d1 s n).1 n) (i + 1)) := by
                    rw [e_122, d2b_ok (c_d2b (c_d2a (m_d1 s n).1 n) i) R.r (t := i) (by omega)]
                    exact hR_112.trader (s' := c_d2b (c_d2a (m_d1 s n).1 n) (i + 1)) (by omega) (fun k9 hk9 => d2b_ne (by omega))
                  have hk_122 : cKeep M M_122 R n w := hk_112.bu (Or.inl (fpr.tr (by omega))) e_122
                  refine vr_goto (tgt := 102) hE dX2_dayGoesBy_125 (by decide) ?_
                  refine vr_drop 3 ?_
                  exact ih (i + 1) _ M_122 (by omega) hit_122 hR_122 hk_122
              exact vr_kn (by omega) (by omega) (hlp_102 n 0 _ M_96 (Nat.zero_add _) hit_96 hR_96 hk_96)
            · exact absurd (if_pos (show i = n by omega)) c_72
          | succ c ih =>
            intro i lr M1 hi hit1 hR1 hk1
            have hn10 := hR.hn
            have hw4 := hR.hw
            refine vr_aload_n hE dX2_dayGoesBy_66 rfl ?_
            refine bc_callF (ar := 0) hE (bk_J15_hasNext G _ it R.tl R.te n i lr _ hit1 hR1.htl (by omega) hR1.hn) kc_J15 hit1 (by decide +kernel) (lw_Fg q813 q848 q850 q92 q852) ⟨q815, q814, q851, q849, q847⟩ rfl rfl (Nat.le_of_ble_eq_true rfl) ⟨by decide, by decide, by omega, by omega⟩ dX2_dayGoesBy_67 (fun _ _ _ h => h.elim) ?_
            rintro v_67 M_67 ⟨rfl, hu_67⟩
            obtain rfl := hu_67.symm
            refine vr_if_eq (tgt := 92) hE dX2_dayGoesBy_72 (by decide) (fun c_72 => ?_) (fun c_72 => ?_)
            · exact absurd c_72 (by rw [if_neg (show ¬ i = n by omega)]; decide)
            skip
            refine vr_aload_n hE dX2_dayGoesBy_75 rfl ?_
            refine bc_callF (ar := 0) hE (bk_J15_next G _ it R.tl R.te n i lr _ hit1 hR1.htl (by omega) hR1.hn (lsf R.tr n) (hR1.te_ (by omega)) (R.tr i) (lsf_lt (by omega))) kc_J15 hit1 (by decide +kernel) (lw_Fg q863 q1049 q1051 q92 q1053) ⟨q865, q864, q1052, q1050, q847⟩ rfl rfl (Nat.le_of_ble_eq_true rfl) ⟨by decide, by decide, by omega, by omega⟩ dX2_dayGoesBy_76 (fun _ _ _ h => h.elim) ?_
            rintro v_76 M_76 ⟨rfl, e_76⟩
            have hR_r_76 := (congrFun e_76 R.r).trans ((bu_ne (bc_dist hR1.hr hit1 (bc_ci (by decide)))).trans hR1.hr)
            have hR_tl_76 := (congrFun e_76 R.tl).trans ((bu_ne (bc_dist hR1.htl hit1 (bc_ci (by decide)))).trans hR1.htl)
            have hR_wl_76 := (congrFun e_76 R.wl).trans ((bu_ne (bc_dist hR1.hwl hit1 (bc_ci (by decide)))).trans hR1.hwl)
            have h_R_tr_i__76 := (congrFun e_76 (R.tr i)).trans ((bu_ne (bc_dist (hR1.htr i (by omega)) hit1 (bc_ci (by decide)))).trans (hR1.htr i (by omega)))
            have hit_76 := (congrFun e_76 it).trans (bu_self _ _ _)
            have hR_76 : RoundM Y M_76 R n w (c_d2a (m_d1 s n).1 i) := hR1.oth hit1 (by decide) e_76
            have hk_76 : cKeep M M_76 R n w := hk1.bu hnit e_76
            refine vr_castS hE kc_X6.1 (bc_cls kc_X6 h_R_tr_i__76) q1076 dX2_dayGoesBy_81 ?_
            refine vr_astore_n hE dX2_dayGoesBy_84 (hnl _ (by decide)) rfl ?_
            refine vr_aload_n hE dX2_dayGoesBy_85 rfl ?_
            refine bc_callV hE (bk_X6_drifts G _ (R.tr i) R.r _ _ _ _ _ _ _ _ _ _ h_R_tr_i__76) kc_X6 h_R_tr_i__76 ok_X6_drifts (lw_V q1396 q1397 q1398 q106 q1399) rfl rfl (Nat.le_of_ble_eq_true rfl) ⟨by decide, by decide, by omega, by omega⟩ dX2_dayGoesBy_86 (fun _ _ _ h => h.elim) ?_
            rintro v_86 M_86 ⟨rfl, e_86⟩
            have hR_r_86 := (congrFun e_86 R.r).trans ((bu_ne (bc_dist hR_r_76 h_R_tr_i__76 (bc_ci (by decide)))).trans hR_r_76)
            have hR_tl_86 := (congrFun e_86 R.tl).trans ((bu_ne (bc_dist hR_tl_76 h_R_tr_i__76 (bc_ci (by decide)))).trans hR_tl_76)
            have hR_wl_86 := (congrFun e_86 R.wl).trans ((bu_ne (bc_dist hR_wl_76 h_R_tr_i__76 (bc_ci (by decide)))).trans hR_wl_76)
            have hit_86 := (congrFun e_86 it).trans ((bu_ne (bc_dist hit_76 h_R_tr_i__76 (bc_ci (by decide)))).trans hit_76)
            have h_R_tr_i__86 := (congrFun e_86 (R.tr i)).trans (bu_self _ _ _)
            have hR_86 : RoundM Y M_86 R n w (c_d2a (m_d1 s n).1 (i + 1)) := by
              rw [e_86, d2a_ok (c_d2a (m_d1 s n).1 i) R.r (t := i) (by omega)]
              exact hR_76.trader (s' := c_d2a (m_d1 s n).1 (i + 1)) (by omega) (fun k9 hk9 => d2a_ne (by omega))
            have hk_86 : cKeep M M_86 R n w := hk_76.bu (Or.inl (fpr.tr (by omega))) e_86
            refine vr_goto (tgt := 66) hE dX2_dayGoesBy_89 (by decide) ?_
            refine vr_drop 3 ?_
            exact ih (i + 1) _ M_86 (by omega) hit_86 hR_86 hk_86
        exact vr_kn (by omega) (by omega) (hlp_66 n 0 _ M_60 (Nat.zero_add _) hit_60 hR_60 hk_60)
      · exact absurd (if_pos (show n ≤ k by omega)) c_22
    | succ c ih =>
      intro k v M1 hc hk hv hm hjt1 hof1 hR1 hk1
      have hn10 := hR.hn
      have hw4 := hR.hw
      
      refine vr_aload_n hE dX2_dayGoesBy_16 rfl ?_
      refine bc_callF (ar := 0) hE (bk_X10_hasNext G _ R n w _ hR1 of (m_fn s) hof1 jt k hjt1 hk) kc_X10 hjt1 (by decide +kernel) (lw_Fg q813 q817 q819 q111 q821) ⟨q815, q814, q820, q818, q816⟩ rfl rfl (Nat.le_of_ble_eq_true rfl) ⟨by decide, by decide, by omega, by omega⟩ dX2_dayGoesBy_17 (fun _ _ _ h => h.elim) ?_
      rintro v_17 M_17 ⟨rfl, hu_17⟩
      obtain rfl := hu_17.symm
      refine vr_if_eq (tgt := 56) hE dX2_dayGoesBy_22 (by decide) (fun c_22 => ?_) (fun c_22 => ?_)
      · have hkn : k = n := Classical.byContradiction fun z => absurd c_22 (by rw [if_neg (show ¬ n ≤ k by omega)]; decide)
        have hkn9 : k = n := by omega
        rw [hkn9] at hR1
        refine vr_aload_n hE dX2_dayGoesBy_56 rfl ?_
        refine bc_get (z := 2) hE kc_X2 (by decide) q178 (Or.inl rfl) hR1.hr rfl dX2_dayGoesBy_57 ?_
        refine bc_callF (ar := 0) hE (bk_J2_iterator G _ R.tl R.te n _ hR1.htl) kc_J2 hR1.htl (by decide +kernel) (lw_Fg q474 q478 q480 q75 q482) ⟨q476, q475, q481, q479, q477⟩ rfl rfl (Nat.le_of_ble_eq_true rfl) ⟨by decide, by decide, by omega, by omega⟩ dX2_dayGoesBy_60 (fun _ _ _ h => h.elim) ?_
        rintro v_60 M_60 ⟨it, rfl, hnit0, e_60⟩
        have hit_60 := (congrFun e_60 it).trans (bu_self _ _ _)
        have hR_60 : RoundM Y M_60 R n w (m_d1 s n).1 := hR1.ext (fun q9 x9 z9 => (congrFun e_60 q9).trans ((bu_ne (bc_new_ne z9 hnit0)).trans z9))
        have hnit : fpr R n w it ∨ M it = none := by
          by_cases hf9 : fpr R n w it
          · exact Or.inl hf9
          · refine Or.inr ?_
            cases hz : M it with
            | none => rfl
            | some e9 => exact absurd rfl (bc_new_ne (hk1 it e9 hz hf9) hnit0)
        have hk_60 : cKeep M M_60 R n w := hk1.bu hnit e_60
        refine vr_astore_n hE dX2_dayGoesBy_65 (hnl _ (by decide)) rfl ?_
        refine vr_L (L' := [some (.ref R.r), some (.int (m_dayL s n)), some (.ref it), none]) (by rw [hkn9]; rfl) ?_
        have hlp_66 : ∀ (c : Nat) (i : Nat) (lr : Int32) (M1 : va_M), i + c = n → M1 it = some (.inr (23, itL (nI i) lr (nI n) R.tl)) → RoundM Y M1 R n w (c_d2a (m_d1 s n).1 i) → cKeep M M1 R n w → bi_V Y.1 X (bc_W Y (bi_A X) M1) (3 + 2 * v) (8 + 5 * v) 66 [some (.ref R.r), some (.int (m_dayL s n)), some (.ref it), none] [] := by
          intro c
          induction c with
          | zero =>
            intro i lr M1 hi hit1 hR1 hk1
            have hn10 := hR.hn
            have hw4 := hR.hw
            refine vr_aload_n hE dX2_dayGoesBy_66 rfl ?_
            skip
            refine bc_callF (ar := 0) hE (bk_J15_hasNext G _ it R.tl R.te n i lr _ hit1 hR1.htl (by omega) hR1.hn) kc_J15 hit1 (by decide +kernel) (lw_Fg q813 q848 q850 q92 q852) ⟨q815, q814, q851, q849, q847⟩ rfl rfl (Nat.le_of_ble_eq_true rfl) ⟨by decide, by decide, by omega, by omega⟩ dX2_dayGoesBy_67 (fun _ _ _ h => h.elim) ?_
            rintro v_67 M_67 ⟨rfl, hu_67⟩
            obtain rfl := hu_67.symm
            refine vr_if_eq (tgt := 92) hE dX2_dayGoesBy_72 (by decide) (fun c_72 => ?_) (fun c_72 => ?_)
            · have hin : i = n := by omega
              rw [hin] at hR1
              refine vr_aload_n hE dX2_dayGoesBy_92 rfl ?_
              refine bc_get (z := 2) hE kc_X2 (by decide) q178 (Or.inl rfl) hR1.hr rfl dX2_dayGoesBy_93 ?_
              refine bc_callF (ar := 0) hE (bk_J2_iterator G _ R.tl R.te n _ hR1.htl) kc_J2 hR1.htl (by decide +kernel) (lw_Fg q474 q478 q480 q75 q482) ⟨q476, q475, q481, q479, q477⟩ rfl rfl (Nat.le_of_ble_eq_true rfl) ⟨by decide, by decide, by omega, by omega⟩ dX2_dayGoesBy_96 (fun _ _ _ h => h.elim) ?_
              rintro v_96 M_96 ⟨it, rfl, hnit0, e_96⟩
              have hit_96 := (congrFun e_96 it).trans (bu_self _ _ _)
              have hR_96 : RoundM Y M_96 R n w (c_d2a (m_d1 s n).1 n) := hR1.ext (fun q9 x9 z9 => (congrFun e_96 q9).trans ((bu_ne (bc_new_ne z9 hnit0)).trans z9))
              have hnit : fpr R n w it ∨ M it = none := by
                by_cases hf9 : fpr R n w it
                · exact Or.inl hf9
                · refine Or.inr ?_
                  cases hz : M it with
                  | none => rfl
                  | some e9 => exact absurd rfl (bc_new_ne (hk1 it e9 hz hf9) hnit0)
              have hk_96 : cKeep M M_96 R n w := hk1.bu hnit e_96
              refine vr_astore_n hE dX2_dayGoesBy_101 (hnl _ (by decide)) rfl ?_
              have hlp_102 : ∀ (c : Nat) (i : Nat) (lr : Int32) (M1 : va_M), i + c = n → M1 it = some (.inr (23, itL (nI i) lr (nI n) R.tl)) → RoundM Y M1 R n w (c_d2b (c_d2a (m_d1 s n).1 n) i) → cKeep M M1 R n w → bi_V Y.1 X (bc_W Y (bi_A X) M1) (4 + 2 * v) (12 + 5 * v) 102 [some (.ref R.r), some (.int (m_dayL s n)), some (.ref it), none] [] := by
                intro c
                induction c with
                | zero =>
                  intro i lr M1 hi hit1 hR1 hk1
                  have hn10 := hR.hn
                  have hw4 := hR.hw
                  refine vr_aload_n hE dX2_dayGoesBy_102 rfl ?_
                  skip
                  refine bc_callF (ar := 0) hE (bk_J15_hasNext G _ it R.tl R.te n i lr _ hit1 hR1.htl (by omega) hR1.hn) kc_J15 hit1 (by decide +kernel) (lw_Fg q813 q848 q850 q92 q852) ⟨q815, q814, q851, q849, q847⟩ rfl rfl (Nat.le_of_ble_eq_true rfl) ⟨by decide, by decide, by omega, by omega⟩ dX2_dayGoesBy_103 (fun _ _ _ h => h.elim) ?_
                  rintro v_103 M_103 ⟨rfl, hu_103⟩
                  obtain rfl := hu_103.symm
                  refine vr_if_eq (tgt := 128) hE dX2_dayGoesBy_108 (by decide) (fun c_108 => ?_) (fun c_108 => ?_)
                  · have hin : i = n := by omega
                    rw [hin] at hR1
                    refine vr_aload_n hE dX2_dayGoesBy_128 rfl ?_
                    refine vr_dup hE dX2_dayGoesBy_129 rfl ?_
                    refine bc_get (z := 4) hE kc_X2 (by decide) q182 (Or.inl rfl) hR1.hr rfl dX2_dayGoesBy_130 ?_
                    refine vr_iconst (v := 1) hE dX2_dayGoesBy_133 (by decide) ?_
                    refine vr_iadd hE dX2_dayGoesBy_134 ?_
                    refine bc_put (z := 4) hE kc_X2 (by decide) q182 (Or.inl rfl) rfl hR1.hr rfl rfl (Nat.le_of_ble_eq_true rfl) dX2_dayGoesBy_135 (by first | decide | omega) ?_
                    refine bc_nm (fun M_135 e_135 => ?_)
                    have hit_135 := (congrFun e_135 it).trans ((bu_ne (bc_dist hit1 hR1.hr (bc_ci (by decide)))).trans hit1)
                    have hR_tl_135 := (congrFun e_135 R.tl).trans ((bu_ne (bc_dist hR1.htl hR1.hr (bc_ci (by decide)))).trans hR1.htl)
                    have hR_wl_135 := (congrFun e_135 R.wl).trans ((bu_ne (bc_dist hR1.hwl hR1.hr (bc_ci (by decide)))).trans hR1.hwl)
                    have hR_r_135 := (congrFun e_135 R.r).trans (bu_self _ _ _)
                    refine vr_aload_n hE dX2_dayGoesBy_138 rfl ?_
                    refine vr_dup hE dX2_dayGoesBy_139 rfl ?_
                    refine bc_get (z := 6) hE kc_X2 (by decide) q185 (Or.inl rfl) hR_r_135 rfl dX2_dayGoesBy_140 ?_
                    refine vr_iload_n hE dX2_dayGoesBy_143 rfl ?_
                    refine vr_iadd hE dX2_dayGoesBy_144 ?_
                    refine bc_put (z := 6) hE kc_X2 (by decide) q185 (Or.inl rfl) rfl hR_r_135 rfl rfl (Nat.le_of_ble_eq_true rfl) dX2_dayGoesBy_145 (by first | decide | omega) ?_
                    refine bc_nm (fun M_145 e_145 => ?_)
                    have hit_145 := (congrFun e_145 it).trans ((bu_ne (bc_dist hit_135 hR_r_135 (bc_ci (by decide)))).trans hit_135)
                    have hR_tl_145 := (congrFun e_145 R.tl).trans ((bu_ne (bc_dist hR_tl_135 hR_r_135 (bc_ci (by decide)))).trans hR_tl_135)
                    have hR_wl_145 := (congrFun e_145 R.wl).trans ((bu_ne (bc_dist hR_wl_135 hR_r_135 (bc_ci (by decide)))).trans hR_wl_135)
                    have hR_r_145 := (congrFun e_145 R.r).trans (bu_self _ _ _)
                    refine vr_iload_n hE dX2_dayGoesBy_148 rfl ?_
                    refine vr_ireturn hE hQ rfl dX2_dayGoesBy_149 ⟨by omega, by omega⟩ ⟨_, ?_, fun H h => hW _ H h⟩
                    subst e_145
                    subst e_135
                    have hz9 : RoundM Y (bu M1 R.r (.inr (1, rL R.ra R.fi R.tl R.wl (m_day s n 0) (m_day s n 3) (m_day s n 4)))) R n w (m_day s n) := by
                      refine RoundM.own ?_ (fun k9 h0 _ h4 => m_d3_ne h0 h4)
                      rw [← d2_ok _ n hR.hn]
                      exact hR1
                    have e0 : m_day s n 0 = m_d2 (m_d1 s n).1 n 0 + 1 := by
                      show m_d3 _ _ 0 = _
                      simp only [m_d3]
                      rw [pk_us, pk_un (by decide)]
                    have e3 : m_day s n 3 = m_d2 (m_d1 s n).1 n 3 := m_d3_ne (by decide) (by decide)
                    have e4 : m_day s n 4 = m_d2 (m_d1 s n).1 n 4 + m_dayL s n := by
                      show m_d3 _ _ 4 = _
                      simp only [m_d3]
                      rw [pk_un (by decide), pk_us]
                    rw [e0, e3, e4, ← d2_ok _ n hR.hn] at hz9
                    exact ⟨rfl, by simp only [bu_bu]; exact hz9, by simp only [bu_bu]; exact hk1.bu (Or.inl (Or.inl rfl)) rfl⟩
                  · exact absurd (if_pos (show i = n by omega)) c_108
                | succ c ih =>
                  intro i lr M1 hi hit1 hR1 hk1
                  have hn10 := hR.hn
                  have hw4 := hR.hw
                  refine vr_aload_n hE dX2_dayGoesBy_102 rfl ?_
                  refine bc_callF (ar := 0) hE (bk_J15_hasNext G _ it R.tl R.te n i lr _ hit1 hR1.htl (by omega) hR1.hn) kc_J15 hit1 (by decide +kernel) (lw_Fg q813 q848 q850 q92 q852) ⟨q815, q814, q851, q849, q847⟩ rfl rfl (Nat.le_of_ble_eq_true rfl) ⟨by decide, by decide, by omega, by omega⟩ dX2_dayGoesBy_103 (fun _ _ _ h => h.elim) ?_
                  rintro v_103 M_103 ⟨rfl, hu_103⟩
                  obtain rfl := hu_103.symm
                  refine vr_if_eq (tgt := 128) hE dX2_dayGoesBy_108 (by decide) (fun c_108 => ?_) (fun c_108 => ?_)
                  · exact absurd c_108 (by rw [if_neg (show ¬ i = n by omega)]; decide)
                  skip
                  refine vr_aload_n hE dX2_dayGoesBy_111 rfl ?_
                  refine bc_callF (ar := 0) hE (bk_J15_next G _ it R.tl R.te n i lr _ hit1 hR1.htl (by omega) hR1.hn (lsf R.tr n) (hR1.te_ (by omega)) (R.tr i) (lsf_lt (by omega))) kc_J15 hit1 (by decide +kernel) (lw_Fg q863 q1049 q1051 q92 q1053) ⟨q865, q864, q1052, q1050, q847⟩ rfl rfl (Nat.le_of_ble_eq_true rfl) ⟨by decide, by decide, by omega, by omega⟩ dX2_dayGoesBy_112 (fun _ _ _ h => h.elim) ?_
                  rintro v_112 M_112 ⟨rfl, e_112⟩
                  have hR_r_112 := (congrFun e_112 R.r).trans ((bu_ne (bc_dist hR1.hr hit1 (bc_ci (by decide)))).trans hR1.hr)
                  have hR_tl_112 := (congrFun e_112 R.tl).trans ((bu_ne (bc_dist hR1.htl hit1 (bc_ci (by decide)))).trans hR1.htl)
                  have hR_wl_112 := (congrFun e_112 R.wl).trans ((bu_ne (bc_dist hR1.hwl hit1 (bc_ci (by decide)))).trans hR1.hwl)
                  have h_R_tr_i__112 := (congrFun e_112 (R.tr i)).trans ((bu_ne (bc_dist (hR1.htr i (by omega)) hit1 (bc_ci (by decide)))).trans (hR1.htr i (by omega)))
                  have hit_112 := (congrFun e_112 it).trans (bu_self _ _ _)
                  have hR_112 : RoundM Y M_112 R n w (c_d2b (c_d2a (m_d1 s n).1 n) i) := hR1.oth hit1 (by decide) e_112
                  have hk_112 : cKeep M M_112 R n w := hk1.bu hnit e_112
                  refine vr_castS hE kc_X6.1 (bc_cls kc_X6 h_R_tr_i__112) q1076 dX2_dayGoesBy_117 ?_
                  refine vr_astore_n hE dX2_dayGoesBy_120 (hnl _ (by decide)) rfl ?_
                  refine vr_aload_n hE dX2_dayGoesBy_121 rfl ?_
                  refine bc_callV hE (bk_X6_sealAges G _ (R.tr i) R.r _ _ _ _ _ _ _ _ _ _ h_R_tr_i__112 R.ra R.fi R.tl R.wl _ _ _ hR_r_112) kc_X6 h_R_tr_i__112 ok_X6_sealAges (lw_V q1401 q1402 q1403 q106 q1404) rfl rfl (Nat.le_of_ble_eq_true rfl) ⟨by decide, by decide, by omega, by omega⟩ dX2_dayGoesBy_122 (fun _ _ _ h => h.elim) ?_
                  rintro v_122 M_122 ⟨rfl, e_122⟩
                  have hR_r_122 := (congrFun e_122 R.r).trans ((bu_ne (bc_dist hR_r_112 h_R_tr_i__112 (bc_ci (by decide)))).trans hR_r_112)
                  have hR_tl_122 := (congrFun e_122 R.tl).trans ((bu_ne (bc_dist hR_tl_112 h_R_tr_i__112 (bc_ci (by decide)))).trans hR_tl_112)
                  have hR_wl_122 := (congrFun e_122 R.wl).trans ((bu_ne (bc_dist hR_wl_112 h_R_tr_i__112 (bc_ci (by decide)))).trans hR_wl_112)
                  have hit_122 := (congrFun e_122 it).trans ((bu_ne (bc_dist hit_112 h_R_tr_i__112 (bc_ci (by decide)))).trans hit_112)
                  have h_R_tr_i__122 := (congrFun e_122 (R.tr i)).trans (bu_self _ _ _)
                  have hR_122 : RoundM Y M_122 R n w (c_d2b (c_d2a (m_d1 s n).1 n) (i + 1)) := by
                    rw [e_122, d2b_ok (c_d2b (c_d2a (m_d1 s n).1 n) i) R.r (t := i) (by omega)]
                    exact hR_112.trader (s' := c_d2b (c_d2a (m_d1 s n).1 n) (i + 1)) (by omega) (fun k9 hk9 => d2b_ne (by omega))
                  have hk_122 : cKeep M M_122 R n w := hk_112.bu (Or.inl (fpr.tr (by omega))) e_122
                  refine vr_goto (tgt := 102) hE dX2_dayGoesBy_125 (by decide) ?_
                  refine vr_drop 3 ?_
                  exact ih (i + 1) _ M_122 (by omega) hit_122 hR_122 hk_122
              exact vr_kn (by omega) (by omega) (hlp_102 n 0 _ M_96 (Nat.zero_add _) hit_96 hR_96 hk_96)
            · exact absurd (if_pos (show i = n by omega)) c_72
          | succ c ih =>
            intro i lr M1 hi hit1 hR1 hk1
            have hn10 := hR.hn
            have hw4 := hR.hw
            refine vr_aload_n hE dX2_dayGoesBy_66 rfl ?_
            refine bc_callF (ar := 0) hE (bk_J15_hasNext G _ it R.tl R.te n i lr _ hit1 hR1.htl (by omega) hR1.hn) kc_J15 hit1 (by decide +kernel) (lw_Fg q813 q848 q850 q92 q852) ⟨q815, q814, q851, q849, q847⟩ rfl rfl (Nat.le_of_ble_eq_true rfl) ⟨by decide, by decide, by omega, by omega⟩ dX2_dayGoesBy_67 (fun _ _ _ h => h.elim) ?_
            rintro v_67 M_67 ⟨rfl, hu_67⟩
            obtain rfl := hu_67.symm
            refine vr_if_eq (tgt := 92) hE dX2_dayGoesBy_72 (by decide) (fun c_72 => ?_) (fun c_72 => ?_)
            · exact absurd c_72 (by rw [if_neg (show ¬ i = n by omega)]; decide)
            skip
            refine vr_aload_n hE dX2_dayGoesBy_75 rfl ?_
            refine bc_callF (ar := 0) hE (bk_J15_next G _ it R.tl R.te n i lr _ hit1 hR1.htl (by omega) hR1.hn (lsf R.tr n) (hR1.te_ (by omega)) (R.tr i) (lsf_lt (by omega))) kc_J15 hit1 (by decide +kernel) (lw_Fg q863 q1049 q1051 q92 q1053) ⟨q865, q864, q1052, q1050, q847⟩ rfl rfl (Nat.le_of_ble_eq_true rfl) ⟨by decide, by decide, by omega, by omega⟩ dX2_dayGoesBy_76 (fun _ _ _ h => h.elim) ?_
            rintro v_76 M_76 ⟨rfl, e_76⟩
            have hR_r_76 := (congrFun e_76 R.r).trans ((bu_ne (bc_dist hR1.hr hit1 (bc_ci (by decide)))).trans hR1.hr)
            have hR_tl_76 := (congrFun e_76 R.tl).trans ((bu_ne (bc_dist hR1.htl hit1 (bc_ci (by decide)))).trans hR1.htl)
            have hR_wl_76 := (congrFun e_76 R.wl).trans ((bu_ne (bc_dist hR1.hwl hit1 (bc_ci (by decide)))).trans hR1.hwl)
            have h_R_tr_i__76 := (congrFun e_76 (R.tr i)).trans ((bu_ne (bc_dist (hR1.htr i (by omega)) hit1 (bc_ci (by decide)))).trans (hR1.htr i (by omega)))
            have hit_76 := (congrFun e_76 it).trans (bu_self _ _ _)
            have hR_76 : RoundM Y M_76 R n w (c_d2a (m_d1 s n).1 i) := hR1.oth hit1 (by decide) e_76
            have hk_76 : cKeep M M_76 R n w := hk1.bu hnit e_76
            refine vr_castS hE kc_X6.1 (bc_cls kc_X6 h_R_tr_i__76) q1076 dX2_dayGoesBy_81 ?_
            refine vr_astore_n hE dX2_dayGoesBy_84 (hnl _ (by decide)) rfl ?_
            refine vr_aload_n hE dX2_dayGoesBy_85 rfl ?_
            refine bc_callV hE (bk_X6_drifts G _ (R.tr i) R.r _ _ _ _ _ _ _ _ _ _ h_R_tr_i__76) kc_X6 h_R_tr_i__76 ok_X6_drifts (lw_V q1396 q1397 q1398 q106 q1399) rfl rfl (Nat.le_of_ble_eq_true rfl) ⟨by decide, by decide, by omega, by omega⟩ dX2_dayGoesBy_86 (fun _ _ _ h => h.elim) ?_
            rintro v_86 M_86 ⟨rfl, e_86⟩
            have hR_r_86 := (congrFun e_86 R.r).trans ((bu_ne (bc_dist hR_r_76 h_R_tr_i__76 (bc_ci (by decide)))).trans hR_r_76)
            have hR_tl_86 := (congrFun e_86 R.tl).trans ((bu_ne (bc_dist hR_tl_76 h_R_tr_i__76 (bc_ci (by decide)))).trans hR_tl_76)
            have hR_wl_86 := (congrFun e_86 R.wl).trans ((bu_ne (bc_dist hR_wl_76 h_R_tr_i__76 (bc_ci (by decide)))).trans hR_wl_76)
            have hit_86 := (congrFun e_86 it).trans ((bu_ne (bc_dist hit_76 h_R_tr_i__76 (bc_ci (by decide)))).trans hit_76)
            have h_R_tr_i__86 := (congrFun e_86 (R.tr i)).trans (bu_self _ _ _)
            have hR_86 : RoundM Y M_86 R n w (c_d2a (m_d1 s n).1 (i + 1)) := by
              rw [e_86, d2a_ok (c_d2a (m_d1 s n).1 i) R.r (t := i) (by omega)]
              exact hR_76.trader (s' := c_d2a (m_d1 s n).1 (i + 1)) (by omega) (fun k9 hk9 => d2a_ne (by omega))
            have hk_86 : cKeep M M_86 R n w := hk_76.bu (Or.inl (fpr.tr (by omega))) e_86
            refine vr_goto (tgt := 66) hE dX2_dayGoesBy_89 (by decide) ?_
            refine vr_drop 3 ?_
            exact ih (i + 1) _ M_86 (by omega) hit_86 hR_86 hk_86
        exact vr_kn (by omega) (by omega) (hlp_66 n 0 _ M_60 (Nat.zero_add _) hit_60 hR_60 hk_60)
      · have hkn : k < n := Nat.lt_of_not_le (fun z => c_22 (if_pos z))
        refine vr_aload_n hE dX2_dayGoesBy_25 rfl ?_
        refine bc_callF (ar := 0) hE (bk_X10_next G _ R n w _ hR1 of (m_fn s) hof1 jt k hjt1 hkn) kc_X10 hjt1 (by decide +kernel) (lw_Fg q863 q866 q868 q111 q870) ⟨q865, q864, q869, q867, q816⟩ rfl rfl (Nat.le_of_ble_eq_true rfl) ⟨by decide, by decide, by omega, by omega⟩ dX2_dayGoesBy_26 (fun _ _ _ h => h.elim) ?_
        rintro v_26 M_26 ⟨rfl, e_26⟩
        have hR_r_26 := (congrFun e_26 R.r).trans ((bu_ne (bc_dist hR1.hr hjt1 (bc_ci (by decide)))).trans hR1.hr)
        have hR_tl_26 := (congrFun e_26 R.tl).trans ((bu_ne (bc_dist hR1.htl hjt1 (bc_ci (by decide)))).trans hR1.htl)
        have hR_wl_26 := (congrFun e_26 R.wl).trans ((bu_ne (bc_dist hR1.hwl hjt1 (bc_ci (by decide)))).trans hR1.hwl)
        have h_R_tr_k__26 := (congrFun e_26 (R.tr k)).trans ((bu_ne (bc_dist (hR1.htr k (by omega)) hjt1 (bc_ci (by decide)))).trans (hR1.htr k (by omega)))
        have hof_26 := (congrFun e_26 of).trans ((bu_ne (bc_dist hof1 hjt1 (bc_ci (by decide)))).trans hof1)
        have hjt_26 := (congrFun e_26 jt).trans (bu_self _ _ _)
        have hR_26 : RoundM Y M_26 R n w (m_d1 s k).1 := hR1.oth hjt1 (by decide) e_26
        have hk_26 : cKeep M M_26 R n w := hk1.bu (Or.inr hnjt) e_26
        refine vr_castS hE kc_X6.1 (bc_cls kc_X6 h_R_tr_k__26) q1076 dX2_dayGoesBy_31 ?_
        refine vr_astore_n hE dX2_dayGoesBy_34 (hnl _ (by decide)) rfl ?_
        refine vr_iload_n hE dX2_dayGoesBy_35 rfl ?_
        refine vr_aload_n hE dX2_dayGoesBy_36 rfl ?_
        refine bc_callV hE (bk_X6_isBarred G _ (R.tr k) R.r _ _ _ _ _ _ _ _ _ _ h_R_tr_k__26) kc_X6 h_R_tr_k__26 ok_X6_isBarred (lw_V q1380 q1381 q1382 q106 q1383) rfl rfl (Nat.le_of_ble_eq_true rfl) ⟨by decide, by decide, by omega, by omega⟩ dX2_dayGoesBy_37 (fun _ _ _ h => h.elim) ?_
        rintro v_37 M_37 ⟨rfl, hu_37⟩
        obtain rfl := hu_37.symm
        obtain ⟨j9, hj9, hej9⟩ := hEr.d1 (show k ≤ 10 by omega) k hkn
        refine vr_if_eq (tgt := 47) hE dX2_dayGoesBy_40 (by decide) (fun c_40 => ?_) (fun c_40 => ?_)
        · have hb : (m_d1 s k).1 (35 + k) ≤ 30 := Classical.byContradiction fun z => absurd c_40 (by rw [if_neg z]; decide)
          refine vr_aload_n hE dX2_dayGoesBy_47 rfl ?_
          refine bc_callV hE (bk_X6_sells G _ (R.tr k) R.r _ _ _ _ _ _ _ _ _ _ h_R_tr_k__26 j9 hj9 hej9) kc_X6 h_R_tr_k__26 ok_X6_sells (lw_V q1384 q1385 q1386 q106 q1387) rfl rfl (Nat.le_of_ble_eq_true rfl) ⟨by decide, by decide, by omega, by omega⟩ dX2_dayGoesBy_48 (fun _ _ _ h => h.elim) ?_
          rintro v_48 M_48 ⟨rfl, e_48⟩
          have hR_r_48 := (congrFun e_48 R.r).trans ((bu_ne (bc_dist hR_r_26 h_R_tr_k__26 (bc_ci (by decide)))).trans hR_r_26)
          have hR_tl_48 := (congrFun e_48 R.tl).trans ((bu_ne (bc_dist hR_tl_26 h_R_tr_k__26 (bc_ci (by decide)))).trans hR_tl_26)
          have hR_wl_48 := (congrFun e_48 R.wl).trans ((bu_ne (bc_dist hR_wl_26 h_R_tr_k__26 (bc_ci (by decide)))).trans hR_wl_26)
          have hof_48 := (congrFun e_48 of).trans ((bu_ne (bc_dist hof_26 h_R_tr_k__26 (bc_ci (by decide)))).trans hof_26)
          have hjt_48 := (congrFun e_48 jt).trans ((bu_ne (bc_dist hjt_26 h_R_tr_k__26 (bc_ci (by decide)))).trans hjt_26)
          have h_R_tr_k__48 := (congrFun e_48 (R.tr k)).trans (bu_self _ _ _)
          refine vr_iadd hE dX2_dayGoesBy_51 ?_
          refine vr_istore_n hE dX2_dayGoesBy_52 (hnl _ (by decide)) rfl ?_
          refine vr_goto (tgt := 16) hE dX2_dayGoesBy_53 (by decide) ?_
          refine vr_drop 3 ?_
          have hnf := c_nf_ok s (m_fn s) (n - (k + 1)) (k + 1)
          have hne : c_nf (m_d1 s k).1 (m_fn s) (n - (k + 1)) (k + 1) = (c_nf s (m_fn s) (n - (k + 1)) (k + 1)) := c_nf_eq _ _ (fun j hj => m_d1_ne (Or.inl (by omega)) k (by omega))
          have hsk := d1_skip (s := s) (c := n - (k + 1)) (k := k + 1) (by omega)
          have e15 : (m_d1 s k).1 (15 + k) = m_fn (m_d1 s k).1 := by rw [m_d1_ne (Or.inl (by omega)) k (by omega), hm hkn, d1_fn s (by omega)]
          have hst : m_d1 s (k + 1) = (m_gets (m_d1 s k).1 k (30 + m_tens (m_d1 s k).1 k), (m_d1 s k).2 + m_lossOf (m_d1 s k).1 k) := by
            show m_d1s (m_d1 s k) k = _
            unfold m_d1s
            rw [if_pos ⟨e15, hb⟩]
          have hR_48 : RoundM Y M_48 R n w (m_d1 s (k + 1)).1 := by
            rw [hst, e_48, sells_ok (m_d1 s k).1 R.r (t := k) (by omega)]
            exact hR_26.trader hkn (fun k9 hk9 => m_gets_ne (by omega) (by omega))
          have hk_48 : cKeep M M_48 R n w := hk_26.bu (Or.inl (fpr.tr hkn)) e_48
          rw [hne] at hjt_48
          rw [← hsk] at hR_48
          have hz := ih (c_nf s (m_fn s) (n - (k + 1)) (k + 1)) (v + 1) M_48 (by omega) (by omega) (by omega) (fun z => hnf.2.2.2 (by omega)) hjt_48 hof_48 hR_48 hk_48
          rw [hsk, hst] at hz
          exact vr_kn (by omega) (by omega) hz
        · have hb : ¬ (m_d1 s k).1 (35 + k) ≤ 30 := fun z => c_40 (if_pos z)
          refine vr_iconst (v := 0) hE dX2_dayGoesBy_43 (by decide) ?_
          refine vr_goto (tgt := 51) hE dX2_dayGoesBy_44 (by decide) ?_
          refine vr_iadd hE dX2_dayGoesBy_51 ?_
          refine vr_istore_n hE dX2_dayGoesBy_52 (hnl _ (by decide)) rfl ?_
          refine vr_goto (tgt := 16) hE dX2_dayGoesBy_53 (by decide) ?_
          refine vr_drop 3 ?_
          have hnf := c_nf_ok s (m_fn s) (n - (k + 1)) (k + 1)
          have hne : c_nf (m_d1 s k).1 (m_fn s) (n - (k + 1)) (k + 1) = (c_nf s (m_fn s) (n - (k + 1)) (k + 1)) := c_nf_eq _ _ (fun j hj => m_d1_ne (Or.inl (by omega)) k (by omega))
          have hsk := d1_skip (s := s) (c := n - (k + 1)) (k := k + 1) (by omega)
          have e15 : (m_d1 s k).1 (15 + k) = m_fn (m_d1 s k).1 := by rw [m_d1_ne (Or.inl (by omega)) k (by omega), hm hkn, d1_fn s (by omega)]
          have hst : m_d1 s (k + 1) = m_d1 s k := by
            show m_d1s (m_d1 s k) k = _
            unfold m_d1s
            rw [if_neg (fun z => hb z.2)]
          rw [hne] at hjt_26
          rw [← hst, ← hsk] at hR_26
          have hz := ih (c_nf s (m_fn s) (n - (k + 1)) (k + 1)) v M_26 (by omega) (by omega) (by omega) (fun z => hnf.2.2.2 (by omega)) hjt_26 hof_26 hR_26 hk_26
          rw [hsk, hst] at hz
          refine vr_L (L' := [some (.ref R.r), some (.int (m_d1 s k).2), some (.ref jt), none]) (by rw [Int32.add_zero]; rfl) ?_
          exact hz
  have hnf := c_nf_ok s (m_fn s) n 0
  have hsk := d1_skip (s := s) (c := n) (k := 0) hR.hn
  have hR_10 : RoundM Y M_10 R n w (m_d1 s (c_nf s (m_fn s) n 0)).1 := by
    rw [hsk]
    exact hR.ext hx_10
  have hz := hlp_16 n (c_nf s (m_fn s) n 0) 0 M_10 (by omega) (by omega) (Nat.zero_le _) (fun z => hnf.2.2.2 (by omega)) hjt_10 hofn_10 hR_10 (fun q9 x9 z9 _ => hx_10 q9 x9 z9)
  rw [hsk] at hz
  exact hz
