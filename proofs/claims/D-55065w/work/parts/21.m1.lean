/-! THE REFERENCE, what its methods do: functions of its state -/
set_option maxRecDepth 100000
def setR (σ : bi_S) (j : Nat) (f : Nat → Int32) : bi_S := (σ.1, fun i => if i = j then f else σ.2 i)
theorem sA_R (σ : bi_S) (j i : Nat) (v : Int32) : sA σ j i v = setR σ j (upd (σ.2 j) i v) := rfl
theorem setR_self (σ : bi_S) (j : Nat) (f : Nat → Int32) : (setR σ j f).2 j = f := by simp [setR]
theorem setR_ne (σ : bi_S) {j i : Nat} (f : Nat → Int32) (h : i ≠ j) : (setR σ j f).2 i = σ.2 i := by simp [setR, h]
theorem setR_R (σ : bi_S) (j : Nat) (f g : Nat → Int32) : setR (setR σ j f) j g = setR σ j g := by
  simp only [setR]
  refine Prod.ext rfl (funext fun i => ?_)
  by_cases h : i = j <;> simp [h]
theorem setR_id (σ : bi_S) (j : Nat) : setR σ j (σ.2 j) = σ := by
  refine Prod.ext rfl (funext fun i => ?_)
  by_cases h : i = j <;> simp [setR, h]
def cpy_ (a b : Nat → Int32) (n : Nat) : Nat → Int32 := fun k => if k < n then a k else b k
theorem cpy_0 (a b : Nat → Int32) : cpy_ a b 0 = b := funext fun k => by simp [cpy_]
theorem cpy_s (a b : Nat → Int32) (i : Nat) : upd (cpy_ a b i) i (a i) = cpy_ a b (i + 1) := funext fun k => by
  simp only [upd, cpy_]
  by_cases h : k = i
  · subst h
    rw [if_pos rfl, if_pos (by omega)]
  · rw [if_neg h]
    by_cases h2 : k < i
    · rw [if_pos h2, if_pos (by omega)]
    · rw [if_neg h2, if_neg (by omega)]
/-- a loop that counts up -/
theorem bi_loop (J : Nat → Prop) (N : Nat) (hx : J N) (hs : ∀ i, i < N → J (i + 1) → J i) : ∀ i, i ≤ N → J i := by
  have key : ∀ c i, i + c = N → J i := by
    intro c
    induction c with
    | zero => intro i hi; rw [show i = N by omega]; exact hx
    | succ c ih => intro i hi; exact hs i (by omega) (ih (i + 1) (by omega))
  exact fun i hi => key (N - i) i (by omega)
theorem iinc_1 (a : Nat) : nI a + Int32.ofInt 1 = nI (a + 1) := by rw [show Int32.ofInt 1 = 1 by decide]; exact nI_1 a
theorem iinc_x (x : Int32) : x + Int32.ofInt 1 = x + 1 := by rw [show Int32.ofInt 1 = 1 by decide]
def in_ (v lo hi : Int32) : Int32 := if v < lo then 0 else if hi < v then 0 else 1
theorem in_b (v lo hi : Int32) : narrow .boolean (.int (in_ v lo hi)) = .int (in_ v lo hi) := by
  unfold in_
  split
  · rfl
  · split <;> rfl
/-- thrown := c -/
def m_fails (σ : bi_S) (c : Int32) : bi_S := sF σ 0 c
def m_refused (σ : bi_S) (o : Int32) : bi_S := sF (sF (sF σ 15 o) 16 0) 17 0
def m_done (σ : bi_S) (v : Int32) : bi_S := sF σ 18 v
def m_keeps0 (σ : bi_S) (r : Int32) : bi_S := setR (setR σ 7 (upd (upd (upd (σ.2 7) 0 r) 1 (σ.1 16)) 2 0)) 8 (upd (upd (σ.2 8) 0 (σ.1 15)) 1 (σ.1 17))
def m_keeps1 (σ : bi_S) (r : Int32) : bi_S := setR (setR σ 7 (upd (upd (σ.2 7) 1 r) 2 (σ.1 16))) 8 (upd (upd (σ.2 8) 1 (σ.1 15)) 2 (σ.1 17))
def m_rem (σ : bi_S) : bi_S := setR σ 1 (cpy_ (σ.2 0) (σ.2 1) 117)
/-- the row of kept states, one place forward -/
def m_shift (h : Nat → Int32) (i : Nat) : Nat → Int32 := fun k => if k < i then h (k + 117) else h k
theorem m_shift_0 (h : Nat → Int32) : m_shift h 0 = h := funext fun k => by simp [m_shift]
theorem m_shift_s (h : Nat → Int32) (i : Nat) : upd (m_shift h i) i (m_shift h i (i + 117)) = m_shift h (i + 1) := funext fun k => by
  simp only [upd, m_shift]
  by_cases e : k = i
  · subst e
    rw [if_pos rfl, if_neg (by omega), if_pos (by omega)]
  · rw [if_neg e]
    by_cases h2 : k < i
    · rw [if_pos h2, if_pos (by omega)]
    · rw [if_neg h2, if_neg (by omega)]
/-- .. and a state put at its place c -/
def m_put (h f : Nat → Int32) (c i : Nat) : Nat → Int32 := fun k => if 117 * c ≤ k ∧ k < 117 * c + i then f (k - 117 * c) else h k
theorem m_put_0 (h f : Nat → Int32) (c : Nat) : m_put h f c 0 = h := funext fun k => by
  simp only [m_put]
  rw [if_neg (by omega)]
theorem m_put_s (h f : Nat → Int32) (c i : Nat) : upd (m_put h f c i) (117 * c + i) (f i) = m_put h f c (i + 1) := funext fun k => by
  simp only [upd, m_put]
  by_cases e : k = 117 * c + i
  · subst e
    rw [if_pos rfl, if_pos (by omega), Nat.add_sub_cancel_left]
  · rw [if_neg e]
    by_cases h2 : 117 * c ≤ k ∧ k < 117 * c + i
    · rw [if_pos h2, if_pos (by omega)]
    · rw [if_neg h2, if_neg (by omega)]
/-- what is kept behind 'changed', of q kept before -/
def m_kept (q : Nat) : Nat := if q = 8 then 8 else q + 1
def m_changed (σ : bi_S) (q : Nat) : bi_S := setR (sF σ 5 (nI (m_kept q))) 3 (m_put (if q = 8 then m_shift (σ.2 3) 819 else σ.2 3) (σ.2 1) (m_kept q - 1) 117)
def m_ends (σ : bi_S) (q : Nat) (reason code : Int32) : bi_S := if reason = 0 then m_changed σ q else m_fails (m_keeps0 σ reason) code
def m_endsV (σ : bi_S) (reason : Int32) : Int32 := if reason = 0 then σ.1 18 else 0
def jmod (x y : Int32) : Int32 := x - x / y * y
def m_fn (s : Nat → Int32) : Int32 := jmod (s 0) 5
def m_drifted (e d : Int32) : Int32 := if e + d ≤ 50 then (if -50 ≤ e + d then e + d else -50) else 50
def m_tens (s : Nat → Int32) (t : Nat) : Int32 := if s (45 + t) ≤ 0 then 0 else s (45 + t) / 10
def m_lossOf (s : Nat → Int32) (t : Nat) : Int32 := m_tens s t + s (75 + t) / 5
def m_barred (s : Nat → Int32) (t : Nat) : Int32 := if s (35 + t) ≤ 30 then 0 else 1
def m_gpay (s : Nat → Int32) (t : Nat) (c : Int32) : Int32 := if s (35 + t) ≤ c / 2 then s (35 + t) else c / 2
def m_gets (s : Nat → Int32) (t : Nat) (c : Int32) : Nat → Int32 :=
  let s1 := upd s (35 + t) (s (35 + t) - m_gpay s t c)
  let h := s1 (25 + t) + c - m_gpay s t c
  upd s1 (25 + t) (if h ≤ 999 then h else 999)
theorem m_barred_0 (s : Nat → Int32) (t : Nat) : m_barred s t = 0 ↔ s (35 + t) ≤ 30 := by
  unfold m_barred
  split <;> simp_all
theorem in_0 (v a b : Int32) : in_ v a b = 0 ↔ ¬ (a ≤ v ∧ v ≤ b) := by
  unfold in_
  simp only [Int32.le_iff_toInt_le, Int32.lt_iff_toInt_lt]
  split
  · simp only [true_iff]; omega
  · split
    · simp only [true_iff]; omega
    · have : ¬ ((1 : Int32) = 0) := by decide
      simp only [this, false_iff]; omega
/-! the reference's small methods, walked -/
set_option maxRecDepth 100000
theorem ok_X3_thrown : bi_ok yX3_thrown RX3 0 := by decide +kernel
theorem mo_thrown {Y : bi_Y} {mo : Nat} {ad : Nat → Nat} (G : mo_G Y mo ad) (σ : bi_S) : bi_Met Y yX3_thrown (ws_ yX3_thrown cX3_thrown 1 (some .int)) 0 0 0 0 (mo_P Y.2.1 mo ad σ) (mo_F mo ad) [.ref mo] (fun v u => v = some (.int (σ.1 0)) ∧ u = σ) bi_nx (mo_P Y.2.1 mo ad) := by
  refine bi_Met.of (own := RX3) (L0 := [some (.ref mo)]) rfl (by decide) G.1 G.2 (Nat.le_of_ble_eq_true rfl) rfl (fun X hE hQ hA hnl hnm => ?_)
  have hnl : ∀ q, q < 1 → q < bi_nL X := fun q h => by rw [hnl]; exact h
  refine vr_aload_n hE dX3_thrown_0 rfl ?_
  refine mr_get hE (z := 0) (by decide) q2507 rfl rfl dX3_thrown_1 ?_
  refine vr_ireturn hE hQ rfl dX3_thrown_4 (by decide) ⟨_, ?_, fun H h => h⟩
  exact ⟨rfl, rfl⟩
theorem ok_X3_fails : bi_ok yX3_fails RX3 1 := by decide +kernel
theorem mo_fails {Y : bi_Y} {mo : Nat} {ad : Nat → Nat} (G : mo_G Y mo ad) (σ : bi_S) (c : Int32) : bi_Met Y yX3_fails (ws_ yX3_fails cX3_fails 2 (some .int)) 0 0 0 0 (mo_P Y.2.1 mo ad σ) (mo_F mo ad) [.ref mo, .int c] (fun v u => v = some (.int 0) ∧ u = m_fails σ c) bi_nx (mo_P Y.2.1 mo ad) := by
  refine bi_Met.of (own := RX3) (L0 := [some (.ref mo), some (.int c)]) rfl (by decide) G.1 G.2 (Nat.le_of_ble_eq_true rfl) rfl (fun X hE hQ hA hnl hnm => ?_)
  have hnl : ∀ q, q < 2 → q < bi_nL X := fun q h => by rw [hnl]; exact h
  refine vr_aload_n hE dX3_fails_0 rfl ?_
  refine vr_iload_n hE dX3_fails_1 rfl ?_
  refine mr_put hE hA (z := 0) (by decide) q2507 rfl rfl rfl rfl (fun _ => rfl) dX3_fails_2 ?_
  refine vr_iconst (v := 0) hE dX3_fails_5 (by decide) ?_
  refine vr_ireturn hE hQ rfl dX3_fails_6 (by decide) ⟨_, ?_, fun H h => h⟩
  exact ⟨rfl, rfl⟩
theorem ok_X3_in : bi_ok yX3_in RX3 3 := by decide +kernel
theorem mo_in {Y : bi_Y} (G : bi_GS Y) (P : Heap → Prop) (a b c : Int32) : bi_Met Y yX3_in (ws_ yX3_in cX3_in 3 (some .boolean)) 0 0 0 0 P (fun _ => False) [.int a, .int b, .int c] (fun v (_ : Unit) => v = some (.int (in_ a b c))) bi_nx (fun _ => P) := by
  refine bi_Met.of (own := RX3) (L0 := [some (.int a), some (.int b), some (.int c)]) rfl (by decide) G (fun _ h => h.elim) (Nat.le_of_ble_eq_true rfl) rfl (fun X hE hQ hA hnl hnm => ?_)
  have hnl : ∀ q, q < 3 → q < bi_nL X := fun q h => by rw [hnl]; exact h
  refine vr_iload_n hE dX3_in_0 rfl ?_
  refine vr_iload_n hE dX3_in_1 rfl ?_
  apply vt_icmp_lt (tgt := 14) (J := 15) hE dX3_in_2 (by decide)
  · intro c_2 kt1
    refine vr_iconst (v := 0) hE dX3_in_14 (by decide) ?_
    exact kt1
  · intro c_2 kf1
    refine vr_iload_n hE dX3_in_5 rfl ?_
    refine vr_iload_n hE dX3_in_6 rfl ?_
    apply vt_icmp_gt (tgt := 14) (J := 15) hE dX3_in_7 (by decide)
    · intro c_7 kt2
      refine vr_iconst (v := 0) hE dX3_in_14 (by decide) ?_
      exact kt2
    · intro c_7 kf2
      refine vr_iconst (v := 1) hE dX3_in_10 (by decide) ?_
      refine vr_goto (tgt := 15) hE dX3_in_11 (by decide) ?_
      exact kf2
    exact kf1
  refine vr_ireturn hE hQ (in_b _ _ _) dX3_in_15 (by decide) ⟨(), ?_, fun H h => h⟩
  rfl
theorem ok_X3_refused : bi_ok yX3_refused RX3 2 := by decide +kernel
theorem mo_refused {Y : bi_Y} {mo : Nat} {ad : Nat → Nat} (G : mo_G Y mo ad) (σ : bi_S) (r a : Int32) : bi_Met Y yX3_refused (ws_ yX3_refused cX3_refused 3 (some .int)) 0 0 0 0 (mo_P Y.2.1 mo ad σ) (mo_F mo ad) [.ref mo, .int r, .int a] (fun v u => v = some (.int r) ∧ u = m_refused σ a) bi_nx (mo_P Y.2.1 mo ad) := by
  refine bi_Met.of (own := RX3) (L0 := [some (.ref mo), some (.int r), some (.int a)]) rfl (by decide) G.1 G.2 (Nat.le_of_ble_eq_true rfl) rfl (fun X hE hQ hA hnl hnm => ?_)
  have hnl : ∀ q, q < 3 → q < bi_nL X := fun q h => by rw [hnl]; exact h
  refine vr_aload_n hE dX3_refused_0 rfl ?_
  refine vr_iload_n hE dX3_refused_1 rfl ?_
  refine mr_put hE hA (z := 15) (by decide) q2522 rfl rfl rfl rfl (fun _ => rfl) dX3_refused_2 ?_
  refine vr_aload_n hE dX3_refused_5 rfl ?_
  refine vr_iconst (v := 0) hE dX3_refused_6 (by decide) ?_
  refine mr_put hE hA (z := 16) (by decide) q2523 rfl rfl rfl rfl (fun _ => rfl) dX3_refused_7 ?_
  refine vr_aload_n hE dX3_refused_10 rfl ?_
  refine vr_iconst (v := 0) hE dX3_refused_11 (by decide) ?_
  refine mr_put hE hA (z := 17) (by decide) q2524 rfl rfl rfl rfl (fun _ => rfl) dX3_refused_12 ?_
  refine vr_iload_n hE dX3_refused_15 rfl ?_
  refine vr_ireturn hE hQ rfl dX3_refused_16 (by decide) ⟨_, ?_, fun H h => h⟩
  exact ⟨rfl, rfl⟩
theorem ok_X3_done : bi_ok yX3_done RX3 1 := by decide +kernel
theorem mo_done {Y : bi_Y} {mo : Nat} {ad : Nat → Nat} (G : mo_G Y mo ad) (σ : bi_S) (a : Int32) : bi_Met Y yX3_done (ws_ yX3_done cX3_done 2 (some .int)) 0 0 0 0 (mo_P Y.2.1 mo ad σ) (mo_F mo ad) [.ref mo, .int a] (fun v u => v = some (.int 0) ∧ u = m_done σ a) bi_nx (mo_P Y.2.1 mo ad) := by
  refine bi_Met.of (own := RX3) (L0 := [some (.ref mo), some (.int a)]) rfl (by decide) G.1 G.2 (Nat.le_of_ble_eq_true rfl) rfl (fun X hE hQ hA hnl hnm => ?_)
  have hnl : ∀ q, q < 2 → q < bi_nL X := fun q h => by rw [hnl]; exact h
  refine vr_aload_n hE dX3_done_0 rfl ?_
  refine vr_iload_n hE dX3_done_1 rfl ?_
  refine mr_put hE hA (z := 18) (by decide) q2525 rfl rfl rfl rfl (fun _ => rfl) dX3_done_2 ?_
  refine vr_iconst (v := 0) hE dX3_done_5 (by decide) ?_
  refine vr_ireturn hE hQ rfl dX3_done_6 (by decide) ⟨_, ?_, fun H h => h⟩
  exact ⟨rfl, rfl⟩
theorem ok_X3_keeps : bi_ok yX3_keeps RX3 2 := by decide +kernel
theorem mo_keeps0 {Y : bi_Y} {mo : Nat} {ad : Nat → Nat} (G : mo_G Y mo ad) (σ : bi_S) (r : Int32) : bi_Met Y yX3_keeps (ws_ yX3_keeps cX3_keeps 3 none) 0 0 0 0 (mo_P Y.2.1 mo ad σ) (mo_F mo ad) [.ref mo, .int 0, .int r] (fun v u => v = none ∧ u = m_keeps0 σ r) bi_nx (mo_P Y.2.1 mo ad) := by
  refine bi_Met.of (own := RX3) (L0 := [some (.ref mo), some (.int 0), some (.int r)]) rfl (by decide) G.1 G.2 (Nat.le_of_ble_eq_true rfl) rfl (fun X hE hQ hA hnl hnm => ?_)
  have hnl : ∀ q, q < 3 → q < bi_nL X := fun q h => by rw [hnl]; exact h
  refine vr_aload_n hE dX3_keeps_0 rfl ?_
  refine mr_get hE (z := 10) (by decide) q2517 rfl rfl dX3_keeps_1 ?_
  refine vr_iload_n hE dX3_keeps_4 rfl ?_
  refine vr_iload_n hE dX3_keeps_5 rfl ?_
  refine mr_ast hE hA (j := 7) (i' := 0) (by decide) rfl (by decide) dX3_keeps_6 ?_
  refine vr_aload_n hE dX3_keeps_7 rfl ?_
  refine mr_get hE (z := 11) (by decide) q2518 rfl rfl dX3_keeps_8 ?_
  refine vr_iload_n hE dX3_keeps_11 rfl ?_
  refine vr_aload_n hE dX3_keeps_12 rfl ?_
  refine mr_get hE (z := 15) (by decide) q2522 rfl rfl dX3_keeps_13 ?_
  refine mr_ast hE hA (j := 8) (i' := 0) (by decide) rfl (by decide) dX3_keeps_16 ?_
  refine vr_iload_n hE dX3_keeps_17 rfl ?_
  refine vr_iconst (v := 2) hE dX3_keeps_18 (by decide) ?_
  refine vr_icmp_ge (tgt := 46) hE dX3_keeps_19 (by decide) (fun c_19 => ?_) (fun c_19 => ?_)
  · exact absurd c_19 (by decide)
  refine vr_aload_n hE dX3_keeps_22 rfl ?_
  refine mr_get hE (z := 10) (by decide) q2517 rfl rfl dX3_keeps_23 ?_
  refine vr_iload_n hE dX3_keeps_26 rfl ?_
  refine vr_iconst (v := 1) hE dX3_keeps_27 (by decide) ?_
  refine vr_iadd hE dX3_keeps_28 ?_
  refine vr_aload_n hE dX3_keeps_29 rfl ?_
  refine mr_get hE (z := 16) (by decide) q2523 rfl rfl dX3_keeps_30 ?_
  refine mr_ast hE hA (j := 7) (i' := 1) (by decide) (by decide) (by decide) dX3_keeps_33 ?_
  refine vr_aload_n hE dX3_keeps_34 rfl ?_
  refine mr_get hE (z := 11) (by decide) q2518 rfl rfl dX3_keeps_35 ?_
  refine vr_iload_n hE dX3_keeps_38 rfl ?_
  refine vr_iconst (v := 1) hE dX3_keeps_39 (by decide) ?_
  refine vr_iadd hE dX3_keeps_40 ?_
  refine vr_aload_n hE dX3_keeps_41 rfl ?_
  refine mr_get hE (z := 17) (by decide) q2524 rfl rfl dX3_keeps_42 ?_
  refine mr_ast hE hA (j := 8) (i' := 1) (by decide) (by decide) (by decide) dX3_keeps_45 ?_
  refine vr_iload_n hE dX3_keeps_46 rfl ?_
  refine vr_if_ne (tgt := 57) hE dX3_keeps_47 (by decide) (fun c_47 => ?_) (fun c_47 => ?_)
  · exact absurd rfl c_47
  refine vr_aload_n hE dX3_keeps_50 rfl ?_
  refine mr_get hE (z := 10) (by decide) q2517 rfl rfl dX3_keeps_51 ?_
  refine vr_iconst (v := 2) hE dX3_keeps_54 (by decide) ?_
  refine vr_iconst (v := 0) hE dX3_keeps_55 (by decide) ?_
  refine mr_ast hE hA (j := 7) (i' := 2) (by decide) rfl (by decide) dX3_keeps_56 ?_
  refine vr_return hE hQ dX3_keeps_57 (by decide) ⟨_, ?_, fun H h => h⟩
  refine ⟨rfl, Prod.ext rfl (funext fun i => ?_)⟩
  simp only [m_keeps0, setR, sA, sF]
  by_cases h7 : i = 7 <;> by_cases h8 : i = 8 <;> simp [h7, h8]
theorem mo_keeps1 {Y : bi_Y} {mo : Nat} {ad : Nat → Nat} (G : mo_G Y mo ad) (σ : bi_S) (r : Int32) : bi_Met Y yX3_keeps (ws_ yX3_keeps cX3_keeps 3 none) 0 0 0 0 (mo_P Y.2.1 mo ad σ) (mo_F mo ad) [.ref mo, .int 1, .int r] (fun v u => v = none ∧ u = m_keeps1 σ r) bi_nx (mo_P Y.2.1 mo ad) := by
  refine bi_Met.of (own := RX3) (L0 := [some (.ref mo), some (.int 1), some (.int r)]) rfl (by decide) G.1 G.2 (Nat.le_of_ble_eq_true rfl) rfl (fun X hE hQ hA hnl hnm => ?_)
  have hnl : ∀ q, q < 3 → q < bi_nL X := fun q h => by rw [hnl]; exact h
  refine vr_aload_n hE dX3_keeps_0 rfl ?_
  refine mr_get hE (z := 10) (by decide) q2517 rfl rfl dX3_keeps_1 ?_
  refine vr_iload_n hE dX3_keeps_4 rfl ?_
  refine vr_iload_n hE dX3_keeps_5 rfl ?_
  refine mr_ast hE hA (j := 7) (i' := 1) (by decide) rfl (by decide) dX3_keeps_6 ?_
  refine vr_aload_n hE dX3_keeps_7 rfl ?_
  refine mr_get hE (z := 11) (by decide) q2518 rfl rfl dX3_keeps_8 ?_
  refine vr_iload_n hE dX3_keeps_11 rfl ?_
  refine vr_aload_n hE dX3_keeps_12 rfl ?_
  refine mr_get hE (z := 15) (by decide) q2522 rfl rfl dX3_keeps_13 ?_
  refine mr_ast hE hA (j := 8) (i' := 1) (by decide) rfl (by decide) dX3_keeps_16 ?_
  refine vr_iload_n hE dX3_keeps_17 rfl ?_
  refine vr_iconst (v := 2) hE dX3_keeps_18 (by decide) ?_
  refine vr_icmp_ge (tgt := 46) hE dX3_keeps_19 (by decide) (fun c_19 => ?_) (fun c_19 => ?_)
  · exact absurd c_19 (by decide)
  refine vr_aload_n hE dX3_keeps_22 rfl ?_
  refine mr_get hE (z := 10) (by decide) q2517 rfl rfl dX3_keeps_23 ?_
  refine vr_iload_n hE dX3_keeps_26 rfl ?_
  refine vr_iconst (v := 1) hE dX3_keeps_27 (by decide) ?_
  refine vr_iadd hE dX3_keeps_28 ?_
  refine vr_aload_n hE dX3_keeps_29 rfl ?_
  refine mr_get hE (z := 16) (by decide) q2523 rfl rfl dX3_keeps_30 ?_
  refine mr_ast hE hA (j := 7) (i' := 2) (by decide) (by decide) (by decide) dX3_keeps_33 ?_
  refine vr_aload_n hE dX3_keeps_34 rfl ?_
  refine mr_get hE (z := 11) (by decide) q2518 rfl rfl dX3_keeps_35 ?_
  refine vr_iload_n hE dX3_keeps_38 rfl ?_
  refine vr_iconst (v := 1) hE dX3_keeps_39 (by decide) ?_
  refine vr_iadd hE dX3_keeps_40 ?_
  refine vr_aload_n hE dX3_keeps_41 rfl ?_
  refine mr_get hE (z := 17) (by decide) q2524 rfl rfl dX3_keeps_42 ?_
  refine mr_ast hE hA (j := 8) (i' := 2) (by decide) (by decide) (by decide) dX3_keeps_45 ?_
  refine vr_iload_n hE dX3_keeps_46 rfl ?_
  refine vr_if_ne (tgt := 57) hE dX3_keeps_47 (by decide) (fun c_47 => ?_) (fun c_47 => ?_)
  · skip
    refine vr_return hE hQ dX3_keeps_57 (by decide) ⟨_, ?_, fun H h => h⟩
    refine ⟨rfl, Prod.ext rfl (funext fun i => ?_)⟩
    simp only [m_keeps1, setR, sA, sF]
    by_cases h7 : i = 7 <;> by_cases h8 : i = 8 <;> simp [h7, h8]
  · exact absurd c_47 (by decide)
theorem ok_X3_remembers : bi_ok yX3_remembers RX3 0 := by decide +kernel
theorem mo_remembers {Y : bi_Y} {mo : Nat} {ad : Nat → Nat} (G : mo_G Y mo ad) (σ : bi_S) : bi_Met Y yX3_remembers (ws_ yX3_remembers cX3_remembers 2 none) 0 0 0 0 (mo_P Y.2.1 mo ad σ) (mo_F mo ad) [.ref mo] (fun v u => v = none ∧ u = m_rem σ) bi_nx (mo_P Y.2.1 mo ad) := by
  refine bi_Met.of (own := RX3) (L0 := [some (.ref mo), none]) rfl (by decide) G.1 G.2 (Nat.le_of_ble_eq_true rfl) rfl (fun X hE hQ hA hnl hnm => ?_)
  have hnl : ∀ q, q < 2 → q < bi_nL X := fun q h => by rw [hnl]; exact h
  refine vr_iconst (v := 0) hE dX3_remembers_0 (by decide) ?_
  refine vr_istore_n hE dX3_remembers_1 (hnl _ (by decide)) rfl ?_
  have hlp_2 : ∀ i, i ≤ 117 → bi_V Y.1 X (mo_P Y.2.1 mo ad (setR σ 1 (cpy_ (σ.2 0) (σ.2 1) i))) 0 0 2 [some (.ref mo), some (.int (nI i))] [] := by
    refine bi_loop (fun i => bi_V Y.1 X (mo_P Y.2.1 mo ad (setR σ 1 (cpy_ (σ.2 0) (σ.2 1) i))) 0 0 2 [some (.ref mo), some (.int (nI i))] []) 117 ?_ (fun i hi ih => ?_)
    · refine vr_iload_n hE dX3_remembers_2 rfl ?_
      refine vr_bipush (v := 117) hE dX3_remembers_3 (by decide) ?_
      refine vr_icmp_ge (tgt := 26) hE dX3_remembers_5 (by decide) (fun c_5 => ?_) (fun c_5 => ?_)
      · skip
        refine vr_return hE hQ dX3_remembers_26 (by decide) ⟨_, ?_, fun H h => h⟩
        exact ⟨rfl, rfl⟩
      · exact absurd (nI_le (Nat.le_refl _) (by decide)) c_5
    · refine vr_iload_n hE dX3_remembers_2 rfl ?_
      refine vr_bipush (v := 117) hE dX3_remembers_3 (by decide) ?_
      refine vr_icmp_ge (tgt := 26) hE dX3_remembers_5 (by decide) (fun c_5 => ?_) (fun c_5 => ?_)
      · exact absurd c_5 (nI_ge hi (by decide))
      refine vr_aload_n hE dX3_remembers_8 rfl ?_
      refine mr_get hE (z := 2) (by decide) q2509 rfl rfl dX3_remembers_9 ?_
      refine vr_iload_n hE dX3_remembers_12 rfl ?_
      refine vr_aload_n hE dX3_remembers_13 rfl ?_
      refine mr_get hE (z := 1) (by decide) q2508 rfl rfl dX3_remembers_14 ?_
      refine vr_iload_n hE dX3_remembers_17 rfl ?_
      refine mr_ald hE (j := 0) (by decide) rfl (by show _ < 117; omega) dX3_remembers_18 ?_
      refine mr_ast hE hA (j := 1) (by decide) rfl (by show _ < 117; omega) dX3_remembers_19 ?_
      refine vr_iinc hE dX3_remembers_20 rfl (iinc_1 _) (hnl _ (by decide)) rfl ?_
      refine vr_goto (tgt := 2) hE dX3_remembers_23 (by decide) ?_
      refine vr_P (fun H h => ?_) ih
      simpa [sA_R, setR_R, setR_self, setR_ne, cpy_s] using h
  have z := hlp_2 0 (Nat.zero_le _)
  rw [cpy_0, setR_id] at z
  exact z
theorem ok_X3_changed : bi_ok yX3_changed RX3 1 := by decide +kernel
theorem mo_changed {Y : bi_Y} {mo : Nat} {ad : Nat → Nat} (G : mo_G Y mo ad) (σ : bi_S) (q : Nat) (hq8 : q ≤ 8) (hq : σ.1 5 = nI q) (a : Int32) : bi_Met Y yX3_changed (ws_ yX3_changed cX3_changed 3 (some .int)) 0 0 0 0 (mo_P Y.2.1 mo ad σ) (mo_F mo ad) [.ref mo, .int a] (fun v u => v = some (.int a) ∧ u = m_changed σ q) bi_nx (mo_P Y.2.1 mo ad) := by
  refine bi_Met.of (own := RX3) (L0 := [some (.ref mo), some (.int a), none]) rfl (by decide) G.1 G.2 (Nat.le_of_ble_eq_true rfl) rfl (fun X hE hQ hA hnl hnm => ?_)
  have hnl : ∀ q, q < 3 → q < bi_nL X := fun q h => by rw [hnl]; exact h
  have hJ : ∀ (σ' : bi_S) (c : Nat), c < 8 → σ'.1 5 = nI (c + 1) → setR σ' 3 (m_put (σ'.2 3) (σ'.2 1) c 117) = m_changed σ q → bi_V Y.1 X (mo_P Y.2.1 mo ad σ') 0 0 52 [some (.ref mo), some (.int a), none] [] := by
    intro σ' c hc e5 eu
    refine vr_iconst (v := 0) hE dX3_changed_52 (by decide) ?_
    refine vr_istore_n hE dX3_changed_53 (hnl _ (by decide)) rfl ?_
    have hlp_54 : ∀ i, i ≤ 117 → bi_V Y.1 X (mo_P Y.2.1 mo ad (setR σ' 3 (m_put (σ'.2 3) (σ'.2 1) c i))) 0 0 54 [some (.ref mo), some (.int a), some (.int (nI i))] [] := by
      refine bi_loop (fun i => bi_V Y.1 X (mo_P Y.2.1 mo ad (setR σ' 3 (m_put (σ'.2 3) (σ'.2 1) c i))) 0 0 54 [some (.ref mo), some (.int a), some (.int (nI i))] []) 117 ?_ (fun i hi ih => ?_)
      · refine vr_iload_n hE dX3_changed_54 rfl ?_
        refine vr_bipush (v := 117) hE dX3_changed_55 (by decide) ?_
        refine vr_icmp_ge (tgt := 88) hE dX3_changed_57 (by decide) (fun c_57 => ?_) (fun c_57 => ?_)
        · skip
          refine vr_iload_n hE dX3_changed_88 rfl ?_
          refine vr_ireturn hE hQ rfl dX3_changed_89 (by decide) ⟨_, ?_, fun H h => h⟩
          exact ⟨rfl, eu⟩
        · exact absurd (nI_le (Nat.le_refl _) (by decide)) c_57
      · refine vr_iload_n hE dX3_changed_54 rfl ?_
        refine vr_bipush (v := 117) hE dX3_changed_55 (by decide) ?_
        refine vr_icmp_ge (tgt := 88) hE dX3_changed_57 (by decide) (fun c_57 => ?_) (fun c_57 => ?_)
        · exact absurd c_57 (nI_ge hi (by decide))
        have hidx : (117 : Int32) * ((setR σ' 3 (m_put (σ'.2 3) (σ'.2 1) c i)).1 5 - 1) + nI i = nI (117 * c + i) := by
          rw [show (setR σ' 3 (m_put (σ'.2 3) (σ'.2 1) c i)).1 5 = σ'.1 5 from rfl, e5, nI_pred]
          exact (congrArg (· + nI i) (pk_mul 117 c)).trans (nI_add _ _)
        refine vr_aload_n hE dX3_changed_60 rfl ?_
        refine mr_get hE (z := 4) (by decide) q2511 rfl rfl dX3_changed_61 ?_
        refine vr_bipush (v := 117) hE dX3_changed_64 (by decide) ?_
        refine vr_aload_n hE dX3_changed_66 rfl ?_
        refine mr_get hE (z := 5) (by decide) q2512 rfl rfl dX3_changed_67 ?_
        refine vr_iconst (v := 1) hE dX3_changed_70 (by decide) ?_
        refine vr_isub hE dX3_changed_71 ?_
        refine vr_imul hE dX3_changed_72 ?_
        refine vr_iload_n hE dX3_changed_73 rfl ?_
        refine vr_iadd hE dX3_changed_74 ?_
        refine vr_aload_n hE dX3_changed_75 rfl ?_
        refine mr_get hE (z := 2) (by decide) q2509 rfl rfl dX3_changed_76 ?_
        refine vr_iload_n hE dX3_changed_79 rfl ?_
        refine mr_ald hE (j := 1) (by decide) rfl (by show _ < 117; omega) dX3_changed_80 ?_
        refine mr_ast hE hA (j := 3) (by decide) hidx (by show _ < 936; omega) dX3_changed_81 ?_
        refine vr_iinc hE dX3_changed_82 rfl (iinc_1 _) (hnl _ (by decide)) rfl ?_
        refine vr_goto (tgt := 54) hE dX3_changed_85 (by decide) ?_
        refine vr_P (fun H h => ?_) ih
        simpa [sA_R, setR_R, setR_self, setR_ne, m_put_s] using h
    have z := hlp_54 0 (Nat.zero_le _)
    rw [m_put_0, setR_id] at z
    exact z
  refine vr_aload_n hE dX3_changed_0 rfl ?_
  refine mr_get hE (z := 5) (by decide) q2512 rfl rfl dX3_changed_1 ?_
  refine vr_bipush (v := 8) hE dX3_changed_4 (by decide) ?_
  refine vr_icmp_ne (tgt := 42) hE dX3_changed_6 (by decide) (fun c_6 => ?_) (fun c_6 => ?_)
  · skip
    refine vr_aload_n hE dX3_changed_42 rfl ?_
    refine vr_dup hE dX3_changed_43 rfl ?_
    refine mr_get hE (z := 5) (by decide) q2512 rfl rfl dX3_changed_44 ?_
    refine vr_iconst (v := 1) hE dX3_changed_47 (by decide) ?_
    refine vr_iadd hE dX3_changed_48 ?_
    refine mr_put hE hA (z := 5) (by decide) q2512 rfl rfl rfl rfl (fun _ => rfl) dX3_changed_49 ?_
    have hq9 : q ≠ 8 := fun z => c_6 (by rw [hq, z]; rfl)
    refine hJ _ q (by omega) ?_ ?_
    · show upd σ.1 5 (σ.1 5 + 1) 5 = _
      rw [hq, nI_1]; simp [upd]
    · show setR (sF σ 5 (σ.1 5 + 1)) 3 _ = _
      simp only [m_changed, m_kept, if_neg hq9, hq, nI_1, Nat.add_sub_cancel]
      rfl
  · skip
    refine vr_iconst (v := 0) hE dX3_changed_9 (by decide) ?_
    refine vr_istore_n hE dX3_changed_10 (hnl _ (by decide)) rfl ?_
    have hlp_11 : ∀ i, i ≤ 819 → bi_V Y.1 X (mo_P Y.2.1 mo ad (setR σ 3 (m_shift (σ.2 3) i))) 0 0 11 [some (.ref mo), some (.int a), some (.int (nI i))] [] := by
      refine bi_loop (fun i => bi_V Y.1 X (mo_P Y.2.1 mo ad (setR σ 3 (m_shift (σ.2 3) i))) 0 0 11 [some (.ref mo), some (.int a), some (.int (nI i))] []) 819 ?_ (fun i hi ih => ?_)
      · refine vr_iload_n hE dX3_changed_11 rfl ?_
        refine vr_sipush (v := 819) hE dX3_changed_12 (by decide) ?_
        refine vr_icmp_ge (tgt := 39) hE dX3_changed_15 (by decide) (fun c_15 => ?_) (fun c_15 => ?_)
        · skip
          refine vr_goto (tgt := 52) hE dX3_changed_39 (by decide) ?_
          refine vr_drop 2 (hJ _ 7 (by decide) ?_ ?_)
          · show σ.1 5 = nI 8
            rw [c_6]; rfl
          · have hq9 : q = 8 := (nI_eq (by omega) (by decide)).mp (hq.symm.trans c_6)
            subst hq9
            simp only [m_changed, m_kept, setR_R, setR_self, setR_ne _ _ (show (1 : Nat) ≠ 3 by decide), if_true]
            refine Prod.ext ?_ rfl
            show σ.1 = upd σ.1 5 (nI 8)
            rw [← hq]
            funext j
            by_cases hj : j = 5 <;> simp [upd, hj]
        · exact absurd (nI_le (Nat.le_refl _) (by decide)) c_15
      · refine vr_iload_n hE dX3_changed_11 rfl ?_
        refine vr_sipush (v := 819) hE dX3_changed_12 (by decide) ?_
        refine vr_icmp_ge (tgt := 39) hE dX3_changed_15 (by decide) (fun c_15 => ?_) (fun c_15 => ?_)
        · exact absurd c_15 (nI_ge hi (by decide))
        refine vr_aload_n hE dX3_changed_18 rfl ?_
        refine mr_get hE (z := 4) (by decide) q2511 rfl rfl dX3_changed_19 ?_
        refine vr_iload_n hE dX3_changed_22 rfl ?_
        refine vr_aload_n hE dX3_changed_23 rfl ?_
        refine mr_get hE (z := 4) (by decide) q2511 rfl rfl dX3_changed_24 ?_
        refine vr_iload_n hE dX3_changed_27 rfl ?_
        refine vr_bipush (v := 117) hE dX3_changed_28 (by decide) ?_
        refine vr_iadd hE dX3_changed_30 ?_
        refine mr_ald hE (j := 3) (by decide) (nI_add _ 117) (by show _ < 936; omega) dX3_changed_31 ?_
        refine mr_ast hE hA (j := 3) (by decide) rfl (by show _ < 936; omega) dX3_changed_32 ?_
        refine vr_iinc hE dX3_changed_33 rfl (iinc_1 _) (hnl _ (by decide)) rfl ?_
        refine vr_goto (tgt := 11) hE dX3_changed_36 (by decide) ?_
        refine vr_P (fun H h => ?_) ih
        simpa [sA_R, setR_R, setR_self, setR_ne, m_shift_s] using h
    have z := hlp_11 0 (Nat.zero_le _)
    rw [m_shift_0, setR_id] at z
    exact z
