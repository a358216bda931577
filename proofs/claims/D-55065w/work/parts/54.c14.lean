/-! a round copied: the numbers on the way -/
set_option maxRecDepth 100000
/-- the copy's numbers when i traders and j weights stand in it, its own fields yet 0 -/
def c_cp (s : Nat → Int32) (i j : Nat) : Nat → Int32 := fun k => if k = 0 ∨ k = 3 ∨ k = 4 then 0 else if k = 1 then nI i else if k = 2 then nI j else s k
theorem c_cp_ge {s : Nat → Int32} {i j k : Nat} (h : 5 ≤ k) : c_cp s i j k = s k := by
  unfold c_cp
  rw [if_neg (by omega), if_neg (by omega), if_neg (by omega)]
theorem c_cp_i {s : Nat → Int32} {i i' j k : Nat} (h : k ≠ 1) : c_cp s i' j k = c_cp s i j k := by
  unfold c_cp
  by_cases h0 : k = 0 ∨ k = 3 ∨ k = 4
  · rw [if_pos h0, if_pos h0]
  · rw [if_neg h0, if_neg h0, if_neg h, if_neg h]
theorem c_cp_j {s : Nat → Int32} {i j j' k : Nat} (h : k ≠ 2) : c_cp s i j' k = c_cp s i j k := by
  unfold c_cp
  by_cases h0 : k = 0 ∨ k = 3 ∨ k = 4
  · rw [if_pos h0, if_pos h0]
  · rw [if_neg h0, if_neg h0]
    by_cases h1 : k = 1
    · rw [if_pos h1, if_pos h1]
    · rw [if_neg h1, if_neg h1, if_neg h, if_neg h]
theorem tS_cp (s : Nat → Int32) (i j r t : Nat) : tS (c_cp s i j) r t = tS s r t := by
  simp only [tS]
  rw [c_cp_ge (k := 15 + t) (by omega), c_cp_ge (k := 25 + t) (by omega), c_cp_ge (k := 35 + t) (by omega), c_cp_ge (k := 45 + t) (by omega), c_cp_ge (k := 55 + t) (by omega), c_cp_ge (k := 65 + t) (by omega), c_cp_ge (k := 75 + t) (by omega), c_cp_ge (k := 85 + t) (by omega), c_cp_ge (k := 95 + t) (by omega)]
theorem bS_cp (s : Nat → Int32) (i j t : Nat) : bS (c_cp s i j) t = bS s t := by
  simp only [bS]
  rw [c_cp_ge (k := 105 + t) (by omega), c_cp_ge (k := 109 + t) (by omega), c_cp_ge (k := 113 + t) (by omega)]
/-- rates copied -/
def c_c1 (s : Nat → Int32) : Nat → Int32 := fun k => if 5 ≤ k ∧ k < 10 then s k else s_0 k
theorem c_c1_a (s : Nat → Int32) : va_cpy (ar5 s 5) (ar5 s_0 5) 0 0 5 = ar5 (c_c1 s) 5 := by
  funext j
  by_cases h : j < 5
  · rw [pk_cpy_in (Nat.zero_le _) (by omega), ar5_lt h, show 0 + (j - 0) = j by omega, ar5_lt h]
    simp only [c_c1]
    rw [if_pos ⟨by omega, by omega⟩]
  · rw [pk_cpy_out (by omega)]
    simp only [ar5]
    rw [if_neg h, if_neg h]
theorem c_c1_e (s : Nat → Int32) : ∀ k, k < 5 ∨ 10 ≤ k → c_c1 s k = s_0 k := fun k hk => if_neg (by omega)
/-- .. and fines -/
theorem c_c2_a (s : Nat → Int32) : va_cpy (ar5 s 10) (ar5 (c_c1 s) 10) 0 0 5 = ar5 (c_cp s 0 0) 10 := by
  funext j
  by_cases h : j < 5
  · rw [pk_cpy_in (Nat.zero_le _) (by omega), ar5_lt h, show 0 + (j - 0) = j by omega, ar5_lt h, c_cp_ge (by omega)]
  · rw [pk_cpy_out (by omega)]
    simp only [ar5]
    rw [if_neg h, if_neg h]
/-- an empty round: its first numbers alone matter -/
theorem RoundM.cg0 {Y : bi_Y} {M : va_M} {R : cR} {s s' : Nat → Int32} (h : RoundM Y M R 0 0 s) (e : ∀ k, k < 15 → s' k = s k) : RoundM Y M R 0 0 s' := by
  refine ⟨?_, ?_, ?_, h.htl, h.hte, h.hwl, h.hwe, fun j hj => absurd hj (Nat.not_lt_zero _), fun j hj => absurd hj (Nat.not_lt_zero _), (e 1 (by omega)).trans h.h1, (e 2 (by omega)).trans h.h2, h.hn, h.hw, h.nrf, h.ntw, h.nte⟩
  · rw [e 0 (by omega), e 3 (by omega), e 4 (by omega)]
    exact h.hr
  · rw [ar5_eq (fun j hj => e (5 + j) (by omega))]
    exact h.hra
  · rw [ar5_eq (fun j hj => e (10 + j) (by omega))]
    exact h.hfi
/-- fines put into the copy: all that an empty round asks -/
theorem RoundM.cp0 {Y : bi_Y} {M : va_M} {R : cR} {s : Nat → Int32} (h : RoundM Y M R 0 0 (c_c1 s)) : RoundM Y ((bu M R.fi (eI Y 5 (ar5 (c_cp s 0 0) 10)))) R 0 0 (c_cp s 0 0) := by
  have h2 := h.fns (s' := fun k => if 10 ≤ k ∧ k < 15 then s k else c_c1 s k) (fun k hk => if_neg (by omega))
  have e : ar5 (fun k => if 10 ≤ k ∧ k < 15 then s k else c_c1 s k) 10 = ar5 (c_cp s 0 0) 10 := ar5_eq (fun j hj => by
    show (if 10 ≤ 10 + j ∧ 10 + j < 15 then s (10 + j) else _) = _
    rw [if_pos ⟨by omega, by omega⟩, c_cp_ge (by omega)])
  rw [e] at h2
  refine h2.cg0 (fun k hk => ?_)
  show c_cp s 0 0 k = if 10 ≤ k ∧ k < 15 then s k else c_c1 s k
  by_cases h10 : 10 ≤ k
  · rw [if_pos ⟨h10, hk⟩, c_cp_ge (by omega)]
  · rw [if_neg (fun z => h10 z.1)]
    by_cases h5 : 5 ≤ k
    · rw [c_cp_ge h5]
      simp only [c_c1]
      rw [if_pos ⟨h5, by omega⟩]
    · rcases (show k = 0 ∨ k = 1 ∨ k = 2 ∨ k = 3 ∨ k = 4 by omega) with rfl | rfl | rfl | rfl | rfl <;> rfl
/-- the copy whole -/
theorem RoundM.cpE {Y : bi_Y} {M : va_M} {R : cR} {n w : Nat} {s : Nat → Int32} (h : RoundM Y M R n w (c_cp s n w)) (h1 : s 1 = nI n) (h2 : s 2 = nI w) : RoundM Y (bu M R.r (.inr (1, rL R.ra R.fi R.tl R.wl (s 0) (s 3) (s 4)))) R n w s :=
  h.own (fun k k0 k3 k4 => by
    unfold c_cp
    rw [if_neg (by omega)]
    by_cases e1 : k = 1
    · rw [if_pos e1, e1, h1]
    · rw [if_neg e1]
      by_cases e2 : k = 2
      · rw [if_pos e2, e2, h2]
      · rw [if_neg e2])

