/-! what is read: letters T, their number e; a place (wrong, spot) that sticks once wrong -/
set_option maxRecDepth 100000
abbrev q_P : Type := Bool × Nat
def KW_look : List Nat := [108, 111, 111, 107, 32]
def KW_with : List Nat := [32, 119, 105, 116, 104, 32]
def KW_mend : List Nat := [109, 101, 110, 100, 32]
def KW_shave : List Nat := [115, 104, 97, 118, 101, 32]
def KW_by : List Nat := [32, 98, 121, 32]
def KW_pay : List Nat := [112, 97, 121, 32]
def KW_sp : List Nat := [32]
def KW_drift : List Nat := [114, 105, 102, 116, 32]
def KW_to : List Nat := [32, 116, 111, 32]
def KW_days : List Nat := [97, 121, 115, 32]
def q_here (T : Nat → Int32) (e s : Nat) : Int32 := if s < e then T s else -1
def q_must (T : Nat → Int32) (e : Nat) (c : Int32) (p : q_P) : q_P := if p.1 = true then p else if q_here T e p.2 = c then (false, p.2 + 1) else (true, p.2)
def q_word (T : Nat → Int32) (e : Nat) : List Nat → q_P → q_P
  | [], p => p
  | c :: l, p => q_word T e l (q_must T e (nI c) p)
def q_dig (T : Nat → Int32) (e : Nat) : Nat → Int32 → Nat → q_P → Int32 × Nat × q_P
  | 0, v, k, p => (v, k, p)
  | m + 1, v, k, p => if p.1 = true then (v, k, p) else if in_ (q_here T e p.2) 48 57 = 0 then (v, k, p) else q_dig T e m (10 * v + q_here T e p.2 - 48) (k + 1) (false, p.2 + 1)
def q_num (T : Nat → Int32) (e m : Nat) (p : q_P) : Int32 × q_P := ((q_dig T e m 0 0 p).1, ((q_dig T e m 0 0 p).2.2.1 || decide ((q_dig T e m 0 0 p).2.1 = 0), (q_dig T e m 0 0 p).2.2.2))
/-- the rows told, and the place -/
abbrev q_S : Type := (Nat → Int32) × q_P
def q_put (o j : Nat) (x : q_S) (r : Int32 × q_P) : q_S := (upd x.1 (3 * o + j) r.1, r.2)
def q_kind (o : Nat) (kind : Int32) (x : q_S) : q_S := (upd x.1 (3 * o) kind, x.2)
def q_wd (T : Nat → Int32) (e : Nat) (l : List Nat) (x : q_S) : q_S := (x.1, q_word T e l x.2)
def q_nm (T : Nat → Int32) (e o j m : Nat) (x : q_S) : q_S := q_put o j x (q_num T e m x.2)
def q_sig (T : Nat → Int32) (e : Nat) (kind : Int32) (p : q_P) : Bool := decide (kind = 3) && decide (q_here T e p.2 = 45)
def q_neg (o : Nat) (x : q_S) : q_S := (upd x.1 (3 * o + 2) (- x.1 (3 * o + 2)), x.2)
/-- behind the middle: a sign, perhaps a number -/
def q_tail (T : Nat → Int32) (e o : Nat) (kind : Int32) (many : Nat) (x : q_S) : q_S :=
  if q_sig T e kind x.2 = true then q_neg o (if many = 0 then (x.1, q_must T e 45 x.2) else q_nm T e o 2 many (x.1, q_must T e 45 x.2))
  else if many = 0 then x else q_nm T e o 2 many x
/-- an order: its kind, its word, a digit, what stands between, the tail -/
def q_ord (T : Nat → Int32) (e o : Nat) (kind : Int32) (w th : List Nat) (many : Nat) (x : q_S) : q_S := q_tail T e o kind many (q_wd T e th (q_nm T e o 1 1 (q_wd T e w (q_kind o kind x))))
def q_days (T : Nat → Int32) (e o : Nat) (w : List Nat) (x : q_S) : q_S := q_nm T e o 1 2 (q_wd T e w (q_kind o 5 x))
def q_d (T : Nat → Int32) (e : Nat) (x : q_S) : q_S := (x.1, q_must T e 100 x.2)
def q_one (T : Nat → Int32) (e o : Nat) (x : q_S) : q_S :=
  if q_here T e x.2.2 = 100 then
    (if q_here T e (q_d T e x).2.2 = 114 then q_ord T e o 3 KW_drift KW_to 1 (q_d T e x) else q_days T e o KW_days (q_d T e x))
  else if q_here T e x.2.2 = 108 then q_ord T e o 0 KW_look KW_with 1 x
  else if q_here T e x.2.2 = 109 then q_ord T e o 1 KW_mend [] 0 x
  else if q_here T e x.2.2 = 112 then q_ord T e o 4 KW_pay KW_sp 2 x
  else if q_here T e x.2.2 = 115 then q_ord T e o 2 KW_shave KW_by 1 x
  else (x.1, (true, x.2.2))
/-- .. and what follows behind a ; -/
def q_all (T : Nat → Int32) (e : Nat) : Nat → Nat → q_S → Nat × q_S
  | 0, o, x => (o, x)
  | f + 1, o, x => if x.2.1 = true then (o, x) else if q_here T e x.2.2 = 59 then q_all T e f (o + 1) (q_one T e o (x.1, (false, x.2.2 + 1))) else (o, x)
def q_read (T : Nat → Int32) (e : Nat) (f : Nat → Int32) : Nat × q_S := q_all T e (e + 1) 1 (q_one T e 0 (f, (false, 0)))
def q_bad (e : Nat) (p : q_P) : Bool := p.1 || decide (p.2 < e)
/-! where a place goes: on, and not beyond the end -/
def q_to (e : Nat) (p p' : q_P) : Prop := p.2 ≤ p'.2 ∧ p'.2 ≤ e
theorem q_to.rf {e : Nat} {p : q_P} (h : p.2 ≤ e) : q_to e p p := ⟨Nat.le_refl _, h⟩
theorem q_to.tr {e : Nat} {p p' p'' : q_P} (h : q_to e p p') (h' : q_to e p' p'') : q_to e p p'' := ⟨Nat.le_trans h.1 h'.1, h'.2⟩
theorem q_here_lt {T : Nat → Int32} {e s : Nat} (h : ¬ q_here T e s = -1) : s < e := by
  unfold q_here at h
  by_cases z : s < e
  · exact z
  · rw [if_neg z] at h; exact absurd rfl h
theorem q_must_to {T : Nat → Int32} {e : Nat} {c : Int32} {p : q_P} (hc : c ≠ -1) (h : p.2 ≤ e) : q_to e p (q_must T e c p) := by
  unfold q_must
  split
  · exact q_to.rf h
  · split
    · next z => exact ⟨Nat.le_succ _, q_here_lt (by rw [z]; exact hc)⟩
    · exact ⟨Nat.le_refl _, h⟩
theorem nI_neg1 {c : Nat} (h : c < 2 ^ 31) : nI c ≠ -1 := fun z => by
  have h1 := congrArg Int32.toInt z
  rw [nI_toInt h, show (-1 : Int32).toInt = -1 by decide] at h1
  omega
theorem q_word_to {T : Nat → Int32} {e : Nat} : ∀ {l : List Nat} {p : q_P}, (∀ c ∈ l, c < 256) → p.2 ≤ e → q_to e p (q_word T e l p) := by
  intro l
  induction l with
  | nil => exact fun _ h => q_to.rf h
  | cons c l ih =>
    intro p h8 h
    have h1 := q_must_to (T := T) (c := nI c) (nI_neg1 (by have := h8 c List.mem_cons_self; omega)) h
    exact h1.tr (ih (fun d hd => h8 d (List.mem_cons_of_mem _ hd)) h1.2)
theorem q_in_lt {T : Nat → Int32} {e s : Nat} (h : ¬ in_ (q_here T e s) 48 57 = 0) : s < e := q_here_lt (fun z => h (by rw [z]; rfl))
theorem q_dig_to {T : Nat → Int32} {e : Nat} : ∀ (m : Nat) (v : Int32) (k : Nat) (p : q_P), p.2 ≤ e → q_to e p (q_dig T e m v k p).2.2 := by
  intro m
  induction m with
  | zero => exact fun _ _ _ h => q_to.rf h
  | succ m ih =>
    intro v k p h
    simp only [q_dig]
    split
    · exact q_to.rf h
    · split
      · exact q_to.rf h
      · next z =>
        have h1 : q_to e p (false, p.2 + 1) := ⟨Nat.le_succ _, q_in_lt z⟩
        exact h1.tr (ih _ _ _ h1.2)
theorem q_num_to {T : Nat → Int32} {e m : Nat} {p : q_P} (h : p.2 ≤ e) : q_to e p (q_num T e m p).2 := q_dig_to m 0 0 p h
theorem q_nm_to {T : Nat → Int32} {e o j m : Nat} {x : q_S} (h : x.2.2 ≤ e) : q_to e x.2 (q_nm T e o j m x).2 := q_num_to h
theorem q_wd_to {T : Nat → Int32} {e : Nat} {l : List Nat} {x : q_S} (h8 : ∀ c ∈ l, c < 256) (h : x.2.2 ≤ e) : q_to e x.2 (q_wd T e l x).2 := q_word_to h8 h
theorem q_tail_to {T : Nat → Int32} {e o : Nat} {kind : Int32} {many : Nat} {x : q_S} (h : x.2.2 ≤ e) : q_to e x.2 (q_tail T e o kind many x).2 := by
  unfold q_tail
  have h1 : q_to e x.2 (q_must T e 45 x.2) := q_must_to (by decide) h
  split
  · show q_to e x.2 (ite _ _ _ : q_S).2
    split
    · exact h1
    · exact h1.tr (q_nm_to (x := (x.1, q_must T e 45 x.2)) h1.2)
  · split
    · exact q_to.rf h
    · exact q_nm_to h
theorem q_ord_to {T : Nat → Int32} {e o : Nat} {kind : Int32} {w th : List Nat} {many : Nat} {x : q_S} (hw : ∀ c ∈ w, c < 256) (ht : ∀ c ∈ th, c < 256) (h : x.2.2 ≤ e) : q_to e x.2 (q_ord T e o kind w th many x).2 := by
  have h1 : q_to e x.2 (q_wd T e w (q_kind o kind x)).2 := q_wd_to (x := q_kind o kind x) hw h
  have h2 := h1.tr (q_nm_to (T := T) (o := o) (j := 1) (m := 1) h1.2)
  have h3 := h2.tr (q_wd_to (T := T) (l := th) ht h2.2)
  exact h3.tr (q_tail_to h3.2)
theorem q_days_to {T : Nat → Int32} {e o : Nat} {w : List Nat} {x : q_S} (hw : ∀ c ∈ w, c < 256) (h : x.2.2 ≤ e) : q_to e x.2 (q_days T e o w x).2 := by
  have h1 : q_to e x.2 (q_wd T e w (q_kind o 5 x)).2 := q_wd_to (x := q_kind o 5 x) hw h
  exact h1.tr (q_nm_to h1.2)
theorem q_d_to {T : Nat → Int32} {e : Nat} {x : q_S} (h : x.2.2 ≤ e) : q_to e x.2 (q_d T e x).2 := q_must_to (by decide) h
theorem q_one_to {T : Nat → Int32} {e o : Nat} {x : q_S} (h : x.2.2 ≤ e) : q_to e x.2 (q_one T e o x).2 := by
  unfold q_one
  have h1 := q_d_to (T := T) h
  split
  · split
    · exact h1.tr (q_ord_to (by decide) (by decide) h1.2)
    · exact h1.tr (q_days_to (by decide) h1.2)
  · split
    · exact q_ord_to (by decide) (by decide) h
    · split
      · exact q_ord_to (by decide) (by decide) h
      · split
        · exact q_ord_to (by decide) (by decide) h
        · split
          · exact q_ord_to (by decide) (by decide) h
          · exact ⟨Nat.le_refl _, h⟩
