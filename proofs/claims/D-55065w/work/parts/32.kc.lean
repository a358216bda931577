/-! the classes of the component's world -/
set_option maxRecDepth 100000
theorem inl_QI {c c2 : ClassId} {n n2 : Nat} {f : Nat → Option Nat} {g : Nat → Int32} : (Sum.inl (c, n, .inr (.inr (.inr (.inr f)))) : va_E) ≠ .inl (c2, n2, .inl g) := fun z => by
  have h := (Prod.mk.inj (Prod.mk.inj (Sum.inl.inj z)).2).2
  cases h
theorem bu_none {M : va_M} {a q : Nat} {e : va_E} (h : bu M a e q = none) : M q = none := by
  by_cases z : q = a
  · subst z; rw [bu_self] at h; cases h
  · rwa [bu_ne z] at h
theorem bc_nm {Y : bi_Y} {X : bi_X} {A : Nat → Prop} {M : va_M} {k n pc : Nat} {L : List (Option Value)} {st : List Value} (kk : ∀ M', M' = M → bi_V Y.1 X (bc_W Y A M') k n pc L st) : bi_V Y.1 X (bc_W Y A M) k n pc L st := kk M rfl
theorem kc_X1 : bc_C 0 RX1 TX1 7 tyX1 := ⟨rfl, in_X1, tyX1_ok, nmX1⟩
theorem df_X1 : ∀ j, j < 7 → defaultValue (tyX1 j) = vp_V [.null, .null, .null, .null, .int 0, .null, .null] j := by decide +kernel
theorem kc_X2 : bc_C 1 RX2 TX2 7 tyX2 := ⟨rfl, in_X2, tyX2_ok, nmX2⟩
theorem df_X2 : ∀ j, j < 7 → defaultValue (tyX2 j) = vp_V [.null, .null, .null, .null, .int 0, .int 0, .int 0] j := by decide +kernel
theorem kc_X6 : bc_C 3 RX6 TX6 11 tyX6 := ⟨rfl, in_X6, tyX6_ok, nmX6⟩
theorem df_X6 : ∀ j, j < 11 → defaultValue (tyX6 j) = vp_V [.int 0, .int 0, .int 0, .int 0, .int 0, .int 0, .int 0, .int 0, .int 0, .int 0, .null] j := by decide +kernel
theorem kc_X7 : bc_C 4 RX7 TX7 4 tyX7 := ⟨rfl, in_X7, tyX7_ok, nmX7⟩
theorem df_X7 : ∀ j, j < 4 → defaultValue (tyX7 j) = vp_V [.int 0, .int 0, .int 0, .int 0] j := by decide +kernel
theorem kc_X8 : bc_C 5 RX8 TX8 8 tyX8 := ⟨rfl, in_X8, tyX8_ok, nmX8⟩
theorem df_X8 : ∀ j, j < 8 → defaultValue (tyX8 j) = vp_V [.null, .null, .null, .null, .null, .int 0, .int 0, .int 0] j := by decide +kernel
theorem kc_X9 : bc_C 6 RX9 TX9 2 tyX9 := ⟨rfl, in_X9, tyX9_ok, nmX9⟩
theorem df_X9 : ∀ j, j < 2 → defaultValue (tyX9 j) = vp_V [.int 0, .null] j := by decide +kernel
theorem kc_X10 : bc_C 7 RX10 TX10 2 tyX10 := ⟨rfl, in_X10, tyX10_ok, nmX10⟩
theorem df_X10 : ∀ j, j < 2 → defaultValue (tyX10 j) = vp_V [.int 0, .null] j := by decide +kernel
theorem kc_X5 : bc_C 8 RX5 TX5 3 tyX5 := ⟨rfl, in_X5, tyX5_ok, nmX5⟩
theorem df_X5 : ∀ j, j < 3 → defaultValue (tyX5 j) = vp_V [.int 0, .int 0, .null] j := by decide +kernel
theorem kc_X11 : bc_C 9 RX11 TX11 4 tyX11 := ⟨rfl, in_X11, tyX11_ok, nmX11⟩
theorem df_X11 : ∀ j, j < 4 → defaultValue (tyX11 j) = vp_V [.int 0, .int 0, .int 0, .null] j := by decide +kernel
theorem kc_X13 : bc_C 10 RX13 TX13 3 tyX13 := ⟨rfl, in_X13, tyX13_ok, nmX13⟩
theorem df_X13 : ∀ j, j < 3 → defaultValue (tyX13 j) = vp_V [.int 0, .int 0, .null] j := by decide +kernel
theorem kc_X15 : bc_C 11 RX15 TX15 2 tyX15 := ⟨rfl, in_X15, tyX15_ok, nmX15⟩
theorem df_X15 : ∀ j, j < 2 → defaultValue (tyX15 j) = vp_V [.int 0, .null] j := by decide +kernel
theorem kc_X16 : bc_C 12 RX16 TX16 2 tyX16 := ⟨rfl, in_X16, tyX16_ok, nmX16⟩
theorem df_X16 : ∀ j, j < 2 → defaultValue (tyX16 j) = vp_V [.int 0, .null] j := by decide +kernel
theorem kc_X19 : bc_C 13 RX19 TX19 2 tyX19 := ⟨rfl, in_X19, tyX19_ok, nmX19⟩
theorem df_X19 : ∀ j, j < 2 → defaultValue (tyX19 j) = vp_V [.null, .null] j := by decide +kernel
theorem kc_X12 : bc_C 14 RX12 TX12 3 tyX12 := ⟨rfl, in_X12, tyX12_ok, nmX12⟩
theorem df_X12 : ∀ j, j < 3 → defaultValue (tyX12 j) = vp_V [.null, .int 0, .int 0] j := by decide +kernel
theorem kc_X14 : bc_C 15 RX14 TX14 2 tyX14 := ⟨rfl, in_X14, tyX14_ok, nmX14⟩
theorem df_X14 : ∀ j, j < 2 → defaultValue (tyX14 j) = vp_V [.null, .null] j := by decide +kernel
theorem kc_X17 : bc_C 16 RX17 TX17 2 tyX17 := ⟨rfl, in_X17, tyX17_ok, nmX17⟩
theorem df_X17 : ∀ j, j < 2 → defaultValue (tyX17 j) = vp_V [.int 0, .null] j := by decide +kernel
theorem kc_X18 : bc_C 17 RX18 TX18 7 tyX18 := ⟨rfl, in_X18, tyX18_ok, nmX18⟩
theorem df_X18 : ∀ j, j < 7 → defaultValue (tyX18 j) = vp_V [.null, .null, .null, .null, .null, .int 0, .int 0] j := by decide +kernel
theorem kc_J2 : bc_C 18 RJ2 TJ2 3 tyJ2 := ⟨rfl, in_J2, tyJ2_ok, nmJ2⟩
theorem df_J2 : ∀ j, j < 3 → defaultValue (tyJ2 j) = vp_V [.int 0, .null, .int 0] j := by decide +kernel
theorem kc_J4 : bc_C 19 RJ4 TJ4 4 tyJ4 := ⟨rfl, in_J4, tyJ4_ok, nmJ4⟩
theorem df_J4 : ∀ j, j < 4 → defaultValue (tyJ4 j) = vp_V [.int 0, .int 0, .null, .null] j := by decide +kernel
theorem kc_J27 : bc_C 20 RJ27 TJ27 3 tyJ27 := ⟨rfl, in_J27, tyJ27_ok, nmJ27⟩
theorem df_J27 : ∀ j, j < 3 → defaultValue (tyJ27 j) = vp_V [.null, .null, .null] j := by decide +kernel
theorem kc_J6 : bc_C 21 RJ6 TJ6 4 tyJ6 := ⟨rfl, in_J6, tyJ6_ok, nmJ6⟩
theorem df_J6 : ∀ j, j < 4 → defaultValue (tyJ6 j) = vp_V [.null, .int 0, .int 0, .int 0] j := by decide +kernel
theorem kc_J7 : bc_C 22 RJ7 TJ7 4 tyJ7 := ⟨rfl, in_J7, tyJ7_ok, nmJ7⟩
theorem df_J7 : ∀ j, j < 4 → defaultValue (tyJ7 j) = vp_V [.null, .int 0, .int 0, .int 0] j := by decide +kernel
theorem kc_J15 : bc_C 23 RJ15 TJ15 4 tyJ15 := ⟨rfl, in_J15, tyJ15_ok, nmJ15⟩
theorem df_J15 : ∀ j, j < 4 → defaultValue (tyJ15 j) = vp_V [.int 0, .int 0, .int 0, .null] j := by decide +kernel
