/-! orders, one by one and all -/
set_option maxRecDepth 100000
abbrev c_Od : Type := Nat × Nat × Int32
/-- an order's object: its word's kind, its numbers -/
def OrdM (Y : bi_Y) (M : va_M) (o : Nat) (d : c_Od) : Prop := ∃ wa, M o = some (.inr (14, [.ref wa, .int (nI d.2.1), .int d.2.2])) ∧ wd_ Y d.1 wa ∧ d.1 < 6 ∧ d.2.1 < 2 ^ 31 ∧ (d.1 = 0 → ∃ b, b < 2 ^ 31 ∧ d.2.2 = nI b)
abbrev c_or1 (s : Nat → Int32) (n w : Nat) (d : c_Od) : c_O := c_ord s n w d.1 d.2.1 d.2.2
def c_run (s : Nat → Int32) (n w : Nat) (D : Nat → c_Od) : Nat → List (Int32 × Int32) ⊕ (Nat → Int32)
  | 0 => .inr s
  | i + 1 => match c_run s n w D i with
    | .inl e => .inl e
    | .inr s1 => match c_or1 s1 n w (D i) with
      | .inl e => .inl ((11, nI i) :: e)
      | .inr (s2, _) => .inr s2
theorem c_run.go {s s1 s2 : Nat → Int32} {x : Int32} {n w i : Nat} {D : Nat → c_Od} (h : c_run s n w D i = .inr s1) (h2 : c_or1 s1 n w (D i) = .inr (s2, x)) : c_run s n w D (i + 1) = .inr s2 := by
  simp only [c_run, h, h2]
theorem c_run.no {s s1 : Nat → Int32} {n w i : Nat} {D : Nat → c_Od} {e : List (Int32 × Int32)} (h : c_run s n w D i = .inr s1) (h2 : c_or1 s1 n w (D i) = .inl e) : ∀ c, c_run s n w D (i + 1 + c) = .inl ((11, nI i) :: e) := by
  intro c
  induction c with
  | zero => simp only [c_run, h, h2, Nat.add_zero]
  | succ c ih => rw [show i + 1 + (c + 1) = (i + 1 + c) + 1 by omega]; simp only [c_run, ih]
def c_all (s : Nat → Int32) (n w : Nat) (D : Nat → c_Od) (k : Nat) : c_P := match c_run s n w D k with
  | .inl e => .inl e
  | .inr s1 => .inr (n, w, s1, nI k)
theorem OrdM.keep {Y : bi_Y} {M M' : va_M} {o : Nat} {d : c_Od} (h : OrdM Y M o d) (k : ∀ e, M o = some e → M' o = some e) : OrdM Y M' o d := by
  obtain ⟨wa, h1, h2⟩ := h
  exact ⟨wa, k _ h1, h2⟩
theorem RoundM.no14 {Y : bi_Y} {M : va_M} {R : cR} {n w : Nat} {s : Nat → Int32} (h : RoundM Y M R n w s) {o : Nat} {d : c_Od} (ho : OrdM Y M o d) : ¬ fpr R n w o := by
  obtain ⟨wa, h1, h2⟩ := ho
  exact fun z => h.other h1 (by decide) o z rfl
theorem c_Rf.cons {M M' : va_M} {L : List (Int32 × Int32)} {q q2 : Nat} {u w : Value} {r d : Int32} (h : c_Rf M L q) (k : ∀ a e, M a = some e → M' a = some e) (hu : rf_ u) (hw : rf_ w) (hne : q ≠ q2) (hq : M' q2 = some (.inr (5, xR (.ref q) u w r d))) : c_Rf M' ((r, d) :: L) q2 := by
  cases L with
  | nil => exact h.elim
  | cons x t => exact ⟨u, w, q, hu, hw, hne, hq, c_Rf.ext k h⟩
theorem c_Rf.fact {M : va_M} {L : List (Int32 × Int32)} {q : Nat} (h : c_Rf M L q) : ∃ c u w r d, M q = some (.inr (5, xR c u w r d)) := by
  cases L with
  | nil => exact h.elim
  | cons x t =>
    cases t with
    | nil => obtain ⟨u, w, h1, h2, h3⟩ := h; exact ⟨_, u, w, _, _, h3⟩
    | cons y t => obtain ⟨u, w, q', h1, h2, h3, h4, h5⟩ := h; exact ⟨_, u, w, _, _, h4⟩
theorem ok_X12_init : bi_ok yX12_init RX12 3 := by decide +kernel
theorem bk_X12_init {Y : bi_Y} (G : bi_GS Y) (M : va_M) (a wa : Nat) (x y : Int32) (h_a : M a = some (.inr (14, [.null, .int 0, .int 0]))) : bc_Met Y yX12_init (ws_ yX12_init cX12_init 4 none) 2 48 0 0 M [.ref a, .ref wa, .int x, .int y] (fun v M' => v = none ∧ M' = bu M a (.inr (14, [.ref wa, .int x, .int y]))) bi_nx := by
  refine bc_Met.of (own := RX12) (L0 := [some (.ref a), some (.ref wa), some (.int x), some (.int y)]) rfl (by decide) G (Nat.le_of_ble_eq_true rfl) rfl (fun X A hE hQ hW hnl hnm => ?_)
  have hnl : ∀ q, q < 4 → q < bi_nL X := fun q h => by rw [hnl]; exact h
  refine vr_aload_n hE dX12_init_0 rfl ?_
  refine bc_callIN hE (bk_X4_init G _ a) ok_X4_init rfl q1734 q442 q89 q443 rfl rfl (Nat.le_of_ble_eq_true rfl) (by decide) dX12_init_1 (fun _ _ _ h => h.elim) ?_
  rintro v_1 M_1 ⟨rfl, hu_1⟩
  obtain rfl := hu_1.symm
  refine vr_aload_n hE dX12_init_4 rfl ?_
  refine vr_aload_n hE dX12_init_5 rfl ?_
  refine bc_putF (z := 0) hE kc_X12 (by decide) q1735 rfl rfl (hnm _ rfl) h_a rfl rfl (Nat.le_of_ble_eq_true rfl) dX12_init_6 (by first | decide | omega) ?_
  refine bc_nm (fun M_6 e_6 => ?_)
  have ha_6 := (congrFun e_6 a).trans (bu_self _ _ _)
  refine vr_aload_n hE dX12_init_9 rfl ?_
  refine vr_iload_n hE dX12_init_10 rfl ?_
  refine bc_putF (z := 1) hE kc_X12 (by decide) q1736 rfl rfl (hnm _ rfl) ha_6 rfl rfl (Nat.le_of_ble_eq_true rfl) dX12_init_11 (by first | decide | omega) ?_
  refine bc_nm (fun M_11 e_11 => ?_)
  have ha_11 := (congrFun e_11 a).trans (bu_self _ _ _)
  refine vr_aload_n hE dX12_init_14 rfl ?_
  refine vr_iload_n hE dX12_init_15 rfl ?_
  refine bc_putF (z := 2) hE kc_X12 (by decide) q1737 rfl rfl (hnm _ rfl) ha_11 rfl rfl (Nat.le_of_ble_eq_true rfl) dX12_init_16 (by first | decide | omega) ?_
  refine bc_nm (fun M_16 e_16 => ?_)
  have ha_16 := (congrFun e_16 a).trans (bu_self _ _ _)
  refine vr_return hE hQ dX12_init_19 (by decide) ⟨_, ?_, fun H h => hW _ H h⟩
  subst e_16
  subst e_11
  subst e_6
  exact ⟨rfl, by first | rfl | (simp only [bu_bu] <;> rfl)⟩
theorem ok_X12_init_2 : bi_ok yX12_init_2 RX12 2 := by decide +kernel
theorem bk_X12_init_2 {Y : bi_Y} (G : bi_GS Y) (M : va_M) (a wa : Nat) (x : Int32) (h_a : M a = some (.inr (14, [.null, .int 0, .int 0]))) : bc_Met Y yX12_init_2 (ws_ yX12_init_2 cX12_init_2 3 none) 3 71 0 0 M [.ref a, .ref wa, .int x] (fun v M' => v = none ∧ M' = bu M a (.inr (14, [.ref wa, .int x, .int 0]))) bi_nx := by
  refine bc_Met.of (own := RX12) (L0 := [some (.ref a), some (.ref wa), some (.int x)]) rfl (by decide) G (Nat.le_of_ble_eq_true rfl) rfl (fun X A hE hQ hW hnl hnm => ?_)
  have hnl : ∀ q, q < 3 → q < bi_nL X := fun q h => by rw [hnl]; exact h
  refine vr_aload_n hE dX12_init_2_0 rfl ?_
  refine vr_aload_n hE dX12_init_2_1 rfl ?_
  refine vr_iload_n hE dX12_init_2_2 rfl ?_
  refine vr_iconst (v := 0) hE dX12_init_2_3 (by decide) ?_
  refine bc_callI hE (bk_X12_init G _ a wa x 0 h_a) ok_X12_init rfl q1990 q1732 q115 q1733 rfl rfl (Nat.le_of_ble_eq_true rfl) (by decide) dX12_init_2_4 (fun _ _ _ h => h.elim) ?_
  rintro v_4 M_4 ⟨rfl, e_4⟩
  have ha_4 := (congrFun e_4 a).trans (bu_self _ _ _)
  refine vr_return hE hQ dX12_init_2_7 (by decide) ⟨_, ?_, fun H h => hW _ H h⟩
  subst e_4
  exact ⟨rfl, rfl⟩
theorem bk_X12_does {Y : bi_Y} (G : bi_GS Y) (M : va_M) (R : cR) (n w : Nat) (s : Nat → Int32) (hR : RoundM Y M R n w s) (o : Nat) (d : c_Od) (hO : OrdM Y M o d) (hEr : c_er s n) (hft : c_ft s n) : bc_Met Y yX12_does (ws_ yX12_does cX12_does 4 (some .int)) 40 1000 1000 2600 M [.ref o, .ref R.r] (fun v M' => ∃ s' x, c_or1 s n w d = .inr (s', x) ∧ v = some (.int x) ∧ RoundM Y M' R n w s' ∧ cKeep M M' R n w) (c_PX M (c_or1 s n w d)) := by
  obtain ⟨kd, a, oth⟩ := d
  obtain ⟨wa, h1, h2, h3, h4, h5⟩ := hO
  dsimp only at h1 h2 h3 h4 h5
  have hk : kd = 0 ∨ kd = 1 ∨ kd = 2 ∨ kd = 3 ∨ kd = 4 ∨ kd = 5 := by omega
  rcases hk with rfl | rfl | rfl | rfl | rfl | rfl
  · obtain ⟨b, hb, hob⟩ := h5 rfl
    exact bk_X12_does0 G M R n w s hR o wa a oth h1 h2 h4 b hb hob hft
  · exact bk_X12_does1 G M R n w s hR o wa a oth h1 h2 h4
  · exact bk_X12_does2 G M R n w s hR o wa a oth h1 h2 h4
  · exact bk_X12_does3 G M R n w s hR o wa a oth h1 h2 h4
  · exact bk_X12_does4 G M R n w s hR o wa a oth h1 h2 h4
  · exact bk_X12_does5 G M R n w s hR o wa a oth h1 h2 h4 hEr
theorem ok_X1_carryOutAll : bi_ok yX1_carryOutAll RX1 2 := by decide +kernel
theorem bk_X1_carryOutAll {Y : bi_Y} (G : bi_GS Y) (M : va_M) (R : cR) (n w : Nat) (s : Nat → Int32) (hR : RoundM Y M R n w s) (lo te kk : Nat) (od : Nat → Nat) (D : Nat → c_Od) (hkk : kk ≤ 10) (h_lo : M lo = some (.inr (18, alL (nI kk) te kk))) (h_te : lsM Y M te kk od) (hod : ∀ j, j < kk → OrdM Y M (od j) (D j)) (hnl9 : ¬ fpr R n w lo) (hnt9 : 0 < kk → ¬ fpr R n w te) (hI : ∀ i s1, i < kk → c_run s n w D i = .inr s1 → c_er s1 n ∧ c_ft s1 n) : bc_Met Y yX1_carryOutAll (wsW_ yX1_carryOutAll cX1_carryOutAll 7 (some .int) [(29, 36, 39, 1)]) 41 1023 11000 27000 M [.ref R.r, .ref lo] (fun v M' => c_DP Y M R n w (c_all s n w D kk) v M') (c_DX M R n w (c_all s n w D kk)) := by
  refine bc_Met.ofH (own := RX1) (L0 := [some (.ref R.r), some (.ref lo), none, none, none, none, none]) rfl (by decide) G (Nat.le_of_ble_eq_true rfl) rfl (fun X A hE hQ hW hnl => ?_)
  have hnl : ∀ q, q < 7 → q < bi_nL X := fun q h => by rw [hnl]; exact h
  refine vr_iconst (v := 0) hE dX1_carryOutAll_0 (by decide) ?_
  refine vr_istore_n hE dX1_carryOutAll_1 (hnl _ (by decide)) rfl ?_
  refine vr_aload_n hE dX1_carryOutAll_2 rfl ?_
  refine bc_callF (ar := 0) hE (bk_J2_iterator G _ lo te kk _ h_lo) kc_J2 h_lo (by decide +kernel) (lw_Fg q1301 q478 q480 q75 q482) ⟨q476, q475, q481, q479, q477⟩ rfl rfl (Nat.le_of_ble_eq_true rfl) (by decide) dX1_carryOutAll_3 (fun _ _ _ h => h.elim) ?_
  rintro v_3 M_3 ⟨it, rfl, hnit, e_3⟩
  have hx_3 : ∀ q e, M q = some e → M_3 q = some e := fun q e z => (congrFun e_3 q).trans ((bu_ne (bc_new_ne z hnit)).trans z)
  have hit_3 := (congrFun e_3 it).trans (bu_self _ _ _)
  refine vr_astore_n hE dX1_carryOutAll_8 (hnl _ (by decide)) rfl ?_
  have hcat : ∀ (q9 k9 n9 i : Nat) (M9 : va_M) (L9 : List (Int32 × Int32)), k9 ≤ 10001 → n9 ≤ 26004 → c_all s n w D kk = .inl ((11, nI i) :: L9) → c_Rf M9 L9 q9 → cKeep M M9 R n w → bi_V Y.1 X (bc_W Y (bi_A X) M9) k9 n9 39 [some (.ref R.r), some (.ref lo), some (.int (nI i)), some (.ref it), some (.ref (od i)), none, none] [.ref q9] := by
    intro q9 k9 n9 i M9 L9 hk9 hn9 hsp hc9 hkp9
    obtain ⟨c8, u8, w8, r8, d8, h9f⟩ := hc9.fact
    refine vr_astore hE dX1_carryOutAll_39 (hnl _ (by decide)) rfl ?_
    refine bc_newX (fs := [.null, .null, .null, .null, .null, .int 0, .int 0, .int 0]) hE kc_X8 q459 q1232 q109 df_X8 ⟨by omega, by omega⟩ dX1_carryOutAll_41 (fun q2 hn_q2 => ?_)
    refine bc_nm (fun M_41 e_41 => ?_)
    have nq9_q2 := bc_new_ne h9f hn_q2
    have hq9_41 := (congrFun e_41 q9).trans ((bu_ne nq9_q2).trans h9f)
    have hq2_41 := (congrFun e_41 q2).trans (bu_self _ _ _)
    refine vr_dup hE dX1_carryOutAll_44 rfl ?_
    refine vr_bipush (v := 11) hE dX1_carryOutAll_45 (by decide) ?_
    refine vr_iload_n hE dX1_carryOutAll_47 rfl ?_
    refine bc_callI hE (bk_X8_init G _ q2 hq2_41 11 (nI i)) ok_X8_init rfl q1240 q1241 q109 q1242 rfl rfl (Nat.le_of_ble_eq_true rfl) ⟨by decide, by decide, by omega, by omega⟩ dX1_carryOutAll_48 (fun _ _ _ h => h.elim) ?_
    rintro v_48 M_48 ⟨rfl, u, w, hu, hw, e_48⟩
    have hq9_48 := (congrFun e_48 q9).trans ((bu_ne nq9_q2).trans hq9_41)
    have hq2_48 := (congrFun e_48 q2).trans (bu_self _ _ _)
    refine vr_astore hE dX1_carryOutAll_51 (hnl _ (by decide)) rfl ?_
    refine vr_aload hE dX1_carryOutAll_53 rfl ?_
    refine vr_aload hE dX1_carryOutAll_55 rfl ?_
    refine bc_initCause hE hq2_48 rfl (Nat.le_of_ble_eq_true rfl) nq9_q2 ⟨by omega, by omega⟩ ⟨by decide, Nat.le_of_ble_eq_true rfl⟩ (Nat.le_of_ble_eq_true rfl) dX1_carryOutAll_57 ?_
    refine bc_nm (fun M_57 e_57 => ?_)
    have hq9_57 := (congrFun e_57 q9).trans ((bu_ne nq9_q2).trans hq9_48)
    have hq2_57 := (congrFun e_57 q2).trans (bu_self _ _ _)
    refine vr_pop hE dX1_carryOutAll_60 rfl ?_
    refine vr_aload hE dX1_carryOutAll_61 rfl ?_
    refine bc_athrow hE kc_X8 hq2_57 dX1_carryOutAll_63 ?_
    refine vr_out hE hQ (by decide) ⟨by omega, by omega⟩ ⟨_, ?_, fun H h => hW _ H h⟩
    refine ⟨_, hsp, rfl, hc9.cons (fun x9 e9 z9 => ?_) hu hw nq9_q2 hq2_57, fun x9 e9 z9 hf9 => ?_⟩
    · exact (congrFun e_57 x9).trans ((bu_ne (bc_new_ne z9 hn_q2)).trans ((congrFun e_48 x9).trans ((bu_ne (bc_new_ne z9 hn_q2)).trans ((congrFun e_41 x9).trans ((bu_ne (bc_new_ne z9 hn_q2)).trans z9)))))
    · have z8 := hkp9 x9 e9 z9 hf9
      exact (congrFun e_57 x9).trans ((bu_ne (bc_new_ne z8 hn_q2)).trans ((congrFun e_48 x9).trans ((bu_ne (bc_new_ne z8 hn_q2)).trans ((congrFun e_41 x9).trans ((bu_ne (bc_new_ne z8 hn_q2)).trans z8)))))
  have hlp_9 : ∀ (c : Nat) (i : Nat) (lr : Int32) (M1 : va_M) (s1 : Nat → Int32), i + c = kk → M1 it = some (.inr (23, itL (nI i) lr (nI kk) lo)) → RoundM Y M1 R n w s1 → c_run s n w D i = .inr s1 → cKeep M M1 R n w → bi_V Y.1 X (bc_W Y (bi_A X) M1) (1 + 1000 * i) (4 + 2600 * i) 9 [some (.ref R.r), some (.ref lo), some (.int (nI i)), some (.ref it), none, none, none] [] := by
    intro c
    induction c with
    | zero =>
      intro i lr M1 s1 hi hit1 hR1 hrn hk1
      refine vr_aload_n hE dX1_carryOutAll_9 rfl ?_
      refine bc_callF (ar := 0) hE (bk_J15_hasNext G _ it lo te kk i lr _ hit1 (hk1 _ _ h_lo hnl9) (by omega) hkk) kc_J15 hit1 (by decide +kernel) (lw_Fg q1303 q848 q850 q92 q852) ⟨q815, q814, q851, q849, q847⟩ rfl rfl (Nat.le_of_ble_eq_true rfl) ⟨by decide, by decide, by omega, by omega⟩ dX1_carryOutAll_10 (fun _ _ _ h => h.elim) ?_
      rintro v_10 M_10 ⟨rfl, hu_10⟩
      obtain rfl := hu_10.symm
      refine vr_if_eq (tgt := 70) hE dX1_carryOutAll_15 (by decide) (fun c_15 => ?_) (fun c_15 => ?_)
      · have hik : i = kk := by omega
        refine vr_iload_n hE dX1_carryOutAll_70 rfl ?_
        refine vr_ireturn hE hQ rfl dX1_carryOutAll_71 ⟨by omega, by omega⟩ ⟨_, ?_, fun H h => hW _ H h⟩
        refine ⟨n, w, s1, nI i, R, ?_, rfl, rfl, hR1, hk1, fun _ z => Or.inl z⟩
        unfold c_all
        rw [← hik, hrn]
      · exact absurd (if_pos (show i = kk by omega)) c_15
    | succ c ih =>
      intro i lr M1 s1 hi hit1 hR1 hrn hk1
      refine vr_aload_n hE dX1_carryOutAll_9 rfl ?_
      refine bc_callF (ar := 0) hE (bk_J15_hasNext G _ it lo te kk i lr _ hit1 (hk1 _ _ h_lo hnl9) (by omega) hkk) kc_J15 hit1 (by decide +kernel) (lw_Fg q1303 q848 q850 q92 q852) ⟨q815, q814, q851, q849, q847⟩ rfl rfl (Nat.le_of_ble_eq_true rfl) ⟨by decide, by decide, by omega, by omega⟩ dX1_carryOutAll_10 (fun _ _ _ h => h.elim) ?_
      rintro v_10 M_10 ⟨rfl, hu_10⟩
      obtain rfl := hu_10.symm
      refine vr_if_eq (tgt := 70) hE dX1_carryOutAll_15 (by decide) (fun c_15 => ?_) (fun c_15 => ?_)
      · exact absurd c_15 (by rw [if_neg (show ¬ i = kk by omega)]; decide)
      skip
      refine vr_aload_n hE dX1_carryOutAll_18 rfl ?_
      refine bc_callF (ar := 0) hE (bk_J15_next G _ it lo te kk i lr _ hit1 (hk1 _ _ h_lo hnl9) (by omega) hkk (lsf od kk) ((h_te.keep (fun z9 => by
            rcases h_te with h8 | ⟨h8, h7⟩
            · omega
            · exact (hk1 _ _ h7 (hnt9 z9)).trans h7.symm)).resolve_left (fun z9 => by omega)).2 (od i) (lsf_lt (by omega))) kc_J15 hit1 (by decide +kernel) (lw_Fg q1305 q1049 q1051 q92 q1053) ⟨q865, q864, q1052, q1050, q847⟩ rfl rfl (Nat.le_of_ble_eq_true rfl) ⟨by decide, by decide, by omega, by omega⟩ dX1_carryOutAll_19 (fun _ _ _ h => h.elim) ?_
      rintro v_19 M_19 ⟨rfl, e_19⟩
      have hR_19 : RoundM Y M_19 R n w s1 := hR1.oth hit1 (by decide) e_19
      have hk_19 : cKeep M M_19 R n w := hk1.bu (Or.inr hnit) e_19
      have hit_19 := (congrFun e_19 it).trans (bu_self _ _ _)
      have hod9 : OrdM Y M_19 (od i) (D i) := (hod i (by omega)).keep (fun e z => hk_19 _ e z (hR.no14 (hod i (by omega))))
      obtain ⟨wa9, hw1, hw2⟩ := id hod9
      refine vr_castY hE kc_X12.1 (bc_cls kc_X12 hw1) q1306 q2924 dX1_carryOutAll_24 ?_
      refine vr_astore hE dX1_carryOutAll_27 (hnl _ (by decide)) rfl ?_
      refine vr_aload hE dX1_carryOutAll_29 rfl ?_
      refine vr_aload_n hE dX1_carryOutAll_31 rfl ?_
      refine bc_callU (ar := 1) hE (bk_X12_does G _ R n w s1 hR_19 (od i) (D i) hod9 (hI i s1 (by omega) hrn).1 (hI i s1 (by omega) hrn).2) kc_X12 hw1 q1211 ⟨by decide, by decide, by decide +kernel⟩ (lw_U q1210 q1212 q1642 q1307 q115 q1308) rfl rfl (Nat.le_of_ble_eq_true rfl) ⟨by decide, by decide, by omega, by omega⟩ dX1_carryOutAll_32 (fun q9 E9 M9 h9 => by
          obtain ⟨L9, hno9, rfl, h92, h93⟩ := h9
          refine vr_catch1 (nm := "BrassInspector$Refusal") hE _ [] rfl (by decide) (by decide) q459 q1233 (hcat q9 _ _ i M9 L9 (by omega) (by omega) ?_ h92 (hk_19.tr (fun x8 e8 z8 _ => h93 x8 e8 z8)))
          have z9 := c_run.no hrn hno9 (kk - (i + 1))
          rw [show i + 1 + (kk - (i + 1)) = kk by omega] at z9
          unfold c_all
          rw [z9]) ?_
      rintro v_32 M_32 ⟨s2, x9, hy9, rfl, hR9, hk9⟩
      refine vr_pop hE dX1_carryOutAll_35 rfl ?_
      refine vr_goto (tgt := 64) hE dX1_carryOutAll_36 (by decide) ?_
      refine vr_iinc hE dX1_carryOutAll_64 rfl (iinc_1 _) (hnl _ (by decide)) rfl ?_
      refine vr_goto (tgt := 9) hE dX1_carryOutAll_67 (by decide) ?_
      refine vr_drop 4 ?_
      have hit9 := hk9 _ _ hit_19 (fun z9 => hR_19.other hit_19 (by decide) it z9 rfl)
      exact vr_kn (by omega) (by omega) (ih (i + 1) _ M_32 s2 (by omega) hit9 hR9 (c_run.go hrn hy9) (hk_19.tr hk9))
  exact hlp_9 kk 0 _ M_3 s (Nat.zero_add _) hit_3 (hR.ext hx_3) rfl (fun q e z _ => hx_3 q e z)
theorem ok_X19_does : bi_ok yX19_does RX19 1 := by decide +kernel
theorem bk_X19_does {Y : bi_Y} (G : bi_GS Y) (M : va_M) (R : cR) (n w : Nat) (s : Nat → Int32) (hR : RoundM Y M R n w s) (dd x : Nat) (lo te kk : Nat) (od : Nat → Nat) (D : Nat → c_Od) (hkk : kk ≤ 10) (h_lo : M lo = some (.inr (18, alL (nI kk) te kk))) (h_te : lsM Y M te kk od) (hod : ∀ j, j < kk → OrdM Y M (od j) (D j)) (hnl9 : ¬ fpr R n w lo) (hnt9 : 0 < kk → ¬ fpr R n w te) (hI : ∀ i s1, i < kk → c_run s n w D i = .inr s1 → c_er s1 n ∧ c_ft s1 n) (h_d : M dd = some (.inr (13, [.ref lo, .ref x]))) : bc_Met Y yX19_does (ws_ yX19_does cX19_does 2 (some .int)) 42 1049 11000 27000 M [.ref dd, .ref R.r] (fun v M' => c_DP Y M R n w (c_all s n w D kk) v M') (c_DX M R n w (c_all s n w D kk)) := by
  refine bc_Met.of (own := RX19) (L0 := [some (.ref dd), some (.ref R.r)]) rfl (by decide) G (Nat.le_of_ble_eq_true rfl) rfl (fun X A hE hQ hW hnl hnm => ?_)
  have hnl : ∀ q, q < 2 → q < bi_nL X := fun q h => by rw [hnl]; exact h
  refine vr_aload_n hE dX19_does_0 rfl ?_
  refine vr_aload_n hE dX19_does_1 rfl ?_
  refine bc_get (z := 0) hE kc_X19 (by decide) q2266 (Or.inl rfl) h_d rfl dX19_does_2 ?_
  refine bc_callSNW hE (bk_X1_carryOutAll G _ R n w s hR lo te kk od D hkk h_lo h_te hod hnl9 hnt9 hI) ok_X1_carryOutAll q1297 q1298 q71 q1299 rfl rfl (Nat.le_of_ble_eq_true rfl) (by decide) dX19_does_5 (fun q9 E9 M9 h9 => vr_out hE hQ (fun _ z9 => by cases z9) (by first | decide | exact ⟨by omega, by omega⟩) ⟨M9, h9, fun H h => hW _ H h⟩) ?_
  rintro v_5 M_5 h_5
  obtain ⟨n9, w9, s9, x9, R9, h1, rfl, h2⟩ := h_5
  refine vr_ireturn hE hQ rfl dX19_does_8 (by decide) ⟨_, ?_, fun H h => hW _ H h⟩
  exact ⟨n9, w9, s9, x9, R9, h1, rfl, h2⟩
