/-! a deed tried -/
set_option maxRecDepth 100000
theorem c_Rf.off {M : va_M} {a ci : Nat} {fs : List Value} {e : va_E} (ha : M a = some (.inr (ci, fs))) (hc : ci ≠ 5) : ∀ {L : List (Int32 × Int32)} {q : Nat}, c_Rf M L q → c_Rf (bu M a e) L q := by
  intro L
  induction L with
  | nil => exact fun h => h
  | cons x t ih =>
    intro q h
    have hne : ∀ {y : List Value}, M q = some (.inr (5, y)) → q ≠ a := fun z w => by
      subst w
      cases z.symm.trans ha
      exact hc rfl
    cases t with
    | nil =>
      obtain ⟨u, w, h1, h2, h3⟩ := h
      exact ⟨u, w, h1, h2, (bu_ne (hne h3)).trans h3⟩
    | cons y t =>
      obtain ⟨u, w, q', h1, h2, h3, h4, h5⟩ := h
      exact ⟨u, w, q', h1, h2, h3, (bu_ne (hne h4)).trans h4, ih h5⟩
/-- behind a deed that was done: the round that came of it, the list of past ones, the object itself -/
def XDone (Y : bi_Y) (M : va_M) (x r : Nat) (sv lt ln : Value) (pl bf : Nat) (er : Int32) (k : Nat) (nd it : Nat → Nat) (o : c_P) (v : Option Value) (M' : va_M) : Prop :=
  ∃ n' w' s' a R' nd' it', o = .inr (n', w', s', a) ∧ v = some (.int a) ∧ RoundM Y M' R' n' w' s' ∧ LLM M' pl (m_kept k) nd' it' ∧ (∀ i, i + 1 < m_kept k → it' i = it (if k = 8 then i + 1 else i)) ∧ it' (m_kept k - 1) = r ∧ M' x = some (.inr (0, xL R'.r sv pl bf er lt ln)) ∧ ∀ q e, M q = some e → q ≠ x → ¬ flp pl k nd q → M' q = some e
/-- .. that was refused -/
def XRef (M : va_M) (x r : Nat) (sv ln : Value) (pl bf : Nat) (er : Int32) (o : c_P) (M' : va_M) : Prop :=
  ∃ L q, o = .inl L ∧ c_Rf M' L q ∧ M' x = some (.inr (0, xL r sv pl bf er (.ref q) ln)) ∧ ∀ y e, M y = some e → y ≠ x → M' y = some e
theorem ok_X1_tried : bi_ok yX1_tried RX1 1 := by decide +kernel
theorem bk_X1_tried {Y : bi_Y} (G : bi_GS Y) (M : va_M) (x : Nat) (R : cR) (n w : Nat) (s : Nat → Int32) (hR : RoundM Y M R n w s) (sv lt ln : Value) (pl bf : Nat) (er : Int32) (h_x : M x = some (.inr (0, xL R.r sv pl bf er lt ln))) (k : Nat) (nd it : Nat → Nat) (hL : LLM M pl k nd it) (hk8 : k ≤ 8) (dd ci : Nat) {C : String} {N : Nat} {T : u_T} {ty : Nat → FieldType} {fs : List Value} (hC : bc_C ci C T N ty) (h_dd : M dd = some (.inr (ci, fs))) {y : MethodName} {cy : ByteArray} {ny f1 l1 c1 s1 : Nat} (hny : ny ≤ 4 ∧ f1 ≤ 44 ∧ l1 ≤ 1100) (hw : GoodIn lw_all (va_wsU RX1 77 C "BrassInspector$Deed" ({ cls := "BrassInspector$Deed", name := "does", desc := "(LBrassInspector$Round;)I" } : Jvm.MethodName) y (ws_ y cy ny (some .int)))) (o : c_P) (hdo : ∀ M1 R1, (∀ q e, M q = some e → M1 q = some e) → (∀ q, fpr R1 n w q → M q = none) → RoundM Y M1 R1 n w s → bc_Met Y y (ws_ y cy ny (some .int)) f1 l1 c1 s1 M1 [.ref dd, .ref R1.r] (c_DP Y M1 R1 n w o) (c_DX M1 R1 n w o)) : bc_Met Y yX1_tried (wsW_ yX1_tried cX1_tried 4 (some .int) [(8, 20, 21, 1)]) 50 1200 (c1 + 40) (s1 + 400) M [.ref x, .ref dd] (fun v M' => XDone Y M x R.r sv lt ln pl bf er k nd it o v M') (fun q E M' => E = "BrassInspector$Refusal" ∧ ∃ L, o = .inl L ∧ c_Rf M' L q ∧ M' x = some (.inr (0, xL R.r sv pl bf er (.ref q) ln)) ∧ ∀ y e, M y = some e → y ≠ x → M' y = some e) := by
  refine bc_Met.ofH (own := RX1) (L0 := [some (.ref x), some (.ref dd), none, none]) rfl (by decide) G (Nat.le_of_ble_eq_true rfl) rfl (fun X A hE hQ hW hnl => ?_)
  have hnl : ∀ q, q < 4 → q < bi_nL X := fun q h => by rw [hnl]; exact h
  refine vr_aload_n hE dX1_tried_0 rfl ?_
  refine bc_get (z := 0) hE kc_X1 (by decide) q256 (Or.inl rfl) h_x rfl dX1_tried_1 ?_
  refine bc_callV hE (bk_X2_copy G _ R n w s hR) kc_X2 hR.hr ok_X2_copy (lw_V q464 q465 q466 q72 q467) rfl rfl (Nat.le_of_ble_eq_true rfl) ⟨by decide, by decide, by omega, by omega⟩ dX1_tried_4 (fun _ _ _ h => h.elim) ?_
  rintro v_4 M_4 ⟨R1, rfl, hR1, hx1, hf1⟩
  refine vr_astore_n hE dX1_tried_7 (hnl _ (by decide)) rfl ?_
  have hcat : ∀ (q9 : Nat) (M9 : va_M) (L9 : List (Int32 × Int32)), o = .inl L9 → c_Rf M9 L9 q9 → (∀ q e, M q = some e → M9 q = some e) → bi_V Y.1 X (bc_W Y (bi_A X) M9) (35 + c1) (297 + s1) 21 [some (.ref x), some (.ref dd), some (.ref R1.r), none] [.ref q9] := by
    intro q9 M9 L9 hsp hc9 hk9
    obtain ⟨c8, u8, w8, r8, d8, h9f⟩ := hc9.fact
    refine vr_astore_n hE dX1_tried_21 (hnl _ (by decide)) rfl ?_
    refine vr_aload_n hE dX1_tried_22 rfl ?_
    refine vr_aload_n hE dX1_tried_23 rfl ?_
    refine bc_put (z := 5) hE kc_X1 (by decide) q262 (Or.inl rfl) rfl (hk9 _ _ h_x) rfl rfl (Nat.le_of_ble_eq_true rfl) dX1_tried_24 ⟨by omega, by omega⟩ ?_
    refine bc_nm (fun M_24 e_24 => ?_)
    have hq9_24 := (congrFun e_24 q9).trans ((bu_ne (bc_dist h9f (hk9 _ _ h_x) (bc_ci (by decide)))).trans h9f)
    have hx_24 := (congrFun e_24 x).trans (bu_self _ _ _)
    refine vr_aload_n hE dX1_tried_27 rfl ?_
    refine bc_athrow hE kc_X8 hq9_24 dX1_tried_28 ?_
    refine vr_out hE hQ (by decide) ⟨by omega, by omega⟩ ⟨_, ?_, fun H h => hW _ H h⟩
    refine ⟨rfl, L9, hsp, ?_, hx_24, fun y8 e8 z8 hn8 => (congrFun e_24 y8).trans ((bu_ne hn8).trans (hk9 _ _ z8))⟩
    rw [e_24]
    exact hc9.off (hk9 _ _ h_x) (by decide)
  refine vr_aload_n hE dX1_tried_8 rfl ?_
  refine vr_aload_n hE dX1_tried_9 rfl ?_
  refine bc_callU (ar := 1) hE (hdo _ R1 hx1 hf1 hR1) hC (hx1 _ _ h_dd) q1211 ⟨by decide, by decide, by decide +kernel⟩ hw rfl rfl (Nat.le_of_ble_eq_true rfl) ⟨by omega, by omega, by omega, by omega⟩ dX1_tried_10 (fun q9 E9 M9 h9 => by
      obtain ⟨L9, ho9, rfl, hc9, hk9⟩ := h9
      exact vr_catch1 (nm := "BrassInspector$Refusal") hE _ [] rfl (by decide) (by decide) q459 q1233 (hcat q9 M9 L9 ho9 hc9 (fun q e z => hk9 q e (hx1 q e z) (fun f => by have z9 := hf1 q f; rw [z] at z9; cases z9)))) ?_
  rintro v_10 M_10 ⟨n9, w9, s9, a9, R9, ho9, rfl, hr9, hR9, hk9, hf9⟩
  have hK : ∀ q e, M q = some e → M_10 q = some e := fun q e z => hk9 q e (hx1 q e z) (fun f => by have z9 := hf1 q f; rw [z] at z9; cases z9)
  refine vr_istore_n hE dX1_tried_13 (hnl _ (by decide)) rfl ?_
  refine vr_aload_n hE dX1_tried_14 rfl ?_
  refine vr_aload_n hE dX1_tried_15 rfl ?_
  refine bc_callV hE (bk_X1_become G _ x R.r R1.r pl bf sv lt ln er (hK _ _ h_x) k nd it (hL.ext hK) hk8) kc_X1 (hK _ _ h_x) ok_X1_become (lw_V q1643 q1645 qs15 q71 q1646) rfl rfl (Nat.le_of_ble_eq_true rfl) ⟨by decide, by decide, by omega, by omega⟩ dX1_tried_16 (fun _ _ _ h => h.elim) ?_
  rintro v_16 M_16 ⟨rfl, nd9, it9, hL9, hi9, hj9, hx9, hk16⟩
  refine vr_iload_n hE dX1_tried_19 rfl ?_
  refine vr_ireturn hE hQ rfl dX1_tried_20 ⟨by omega, by omega⟩ ⟨_, ?_, fun H h => hW _ H h⟩
  refine ⟨n9, w9, s9, a9, R9, nd9, it9, ho9, rfl, ?_, hL9, hi9, hj9, by rw [hr9]; exact hx9, fun q e z hq hf => hk16 q e (hK q e z) hq hf⟩
  refine hR9.kpR (fun q e z oz => hk16 q e z (fun w9 => ?_) ((hL.ext hK).nfl z (okc_19 oz)))
  subst w9
  exact okc_0 oz _ (Option.some.inj (z.symm.trans (hK _ _ h_x)))
theorem ok_X1_outside : bi_ok yX1_outside RX1 1 := by decide +kernel
theorem bk_X1_outsideR {Y : bi_Y} (G : bi_GS Y) (M : va_M) (x : Nat) (r : Nat) (sv lt ln : Value) (pl bf : Nat) (er : Int32) (h_x : M x = some (.inr (0, xL r sv pl bf er lt ln))) (e : Nat) (c u w : Value) (rr dd : Int32) (h_e : M e = some (.inr (5, xR c u w rr dd))) : bc_Met Y yX1_outside (ws_ yX1_outside cX1_outside 3 (some (.object "java/lang/RuntimeException"))) 6 90 1 6 M [.ref x, .ref e] (fun v M' => ∃ q, v = some (.ref q) ∧ M q = none ∧ M' = bu M q (.inr (25, []))) bi_nx := by
  refine bc_Met.of (own := RX1) (L0 := [some (.ref x), some (.ref e), none]) rfl (by decide) G (Nat.le_of_ble_eq_true rfl) rfl (fun X A hE hQ hW hnl hnm => ?_)
  have hnl : ∀ q, q < 3 → q < bi_nL X := fun q h => by rw [hnl]; exact h
  refine vr_aload_n hE dX1_outside_0 rfl ?_
  refine vr_instNo hE kc_X8.1 (bc_cls kc_X8 h_e) q1666 ⟨[true, false, true, false, false, true, true, false, true, true, false], rfl⟩ dX1_outside_1 ?_
  refine vr_if_eq (tgt := 28) hE dX1_outside_4 (by decide) (fun c_4 => ?_) (fun c_4 => ?_)
  · skip
    refine bc_make0 (ci := 25) hE rfl (by decide) at_J29_106 fit_J29 q1671 q113 dX1_outside_28 dX1_outside_31 dX1_outside_32 ⟨by decide, by decide, by first | decide | omega, by first | decide | omega⟩ (fun q hn_q => ?_)
    refine bc_nm (fun M_28 e_28 => ?_)
    have nx_q := bc_new_ne h_x hn_q
    have ne_q := bc_new_ne h_e hn_q
    have hz_q : M q = none := hn_q
    have hx_28 := (congrFun e_28 x).trans ((bu_ne nx_q).trans h_x)
    have he_28 := (congrFun e_28 e).trans ((bu_ne ne_q).trans h_e)
    have hq_28 := (congrFun e_28 q).trans (bu_self _ _ _)
    refine vr_areturn hE hQ (Or.inl ⟨_, rfl⟩) (Or.inr ⟨_, rfl⟩) dX1_outside_35 (by decide) ⟨_, ?_, fun H h => hW _ H h⟩
    subst e_28
    exact ⟨q, rfl, hn_q, rfl⟩
  · exact absurd rfl c_4
theorem bk_X1_outsideT {Y : bi_Y} (G : bi_GS Y) (M : va_M) (x : Nat) (r : Nat) (sv lt ln : Value) (pl bf : Nat) (er : Int32) (h_x : M x = some (.inr (0, xL r sv pl bf er lt ln))) (e : Nat) (u w : Value) (p : Int32) (h_e : M e = some (.inr (17, xT u w p))) : bc_Met Y yX1_outside (ws_ yX1_outside cX1_outside 3 (some (.object "java/lang/RuntimeException"))) 6 90 1 6 M [.ref x, .ref e] (fun v M' => ∃ q, v = some (.ref q) ∧ q ≠ x ∧ M q = none ∧ M' = bu (bu M x (.inr (0, xL r sv pl bf p lt ln))) q (.inr (24, []))) bi_nx := by
  refine bc_Met.of (own := RX1) (L0 := [some (.ref x), some (.ref e), none]) rfl (by decide) G (Nat.le_of_ble_eq_true rfl) rfl (fun X A hE hQ hW hnl hnm => ?_)
  have hnl : ∀ q, q < 3 → q < bi_nL X := fun q h => by rw [hnl]; exact h
  refine vr_aload_n hE dX1_outside_0 rfl ?_
  refine vr_instS hE kc_X18.1 (bc_cls kc_X18 h_e) q1666 dX1_outside_1 ?_
  refine vr_if_eq (tgt := 28) hE dX1_outside_4 (by decide) (fun c_4 => ?_) (fun c_4 => ?_)
  · exact absurd c_4 (by decide)
  skip
  refine vr_aload_n hE dX1_outside_7 rfl ?_
  refine vr_castS hE kc_X18.1 (bc_cls kc_X18 h_e) q1666 dX1_outside_8 ?_
  refine vr_astore_n hE dX1_outside_11 (hnl _ (by decide)) rfl ?_
  refine vr_aload_n hE dX1_outside_12 rfl ?_
  refine vr_aload_n hE dX1_outside_13 rfl ?_
  refine bc_callV hE (bk_X18_position G _ e u w p h_e) kc_X18 h_e ok_X18_position (lw_V q1667 q1668 q1669 q121 q1670) rfl rfl (Nat.le_of_ble_eq_true rfl) (by decide) dX1_outside_14 (fun _ _ _ h => h.elim) ?_
  rintro v_14 M_14 ⟨rfl, hu_14⟩
  obtain rfl := hu_14.symm
  refine bc_put (z := 4) hE kc_X1 (by decide) q261 (Or.inl rfl) rfl h_x rfl rfl (Nat.le_of_ble_eq_true rfl) dX1_outside_17 (by first | decide | omega) ?_
  refine bc_nm (fun M_17 e_17 => ?_)
  have he_17 := (congrFun e_17 e).trans ((bu_ne (bc_dist h_e h_x (bc_ci (by decide)))).trans h_e)
  have hx_17 := (congrFun e_17 x).trans (bu_self _ _ _)
  refine bc_make0 (ci := 24) hE rfl (by decide) at_J14_51 fit_J14 q421 q88 dX1_outside_20 dX1_outside_23 dX1_outside_24 ⟨by decide, by decide, by first | decide | omega, by first | decide | omega⟩ (fun q hn_q => ?_)
  refine bc_nm (fun M_20 e_20 => ?_)
  have ne_q := bc_new_ne he_17 hn_q
  have nx_q := bc_new_ne hx_17 hn_q
  have hz_q : M q = none := (bu_none ((congrFun e_17 _).symm.trans hn_q))
  have he_20 := (congrFun e_20 e).trans ((bu_ne ne_q).trans he_17)
  have hx_20 := (congrFun e_20 x).trans ((bu_ne nx_q).trans hx_17)
  have hq_20 := (congrFun e_20 q).trans (bu_self _ _ _)
  refine vr_areturn hE hQ (Or.inl ⟨_, rfl⟩) (Or.inr ⟨_, rfl⟩) dX1_outside_27 (by decide) ⟨_, ?_, fun H h => hW _ H h⟩
  subst e_20
  subst e_17
  exact ⟨q, rfl, Ne.symm nx_q, hz_q, rfl⟩
theorem ok_X1_changed : bi_ok yX1_changed RX1 1 := by decide +kernel
theorem bk_X1_changed {Y : bi_Y} (G : bi_GS Y) (M : va_M) (x : Nat) (R : cR) (n w : Nat) (s : Nat → Int32) (hR : RoundM Y M R n w s) (sv lt ln : Value) (pl bf : Nat) (er : Int32) (h_x : M x = some (.inr (0, xL R.r sv pl bf er lt ln))) (k : Nat) (nd it : Nat → Nat) (hL : LLM M pl k nd it) (hk8 : k ≤ 8) (dd ci : Nat) {C : String} {N : Nat} {T : u_T} {ty : Nat → FieldType} {fs : List Value} (hC : bc_C ci C T N ty) (h_dd : M dd = some (.inr (ci, fs))) {y : MethodName} {cy : ByteArray} {ny f1 l1 c1 s1 : Nat} (hny : ny ≤ 4 ∧ f1 ≤ 44 ∧ l1 ≤ 1100) (hw : GoodIn lw_all (va_wsU RX1 77 C "BrassInspector$Deed" ({ cls := "BrassInspector$Deed", name := "does", desc := "(LBrassInspector$Round;)I" } : Jvm.MethodName) y (ws_ y cy ny (some .int)))) (o : c_P) (hdo : ∀ M1 R1, (∀ q e, M q = some e → M1 q = some e) → (∀ q, fpr R1 n w q → M q = none) → RoundM Y M1 R1 n w s → bc_Met Y y (ws_ y cy ny (some .int)) f1 l1 c1 s1 M1 [.ref dd, .ref R1.r] (c_DP Y M1 R1 n w o) (c_DX M1 R1 n w o)) : bc_Met Y yX1_changed (wsW_ yX1_changed cX1_changed 3 (some .int) [(0, 5, 6, 1)]) 52 1300 (c1 + 50) (s1 + 500) M [.ref x, .ref dd] (fun v M' => XDone Y M x R.r sv lt ln pl bf er k nd it o v M') (fun q E M' => E = "java/lang/UnsupportedOperationException" ∧ XRef M x R.r sv ln pl bf er o M') := by
  refine bc_Met.ofH (own := RX1) (L0 := [some (.ref x), some (.ref dd), none]) rfl (by decide) G (Nat.le_of_ble_eq_true rfl) rfl (fun X A hE hQ hW hnl => ?_)
  have hnl : ∀ q, q < 3 → q < bi_nL X := fun q h => by rw [hnl]; exact h
  have hcat : ∀ (q9 : Nat) (M9 : va_M) (L9 : List (Int32 × Int32)), o = .inl L9 → c_Rf M9 L9 q9 → M9 x = some (.inr (0, xL R.r sv pl bf er (.ref q9) ln)) → (∀ y e, M y = some e → y ≠ x → M9 y = some e) → bi_V Y.1 X (bc_W Y (bi_A X) M9) (c1 + 40) (s1 + 400) 6 [some (.ref x), some (.ref dd), none] [.ref q9] := by
    intro q9 M9 L9 hsp hc9 hx9 hk9
    obtain ⟨c8, u8, w8, r8, d8, h9f⟩ := hc9.fact
    refine vr_astore_n hE dX1_changed_6 (hnl _ (by decide)) rfl ?_
    refine vr_aload_n hE dX1_changed_7 rfl ?_
    refine vr_aload_n hE dX1_changed_8 rfl ?_
    refine bc_callV hE (bk_X1_outsideR G _ x R.r sv (.ref q9) ln pl bf er hx9 q9 c8 u8 w8 r8 d8 h9f) kc_X1 hx9 ok_X1_outside (lw_V q1662 q1664 qs17 q71 q1665) rfl rfl (Nat.le_of_ble_eq_true rfl) ⟨by decide, by decide, by omega, by omega⟩ dX1_changed_9 (fun _ _ _ h => h.elim) ?_
    rintro v_9 M_9 ⟨q2, rfl, hq2, e_9⟩
    have hq2f := (congrFun e_9 q2).trans (bu_self _ _ _)
    refine bc_athrow0 (ci := 25) hE rfl hq2f dX1_changed_12 ?_
    refine vr_out hE hQ (by decide) ⟨by omega, by omega⟩ ⟨_, ?_, fun H h => hW _ H h⟩
    have hx8 : ∀ y e, M9 y = some e → M_9 y = some e := fun y e z => (congrFun e_9 y).trans ((bu_ne (bc_new_ne z hq2)).trans z)
    exact ⟨rfl, L9, q9, hsp, c_Rf.ext hx8 hc9, hx8 _ _ hx9, fun y e z hy => hx8 _ _ (hk9 y e z hy)⟩
  refine vr_aload_n hE dX1_changed_0 rfl ?_
  refine vr_aload_n hE dX1_changed_1 rfl ?_
  refine bc_callVW hE (bk_X1_tried G _ x R n w s hR sv lt ln pl bf er h_x k nd it hL hk8 dd ci hC h_dd hny hw o hdo) kc_X1 h_x ok_X1_tried (lw_VW q460 q462 qs2 q71 q463) rfl rfl (Nat.le_of_ble_eq_true rfl) ⟨by decide, by decide, by omega, by omega⟩ dX1_changed_2 (fun q9 E9 M9 h9 => by
      obtain ⟨rfl, L9, ho9, hc9, hx9, hk9⟩ := h9
      exact vr_catch1 (nm := "BrassInspector$Refusal") hE _ [] rfl (by decide) (by decide) q459 q1233 (vr_kn (by omega) (by omega) (hcat q9 M9 L9 ho9 hc9 hx9 hk9))) ?_
  rintro v_2 M_2 h_2
  obtain ⟨n9, w9, s9, a9, R9, nd9, it9, h1, rfl, h3⟩ := h_2
  refine vr_ireturn hE hQ rfl dX1_changed_5 ⟨by omega, by omega⟩ ⟨_, ?_, fun H h => hW _ H h⟩
  exact ⟨n9, w9, s9, a9, R9, nd9, it9, h1, rfl, h3⟩
