/-! the component's world: arrays, calls -/
set_option maxRecDepth 100000
abbrev eI (Y : bi_Y) (N : Nat) (f : Nat → Int32) : va_E := .inl (Y.2.1.1 60, N, .inl f)
abbrev eB (Y : bi_Y) (N : Nat) (f : Nat → Int32) : va_E := .inl (Y.2.1.1 61, N, .inl f)
abbrev eQ (Y : bi_Y) (N : Nat) (f : Nat → Option Nat) : va_E := .inl (Y.2.1.1 62, N, .inr (.inr (.inr (.inr f))))
abbrev eL (Y : bi_Y) (N : Nat) (f : Nat → Int64) : va_E := .inl (Y.2.1.1 63, N, .inr (.inl f))
abbrev eD (Y : bi_Y) (N : Nat) (f : Nat → UInt64) : va_E := .inl (Y.2.1.1 64, N, .inr (.inr (.inr (.inl f))))
section BCA
variable {Y : bi_Y} {X : bi_X} {cc : ByteArray} {ret : Option FieldType} {own : String} {fr lo mc ms : Nat} {hh : List ExceptionTableEntry} {M : va_M} {k n pc : Nat} {L : List (Option Value)} {rest st : List Value} {a : Nat}
theorem bi_E.castT (hE : bi_E Y X cc ret own fr lo mc ms hh) {C T : String} (hw : Cond.castable C T ∈ lw_tbl) : va_Nw (.castable C T) (bi_s X) := va_Nw.warmC hE.GI.1 (va_Nw.of rfl (hE.GS.1 _ hw))
theorem bc_iald (hE : bi_E Y X cc ret own fr lo mc ms hh) {N j : Nat} {i : Int32} {f : Nat → Int32} (hm : M a = some (eI Y N f)) (hi : i = nI j) (hj : j < N) (hN : N < 2 ^ 31) (d : decode cc pc = .ok (.iaload, 1))
    (kk : bi_V Y.1 X (bc_W Y (bi_A X) M) k n (pc + 1) L (.int (f j) :: rest)) : bi_V Y.1 X (bc_W Y (bi_A X) M) k n pc L (.int i :: .ref a :: rest) := fun H locs ls h1 h2 h3 => by
  obtain ⟨ws, hP, hD, hcov, -⟩ := bc_open h1
  obtain ⟨p, hp⟩ := hcov _ _ hm
  have hc : i.toNatClampNeg = j := by rw [hi]; exact nI_clamp (by omega)
  refine va_iald hE.x hE.b hE.K hP p 0 hp rfl (by rw [hi]; exact vp_in_nI hj hN) d ?_
  rw [hc]
  exact kk H locs ls h1 h2 h3
theorem bc_bald (hE : bi_E Y X cc ret own fr lo mc ms hh) {N j : Nat} {i : Int32} {f : Nat → Int32} (hm : M a = some (eB Y N f)) (hi : i = nI j) (hj : j < N) (hN : N < 2 ^ 31) (d : decode cc pc = .ok (.baload, 1))
    (kk : bi_V Y.1 X (bc_W Y (bi_A X) M) k n (pc + 1) L (.int (f j) :: rest)) : bi_V Y.1 X (bc_W Y (bi_A X) M) k n pc L (.int i :: .ref a :: rest) := fun H locs ls h1 h2 h3 => by
  obtain ⟨ws, hP, hD, hcov, -⟩ := bc_open h1
  obtain ⟨p, hp⟩ := hcov _ _ hm
  have hc : i.toNatClampNeg = j := by rw [hi]; exact nI_clamp (by omega)
  refine va_bald hE.x hE.b hE.K hP p 1 hp rfl (by rw [hi]; exact vp_in_nI hj hN) d ?_
  rw [hc]
  exact kk H locs ls h1 h2 h3
theorem bc_aald (hE : bi_E Y X cc ret own fr lo mc ms hh) {N j : Nat} {i : Int32} {f : Nat → Option Nat} {v : Value} (hm : M a = some (eQ Y N f)) (hi : i = nI j) (hj : j < N) (hN : N < 2 ^ 31) (hv : va_rf (f j) = v) (d : decode cc pc = .ok (.aaload, 1))
    (kk : bi_V Y.1 X (bc_W Y (bi_A X) M) k n (pc + 1) L (v :: rest)) : bi_V Y.1 X (bc_W Y (bi_A X) M) k n pc L (.int i :: .ref a :: rest) := fun H locs ls h1 h2 h3 => by
  obtain ⟨ws, hP, hD, hcov, -⟩ := bc_open h1
  obtain ⟨p, hp⟩ := hcov _ _ hm
  have hc : i.toNatClampNeg = j := by rw [hi]; exact nI_clamp (by omega)
  refine va_aldq hE.x hE.b hE.K hP p 2 hp rfl (by rw [hi]; exact vp_in_nI hj hN) d ?_
  rw [hc, hv]
  exact kk H locs ls h1 h2 h3
theorem bc_iast (hE : bi_E Y X cc ret own fr lo mc ms hh) {N j : Nat} {i x : Int32} {f : Nat → Int32} (hm : M a = some (eI Y N f)) (hi : i = nI j) (hj : j < N) (hN : N < 2 ^ 31) (d : decode cc pc = .ok (.iastore, 1)) (hk : k ≤ mc ∧ n ≤ ms)
    (kk : bi_V Y.1 X (bc_W Y (bi_A X) (bu M a (eI Y N (upd f j x)))) k n (pc + 1) L rest) : bi_V Y.1 X (bc_W Y (bi_A X) M) k n pc L (.int x :: .int i :: .ref a :: rest) := by
  refine vr_mon hE hk (fun R' s' H0 h1 hE' back => ?_)
  intro H locs ls g0 h2 h3
  subst g0
  obtain ⟨ws, hP, hD, hcov, -⟩ := bc_open h1
  obtain ⟨p, hp⟩ := hcov _ _ hm
  have hc : i.toNatClampNeg = j := by rw [hi]; exact nI_clamp (by omega)
  refine va_iast hE'.x hE'.b hE'.K hP hD h2 p 0 hp rfl (by rw [hi]; exact vp_in_nI hj hN) d (fun H1 locs1 g1 _ g3 => ?_)
  rw [hc] at g1
  exact back (bc_W0 Y (bi_A X) _) 0 0 _ _ _ (vr_P (fun H9 h9 => ⟨h9.1.1, h9.1.2, h1.2.2.setA h9.2⟩) kk) H1 locs1 ls (bc_set (H := H) hE' hD hcov hp g1 g3) g3 h3
theorem bc_bast (hE : bi_E Y X cc ret own fr lo mc ms hh) {N j : Nat} {i x : Int32} {f : Nat → Int32} (hm : M a = some (eB Y N f)) (hi : i = nI j) (hj : j < N) (hN : N < 2 ^ 31) (d : decode cc pc = .ok (.bastore, 1)) (hk : k ≤ mc ∧ n ≤ ms)
    (kk : bi_V Y.1 X (bc_W Y (bi_A X) (bu M a (eB Y N (upd f j (vp_nar .byte x))))) k n (pc + 1) L rest) : bi_V Y.1 X (bc_W Y (bi_A X) M) k n pc L (.int x :: .int i :: .ref a :: rest) := by
  refine vr_mon hE hk (fun R' s' H0 h1 hE' back => ?_)
  intro H locs ls g0 h2 h3
  subst g0
  obtain ⟨ws, hP, hD, hcov, -⟩ := bc_open h1
  obtain ⟨p, hp⟩ := hcov _ _ hm
  have hc : i.toNatClampNeg = j := by rw [hi]; exact nI_clamp (by omega)
  refine va_bast hE'.x hE'.b hE'.K hP hD h2 p 1 hp rfl (by rw [hi]; exact vp_in_nI hj hN) d (fun H1 locs1 g1 _ g3 => ?_)
  rw [hc] at g1
  exact back (bc_W0 Y (bi_A X) _) 0 0 _ _ _ (vr_P (fun H9 h9 => ⟨h9.1.1, h9.1.2, h1.2.2.setA h9.2⟩) kk) H1 locs1 ls (bc_set (H := H) hE' hD hcov hp g1 g3) g3 h3
/-- an object stored into an Object[] -/
theorem bc_aast (hE : bi_E Y X cc ret own fr lo mc ms hh) {N j v ci Nc : Nat} {i : Int32} {f : Nat → Option Nat} {C : String} {T : u_T} {ty : Nat → FieldType} {vs : List Value} (hC : bc_C ci C T Nc ty) (hv : M v = some (.inr (ci, vs))) (hca : Cond.castable C "java/lang/Object" ∈ lw_tbl) (hm : M a = some (eQ Y N f)) (hi : i = nI j) (hj : j < N) (hN : N < 2 ^ 31) (d : decode cc pc = .ok (.aastore, 1)) (hk : k ≤ mc ∧ n ≤ ms)
    (kk : bi_V Y.1 X (bc_W Y (bi_A X) (bu M a (eQ Y N (va_up f j (some v))))) k n (pc + 1) L rest) : bi_V Y.1 X (bc_W Y (bi_A X) M) k n pc L (.ref v :: .int i :: .ref a :: rest) := by
  refine vr_mon hE hk (fun R' s' H0 h1 hE' back => ?_)
  intro H locs ls g0 h2 h3
  subst g0
  obtain ⟨ws, hP, hD, hcov, -⟩ := bc_open h1
  obtain ⟨p, hp⟩ := hcov _ _ hm
  obtain ⟨pv, hpv⟩ := hcov _ _ hv
  have hc : i.toNatClampNeg = j := by rw [hi]; exact nI_clamp (by omega)
  refine va_astqO hE'.x hE'.b hE'.K hP hD h2 p 2 pv ci hp rfl (hE'.castT hca) hpv hC.1 (by rw [hi]; exact vp_in_nI hj hN) d (fun H1 locs1 g1 _ g3 => ?_)
  rw [hc] at g1
  exact back (bc_W0 Y (bi_A X) _) 0 0 _ _ _ (vr_P (fun H9 h9 => ⟨h9.1.1, h9.1.2, h1.2.2.setA h9.2⟩) kk) H1 locs1 ls (bc_set (H := H) hE' hD hcov hp g1 g3) g3 h3
theorem bc_alen (hE : bi_E Y X cc ret own fr lo mc ms hh) {N t0 : Nat} {cA : ClassId} {ty : FieldType} {x : (Nat → Int32) ⊕ (Nat → Int64) ⊕ (Nat → UInt32) ⊕ (Nat → UInt64) ⊕ (Nat → Option Nat)} (ht : (bi_tys Y.2.1)[t0]? = some (cA, ty)) (hm : M a = some (.inl (cA, N, x))) (d : decode cc pc = .ok (.arraylength, 1))
    (kk : bi_V Y.1 X (bc_W Y (bi_A X) M) k n (pc + 1) L (.int (nI N) :: rest)) : bi_V Y.1 X (bc_W Y (bi_A X) M) k n pc L (.ref a :: rest) := fun H locs ls h1 h2 h3 => by
  obtain ⟨ws, hP, hD, hcov, -⟩ := bc_open h1
  obtain ⟨p, hp⟩ := hcov _ _ hm
  exact va_alen (v := nI N) hE.x hE.b hE.K hP p t0 hp ht rfl d (kk H locs ls h1 h2 h3)
theorem bc_newaG (hE : bi_E Y X cc ret own fr lo mc ms hh) {atype : ArrayType} {ty : FieldType} {N t0 : Nat} {i : Int32} {cD : ClassId} {x : (Nat → Int32) ⊕ (Nat → Int64) ⊕ (Nat → UInt32) ⊕ (Nat → UInt64) ⊕ (Nat → Option Nat)} (ht : (bi_tys Y.2.1)[t0]? = some (cD, ty)) (hq : ∀ (s : State) (c1 c2 : ClassId), va_RA s c1 ty → va_RA s c2 ty → c1 = c2) (q1 : Cond.arrayClass (newarray.typeOf atype) ∈ lw_all) (hty : newarray.typeOf atype = ty) (ha : ∀ cA : ClassId, vp_cell cA (N, x) = arrV cA N (fun _ => defaultValue ty)) (hi : i = nI N) (hb : N * componentBytes ty ≤ 536870912) (hN : N < 2 ^ 31) (hroom : k + 1 ≤ mc ∧ n + N ≤ ms) (d : decode cc pc = .ok (.newarray atype, 2))
    (kk : ∀ q : Nat, M q = none → bi_V Y.1 X (bc_W Y (bi_A X) (bu M q (.inl (cD, N, x)))) (k + 1) (n + N) (pc + 2) L (.ref q :: rest)) : bi_V Y.1 X (bc_W Y (bi_A X) M) k n pc L (.int i :: rest) := by
  refine vr_mon hE ⟨by omega, by omega⟩ (fun R' s' H0 h1 hE' back => ?_)
  intro H locs ls g0 h2 h3
  subst g0
  obtain ⟨ws, hP, hD, hcov, -⟩ := bc_open h1
  have hrm := hE'.rm
  refine va_newa hE'.x hE'.b (hE'.ts _ q1) hty hE'.K hP hD h2 hE'.nw (n := i) (N' := N) (a0 := (N, x)) ha (by rw [hi]; exact fun z => by rw [Int32.lt_iff_toInt_lt, nI_toInt hN] at z; simp at z; omega) (by rw [hi]; exact nI_clamp hN) hb (by rw [hrm]; show 0 + 1 ≤ mc - k; omega) (by rw [hrm]; show 0 + N ≤ ms - n; omega) d (fun q cA H1 gK g1 g2 g3 => ?_)
  have hcA : cA = cD := hq _ _ _ (gK.2 5 (cA, ty) rfl).2 (hE'.K.2 t0 _ ht).2
  subst hcA
  obtain ⟨e1, e2⟩ := bc_born (H := H) hE' hcov g1 g2 g3
  rw [Nat.zero_add N]
  exact back (bc_W0 Y (bi_A X) _) 1 N _ _ _ (vr_P (fun H9 h9 => ⟨h9.1.1, h9.1.2, h1.2.2.setA h9.2⟩) (kk q e1)) H1 locs ls e2 g3 h3
theorem ra_int (s : State) (c1 c2 : ClassId) (h1 : va_RA s c1 .int) (h2 : va_RA s c2 .int) : c1 = c2 := Option.some.inj ((show s.vm.findClass _ = some c1 from h1).symm.trans h2)
theorem ra_byte (s : State) (c1 c2 : ClassId) (h1 : va_RA s c1 .byte) (h2 : va_RA s c2 .byte) : c1 = c2 := Option.some.inj ((show s.vm.findClass _ = some c1 from h1).symm.trans h2)
theorem ra_long (s : State) (c1 c2 : ClassId) (h1 : va_RA s c1 .long) (h2 : va_RA s c2 .long) : c1 = c2 := Option.some.inj ((show s.vm.findClass _ = some c1 from h1).symm.trans h2)
theorem ra_double (s : State) (c1 c2 : ClassId) (h1 : va_RA s c1 .double) (h2 : va_RA s c2 .double) : c1 = c2 := Option.some.inj ((show s.vm.findClass _ = some c1 from h1).symm.trans h2)
theorem bc_newi (hE : bi_E Y X cc ret own fr lo mc ms hh) {N : Nat} {i : Int32} (q1 : Cond.arrayClass .int ∈ lw_all) (hi : i = nI N) (hN : N ≤ 100000) (hroom : k + 1 ≤ mc ∧ n + N ≤ ms) (d : decode cc pc = .ok (.newarray .int, 2))
    (kk : ∀ q : Nat, M q = none → bi_V Y.1 X (bc_W Y (bi_A X) (bu M q (eI Y N (fun _ => 0)))) (k + 1) (n + N) (pc + 2) L (.ref q :: rest)) : bi_V Y.1 X (bc_W Y (bi_A X) M) k n pc L (.int i :: rest) :=
  bc_newaG (atype := .int) hE (t0 := 0) rfl ra_int q1 rfl (fun cA => rfl) hi (by show N * 4 ≤ _; omega) (by omega) hroom d kk
theorem bc_newb (hE : bi_E Y X cc ret own fr lo mc ms hh) {N : Nat} {i : Int32} (q1 : Cond.arrayClass .byte ∈ lw_all) (hi : i = nI N) (hN : N ≤ 100000) (hroom : k + 1 ≤ mc ∧ n + N ≤ ms) (d : decode cc pc = .ok (.newarray .byte, 2))
    (kk : ∀ q : Nat, M q = none → bi_V Y.1 X (bc_W Y (bi_A X) (bu M q (eB Y N (fun _ => 0)))) (k + 1) (n + N) (pc + 2) L (.ref q :: rest)) : bi_V Y.1 X (bc_W Y (bi_A X) M) k n pc L (.int i :: rest) :=
  bc_newaG (atype := .byte) hE (t0 := 1) rfl ra_byte q1 rfl (fun cA => rfl) hi (by show N * 1 ≤ _; omega) (by omega) hroom d kk
theorem bc_newq (hE : bi_E Y X cc ret own fr lo mc ms hh) {N idx : Nat} {i : Int32} (q1 : Cond.classLink own idx "java/lang/Object" ∈ lw_all) (q2 : Cond.arrayOver (.object "java/lang/Object") ∈ lw_tbl) (hi : i = nI N) (hN : N ≤ 100000) (hroom : k + 1 ≤ mc ∧ n + N ≤ ms) (d : decode cc pc = .ok (.anewarray idx, 3))
    (kk : ∀ q : Nat, M q = none → bi_V Y.1 X (bc_W Y (bi_A X) (bu M q (eQ Y N (fun _ => none)))) (k + 1) (n + N) (pc + 3) L (.ref q :: rest)) : bi_V Y.1 X (bc_W Y (bi_A X) M) k n pc L (.int i :: rest) := by
  refine vr_mon hE ⟨by omega, by omega⟩ (fun R' s' H0 h1 hE' back => ?_)
  intro H locs ls g0 h2 h3
  subst g0
  obtain ⟨ws, hP, hD, hcov, -⟩ := bc_open h1
  have hrm := hE'.rm
  refine va_newq hE'.x hE'.b hE'.ow (hE'.ts _ q1) (va_AO.moved hE'.al (va_AO.of (hE'.GS.1 _ q2))) hE'.K hP hD h2 hE'.nw (n := i) (N' := N) (by rw [hi]; exact fun z => by rw [Int32.lt_iff_toInt_lt, nI_toInt (by omega)] at z; simp at z; omega) (by rw [hi]; exact nI_clamp (by omega)) (by omega) (by rw [hrm]; show 0 + 1 ≤ mc - k; omega) (by rw [hrm]; show 0 + N ≤ ms - n; omega) d (fun q cA H1 gK g1 g2 g3 => ?_)
  have hcA : cA = Y.2.1.1 62 := by
    obtain ⟨-, -, -, -, -, z1⟩ := (gK.2 5 (cA, .object "java/lang/Object") rfl).2
    obtain ⟨-, -, -, -, -, z2⟩ := (hE'.K.2 2 _ rfl).2
    exact Option.some.inj (z1.symm.trans z2)
  subst hcA
  obtain ⟨e1, e2⟩ := bc_born (H := H) hE' hcov g1 g2 g3
  rw [Nat.zero_add N]
  exact back (bc_W0 Y (bi_A X) _) 1 N _ _ _ (vr_P (fun H9 h9 => ⟨h9.1.1, h9.1.2, h1.2.2.setA h9.2⟩) (kk q e1)) H1 locs ls e2 g3 h3
end BCA
section BCC
variable {Y : bi_Y} {X : bi_X} {cc : ByteArray} {ret : Option FieldType} {own : String} {fr lo mc ms : Nat} {hh : List ExceptionTableEntry} {M : va_M} {k n pc : Nat} {L : List (Option Value)} {rest st : List Value} {a : Nat} {P : Heap → Prop}
variable {y : MethodName} {cy : ByteArray} {ny : Nat} {ry : Option FieldType} {f1 l1 c1 s1 : Nat} {As : List Value} {post : Option Value → va_M → Prop} {px : Nat → String → va_M → Prop} {idx : Nat} {C : String}
theorem vx_P {P' : Heap → Prop} {q : Nat} {E : String} (h : ∀ H, P H → P' H) (kk : bi_VX Y.1 X P' k n pc L q E) : bi_VX Y.1 X P k n pc L q E := fun H locs ls rest ce h1 h2 h3 h4 h5 h6 => kk H locs ls rest ce (h H h1) h2 h3 h4 h5 h6
theorem bc_callV (hE : bi_E Y X cc ret own fr lo mc ms hh) (hM : bc_Met Y y (ws_ y cy ny ry) f1 l1 c1 s1 M (.ref a :: As) post px) {ar ci N : Nat} {T : u_T} {ty : Nat → FieldType} {fs : List Value} (hC : bc_C ci C T N ty) (hm : M a = some (.inr (ci, fs))) (hok : bi_ok y C ar) (hw : GoodIn lw_all (wsV own idx C y (ws_ y cy ny ry)))
    (hs : st = As.reverse ++ .ref a :: rest) (har : As.length = ar) (hc : (rest.map fun v => v.category).sum ≤ 8) (hroom : f1 + 1 ≤ fr ∧ 8 + (ny + 11) + l1 ≤ lo ∧ k + c1 ≤ mc ∧ n + s1 ≤ ms) (d : decode cc pc = .ok (.invokevirtual idx, 3))
    (kx : ∀ (q : Nat) (E : String) (M' : va_M), px q E M' → bi_VX Y.1 X (bc_W Y (bi_A X) M') (k + c1) (n + s1) pc L q E)
    (kk : ∀ (v : Option Value) (M' : va_M), post v M' → bi_V Y.1 X (bc_W Y (bi_A X) M') (k + c1) (n + s1) (pc + 3) L (v.toList ++ rest)) : bi_V Y.1 X (bc_W Y (bi_A X) M) k n pc L st :=
  vr_callV (P1 := bc_W Y (bi_A X) M) (P2 := fun _ => True) (F := bc_F Y (bi_A X)) hE (hM (bi_A X)) hok hw (fun _ h => ⟨h, trivial⟩) (bi_st_T _) (bc_recv hE hC hm) (fun _ h => h.1) hs har hc hroom d (fun v u h => vr_P (fun _ z => z.1) (kk v u h)) (fun q E u h => vx_P (fun _ z => z.1) (kx q E u h))
theorem bc_callS (hE : bi_E Y X cc ret own fr lo mc ms hh) (hM : bc_Met Y y (ws_ y cy ny ry) f1 l1 c1 s1 M As post px) {ar : Nat} (hok : bi_ok y C ar) (hw : GoodIn lw_all (va_wsS own idx y (ws_ y cy ny ry)))
    (hs : st = As.reverse ++ rest) (har : As.length = ar) (hc : (rest.map fun v => v.category).sum ≤ 8) (hroom : f1 + 1 ≤ fr ∧ 8 + (ny + 11) + l1 ≤ lo ∧ k + c1 ≤ mc ∧ n + s1 ≤ ms) (d : decode cc pc = .ok (.invokestatic idx, 3))
    (kx : ∀ (q : Nat) (E : String) (M' : va_M), px q E M' → bi_VX Y.1 X (bc_W Y (bi_A X) M') (k + c1) (n + s1) pc L q E)
    (kk : ∀ (v : Option Value) (M' : va_M), post v M' → bi_V Y.1 X (bc_W Y (bi_A X) M') (k + c1) (n + s1) (pc + 3) L (v.toList ++ rest)) : bi_V Y.1 X (bc_W Y (bi_A X) M) k n pc L st :=
  vr_callS (P1 := bc_W Y (bi_A X) M) (P2 := fun _ => True) (F := bc_F Y (bi_A X)) hE (hM (bi_A X)) hok hw (fun _ h => ⟨h, trivial⟩) (bi_st_T _) (fun _ h => h.1) hs har hc hroom d (fun v u h => vr_P (fun _ z => z.1) (kk v u h)) (fun q E u h => vx_P (fun _ z => z.1) (kx q E u h))
theorem bc_callI (hE : bi_E Y X cc ret own fr lo mc ms hh) (hM : bc_Met Y y (ws_ y cy ny none) f1 l1 c1 s1 M (.ref a :: As) post px) {ar : Nat} (hok : bi_ok y C ar) (hy1 : y.name = "<init>") (q1 : Cond.methodLink own idx y ∈ lw_all) (q2 : Cond.instanceMethod y ∈ lw_all) (q3 : Cond.initialized y.cls ∈ lw_all) (q4 : Cond.code y cy ny none ∈ lw_all)
    (hs : st = As.reverse ++ .ref a :: rest) (har : As.length = ar) (hc : (rest.map fun v => v.category).sum ≤ 8) (hroom : f1 + 1 ≤ fr ∧ 8 + (ny + 11) + l1 ≤ lo ∧ k + c1 ≤ mc ∧ n + s1 ≤ ms) (d : decode cc pc = .ok (.invokespecial idx, 3))
    (kx : ∀ (q : Nat) (E : String) (M' : va_M), px q E M' → bi_VX Y.1 X (bc_W Y (bi_A X) M') (k + c1) (n + s1) pc L q E)
    (kk : ∀ (v : Option Value) (M' : va_M), post v M' → bi_V Y.1 X (bc_W Y (bi_A X) M') (k + c1) (n + s1) (pc + 3) L (v.toList ++ rest)) : bi_V Y.1 X (bc_W Y (bi_A X) M) k n pc L st :=
  vr_callI (P1 := bc_W Y (bi_A X) M) (P2 := fun _ => True) (F := bc_F Y (bi_A X)) hE (hM (bi_A X)) hok hy1 q1 q2 q3 q4 (fun _ h => ⟨h, trivial⟩) (bi_st_T _) (fun _ h => h.1) hs har hc hroom d (fun v u h => vr_P (fun _ z => z.1) (kk v u h)) (fun q E u h => vx_P (fun _ z => z.1) (kx q E u h))
/-! methods that read alone, over any world -/
theorem ro_callV (hE : bi_E Y X cc ret own fr lo mc ms hh) {post : Option Value → Unit → Prop} (hM : bi_Met Y y (ws_ y cy ny ry) f1 l1 0 0 P (fun _ => False) (.ref a :: As) post bi_nx (fun _ => P)) {ar ci N : Nat} {T : u_T} (hC : bi_CL[ci]? = some (C, T, N)) (hm : ∀ H, bi_B Y H → P H → bi_cls Y ci a H) (hok : bi_ok y C ar) (hw : GoodIn lw_all (wsV own idx C y (ws_ y cy ny ry)))
    (hs : st = As.reverse ++ .ref a :: rest) (har : As.length = ar) (hc : (rest.map fun v => v.category).sum ≤ 8) (hroom : f1 + 1 ≤ fr ∧ 8 + (ny + 11) + l1 ≤ lo ∧ k ≤ mc ∧ n ≤ ms) (d : decode cc pc = .ok (.invokevirtual idx, 3))
    (kk : ∀ v : Option Value, post v () → bi_V Y.1 X P k n (pc + 3) L (v.toList ++ rest)) : bi_V Y.1 X P k n pc L st := by
  have h := vr_callV (P := fun H => bi_B Y H ∧ P H) (P1 := P) (P2 := fun _ => True) (L := L) (k := k) (n := n) (F := fun _ => False) hE hM hok hw (fun _ h => ⟨h.2, trivial⟩) (bi_st_T _) (fun H h => bi_recv hE hC hm h.1 h.2) (fun _ h => h.elim) hs har hc hroom d (fun v u h => vr_P (fun _ z => z.1) (kk v h)) (fun _ _ _ h => h.elim)
  exact fun H locs ls h1 h2 h3 => h H locs ls ⟨hE.B h2, h1⟩ h2 h3
theorem ro_callS (hE : bi_E Y X cc ret own fr lo mc ms hh) {post : Option Value → Unit → Prop} (hM : bi_Met Y y (ws_ y cy ny ry) f1 l1 0 0 P (fun _ => False) As post bi_nx (fun _ => P)) {ar : Nat} (hok : bi_ok y C ar) (hw : GoodIn lw_all (va_wsS own idx y (ws_ y cy ny ry)))
    (hs : st = As.reverse ++ rest) (har : As.length = ar) (hc : (rest.map fun v => v.category).sum ≤ 8) (hroom : f1 + 1 ≤ fr ∧ 8 + (ny + 11) + l1 ≤ lo ∧ k ≤ mc ∧ n ≤ ms) (d : decode cc pc = .ok (.invokestatic idx, 3))
    (kk : ∀ v : Option Value, post v () → bi_V Y.1 X P k n (pc + 3) L (v.toList ++ rest)) : bi_V Y.1 X P k n pc L st :=
  vr_callS (P1 := P) (P2 := fun _ => True) (F := fun _ => False) hE hM hok hw (fun _ h => ⟨h, trivial⟩) (bi_st_T _) (fun _ h => h.elim) hs har hc hroom d (fun v u h => vr_P (fun _ z => z.1) (kk v h)) (fun _ _ _ h => h.elim)
end BCC
