/-! System.arraycopy of numbers, in the component's world -/
set_option maxRecDepth 100000
theorem bc_copy {Y : bi_Y} {X : bi_X} {cc : ByteArray} {ret : Option FieldType} {own : String} {fr lo mc ms : Nat} {hh : List ExceptionTableEntry} {M : va_M} {k n pc : Nat} {L : List (Option Value)} {rest : List Value} {a0 a : Nat} (hE : bi_E Y X cc ret own fr lo mc ms hh) {n0 n1 sp dp m idx t0 : Nat} {cA : ClassId} {ty : FieldType} {f g : Nat → Int32} {isp idp im : Int32} (ht : (bi_tys Y.2.1)[t0]? = some (cA, ty)) (hprim : refKind ty = false) (hm0 : M a0 = some (.inl (cA, n0, .inl f))) (hm1 : M a = some (.inl (cA, n1, .inl g))) (e1 : isp = nI sp) (e2 : idp = nI dp) (e3 : im = nI m)
    (h4 : sp + m ≤ n0) (h5 : dp + m ≤ n1) (hb0 : n0 < 2 ^ 31) (hb1 : n1 < 2 ^ 31) (hfit : ∀ i, i < m → fits ty (.int (f (sp + i))) = true) (q1 : Cond.methodLink own idx arraycopyName ∈ lw_all) (q2 : Cond.native arraycopyName ∈ lw_all) (q3 : Cond.static arraycopyName ∈ lw_all) (q4 : Cond.initialized "java/lang/System" ∈ lw_all) (hr : 1 ≤ fr ∧ (rest.map fun v => v.category).sum + (nativeFrameWords "java/lang/System" "arraycopy" 5 + 11) ≤ lo) (d : decode cc pc = .ok (.invokestatic idx, 3)) (hk : k ≤ mc ∧ n ≤ ms)
    (kk : bi_V Y.1 X (bc_W Y (bi_A X) (bu M a (.inl (cA, n1, .inl (va_cpy f g sp dp m))))) k n (pc + 3) L rest) : bi_V Y.1 X (bc_W Y (bi_A X) M) k n pc L (.int im :: .int idp :: .ref a :: .int isp :: .ref a0 :: rest) := by
  refine vr_mon hE hk (fun R' s' H0 h1 hE' back => ?_)
  intro H locs ls g0 h2 h3
  subst g0
  obtain ⟨ws, hP, hD, hcov, -⟩ := bc_open h1
  obtain ⟨p0, hp0⟩ := hcov _ _ hm0
  obtain ⟨p1, hp1⟩ := hcov _ _ hm1
  have c1 : isp.toNatClampNeg = sp := by rw [e1]; exact nI_clamp (by omega)
  have c2 : idp.toNatClampNeg = dp := by rw [e2]; exact nI_clamp (by omega)
  have c3 : im.toNatClampNeg = m := by rw [e3]; exact nI_clamp (by omega)
  refine va_copyi hE'.x hE'.b (hE'.ml.trans h3.1.symm) hE'.ow (hE'.ts _ q1) (hE'.ts _ q2) (hE'.ts _ q3) (hE'.ts _ q4) hE'.K hP hD h2 p0 p1 t0 t0 hp0 hp1 ht ht hprim (by rw [e1]; exact nI_pos (by omega)) (by rw [e2]; exact nI_pos (by omega)) (by rw [e3]; exact nI_pos (by omega)) (by rw [c1, c3]; exact h4) (by rw [c2, c3]; exact h5) (by rw [c1, c3]; exact hfit) (by rw [hE'.rm]; exact hr.1) (by rw [hE'.rm]; exact hr.2) d (fun H1 locs1 g1 _ g3 => ?_)
  rw [c1, c2, c3] at g1
  exact back (bc_W0 Y (bi_A X) _) 0 0 _ _ _ (vr_P (fun H9 h9 => ⟨h9.1.1, h9.1.2, h1.2.2.setA h9.2⟩) kk) H1 locs1 ls (bc_set (H := H) hE' hD hcov hp1 g1 g3) g3 h3
