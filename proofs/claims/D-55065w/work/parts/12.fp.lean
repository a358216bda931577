/-! floats: rows; no quotient here is a NaN -/
set_option maxRecDepth 100000
theorem fp_f : ∀ c, c < 11 → ∀ b, b < 10 → vf_n32 (FP.fdiv (FP.i2f (Int32.ofNat c)) (FP.i2f (Int32.ofNat (b + 1)))) := by
  unfold vf_n32
  decide +kernel
theorem fp_d : ∀ c, c < 1001 → ∀ b, b < 10 → vf_n64 (FP.ddiv (FP.i2d (Int32.ofNat c - 500)) (FP.i2d (Int32.ofNat (b + 1)))) := by
  unfold vf_n64
  decide +kernel
section FPR
variable {Y : bi_Y} {X : bi_X} {cc : ByteArray} {ret : Option FieldType} {own : String} {fr lo mc ms : Nat} {hh : List ExceptionTableEntry} {P : Heap → Prop} {k n pc : Nat} {L : List (Option Value)} {rest st : List Value}
variable {S : Type} {F : Nat → Prop} {post : Option Value → S → Prop} {px : Nat → String → S → Prop} {PU : S → Heap → Prop}
theorem vr_i2d (hE : bi_E Y X cc ret own fr lo mc ms hh) {x : Int32} (d : decode cc pc = .ok (.i2d, 1))
    (kk : bi_V Y.1 X P k n (pc + 1) L (.double (FP.i2d x) :: rest)) : bi_V Y.1 X P k n pc L (.int x :: rest) := fun H locs ls h1 h2 h3 => lv_i2d hE.x hE.b d (kk H locs ls h1 h2 h3)
theorem vr_i2f (hE : bi_E Y X cc ret own fr lo mc ms hh) {x : Int32} (d : decode cc pc = .ok (.i2f, 1))
    (kk : bi_V Y.1 X P k n (pc + 1) L (.float (FP.i2f x) :: rest)) : bi_V Y.1 X P k n pc L (.int x :: rest) := fun H locs ls h1 h2 h3 => lv_i2f hE.x hE.b d (kk H locs ls h1 h2 h3)
theorem vr_ddiv (hE : bi_E Y X cc ret own fr lo mc ms hh) {x y : UInt64} (d : decode cc pc = .ok (.ddiv, 1)) (hne : vf_n64 (FP.ddiv x y))
    (kk : bi_V Y.1 X P k n (pc + 1) L (.double (FP.ddiv x y) :: rest)) : bi_V Y.1 X P k n pc L (.double y :: .double x :: rest) := fun H locs ls h1 h2 h3 => lv_ddiv hE.x hE.b d hne (kk H locs ls h1 h2 h3)
theorem vr_fdiv (hE : bi_E Y X cc ret own fr lo mc ms hh) {x y : UInt32} (d : decode cc pc = .ok (.fdiv, 1)) (hne : vf_n32 (FP.fdiv x y))
    (kk : bi_V Y.1 X P k n (pc + 1) L (.float (FP.fdiv x y) :: rest)) : bi_V Y.1 X P k n pc L (.float y :: .float x :: rest) := fun H locs ls h1 h2 h3 => lv_fdiv hE.x hE.b d hne (kk H locs ls h1 h2 h3)
theorem vr_dreturn (hE : bi_E Y X cc (some .double) own fr lo mc ms hh) (hQ : bi_end X F mc ms post px PU) {x : UInt64} (d : decode cc pc = .ok (.dreturn, 1)) (hk : k ≤ mc ∧ n ≤ ms) (kk : ∃ u, post (some (.double x)) u ∧ ∀ H, P H → PU u H) : bi_V Y.1 X P k n pc L [.double x] := fun H locs ls h1 h2 h3 => by
  obtain ⟨u, hp, hU⟩ := kk
  rw [hQ.2]
  exact vx_ret (W.widen hk.1 hk.2 (W.dret hE.x hE.b hE.r (bi_ends hE hQ hp (hU H h1) h2) h2.2.2 d hE.lk))
theorem vr_freturn (hE : bi_E Y X cc (some .float) own fr lo mc ms hh) (hQ : bi_end X F mc ms post px PU) {x : UInt32} (d : decode cc pc = .ok (.freturn, 1)) (hk : k ≤ mc ∧ n ≤ ms) (kk : ∃ u, post (some (.float x)) u ∧ ∀ H, P H → PU u H) : bi_V Y.1 X P k n pc L [.float x] := fun H locs ls h1 h2 h3 => by
  obtain ⟨u, hp, hU⟩ := kk
  rw [hQ.2]
  exact vx_ret (W.widen hk.1 hk.2 (W.fret hE.x hE.b hE.r (bi_ends hE hQ hp (hU H h1) h2) h2.2.2 d hE.lk))
end FPR
