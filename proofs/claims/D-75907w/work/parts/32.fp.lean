/-! bits of ints; floats and doubles -/
def shB (x k : Int) : Int := ((iI x) >>> ((iI k) &&& 31)).toInt
def byB (x : Int) : Int := ((iI x).toInt8.toInt32).toInt
def anB (x y : Int) : Int := (iI x &&& iI y).toInt
theorem byB_in (x : Int) : -128 ≤ byB x ∧ byB x < 128 := by
  unfold byB
  rw [Int8.toInt_toInt32]
  have := Int8.le_toInt (iI x).toInt8
  have := Int8.toInt_lt (iI x).toInt8
  omega
theorem shB_in (x k : Int) : zR (shB x k) := zR_toInt _
theorem anB_255 {x : Int} (h : -128 ≤ x ∧ x < 128) : anB x 255 = if x < 0 then x + 256 else x := by
  have key : ∀ n : Fin 256, anB ((n.val : Int) - 128) 255 = if (n.val : Int) - 128 < 0 then (n.val : Int) - 128 + 256 else (n.val : Int) - 128 := by decide +kernel
  have := key ⟨(x + 128).toNat, by omega⟩
  have e : (((x + 128).toNat : Nat) : Int) - 128 = x := by omega
  dsimp only at this
  rw [e] at this; exact this
/-- a quotient of ints, as a double -/
def ddZ (a b : Int) : UInt64 := FP.ddiv (FP.i2d (iI a)) (FP.i2d (iI b))
def ffZ (a b : Int) : UInt32 := FP.fdiv (FP.i2f (iI a)) (FP.i2f (iI b))
/-- what no NaN is -/
def fpN (d : FP.Core.Datum) : Prop := d ≠ .nan
theorem settle_enc (s : Bool) (c : Nat) (q : Int) : FP.Core.encode FP.Core.b64 (FP.Core.settle FP.Core.b64 s c q) % 2 ^ 63 ≤ 2047 * 2 ^ 52 := by
  have e1 : FP.Core.b64.qmax = 971 := by decide
  have e2 : FP.Core.b64.qmin = -1074 := by decide
  have e3 : FP.Core.b64.tails = 2 ^ 52 := by decide
  have e4 : FP.Core.b64.exps = 2048 := by decide
  have hb : ∀ (c : Nat) (q : Int), c < 2 ^ 53 → FP.Core.encode FP.Core.b64 (FP.Core.bound FP.Core.b64 s c q) % 2 ^ 63 ≤ 2047 * 2 ^ 52 := by
    intro c q hc
    unfold FP.Core.bound
    rw [e1]
    by_cases hq : q ≤ 971
    · rw [if_pos hq]
      unfold FP.Core.encode FP.Core.assemble
      dsimp only
      rw [e2, e3, e4]
      by_cases h : c < 2 ^ 52
      · rw [if_pos h]; cases s <;> simp <;> omega
      · rw [if_neg h]; cases s <;> simp <;> omega
    · rw [if_neg hq]
      unfold FP.Core.encode FP.Core.assemble
      dsimp only
      rw [e3, e4]
      cases s <;> decide
  unfold FP.Core.settle
  rw [show FP.Core.b64.p = 53 from rfl]
  by_cases h : c < 2 ^ 53
  · rw [if_pos h]; exact hb c q h
  · rw [if_neg h]; exact hb _ _ (by rw [e3]; decide)
theorem ratio_enc (s : Bool) (a b : Nat) (q : Int) : FP.Core.encode FP.Core.b64 (FP.Core.roundRatio FP.Core.b64 s a b q) % 2 ^ 63 ≤ 2047 * 2 ^ 52 := by
  unfold FP.Core.roundRatio
  by_cases h : a = 0
  · rw [if_pos h]; cases s <;> decide
  · rw [if_neg h]; exact settle_enc _ _ _
theorem quot_enc {x : FP.Core.Datum} {t : Bool} {d : Nat} {r : Int} (h : fpN x) (hd : d ≠ 0) : FP.Core.encode FP.Core.b64 (FP.Core.quotient FP.Core.b64 x (.fin t d r)) % 2 ^ 63 ≤ 2047 * 2 ^ 52 := by
  cases x with
  | nan => exact absurd rfl h
  | inf s =>
    show FP.Core.encode FP.Core.b64 (.inf (s != t)) % 2 ^ 63 ≤ 2047 * 2 ^ 52
    cases s <;> cases t <;> decide
  | fin s c q =>
    unfold FP.Core.quotient
    dsimp only
    rw [if_neg hd]
    exact ratio_enc _ _ _ _
theorem from_small {n : Nat} (h : n < 2 ^ 53) : fpN (FP.Core.decode FP.Core.b64 (FP.Core.fromInt FP.Core.b64 (n : Int) % 2 ^ 64)) := by
  have e1 : FP.Core.b64.qmax = 971 := by decide
  have e2 : FP.Core.b64.qmin = -1074 := by decide
  have e3 : FP.Core.b64.tails = 2 ^ 52 := by decide
  have e4 : FP.Core.b64.exps = 2048 := by decide
  have e0 : FP.Core.ofInt (n : Int) = .fin false n 0 := by
    unfold FP.Core.ofInt
    rw [show decide ((n : Int) < 0) = false from decide_eq_false (by omega)]; rfl
  by_cases hn : n = 0
  · subst hn; unfold fpN; decide
  have hlt : n.log2 < 53 := (Nat.log2_lt hn).mpr h
  have hle : 2 ^ n.log2 ≤ n := Nat.log2_self_le hn
  have hld : FP.Core.leading n 1 = n.log2 := by
    unfold FP.Core.leading
    dsimp only
    rw [show Nat.log2 1 = 0 by decide]
    rw [if_pos (by rw [show ((n.log2 : Int) - ((0 : Nat) : Int)).toNat = n.log2 by omega, show (-((n.log2 : Int) - ((0 : Nat) : Int))).toNat = 0 by omega]; omega)]
    omega
  have hq : FP.Core.quantum FP.Core.b64 n 1 0 = (n.log2 : Int) - 52 := by
    unfold FP.Core.quantum
    rw [hld, e2, show FP.Core.b64.p = 53 from rfl]
    omega
  have hr : FP.Core.round FP.Core.b64 (.fin false n 0) = .fin false (n * 2 ^ (52 - n.log2)) ((n.log2 : Int) - 52) := by
    show FP.Core.roundRatio FP.Core.b64 false n 1 0 = _
    unfold FP.Core.roundRatio FP.Core.roundAt
    rw [if_neg hn, hq]
    unfold FP.Core.unitsNum FP.Core.unitsDen
    rw [show (0 - ((n.log2 : Int) - 52)).toNat = 52 - n.log2 by omega, show ((n.log2 : Int) - 52 - 0).toNat = 0 by omega]
    have hne : FP.Core.nearest (n * 2 ^ (52 - n.log2)) (1 * 2 ^ 0) = n * 2 ^ (52 - n.log2) := by
      unfold FP.Core.nearest
      rw [show 1 * 2 ^ 0 = 1 from rfl, Nat.mod_one, if_pos (by decide), Nat.div_one]
    rw [hne]
    have hub : n * 2 ^ (52 - n.log2) < 2 ^ 53 := by
      have h1 : n < 2 ^ (n.log2 + 1) := Nat.lt_log2_self
      calc n * 2 ^ (52 - n.log2) < 2 ^ (n.log2 + 1) * 2 ^ (52 - n.log2) := Nat.mul_lt_mul_of_pos_right h1 (Nat.two_pow_pos _)
        _ = 2 ^ 53 := by rw [← Nat.pow_add, show n.log2 + 1 + (52 - n.log2) = 53 by omega]
    unfold FP.Core.settle FP.Core.bound
    rw [show FP.Core.b64.p = 53 from rfl, if_pos hub, e1, if_pos (by omega)]
  have hlb : 2 ^ 52 ≤ n * 2 ^ (52 - n.log2) := by
    calc 2 ^ 52 = 2 ^ n.log2 * 2 ^ (52 - n.log2) := by rw [← Nat.pow_add, show n.log2 + (52 - n.log2) = 52 by omega]
      _ ≤ n * 2 ^ (52 - n.log2) := Nat.mul_le_mul_right _ hle
  have hub : n * 2 ^ (52 - n.log2) < 2 ^ 53 := by
    have h1 : n < 2 ^ (n.log2 + 1) := Nat.lt_log2_self
    calc n * 2 ^ (52 - n.log2) < 2 ^ (n.log2 + 1) * 2 ^ (52 - n.log2) := Nat.mul_lt_mul_of_pos_right h1 (Nat.two_pow_pos _)
      _ = 2 ^ 53 := by rw [← Nat.pow_add, show n.log2 + 1 + (52 - n.log2) = 53 by omega]
  obtain ⟨c, hc⟩ : ∃ c, c = n * 2 ^ (52 - n.log2) := ⟨_, rfl⟩
  rw [← hc] at hr hlb hub
  have hf : FP.Core.fromInt FP.Core.b64 (n : Int) = (n.log2 + 1023) * 2 ^ 52 + (c - 2 ^ 52) := by
    unfold FP.Core.fromInt
    rw [e0, hr]
    unfold FP.Core.encode FP.Core.assemble
    dsimp only
    rw [e2, e3, e4, if_neg (by omega), show ((n.log2 : Int) - 52 - (-1074)).toNat + 1 = n.log2 + 1023 by omega]
    simp
  rw [hf]
  unfold fpN FP.Core.decode FP.Core.fieldE
  rw [e3, e4]
  rw [if_neg (by omega)]
  split <;> simp
def fpF : FP.Core.Datum → Bool
  | .fin _ c _ => c != 0
  | _ => false
theorem from_den : ∀ b : Fin 801, b.val ≠ 0 → fpF (FP.Core.decode FP.Core.b64 (FP.Core.fromInt FP.Core.b64 (b.val : Int) % 2 ^ 64)) = true := by decide +kernel
theorem ddZ_num {a b : Int} (ha : 0 ≤ a ∧ a ≤ 1000000) (hb : 1 ≤ b ∧ b ≤ 800) : vf_n64 (ddZ a b) := by
  unfold vf_n64
  rw [UInt64.le_iff_toNat_le, UInt64.toNat_and]
  rw [show (0x7fffffffffffffff : UInt64).toNat = 2 ^ 63 - 1 by decide, Nat.and_two_pow_sub_one_eq_mod]
  show (UInt64.ofNat (FP.Core.div FP.Core.b64 (FP.i2d (iI a)).toNat (FP.i2d (iI b)).toNat)).toNat % 2 ^ 63 ≤ 2047 * 2 ^ 52
  have hA : (FP.i2d (iI a)).toNat = FP.Core.fromInt FP.Core.b64 (a.toNat : Int) % 2 ^ 64 := by
    show (UInt64.ofNat (FP.Core.fromInt FP.Core.b64 (iI a).toInt)).toNat = _
    rw [iI_toInt ⟨by omega, by omega⟩, Int.toNat_of_nonneg ha.1]; rfl
  have hB : (FP.i2d (iI b)).toNat = FP.Core.fromInt FP.Core.b64 (b.toNat : Int) % 2 ^ 64 := by
    show (UInt64.ofNat (FP.Core.fromInt FP.Core.b64 (iI b).toInt)).toNat = _
    rw [iI_toInt ⟨by omega, by omega⟩, Int.toNat_of_nonneg (by omega)]; rfl
  rw [hA, hB]
  have h1 := from_small (n := a.toNat) (by omega)
  have h2 := from_den ⟨b.toNat, by omega⟩ (by dsimp only; omega)
  dsimp only at h2
  rw [UInt64.toNat_ofNat', Nat.mod_mod_of_dvd _ (by decide)]
  unfold FP.Core.div
  revert h2
  cases FP.Core.decode FP.Core.b64 (FP.Core.fromInt FP.Core.b64 (b.toNat : Int) % 2 ^ 64) with
  | nan => intro h2; cases h2
  | inf s => intro h2; cases h2
  | fin s c q => intro h2; exact quot_enc h1 (bne_iff_ne.mp h2)
theorem ffZ_all : ∀ (a : Fin 21) (b : Fin 21), b.val ≠ 0 → vf_n32 (ffZ a.val b.val) ∧ vf_n64 (FP.f2d (ffZ a.val b.val)) := by unfold vf_n32 vf_n64; decide +kernel
theorem ffZ_num {a b : Int} (ha : 0 ≤ a ∧ a ≤ 20) (hb : 1 ≤ b ∧ b ≤ 20) : vf_n32 (ffZ a b) ∧ vf_n64 (FP.f2d (ffZ a b)) := by
  have := ffZ_all ⟨a.toNat, by omega⟩ ⟨b.toNat, by omega⟩ (by dsimp only; omega)
  dsimp only at this
  rw [Int.toNat_of_nonneg ha.1, Int.toNat_of_nonneg (by omega)] at this; exact this
section FROWS
variable {D : va_G} {cl : List vw_C} {dA : Nat → ClassId} {A : Nat → Prop} {X : State → Heap → Prop}
variable {p : Program} {l : Launch} {e : Env} {R : Room} {s : State} {m : MethodId} {args : Array Value} {below : List Frame} {meth : Method} {c : Code} {H : Heap} {locs : List Loc} {cells slots : Nat} {Q : State → Prop}
variable {cc : ByteArray} {nL : Nat} {own : String} {pc : Nat} {ls : Array Slot} {rest st0 : List Value} {g : Gm} {mc ms : Nat}
theorem z_ishr (C : ZC D cl dA A X p s m args meth c cc nL own) {x y : Int} (hdg : decode cc pc = .ok (.ishr, 1)) (k : W p l e R s m args below meth c H locs cells slots Q (F0 m (pc + 1) ls (.int (iI (shB x y)) :: rest))) : W p l e R s m args below meth c H locs cells slots Q (F0 m pc ls (.int (iI y) :: .int (iI x) :: rest)) := lv_ishr C.1.1 C.1.2.1 hdg (by rw [show iI (shB x y) = (iI x) >>> ((iI y) &&& 31) from (iI_self _).symm] at k; exact k)
theorem z_i2b (C : ZC D cl dA A X p s m args meth c cc nL own) {x : Int} (hdg : decode cc pc = .ok (.i2b, 1)) (k : W p l e R s m args below meth c H locs cells slots Q (F0 m (pc + 1) ls (.int (iI (byB x)) :: rest))) : W p l e R s m args below meth c H locs cells slots Q (F0 m pc ls (.int (iI x) :: rest)) := lv_i2b C.1.1 C.1.2.1 hdg (iI_self _) k
theorem z_iand (C : ZC D cl dA A X p s m args meth c cc nL own) {x y : Int} (hdg : decode cc pc = .ok (.iand, 1)) (k : W p l e R s m args below meth c H locs cells slots Q (F0 m (pc + 1) ls (.int (iI (anB x y)) :: rest))) : W p l e R s m args below meth c H locs cells slots Q (F0 m pc ls (.int (iI y) :: .int (iI x) :: rest)) := lv_iand C.1.1 C.1.2.1 hdg (by rw [show iI (anB x y) = iI x &&& iI y from (iI_self _).symm] at k; exact k)
theorem z_ddivZ (C : ZC D cl dA A X p s m args meth c cc nL own) {x y : Int} (ha : 0 ≤ x ∧ x ≤ 1000000) (hb : 1 ≤ y ∧ y ≤ 800) (hdg : decode cc pc = .ok (.ddiv, 1)) (k : W p l e R s m args below meth c H locs cells slots Q (F0 m (pc + 1) ls (.double (ddZ x y) :: rest))) : W p l e R s m args below meth c H locs cells slots Q (F0 m pc ls (.double (FP.i2d (iI y)) :: .double (FP.i2d (iI x)) :: rest)) := lv_ddiv C.1.1 C.1.2.1 hdg (ddZ_num ha hb) k
theorem z_fdivZ (C : ZC D cl dA A X p s m args meth c cc nL own) {x y : Int} (ha : 0 ≤ x ∧ x ≤ 20) (hb : 1 ≤ y ∧ y ≤ 20) (hdg : decode cc pc = .ok (.fdiv, 1)) (k : W p l e R s m args below meth c H locs cells slots Q (F0 m (pc + 1) ls (.float (ffZ x y) :: rest))) : W p l e R s m args below meth c H locs cells slots Q (F0 m pc ls (.float (FP.i2f (iI y)) :: .float (FP.i2f (iI x)) :: rest)) := lv_fdiv C.1.1 C.1.2.1 hdg (ffZ_num ha hb).1 k
theorem z_i2d (C : ZC D cl dA A X p s m args meth c cc nL own) {x : Int} (hdg : decode cc pc = .ok (.i2d, 1)) (k : W p l e R s m args below meth c H locs cells slots Q (F0 m (pc + 1) ls (.double (FP.i2d (iI x)) :: rest))) : W p l e R s m args below meth c H locs cells slots Q (F0 m pc ls (.int (iI x) :: rest)) := lv_i2d C.1.1 C.1.2.1 hdg k
theorem z_i2f (C : ZC D cl dA A X p s m args meth c cc nL own) {x : Int} (hdg : decode cc pc = .ok (.i2f, 1)) (k : W p l e R s m args below meth c H locs cells slots Q (F0 m (pc + 1) ls (.float (FP.i2f (iI x)) :: rest))) : W p l e R s m args below meth c H locs cells slots Q (F0 m pc ls (.int (iI x) :: rest)) := lv_i2f C.1.1 C.1.2.1 hdg k
theorem z_dret (C : ZC D cl dA A X p s m args meth c cc nL own) {post : UInt64 → Gm → Prop} (hr : meth.sig.returnType = some .double) (hH : HP D cl A g H) (hS : va_S A s.heap H locs) {z : UInt64} (hdg : decode cc pc = .ok (.dreturn, 1)) (h1 : cells ≤ mc) (h2 : slots ≤ ms) (hq : post z g) : W p l e R s m args below meth c H locs cells slots (MQ below (ZQd D cl A post) args s mc ms A) (F0 m pc ls [.double z]) :=
  W.widen h1 h2 (W.dret C.1.1 C.1.2.1 hr (fun t ht _ => ⟨⟨z, g, rfl, hq, hH.at ht⟩, hS.F ht⟩) hS.2.2 hdg C.2.1)
theorem z_fret (C : ZC D cl dA A X p s m args meth c cc nL own) {post : UInt32 → Gm → Prop} (hr : meth.sig.returnType = some .float) (hH : HP D cl A g H) (hS : va_S A s.heap H locs) {z : UInt32} (hdg : decode cc pc = .ok (.freturn, 1)) (h1 : cells ≤ mc) (h2 : slots ≤ ms) (hq : post z g) : W p l e R s m args below meth c H locs cells slots (MQ below (ZQf D cl A post) args s mc ms A) (F0 m pc ls [.float z]) :=
  W.widen h1 h2 (W.fret C.1.1 C.1.2.1 hr (fun t ht _ => ⟨⟨z, g, rfl, hq, hH.at ht⟩, hS.F ht⟩) hS.2.2 hdg C.2.1)
end FROWS
def MQd (D : va_G) (dA : Nat → ClassId) (A : Nat → Prop) (o : Nat) (ad : Nat → Nat) (post : UInt64 → Sg → Prop) : Array Value → State → Outcome → State → Prop := ZQd D clM A (fun z g => ∃ s : Sg, g = mG dA o ad s ∧ post z s)
def MQf (D : va_G) (dA : Nat → ClassId) (A : Nat → Prop) (o : Nat) (ad : Nat → Nat) (post : UInt32 → Sg → Prop) : Array Value → State → Outcome → State → Prop := ZQf D clM A (fun z g => ∃ s : Sg, g = mG dA o ad s ∧ post z s)
theorem m_dret {D : va_G} {dA : Nat → ClassId} {A : Nat → Prop} {o : Nat} {ad : Nat → Nat} {p : Program} {l : Launch} {e : Env} {R : Room} {s : State} {m : MethodId} {args : Array Value} {below : List Frame} {meth : Method} {c : Code} {H : Heap} {locs : List Loc} {cc : ByteArray} {nL : Nat} {pc : Nat} {ls : Array Slot} {σ : Sg} (C : MC D dA A p s m args meth c cc nL) {post : UInt64 → Sg → Prop} (hr : meth.sig.returnType = some .double) (hH : MH D dA A o ad σ H) (hS : va_S A s.heap H locs) {z : UInt64} (hdg : decode cc pc = .ok (.dreturn, 1)) (hq : post z σ) : W p l e R s m args below meth c H locs 0 0 (MQ below (MQd D dA A o ad post) args s 0 0 A) (F0 m pc ls [.double z]) := z_dret C hr hH hS hdg (Nat.le_refl _) (Nat.le_refl _) ⟨σ, rfl, hq⟩
theorem m_fret {D : va_G} {dA : Nat → ClassId} {A : Nat → Prop} {o : Nat} {ad : Nat → Nat} {p : Program} {l : Launch} {e : Env} {R : Room} {s : State} {m : MethodId} {args : Array Value} {below : List Frame} {meth : Method} {c : Code} {H : Heap} {locs : List Loc} {cc : ByteArray} {nL : Nat} {pc : Nat} {ls : Array Slot} {σ : Sg} (C : MC D dA A p s m args meth c cc nL) {post : UInt32 → Sg → Prop} (hr : meth.sig.returnType = some .float) (hH : MH D dA A o ad σ H) (hS : va_S A s.heap H locs) {z : UInt32} (hdg : decode cc pc = .ok (.freturn, 1)) (hq : post z σ) : W p l e R s m args below meth c H locs 0 0 (MQ below (MQf D dA A o ad post) args s 0 0 A) (F0 m pc ls [.float z]) := z_fret C hr hH hS hdg (Nat.le_refl _) (Nat.le_refl _) ⟨σ, rfl, hq⟩
