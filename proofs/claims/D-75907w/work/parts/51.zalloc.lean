/-! rows that allocate, over what is known of the heap -/
section ZALLOC
variable {D : va_G} {cl : List vw_C} {dA : Nat → ClassId} {A : Nat → Prop} {X : State → Heap → Prop}
variable {p : Program} {l : Launch} {e : Env} {R : Room} {s : State} {m : MethodId} {args : Array Value} {below : List Frame} {meth : Method} {c : Code} {H : Heap} {locs : List Loc} {cells slots : Nat} {Q : State → Prop}
variable {cc : ByteArray} {nL : Nat} {own : String} {pc : Nat} {ls : Array Slot} {rest : List Value} {g : Gm}
theorem va_S.push {H0 H1 : Heap} (hS : va_S A H0 H locs) (hz : H1.size = H.size + 1) (o1 : ∀ q : Nat, q < H.size → H1[q]? = H[q]?) : va_S A H0 H1 locs :=
  ⟨Nat.le_trans hS.1 (by omega), fun x h1 h2 => (o1 x (Nat.lt_of_lt_of_le h1 hS.1)).trans (hS.2.1 x h1 h2), hS.2.2⟩
/-- a new array of ints, of bytes, of booleans, of longs -/
theorem z_newa (C : ZC D cl dA A X p s m args meth c cc nL own) (hH : HP D cl A g H) (hS : va_S A s.heap H locs) {atype : ArrayType} {ty : FieldType} (i : Nat) (hty : newarray.typeOf atype = ty) (hi : (zTy dA)[i]? = some (dA i, ty)) (hpr : ∀ (U : State) (cA : ClassId), va_RA U cA ty → U.vm.findClass ("[" ++ ty.toString) = some cA) (harr : (Cond.arrayClass (newarray.typeOf atype)) ∈ lw_all) {n : Int} {N : Nat} {a0 : vp_A} (ha : ∀ cA : ClassId, vp_cell cA a0 = arrV cA N (fun _ => defaultValue ty)) (hn : n = (N : Int)) (hr : N < 2147483648) (hbytes : N * componentBytes ty ≤ 536870912) (hcells : cells + 1 ≤ R.cells) (hslots : slots + N ≤ R.slots) (hdg : decode cc pc = .ok (.newarray atype, 2))
    (kk : ∀ (q : Nat) (H1 : Heap), g q = none → H.size = q → HP D cl A (va_up g q (some (.inl (dA i, a0)))) H1 → va_S A s.heap H1 locs → W p l e R s m args below meth c H1 locs (cells + 1) (slots + N) Q (F0 m (pc + 2) ls (.ref q :: rest))) : W p l e R s m args below meth c H locs cells slots Q (F0 m pc ls (.int (iI n) :: rest)) := by
  subst hty
  have hz : zR n := ⟨by omega, by omega⟩
  refine va_newaK C.1.1 C.1.2.1 (C.1.2.2.2.2 _ harr) rfl hdg rfl (by rw [iI_0, iI_lt hz ⟨by decide, by decide⟩]; omega) (show (iI n).toNatClampNeg = N by rw [iI_clamp hz]; omega) hbytes hcells hslots rfl fun H1 cA e1 z1 o1 hAr hNm => ?_
  have hcA : cA = dA i := by
    have h1 := hpr s (dA i) (C.2.2.1.2 i _ hi).2
    rw [hNm] at h1
    exact Option.some.inj h1
  subst hcA
  refine kk H.size H1 (hH.new (Nat.le_refl _)) rfl (hH.push (C.2.2.2.2.2 _ hS.1) ?_ o1) (hS.push z1 o1)
  show H1[H.size]? = some (vp_cell _ _)
  rw [ha]; exact e1
/-- a new array of references -/
theorem z_newq (C : ZC D cl dA A X p s m args meth c cc nL own) (hH : HP D cl A g H) (hS : va_S A s.heap H locs) {Cn : String} {index : Nat} (i : Nat) (hi : (zTy dA)[i]? = some (dA i, .object Cn)) (hcl : (Cond.classLink own index Cn) ∈ lw_all) (hov : (Cond.arrayOver (.object Cn)) ∈ lw_all) {n : Int} {N : Nat} (hn : n = (N : Int)) (hr : N < 134217728) (hcells : cells + 1 ≤ R.cells) (hslots : slots + N ≤ R.slots) (hdg : decode cc pc = .ok (.anewarray index, 3))
    (kk : ∀ (q : Nat) (H1 : Heap), g q = none → H.size = q → HP D cl A (va_up g q (some (aQ (dA i) N (fun _ => none)))) H1 → va_S A s.heap H1 locs → W p l e R s m args below meth c H1 locs (cells + 1) (slots + N) Q (F0 m (pc + 3) ls (.ref q :: rest))) : W p l e R s m args below meth c H locs cells slots Q (F0 m pc ls (.int (iI n) :: rest)) := by
  have hz : zR n := ⟨by omega, by omega⟩
  have hN : (iI n).toNatClampNeg = N := by rw [iI_clamp hz]; omega
  subst hN
  refine W.anew C.1.1 C.1.2.1 C.1.2.2.2.1 (C.1.2.2.2.2 _ hcl) (C.1.2.2.2.2 _ hov) rfl hdg rfl (by rw [iI_0, iI_lt hz ⟨by decide, by decide⟩]; omega) (by omega) hcells hslots fun cA kA comp f1 f2 f3 f4 => ?_
  have hcA : cA = dA i := by
    obtain ⟨kA', comp', h1, h2, h3, h4⟩ := (C.2.2.1.2 i _ hi).2
    rw [f1] at h4
    exact Option.some.inj h4
  generalize hH1 : H.push ({ cls := cA, slots := Array.replicate (iI n).toNatClampNeg .null, vm := .none } : Cell) = H1
  have z1 : H1.size = H.size + 1 := by rw [← hH1, Array.size_push]
  have e1 : H1[H.size]? = some (arrV cA (iI n).toNatClampNeg (fun _ => .null)) := by rw [← hH1, Array.getElem?_push_size, ← arrV_new]
  have o1 : ∀ q : Nat, q < H.size → H1[q]? = H[q]? := fun q hq => by rw [← hH1, Array.getElem?_push, if_neg (Nat.ne_of_lt hq)]
  subst hcA
  exact kk H.size H1 (hH.new (Nat.le_refl _)) rfl (hH.push (C.2.2.2.2.2 _ hS.1) e1 o1) (hS.push z1 o1)
/-- a new object -/
theorem z_new (C : ZC D cl dA A X p s m args meth c cc nL own) (hH : HP D cl A g H) (hS : va_S A s.heap H locs) {Cn : String} {T : u_T} {N ci index : Nat} (hin : ∀ w ∈ u_ws Cn T N, w ∈ lw_all) (ty : Nat → FieldType) (hty : ∀ k, k < N → parseFieldDescriptor (T k).2.2.1 = some (ty k)) (hcl : (Cond.classLink own index Cn) ∈ lw_all) (hinst : (Cond.instantiable Cn N) ∈ lw_all) (hini : (Cond.initialized Cn) ∈ lw_all) (hc : cl[ci]? = some (Cn, T, N)) (fs : List Value) (hfs : ∀ j, j < N → defaultValue (ty j) = vp_V fs j) (hcells : cells + 1 ≤ R.cells) (hslots : slots + N ≤ R.slots) (hdg : decode cc pc = .ok (.new index, 3))
    (kk : ∀ (q : Nat) (H1 : Heap), g q = none → H.size = q → HP D cl A (va_up g q (some (oI ci fs))) H1 → va_S A s.heap H1 locs → W p l e R s m args below meth c H1 locs (cells + 1) (slots + N) Q (F0 m (pc + 3) ls (.ref q :: rest))) : W p l e R s m args below meth c H locs cells slots Q (F0 m pc ls rest) := by
  have hKn := C.2.2.1.1 ci _ hc
  refine W.newcK C.1.1 C.1.2.1 C.1.2.2.2.1 (C.1.2.2.2.2 _ hcl) (C.1.2.2.2.2 _ hinst) (C.1.2.2.2.2 _ hini) rfl hdg hcells hslots hKn.2.1 rfl fun H1 kC hkC e1 z1 o1 => ?_
  exact kk H.size H1 (hH.new (Nat.le_refl _)) rfl (hH.push (C.2.2.2.2.2 _ hS.1) ⟨_, hc, (u_born ty C.1.2.2.2.2 hin hKn hkC e1 hty).to hfs⟩ o1) (hS.push z1 o1)
end ZALLOC
