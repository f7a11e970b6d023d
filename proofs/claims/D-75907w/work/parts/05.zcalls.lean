/-! a method's entry, its ends, its calls, over what is known of the heap -/
def rmL (k mc ms : Nat) : Room := { frames := k, cells := mc, slots := ms, locals := 100 * k }
section ZCALLS
variable {D : va_G} {cl : List vw_C} {dA : Nat → ClassId} {A : Nat → Prop} {X : State → Heap → Prop}
/-- the head of a method -/
theorem z_ofW {l : Launch} {y : MethodName} {cc : ByteArray} {maxL : Nat} {ret : Option FieldType} {k mc ms : Nat} {av : List Value} {g : Gm} {Qc : Array Value → State → Outcome → State → Prop} (hy : plainName y.cls = true) (hlen : Nat.ble (lg_sl av).length maxL = true)
    (body : ∀ (p : Program) (e : Env) (s : State) (m : MethodId) (below : List Frame) (meth : Method) (c : Code) (ls : Array Slot), ZC D cl dA A X p s m av.toArray meth c cc maxL y.cls → meth.sig.returnType = ret → meth.name = y.name → lv_has ls maxL (lv_args 0 av) → HP D cl A g s.heap → va_S A s.heap s.heap [] →
      W p l e (rmL k mc ms) s m av.toArray below meth c s.heap [] 0 0 (MQ below Qc av.toArray s mc ms A) (F0 m 0 ls [])) :
    Met l y (ws_ y cc maxL ret) (rmL k mc ms) (ZP D cl dA A X av g) Qc mc ms A := by
  refine Met.ofW (cc := cc) (maxL := maxL) (ret := ret) hy rfl ?_
  intro p e s m args below meth c s₁ B hml hv
  obtain ⟨rfl, hH, hK, hX, hXk, hA⟩ := hv
  have hts := atoms_spec (ws := ws_ y cc maxL ret) B.pre
  have hts : ∀ w ∈ lw_all, w.before _ s = true := fun w h => hts w (List.mem_cons_of_mem _ h)
  have hown : s.vm.findClass y.cls = some m.cls := findClass_of_methodNamed B.named
  rw [lg_entry_eq]
  exact body p e s m below meth c _ ⟨⟨B.exec, B.bytes, hml, hown, hts⟩, B.notSynchronized, hK, hX, hXk, hA⟩ B.returns (name_of_methodNamed B.named B.method).1 (lv_entry av (Nat.le_of_ble_eq_true hlen)) hH va_S.rf
variable {p : Program} {l : Launch} {e : Env} {R : Room} {s : State} {m : MethodId} {args : Array Value} {below : List Frame} {meth : Method} {c : Code} {H : Heap} {locs : List Loc} {cells slots : Nat} {Q : State → Prop}
variable {cc : ByteArray} {nL : Nat} {own : String} {pc : Nat} {ls : Array Slot} {rest st0 : List Value} {g : Gm} {mc ms : Nat}
theorem z_iret (C : ZC D cl dA A X p s m args meth c cc nL own) {post : Int → Gm → Prop} (hr : meth.sig.returnType = some .int) (hH : HP D cl A g H) (hS : va_S A s.heap H locs) {z : Int} (hdg : decode cc pc = .ok (.ireturn, 1)) (h1 : cells ≤ mc) (h2 : slots ≤ ms) (hq : post z g) : W p l e R s m args below meth c H locs cells slots (MQ below (ZQi D cl A post) args s mc ms A) (F0 m pc ls [.int (iI z)]) :=
  W.widen h1 h2 (W.iret C.1.1 C.1.2.1 hr (fun t ht _ => ⟨⟨iI z, g, rfl, ⟨z, rfl, hq⟩, hH.at ht⟩, hS.F ht⟩) hS.2.2 hdg C.2.1)
theorem z_zret (C : ZC D cl dA A X p s m args meth c cc nL own) {post : Int → Gm → Prop} (hr : meth.sig.returnType = some .boolean) (hH : HP D cl A g H) (hS : va_S A s.heap H locs) {z : Int} (hz : z = 0 ∨ z = 1) (hdg : decode cc pc = .ok (.ireturn, 1)) (h1 : cells ≤ mc) (h2 : slots ≤ ms) (hq : post z g) : W p l e R s m args below meth c H locs cells slots (MQ below (ZQi D cl A post) args s mc ms A) (F0 m pc ls [.int (iI z)]) :=
  W.widen h1 h2 (W.zret C.1.1 C.1.2.1 hr (by rcases hz with rfl | rfl <;> decide +kernel) (fun t ht _ => ⟨⟨iI z, g, rfl, ⟨z, rfl, hq⟩, hH.at ht⟩, hS.F ht⟩) hS.2.2 hdg C.2.1)
theorem z_vret (C : ZC D cl dA A X p s m args meth c cc nL own) {post : Gm → Prop} (hr : meth.sig.returnType = none) (hH : HP D cl A g H) (hS : va_S A s.heap H locs) (hdg : decode cc pc = .ok (.return_, 1)) (h1 : cells ≤ mc) (h2 : slots ≤ ms) (hq : post g) : W p l e R s m args below meth c H locs cells slots (MQ below (ZQv D cl A post) args s mc ms A) (F0 m pc ls []) :=
  W.widen h1 h2 (W.vret C.1.1 C.1.2.1 hr (fun t ht _ => ⟨⟨g, rfl, hq, hH.at ht⟩, hS.F ht⟩) hS.2.2 hdg C.2.1)
theorem z_aret (C : ZC D cl dA A X p s m args meth c cc nL own) {post : Option Nat → Gm → Prop} {rt : FieldType} (hr : meth.sig.returnType = some rt) (hrt : (∃ n, rt = .object n) ∨ ∃ t, rt = .array t) (hH : HP D cl A g H) (hS : va_S A s.heap H locs) {r : Option Nat} (hdg : decode cc pc = .ok (.areturn, 1)) (h1 : cells ≤ mc) (h2 : slots ≤ ms) (hq : post r g) : W p l e R s m args below meth c H locs cells slots (MQ below (ZQq D cl A post) args s mc ms A) (F0 m pc ls [va_rf r]) :=
  W.widen h1 h2 (W.aret C.1.1 C.1.2.1 hr hrt (va_rf_or r) (fun t ht _ => ⟨⟨r, g, rfl, hq, hH.at ht⟩, hS.F ht⟩) hS.2.2 hdg C.2.1)
theorem z_lret (C : ZC D cl dA A X p s m args meth c cc nL own) {post : Int64 → Gm → Prop} (hr : meth.sig.returnType = some .long) (hH : HP D cl A g H) (hS : va_S A s.heap H locs) {z : Int64} (hdg : decode cc pc = .ok (.lreturn, 1)) (h1 : cells ≤ mc) (h2 : slots ≤ ms) (hq : post z g) : W p l e R s m args below meth c H locs cells slots (MQ below (ZQl D cl A post) args s mc ms A) (F0 m pc ls [.long z]) :=
  W.widen h1 h2 (W.lret C.1.1 C.1.2.1 hr (fun t ht _ => ⟨⟨z, g, rfl, hq, hH.at ht⟩, hS.F ht⟩) hS.2.2 hdg C.2.1)
variable {y : MethodName} {bytes : ByteArray} {maxL n index : Nat} {ret : Option FieldType} {ws : List Cond} {rm : Room} {g0 : Gm} {Cn : String} {T : u_T} {N ci : Nat} {b : Nat} {fs : List Value} {As : List Value}
theorem HP.recv (hH : HP D cl A g H) (C : ZC D cl dA A X p s m args meth c cc nL own) (hb : g b = some (oI ci fs)) (hc : cl[ci]? = some (Cn, T, N)) : ∃ cell : Cell, H[b]? = some cell ∧ cell.vm.isStatics = false ∧ s.vm.findClass Cn = some cell.cls := va_recv C.2.2.1 (hH.one hb) (q0 := 0) hc rfl
/-- a call through an object: what runs -/
theorem z_runV (C : ZC D cl dA A X p s m args meth c cc nL own) (hH : HP D cl A g H) (hS : va_S A s.heap H locs) {Qc : Array Value → State → Outcome → State → Prop} (hM : Met l y ws rm (ZP D cl dA A X (Value.ref b :: As) g) Qc mc ms A) (cw : CallW R s args own Cn index y bytes maxL ret ws rm mc ms n) (hb : g b = some (oI ci fs)) (hc : cl[ci]? = some (Cn, T, N)) (hn : As.length = n) {nl : List (Nat × Value)} (hl : lv_has ls nL nl) (hst : st0 = As.reverse ++ .ref b :: rest) (hW : (rest.map fun v => v.category).sum ≤ 8) (hdg : decode cc pc = .ok (.invokevirtual index, 3)) (hf : cells + mc ≤ R.cells ∧ slots + ms ≤ R.slots) :
    va_Run p l e R s m args below meth c H locs cells slots mc ms (F0 m pc ls st0) rest (Qc (Value.ref b :: As).toArray) A :=
  va_runV C.1 hM cw ⟨ZP.blind, hH.recv C hb hc, ZC.pre C hH hS _⟩ rfl hn hl.1 hst (lv_room hW) hdg hf
theorem z_runS (C : ZC D cl dA A X p s m args meth c cc nL own) (hH : HP D cl A g H) (hS : va_S A s.heap H locs) {Qc : Array Value → State → Outcome → State → Prop} (hM : Met l y ws rm (ZP D cl dA A X As g) Qc mc ms A) (cw : CallB R s args own index y bytes maxL ret ws rm mc ms n ∧ (Cond.static y).before args s = true) (hn : As.length = n) {nl : List (Nat × Value)} (hl : lv_has ls nL nl) (hst : st0 = As.reverse ++ rest) (hW : (rest.map fun v => v.category).sum ≤ 8) (hdg : decode cc pc = .ok (.invokestatic index, 3)) (hf : cells + mc ≤ R.cells ∧ slots + ms ≤ R.slots) :
    va_Run p l e R s m args below meth c H locs cells slots mc ms (F0 m pc ls st0) rest (Qc As.toArray) A :=
  va_runS C.1 hM cw ⟨ZP.blind, ZC.pre C hH hS _⟩ rfl hn hl.1 hst (lv_room hW) hdg hf
theorem z_runI (C : ZC D cl dA A X p s m args meth c cc nL own) (hH : HP D cl A g H) (hS : va_S A s.heap H locs) {Qc : Array Value → State → Outcome → State → Prop} (hM : Met l y ws rm (ZP D cl dA A X (Value.ref b :: As) g) Qc mc ms A) (cw : CallB R s args own index y bytes maxL none ws rm mc ms n ∧ y.name = "<init>" ∧ (Cond.instanceMethod y).before args s = true) (hn : As.length = n) {nl : List (Nat × Value)} (hl : lv_has ls nL nl) (hst : st0 = As.reverse ++ .ref b :: rest) (hW : (rest.map fun v => v.category).sum ≤ 8) (hdg : decode cc pc = .ok (.invokespecial index, 3)) (hf : cells + mc ≤ R.cells ∧ slots + ms ≤ R.slots) :
    va_Run p l e R s m args below meth c H locs cells slots mc ms (F0 m pc ls st0) rest (Qc (Value.ref b :: As).toArray) A :=
  va_runI C.1 hM cw ⟨ZP.blind, ZC.pre C hH hS _⟩ rfl hn hl.1 hst (lv_room hW) hdg hf
/-- behind a call -/
theorem z_calli {post : Int → Gm → Prop} {a : Array Value} (hr : va_Run p l e R s m args below meth c H locs cells slots mc ms (F0 m pc ls st0) rest (ZQi D cl A post a) A) (hS : va_S A s.heap H locs)
    (kk : ∀ (r : Int) (g1 : Gm) (H1 : Heap) (locs1 : List Loc), post r g1 → HP D cl A g1 H1 → va_S A s.heap H1 locs1 → W p l e R s m args below meth c H1 locs1 (cells + mc) (slots + ms) Q (F0 m (pc + 3) ls (.int (iI r) :: rest))) : W p l e R s m args below meth c H locs cells slots Q (F0 m pc ls st0) :=
  va_calli hr hS (fun _ _ h => h) (fun _ h => h) (fun r u t H1 locs1 ht hvm hp hB hz hk hS1 => by obtain ⟨z, rfl, hp⟩ := hp; exact kk z u H1 locs1 hp (ht ▸ hB) hS1)
theorem z_callv {post : Gm → Prop} {a : Array Value} (hr : va_Run p l e R s m args below meth c H locs cells slots mc ms (F0 m pc ls st0) rest (ZQv D cl A post a) A) (hS : va_S A s.heap H locs)
    (kk : ∀ (g1 : Gm) (H1 : Heap) (locs1 : List Loc), post g1 → HP D cl A g1 H1 → va_S A s.heap H1 locs1 → W p l e R s m args below meth c H1 locs1 (cells + mc) (slots + ms) Q (F0 m (pc + 3) ls rest)) : W p l e R s m args below meth c H locs cells slots Q (F0 m pc ls st0) :=
  va_callv hr hS (fun _ _ h => h) (fun _ h => h) (fun u t H1 locs1 ht hvm hp hB hz hk hS1 => kk u H1 locs1 hp (ht ▸ hB) hS1)
theorem z_callq {post : Option Nat → Gm → Prop} {a : Array Value} (hr : va_Run p l e R s m args below meth c H locs cells slots mc ms (F0 m pc ls st0) rest (ZQq D cl A post a) A) (hS : va_S A s.heap H locs)
    (kk : ∀ (r : Option Nat) (g1 : Gm) (H1 : Heap) (locs1 : List Loc), post r g1 → HP D cl A g1 H1 → va_S A s.heap H1 locs1 → W p l e R s m args below meth c H1 locs1 (cells + mc) (slots + ms) Q (F0 m (pc + 3) ls (va_rf r :: rest))) : W p l e R s m args below meth c H locs cells slots Q (F0 m pc ls st0) :=
  va_callq hr hS (fun _ _ h => h) (fun _ h => h) (fun r u t H1 locs1 ht hvm hp hB hz hk hS1 => kk r u H1 locs1 hp (ht ▸ hB) hS1)
theorem z_calll {post : Int64 → Gm → Prop} {a : Array Value} (hr : va_Run p l e R s m args below meth c H locs cells slots mc ms (F0 m pc ls st0) rest (ZQl D cl A post a) A) (hS : va_S A s.heap H locs)
    (kk : ∀ (r : Int64) (g1 : Gm) (H1 : Heap) (locs1 : List Loc), post r g1 → HP D cl A g1 H1 → va_S A s.heap H1 locs1 → W p l e R s m args below meth c H1 locs1 (cells + mc) (slots + ms) Q (F0 m (pc + 3) ls (.long r :: rest))) : W p l e R s m args below meth c H locs cells slots Q (F0 m pc ls st0) :=
  va_calll hr hS (fun _ _ h => h) (fun _ h => h) (fun r u t H1 locs1 ht hvm hp hB hz hk hS1 => kk r u H1 locs1 hp (ht ▸ hB) hS1)
end ZCALLS
