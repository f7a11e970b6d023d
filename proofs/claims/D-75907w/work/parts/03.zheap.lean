/-! what is known of the heap: a part of it, cell by cell -/
abbrev Gm : Type := Nat → Option va_E
abbrev oI (ci : Nat) (fs : List Value) : va_E := .inr (ci, fs)
abbrev aI (cA : ClassId) (n : Nat) (f : Int → Int) : va_E := .inl (cA, n, .inl (fun j => iI (f (j : Int))))
abbrev aL (cA : ClassId) (n : Nat) (f : Int → Int64) : va_E := .inl (cA, n, .inr (.inl (fun j => f (j : Int))))
abbrev aQ (cA : ClassId) (n : Nat) (f : Int → Option Nat) : va_E := .inl (cA, n, .inr (.inr (.inr (.inr (fun j => f (j : Int))))))
abbrev zTy (dA : Nat → ClassId) : List (ClassId × FieldType) := [(dA 0, .int), (dA 1, .long), (dA 2, .byte), (dA 3, .boolean), (dA 4, .object "java/lang/Object"), (dA 5, .object "DotRuns$Page"), (dA 6, .object "DotRuns$Line")]
def HP (D : va_G) (cl : List vw_C) (A : Nat → Prop) (g : Gm) (H : Heap) : Prop := ∀ (a : Nat) (e : va_E), g a = some e → A a ∧ va_at D cl (a, e) H
theorem HP.cell {D : va_G} {cl : List vw_C} {A : Nat → Prop} {g : Gm} {H : Heap} (h : HP D cl A g H) {a : Nat} {e : va_E} (hg : g a = some e) : va_at D cl (a, e) H := (h a e hg).2
theorem HP.lt {D : va_G} {cl : List vw_C} {A : Nat → Prop} {g : Gm} {H : Heap} (h : HP D cl A g H) {a : Nat} {e : va_E} (hg : g a = some e) : a < H.size := (h a e hg).2.lt
theorem HP.new {D : va_G} {cl : List vw_C} {A : Nat → Prop} {g : Gm} {H : Heap} (h : HP D cl A g H) {a : Nat} (ha : H.size ≤ a) : g a = none := by
  cases hg : g a with
  | none => rfl
  | some e => exact absurd (h.lt hg) (by omega)
theorem HP.one {D : va_G} {cl : List vw_C} {A : Nat → Prop} {g : Gm} {H : Heap} (h : HP D cl A g H) {a : Nat} {e : va_E} (hg : g a = some e) : va_P D cl [(a, e)] H := by
  intro k q hk
  cases k with
  | zero => cases hk; exact h.cell hg
  | succ k => simp at hk
theorem HP.put {D : va_G} {cl : List vw_C} {A : Nat → Prop} {g : Gm} {H H1 : Heap} (h : HP D cl A g H) {a : Nat} {e e0 : va_E} (hg : g a = some e0) (he : va_at D cl (a, e) H1) (oq : ∀ q : Nat, q ≠ a → H1[q]? = H[q]?) : HP D cl A (va_up g a (some e)) H1 := by
  intro q x hq
  by_cases hqa : q = a
  · subst hqa
    rw [va_up_self] at hq
    cases hq
    exact ⟨(h _ _ hg).1, he⟩
  · rw [va_up_ne _ _ hqa] at hq
    exact ⟨(h _ _ hq).1, (h _ _ hq).2.kept (oq q hqa)⟩
theorem HP.push {D : va_G} {cl : List vw_C} {A : Nat → Prop} {g : Gm} {H H1 : Heap} (h : HP D cl A g H) {e : va_E} (hA : A H.size) (he : va_at D cl (H.size, e) H1) (oq : ∀ q : Nat, q < H.size → H1[q]? = H[q]?) : HP D cl A (va_up g H.size (some e)) H1 := by
  intro q x hq
  by_cases hqa : q = H.size
  · subst hqa
    rw [va_up_self] at hq
    cases hq
    exact ⟨hA, he⟩
  · rw [va_up_ne _ _ hqa] at hq
    exact ⟨(h _ _ hq).1, (h _ _ hq).2.kept (oq q (h.lt hq))⟩
theorem HP.kept {D : va_G} {cl : List vw_C} {A B : Nat → Prop} {g : Gm} {H H1 : Heap} (h : HP D cl A g H) (hd : ∀ a, A a → ¬ B a) (oq : ∀ q : Nat, q < H.size → ¬ B q → H1[q]? = H[q]?) : HP D cl A g H1 := fun a e hg => ⟨(h a e hg).1, (h a e hg).2.kept (oq a (h.lt hg) (hd a (h a e hg).1))⟩
theorem HP.sub {D : va_G} {cl : List vw_C} {A : Nat → Prop} {g g' : Gm} {H : Heap} (h : HP D cl A g H) (hs : ∀ a e, g' a = some e → g a = some e) : HP D cl A g' H := fun a e hg => h a e (hs a e hg)
theorem HP.weaken {D : va_G} {cl : List vw_C} {A B : Nat → Prop} {g : Gm} {H : Heap} (h : HP D cl A g H) (hs : ∀ a e, g a = some e → B a) : HP D cl B g H := fun a e hg => ⟨hs a e hg, (h a e hg).2⟩
/-! what else holds of the machine: a predicate that no step of ours breaks -/
def XOk (A : Nat → Prop) (X : State → Heap → Prop) : Prop := ∀ (s U : State) (H1 : Heap), s.WarmedH U.vm → s.heap.size ≤ H1.size → (∀ q : Nat, q < s.heap.size → ¬ A q → H1[q]? = s.heap[q]?) → X s s.heap → X U H1
/-- a place in a method: the machine, the code, the words, the classes -/
def ZC (D : va_G) (cl : List vw_C) (dA : Nat → ClassId) (A : Nat → Prop) (X : State → Heap → Prop) (p : Program) (s : State) (m : MethodId) (args : Array Value) (meth : Method) (c : Code) (cc : ByteArray) (nL : Nat) (own : String) : Prop :=
  CallFix p m c cc nL s args lw_all own ∧ meth.locks = false ∧ va_K D cl (zTy dA) s ∧ X s s.heap ∧ XOk A X ∧ (∀ q, s.heap.size ≤ q → A q)
def ZP (D : va_G) (cl : List vw_C) (dA : Nat → ClassId) (A : Nat → Prop) (X : State → Heap → Prop) (av : List Value) (g : Gm) : Array Value → State → Prop :=
  fun v U => v = av.toArray ∧ HP D cl A g U.heap ∧ va_K D cl (zTy dA) U ∧ X U U.heap ∧ XOk A X ∧ (∀ q, U.heap.size ≤ q → A q)
def ZQi (D : va_G) (cl : List vw_C) (A : Nat → Prop) (post : Int → Gm → Prop) : Array Value → State → Outcome → State → Prop := va_Qi (fun (r : Int32) (g : Gm) => ∃ z : Int, r = iI z ∧ post z g) (fun g t => HP D cl A g t.heap) A
def ZQl (D : va_G) (cl : List vw_C) (A : Nat → Prop) (post : Int64 → Gm → Prop) : Array Value → State → Outcome → State → Prop := va_Ql post (fun g t => HP D cl A g t.heap) A
def ZQf (D : va_G) (cl : List vw_C) (A : Nat → Prop) (post : UInt32 → Gm → Prop) : Array Value → State → Outcome → State → Prop := va_Qf post (fun g t => HP D cl A g t.heap) A
def ZQd (D : va_G) (cl : List vw_C) (A : Nat → Prop) (post : UInt64 → Gm → Prop) : Array Value → State → Outcome → State → Prop := va_Qd post (fun g t => HP D cl A g t.heap) A
def ZQv (D : va_G) (cl : List vw_C) (A : Nat → Prop) (post : Gm → Prop) : Array Value → State → Outcome → State → Prop := va_Qv post (fun g t => HP D cl A g t.heap) A
def ZQq (D : va_G) (cl : List vw_C) (A : Nat → Prop) (post : Option Nat → Gm → Prop) : Array Value → State → Outcome → State → Prop := va_Qq post (fun g t => HP D cl A g t.heap) A
theorem ZP.blind {D : va_G} {cl : List vw_C} {dA : Nat → ClassId} {A : Nat → Prop} {X : State → Heap → Prop} {av : List Value} {g : Gm} : FrameBlind (ZP D cl dA A X av g) := by
  intro a U fr mk h
  obtain ⟨h1, h2, h3, h4, h5, h6⟩ := h
  exact ⟨h1, h2, va_K.moved (u := U) (U := U.calling fr mk a) (Vm.Alike.refl U.vm) h3, h5 U (U.calling fr mk a) U.heap (State.WarmedH.refl U) (Nat.le_refl _) (fun _ _ _ => rfl) h4, h5, h6⟩
theorem ZC.pre {D : va_G} {cl : List vw_C} {dA : Nat → ClassId} {A : Nat → Prop} {X : State → Heap → Prop} {p : Program} {s : State} {m : MethodId} {args : Array Value} {meth : Method} {c : Code} {cc : ByteArray} {nL : Nat} {own : String} {H : Heap} {locs : List Loc} {g : Gm} (C : ZC D cl dA A X p s m args meth c cc nL own) (hH : HP D cl A g H) (hS : va_S A s.heap H locs) (av : List Value) :
    ∀ U : State, U.heap = H → s.WarmedH U.vm → ZP D cl dA A X av g av.toArray U := by
  obtain ⟨-, -, hK, hX, hXk, hA⟩ := C
  intro U hU hW
  subst hU
  exact ⟨rfl, hH, va_K.moved hW.alike hK, hXk s U U.heap hW hS.1 hS.2.1 hX, hXk, fun q hq => hA q (Nat.le_trans hS.1 hq)⟩
theorem HP.at {D : va_G} {cl : List vw_C} {A : Nat → Prop} {g : Gm} {H : Heap} {t : State} (h : HP D cl A g H) (ht : t.heap = H) : HP D cl A g t.heap := by rw [ht]; exact h
