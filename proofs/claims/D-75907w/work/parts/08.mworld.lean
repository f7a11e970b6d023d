/-! the reference's world: one object, its rows; s k i: field k, place i (a number stands at place 0) -/
abbrev clM : List vw_C := [(RX3, TX3, 42)]
def mT (k : Nat) : Nat := match k with
  | 1 | 2 | 3 | 5 | 7 | 8 | 10 | 11 | 12 | 13 | 15 | 18 | 20 | 21 | 22 | 23 | 24 | 25 => 1
  | 31 | 39 | 40 => 2
  | 6 => 3
  | _ => 0
def mLen (k : Nat) : Nat := match k with
  | 1 => 828
  | 2 => 828
  | 3 => 8280
  | 5 => 1656
  | 6 => 2
  | 7 => 40
  | 8 => 40
  | 10 => 48
  | 11 => 48
  | 12 => 48
  | 13 => 48
  | 15 => 40
  | 18 => 44
  | 20 => 800
  | 21 => 20
  | 22 => 20
  | 23 => 20
  | 24 => 20
  | 25 => 20
  | 31 => 900
  | 39 => 37
  | 40 => 600
  | _ => 0
theorem mLen_lt (k : Nat) : mLen k < 2147483648 := by unfold mLen; split <;> decide
def mC (dA : Nat → ClassId) (k : Nat) : ClassId := if mT k = 1 then dA 0 else if mT k = 2 then dA 2 else dA 3
abbrev Sg : Type := Nat → Int → Int
def su (s : Sg) (k : Nat) (i v : Int) : Sg := fun k' => if k' = k then uZ (s k) i v else s k'
theorem su_self (s : Sg) (k : Nat) (i v : Int) : su s k i v k i = v := by simp [su, uZ]
theorem su_k (s : Sg) (k : Nat) (i v : Int) : su s k i v k = uZ (s k) i v := by simp [su]
theorem su_ne (s : Sg) {k k' : Nat} (i v : Int) (h : k' ≠ k) : su s k i v k' = s k' := by simp [su, h]
def mF (ad : Nat → Nat) (s : Sg) : List Value := (List.range 42).map fun k => if mT k = 0 then Value.int (iI (s k 0)) else .ref (ad k)
theorem mF_len (ad : Nat → Nat) (s : Sg) : (mF ad s).length = 42 := by simp [mF]
theorem mF_at (ad : Nat → Nat) (s : Sg) {k : Nat} (hk : k < 42) : (mF ad s)[k]? = some (if mT k = 0 then Value.int (iI (s k 0)) else .ref (ad k)) := by simp [mF, hk]
theorem mF_set (ad : Nat → Nat) (s : Sg) {k : Nat} (h0 : mT k = 0) (v : Int) : (mF ad s).set k (.int (iI v)) = mF ad (su s k 0 v) := by
  apply List.ext_getElem?
  intro j
  by_cases hj : j < 42
  · rw [mF_at _ _ hj, List.getElem?_set]
    by_cases hjk : k = j
    · subst hjk
      rw [if_pos rfl, if_pos (by rw [mF_len]; exact hj), if_pos h0, su_self]
    · rw [if_neg hjk, mF_at _ _ hj, su_ne _ _ _ (Ne.symm hjk)]
  · rw [List.getElem?_eq_none (by rw [List.length_set, mF_len]; omega), List.getElem?_eq_none (by rw [mF_len]; omega)]
def mOk (o : Nat) (ad : Nat → Nat) : Prop := (∀ k, k < 42 → mT k ≠ 0 → ad k ≠ o) ∧ ∀ j k, j < 42 → k < 42 → mT j ≠ 0 → mT k ≠ 0 → ad j = ad k → j = k
def mE (dA : Nat → ClassId) (k : Nat) (s : Sg) : va_E := aI (mC dA k) (mLen k) (s k)
def mG (dA : Nat → ClassId) (o : Nat) (ad : Nat → Nat) (s : Sg) : Gm := fun q => if q = o then some (oI 0 (mF ad s)) else (List.range 42).findSome? fun k => if mT k ≠ 0 ∧ ad k = q then some (mE dA k s) else none
theorem mG_o (dA : Nat → ClassId) (o : Nat) (ad : Nat → Nat) (s : Sg) : mG dA o ad s o = some (oI 0 (mF ad s)) := by simp [mG]
theorem mG_a {dA : Nat → ClassId} {o : Nat} {ad : Nat → Nat} (hk : mOk o ad) (s : Sg) {k : Nat} (h : k < 42) (h0 : mT k ≠ 0) : mG dA o ad s (ad k) = some (mE dA k s) := by
  unfold mG
  rw [if_neg (hk.1 k h h0)]
  rw [List.findSome?_eq_some_iff]
  refine ⟨List.range k, k, (List.range' (k + 1) (41 - k)), ?_, ?_, ?_⟩
  · have e := List.range'_append_1 (s := 0) (m := k) (n := 41 - k + 1)
    rw [Nat.zero_add, show k + (41 - k + 1) = 42 by omega] at e
    rw [List.range_eq_range', List.range_eq_range', ← List.range'_succ, e]
  · rw [if_pos ⟨h0, rfl⟩]
  · intro j hj
    have hj := List.mem_range.mp hj
    rw [if_neg]
    intro ⟨hj0, he⟩
    exact absurd (hk.2 j k (by omega) h hj0 h0 he) (by omega)
theorem mG_puts {dA : Nat → ClassId} {o : Nat} {ad : Nat → Nat} (s : Sg) {k : Nat} (h0 : mT k = 0) (v : Int) : va_up (mG dA o ad s) o (some (oI 0 ((mF ad s).set k (.int (iI v))))) = mG dA o ad (su s k 0 v) := by
  funext q
  by_cases hq : q = o
  · subst hq
    rw [va_up_self, mG_o, mF_set _ _ h0]
  · rw [va_up_ne _ _ hq]
    unfold mG
    rw [if_neg hq, if_neg hq]
    congr 1
    funext j
    by_cases hj : mT j ≠ 0 ∧ ad j = q
    · have hjk : j ≠ k := fun e => hj.1 (by rw [e]; exact h0)
      rw [if_pos hj, if_pos hj, mE, mE, su_ne _ _ _ hjk]
    · rw [if_neg hj, if_neg hj]
theorem mF_arr (ad : Nat → Nat) (s : Sg) {k : Nat} (h0 : mT k ≠ 0) (i v : Int) : mF ad (su s k i v) = mF ad s := by
  unfold mF
  congr 1
  funext j
  by_cases hj : mT j = 0
  · rw [if_pos hj, if_pos hj, su_ne _ _ _ (fun e => h0 (by rw [← e]; exact hj))]
  · rw [if_neg hj, if_neg hj]
theorem mG_puta {dA : Nat → ClassId} {o : Nat} {ad : Nat → Nat} (hk : mOk o ad) (s : Sg) {k : Nat} (h : k < 42) (h0 : mT k ≠ 0) (i v : Int) : va_up (mG dA o ad s) (ad k) (some (aI (mC dA k) (mLen k) (uZ (s k) i v))) = mG dA o ad (su s k i v) := by
  funext q
  by_cases hq : q = ad k
  · subst hq
    rw [va_up_self, mG_a hk _ h h0, mE, su_k]
  · rw [va_up_ne _ _ hq]
    unfold mG
    by_cases hqo : q = o
    · rw [if_pos hqo, if_pos hqo, mF_arr _ _ h0]
    · rw [if_neg hqo, if_neg hqo]
      congr 1
      funext j
      by_cases hj : mT j ≠ 0 ∧ ad j = q
      · have hjk : j ≠ k := fun e => hq (by rw [← hj.2, e])
        rw [if_pos hj, if_pos hj, mE, mE, su_ne _ _ _ hjk]
      · rw [if_neg hj, if_neg hj]
theorem mC_1 (dA : Nat → ClassId) {k : Nat} (h : mT k = 1) : mC dA k = dA 0 := by simp [mC, h]
theorem mC_2 (dA : Nat → ClassId) {k : Nat} (h : mT k = 2) : mC dA k = dA 2 := by simp [mC, h]
theorem mC_3 (dA : Nat → ClassId) {k : Nat} (h : mT k = 3) : mC dA k = dA 3 := by simp [mC, h]
def MQi (D : va_G) (dA : Nat → ClassId) (A : Nat → Prop) (o : Nat) (ad : Nat → Nat) (post : Int → Sg → Prop) : Array Value → State → Outcome → State → Prop := ZQi D clM A (fun z g => ∃ s : Sg, g = mG dA o ad s ∧ post z s)
def MQv (D : va_G) (dA : Nat → ClassId) (A : Nat → Prop) (o : Nat) (ad : Nat → Nat) (post : Sg → Prop) : Array Value → State → Outcome → State → Prop := ZQv D clM A (fun g => ∃ s : Sg, g = mG dA o ad s ∧ post s)
abbrev MP (D : va_G) (dA : Nat → ClassId) (A : Nat → Prop) (o : Nat) (ad : Nat → Nat) (av : List Value) (s : Sg) : Array Value → State → Prop := ZP D clM dA A (fun _ _ => True) av (mG dA o ad s)
abbrev MC (D : va_G) (dA : Nat → ClassId) (A : Nat → Prop) (p : Program) (s : State) (m : MethodId) (args : Array Value) (meth : Method) (c : Code) (cc : ByteArray) (nL : Nat) : Prop := ZC D clM dA A (fun _ _ => True) p s m args meth c cc nL RX3
abbrev MH (D : va_G) (dA : Nat → ClassId) (A : Nat → Prop) (o : Nat) (ad : Nat → Nat) (s : Sg) (H : Heap) : Prop := HP D clM A (mG dA o ad s) H
section MROWS
variable {D : va_G} {dA : Nat → ClassId} {A : Nat → Prop} {o : Nat} {ad : Nat → Nat}
variable {p : Program} {l : Launch} {e : Env} {R : Room} {s : State} {m : MethodId} {args : Array Value} {below : List Frame} {meth : Method} {c : Code} {H : Heap} {locs : List Loc} {cells slots : Nat} {Q : State → Prop}
variable {cc : ByteArray} {nL : Nat} {pc : Nat} {ls : Array Slot} {rest st0 : List Value} {σ : Sg} {mc ms : Nat}
theorem m_gets (C : MC D dA A p s m args meth c cc nL) (hH : MH D dA A o ad σ H) {index : Nat} (k : Nat) (hk : k < 42 ∧ mT k = 0) (hq : (Cond.fieldLink RX3 index RX3 (TX3 k).2.1 (TX3 k).2.2.1) ∈ lw_all) (hone : (TX3 k).1 = RX3) (hdg : decode cc pc = .ok (.getfield index, 3)) (kk : W p l e R s m args below meth c H locs cells slots Q (F0 m (pc + 3) ls (.int (iI (σ k 0)) :: rest))) : W p l e R s m args below meth c H locs cells slots Q (F0 m pc ls (.ref o :: rest)) :=
  z_get C hH (mG_o dA o ad σ) in_X3 (T := TX3) (N := 42) rfl k hk.1 hq (fun x h => by rw [hone] at h; exact h) (v := .int (iI (σ k 0))) (by rw [mF_at _ _ hk.1, if_pos hk.2]) hdg kk
theorem m_geta (C : MC D dA A p s m args meth c cc nL) (hH : MH D dA A o ad σ H) {index : Nat} (k : Nat) (hk : k < 42 ∧ mT k ≠ 0) (hq : (Cond.fieldLink RX3 index RX3 (TX3 k).2.1 (TX3 k).2.2.1) ∈ lw_all) (hone : (TX3 k).1 = RX3) (hdg : decode cc pc = .ok (.getfield index, 3)) (kk : W p l e R s m args below meth c H locs cells slots Q (F0 m (pc + 3) ls (.ref (ad k) :: rest))) : W p l e R s m args below meth c H locs cells slots Q (F0 m pc ls (.ref o :: rest)) :=
  z_get C hH (mG_o dA o ad σ) in_X3 (T := TX3) (N := 42) rfl k hk.1 hq (fun x h => by rw [hone] at h; exact h) (v := .ref (ad k)) (by rw [mF_at _ _ hk.1, if_neg hk.2]) hdg kk
theorem m_puts (C : MC D dA A p s m args meth c cc nL) (hH : MH D dA A o ad σ H) (hS : va_S A s.heap H locs) {index : Nat} (k : Nat) (hk : k < 42 ∧ mT k = 0) (hq : (Cond.fieldLink RX3 index RX3 (TX3 k).2.1 (TX3 k).2.2.1) ∈ lw_all) (hone : (TX3 k).1 = RX3) (hty : tyX3 k = .int ∧ (TX3 k).2.2.2 = false) {v : Int} (hdg : decode cc pc = .ok (.putfield index, 3)) (kk : ∀ (H1 : Heap) (locs1 : List Loc), MH D dA A o ad (su σ k 0 v) H1 → va_S A s.heap H1 locs1 → W p l e R s m args below meth c H1 locs1 cells slots Q (F0 m (pc + 3) ls rest)) : W p l e R s m args below meth c H locs cells slots Q (F0 m pc ls (.int (iI v) :: .ref o :: rest)) :=
  z_put C hH hS (mG_o dA o ad σ) in_X3 (T := TX3) (N := 42) tyX3_ok nmX3 rfl k hk.1 hq (fun x h => by rw [hone] at h; exact h) hty.2 (by rw [hty.1]; rfl) (by rw [hty.1]; rfl) (by rw [mF_len]; exact hk.1) hdg (fun H1 locs1 hH1 hS1 => kk H1 locs1 (by rw [mG_puts σ hk.2] at hH1; exact hH1) hS1)
theorem m_iald (C : MC D dA A p s m args meth c cc nL) (hk : mOk o ad) (hH : MH D dA A o ad σ H) (k : Nat) (ht : k < 42 ∧ mT k = 1) {i : Int} (hi : 0 ≤ i ∧ i < (mLen k : Int)) (hdg : decode cc pc = .ok (.iaload, 1)) (kk : W p l e R s m args below meth c H locs cells slots Q (F0 m (pc + 1) ls (.int (iI (σ k i)) :: rest))) : W p l e R s m args below meth c H locs cells slots Q (F0 m pc ls (.int (iI i) :: .ref (ad k) :: rest)) :=
  z_iald C hH (a := ad k) (n := mLen k) (f := σ k) (by rw [mG_a hk σ ht.1 (by rw [ht.2]; decide), mE, mC_1 dA ht.2]) hi (mLen_lt k) hdg kk
theorem m_bald (C : MC D dA A p s m args meth c cc nL) (hk : mOk o ad) (hH : MH D dA A o ad σ H) (k : Nat) (ht : k < 42 ∧ mT k = 2) {i : Int} (hi : 0 ≤ i ∧ i < (mLen k : Int)) (hdg : decode cc pc = .ok (.baload, 1)) (kk : W p l e R s m args below meth c H locs cells slots Q (F0 m (pc + 1) ls (.int (iI (σ k i)) :: rest))) : W p l e R s m args below meth c H locs cells slots Q (F0 m pc ls (.int (iI i) :: .ref (ad k) :: rest)) :=
  z_bald C hH (a := ad k) (n := mLen k) (f := σ k) (by rw [mG_a hk σ ht.1 (by rw [ht.2]; decide), mE, mC_2 dA ht.2]) hi (mLen_lt k) hdg kk
theorem m_zald (C : MC D dA A p s m args meth c cc nL) (hk : mOk o ad) (hH : MH D dA A o ad σ H) (k : Nat) (ht : k < 42 ∧ mT k = 3) {i : Int} (hi : 0 ≤ i ∧ i < (mLen k : Int)) (hdg : decode cc pc = .ok (.baload, 1)) (kk : W p l e R s m args below meth c H locs cells slots Q (F0 m (pc + 1) ls (.int (iI (σ k i)) :: rest))) : W p l e R s m args below meth c H locs cells slots Q (F0 m pc ls (.int (iI i) :: .ref (ad k) :: rest)) :=
  z_zald C hH (a := ad k) (n := mLen k) (f := σ k) (by rw [mG_a hk σ ht.1 (by rw [ht.2]; decide), mE, mC_3 dA ht.2]) hi (mLen_lt k) hdg kk
theorem m_iast (C : MC D dA A p s m args meth c cc nL) (hk : mOk o ad) (hH : MH D dA A o ad σ H) (hS : va_S A s.heap H locs) (k : Nat) (ht : k < 42 ∧ mT k = 1) {i v : Int} (hi : 0 ≤ i ∧ i < (mLen k : Int)) (hdg : decode cc pc = .ok (.iastore, 1)) (kk : ∀ (H1 : Heap) (locs1 : List Loc), MH D dA A o ad (su σ k i v) H1 → va_S A s.heap H1 locs1 → W p l e R s m args below meth c H1 locs1 cells slots Q (F0 m (pc + 1) ls rest)) : W p l e R s m args below meth c H locs cells slots Q (F0 m pc ls (.int (iI v) :: .int (iI i) :: .ref (ad k) :: rest)) :=
  z_iast C hH hS (a := ad k) (n := mLen k) (f := σ k) (by rw [mG_a hk σ ht.1 (by rw [ht.2]; decide), mE, mC_1 dA ht.2]) hi (mLen_lt k) hdg (fun H1 locs1 hH1 hS1 => kk H1 locs1 (by rw [← mC_1 dA ht.2, mG_puta hk σ ht.1 (by rw [ht.2]; decide)] at hH1; exact hH1) hS1)
theorem m_bast (C : MC D dA A p s m args meth c cc nL) (hk : mOk o ad) (hH : MH D dA A o ad σ H) (hS : va_S A s.heap H locs) (k : Nat) (ht : k < 42 ∧ mT k = 2) {i v : Int} (hi : 0 ≤ i ∧ i < (mLen k : Int)) (hv : -128 ≤ v ∧ v < 128) (hdg : decode cc pc = .ok (.bastore, 1)) (kk : ∀ (H1 : Heap) (locs1 : List Loc), MH D dA A o ad (su σ k i v) H1 → va_S A s.heap H1 locs1 → W p l e R s m args below meth c H1 locs1 cells slots Q (F0 m (pc + 1) ls rest)) : W p l e R s m args below meth c H locs cells slots Q (F0 m pc ls (.int (iI v) :: .int (iI i) :: .ref (ad k) :: rest)) :=
  z_bast C hH hS (a := ad k) (n := mLen k) (f := σ k) (by rw [mG_a hk σ ht.1 (by rw [ht.2]; decide), mE, mC_2 dA ht.2]) hi (mLen_lt k) hv hdg (fun H1 locs1 hH1 hS1 => kk H1 locs1 (by rw [← mC_2 dA ht.2, mG_puta hk σ ht.1 (by rw [ht.2]; decide)] at hH1; exact hH1) hS1)
theorem m_zast (C : MC D dA A p s m args meth c cc nL) (hk : mOk o ad) (hH : MH D dA A o ad σ H) (hS : va_S A s.heap H locs) (k : Nat) (ht : k < 42 ∧ mT k = 3) {i v : Int} (hi : 0 ≤ i ∧ i < (mLen k : Int)) (hv : narrow .boolean (.int (iI v)) = .int (iI v)) (hdg : decode cc pc = .ok (.bastore, 1)) (kk : ∀ (H1 : Heap) (locs1 : List Loc), MH D dA A o ad (su σ k i v) H1 → va_S A s.heap H1 locs1 → W p l e R s m args below meth c H1 locs1 cells slots Q (F0 m (pc + 1) ls rest)) : W p l e R s m args below meth c H locs cells slots Q (F0 m pc ls (.int (iI v) :: .int (iI i) :: .ref (ad k) :: rest)) :=
  z_zast C hH hS (a := ad k) (n := mLen k) (f := σ k) (by rw [mG_a hk σ ht.1 (by rw [ht.2]; decide), mE, mC_3 dA ht.2]) hi (mLen_lt k) hv hdg (fun H1 locs1 hH1 hS1 => kk H1 locs1 (by rw [← mC_3 dA ht.2, mG_puta hk σ ht.1 (by rw [ht.2]; decide)] at hH1; exact hH1) hS1)
theorem m_iret (C : MC D dA A p s m args meth c cc nL) {post : Int → Sg → Prop} (hr : meth.sig.returnType = some .int) (hH : MH D dA A o ad σ H) (hS : va_S A s.heap H locs) {z : Int} (hdg : decode cc pc = .ok (.ireturn, 1)) (hq : post z σ) : W p l e R s m args below meth c H locs 0 0 (MQ below (MQi D dA A o ad post) args s 0 0 A) (F0 m pc ls [.int (iI z)]) := z_iret C hr hH hS hdg (Nat.le_refl _) (Nat.le_refl _) ⟨σ, rfl, hq⟩
theorem m_zret (C : MC D dA A p s m args meth c cc nL) {post : Int → Sg → Prop} (hr : meth.sig.returnType = some .boolean) (hH : MH D dA A o ad σ H) (hS : va_S A s.heap H locs) {z : Int} (hz : z = 0 ∨ z = 1) (hdg : decode cc pc = .ok (.ireturn, 1)) (hq : post z σ) : W p l e R s m args below meth c H locs 0 0 (MQ below (MQi D dA A o ad post) args s 0 0 A) (F0 m pc ls [.int (iI z)]) := z_zret C hr hH hS hz hdg (Nat.le_refl _) (Nat.le_refl _) ⟨σ, rfl, hq⟩
theorem m_vret (C : MC D dA A p s m args meth c cc nL) {post : Sg → Prop} (hr : meth.sig.returnType = none) (hH : MH D dA A o ad σ H) (hS : va_S A s.heap H locs) (hdg : decode cc pc = .ok (.return_, 1)) (hq : post σ) : W p l e R s m args below meth c H locs 0 0 (MQ below (MQv D dA A o ad post) args s 0 0 A) (F0 m pc ls []) := z_vret C hr hH hS hdg (Nat.le_refl _) (Nat.le_refl _) ⟨σ, rfl, hq⟩
theorem m_getsZ (C : MC D dA A p s m args meth c cc nL) (hH : MH D dA A o ad σ H) {index : Nat} (k : Nat) (hk : k < 42 ∧ mT k = 0) (z : Int) (hz : σ k 0 = z) (hq : (Cond.fieldLink RX3 index RX3 (TX3 k).2.1 (TX3 k).2.2.1) ∈ lw_all) (hone : (TX3 k).1 = RX3) (hdg : decode cc pc = .ok (.getfield index, 3)) (kk : W p l e R s m args below meth c H locs cells slots Q (F0 m (pc + 3) ls (.int (iI z) :: rest))) : W p l e R s m args below meth c H locs cells slots Q (F0 m pc ls (.ref o :: rest)) :=
  m_gets C hH k hk hq hone hdg (hz ▸ kk)
theorem m_ialdZ (C : MC D dA A p s m args meth c cc nL) (hk : mOk o ad) (hH : MH D dA A o ad σ H) (k : Nat) (ht : k < 42 ∧ mT k = 1) (i z : Int) (hz : σ k i = z) (hi : 0 ≤ i ∧ i < (mLen k : Int)) (hdg : decode cc pc = .ok (.iaload, 1)) (kk : W p l e R s m args below meth c H locs cells slots Q (F0 m (pc + 1) ls (.int (iI z) :: rest))) : W p l e R s m args below meth c H locs cells slots Q (F0 m pc ls (.int (iI i) :: .ref (ad k) :: rest)) :=
  m_iald C hk hH k ht hi hdg (hz ▸ kk)
theorem z_topi {x : Int} (k : ∀ y : Int, y = x → W p l e R s m args below meth c H locs cells slots Q (F0 m pc ls (.int (iI y) :: rest))) : W p l e R s m args below meth c H locs cells slots Q (F0 m pc ls (.int (iI x) :: rest)) := k x rfl
theorem z_topr {x y : Int} (h : x = y) (k : W p l e R s m args below meth c H locs cells slots Q (F0 m pc ls (.int (iI y) :: rest))) : W p l e R s m args below meth c H locs cells slots Q (F0 m pc ls (.int (iI x) :: rest)) := h ▸ k
variable {y : MethodName} {bytes : ByteArray} {maxL n index : Nat} {ret : Option FieldType} {ws : List Cond} {rm : Room} {As : List Value}
theorem m_Vi (C : MC D dA A p s m args meth c cc nL) (hH : MH D dA A o ad σ H) (hS : va_S A s.heap H locs) {post : Int → Sg → Prop} (hM : Met l y ws rm (MP D dA A o ad (Value.ref o :: As) σ) (MQi D dA A o ad post) 0 0 A) (cw : CallW R s args RX3 RX3 index y bytes maxL ret ws rm 0 0 n) (hn : As.length = n) {nl : List (Nat × Value)} (hl : lv_has ls nL nl) (hst : st0 = As.reverse ++ .ref o :: rest) (hW : (rest.map fun v => v.category).sum ≤ 8) (hdg : decode cc pc = .ok (.invokevirtual index, 3)) (hf : cells + 0 ≤ R.cells ∧ slots + 0 ≤ R.slots)
    (kk : ∀ (r : Int) (σ1 : Sg) (H1 : Heap) (locs1 : List Loc), post r σ1 → MH D dA A o ad σ1 H1 → va_S A s.heap H1 locs1 → W p l e R s m args below meth c H1 locs1 cells slots Q (F0 m (pc + 3) ls (.int (iI r) :: rest))) : W p l e R s m args below meth c H locs cells slots Q (F0 m pc ls st0) :=
  z_calli (z_runV C hH hS hM cw (mG_o dA o ad σ) rfl hn hl hst hW hdg hf) hS (fun r g1 H1 locs1 hp hB hS1 => by obtain ⟨σ1, rfl, hp⟩ := hp; exact kk r σ1 H1 locs1 hp hB hS1)
theorem m_Vv (C : MC D dA A p s m args meth c cc nL) (hH : MH D dA A o ad σ H) (hS : va_S A s.heap H locs) {post : Sg → Prop} (hM : Met l y ws rm (MP D dA A o ad (Value.ref o :: As) σ) (MQv D dA A o ad post) 0 0 A) (cw : CallW R s args RX3 RX3 index y bytes maxL ret ws rm 0 0 n) (hn : As.length = n) {nl : List (Nat × Value)} (hl : lv_has ls nL nl) (hst : st0 = As.reverse ++ .ref o :: rest) (hW : (rest.map fun v => v.category).sum ≤ 8) (hdg : decode cc pc = .ok (.invokevirtual index, 3)) (hf : cells + 0 ≤ R.cells ∧ slots + 0 ≤ R.slots)
    (kk : ∀ (σ1 : Sg) (H1 : Heap) (locs1 : List Loc), post σ1 → MH D dA A o ad σ1 H1 → va_S A s.heap H1 locs1 → W p l e R s m args below meth c H1 locs1 cells slots Q (F0 m (pc + 3) ls rest)) : W p l e R s m args below meth c H locs cells slots Q (F0 m pc ls st0) :=
  z_callv (z_runV C hH hS hM cw (mG_o dA o ad σ) rfl hn hl hst hW hdg hf) hS (fun g1 H1 locs1 hp hB hS1 => by obtain ⟨σ1, rfl, hp⟩ := hp; exact kk σ1 H1 locs1 hp hB hS1)
theorem m_Si (C : MC D dA A p s m args meth c cc nL) (hH : MH D dA A o ad σ H) (hS : va_S A s.heap H locs) {post : Int → Sg → Prop} (hM : Met l y ws rm (MP D dA A o ad As σ) (MQi D dA A o ad post) 0 0 A) (cw : CallB R s args RX3 index y bytes maxL ret ws rm 0 0 n ∧ (Cond.static y).before args s = true) (hn : As.length = n) {nl : List (Nat × Value)} (hl : lv_has ls nL nl) (hst : st0 = As.reverse ++ rest) (hW : (rest.map fun v => v.category).sum ≤ 8) (hdg : decode cc pc = .ok (.invokestatic index, 3)) (hf : cells + 0 ≤ R.cells ∧ slots + 0 ≤ R.slots)
    (kk : ∀ (r : Int) (σ1 : Sg) (H1 : Heap) (locs1 : List Loc), post r σ1 → MH D dA A o ad σ1 H1 → va_S A s.heap H1 locs1 → W p l e R s m args below meth c H1 locs1 cells slots Q (F0 m (pc + 3) ls (.int (iI r) :: rest))) : W p l e R s m args below meth c H locs cells slots Q (F0 m pc ls st0) :=
  z_calli (z_runS C hH hS hM cw hn hl hst hW hdg hf) hS (fun r g1 H1 locs1 hp hB hS1 => by obtain ⟨σ1, rfl, hp⟩ := hp; exact kk r σ1 H1 locs1 hp hB hS1)
theorem m_Sv (C : MC D dA A p s m args meth c cc nL) (hH : MH D dA A o ad σ H) (hS : va_S A s.heap H locs) {post : Sg → Prop} (hM : Met l y ws rm (MP D dA A o ad As σ) (MQv D dA A o ad post) 0 0 A) (cw : CallB R s args RX3 index y bytes maxL ret ws rm 0 0 n ∧ (Cond.static y).before args s = true) (hn : As.length = n) {nl : List (Nat × Value)} (hl : lv_has ls nL nl) (hst : st0 = As.reverse ++ rest) (hW : (rest.map fun v => v.category).sum ≤ 8) (hdg : decode cc pc = .ok (.invokestatic index, 3)) (hf : cells + 0 ≤ R.cells ∧ slots + 0 ≤ R.slots)
    (kk : ∀ (σ1 : Sg) (H1 : Heap) (locs1 : List Loc), post σ1 → MH D dA A o ad σ1 H1 → va_S A s.heap H1 locs1 → W p l e R s m args below meth c H1 locs1 cells slots Q (F0 m (pc + 3) ls rest)) : W p l e R s m args below meth c H locs cells slots Q (F0 m pc ls st0) :=
  z_callv (z_runS C hH hS hM cw hn hl hst hW hdg hf) hS (fun g1 H1 locs1 hp hB hS1 => by obtain ⟨σ1, rfl, hp⟩ := hp; exact kk σ1 H1 locs1 hp hB hS1)
theorem m_ViF (C : MC D dA A p s m args meth c cc nL) (hH : MH D dA A o ad σ H) (hS : va_S A s.heap H locs) {S1 : Sg} {Z1 : Int} (hM : Met l y ws rm (MP D dA A o ad (Value.ref o :: As) σ) (MQi D dA A o ad (fun r σ' => σ' = S1 ∧ r = Z1)) 0 0 A) (cw : CallW R s args RX3 RX3 index y bytes maxL ret ws rm 0 0 n) (hn : As.length = n) {nl : List (Nat × Value)} (hl : lv_has ls nL nl) (hst : st0 = As.reverse ++ .ref o :: rest) (hW : (rest.map fun v => v.category).sum ≤ 8) (hdg : decode cc pc = .ok (.invokevirtual index, 3)) (hf : cells + 0 ≤ R.cells ∧ slots + 0 ≤ R.slots)
    (kk : ∀ (H1 : Heap) (locs1 : List Loc), MH D dA A o ad S1 H1 → va_S A s.heap H1 locs1 → W p l e R s m args below meth c H1 locs1 cells slots Q (F0 m (pc + 3) ls (.int (iI Z1) :: rest))) : W p l e R s m args below meth c H locs cells slots Q (F0 m pc ls st0) :=
  m_Vi C hH hS hM cw hn hl hst hW hdg hf (fun r σ1 H1 locs1 hp hB hS1 => by obtain ⟨h1, h2⟩ := hp; subst h1; subst h2; exact kk H1 locs1 hB hS1)
theorem m_VvF (C : MC D dA A p s m args meth c cc nL) (hH : MH D dA A o ad σ H) (hS : va_S A s.heap H locs) {S1 : Sg} (hM : Met l y ws rm (MP D dA A o ad (Value.ref o :: As) σ) (MQv D dA A o ad (fun σ' => σ' = S1)) 0 0 A) (cw : CallW R s args RX3 RX3 index y bytes maxL ret ws rm 0 0 n) (hn : As.length = n) {nl : List (Nat × Value)} (hl : lv_has ls nL nl) (hst : st0 = As.reverse ++ .ref o :: rest) (hW : (rest.map fun v => v.category).sum ≤ 8) (hdg : decode cc pc = .ok (.invokevirtual index, 3)) (hf : cells + 0 ≤ R.cells ∧ slots + 0 ≤ R.slots)
    (kk : ∀ (H1 : Heap) (locs1 : List Loc), MH D dA A o ad S1 H1 → va_S A s.heap H1 locs1 → W p l e R s m args below meth c H1 locs1 cells slots Q (F0 m (pc + 3) ls rest)) : W p l e R s m args below meth c H locs cells slots Q (F0 m pc ls st0) :=
  m_Vv C hH hS hM cw hn hl hst hW hdg hf (fun σ1 H1 locs1 hp hB hS1 => by have h1 : σ1 = S1 := hp; subst h1; exact kk H1 locs1 hB hS1)
theorem m_SiF (C : MC D dA A p s m args meth c cc nL) (hH : MH D dA A o ad σ H) (hS : va_S A s.heap H locs) {S1 : Sg} {Z1 : Int} (hM : Met l y ws rm (MP D dA A o ad As σ) (MQi D dA A o ad (fun r σ' => σ' = S1 ∧ r = Z1)) 0 0 A) (cw : CallB R s args RX3 index y bytes maxL ret ws rm 0 0 n ∧ (Cond.static y).before args s = true) (hn : As.length = n) {nl : List (Nat × Value)} (hl : lv_has ls nL nl) (hst : st0 = As.reverse ++ rest) (hW : (rest.map fun v => v.category).sum ≤ 8) (hdg : decode cc pc = .ok (.invokestatic index, 3)) (hf : cells + 0 ≤ R.cells ∧ slots + 0 ≤ R.slots)
    (kk : ∀ (H1 : Heap) (locs1 : List Loc), MH D dA A o ad S1 H1 → va_S A s.heap H1 locs1 → W p l e R s m args below meth c H1 locs1 cells slots Q (F0 m (pc + 3) ls (.int (iI Z1) :: rest))) : W p l e R s m args below meth c H locs cells slots Q (F0 m pc ls st0) :=
  m_Si C hH hS hM cw hn hl hst hW hdg hf (fun r σ1 H1 locs1 hp hB hS1 => by obtain ⟨h1, h2⟩ := hp; subst h1; subst h2; exact kk H1 locs1 hB hS1)
theorem m_SvF (C : MC D dA A p s m args meth c cc nL) (hH : MH D dA A o ad σ H) (hS : va_S A s.heap H locs) {S1 : Sg} (hM : Met l y ws rm (MP D dA A o ad As σ) (MQv D dA A o ad (fun σ' => σ' = S1)) 0 0 A) (cw : CallB R s args RX3 index y bytes maxL ret ws rm 0 0 n ∧ (Cond.static y).before args s = true) (hn : As.length = n) {nl : List (Nat × Value)} (hl : lv_has ls nL nl) (hst : st0 = As.reverse ++ rest) (hW : (rest.map fun v => v.category).sum ≤ 8) (hdg : decode cc pc = .ok (.invokestatic index, 3)) (hf : cells + 0 ≤ R.cells ∧ slots + 0 ≤ R.slots)
    (kk : ∀ (H1 : Heap) (locs1 : List Loc), MH D dA A o ad S1 H1 → va_S A s.heap H1 locs1 → W p l e R s m args below meth c H1 locs1 cells slots Q (F0 m (pc + 3) ls rest)) : W p l e R s m args below meth c H locs cells slots Q (F0 m pc ls st0) :=
  m_Sv C hH hS hM cw hn hl hst hW hdg hf (fun σ1 H1 locs1 hp hB hS1 => by have h1 : σ1 = S1 := hp; subst h1; exact kk H1 locs1 hB hS1)
end MROWS
theorem z_tsIn {D : va_G} {cl : List vw_C} {dA : Nat → ClassId} {A : Nat → Prop} {X : State → Heap → Prop} {p : Program} {l : Launch} {e : Env} {R : Room} {s : State} {m : MethodId} {args : Array Value} {below : List Frame} {meth : Method} {c : Code} {H : Heap} {locs : List Loc} {cells slots : Nat} {Q : State → Prop} {cc : ByteArray} {nL : Nat} {own : String} {pc : Nat} {ls : Array Slot} {rest : List Value} (C : ZC D cl dA A X p s m args meth c cc nL own) {x z : Int} (hx : x = z) {dflt lo hi : Int} {offs : Array Int} {len : Nat} {off : Int} {tgt : Nat} (hdg : decode cc pc = .ok (.tableswitch dflt lo hi offs, len)) (hr : decide (zR z ∧ lo ≤ z ∧ z ≤ hi) = true) (ho : offs[(z - lo).toNat]? = some off) (ht : (pc : Int) + off = (tgt : Int)) (k : W p l e R s m args below meth c H locs cells slots Q (F0 m tgt ls rest)) : W p l e R s m args below meth c H locs cells slots Q (F0 m pc ls (.int (iI x) :: rest)) := by
  subst hx
  have hr := of_decide_eq_true hr
  exact lv_tableIn C.1.1 C.1.2.1 hdg (by rw [iI_toInt hr.1]; omega) (by rw [iI_toInt hr.1]; omega) (by rw [iI_toInt hr.1]; exact ho) ht k
theorem z_tsOut {D : va_G} {cl : List vw_C} {dA : Nat → ClassId} {A : Nat → Prop} {X : State → Heap → Prop} {p : Program} {l : Launch} {e : Env} {R : Room} {s : State} {m : MethodId} {args : Array Value} {below : List Frame} {meth : Method} {c : Code} {H : Heap} {locs : List Loc} {cells slots : Nat} {Q : State → Prop} {cc : ByteArray} {nL : Nat} {own : String} {pc : Nat} {ls : Array Slot} {rest : List Value} (C : ZC D cl dA A X p s m args meth c cc nL own) {x : Int} {dflt lo hi : Int} {offs : Array Int} {len : Nat} {tgt : Nat} (hdg : decode cc pc = .ok (.tableswitch dflt lo hi offs, len)) (hr : zR x) (h : x < lo ∨ hi < x) (ht : (pc : Int) + dflt = (tgt : Int)) (k : W p l e R s m args below meth c H locs cells slots Q (F0 m tgt ls rest)) : W p l e R s m args below meth c H locs cells slots Q (F0 m pc ls (.int (iI x) :: rest)) :=
  lv_tableOut C.1.1 C.1.2.1 hdg (by rw [iI_toInt hr]; exact h) ht k
