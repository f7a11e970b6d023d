/-! the reference's constructor: its object with some of its rows made -/
def cF (ad : Nat → Nat) (s : Sg) (d : Nat → Bool) : List Value := (List.range 42).map fun k => if mT k = 0 then Value.int (iI (s k 0)) else if d k = true then .ref (ad k) else .null
theorem cF_len (ad : Nat → Nat) (s : Sg) (d : Nat → Bool) : (cF ad s d).length = 42 := by simp [cF]
theorem cF_at (ad : Nat → Nat) (s : Sg) (d : Nat → Bool) {k : Nat} (hk : k < 42) : (cF ad s d)[k]? = some (if mT k = 0 then Value.int (iI (s k 0)) else if d k = true then .ref (ad k) else .null) := by simp [cF, hk]
def upB (d : Nat → Bool) (k : Nat) : Nat → Bool := fun j => if j = k then true else d j
def upA (ad : Nat → Nat) (k q : Nat) : Nat → Nat := fun j => if j = k then q else ad j
theorem cF_new {ad : Nat → Nat} {s : Sg} {d : Nat → Bool} {k q : Nat} {f : Int → Int} (hk : k < 42) (h0 : mT k ≠ 0) : (cF ad s d).set k (.ref q) = cF (upA ad k q) (sa s k f) (upB d k) := by
  apply List.ext_getElem?
  intro j
  by_cases hj : j < 42
  · rw [cF_at _ _ _ hj, List.getElem?_set]
    by_cases hjk : k = j
    · subst hjk
      rw [if_pos rfl, if_pos (by rw [cF_len]; exact hj), if_neg h0]
      unfold upB upA
      rw [if_pos rfl, if_pos rfl, if_pos rfl]
    · rw [if_neg hjk, cF_at _ _ _ hj, sa_ne _ _ (Ne.symm hjk)]
      unfold upB upA
      rw [if_neg (Ne.symm hjk), if_neg (Ne.symm hjk)]
  · rw [List.getElem?_eq_none (by rw [List.length_set, cF_len]; omega), List.getElem?_eq_none (by rw [cF_len]; omega)]
theorem cF_num {ad : Nat → Nat} {s : Sg} {d : Nat → Bool} {k : Nat} (h0 : mT k = 0) (v : Int) : (cF ad s d).set k (.int (iI v)) = cF ad (su s k 0 v) d := by
  apply List.ext_getElem?
  intro j
  by_cases hj : j < 42
  · rw [cF_at _ _ _ hj, List.getElem?_set]
    by_cases hjk : k = j
    · subst hjk
      rw [if_pos rfl, if_pos (by rw [cF_len]; exact hj), if_pos h0, su_self]
    · rw [if_neg hjk, cF_at _ _ _ hj, su_ne _ _ _ (Ne.symm hjk)]
  · rw [List.getElem?_eq_none (by rw [List.length_set, cF_len]; omega), List.getElem?_eq_none (by rw [cF_len]; omega)]
/-- the object and the rows made so far -/
def CP (dA : Nat → ClassId) (o : Nat) (ad : Nat → Nat) (s : Sg) (d : Nat → Bool) (g : Gm) : Prop :=
  g o = some (oI 0 (cF ad s d)) ∧ (∀ k, k < 42 → mT k ≠ 0 → d k = true → ad k ≠ o ∧ g (ad k) = some (mE dA k s)) ∧ ∀ j k, j < 42 → k < 42 → mT j ≠ 0 → mT k ≠ 0 → d j = true → d k = true → ad j = ad k → j = k
/-- an address apart from those -/
def CN (o : Nat) (ad : Nat → Nat) (d : Nat → Bool) (q : Nat) : Prop := q ≠ o ∧ ∀ k, k < 42 → mT k ≠ 0 → d k = true → ad k ≠ q
theorem CP.apart {dA : Nat → ClassId} {o : Nat} {ad : Nat → Nat} {s : Sg} {d : Nat → Bool} {g : Gm} (h : CP dA o ad s d g) {q : Nat} (hq : g q = none) : CN o ad d q :=
  ⟨(fun e => by rw [e, h.1] at hq; cases hq), fun k a b c e => by have := (h.2.1 k a b c).2; rw [e, hq] at this; cases this⟩
theorem CP.side {dA : Nat → ClassId} {o : Nat} {ad : Nat → Nat} {s : Sg} {d : Nat → Bool} {g : Gm} (h : CP dA o ad s d g) {q : Nat} (hq : CN o ad d q) (e : Option va_E) : CP dA o ad s d (va_up g q e) :=
  ⟨by rw [va_up_ne _ _ (Ne.symm hq.1)]; exact h.1, fun k a b c => ⟨(h.2.1 k a b c).1, by rw [va_up_ne _ _ (hq.2 k a b c)]; exact (h.2.1 k a b c).2⟩, h.2.2⟩
theorem CP.link {dA : Nat → ClassId} {o : Nat} {ad : Nat → Nat} {s : Sg} {d : Nat → Bool} {g : Gm} (h : CP dA o ad s d g) {q k : Nat} {f : Int → Int} (hq : CN o ad d q) (hk : k < 42) (h0 : mT k ≠ 0) (hd : d k = false) (hg : g q = some (aI (mC dA k) (mLen k) f)) : CP dA o (upA ad k q) (sa s k f) (upB d k) (va_up g o (some (oI 0 ((cF ad s d).set k (.ref q))))) := by
  refine ⟨by rw [va_up_self, cF_new hk h0], fun j a b c => ?_, fun i j a b a2 b2 c e he => ?_⟩
  · by_cases hjk : j = k
    · subst hjk
      unfold upA mE
      rw [if_pos rfl, va_up_ne _ _ hq.1, sa_k]
      exact ⟨hq.1, hg⟩
    · have c2 : d j = true := by unfold upB at c; rw [if_neg hjk] at c; exact c
      unfold upA mE
      rw [if_neg hjk, va_up_ne _ _ (h.2.1 j a b c2).1, sa_ne _ _ hjk]
      exact h.2.1 j a b c2
  · unfold upA at he
    unfold upB at c e
    by_cases hik : i = k
    · by_cases hjk : j = k
      · rw [hik, hjk]
      · rw [if_pos hik, if_neg hjk] at he
        rw [if_neg hjk] at e
        exact absurd he.symm (hq.2 j b b2 e)
    · by_cases hjk : j = k
      · rw [if_neg hik, if_pos hjk] at he
        rw [if_neg hik] at c
        exact absurd he (hq.2 i a a2 c)
      · rw [if_neg hik, if_neg hjk] at he
        rw [if_neg hik] at c
        rw [if_neg hjk] at e
        exact h.2.2 i j a b a2 b2 c e he
theorem CP.num {dA : Nat → ClassId} {o : Nat} {ad : Nat → Nat} {s : Sg} {d : Nat → Bool} {g : Gm} (h : CP dA o ad s d g) {k : Nat} (h0 : mT k = 0) (v : Int) : CP dA o ad (su s k 0 v) d (va_up g o (some (oI 0 ((cF ad s d).set k (.int (iI v)))))) := by
  refine ⟨by rw [va_up_self, cF_num h0], fun j a b c => ?_, h.2.2⟩
  have hjk : j ≠ k := fun e => b (by rw [e]; exact h0)
  unfold mE
  rw [va_up_ne _ _ (h.2.1 j a b c).1, su_ne _ _ _ hjk]
  exact h.2.1 j a b c
theorem cF_full (ad : Nat → Nat) (s : Sg) {d : Nat → Bool} (hd : ∀ k, k < 42 → mT k ≠ 0 → d k = true) : cF ad s d = mF ad s := by
  apply List.ext_getElem?
  intro j
  by_cases hj : j < 42
  · rw [cF_at _ _ _ hj, mF_at _ _ hj]
    by_cases h0 : mT j = 0
    · rw [if_pos h0, if_pos h0]
    · rw [if_neg h0, if_neg h0, if_pos (hd j hj h0)]
  · rw [List.getElem?_eq_none (by rw [cF_len]; omega), List.getElem?_eq_none (by rw [mF_len]; omega)]
theorem CP.done {dA : Nat → ClassId} {o : Nat} {ad : Nat → Nat} {s : Sg} {d : Nat → Bool} {g : Gm} (h : CP dA o ad s d g) (hd : ∀ k, k < 42 → mT k ≠ 0 → d k = true) : mOk o ad ∧ ∀ a e, mG dA o ad s a = some e → g a = some e := by
  have hOk : mOk o ad := ⟨fun k a b => (h.2.1 k a b (hd k a b)).1, fun j k a b a2 b2 e => h.2.2 j k a b a2 b2 (hd j a a2) (hd k b b2) e⟩
  refine ⟨hOk, fun a e he => ?_⟩
  unfold mG at he
  by_cases ho : a = o
  · rw [if_pos ho] at he
    cases he
    rw [ho, h.1, cF_full _ _ hd]
  · rw [if_neg ho] at he
    obtain ⟨k, hk, hk2⟩ := List.exists_of_findSome?_eq_some he
    have hk := List.mem_range.mp hk
    by_cases hc : mT k ≠ 0 ∧ ad k = a
    · rw [if_pos hc] at hk2
      cases hk2
      rw [← hc.2]; exact (h.2.1 k hk hc.1 (hd k hk hc.1)).2
    · rw [if_neg hc] at hk2; cases hk2
