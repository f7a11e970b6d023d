/-! edits of pages; the rows of earlier pages -/
theorem PgAt.congr {f g : Int → Int} {P : Pg} (ho : PgOk P) (h : PgAt f P) (e : ∀ j, 0 ≤ j → j < 828 → g j = f j) : PgAt g P := by
  obtain ⟨o1, o2, o3, -⟩ := ho
  obtain ⟨h1, h2, h3, h4, h5⟩ := h
  refine ⟨by rw [e 0 (by omega) (by omega)]; exact h1, by rw [e 1 (by omega) (by omega)]; exact h2, fun i a b => ?_, fun i a b => ?_, fun l k a b c d => ?_⟩
  · rw [e _ (by omega) (by omega)]; exact h3 i a b
  · rw [e _ (by omega) (by omega)]; exact h4 i a b
  · rw [e _ (by omega) (by omega)]; exact h5 l k a b c d
def UAt (f : Int → Int) (L : List Pg) : Prop := ∀ (i : Nat) (Q : Pg), L[i]? = some Q → PgAt (fun j => f (828 * (i : Int) + j)) Q
def pkL (L : List Pg) (P : Pg) : List Pg := (if L.length = 10 then L.drop 1 else L) ++ [P]
theorem pkL_len (L : List Pg) (P : Pg) (h : L.length ≤ 10) : (pkL L P).length ≤ 10 := by
  unfold pkL
  split
  · simp; omega
  · simp; omega
theorem pkL_ok {L : List Pg} {P : Pg} (h : ∀ Q ∈ L, PgOk Q) (hP : PgOk P) : ∀ Q ∈ pkL L P, PgOk Q := by
  intro Q hQ
  unfold pkL at hQ
  rcases List.mem_append.mp hQ with h1 | h1
  · split at h1
    · exact h Q (List.mem_of_mem_drop h1)
    · exact h Q h1
  · rw [List.mem_singleton.mp h1]; exact hP
theorem UAt.push {g f : Int → Int} {L : List Pg} {P : Pg} (h : UAt g L) (hL : ∀ Q ∈ L, PgOk Q) (hP : PgAt f P) (ho : PgOk P) : UAt (wr (fun j => f (0 + (j - 828 * (L.length : Int)))) g (828 * (L.length : Int)) (828 * (L.length : Int) + 828)) (L ++ [P]) := by
  intro i Q hQ
  by_cases hi : i < L.length
  · rw [List.getElem?_append_left hi] at hQ
    refine PgAt.congr (hL Q (List.mem_of_getElem? hQ)) (h i Q hQ) fun j a b => ?_
    rw [wr_out _ _ (by omega)]
  · rw [List.getElem?_append_right (by omega)] at hQ
    have hz : i - L.length < 1 := (List.getElem?_eq_some_iff.mp hQ).1
    have hi2 : i = L.length := by omega
    subst hi2
    rw [Nat.sub_self] at hQ
    cases hQ
    refine PgAt.congr ho hP fun j a b => ?_
    rw [wr_in _ _ (by omega) (by omega)]
    congr 1; omega
theorem UAt.shift {g : Int → Int} {L : List Pg} (h : UAt g L) (hL : ∀ Q ∈ L, PgOk Q) (hl : L.length = 10) : UAt (wr (fun j => g (j + 828)) g 0 7452) (L.drop 1) := by
  intro i Q hQ
  rw [List.getElem?_drop] at hQ
  have hz : 1 + i < L.length := (List.getElem?_eq_some_iff.mp hQ).1
  refine PgAt.congr (hL Q (List.mem_of_getElem? hQ)) (h (1 + i) Q hQ) fun j a b => ?_
  rw [wr_in _ _ (by omega) (by omega)]
  congr 1; omega
def MIv (s : Sg) (P : Pg) (L : List Pg) : Prop := PgAt (s 1) P ∧ PgOk P ∧ UAt (s 3) L ∧ s 4 0 = (L.length : Int) ∧ L.length ≤ 10 ∧ ∀ Q ∈ L, PgOk Q
theorem MIv.keep {s s' : Sg} {P : Pg} {L : List Pg} (h : MIv s P L) (h1 : s' 1 = s 1) (h3 : s' 3 = s 3) (h4 : s' 4 = s 4) : MIv s' P L := by
  unfold MIv; rw [h1, h3, h4]; exact h
abbrev eBits (P : Pg) (B : List Nat) : Pg := (P.1, P.2.1, P.2.2.1, B)
def eSet (P : Pg) (k v : Int) : Pg := (P.1, uZ P.2.1 k v, P.2.2.1, P.2.2.2)
def eLose (P : Pg) (l t : Int) : Pg := (P.1, P.2.1, uZ P.2.2.1 l t, P.2.2.2)
def eAdd (P : Pg) (f t : Int) : Pg := eBits P (pB P ++ [bI (pW P) (fun k => decide (f ≤ k ∧ k < t))])
def eLn (P : Pg) (l : Int) (b : Int → Bool) : Pg := eBits P ((pB P).set l.toNat (bI (pW P) b))
def pntF (P : Pg) (l f t c : Int) (k : Int) : Bool := decide (if f ≤ k ∧ k < t then c = 1 else lnZ P l k = 1)
def shfF (P : Pg) (l b : Int) (k : Int) : Bool := decide ((0 ≤ k - b ∧ k - b ≤ pW P - 1) ∧ lnZ P l (k - b) = 1)
def invF (P : Pg) (l : Int) (k : Int) : Bool := decide (lnZ P l k = 0)
def bitOf (P : Pg) (l : Int) : Nat := (pB P).getD l.toNat 0
def eCpy (P : Pg) (l t : Int) : Pg := eBits P ((pB P).insertIdx t.toNat (bitOf P l))
def eRem (P : Pg) (l : Int) : Pg := eBits P ((pB P).eraseIdx l.toNat)
def eSwp (P : Pg) (a b : Int) : Pg := eBits P (((pB P).set a.toNat (bitOf P b)).set b.toNat (bitOf P a))
def pntZ (P : Pg) (l f t c : Int) : Int := cnt (fun k => if f ≤ k ∧ k < t ∧ lnZ P l k ≠ c then 1 else 0) (pW P)
def hiZ (k : Int) : Int := if k = 0 then 8 else if k = 1 ∨ k = 2 then 1 else if k = 3 then 9 else 99
def loK (k : Int) : Int := if k = 0 then 1 else 0
theorem lnZ_eLn {P : Pg} {l : Int} {b : Int → Bool} (h0 : 0 ≤ l) (h1 : l < pN P) {l2 : Int} (h2 : 0 ≤ l2) : lnZ (eLn P l b) l2 = if l2 = l then dz (bI (pW P) b) else lnZ P l2 := by
  have e : pN P = ((pB P).length : Int) := rfl
  have hl : l.toNat < (pB P).length := by omega
  unfold lnZ
  show dz (((pB P).set l.toNat (bI (pW P) b)).getD l2.toNat 0) = _
  rw [List.getD_eq_getElem?_getD, List.getElem?_set]
  by_cases hh : l2 = l
  · subst hh
    rw [if_pos rfl, if_pos hl, if_pos rfl]; rfl
  · rw [if_neg (by omega), if_neg hh, List.getD_eq_getElem?_getD]
theorem PgOk.bits {P : Pg} (h : PgOk P) {B : List Nat} (hl : (B.length : Int) ≤ 20) (hb : ∀ b ∈ B, b < 2 ^ (pW P).toNat) : PgOk (eBits P B) := by
  obtain ⟨h1, h2, h3, h4, h5, h6, h7, h8, h9, h10, h11⟩ := h
  exact ⟨h1, h2, hl, h4, h5, h6, h7, h8, h9, h10, hb⟩
theorem PgOk.set {P : Pg} (h : PgOk P) {k v : Int} (hk : 0 ≤ k ∧ k ≤ 5) (hv : loK k ≤ v ∧ v ≤ hiZ k) : PgOk (eSet P k v) := by
  obtain ⟨h1, h2, h3, h4, h5, h6, h7, h8, h9, h10, h11⟩ := h
  have key : ∀ i a b : Int, (a ≤ pS P i ∧ pS P i ≤ b) → (k = i → a ≤ v ∧ v ≤ b) → a ≤ pS (eSet P k v) i ∧ pS (eSet P k v) i ≤ b := by
    intro i a b ho hn
    show a ≤ uZ (pS P) k v i ∧ uZ (pS P) k v i ≤ b
    unfold uZ
    by_cases e : i = k
    · rw [if_pos e]; exact hn e.symm
    · rw [if_neg e]; exact ho
  unfold loK hiZ at hv
  refine ⟨h1, h2, h3, key 0 1 8 h4 fun e => ?_, key 1 0 1 h5 fun e => ?_, key 2 0 1 h6 fun e => ?_, key 3 0 9 h7 fun e => ?_, key 4 0 99 h8 fun e => ?_, key 5 0 99 h9 fun e => ?_, h10, h11⟩ <;> subst e <;> simp at hv <;> omega
theorem PgOk.lose {P : Pg} (h : PgOk P) {l t : Int} (hv : 0 ≤ t ∧ t ≤ 5) : PgOk (eLose P l t) := by
  obtain ⟨h1, h2, h3, h4, h5, h6, h7, h8, h9, h10, h11⟩ := h
  refine ⟨h1, h2, h3, h4, h5, h6, h7, h8, h9, fun i a b => ?_, h11⟩
  show 0 ≤ uZ (pL P) l t i ∧ uZ (pL P) l t i ≤ 5
  unfold uZ
  by_cases e : i = l
  · rw [if_pos e]; exact hv
  · rw [if_neg e]; exact h10 i a b
theorem bitOf_lt {P : Pg} (h : PgOk P) (l : Int) : bitOf P l < 2 ^ (pW P).toNat := by
  unfold bitOf
  rw [List.getD_eq_getElem?_getD]
  cases hq : (pB P)[l.toNat]? with
  | none => exact Nat.two_pow_pos _
  | some b => exact h.2.2.2.2.2.2.2.2.2.2 b (List.mem_of_getElem? hq)
theorem PgOk.ln {P : Pg} (h : PgOk P) (l : Int) (b : Int → Bool) : PgOk (eLn P l b) := by
  refine h.bits (by rw [List.length_set]; exact h.2.2.1) fun x hx => ?_
  rcases List.mem_or_eq_of_mem_set hx with e | e
  · exact h.2.2.2.2.2.2.2.2.2.2 x e
  · rw [e]; exact bI_lt _ _
theorem PgOk.add {P : Pg} (h : PgOk P) (hn : pN P < 20) (f t : Int) : PgOk (eAdd P f t) := by
  have e : pN P = ((pB P).length : Int) := rfl
  refine h.bits (by rw [List.length_append]; simp; omega) fun x hx => ?_
  rcases List.mem_append.mp hx with e | e
  · exact h.2.2.2.2.2.2.2.2.2.2 x e
  · rw [List.mem_singleton.mp e]; exact bI_lt _ _
theorem PgOk.cpy {P : Pg} (h : PgOk P) (hn : pN P < 20) (l : Int) {t : Int} (ht : 0 ≤ t ∧ t ≤ pN P) : PgOk (eCpy P l t) := by
  have e : pN P = ((pB P).length : Int) := rfl
  refine h.bits (by rw [List.length_insertIdx_of_le_length (by omega)]; omega) fun x hx => ?_
  rcases (List.mem_insertIdx (by omega)).mp hx with e | e
  · rw [e]; exact bitOf_lt h l
  · exact h.2.2.2.2.2.2.2.2.2.2 x e
theorem PgOk.rem {P : Pg} (h : PgOk P) (l : Int) : PgOk (eRem P l) := by
  have e : pN P = ((pB P).length : Int) := rfl
  have h3 := h.2.2.1
  have hle := List.length_eraseIdx_le (pB P) l.toNat
  refine h.bits (by omega) fun x hx => h.2.2.2.2.2.2.2.2.2.2 x (List.mem_of_mem_eraseIdx hx)
theorem PgOk.swp {P : Pg} (h : PgOk P) (a b : Int) : PgOk (eSwp P a b) := by
  refine h.bits (by rw [List.length_set, List.length_set]; exact h.2.2.1) fun x hx => ?_
  rcases List.mem_or_eq_of_mem_set hx with e | e
  · rcases List.mem_or_eq_of_mem_set e with e | e
    · exact h.2.2.2.2.2.2.2.2.2.2 x e
    · rw [e]; exact bitOf_lt h b
  · rw [e]; exact bitOf_lt h a
theorem cnt_0s {f : Int → Int} {a : Int} (h : ∀ k, 0 ≤ k → k < a → f k = 0) : cnt f a = 0 := by
  have e := cnt_congr (f := f) (g := fun _ => 0) h
  rw [e]
  unfold cnt
  induction a.toNat with
  | zero => rfl
  | succ n ih => unfold cnN; rw [ih]; rfl
theorem cnt_same {f : Int → Int} {a b : Int} (h0 : 0 ≤ a) (hab : a ≤ b) (h : ∀ k, a ≤ k → k < b → f k = 0) : cnt f b = cnt f a := by
  have key : ∀ n : Nat, a + n ≤ b → cnt f (a + n) = cnt f a := by
    intro n
    induction n with
    | zero => intro _; simp
    | succ n ih =>
      intro hn
      rw [show a + ((n + 1 : Nat) : Int) = a + n + 1 by omega, cnt_go _ (by omega), h _ (by omega) (by omega), ih (by omega)]; omega
  have := key (b - a).toNat (by omega)
  rw [show a + ((b - a).toNat : Int) = b by omega] at this
  exact this
/-- a row whose lines are new -/
theorem PgAt.bits {f g : Int → Int} {P : Pg} (h : PgAt f P) {B : List Nat} (e0 : ∀ j, 0 ≤ j → j < 28 → j ≠ 1 → g j = f j) (e1 : g 1 = (B.length : Int)) (el : ∀ l k, 0 ≤ l → l < (B.length : Int) → 0 ≤ k → k < pW P → g (28 + 40 * l + k) = dz (B.getD l.toNat 0) k) : PgAt g (eBits P B) := by
  obtain ⟨h1, h2, h3, h4, h5⟩ := h
  refine ⟨by rw [e0 0 (by omega) (by omega) (by omega)]; exact h1, e1, fun i a b => ?_, fun i a b => ?_, el⟩
  · rw [e0 _ (by omega) (by omega) (by omega)]; exact h3 i a b
  · rw [e0 _ (by omega) (by omega) (by omega)]; exact h4 i a b
theorem PgAt.ln {f g : Int → Int} {P : Pg} (ho : PgOk P) (h : PgAt f P) {l : Int} {b : Int → Bool} (h0 : 0 ≤ l) (h1 : l < pN P) (e0 : ∀ j, (j < 28 + 40 * l ∨ 28 + 40 * l + 40 ≤ j) → g j = f j) (el : ∀ k, 0 ≤ k → k < pW P → g (28 + 40 * l + k) = if b k then 1 else 0) : PgAt g (eLn P l b) := by
  obtain ⟨o1, o2, -⟩ := ho
  refine h.bits (fun j a c d => e0 j (by omega)) (by rw [e0 1 (by omega), h.2.1, List.length_set]) fun l2 k a c d q => ?_
  rw [List.length_set] at c
  have e := lnZ_eLn (P := P) (b := b) h0 h1 a
  show g _ = lnZ (eLn P l b) l2 k
  rw [e]
  by_cases hh : l2 = l
  · subst hh
    rw [if_pos rfl, el k d q, dz_bI d q]
  · rw [if_neg hh, e0 _ (by omega)]
    exact h.2.2.2.2 l2 k a c d q
theorem isSet_or (x v : Int) : ((if (0 ≤ x ∧ x ≤ 5) ∧ loK x ≤ v ∧ v ≤ hiZ x then (1 : Int) else 0) = 1 ∧ 0 ≤ x ∧ x ≤ 5 ∧ loK x ≤ v ∧ v ≤ hiZ x) ∨ ((if (0 ≤ x ∧ x ≤ 5) ∧ loK x ≤ v ∧ v ≤ hiZ x then (1 : Int) else 0) = 0 ∧ (x < 0 ∨ 5 < x ∨ v < loK x ∨ hiZ x < v)) := by
  by_cases h : (0 ≤ x ∧ x ≤ 5) ∧ loK x ≤ v ∧ v ≤ hiZ x
  · rw [if_pos h]; exact Or.inl ⟨rfl, h.1.1, h.1.2, h.2.1, h.2.2⟩
  · rw [if_neg h]; exact Or.inr ⟨rfl, by omega⟩
theorem isPart_or (f t w : Int) : ((if (0 ≤ f ∧ f ≤ w) ∧ f ≤ t ∧ t ≤ w then (1 : Int) else 0) = 1 ∧ 0 ≤ f ∧ f ≤ w ∧ f ≤ t ∧ t ≤ w) ∨ ((if (0 ≤ f ∧ f ≤ w) ∧ f ≤ t ∧ t ≤ w then (1 : Int) else 0) = 0 ∧ (f < 0 ∨ w < f ∨ t < f ∨ w < t)) := by
  by_cases h : (0 ≤ f ∧ f ≤ w) ∧ f ≤ t ∧ t ≤ w
  · rw [if_pos h]; exact Or.inl ⟨rfl, h.1.1, h.1.2, h.2.1, h.2.2⟩
  · rw [if_neg h]; exact Or.inr ⟨rfl, by omega⟩
theorem hiZ_in (k : Int) : 1 ≤ hiZ k ∧ hiZ k ≤ 99 := by
  unfold hiZ
  by_cases h : k = 0
  · rw [if_pos h]; decide
  · rw [if_neg h]
    by_cases h1 : k = 1 ∨ k = 2
    · rw [if_pos h1]; decide
    · rw [if_neg h1]
      by_cases h2 : k = 3
      · rw [if_pos h2]; decide
      · rw [if_neg h2]; decide
