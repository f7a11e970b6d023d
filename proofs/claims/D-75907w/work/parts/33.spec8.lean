/-! texts, slots, outputs -/
def TxAt (s : Sg) (tx : Int → Int) (n : Int) : Prop := s 32 0 = n ∧ (0 ≤ n ∧ n ≤ 900) ∧ (∀ j, 0 ≤ j → j < n → s 31 j = tx j) ∧ ∀ j, -128 ≤ tx j ∧ tx j < 128
def txA (tx : Int → Int) (n x : Int) : Int → Int := fun j => if n ≤ j then byB (shB x (24 - 8 * (j - n))) else tx j
theorem txA_in {tx : Int → Int} {n x : Int} (h : ∀ j, -128 ≤ tx j ∧ tx j < 128) (j : Int) : -128 ≤ txA tx n x j ∧ txA tx n x j < 128 := by
  unfold txA
  split
  · exact byB_in _
  · exact h j
theorem TxAt.fr {s s' : Sg} {tx : Int → Int} {n : Int} (h : TxAt s tx n) (h1 : s' 31 = s 31) (h2 : s' 32 = s 32) : TxAt s' tx n := by
  unfold TxAt; rw [h1, h2]; exact h
/-- the two slots -/
def SvAt (s : Sg) (V : Int → Option Pg) : Prop := ∀ i, 0 ≤ i → i < 2 → match V i with
  | none => s 6 i = 0
  | some Q => s 6 i = 1 ∧ PgOk Q ∧ PgAt (fun j => s 5 (828 * i + j)) Q
theorem SvAt.fr {s s' : Sg} {V : Int → Option Pg} (h : SvAt s V) (h1 : s' 5 = s 5) (h2 : s' 6 = s 6) : SvAt s' V := by
  unfold SvAt; rw [h1, h2]; exact h
theorem SvAt.put {s s' : Sg} {V : Int → Option Pg} {P : Pg} {x : Int} (h : SvAt s V) (hx : 0 ≤ x ∧ x ≤ 1) (ho : PgOk P) (h5 : ∀ j, (j < 828 * x ∨ 828 * x + 828 ≤ j) → s' 5 j = s 5 j) (h5p : PgAt (fun j => s' 5 (828 * x + j)) P) (h6 : s' 6 = uZ (s 6) x 1) : SvAt s' (uZ V x (some P)) := by
  intro i a b
  by_cases e : i = x
  · subst e
    rw [uZ_self]
    dsimp only
    exact ⟨by rw [h6, uZ_self], ho, h5p⟩
  · rw [uZ_ne _ _ e]
    have hi := h i a b
    cases hV : V i with
    | none => rw [hV] at hi; dsimp only at hi ⊢; rw [h6, uZ_ne _ _ e]; exact hi
    | some Q =>
      rw [hV] at hi
      dsimp only at hi ⊢
      refine ⟨by rw [h6, uZ_ne _ _ e]; exact hi.1, hi.2.1, PgAt.congr hi.2.1 hi.2.2 (fun j c d => h5 _ (by omega))⟩
def OuAt (s : Sg) (ou : List Int) : Prop := s 41 0 = (ou.length : Int) ∧ (∀ (j : Nat), j < ou.length → s 40 j = ou.getD j 0) ∧ ou.length ≤ 600
theorem OuAt.fr {s s' : Sg} {ou : List Int} (h : OuAt s ou) (h1 : s' 40 = s 40) (h2 : s' 41 = s 41) : OuAt s' ou := by
  unfold OuAt; rw [h1, h2]; exact h
/-- the page before -/
def unP (P : Pg) (L : List Pg) : Pg := (L.getLast?).getD P
theorem MIv.undo {s s' : Sg} {P : Pg} {L : List Pg} (h : MIv s P L) (hne : L ≠ []) (h3 : s' 3 = s 3) (h4 : s' 4 0 = s 4 0 - 1) (h1 : ∀ j, 0 ≤ j → j < 828 → s' 1 j = s 3 (828 * ((L.length : Int) - 1) + j)) : MIv s' (unP P L) L.dropLast := by
  obtain ⟨a1, a2, a3, a4, a5, a6⟩ := h
  have hl : 0 < L.length := by cases L; exact absurd rfl hne; simp
  have e : L.getLast? = some (L.getLast hne) := List.getLast?_eq_some_getLast hne
  have eu : unP P L = L.getLast hne := by unfold unP; rw [e]; rfl
  have hm : L.getLast hne ∈ L := List.getLast_mem hne
  have hi : L[L.length - 1]? = some (L.getLast hne) := by rw [← e, List.getLast?_eq_getElem?]
  rw [eu]
  refine ⟨PgAt.congr (a6 _ hm) (a3 _ _ hi) (fun j b c => by rw [h1 j b c, show ((L.length - 1 : Nat) : Int) = (L.length : Int) - 1 by omega]), a6 _ hm, ?_, by rw [h4, a4, List.length_dropLast]; omega, by rw [List.length_dropLast]; omega, fun Q hQ => a6 Q (List.dropLast_subset _ hQ)⟩
  intro i Q hQ
  rw [h3]
  refine a3 i Q ?_
  have hz := (List.getElem?_eq_some_iff.mp hQ).1
  rw [List.length_dropLast] at hz
  rw [List.getElem?_dropLast, if_pos hz] at hQ; exact hQ
