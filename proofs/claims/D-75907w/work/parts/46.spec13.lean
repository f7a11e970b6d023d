/-! what is written -/
theorem byB_id {b : Int} (h : -128 ≤ b ∧ b < 128) : byB b = b := by
  have key : ∀ n : Fin 256, byB ((n.val : Int) - 128) = (n.val : Int) - 128 := by decide +kernel
  have := key ⟨(b + 128).toNat, by omega⟩
  dsimp only at this
  rw [show (((b + 128).toNat : Nat) : Int) - 128 = b by omega] at this; exact this
theorem OuAt.push {s : Sg} {ou : List Int} (h : OuAt s ou) (hl : ou.length < 600) (b : Int) : OuAt (su (su s 40 (ou.length : Int) b) 41 0 ((ou.length : Int) + 1)) (ou ++ [b]) := by
  obtain ⟨h1, h2, h3⟩ := h
  refine ⟨by rw [su_self, List.length_append]; simp, fun j hj => ?_, by rw [List.length_append]; simp; omega⟩
  show uZ (s 40) (ou.length : Int) b j = _
  rw [List.length_append] at hj
  simp at hj
  by_cases e : j = ou.length
  · subst e
    rw [uZ_self, List.getD_eq_getElem?_getD, List.getElem?_append_right (Nat.le_refl _), Nat.sub_self]; rfl
  · rw [uZ_ne _ _ (by omega), h2 j (by omega), List.getD_eq_getElem?_getD, List.getD_eq_getElem?_getD, List.getElem?_append_left (by omega)]
def numL (v : Int) : List Int := (if v < 0 then [45] else []) ++ ((if 10 ≤ (if v < 0 then -v else v) then [48 + (if v < 0 then -v else v).tdiv 10] else []) ++ [48 + (if v < 0 then -v else v).tmod 10])
def runL (L : List Int) : List Int := L.flatMap (fun r => 32 :: numL r)
def modL (m : Md) : List Int := 32 :: ((if m.1 = 0 then 112 else if m.1 = 1 then 118 else 104) :: ((if m.1 = 0 then [] else numL m.2.1) ++ (if m.1 = 2 then 32 :: numL m.2.2.1 else [])))
def mdsL (L : List Md) : List Int := L.flatMap modL
def worL (w : Int) : List Int := if w = 1 then [97, 108, 111, 110, 101] else [97, 98, 111, 118, 101]
def wriL (P : Pg) (ln : Int) : List Int := if isMk P (pS P 0) ln = 1 then worL 1 ++ runL (pR P ln) else worL 2 ++ mdsL (pC P ln)
def dotL (f : Int → Int) : Nat → List Int
  | 0 => []
  | k + 1 => dotL f k ++ [if f k = 1 then 35 else 46]
def shoL (P : Pg) (ln : Int) : List Int := dotL ((sdQ P).2.1 ln) (pW P).toNat ++ (if 0 < (sdQ P).1 21 ln then [48 + (sdQ P).1 21 ln] else [])
theorem numL_len (v : Int) (h : -99 ≤ v ∧ v ≤ 99) : (numL v).length ≤ 3 ∧ (0 ≤ v → (numL v).length ≤ 2) := by
  unfold numL
  generalize (if v < 0 then -v else v) = sz
  have b : (if 10 ≤ sz then [48 + sz.tdiv 10] else ([] : List Int)).length ≤ 1 := by
    by_cases hs : 10 ≤ sz
    · rw [if_pos hs]; exact Nat.le_refl _
    · rw [if_neg hs]; exact Nat.zero_le _
  refine ⟨?_, fun h0 => ?_⟩
  · rw [List.length_append, List.length_append]
    have a : (if v < 0 then [(45 : Int)] else []).length ≤ 1 := by split <;> simp
    simp only [List.length_singleton]; omega
  · rw [List.length_append, List.length_append, if_neg (show ¬ v < 0 by omega)]
    simp only [List.length_singleton, List.length_nil]; omega
theorem runL_len : ∀ L : List Int, (∀ r ∈ L, 0 ≤ r ∧ r ≤ 99) → (runL L).length ≤ 3 * L.length
  | [], _ => Nat.le_refl _
  | r :: L, h => by
    have h1 := runL_len L (fun x hx => h x (List.mem_cons_of_mem _ hx))
    have h2 := (numL_len r ⟨by have := h r List.mem_cons_self; omega, (h r List.mem_cons_self).2⟩).2 (h r List.mem_cons_self).1
    unfold runL at h1 ⊢
    rw [List.flatMap_cons, List.length_append, List.length_cons, List.length_cons]; omega
theorem modL_len (m : Md) (h : MdOk 40 m) : (modL m).length ≤ 9 := by
  obtain ⟨h1, h2, h3, h4, h5, h6, -⟩ := h
  have a := (numL_len m.2.1 ⟨by omega, by omega⟩).1
  have b := (numL_len m.2.2.1 ⟨by omega, by omega⟩).1
  unfold modL
  rw [List.length_cons, List.length_cons, List.length_append]
  have c : (if m.1 = 0 then [] else numL m.2.1).length ≤ 3 := by split; simp; exact a
  have d : (if m.1 = 2 then 32 :: numL m.2.2.1 else []).length ≤ 4 := by split; rw [List.length_cons]; omega; simp
  omega
theorem mdsL_len : ∀ L : List Md, (∀ m ∈ L, MdOk 40 m) → (mdsL L).length ≤ 9 * L.length
  | [], _ => Nat.le_refl _
  | m :: L, h => by
    have h1 := mdsL_len L (fun x hx => h x (List.mem_cons_of_mem _ hx))
    have h2 := modL_len m (h m List.mem_cons_self)
    unfold mdsL at h1 ⊢
    rw [List.flatMap_cons, List.length_append, List.length_cons]; omega
theorem take_go {α : Type} {L : List α} {k : Int} {d : α} (h0 : 0 ≤ k) (h : k < (L.length : Int)) : L.take (k + 1).toNat = L.take k.toNat ++ [L.getD k.toNat d] := by
  have h3 : k.toNat < L.length := by omega
  rw [show (k + 1).toNat = k.toNat + 1 by omega, List.take_add_one, List.getD_eq_getElem?_getD, List.getElem?_eq_getElem h3]; rfl
theorem runL_go {L : List Int} {k : Int} (h0 : 0 ≤ k) (h : k < (L.length : Int)) : runL (L.take (k + 1).toNat) = runL (L.take k.toNat) ++ (32 :: numL (gR L k)) := by
  rw [take_go (d := 0) h0 h]; unfold runL gR; rw [List.flatMap_append]; simp
theorem mdsL_go {L : List Md} {k : Int} (h0 : 0 ≤ k) (h : k < (L.length : Int)) : mdsL (L.take (k + 1).toNat) = mdsL (L.take k.toNat) ++ modL (gM L k) := by
  rw [take_go (d := (0, 0, 0, 0)) h0 h]; unfold mdsL gM; rw [List.flatMap_append]; simp
theorem worL_len (w : Int) : (worL w).length = 5 := by unfold worL; split <;> rfl
theorem worq : ∀ (j : Fin 5), (worL 1).getD j.val 0 = wds (5 + j.val) ∧ (worL 2).getD j.val 0 = wds (11 + j.val) ∧ wds (5 + j.val) ≠ 32 ∧ wds (11 + j.val) ≠ 32 ∧ 0 ≤ wds (5 + j.val) ∧ 0 ≤ wds (11 + j.val) ∧ wds (5 + j.val) ≤ 127 ∧ wds (11 + j.val) ≤ 127 := by decide +kernel
theorem wor_at {w k : Int} (hw : w = 1 ∨ w = 2) (h : 0 ≤ k ∧ k < 5) : (worL w).getD k.toNat 0 = wds (wpl w + k) ∧ wds (wpl w + k) ≠ 32 ∧ 0 ≤ wds (wpl w + k) ∧ wds (wpl w + k) ≤ 127 := by
  have := worq ⟨k.toNat, by omega⟩
  dsimp only at this
  rw [Int.toNat_of_nonneg h.1] at this
  rcases hw with rfl | rfl
  · exact ⟨this.1, this.2.2.1, this.2.2.2.2.1, this.2.2.2.2.2.2.1⟩
  · exact ⟨this.2.1, this.2.2.2.1, this.2.2.2.2.2.1, this.2.2.2.2.2.2.2⟩
theorem wspq : ∀ k : Fin 11, (wds k.val = 32 ↔ (k.val = 4 ∨ k.val = 10)) ∧ 0 ≤ wds k.val ∧ wds k.val ≤ 127 := by decide +kernel
theorem wsp {k : Int} (h : 0 ≤ k ∧ k < 11) : (wds k = 32 ↔ (k = 4 ∨ k = 10)) ∧ 0 ≤ wds k ∧ wds k ≤ 127 := by
  have := wspq ⟨k.toNat, by omega⟩
  dsimp only at this
  rw [Int.toNat_of_nonneg h.1] at this
  exact ⟨this.1.trans (by omega), this.2⟩
