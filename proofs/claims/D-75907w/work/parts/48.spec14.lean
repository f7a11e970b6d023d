/-! what is written, 2 -/
theorem runL_tk {L : List Int} (h : ∀ r ∈ L, 0 ≤ r ∧ r ≤ 99) (k : Nat) : (runL (L.take k)).length ≤ 3 * L.length := by
  have h1 := runL_len (L.take k) (fun r hr => h r (List.mem_of_mem_take hr))
  have h2 : (L.take k).length ≤ L.length := by rw [List.length_take]; omega
  omega
theorem mdsL_tk {L : List Md} (h : ∀ m ∈ L, MdOk 40 m) (k : Nat) : (mdsL (L.take k)).length ≤ 9 * L.length := by
  have h1 := mdsL_len (L.take k) (fun r hr => h r (List.mem_of_mem_take hr))
  have h2 : (L.take k).length ≤ L.length := by rw [List.length_take]; omega
  omega
theorem MdOk.up {w : Int} {m : Md} (h : MdOk w m) (hw : w ≤ 40) : MdOk 40 m := by
  obtain ⟨h1, h2, h3, h4, h5, h6, h7, h8, h9⟩ := h
  exact ⟨h1, h2, h3, by omega, h5, by omega, h7, by omega, h9⟩
theorem dotL_len (f : Int → Int) : ∀ n, (dotL f n).length = n
  | 0 => rfl
  | n + 1 => by unfold dotL; rw [List.length_append, dotL_len f n]; rfl
