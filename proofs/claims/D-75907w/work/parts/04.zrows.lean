/-! the rows of the machine over what is known of the heap -/
section ZROWS
variable {D : va_G} {cl : List vw_C} {dA : Nat → ClassId} {A : Nat → Prop} {X : State → Heap → Prop}
variable {p : Program} {l : Launch} {e : Env} {R : Room} {s : State} {m : MethodId} {args : Array Value} {below : List Frame} {meth : Method} {c : Code} {H : Heap} {locs : List Loc} {cells slots : Nat} {Q : State → Prop}
variable {cc : ByteArray} {nL : Nat} {own : String} {pc : Nat} {ls : Array Slot} {rest : List Value} {g : Gm}
theorem z_iconst (C : ZC D cl dA A X p s m args meth c cc nL own) {n : Int} (hdg : decode cc pc = .ok (.iconst n, 1)) (k : W p l e R s m args below meth c H locs cells slots Q (F0 m (pc + 1) ls (.int (iI n) :: rest))) : W p l e R s m args below meth c H locs cells slots Q (F0 m pc ls rest) := lv_iconst C.1.1 C.1.2.1 hdg rfl k
theorem z_bipush (C : ZC D cl dA A X p s m args meth c cc nL own) {n : Int} (hdg : decode cc pc = .ok (.bipush n, 2)) (hn : (Int8.ofInt n).toInt32 = iI n) (k : W p l e R s m args below meth c H locs cells slots Q (F0 m (pc + 2) ls (.int (iI n) :: rest))) : W p l e R s m args below meth c H locs cells slots Q (F0 m pc ls rest) := lv_bipush C.1.1 C.1.2.1 hdg hn k
theorem z_sipush (C : ZC D cl dA A X p s m args meth c cc nL own) {n : Int} (hdg : decode cc pc = .ok (.sipush n, 3)) (hn : (Int16.ofInt n).toInt32 = iI n) (k : W p l e R s m args below meth c H locs cells slots Q (F0 m (pc + 3) ls (.int (iI n) :: rest))) : W p l e R s m args below meth c H locs cells slots Q (F0 m pc ls rest) := lv_sipush C.1.1 C.1.2.1 hdg hn k
theorem z_ldc (C : ZC D cl dA A X p s m args meth c cc nL own) {ix : Nat} {v : Int32} {z : Int} (hq : Cond.constant own ix v ∈ lw_all) (hz : v = iI z) (hdg : decode cc pc = .ok (.ldc ix, 2)) (k : W p l e R s m args below meth c H locs cells slots Q (F0 m (pc + 2) ls (.int (iI z) :: rest))) : W p l e R s m args below meth c H locs cells slots Q (F0 m pc ls rest) := lv_ldc C.1.1 C.1.2.1 C.1.2.2.2.1 (C.1.2.2.2.2 _ hq) hdg (hz ▸ k)
theorem z_iload_n (C : ZC D cl dA A X p s m args meth c cc nL own) {kk : Fin 4} {x : Int32} {lv : List (Nat × Value)} (hdg : decode cc pc = .ok (.iload_n kk, 1)) (hl : lv_has ls nL lv) (j : Nat) (hj : lv[j]? = some ((kk : Nat), .int x)) (k : W p l e R s m args below meth c H locs cells slots Q (F0 m (pc + 1) ls (.int x :: rest))) : W p l e R s m args below meth c H locs cells slots Q (F0 m pc ls rest) := lv_iload_n C.1.1 C.1.2.1 hdg rfl (lv_at hl j hj) k
theorem z_iload (C : ZC D cl dA A X p s m args meth c cc nL own) {i : Nat} {x : Int32} {lv : List (Nat × Value)} (hdg : decode cc pc = .ok (.iload i, 2)) (hl : lv_has ls nL lv) (j : Nat) (hj : lv[j]? = some (i, .int x)) (k : W p l e R s m args below meth c H locs cells slots Q (F0 m (pc + 2) ls (.int x :: rest))) : W p l e R s m args below meth c H locs cells slots Q (F0 m pc ls rest) := lv_iload C.1.1 C.1.2.1 hdg (lv_at hl j hj) k
theorem z_aload_n (C : ZC D cl dA A X p s m args meth c cc nL own) {kk : Fin 4} {x : Nat} {lv : List (Nat × Value)} (hdg : decode cc pc = .ok (.aload_n kk, 1)) (hl : lv_has ls nL lv) (j : Nat) (hj : lv[j]? = some ((kk : Nat), .ref x)) (k : W p l e R s m args below meth c H locs cells slots Q (F0 m (pc + 1) ls (.ref x :: rest))) : W p l e R s m args below meth c H locs cells slots Q (F0 m pc ls rest) := lv_aload_n C.1.1 C.1.2.1 hdg rfl (lv_at hl j hj) k
theorem z_aload (C : ZC D cl dA A X p s m args meth c cc nL own) {i : Nat} {x : Nat} {lv : List (Nat × Value)} (hdg : decode cc pc = .ok (.aload i, 2)) (hl : lv_has ls nL lv) (j : Nat) (hj : lv[j]? = some (i, .ref x)) (k : W p l e R s m args below meth c H locs cells slots Q (F0 m (pc + 2) ls (.ref x :: rest))) : W p l e R s m args below meth c H locs cells slots Q (F0 m pc ls rest) := lv_aload C.1.1 C.1.2.1 hdg (lv_at hl j hj) k
theorem z_aload_nN (C : ZC D cl dA A X p s m args meth c cc nL own) {kk : Fin 4} {lv : List (Nat × Value)} (hdg : decode cc pc = .ok (.aload_n kk, 1)) (hl : lv_has ls nL lv) (j : Nat) (hj : lv[j]? = some ((kk : Nat), .null)) (k : W p l e R s m args below meth c H locs cells slots Q (F0 m (pc + 1) ls (.null :: rest))) : W p l e R s m args below meth c H locs cells slots Q (F0 m pc ls rest) := lv_aload_nN C.1.1 C.1.2.1 hdg rfl (lv_at hl j hj) k
theorem z_aloadN (C : ZC D cl dA A X p s m args meth c cc nL own) {i : Nat} {lv : List (Nat × Value)} (hdg : decode cc pc = .ok (.aload i, 2)) (hl : lv_has ls nL lv) (j : Nat) (hj : lv[j]? = some (i, .null)) (k : W p l e R s m args below meth c H locs cells slots Q (F0 m (pc + 2) ls (.null :: rest))) : W p l e R s m args below meth c H locs cells slots Q (F0 m pc ls rest) := lv_aloadN C.1.1 C.1.2.1 hdg (lv_at hl j hj) k
theorem z_lload_n (C : ZC D cl dA A X p s m args meth c cc nL own) {kk : Fin 4} {x : Int64} {lv : List (Nat × Value)} (hdg : decode cc pc = .ok (.lload_n kk, 1)) (hl : lv_has ls nL lv) (j : Nat) (hj : lv[j]? = some ((kk : Nat), .long x)) (k : W p l e R s m args below meth c H locs cells slots Q (F0 m (pc + 1) ls (.long x :: rest))) : W p l e R s m args below meth c H locs cells slots Q (F0 m pc ls rest) := lv_lload_n C.1.1 C.1.2.1 hdg rfl (lv_at hl j hj) k
theorem z_lload (C : ZC D cl dA A X p s m args meth c cc nL own) {i : Nat} {x : Int64} {lv : List (Nat × Value)} (hdg : decode cc pc = .ok (.lload i, 2)) (hl : lv_has ls nL lv) (j : Nat) (hj : lv[j]? = some (i, .long x)) (k : W p l e R s m args below meth c H locs cells slots Q (F0 m (pc + 2) ls (.long x :: rest))) : W p l e R s m args below meth c H locs cells slots Q (F0 m pc ls rest) := lv_lload C.1.1 C.1.2.1 hdg (lv_at hl j hj) k
theorem z_istore_n (C : ZC D cl dA A X p s m args meth c cc nL own) {kk : Fin 4} {x : Int32} {lv : List (Nat × Value)} (lv' : List (Nat × Value)) (hdg : decode cc pc = .ok (.istore_n kk, 1)) (hl : lv_has ls nL lv) (hn : (kk : Nat) < nL) (he : ((kk : Nat), Value.int x) :: lv.filter (fun q => !(q.1 == (kk : Nat)) && !(q.1 + 1 == (kk : Nat) && q.2.category == 2)) = lv') (k : ∀ ls' : Array Slot, lv_has ls' nL lv' → W p l e R s m args below meth c H locs cells slots Q (F0 m (pc + 1) ls' rest)) : W p l e R s m args below meth c H locs cells slots Q (F0 m pc ls (.int x :: rest)) := lv_istore_n C.1.1 C.1.2.1 hdg rfl hl hn he k
theorem z_istore (C : ZC D cl dA A X p s m args meth c cc nL own) {i : Nat} {x : Int32} {lv : List (Nat × Value)} (lv' : List (Nat × Value)) (hdg : decode cc pc = .ok (.istore i, 2)) (hl : lv_has ls nL lv) (hn : i < nL) (he : (i, Value.int x) :: lv.filter (fun q => !(q.1 == i) && !(q.1 + 1 == i && q.2.category == 2)) = lv') (k : ∀ ls' : Array Slot, lv_has ls' nL lv' → W p l e R s m args below meth c H locs cells slots Q (F0 m (pc + 2) ls' rest)) : W p l e R s m args below meth c H locs cells slots Q (F0 m pc ls (.int x :: rest)) := lv_istore C.1.1 C.1.2.1 hdg hl hn he k
theorem z_astore_n (C : ZC D cl dA A X p s m args meth c cc nL own) {kk : Fin 4} {x : Nat} {lv : List (Nat × Value)} (lv' : List (Nat × Value)) (hdg : decode cc pc = .ok (.astore_n kk, 1)) (hl : lv_has ls nL lv) (hn : (kk : Nat) < nL) (he : ((kk : Nat), Value.ref x) :: lv.filter (fun q => !(q.1 == (kk : Nat)) && !(q.1 + 1 == (kk : Nat) && q.2.category == 2)) = lv') (k : ∀ ls' : Array Slot, lv_has ls' nL lv' → W p l e R s m args below meth c H locs cells slots Q (F0 m (pc + 1) ls' rest)) : W p l e R s m args below meth c H locs cells slots Q (F0 m pc ls (.ref x :: rest)) := lv_astore_n C.1.1 C.1.2.1 hdg rfl hl hn he k
theorem z_astore (C : ZC D cl dA A X p s m args meth c cc nL own) {i : Nat} {x : Nat} {lv : List (Nat × Value)} (lv' : List (Nat × Value)) (hdg : decode cc pc = .ok (.astore i, 2)) (hl : lv_has ls nL lv) (hn : i < nL) (he : (i, Value.ref x) :: lv.filter (fun q => !(q.1 == i) && !(q.1 + 1 == i && q.2.category == 2)) = lv') (k : ∀ ls' : Array Slot, lv_has ls' nL lv' → W p l e R s m args below meth c H locs cells slots Q (F0 m (pc + 2) ls' rest)) : W p l e R s m args below meth c H locs cells slots Q (F0 m pc ls (.ref x :: rest)) := lv_astore C.1.1 C.1.2.1 hdg hl hn he k
theorem z_astore_nN (C : ZC D cl dA A X p s m args meth c cc nL own) {kk : Fin 4} {lv : List (Nat × Value)} (lv' : List (Nat × Value)) (hdg : decode cc pc = .ok (.astore_n kk, 1)) (hl : lv_has ls nL lv) (hn : (kk : Nat) < nL) (he : ((kk : Nat), Value.null) :: lv.filter (fun q => !(q.1 == (kk : Nat)) && !(q.1 + 1 == (kk : Nat) && q.2.category == 2)) = lv') (k : ∀ ls' : Array Slot, lv_has ls' nL lv' → W p l e R s m args below meth c H locs cells slots Q (F0 m (pc + 1) ls' rest)) : W p l e R s m args below meth c H locs cells slots Q (F0 m pc ls (.null :: rest)) := lv_astore_nN C.1.1 C.1.2.1 hdg rfl hl hn he k
theorem z_astoreN (C : ZC D cl dA A X p s m args meth c cc nL own) {i : Nat} {lv : List (Nat × Value)} (lv' : List (Nat × Value)) (hdg : decode cc pc = .ok (.astore i, 2)) (hl : lv_has ls nL lv) (hn : i < nL) (he : (i, Value.null) :: lv.filter (fun q => !(q.1 == i) && !(q.1 + 1 == i && q.2.category == 2)) = lv') (k : ∀ ls' : Array Slot, lv_has ls' nL lv' → W p l e R s m args below meth c H locs cells slots Q (F0 m (pc + 2) ls' rest)) : W p l e R s m args below meth c H locs cells slots Q (F0 m pc ls (.null :: rest)) := lv_astoreN C.1.1 C.1.2.1 hdg hl hn he k
theorem z_lstore_n (C : ZC D cl dA A X p s m args meth c cc nL own) {kk : Fin 4} {x : Int64} {lv : List (Nat × Value)} (lv' : List (Nat × Value)) (hdg : decode cc pc = .ok (.lstore_n kk, 1)) (hl : lv_has ls nL lv) (hn : (kk : Nat) + 1 < nL) (he : ((kk : Nat), Value.long x) :: lv.filter (fun q => !(q.1 == (kk : Nat)) && (!(q.1 == (kk : Nat) + 1) && !(q.1 + 1 == (kk : Nat) && q.2.category == 2))) = lv') (k : ∀ ls' : Array Slot, lv_has ls' nL lv' → W p l e R s m args below meth c H locs cells slots Q (F0 m (pc + 1) ls' rest)) : W p l e R s m args below meth c H locs cells slots Q (F0 m pc ls (.long x :: rest)) := lv_lstore_n C.1.1 C.1.2.1 hdg rfl hl hn he k
theorem z_lstore (C : ZC D cl dA A X p s m args meth c cc nL own) {i : Nat} {x : Int64} {lv : List (Nat × Value)} (lv' : List (Nat × Value)) (hdg : decode cc pc = .ok (.lstore i, 2)) (hl : lv_has ls nL lv) (hn : i + 1 < nL) (he : (i, Value.long x) :: lv.filter (fun q => !(q.1 == i) && (!(q.1 == i + 1) && !(q.1 + 1 == i && q.2.category == 2))) = lv') (k : ∀ ls' : Array Slot, lv_has ls' nL lv' → W p l e R s m args below meth c H locs cells slots Q (F0 m (pc + 2) ls' rest)) : W p l e R s m args below meth c H locs cells slots Q (F0 m pc ls (.long x :: rest)) := lv_lstore C.1.1 C.1.2.1 hdg hl hn he k
theorem z_iinc (C : ZC D cl dA A X p s m args meth c cc nL own) {i : Nat} {n : Int} {z : Int} {lv : List (Nat × Value)} (lv' : List (Nat × Value)) (hdg : decode cc pc = .ok (.iinc i n, 3)) (hl : lv_has ls nL lv) (j : Nat) (hj : lv[j]? = some (i, .int (iI z))) (hn : i < nL) (he : (i, Value.int (iI (z + n))) :: lv.filter (fun q => !(q.1 == i) && !(q.1 + 1 == i && q.2.category == 2)) = lv') (k : ∀ ls' : Array Slot, lv_has ls' nL lv' → W p l e R s m args below meth c H locs cells slots Q (F0 m (pc + 3) ls' rest)) : W p l e R s m args below meth c H locs cells slots Q (F0 m pc ls rest) := lv_iinc C.1.1 C.1.2.1 hdg hl hj (show iI z + iI n = iI (z + n) from iI_add z n) hn he k
theorem z_iadd (C : ZC D cl dA A X p s m args meth c cc nL own) {x y : Int} (hdg : decode cc pc = .ok (.iadd, 1)) (k : W p l e R s m args below meth c H locs cells slots Q (F0 m (pc + 1) ls (.int (iI (x + y)) :: rest))) : W p l e R s m args below meth c H locs cells slots Q (F0 m pc ls (.int (iI y) :: .int (iI x) :: rest)) := lv_iadd C.1.1 C.1.2.1 hdg (by rw [iI_add]; exact k)
theorem z_isub (C : ZC D cl dA A X p s m args meth c cc nL own) {x y : Int} (hdg : decode cc pc = .ok (.isub, 1)) (k : W p l e R s m args below meth c H locs cells slots Q (F0 m (pc + 1) ls (.int (iI (x - y)) :: rest))) : W p l e R s m args below meth c H locs cells slots Q (F0 m pc ls (.int (iI y) :: .int (iI x) :: rest)) := lv_isub C.1.1 C.1.2.1 hdg (by rw [iI_sub]; exact k)
theorem z_imul (C : ZC D cl dA A X p s m args meth c cc nL own) {x y : Int} (hdg : decode cc pc = .ok (.imul, 1)) (k : W p l e R s m args below meth c H locs cells slots Q (F0 m (pc + 1) ls (.int (iI (x * y)) :: rest))) : W p l e R s m args below meth c H locs cells slots Q (F0 m pc ls (.int (iI y) :: .int (iI x) :: rest)) := lv_imul C.1.1 C.1.2.1 hdg (by rw [iI_mul]; exact k)
theorem z_ineg (C : ZC D cl dA A X p s m args meth c cc nL own) {x : Int} (hdg : decode cc pc = .ok (.ineg, 1)) (k : W p l e R s m args below meth c H locs cells slots Q (F0 m (pc + 1) ls (.int (iI (-x)) :: rest))) : W p l e R s m args below meth c H locs cells slots Q (F0 m pc ls (.int (iI x) :: rest)) := lv_ineg C.1.1 C.1.2.1 hdg (by rw [iI_neg]; exact k)
theorem z_idiv (C : ZC D cl dA A X p s m args meth c cc nL own) {x y : Int} (hdg : decode cc pc = .ok (.idiv, 1)) (hr : zR x ∧ zR y ∧ 0 < y) (k : W p l e R s m args below meth c H locs cells slots Q (F0 m (pc + 1) ls (.int (iI (x.tdiv y)) :: rest))) : W p l e R s m args below meth c H locs cells slots Q (F0 m pc ls (.int (iI y) :: .int (iI x) :: rest)) :=
  lv_idiv C.1.1 C.1.2.1 hdg (fun h => by rw [iI_0, iI_eq hr.2.1 ⟨by omega, by omega⟩] at h; have := hr.2.2; omega) (by rw [iI_div hr.1 hr.2.1 (by have := hr.2.2; omega)]; exact k)
theorem z_irem (C : ZC D cl dA A X p s m args meth c cc nL own) {x y : Int} (hdg : decode cc pc = .ok (.irem, 1)) (hr : zR x ∧ zR y ∧ 0 < y) (k : W p l e R s m args below meth c H locs cells slots Q (F0 m (pc + 1) ls (.int (iI (x.tmod y)) :: rest))) : W p l e R s m args below meth c H locs cells slots Q (F0 m pc ls (.int (iI y) :: .int (iI x) :: rest)) :=
  lv_irem C.1.1 C.1.2.1 hdg (fun h => by rw [iI_0, iI_eq hr.2.1 ⟨by omega, by omega⟩] at h; have := hr.2.2; omega) (by rw [iI_rem hr.1 hr.2.1 (by have := hr.2.2; omega)]; exact k)
theorem z_dup (C : ZC D cl dA A X p s m args meth c cc nL own) {va : Value} (hdg : decode cc pc = .ok (.dup, 1)) (hv : va.category = 1) (k : W p l e R s m args below meth c H locs cells slots Q (F0 m (pc + 1) ls (va :: va :: rest))) : W p l e R s m args below meth c H locs cells slots Q (F0 m pc ls (va :: rest)) := lv_dup C.1.1 C.1.2.1 hdg hv k
theorem z_goto (C : ZC D cl dA A X p s m args meth c cc nL own) {off : Int} {tgt : Nat} (hdg : decode cc pc = .ok (.goto off, 3)) (ht : (pc : Int) + off = (tgt : Int)) (k : W p l e R s m args below meth c H locs cells slots Q (F0 m tgt ls rest)) : W p l e R s m args below meth c H locs cells slots Q (F0 m pc ls rest) := lv_goto C.1.1 C.1.2.1 hdg ht k
theorem z_ifeq (C : ZC D cl dA A X p s m args meth c cc nL own) {x : Int} {off : Int} {tgt : Nat} (hdg : decode cc pc = .ok (.ifCond .eq off, 3)) (ht : (pc : Int) + off = (tgt : Int)) (hr : zR x) (kt : x = 0 → W p l e R s m args below meth c H locs cells slots Q (F0 m tgt ls rest)) (kf : ¬ x = 0 → W p l e R s m args below meth c H locs cells slots Q (F0 m (pc + 3) ls rest)) : W p l e R s m args below meth c H locs cells slots Q (F0 m pc ls (.int (iI x) :: rest)) :=
  lv_if_eq C.1.1 C.1.2.1 hdg ht (fun h => kt (by rw [iI_0, iI_eq hr ⟨by omega, by omega⟩] at h; exact h)) (fun h => kf (by rw [iI_0, iI_eq hr ⟨by omega, by omega⟩] at h; exact h))
theorem z_ifne (C : ZC D cl dA A X p s m args meth c cc nL own) {x : Int} {off : Int} {tgt : Nat} (hdg : decode cc pc = .ok (.ifCond .ne off, 3)) (ht : (pc : Int) + off = (tgt : Int)) (hr : zR x) (kt : ¬ x = 0 → W p l e R s m args below meth c H locs cells slots Q (F0 m tgt ls rest)) (kf : x = 0 → W p l e R s m args below meth c H locs cells slots Q (F0 m (pc + 3) ls rest)) : W p l e R s m args below meth c H locs cells slots Q (F0 m pc ls (.int (iI x) :: rest)) :=
  lv_if_ne C.1.1 C.1.2.1 hdg ht (fun h => kt (by rw [iI_0, iI_eq hr ⟨by omega, by omega⟩] at h; exact h)) (fun h => kf (by rw [iI_0, iI_eq hr ⟨by omega, by omega⟩] at h; exact h))
theorem z_iflt (C : ZC D cl dA A X p s m args meth c cc nL own) {x : Int} {off : Int} {tgt : Nat} (hdg : decode cc pc = .ok (.ifCond .lt off, 3)) (ht : (pc : Int) + off = (tgt : Int)) (hr : zR x) (kt : x < 0 → W p l e R s m args below meth c H locs cells slots Q (F0 m tgt ls rest)) (kf : ¬ x < 0 → W p l e R s m args below meth c H locs cells slots Q (F0 m (pc + 3) ls rest)) : W p l e R s m args below meth c H locs cells slots Q (F0 m pc ls (.int (iI x) :: rest)) :=
  lv_if_lt C.1.1 C.1.2.1 hdg ht (fun h => kt (by rw [iI_0, iI_lt hr ⟨by omega, by omega⟩] at h; exact h)) (fun h => kf (by rw [iI_0, iI_lt hr ⟨by omega, by omega⟩] at h; exact h))
theorem z_ifge (C : ZC D cl dA A X p s m args meth c cc nL own) {x : Int} {off : Int} {tgt : Nat} (hdg : decode cc pc = .ok (.ifCond .ge off, 3)) (ht : (pc : Int) + off = (tgt : Int)) (hr : zR x) (kt : 0 ≤ x → W p l e R s m args below meth c H locs cells slots Q (F0 m tgt ls rest)) (kf : ¬ 0 ≤ x → W p l e R s m args below meth c H locs cells slots Q (F0 m (pc + 3) ls rest)) : W p l e R s m args below meth c H locs cells slots Q (F0 m pc ls (.int (iI x) :: rest)) :=
  lv_if_ge C.1.1 C.1.2.1 hdg ht (fun h => kt (by rw [iI_0, iI_le ⟨by omega, by omega⟩ hr] at h; exact h)) (fun h => kf (by rw [iI_0, iI_le ⟨by omega, by omega⟩ hr] at h; exact h))
theorem z_ifgt (C : ZC D cl dA A X p s m args meth c cc nL own) {x : Int} {off : Int} {tgt : Nat} (hdg : decode cc pc = .ok (.ifCond .gt off, 3)) (ht : (pc : Int) + off = (tgt : Int)) (hr : zR x) (kt : 0 < x → W p l e R s m args below meth c H locs cells slots Q (F0 m tgt ls rest)) (kf : ¬ 0 < x → W p l e R s m args below meth c H locs cells slots Q (F0 m (pc + 3) ls rest)) : W p l e R s m args below meth c H locs cells slots Q (F0 m pc ls (.int (iI x) :: rest)) :=
  lv_if_gt C.1.1 C.1.2.1 hdg ht (fun h => kt (by rw [iI_0, iI_lt ⟨by omega, by omega⟩ hr] at h; exact h)) (fun h => kf (by rw [iI_0, iI_lt ⟨by omega, by omega⟩ hr] at h; exact h))
theorem z_ifle (C : ZC D cl dA A X p s m args meth c cc nL own) {x : Int} {off : Int} {tgt : Nat} (hdg : decode cc pc = .ok (.ifCond .le off, 3)) (ht : (pc : Int) + off = (tgt : Int)) (hr : zR x) (kt : x ≤ 0 → W p l e R s m args below meth c H locs cells slots Q (F0 m tgt ls rest)) (kf : ¬ x ≤ 0 → W p l e R s m args below meth c H locs cells slots Q (F0 m (pc + 3) ls rest)) : W p l e R s m args below meth c H locs cells slots Q (F0 m pc ls (.int (iI x) :: rest)) :=
  lv_if_le C.1.1 C.1.2.1 hdg ht (fun h => kt (by rw [iI_0, iI_le hr ⟨by omega, by omega⟩] at h; exact h)) (fun h => kf (by rw [iI_0, iI_le hr ⟨by omega, by omega⟩] at h; exact h))
theorem z_icmpeq (C : ZC D cl dA A X p s m args meth c cc nL own) {x y : Int} {off : Int} {tgt : Nat} (hdg : decode cc pc = .ok (.if_icmp .eq off, 3)) (ht : (pc : Int) + off = (tgt : Int)) (hr : zR x ∧ zR y) (kt : x = y → W p l e R s m args below meth c H locs cells slots Q (F0 m tgt ls rest)) (kf : ¬ x = y → W p l e R s m args below meth c H locs cells slots Q (F0 m (pc + 3) ls rest)) : W p l e R s m args below meth c H locs cells slots Q (F0 m pc ls (.int (iI y) :: .int (iI x) :: rest)) :=
  lv_icmp_eq C.1.1 C.1.2.1 hdg ht (fun h => kt ((iI_eq hr.1 hr.2).mp h)) (fun h => kf (fun q => h ((iI_eq hr.1 hr.2).mpr q)))
theorem z_icmpne (C : ZC D cl dA A X p s m args meth c cc nL own) {x y : Int} {off : Int} {tgt : Nat} (hdg : decode cc pc = .ok (.if_icmp .ne off, 3)) (ht : (pc : Int) + off = (tgt : Int)) (hr : zR x ∧ zR y) (kt : ¬ x = y → W p l e R s m args below meth c H locs cells slots Q (F0 m tgt ls rest)) (kf : x = y → W p l e R s m args below meth c H locs cells slots Q (F0 m (pc + 3) ls rest)) : W p l e R s m args below meth c H locs cells slots Q (F0 m pc ls (.int (iI y) :: .int (iI x) :: rest)) :=
  lv_icmp_ne C.1.1 C.1.2.1 hdg ht (fun h => kt (fun q => h ((iI_eq hr.1 hr.2).mpr q))) (fun h => kf (by first | exact (iI_eq hr.1 hr.2).mp h | exact (iI_eq hr.1 hr.2).mp (Decidable.not_not.mp h)))
theorem z_icmplt (C : ZC D cl dA A X p s m args meth c cc nL own) {x y : Int} {off : Int} {tgt : Nat} (hdg : decode cc pc = .ok (.if_icmp .lt off, 3)) (ht : (pc : Int) + off = (tgt : Int)) (hr : zR x ∧ zR y) (kt : x < y → W p l e R s m args below meth c H locs cells slots Q (F0 m tgt ls rest)) (kf : ¬ x < y → W p l e R s m args below meth c H locs cells slots Q (F0 m (pc + 3) ls rest)) : W p l e R s m args below meth c H locs cells slots Q (F0 m pc ls (.int (iI y) :: .int (iI x) :: rest)) :=
  lv_icmp_lt C.1.1 C.1.2.1 hdg ht (fun h => kt ((iI_lt hr.1 hr.2).mp h)) (fun h => kf (fun q => h ((iI_lt hr.1 hr.2).mpr q)))
theorem z_icmpge (C : ZC D cl dA A X p s m args meth c cc nL own) {x y : Int} {off : Int} {tgt : Nat} (hdg : decode cc pc = .ok (.if_icmp .ge off, 3)) (ht : (pc : Int) + off = (tgt : Int)) (hr : zR x ∧ zR y) (kt : y ≤ x → W p l e R s m args below meth c H locs cells slots Q (F0 m tgt ls rest)) (kf : ¬ y ≤ x → W p l e R s m args below meth c H locs cells slots Q (F0 m (pc + 3) ls rest)) : W p l e R s m args below meth c H locs cells slots Q (F0 m pc ls (.int (iI y) :: .int (iI x) :: rest)) :=
  lv_icmp_ge C.1.1 C.1.2.1 hdg ht (fun h => kt ((iI_le hr.2 hr.1).mp h)) (fun h => kf (fun q => h ((iI_le hr.2 hr.1).mpr q)))
theorem z_icmpgt (C : ZC D cl dA A X p s m args meth c cc nL own) {x y : Int} {off : Int} {tgt : Nat} (hdg : decode cc pc = .ok (.if_icmp .gt off, 3)) (ht : (pc : Int) + off = (tgt : Int)) (hr : zR x ∧ zR y) (kt : y < x → W p l e R s m args below meth c H locs cells slots Q (F0 m tgt ls rest)) (kf : ¬ y < x → W p l e R s m args below meth c H locs cells slots Q (F0 m (pc + 3) ls rest)) : W p l e R s m args below meth c H locs cells slots Q (F0 m pc ls (.int (iI y) :: .int (iI x) :: rest)) :=
  lv_icmp_gt C.1.1 C.1.2.1 hdg ht (fun h => kt ((iI_lt hr.2 hr.1).mp h)) (fun h => kf (fun q => h ((iI_lt hr.2 hr.1).mpr q)))
theorem z_icmple (C : ZC D cl dA A X p s m args meth c cc nL own) {x y : Int} {off : Int} {tgt : Nat} (hdg : decode cc pc = .ok (.if_icmp .le off, 3)) (ht : (pc : Int) + off = (tgt : Int)) (hr : zR x ∧ zR y) (kt : x ≤ y → W p l e R s m args below meth c H locs cells slots Q (F0 m tgt ls rest)) (kf : ¬ x ≤ y → W p l e R s m args below meth c H locs cells slots Q (F0 m (pc + 3) ls rest)) : W p l e R s m args below meth c H locs cells slots Q (F0 m pc ls (.int (iI y) :: .int (iI x) :: rest)) :=
  lv_icmp_le C.1.1 C.1.2.1 hdg ht (fun h => kt ((iI_le hr.1 hr.2).mp h)) (fun h => kf (fun q => h ((iI_le hr.1 hr.2).mpr q)))
theorem z_get (C : ZC D cl dA A X p s m args meth c cc nL own) (hH : HP D cl A g H) {ref Cn : String} {T : u_T} {N ci index : Nat} {a : Nat} {fs : List Value} (hg : g a = some (oI ci fs)) (hin : ∀ w ∈ u_ws Cn T N, w ∈ lw_all) (hc : cl[ci]? = some (Cn, T, N)) (k : Nat) (hk : k < N) (hq : (Cond.fieldLink own index ref (T k).2.1 (T k).2.2.1) ∈ lw_all) (hsame : ∀ x, s.fieldFound? (T k).1 (T k).2.1 (T k).2.2.1 = some x → s.fieldFound? ref (T k).2.1 (T k).2.2.1 = some x) {v : Value} (hv : fs[k]? = some v) (hdg : decode cc pc = .ok (.getfield index, 3))
    (kk : W p l e R s m args below meth c H locs cells slots Q (F0 m (pc + 3) ls (v :: rest))) : W p l e R s m args below meth c H locs cells slots Q (F0 m pc ls (.ref a :: rest)) :=
  va_get C.1.1 C.1.2.1 C.1.2.2.2.2 hin C.1.2.2.2.1 C.2.2.1 (hH.one hg) 0 rfl hc k hk (C.1.2.2.2.2 _ hq) hsame hv hdg kk
theorem z_put (C : ZC D cl dA A X p s m args meth c cc nL own) (hH : HP D cl A g H) (hS : va_S A s.heap H locs) {ref Cn : String} {T : u_T} {N ci index : Nat} {a : Nat} {fs : List Value} (hg : g a = some (oI ci fs)) (hin : ∀ w ∈ u_ws Cn T N, w ∈ lw_all) {ty0 : Nat → FieldType} (hty : ∀ k, k < N → parseFieldDescriptor (T k).2.2.1 = some (ty0 k)) (hnm : ∀ a, a < N → ∀ b, b < N → a ≠ b → (T a).2.1 ≠ (T b).2.1) (hc : cl[ci]? = some (Cn, T, N)) (k : Nat) (hk : k < N) (hq : (Cond.fieldLink own index ref (T k).2.1 (T k).2.2.1) ∈ lw_all) (hsame : ∀ x, s.fieldFound? (T k).1 (T k).2.1 (T k).2.2.1 = some x → s.fieldFound? ref (T k).2.1 (T k).2.2.1 = some x) (hfin : (T k).2.2.2 = false) {v : Value} (hn : narrow (ty0 k) v = v) (hfit : fits (ty0 k) v = true) (hlen : k < fs.length) (hdg : decode cc pc = .ok (.putfield index, 3))
    (kk : ∀ (H1 : Heap) (locs1 : List Loc), HP D cl A (va_up g a (some (oI ci (fs.set k v)))) H1 → va_S A s.heap H1 locs1 → W p l e R s m args below meth c H1 locs1 cells slots Q (F0 m (pc + 3) ls rest)) : W p l e R s m args below meth c H locs cells slots Q (F0 m pc ls (v :: .ref a :: rest)) := by
  obtain ⟨⟨hexec, hb, hml, hown, hts⟩, -, hK, -⟩ := C
  have hap := va_apart (own := own) hts hin ty0 hty hnm hK hc
  obtain ⟨r, h1, cell, q1, q2, q3, q4⟩ := hH.cell hg
  have hr : r = (Cn, T, N) := Option.some.inj (h1.symm.trans hc)
  subst hr
  obtain ⟨hSl, hfc, kC, hkC, hkind⟩ := hK.1 ci _ hc
  obtain ⟨cf, kf, fi, f, hi, hsl⟩ := hSl k hk
  have hlay := hts _ (hin _ (u_in_lay hk))
  unfold u_lay at hlay
  rw [if_neg (by rw [hfin]; decide)] at hlay
  have hst := (u_facts hfc hkC (u_lays hts hin hk) hi).1
  have h6 := u_store hfc hkC hkind hlay hi (hty k hk) hn hfit
  refine W.putK hexec hb (f := f) ⟨hown, hts _ hq, ⟨_, _, _, hsame _ hi⟩, hst⟩ (by rw [q2]; exact h6) q1 q3 (by rw [hsl]; exact k2_hasslot (q4 k hk)) rfl rfl hdg fun H' e1 e2 e3 => ?_
  rw [hsl] at e1 ⊢
  exact kk H' _ (hH.put hg ⟨_, hc, t_OB.to (V := updV (vp_V fs) k v) ⟨_, e1, q2, q3, t_set q4 hap hk v⟩ (fun j _ => vp_updV_set hlen v j)⟩ e3) (hS.put e2 e3 (hH _ _ hg).1)
theorem z_putF (C : ZC D cl dA A X p s m args meth c cc nL own) (hH : HP D cl A g H) (hS : va_S A s.heap H locs) {ref Cn : String} {T : u_T} {N ci index : Nat} {a : Nat} {fs : List Value} (hg : g a = some (oI ci fs)) (hin : ∀ w ∈ u_ws Cn T N, w ∈ lw_all) {ty0 : Nat → FieldType} (hty : ∀ k, k < N → parseFieldDescriptor (T k).2.2.1 = some (ty0 k)) (hnm : ∀ a, a < N → ∀ b, b < N → a ≠ b → (T a).2.1 ≠ (T b).2.1) (hc : cl[ci]? = some (Cn, T, N)) (k : Nat) (hk : k < N) (hq : (Cond.fieldLink own index ref (T k).2.1 (T k).2.2.1) ∈ lw_all) (hsame : ∀ x, s.fieldFound? (T k).1 (T k).2.1 (T k).2.2.1 = some x → s.fieldFound? ref (T k).2.1 (T k).2.2.1 = some x) (hfin : (T k).2.2.2 = true) (hin2 : meth.name = "<init>") (hdecl : (T k).1 = own) {v : Value} (hn : narrow (ty0 k) v = v) (hfit : fits (ty0 k) v = true) (hlen : k < fs.length) (hdg : decode cc pc = .ok (.putfield index, 3))
    (kk : ∀ (H1 : Heap) (locs1 : List Loc), HP D cl A (va_up g a (some (oI ci (fs.set k v)))) H1 → va_S A s.heap H1 locs1 → W p l e R s m args below meth c H1 locs1 cells slots Q (F0 m (pc + 3) ls rest)) : W p l e R s m args below meth c H locs cells slots Q (F0 m pc ls (v :: .ref a :: rest)) := by
  obtain ⟨⟨hexec, hb, hml, hown, hts⟩, -, hK, -⟩ := C
  have hap := va_apart (own := own) hts hin ty0 hty hnm hK hc
  obtain ⟨r, h1, cell, q1, q2, q3, q4⟩ := hH.cell hg
  have hr : r = (Cn, T, N) := Option.some.inj (h1.symm.trans hc)
  subst hr
  obtain ⟨hSl, hfc, kC, hkC, hkind⟩ := hK.1 ci _ hc
  obtain ⟨cf, kf, fi, f, hi, hsl⟩ := hSl k hk
  have hlay := hts _ (hin _ (u_in_lay hk))
  unfold u_lay at hlay
  rw [if_pos hfin] at hlay
  have hst := (u_facts hfc hkC (u_lays hts hin hk) hi).1
  have hcf : m.cls = cf := by
    obtain ⟨_, _, c', _, _, _, -, -, hf', -, -, -, hown2, -⟩ := Cond.laysFinal_spec hlay
    have e1 : c' = cf := by have := hi.symm.trans hf'; simp at this; exact this.1.symm
    rw [hdecl] at hown2
    rw [← e1]; exact Option.some.inj (hown.symm.trans hown2)
  have h6 := u_fits hfc hkC hkind (Or.inr hlay) hi (hty k hk) hn hfit
  refine W.putFinK hexec hb hown (hts _ hq) (hsame _ hi) hst hcf hin2 (by rw [q2]; exact h6) q1 q3 (by rw [hsl]; exact k2_hasslot (q4 k hk)) rfl rfl hdg fun H' e1 e2 e3 => ?_
  rw [hsl] at e1 ⊢
  exact kk H' _ (hH.put hg ⟨_, hc, t_OB.to (V := updV (vp_V fs) k v) ⟨_, e1, q2, q3, t_set q4 hap hk v⟩ (fun j _ => vp_updV_set hlen v j)⟩ e3) (hS.put e2 e3 (hH _ _ hg).1)
theorem z_iald (C : ZC D cl dA A X p s m args meth c cc nL own) (hH : HP D cl A g H) {a n : Nat} {f : Int → Int} {i : Int} (hg : g a = some (aI (dA 0) n f)) (hi : 0 ≤ i ∧ i < (n : Int)) (hn : n < 2147483648) (hdg : decode cc pc = .ok (.iaload, 1)) (kk : W p l e R s m args below meth c H locs cells slots Q (F0 m (pc + 1) ls (.int (iI (f i)) :: rest))) : W p l e R s m args below meth c H locs cells slots Q (F0 m pc ls (.int (iI i) :: .ref a :: rest)) := by
  have hr : zR i := ⟨by omega, by omega⟩
  refine va_iald C.1.1 C.1.2.1 C.2.2.1 (hH.one hg) 0 0 rfl rfl (iI_in hi.1 hi.2 hr) hdg ?_
  rw [iI_clamp hr, Int.toNat_of_nonneg hi.1]; exact kk
theorem z_bald (C : ZC D cl dA A X p s m args meth c cc nL own) (hH : HP D cl A g H) {a n : Nat} {f : Int → Int} {i : Int} (hg : g a = some (aI (dA 2) n f)) (hi : 0 ≤ i ∧ i < (n : Int)) (hn : n < 2147483648) (hdg : decode cc pc = .ok (.baload, 1)) (kk : W p l e R s m args below meth c H locs cells slots Q (F0 m (pc + 1) ls (.int (iI (f i)) :: rest))) : W p l e R s m args below meth c H locs cells slots Q (F0 m pc ls (.int (iI i) :: .ref a :: rest)) := by
  have hr : zR i := ⟨by omega, by omega⟩
  refine va_bald C.1.1 C.1.2.1 C.2.2.1 (hH.one hg) 0 2 rfl rfl (iI_in hi.1 hi.2 hr) hdg ?_
  rw [iI_clamp hr, Int.toNat_of_nonneg hi.1]; exact kk
theorem z_zald (C : ZC D cl dA A X p s m args meth c cc nL own) (hH : HP D cl A g H) {a n : Nat} {f : Int → Int} {i : Int} (hg : g a = some (aI (dA 3) n f)) (hi : 0 ≤ i ∧ i < (n : Int)) (hn : n < 2147483648) (hdg : decode cc pc = .ok (.baload, 1)) (kk : W p l e R s m args below meth c H locs cells slots Q (F0 m (pc + 1) ls (.int (iI (f i)) :: rest))) : W p l e R s m args below meth c H locs cells slots Q (F0 m pc ls (.int (iI i) :: .ref a :: rest)) := by
  have hr : zR i := ⟨by omega, by omega⟩
  refine va_zald C.1.1 C.1.2.1 C.2.2.1 (hH.one hg) 0 3 rfl rfl (iI_in hi.1 hi.2 hr) hdg ?_
  rw [iI_clamp hr, Int.toNat_of_nonneg hi.1]; exact kk
theorem z_aald (C : ZC D cl dA A X p s m args meth c cc nL own) (hH : HP D cl A g H) {a n : Nat} {f : Int → Option Nat} {i : Int} (t0 : Nat) {cA : ClassId} {E : String} (hg : g a = some (aQ cA n f)) (ht : (zTy dA)[t0]? = some (cA, .object E)) (hi : 0 ≤ i ∧ i < (n : Int)) (hn : n < 2147483648) (hdg : decode cc pc = .ok (.aaload, 1)) (kk : W p l e R s m args below meth c H locs cells slots Q (F0 m (pc + 1) ls (va_rf (f i) :: rest))) : W p l e R s m args below meth c H locs cells slots Q (F0 m pc ls (.int (iI i) :: .ref a :: rest)) := by
  have hr : zR i := ⟨by omega, by omega⟩
  refine va_aldq C.1.1 C.1.2.1 C.2.2.1 (hH.one hg) 0 t0 rfl ht (iI_in hi.1 hi.2 hr) hdg ?_
  rw [iI_clamp hr, Int.toNat_of_nonneg hi.1]; exact kk
theorem z_alen (C : ZC D cl dA A X p s m args meth c cc nL own) (hH : HP D cl A g H) {a : Nat} (t0 : Nat) {cA : ClassId} {ty : FieldType} {x : vp_A} (hg : g a = some (.inl (cA, x))) (ht : (zTy dA)[t0]? = some (cA, ty)) (hdg : decode cc pc = .ok (.arraylength, 1)) (kk : W p l e R s m args below meth c H locs cells slots Q (F0 m (pc + 1) ls (.int (iI (x.1 : Int)) :: rest))) : W p l e R s m args below meth c H locs cells slots Q (F0 m pc ls (.ref a :: rest)) :=
  va_alen C.1.1 C.1.2.1 C.2.2.1 (hH.one hg) 0 t0 rfl ht (iI_nI x.1) hdg kk
theorem z_iast (C : ZC D cl dA A X p s m args meth c cc nL own) (hH : HP D cl A g H) (hS : va_S A s.heap H locs) {a n : Nat} {f : Int → Int} {i v : Int} (hg : g a = some (aI (dA 0) n f)) (hi : 0 ≤ i ∧ i < (n : Int)) (hn : n < 2147483648) (hdg : decode cc pc = .ok (.iastore, 1))
    (kk : ∀ (H1 : Heap) (locs1 : List Loc), HP D cl A (va_up g a (some (aI (dA 0) n (uZ f i v)))) H1 → va_S A s.heap H1 locs1 → W p l e R s m args below meth c H1 locs1 cells slots Q (F0 m (pc + 1) ls rest)) : W p l e R s m args below meth c H locs cells slots Q (F0 m pc ls (.int (iI v) :: .int (iI i) :: .ref a :: rest)) := by
  have hr : zR i := ⟨by omega, by omega⟩
  have hin := iI_in hi.1 hi.2 hr
  have hcell := hH.cell hg
  refine W.iast C.1.1 C.1.2.1 hcell ((C.2.2.1.2 0 _ rfl).1 n (fun j => .int (iI (f (j : Int))))) (fun q => by cases q) (by show ¬ (_ ∨ (arrV _ _ _).slots.size ≤ _); rw [arrV_size]; exact hin) rfl rfl hdg fun H1 e z oq => ?_
  refine kk H1 _ (hH.put hg ?_ oq) (hS.put z oq (hH _ _ hg).1)
  show H1[a]? = some (vp_cell _ _)
  rw [e, iI_clamp hr]
  rw [vp_cell_i, vp_cell_i, arrV_store]
  congr 2
  funext q
  by_cases hq : q = i.toNat
  · subst hq
    rw [Int.toNat_of_nonneg hi.1]
    simp [updV, uZ]
  · have hq2 : ¬ ((q : Int) = i) := fun h => hq (by omega)
    simp [updV, uZ, hq, hq2]
theorem z_bast (C : ZC D cl dA A X p s m args meth c cc nL own) (hH : HP D cl A g H) (hS : va_S A s.heap H locs) {a n : Nat} {f : Int → Int} {i v : Int} (hg : g a = some (aI (dA 2) n f)) (hi : 0 ≤ i ∧ i < (n : Int)) (hn : n < 2147483648) (hv : -128 ≤ v ∧ v < 128) (hdg : decode cc pc = .ok (.bastore, 1))
    (kk : ∀ (H1 : Heap) (locs1 : List Loc), HP D cl A (va_up g a (some (aI (dA 2) n (uZ f i v)))) H1 → va_S A s.heap H1 locs1 → W p l e R s m args below meth c H1 locs1 cells slots Q (F0 m (pc + 1) ls rest)) : W p l e R s m args below meth c H locs cells slots Q (F0 m pc ls (.int (iI v) :: .int (iI i) :: .ref a :: rest)) := by
  have hr : zR i := ⟨by omega, by omega⟩
  have hin := iI_in hi.1 hi.2 hr
  have hcell := hH.cell hg
  have hnv : narrow .byte (.int (iI v)) = .int (iI v) := by
    show Value.int (iI v).toInt8.toInt32 = _
    congr 1
    apply Int32.toInt_inj.mp
    rw [Int8.toInt_toInt32, Int32.toInt_toInt8, iI_toInt ⟨by omega, by omega⟩]
    rw [Int.bmod_eq_of_le] <;> omega
  refine W.bast C.1.1 C.1.2.1 hcell ((C.2.2.1.2 2 _ rfl).1 n (fun j => .int (iI (f (j : Int))))) (fun q => by cases q) (by show ¬ (_ ∨ (arrV _ _ _).slots.size ≤ _); rw [arrV_size]; exact hin) rfl rfl hdg fun H1 e z oq => ?_
  refine kk H1 _ (hH.put hg ?_ oq) (hS.put z oq (hH _ _ hg).1)
  show H1[a]? = some (vp_cell _ _)
  rw [e, iI_clamp hr, hnv]
  rw [vp_cell_i, vp_cell_i, arrV_store]
  congr 2
  funext q
  by_cases hq : q = i.toNat
  · subst hq
    rw [Int.toNat_of_nonneg hi.1]
    simp [updV, uZ]
  · have hq2 : ¬ ((q : Int) = i) := fun h => hq (by omega)
    simp [updV, uZ, hq, hq2]
theorem z_zast (C : ZC D cl dA A X p s m args meth c cc nL own) (hH : HP D cl A g H) (hS : va_S A s.heap H locs) {a n : Nat} {f : Int → Int} {i v : Int} (hg : g a = some (aI (dA 3) n f)) (hi : 0 ≤ i ∧ i < (n : Int)) (hn : n < 2147483648) (hv : narrow .boolean (.int (iI v)) = .int (iI v)) (hdg : decode cc pc = .ok (.bastore, 1))
    (kk : ∀ (H1 : Heap) (locs1 : List Loc), HP D cl A (va_up g a (some (aI (dA 3) n (uZ f i v)))) H1 → va_S A s.heap H1 locs1 → W p l e R s m args below meth c H1 locs1 cells slots Q (F0 m (pc + 1) ls rest)) : W p l e R s m args below meth c H locs cells slots Q (F0 m pc ls (.int (iI v) :: .int (iI i) :: .ref a :: rest)) := by
  have hr : zR i := ⟨by omega, by omega⟩
  have hin := iI_in hi.1 hi.2 hr
  have hcell := hH.cell hg
  refine W.zast C.1.1 C.1.2.1 hcell ((C.2.2.1.2 3 _ rfl).1 n (fun j => .int (iI (f (j : Int))))) (fun q => by cases q) (by show ¬ (_ ∨ (arrV _ _ _).slots.size ≤ _); rw [arrV_size]; exact hin) rfl rfl hdg fun H1 e z oq => ?_
  refine kk H1 _ (hH.put hg ?_ oq) (hS.put z oq (hH _ _ hg).1)
  show H1[a]? = some (vp_cell _ _)
  rw [e, iI_clamp hr, hv]
  rw [vp_cell_i, vp_cell_i, arrV_store]
  congr 2
  funext q
  by_cases hq : q = i.toNat
  · subst hq
    rw [Int.toNat_of_nonneg hi.1]
    simp [updV, uZ]
  · have hq2 : ¬ ((q : Int) = i) := fun h => hq (by omega)
    simp [updV, uZ, hq, hq2]
end ZROWS
