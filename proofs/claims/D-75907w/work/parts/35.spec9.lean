/-! reading of texts -/
def svZ (tx : Int → Int) (n k : Int) : Int := if k < n then (if tx k < 0 then tx k + 256 else tx k) else -1
def srt (v : Int) : Int := if v = -1 then 0 else if 97 ≤ v ∧ v ≤ 122 then 1 else if 48 ≤ v ∧ v ≤ 57 then 2 else if v = 46 ∨ v = 35 then 3 else if v = 59 then 4 else if v = 45 then 5 else 6
theorem srt_in (v : Int) : 0 ≤ srt v ∧ srt v ≤ 6 := by
  unfold srt
  split
  · omega
  · split
    · omega
    · split
      · omega
      · split
        · omega
        · split
          · omega
          · split <;> omega
def lxS (tx : Int → Int) (n k : Int) : Int := srt (svZ tx n k)
theorem lxS_in (tx : Int → Int) (n k : Int) : 0 ≤ lxS tx n k ∧ lxS tx n k ≤ 6 := srt_in _
theorem lxS_end {tx : Int → Int} {n k : Int} (h : n ≤ k) : lxS tx n k = 0 := by unfold lxS svZ; rw [if_neg (by omega)]; rfl
theorem svZ_in {tx : Int → Int} {n k : Int} (h : ∀ j, -128 ≤ tx j ∧ tx j < 128) : -1 ≤ svZ tx n k ∧ svZ tx n k ≤ 255 := by
  have := h k
  unfold svZ
  split
  · split <;> omega
  · omega
theorem lxS_pos {tx : Int → Int} {n k : Int} (hb : ∀ j, -128 ≤ tx j ∧ tx j < 128) (h : k < n) : 1 ≤ lxS tx n k := by
  have h0 := lxS_in tx n k
  have h1 := hb k
  by_cases e : lxS tx n k = 0
  · exfalso
    unfold lxS svZ at e
    rw [if_pos h] at e
    unfold srt at e
    rw [if_neg (by split <;> omega)] at e
    split at e
    · omega
    · split at e
      · omega
      · split at e
        · omega
        · split at e
          · omega
          · split at e <;> omega
  · omega
/-- a token: behind it, its start, its kind, its number -/
abbrev LX : Type := Int × Int × Int × Int
def mn (v : Int) : Int := if v < 1000 then v else 1000
def nbK (tx : Int → Int) (s : Int) : Nat → Int
  | 0 => 0
  | m + 1 => mn (10 * nbK tx s m + (tx (s + m) - 48))
def skp (tx : Int → Int) (n a : Int) : Int := fnd (fun j => if svZ tx n j = 32 ∨ svZ tx n j = 10 then 0 else 1) 1 n a
def tkE (tx : Int → Int) (n s : Int) : Int := if lxS tx n s = 0 then s else if lxS tx n s < 4 then fnd (fun j => if lxS tx n j = lxS tx n s then 0 else 1) 1 n s else s + 1
def nxt (tx : Int → Int) (n a : Int) : LX :=
  (tkE tx n (skp tx n a), skp tx n a, lxS tx n (skp tx n a), if lxS tx n (skp tx n a) = 2 then nbK tx (skp tx n a) (tkE tx n (skp tx n a) - skp tx n a).toNat else 0)
theorem skp_in {tx : Int → Int} {n a : Int} (h : a ≤ n) : a ≤ skp tx n a ∧ skp tx n a ≤ n := ⟨fnd_ge _ _ _ _, fnd_le _ _ h⟩
theorem tkE_in {tx : Int → Int} {n s : Int} (h : s ≤ n) : s ≤ tkE tx n s ∧ tkE tx n s ≤ n := by
  unfold tkE
  by_cases h0 : lxS tx n s = 0
  · rw [if_pos h0]; omega
  · have hs : s < n := by
      by_cases hh : s < n
      · exact hh
      · exact absurd (lxS_end (by omega)) h0
    rw [if_neg h0]
    by_cases h4 : lxS tx n s < 4
    · rw [if_pos h4]; exact ⟨fnd_ge _ _ _ _, fnd_le _ _ h⟩
    · rw [if_neg h4]; omega
theorem tkE_gt {tx : Int → Int} {n s : Int} (h0 : lxS tx n s ≠ 0) : s < tkE tx n s := by
  have hs : s < n := by
    by_cases hh : s < n
    · exact hh
    · exact absurd (lxS_end (by omega)) h0
  unfold tkE
  rw [if_neg h0]
  by_cases h4 : lxS tx n s < 4
  · rw [if_pos h4, fnd_go hs (by rw [if_pos rfl]; decide)]
    have := fnd_ge (fun j => if lxS tx n j = lxS tx n s then 0 else 1) 1 n (s + 1)
    omega
  · rw [if_neg h4]; omega
theorem mn_in {v : Int} (h : 0 ≤ v) : 0 ≤ mn v ∧ mn v ≤ 1000 := by unfold mn; split <;> omega
/-- what a token may be -/
def LxOk (n : Int) (x : LX) : Prop := 0 ≤ x.2.1 ∧ x.2.1 ≤ x.1 ∧ x.1 ≤ n ∧ 0 ≤ x.2.2.1 ∧ x.2.2.1 ≤ 6 ∧ 0 ≤ x.2.2.2 ∧ x.2.2.2 ≤ 1000 ∧ (x.2.2.1 ≠ 0 → x.2.1 < x.1)
theorem nbK_in {tx : Int → Int} {s : Int} : ∀ m : Nat, (∀ j : Nat, j < m → 48 ≤ tx (s + j)) → 0 ≤ nbK tx s m ∧ nbK tx s m ≤ 1000
  | 0, _ => by unfold nbK; omega
  | m + 1, h => by
    have h1 := nbK_in m (fun j hj => h j (by omega))
    have h2 := h m (by omega)
    unfold nbK
    exact mn_in (by omega)
theorem fnd_all {f : Int → Int} {w : Int} : ∀ (d : Nat) (i j : Int), w - i ≤ d → i ≤ j → j < fnd f 1 w i → f j ≠ 1 := by
  intro d
  induction d with
  | zero => intro i j h1 h2 h3; rw [fnd_end (by omega)] at h3; omega
  | succ d ih =>
    intro i j h1 h2 h3
    by_cases hw : w ≤ i
    · rw [fnd_end hw] at h3; omega
    by_cases hf : f i = 1
    · rw [fnd_at hf] at h3; omega
    · by_cases hij : j = i
      · rw [hij]; exact hf
      · rw [fnd_go (by omega) hf] at h3
        exact ih (i + 1) j (by omega) (by omega) h3
theorem lx2 {tx : Int → Int} {n k : Int} (hb : ∀ j, -128 ≤ tx j ∧ tx j < 128) (h : lxS tx n k = 2) : 48 ≤ tx k ∧ tx k ≤ 57 := by
  have h1 := hb k
  unfold lxS srt svZ at h
  by_cases hk : k < n
  · rw [if_pos hk] at h
    by_cases h0 : tx k < 0
    · rw [if_pos h0, if_neg (by omega), if_neg (by omega), if_neg (by omega), if_neg (by omega), if_neg (by omega), if_neg (by omega)] at h
      omega
    · rw [if_neg h0, if_neg (by omega)] at h
      by_cases h2 : 97 ≤ tx k ∧ tx k ≤ 122
      · rw [if_pos h2] at h; omega
      · rw [if_neg h2] at h
        by_cases h3 : 48 ≤ tx k ∧ tx k ≤ 57
        · exact h3
        · rw [if_neg h3] at h
          exfalso
          split at h
          · omega
          · split at h
            · omega
            · split at h <;> omega
  · rw [if_neg hk, if_pos rfl] at h; omega
theorem nxt_ok {tx : Int → Int} {n a : Int} (hb : ∀ j, -128 ≤ tx j ∧ tx j < 128) (h0 : 0 ≤ a) (h : a ≤ n) : LxOk n (nxt tx n a) := by
  have h1 := skp_in (tx := tx) h
  have h2 := tkE_in (tx := tx) h1.2
  have h3 := lxS_in tx n (skp tx n a)
  have h5 : 0 ≤ (nxt tx n a).2.2.2 ∧ (nxt tx n a).2.2.2 ≤ 1000 := by
    show 0 ≤ (if lxS tx n (skp tx n a) = 2 then nbK tx (skp tx n a) (tkE tx n (skp tx n a) - skp tx n a).toNat else 0) ∧ (if lxS tx n (skp tx n a) = 2 then nbK tx (skp tx n a) (tkE tx n (skp tx n a) - skp tx n a).toNat else 0) ≤ 1000
    by_cases e : lxS tx n (skp tx n a) = 2
    · rw [if_pos e]
      refine nbK_in _ (fun j hj => ?_)
      have hf : tkE tx n (skp tx n a) = fnd (fun j => if lxS tx n j = 2 then 0 else 1) 1 n (skp tx n a) := by
        unfold tkE; rw [e, if_neg (by decide), if_pos (by decide)]
      have hl : lxS tx n (skp tx n a + j) = 2 := by
        have := fnd_all (f := fun j => if lxS tx n j = 2 then 0 else 1) (w := n) (n - skp tx n a).toNat (skp tx n a) (skp tx n a + j) (by omega) (by omega) (by rw [← hf]; omega)
        by_cases e2 : lxS tx n (skp tx n a + j) = 2
        · exact e2
        · rw [if_neg e2] at this; exact absurd rfl this
      exact (lx2 hb hl).1
    · rw [if_neg e]; omega
  exact ⟨by show 0 ≤ skp tx n a; omega, h2.1, h2.2, h3.1, h3.2, h5.1, h5.2, fun e => tkE_gt e⟩
/-! faults: a code and a place, or what was read -/
abbrev Er (α : Type) : Type := (Int × Int) ⊕ α
def ndE (r : Er LX) (b : Bool) (c : Int) : Er LX := match r with
  | .inl e => .inl e
  | .inr x => if b = true then .inr x else .inl (c, x.2.1)
def goE (tx : Int → Int) (n : Int) (r : Er LX) : Er LX := match r with
  | .inl e => .inl e
  | .inr x => .inr (nxt tx n x.1)
def kdE (r : Er LX) (k : Int) : Bool := match r with
  | .inl _ => false
  | .inr x => decide (x.2.2.1 = k)
def nbE (r : Er LX) (lo hi : Int) : Bool := match r with
  | .inl _ => false
  | .inr x => decide (lo ≤ x.2.2.2 ∧ x.2.2.2 ≤ hi)
def lkE (r : Er LX) (lo hi : Int) : Er LX := ndE (ndE r (kdE r 2) 1) (nbE r lo hi) 2
def lkV (r : Er LX) (lo hi : Int) : Int := match lkE r lo hi with
  | .inl _ => lo
  | .inr x => x.2.2.2
/-- words -/
def wds (j : Int) : Int := [108, 105, 110, 101, 32, 97, 108, 111, 110, 101, 32, 97, 98, 111, 118, 101, 32, 115, 101, 116, 32, 108, 111, 115, 115, 32, 119, 105, 100, 101, 32, 112, 32, 118, 32, 104, 32].getD j.toNat 0
def wpl (w : Int) : Int := [0, 5, 11, 17, 21, 26, 31, 33, 35, 37].getD w.toNat 0
def wln (w : Int) : Int := [4, 5, 5, 3, 4, 4, 1, 1, 1].getD w.toNat 0
def mtK (tx : Int → Int) (st at_ w : Int) : Nat → Int
  | 0 => 1
  | j + 1 => if mtK tx st at_ w j = 1 ∧ st + j < at_ ∧ tx (st + j) = wds (wpl w + j) then 1 else 0
theorem mtK_01 (tx : Int → Int) (st at_ w : Int) : ∀ j, mtK tx st at_ w j = 0 ∨ mtK tx st at_ w j = 1
  | 0 => Or.inr rfl
  | j + 1 => by unfold mtK; split <;> simp
def mtW (tx : Int → Int) (x : LX) (w : Int) : Int := if mtK tx x.2.1 x.1 w (wln w).toNat = 1 ∧ x.1 - x.2.1 = wln w then 1 else 0
def wix (tx : Int → Int) (x : LX) : Int := if x.2.2.1 = 1 then (if fnd (mtW tx x) 1 9 0 = 9 then -1 else fnd (mtW tx x) 1 9 0) else -1
theorem wix_in (tx : Int → Int) (x : LX) : -1 ≤ wix tx x ∧ wix tx x ≤ 8 := by
  have h1 := fnd_ge (mtW tx x) 1 9 0
  have h2 := fnd_le (mtW tx x) 1 (w := 9) (i := 0) (by decide)
  unfold wix
  split
  · split <;> omega
  · omega
/-! rows of dots, runs, modes -/
def wB (r : Er LX) (W : Int) : Bool := match r with
  | .inl _ => false
  | .inr x => decide (x.1 - x.2.1 = W)
def stE (r : Er LX) : Int := match r with
  | .inl _ => 0
  | .inr x => x.2.1
def rowE (tx : Int → Int) (n W : Int) (r : Er LX) : Er LX := goE tx n (ndE (ndE r (kdE r 3) 1) (wB r W) 3)
def rowF (tx : Int → Int) (r : Er LX) : Int → Int := match r with
  | .inl _ => fun _ => 0
  | .inr x => fun i => if tx (x.2.1 + i) = 35 then 1 else 0
/-- runs so far: where it stands, the sum, the colour, the dots, whether it is the first -/
abbrev AlT : Type := Er LX × Int × Int × (Int → Int) × Bool
def alS (tx : Int → Int) (n W : Int) (s : AlT) : AlT :=
  let lo := if s.2.2.2.2 = true then 0 else 1
  let v := lkV s.1 lo W
  match ndE (lkE s.1 lo W) (decide (s.2.1 + v ≤ W)) 4 with
  | .inl e => (.inl e, s.2.1, s.2.2.1, s.2.2.2.1, false)
  | .inr x => (.inr (nxt tx n x.1), s.2.1 + v, 1 - s.2.2.1, wr (fun _ => s.2.2.1) s.2.2.2.1 s.2.1 (s.2.1 + v), false)
def alC (s : AlT) : Bool := s.2.2.2.2 || kdE s.1 2
def alR (tx : Int → Int) (n W : Int) (r : Er LX) : AlT := itN (alS tx n W) alC 100 (r, 0, 0, (fun _ => 0), true)
def alE (W : Int) (s : AlT) : Er LX := ndE (ndE s.1 (kdE s.1 4) 1) (decide (s.2.1 = W)) 3
/-- modes so far -/
abbrev AbT : Type := Er LX × Rd
def wixE (tx : Int → Int) (r : Er LX) : Int := match r with
  | .inl _ => -1
  | .inr x => wix tx x
def abN (tx : Int → Int) (n W w : Int) (r : Er LX) : Er LX × Int × Int :=
  if w = 0 then (r, 0, 0)
  else if w = 1 then (if kdE r 5 = true then (goE tx n (lkE (goE tx n r) 0 3), -lkV (goE tx n r) 0 3, 0) else (goE tx n (lkE r 0 3), lkV r 0 3, 0))
  else (goE tx n (lkE (goE tx n (lkE r 0 W)) 0 W), lkV r 0 W, lkV (goE tx n (lkE r 0 W)) 0 W)
def abM (u : Int → Int) (W w : Int) (st : Int) (q : Rd) (p : Er LX × Int × Int) : AbT := match p.1 with
  | .inl e => (.inl e, q)
  | .inr x => match rdM u W q w p.2.1 p.2.2 with
    | none => (.inl (4, st), q)
    | some q' => (.inr x, q')
def abS (tx : Int → Int) (n W : Int) (u : Int → Int) (s : AbT) : AbT :=
  abM u W (wixE tx s.1 - 6) (stE s.1) s.2 (abN tx n W (wixE tx s.1 - 6) (goE tx n (ndE s.1 (decide (s.2.1 < W)) 4)))
def abC (tx : Int → Int) (s : AbT) : Bool := decide (6 ≤ wixE tx s.1)
def abR (tx : Int → Int) (n W : Int) (u : Int → Int) (r : Er LX) : AbT := itN (abS tx n W u) (abC tx) 100 (r, rd0)
def abE (W : Int) (s : AbT) : Er LX := ndE (ndE s.1 (kdE s.1 4) 1) (decide (s.2.1 = W)) 3
/-- a line is added by its dots -/
def adL (P : Pg) (f : Int → Int) : Pg := eBits P (pB P ++ [bI (pW P) (fun k => decide (f k = 1))])
/-- a statement's end -/
def seE (tx : Int → Int) (n : Int) (r : Er LX) : Er LX := goE tx n (ndE r (kdE r 4) 1)
def mpE (r : Er LX) (P : Pg) : Er (LX × Pg) := match r with
  | .inl e => .inl e
  | .inr x => .inr (x, P)
def lnE (tx : Int → Int) (n w : Int) (P : Pg) (r : Er LX) : Er (LX × Pg) :=
  if w = 0 then mpE (seE tx n (rowE tx n (pW P) r)) (adL P (rowF tx r))
  else if w = 1 then mpE (seE tx n (alE (pW P) (alR tx n (pW P) r))) (adL P (alR tx n (pW P) r).2.2.2.1)
  else mpE (seE tx n (abE (pW P) (abR tx n (pW P) (upZ P (pN P)) r))) (adL P (abR tx n (pW P) (upZ P (pN P)) r).2.2.2)
def stgE (tx : Int → Int) (n : Int) (P : Pg) (r : Er LX) : Er (LX × Pg) :=
  let k := lkV r 0 5
  let r2 := goE tx n (lkE r 0 5)
  mpE (seE tx n (goE tx n (lkE r2 (loK k) (hiZ k)))) (eSet P k (lkV r2 (loK k) (hiZ k)))
def losE (tx : Int → Int) (n : Int) (P : Pg) (r : Er LX) : Er (LX × Pg) :=
  let k := lkV r 0 19
  let r2 := goE tx n (lkE r 0 19)
  mpE (seE tx n (goE tx n (lkE r2 0 5))) (eLose P k (lkV r2 0 5))
def staE (tx : Int → Int) (n : Int) (x : LX) (P : Pg) : Er (LX × Pg) :=
  if ¬ (0 ≤ wix tx x ∧ wix tx x ≤ 4) then .inl (1, x.2.1)
  else if wix tx x ≤ 2 ∧ ¬ pN P < 20 then .inl (5, x.2.1)
  else if wix tx x ≤ 2 then lnE tx n (wix tx x) P (.inr (nxt tx n x.1))
  else if wix tx x = 3 then stgE tx n P (.inr (nxt tx n x.1))
  else losE tx n P (.inr (nxt tx n x.1))
def stS (tx : Int → Int) (n : Int) (s : Er (LX × Pg)) : Er (LX × Pg) := match s with
  | .inl e => .inl e
  | .inr q => staE tx n q.1 q.2
def stC (s : Er (LX × Pg)) : Bool := match s with
  | .inl _ => false
  | .inr q => decide (q.1.2.2.1 ≠ 0)
def bgP (w : Int) : Pg := (w, (fun i => if i = 0 then 4 else if i = 4 then 8 else if i = 5 then 16 else 0), (fun _ => 0), [])
def wdE (tx : Int → Int) (n : Int) (x : LX) : Er (LX × Pg) :=
  if wix tx x = 5 then (let r := .inr (nxt tx n x.1); mpE (seE tx n (goE tx n (lkE r 8 40))) (bgP (lkV r 8 40))) else .inr (x, bgP 16)
def ldE (tx : Int → Int) (n : Int) : Er (LX × Pg) := itN (stS tx n) stC 1000 (wdE tx n (nxt tx n 0))
/-! where the reference keeps what it reads -/
def LxAt (s : Sg) (x : LX) : Prop := s 33 0 = x.1 ∧ s 34 0 = x.2.1 ∧ s 35 0 = x.2.2.1 ∧ mn (s 36 0) = x.2.2.2
def LxR (s : Sg) (n : Int) : Prop := 0 ≤ s 34 0 ∧ s 34 0 ≤ s 33 0 ∧ s 33 0 ≤ n ∧ 0 ≤ s 35 0 ∧ s 35 0 ≤ 6 ∧ 0 ≤ s 36 0 ∧ s 36 0 ≤ 200000 ∧ 0 ≤ s 37 0 ∧ s 37 0 ≤ 5
def ErAt (s : Sg) (r : Er LX) : Prop := match r with
  | .inl e => s 37 0 = e.1 ∧ s 38 0 = e.2 ∧ 1 ≤ e.1
  | .inr x => s 37 0 = 0 ∧ LxAt s x ∧ s 38 0 = -1
def PX (s : Sg) (tx : Int → Int) (n : Int) (r : Er LX) : Prop := TxAt s tx n ∧ LxR s n ∧ ErAt s r
theorem PX.fr {s s' : Sg} {tx : Int → Int} {n : Int} {r : Er LX} (h : PX s tx n r) (e : ∀ k, 31 ≤ k → k ≤ 38 → s' k = s k) : PX s' tx n r := by
  unfold PX LxR ErAt LxAt at *
  rw [e 33 (by decide) (by decide), e 34 (by decide) (by decide), e 35 (by decide) (by decide), e 36 (by decide) (by decide), e 37 (by decide) (by decide), e 38 (by decide) (by decide)]
  exact ⟨h.1.fr (e 31 (by decide) (by decide)) (e 32 (by decide) (by decide)), h.2⟩
theorem mn_step {v d : Int} (h : 0 ≤ v) (hd : 0 ≤ d) : mn (10 * mn v + d) = mn (10 * v + d) := by
  unfold mn
  by_cases h1 : v < 1000
  · rw [if_pos h1]
  · rw [if_neg h1, if_neg (by omega), if_neg (by omega)]
theorem mn_big {v d : Int} (h : 10000 < v) (hd : 0 ≤ d) : mn (10 * mn v + d) = mn v := by
  unfold mn
  rw [if_neg (show ¬ v < 1000 by omega), if_neg (by omega)]
theorem nbK_go {tx : Int → Int} {s k : Int} (h : s ≤ k) : nbK tx s (k + 1 - s).toNat = mn (10 * nbK tx s (k - s).toNat + (tx k - 48)) := by
  rw [show (k + 1 - s).toNat = (k - s).toNat + 1 by omega, nbK, Int.toNat_of_nonneg (by omega), show s + (k - s) = k by omega]
theorem sv_dig {tx : Int → Int} {n k : Int} (hb : ∀ j, -128 ≤ tx j ∧ tx j < 128) (h : lxS tx n k = 2) : svZ tx n k = tx k ∧ 48 ≤ tx k ∧ tx k ≤ 57 := by
  have h2 := lx2 hb h
  have hk : k < n := by
    by_cases hh : k < n
    · exact hh
    · rw [lxS_end (by omega)] at h; omega
  refine ⟨?_, h2⟩
  unfold svZ; rw [if_pos hk, if_neg (by omega)]
theorem ndE_congr {r : Er LX} {b b' : Bool} {c : Int} (h : ∀ x, r = .inr x → b = b') : ndE r b c = ndE r b' c := by
  cases r with
  | inl e => rfl
  | inr x => rw [h x rfl]
theorem ndE_inr {r : Er LX} {b : Bool} {c : Int} {x : LX} (h : ndE r b c = .inr x) : r = .inr x ∧ b = true := by
  cases r with
  | inl e => cases h
  | inr y =>
    cases b with
    | true => exact ⟨h, rfl⟩
    | false => cases h
theorem mn_small {v h : Int} (h9 : h ≤ 99) (lo : Int) : (lo ≤ mn v ∧ mn v ≤ h) ↔ (lo ≤ v ∧ v ≤ h) := by
  unfold mn
  split
  · exact Iff.rfl
  · omega
theorem lkE_inr {r : Er LX} {lo hi : Int} {x : LX} (h : lkE r lo hi = .inr x) : r = .inr x ∧ x.2.2.1 = 2 ∧ lo ≤ x.2.2.2 ∧ x.2.2.2 ≤ hi := by
  have h1 := ndE_inr h
  have h2 := ndE_inr h1.1
  have h3 := h1.2
  have h4 := h2.2
  rw [h2.1] at h3 h4
  exact ⟨h2.1, of_decide_eq_true h4, of_decide_eq_true h3⟩
theorem lkV_in {r : Er LX} {lo hi : Int} (h : lo ≤ hi) : lo ≤ lkV r lo hi ∧ lkV r lo hi ≤ hi := by
  unfold lkV
  cases he : lkE r lo hi with
  | inl e => exact ⟨Int.le_refl _, h⟩
  | inr x => have := lkE_inr he; exact ⟨this.2.2.1, this.2.2.2⟩
theorem wdq : ∀ w : Fin 9, 0 ≤ wpl w.val ∧ wpl w.val + wln w.val < 37 ∧ wpl w.val + wln w.val + 1 = wpl ((w.val : Int) + 1) ∧ 1 ≤ wln w.val ∧ wln w.val ≤ 5 := by decide +kernel
theorem wdc : ∀ (w : Fin 9) (k : Fin 6), (k.val : Int) ≤ wln w.val → (0 ≤ wds (wpl w.val + k.val) ∧ wds (wpl w.val + k.val) ≤ 127 ∧ (wds (wpl w.val + k.val) = 32 ↔ (k.val : Int) = wln w.val)) := by decide +kernel
theorem wd_at {w : Int} (h : 0 ≤ w ∧ w < 9) : 0 ≤ wpl w ∧ wpl w + wln w < 37 ∧ wpl w + wln w + 1 = wpl (w + 1) ∧ 1 ≤ wln w ∧ wln w ≤ 5 := by
  have := wdq ⟨w.toNat, by omega⟩
  dsimp only at this
  rw [Int.toNat_of_nonneg h.1] at this; exact this
theorem wd_ch {w k : Int} (h : 0 ≤ w ∧ w < 9) (hk : 0 ≤ k ∧ k ≤ wln w) : 0 ≤ wds (wpl w + k) ∧ wds (wpl w + k) ≤ 127 ∧ (wds (wpl w + k) = 32 ↔ k = wln w) := by
  have h2 := wd_at h
  have := wdc ⟨w.toNat, by omega⟩ ⟨k.toNat, by omega⟩
  dsimp only at this
  rw [Int.toNat_of_nonneg h.1, Int.toNat_of_nonneg hk.1] at this; exact this hk.2
theorem mtK_go {tx : Int → Int} {st at_ w k : Int} (h : 0 ≤ k) : mtK tx st at_ w (k + 1).toNat = if mtK tx st at_ w k.toNat = 1 ∧ st + k < at_ ∧ tx (st + k) = wds (wpl w + k) then 1 else 0 := by
  rw [show (k + 1).toNat = k.toNat + 1 by omega, mtK, Int.toNat_of_nonneg h]
def WdAt (s : Sg) : Prop := ∀ j, 0 ≤ j → j < 37 → s 39 j = wds j
/-- a reading with its page -/
def erP (s : Er (LX × Pg)) : Er LX := match s with
  | .inl e => .inl e
  | .inr q => .inr q.1
def QX (s : Sg) (tx : Int → Int) (n : Int) (S : Er (LX × Pg)) : Prop := PX s tx n (erP S) ∧ ∀ q, S = .inr q → PgAt (s 2) q.2 ∧ PgOk q.2
theorem erP_mp (r : Er LX) (P : Pg) : erP (mpE r P) = r := by cases r <;> rfl
theorem PgAt.bit2 {f : Int → Int} {P : Pg} (h : PgAt f P) : f 0 = pW P ∧ f 1 = pN P := ⟨h.1, h.2.1⟩
theorem goE_inr {tx : Int → Int} {n : Int} {r : Er LX} {x : LX} (h : goE tx n r = .inr x) : ∃ y, r = .inr y ∧ x = nxt tx n y.1 := by
  cases r with
  | inl e => cases h
  | inr y => exact ⟨y, rfl, by cases h; rfl⟩
theorem PX.e0 {s : Sg} {tx : Int → Int} {n : Int} {r : Er LX} (h : PX s tx n r) : s 37 0 = 0 ↔ ∃ x, r = .inr x := by
  obtain ⟨-, -, h⟩ := h
  cases r with
  | inl e => exact ⟨fun h0 => by have h1 := h.1; have h2 := h.2.2; omega, fun ⟨x, hx⟩ => by cases hx⟩
  | inr x => exact ⟨fun _ => ⟨x, rfl⟩, fun _ => h.1⟩
theorem PX.er {s : Sg} {tx : Int → Int} {n : Int} {r : Er LX} (h : PX s tx n r) : 0 ≤ s 37 0 ∧ s 37 0 ≤ 5 := ⟨h.2.1.2.2.2.2.2.2.2.1, h.2.1.2.2.2.2.2.2.2.2⟩
theorem PX.at {s : Sg} {tx : Int → Int} {n : Int} {x : LX} (h : PX s tx n (.inr x)) : s 33 0 = x.1 ∧ s 34 0 = x.2.1 ∧ s 35 0 = x.2.2.1 := by
  obtain ⟨-, -, h⟩ := h
  obtain ⟨-, h, -⟩ := h
  exact ⟨h.1, h.2.1, h.2.2.1⟩
theorem PX.kd {s : Sg} {tx : Int → Int} {n : Int} {r : Er LX} (h : PX s tx n r) {k c : Int} {b : Bool} (hb : b = decide (s 35 0 = k)) : ndE r b c = ndE r (kdE r k) c := by
  refine ndE_congr (fun x hx => ?_)
  subst hx
  have := h.at.2.2
  rw [hb]
  show decide (s 35 0 = k) = decide (x.2.2.1 = k)
  rw [this]
def MIf (P : Pg) (f : Int → Int) : Prop := ∀ k, 0 ≤ k → k < pW P → f k = 0 ∨ f k = 1
def FrP : Prop := True
