/-! counts; what is asked of a page; edits -/
def cnN (f : Int → Int) : Nat → Int
  | 0 => 0
  | n + 1 => cnN f n + f n
def cnt (f : Int → Int) (k : Int) : Int := cnN f k.toNat
theorem cnt_0 (f : Int → Int) : cnt f 0 = 0 := rfl
theorem cnt_go (f : Int → Int) {k : Int} (h : 0 ≤ k) : cnt f (k + 1) = cnt f k + f k := by
  unfold cnt
  rw [show (k + 1).toNat = k.toNat + 1 by omega]
  show cnN f k.toNat + f (k.toNat : Int) = _
  rw [Int.toNat_of_nonneg h]
theorem cnt_congr {f g : Int → Int} {w : Int} (h : ∀ k, 0 ≤ k → k < w → f k = g k) : cnt f w = cnt g w := by
  unfold cnt
  have key : ∀ n : Nat, (n : Int) ≤ w → cnN f n = cnN g n := by
    intro n
    induction n with
    | zero => intro _; rfl
    | succ n ih => intro hn; unfold cnN; rw [ih (by omega), h n (by omega) (by omega)]
  by_cases hw : 0 ≤ w
  · exact key _ (by omega)
  · rw [show w.toNat = 0 by omega]; rfl
theorem cnt_in {f : Int → Int} {w m : Int} (hm : 0 ≤ m) (h0 : 0 ≤ w) (h : ∀ k, 0 ≤ k → k < w → 0 ≤ f k ∧ f k ≤ m) : 0 ≤ cnt f w ∧ cnt f w ≤ w * m := by
  obtain ⟨n, rfl⟩ : ∃ n : Nat, w = n := ⟨w.toNat, by omega⟩
  unfold cnt
  rw [Int.toNat_natCast]
  induction n with
  | zero => simp [cnN]
  | succ n ih =>
    have h1 := ih (by omega) (fun k a b => h k a (by omega))
    have h2 := h n (by omega) (by omega)
    unfold cnN
    have e : ((n + 1 : Nat) : Int) * m = n * m + m := by rw [Int.natCast_add, Int.add_mul]; simp
    rw [e]; omega
def b2 (p : Prop) [Decidable p] : Int := if p then 1 else 0
def bkZ (P : Pg) (l : Int) : Int := cnt (lnZ P l) (pW P)
def chZ (P : Pg) (l : Int) : Int := cnt (isCh (lnZ P l)) (pW P)
def loZ (P : Pg) (l : Int) : Int → Int := if l = -1 then fun _ => 0 else lnZ P l
def dfZ (P : Pg) (a b : Int) : Int := cnt (fun k => if lnZ P a k = loZ P b k then 0 else 1) (pW P)
def smZ (P : Pg) (x : Int) : Int := cnt (fun l => if x = 8 then bkZ P l else if x = 9 then chZ P l else if x = 10 then isMk P (pS P 0) l else if dfZ P l (l - 1) = 0 then 1 else 0) (pN P)
def ctZ (P : Pg) (u x : Int) : Int := if x = 6 then pW P else if x = 7 then pN P else if x = 8 ∨ x = 9 ∨ x = 10 ∨ x = 12 then smZ P x else if x = 11 then u else pS P x
def isLn (P : Pg) (l : Int) : Prop := 0 ≤ l ∧ l ≤ pN P - 1
def mdZ (L : List Md) (kd : Int) : Int := cnt (fun k => if (gM L k).1 = kd then 1 else 0) (L.length : Int)
def liZ (P : Pg) (l x : Int) : Int := if x = 0 then isMk P (pS P 0) l else if x = 1 then sumR (pR P l) else if x = 2 then sumM (pC P l) else if x = 3 then bitsOf P (pS P 0) l else if x = 4 then ((pR P l).length : Int) else if x = 5 then ((pC P l).length : Int) else if x = 9 then pL P l else if x = 10 then bkZ P l else if x = 11 then mkTo P (pS P 0) l else mdZ (pC P l) (x - 6)
def rnZ (P : Pg) (l i : Int) : Int := if i < ((pR P l).length : Int) then gR (pR P l) i else -1
def moZ (P : Pg) (l i x : Int) : Int := if ((pC P l).length : Int) ≤ i then -9 else if x = 0 then (gM (pC P l) i).1 else if x = 1 then (gM (pC P l) i).2.1 else if x = 2 then (gM (pC P l) i).2.2.1 else (gM (pC P l) i).2.2.2
/-- the place of a change by its number, from a place on -/
def ciN (u : Int → Int) (w : Int) : Nat → Int → Int → Int
  | 0, _, _ => -1
  | n + 1, k, i => if isCh u k ≠ 0 ∧ i = 0 then k else ciN u w n (k + 1) (i - isCh u k)
def ciZ (u : Int → Int) (w k i : Int) : Int := ciN u w (w - k).toNat k i
theorem ciZ_end {u : Int → Int} {w k i : Int} (h : w ≤ k) : ciZ u w k i = -1 := by unfold ciZ; rw [show (w - k).toNat = 0 by omega]; rfl
theorem ciZ_at {u : Int → Int} {w k i : Int} (h : k < w) (h1 : isCh u k ≠ 0) (h2 : i = 0) : ciZ u w k i = k := by unfold ciZ; rw [show (w - k).toNat = (w - k).toNat - 1 + 1 by omega]; unfold ciN; rw [if_pos ⟨h1, h2⟩]
theorem ciZ_go {u : Int → Int} {w k i : Int} (h : k < w) (h1 : ¬ (isCh u k ≠ 0 ∧ i = 0)) : ciZ u w k i = ciZ u w (k + 1) (i - isCh u k) := by
  unfold ciZ; rw [show (w - k).toNat = (w - (k + 1)).toNat + 1 by omega]; conv => lhs; unfold ciN
  rw [if_neg h1]
/-- how many of a colour one behind the other -/
def rwZ (u : Int → Int) (w c k : Int) : Int := fnd (fun j => if u j = c then 0 else 1) 1 w k - k
def mxI (a b : Int) : Int := if a < b then b else a
def lgK (u : Int → Int) (w c : Int) : Nat → Int → Int
  | 0, t => t
  | n + 1, t => mxI (lgK u w c n t) (rwZ u w c n)
def lgL (P : Pg) (c : Int) : Nat → Int
  | 0 => 0
  | n + 1 => lgK (lnZ P n) (pW P) c (pW P).toNat (lgL P c n)
def lgZ (P : Pg) (c : Int) : Int := lgL P c (pB P).length
def bgZ (u : Int → Int) (c k : Int) : Int := if u k = c ∧ (k = 0 ∨ u (k - 1) ≠ c) then 1 else 0
def roK (u : Int → Int) (w c n : Int) : Int := cnt (fun k => if bgZ u c k = 1 ∧ rwZ u w c k = n then 1 else 0) w
def roZ (P : Pg) (c n : Int) : Int := cnt (fun l => roK (lnZ P l) (pW P) c n) (pN P)
def rbZ (P : Pg) (l o : Int) : Int := match rdC (loZ P o) (pW P) (pC P l) with
  | none => -1
  | some res => cnt (fun k => if res k = lnZ P l k then 0 else 1) (pW P)
/-- bits by their places -/
def bOf : Nat → (Nat → Bool) → Nat
  | 0, _ => 0
  | n + 1, f => bOf n f ||| (if f n then 2 ^ n else 0)
theorem bOf_bit (f : Nat → Bool) : ∀ (n k : Nat), (bOf n f).testBit k = (decide (k < n) && f k)
  | 0, k => by simp [bOf]
  | n + 1, k => by
    unfold bOf
    rw [Nat.testBit_or, bOf_bit f n k]
    by_cases hk : k = n
    · subst hk
      by_cases h : f k
      · simp [h]
      · simp [h]
    · by_cases h : f n
      · rw [if_pos h, Nat.testBit_two_pow]
        have : ¬ n = k := fun e => hk e.symm
        simp [this]
        rw [show decide (k < n) = decide (k < n + 1) by apply decide_eq_decide.mpr; omega]
      · rw [if_neg h]
        simp
        rw [show decide (k < n) = decide (k < n + 1) by apply decide_eq_decide.mpr; omega]
theorem bOf_lt (f : Nat → Bool) : ∀ n : Nat, bOf n f < 2 ^ n := fun n => Nat.lt_pow_two_of_testBit _ fun i hi => by rw [bOf_bit]; simp; omega
def bI (w : Int) (f : Int → Bool) : Nat := bOf w.toNat (fun k => f (k : Int))
theorem dz_bI {w : Int} {f : Int → Bool} {k : Int} (h0 : 0 ≤ k) (h1 : k < w) : dz (bI w f) k = if f k then 1 else 0 := by
  unfold dz bI
  rw [bOf_bit, Int.toNat_of_nonneg h0]
  rw [show decide (k.toNat < w.toNat) = true by simp; omega]
  simp
theorem bI_lt (w : Int) (f : Int → Bool) : bI w f < 2 ^ w.toNat := bOf_lt _ _
theorem inZ_or (v a b : Int) : ((if a ≤ v ∧ v ≤ b then (1 : Int) else 0) = 1 ∧ a ≤ v ∧ v ≤ b) ∨ ((if a ≤ v ∧ v ≤ b then (1 : Int) else 0) = 0 ∧ (v < a ∨ b < v)) := by
  by_cases h : a ≤ v ∧ v ≤ b
  · rw [if_pos h]; exact Or.inl ⟨rfl, h⟩
  · rw [if_neg h]; exact Or.inr ⟨rfl, by omega⟩
theorem isDot_or (l x n w : Int) : ((if (0 ≤ l ∧ l ≤ n - 1) ∧ 0 ≤ x ∧ x ≤ w - 1 then (1 : Int) else 0) = 1 ∧ 0 ≤ l ∧ l ≤ n - 1 ∧ 0 ≤ x ∧ x ≤ w - 1) ∨ ((if (0 ≤ l ∧ l ≤ n - 1) ∧ 0 ≤ x ∧ x ≤ w - 1 then (1 : Int) else 0) = 0 ∧ (l < 0 ∨ n - 1 < l ∨ x < 0 ∨ w - 1 < x)) := by
  by_cases h : (0 ≤ l ∧ l ≤ n - 1) ∧ 0 ≤ x ∧ x ≤ w - 1
  · rw [if_pos h]; exact Or.inl ⟨rfl, h.1.1, h.1.2, h.2.1, h.2.2⟩
  · rw [if_neg h]; exact Or.inr ⟨rfl, by omega⟩
theorem loZ_01 (P : Pg) (x k : Int) : loZ P x k = 0 ∨ loZ P x k = 1 := by
  unfold loZ
  by_cases h : x = -1
  · rw [if_pos h]; exact Or.inl rfl
  · rw [if_neg h]; exact lnZ_01 P x k
theorem wr_01 {f g : Int → Int} {a b : Int} (hf : ∀ j, f j = 0 ∨ f j = 1) (hg : ∀ j, g j = 0 ∨ g j = 1) : ∀ j, wr f g a b j = 0 ∨ wr f g a b j = 1 := by
  intro j
  unfold wr
  by_cases h : a ≤ j ∧ j < b
  · rw [if_pos h]; exact hf j
  · rw [if_neg h]; exact hg j
theorem rdM_01 {u : Int → Int} {w : Int} {q q' : Rd} {kd n1 n2 : Int} (ho : RdOk w q) (hv : ∀ j, q.2.2 j = 0 ∨ q.2.2 j = 1) (h : rdM u w q kd n1 n2 = some q') : ∀ j, q'.2.2 j = 0 ∨ q'.2.2 j = 1 := by
  obtain ⟨h1, h2, h3, h4⟩ := ho
  by_cases hw : q.1 = w
  · rw [rdM_w hw] at h; cases h
  by_cases hk : kd = 0
  · rw [rdM_P rfl rfl hw hk] at h
    cases h
    exact wr_01 (fun _ => by show q.2.1 = 0 ∨ q.2.1 = 1; omega) hv
  · by_cases h5 : (if kd = 1 then (if kd = 1 then chg u q.2.1 w (q.1 + 1) + n1 else mx0 q.1 + n1) else (if kd = 1 then chg u q.2.1 w (q.1 + 1) + n1 else mx0 q.1 + n1) + n2) ≤ q.1 ∨ w < (if kd = 1 then (if kd = 1 then chg u q.2.1 w (q.1 + 1) + n1 else mx0 q.1 + n1) else (if kd = 1 then chg u q.2.1 w (q.1 + 1) + n1 else mx0 q.1 + n1) + n2)
    · rw [rdM_F rfl rfl rfl hk h5] at h; cases h
    · rw [rdM_S rfl rfl rfl hw hk h5] at h
      cases h
      exact wr_01 (fun _ => by show 1 - q.2.1 = 0 ∨ 1 - q.2.1 = 1; omega) (wr_01 (fun _ => by show q.2.1 = 0 ∨ q.2.1 = 1; omega) hv)
theorem rdL_01 {u : Int → Int} {w : Int} : ∀ (L : List Md) (q q' : Rd), RdOk w q → (∀ j, q.2.2 j = 0 ∨ q.2.2 j = 1) → rdL u w q L = some q' → ∀ j, q'.2.2 j = 0 ∨ q'.2.2 j = 1
  | [], q, q', ho, hv, h => by unfold rdL at h; cases h; exact hv
  | m :: L, q, q', ho, hv, h => by
    unfold rdL at h
    cases hm : rdM u w q m.1 m.2.1 m.2.2.1 with
    | none => rw [hm] at h; cases h
    | some q1 =>
      rw [hm] at h
      exact rdL_01 L q1 q' (rdM_ok ho hm) (rdM_01 ho hv hm) h
theorem rdC_01 {u : Int → Int} {w : Int} {L : List Md} {res : Int → Int} (hw : 0 ≤ w) (h : rdC u w L = some res) : ∀ j, res j = 0 ∨ res j = 1 := by
  unfold rdC at h
  cases hq : rdL u w rd0 L with
  | none => rw [hq] at h; cases h
  | some q =>
    rw [hq] at h
    dsimp only at h
    by_cases hh : q.1 = w
    · rw [if_pos hh] at h; cases h
      exact rdL_01 L rd0 q ⟨by decide, by show (-1 : Int) ≤ w; omega, by decide, by decide⟩ (fun _ => Or.inl rfl) hq
    · rw [if_neg hh] at h; cases h
