/-! sending: what is asked of it -/
theorem uY_ne (f : Int → Int) {k j : Int} (v : Int) (h : j ≠ k) : uZ f k v j = f j := by unfold uZ; rw [if_neg h]
theorem uZ_back (f : Int → Int) (k v : Int) : uZ (uZ f k v) k (f k) = f := by
  funext j
  unfold uZ
  by_cases h : j = k
  · rw [if_pos h, h]
  · rw [if_neg h, if_neg h]
theorem uZ_back2 {f g : Int → Int} {k v w : Int} (hg : g = uZ f k v) (hw : w = f k) : uZ g k w = f := by rw [hg, hw]; exact uZ_back f k v
theorem uZ_uZ (f : Int → Int) (k v w : Int) : uZ (uZ f k v) k w = uZ f k w := by
  funext j
  unfold uZ
  by_cases h : j = k
  · rw [if_pos h, if_pos h]
  · rw [if_neg h, if_neg h, if_neg h]
theorem uZ_at (f : Int → Int) (k v : Int) : uZ f k v k = v := by unfold uZ; rw [if_pos rfl]
theorem sdS_set {P : Pg} {k v ev mst : Int} {ls : Int → Int} (h : k = 0 ∨ k = 3) : sdS (eSet P k v) ev mst ls = sdS P ev mst ls := by
  have e1 : pS (eSet P k v) 1 = pS P 1 := uY_ne _ _ (by omega)
  have e2 : pS (eSet P k v) 2 = pS P 2 := uY_ne _ _ (by omega)
  have e4 : pS (eSet P k v) 4 = pS P 4 := uY_ne _ _ (by omega)
  have e5 : pS (eSet P k v) 5 = pS P 5 := uY_ne _ _ (by omega)
  have hm : isMk (eSet P k v) ev = isMk P ev := by
    funext l; unfold isMk; rw [e1]; rfl
  have hn : ∀ n : Nat, mkN (eSet P k v) ev n = mkN P ev n := by
    intro n
    induction n with
    | zero => rfl
    | succ n ih => unfold mkN; rw [hm, ih]
  have hb : bitsOf (eSet P k v) ev = bitsOf P ev := by funext l; unfold bitsOf; rw [hm]; rfl
  have hx : rdX (eSet P k v) ev = rdX P ev := by funext g l; unfold rdX; rw [hm]; rfl
  have hA : sdA (eSet P k v) ev ls = sdA P ev ls := by funext t g l; unfold sdA; rw [hb, e4, hx]; rfl
  have hF : sdF (eSet P k v) = sdF P := by funext g l; unfold sdF; rw [e2]
  funext s
  unfold sdS mkTo
  rw [hA, e5, hF, hn]
theorem sdR_set {P : Pg} {k v ev mst : Int} {ls : Int → Int} (h : k = 0 ∨ k = 3) : sdR (eSet P k v) ev mst ls = sdR P ev mst ls := by
  unfold sdR; rw [sdS_set h]; rfl
theorem sdR_I {P : Pg} (ho : PgOk P) {ev mst : Int} (hev : 1 ≤ ev ∧ ev ≤ 8) (hm : 0 ≤ mst ∧ mst ≤ 9) (ls : Int → Int) : SdI P mst (sdR P ev mst ls) :=
  itN_inv (fun s h1 h2 => (sdS_step ho hev hm s h1 h2).2) 400 _ (sd0_I ho hm)
theorem sdS_ls {P : Pg} (ho : PgOk P) {ev mst : Int} {ls lz : Int → Int} (h : ∀ i, 0 ≤ i → i < 20 → ls i = lz i) (s : Sd) (h0 : 0 ≤ s.2.2) (h1 : s.2.2 < pN P) : sdS P ev mst ls s = sdS P ev mst lz s := by
  have hn := ho.2.2.1
  unfold sdS sdA
  rw [h s.2.2 h0 (by omega)]
theorem itN_congr {α : Type} {f g : α → α} {c : α → Bool} {I : α → Prop} (h : ∀ s, I s → c s = true → I (f s) ∧ f s = g s) : ∀ (n : Nat) (s : α), I s → itN f c n s = itN g c n s := by
  intro n
  induction n with
  | zero => intro s _; rfl
  | succ n ih =>
    intro s hI
    unfold itN
    by_cases hc : c s = true
    · rw [if_pos hc, if_pos hc]
      have := h s hI hc
      rw [← this.2]; exact ih _ this.1
    · rw [if_neg hc, if_neg hc]
theorem sdR_ls {P : Pg} (ho : PgOk P) {ev mst : Int} (hev : 1 ≤ ev ∧ ev ≤ 8) (hm : 0 ≤ mst ∧ mst ≤ 9) {ls lz : Int → Int} (h : ∀ i, 0 ≤ i → i < 20 → ls i = lz i) : sdR P ev mst ls = sdR P ev mst lz := by
  unfold sdR
  refine itN_congr (I := SdI P mst) (fun s h1 h2 => ⟨(sdS_step ho hev hm s h1 h2).2, sdS_ls ho h s h1.1 (of_decide_eq_true h2)⟩) 400 _ (sd0_I ho hm)
theorem PgAt.set1 {f : Int → Int} {P : Pg} (h : PgAt f P) {k v : Int} (hk : 0 ≤ k ∧ k ≤ 5) : PgAt (uZ f (2 + k) v) (eSet P k v) := by
  obtain ⟨h1, h2, h3, h4, h5⟩ := h
  refine ⟨by rw [uY_ne _ _ (by omega)]; exact h1, by rw [uY_ne _ _ (by omega)]; exact h2, fun i a b => ?_, fun i a b => by rw [uY_ne _ _ (by omega)]; exact h4 i a b, fun l j a b c d => by rw [uY_ne _ _ (by omega)]; exact h5 l j a b c d⟩
  show uZ f (2 + k) v (2 + i) = uZ (pS P) k v i
  by_cases e : i = k
  · rw [e, uZ_at, uZ_at]
  · rw [uY_ne _ _ (by omega), uY_ne _ _ e]; exact h3 i a b
/-- the sending of the page as it is set -/
def sdQ (P : Pg) : Sd := sdR P (pS P 0) (pS P 3) (pL P)
/-- the sending with one line lost once, and nothing sent again -/
def sdH (P : Pg) (x : Int) : Sd := sdR P (pS P 0) 0 (fun i => if i = x then 1 else 0)
def wdZ (P : Pg) (g : Gt) : Int := cnt (fun l => wrZ P (g l) l) (pN P)
def soZ (P : Pg) (t : Sg) (x : Int) : Int := cnt (fun l => if t 21 l = x then 1 else 0) (pN P)
def seZ (P : Pg) (x : Int) : Int := if x = 0 then (sdQ P).1 26 0 else if x = 1 then (sdQ P).1 27 0 else if x = 2 then (sdQ P).1 28 0 else if x = 7 then wdZ P (sdQ P).2.1 else if x = 8 then (sdQ P).1 29 0 else if x = 9 then (sdQ P).1 30 0 else soZ P (sdQ P).1 (x - 3)
def slZ (P : Pg) (l x : Int) : Int := if x = 0 then (sdQ P).1 21 l else if x = 1 then (sdQ P).1 22 l else if x = 2 then (sdQ P).1 23 l else if x = 3 then wrZ P ((sdQ P).2.1 l) l else (sdQ P).1 24 l
def lastW (f : Int → Int) : Nat → Int
  | 0 => -1
  | n + 1 => if 0 < f n then n else lastW f n
def hoZ (P : Pg) (g : Gt) (y : Int) : Int := if y = 0 then cnt (fun l => if 0 < wrZ P (g l) l then 1 else 0) (pN P) else if y = 1 then wdZ P g else lastW (fun l => wrZ P (g l) l) (pN P).toNat
def hmZ (P : Pg) (x y : Int) : Int := hoZ P (sdH P x).2.1 y
theorem lastW_go (f : Int → Int) {k : Int} (h : 0 ≤ k) : lastW f (k + 1).toNat = if 0 < f k then k else lastW f k.toNat := by
  rw [show (k + 1).toNat = k.toNat + 1 by omega, lastW, Int.toNat_of_nonneg h]
def wsK (f : Int → Int) : Nat → Int × Int
  | 0 => (-1, 0)
  | n + 1 => if (wsK f n).1 = -1 ∨ (wsK f n).2 < f n then ((n : Int), f n) else wsK f n
theorem wsK_go {f : Int → Int} {k b m : Int} (h : 0 ≤ k) (hb : wsK f k.toNat = (b, m)) : wsK f (k + 1).toNat = if b = -1 ∨ m < f k then (k, f k) else (b, m) := by
  rw [show (k + 1).toNat = k.toNat + 1 by omega, wsK, hb, Int.toNat_of_nonneg h]
def wsZ (P : Pg) : Int := (wsK (fun l => wdZ P (sdH P l).2.1) (pN P).toNat).1
/-- the sending at another distance of the marks -/
def sdE (P : Pg) (e : Int) : Sd := sdR P e (pS P 3) (pL P)
def bvK (f b : Int → Int) : Nat → Int × Int × Int
  | 0 => (-1, 0, 0)
  | n + 1 => if (bvK f b n).1 = -1 ∨ f (n + 1) < (bvK f b n).2.1 ∨ (f (n + 1) = (bvK f b n).2.1 ∧ b (n + 1) < (bvK f b n).2.2) then ((n : Int) + 1, f (n + 1), b (n + 1)) else bvK f b n
theorem bvK_go {f g : Int → Int} {k b m i : Int} (h : 1 ≤ k) (hb : bvK f g (k - 1).toNat = (b, m, i)) : bvK f g (k + 1 - 1).toNat = if b = -1 ∨ f k < m ∨ (f k = m ∧ g k < i) then (k, f k, g k) else (b, m, i) := by
  rw [show (k + 1 - 1).toNat = (k - 1).toNat + 1 by omega, bvK, hb, Int.toNat_of_nonneg (by omega), show k - 1 + 1 = k by omega]
def bvZ (P : Pg) : Int := (bvK (fun e => wdZ P (sdE P e).2.1) (fun e => (sdE P e).1 26 0) 8).1
def sdT (P : Pg) (m : Int) : Sd := sdR P (pS P 0) m (pL P)
/-- the least number of steps back with which nothing goes wrong -/
def nsK (f : Int → Int) : Nat → Int
  | 0 => -1
  | n + 1 => if nsK f n = -1 then (if f n = 0 then (n : Int) else -1) else nsK f n
def nsZ (P : Pg) : Int := nsK (fun m => wdZ P (sdT P m).2.1) 10
theorem nsK_stay (f : Int → Int) {n : Nat} (h : nsK f n ≠ -1) : ∀ m, nsK f (n + m) = nsK f n
  | 0 => rfl
  | m + 1 => by
    rw [← Nat.add_assoc]
    show (if nsK f (n + m) = -1 then _ else nsK f (n + m)) = _
    rw [nsK_stay f h m, if_neg h]
theorem wrZ_in {P : Pg} (ho : PgOk P) (r : Int → Int) (l : Int) : 0 ≤ wrZ P r l ∧ wrZ P r l ≤ 40 := by
  have h0 := ho.1
  have h1 := ho.2.1
  have := cnt_in (f := fun k => if r k = lnZ P l k then 0 else 1) (w := pW P) (m := 1) (by omega) (by omega) (fun j _ _ => by split <;> omega)
  unfold wrZ; omega
theorem wdZ_in {P : Pg} (ho : PgOk P) (g : Gt) : 0 ≤ wdZ P g ∧ wdZ P g ≤ 800 := by
  have h0 := ho.2.2.1
  have e : pN P = ((pB P).length : Int) := rfl
  have := cnt_in (f := fun l => wrZ P (g l) l) (w := pN P) (m := 40) (by omega) (by omega) (fun j _ _ => wrZ_in ho _ _)
  unfold wdZ; omega
theorem nsK_go (f : Int → Int) {k : Int} (h : 0 ≤ k) (hb : nsK f k.toNat = -1) : nsK f (k + 1).toNat = if f k = 0 then k else -1 := by
  rw [show (k + 1).toNat = k.toNat + 1 by omega, nsK, if_pos hb, Int.toNat_of_nonneg h]
theorem nsK_end (f : Int → Int) {n : Nat} (h : n ≤ 10) (h2 : n = 10 ∨ nsK f n ≠ -1) : nsK f 10 = nsK f n := by
  rcases h2 with h2 | h2
  · rw [h2]
  · have := nsK_stay f h2 (10 - n)
    rw [show n + (10 - n) = 10 by omega] at this; exact this
theorem frBack {L : List Nat} {s s1 : Sg} {k : Nat} {i v w : Int} (h : Fr (k :: L) s s1) (e1 : s1 k = uZ (s k) i v) (e2 : w = s k i) : Fr L s (su s1 k i w) := by
  intro k' hk'
  by_cases e : k' = k
  · subst e; rw [su_k]; exact uZ_back2 e1 e2
  · rw [su_ne _ _ _ e]; exact h k' (fun hm => by rcases List.mem_cons.mp hm with h1 | h1; exact e h1; exact hk' h1)
theorem uZ_same (f : Int → Int) (k : Int) : f = uZ f k (f k) := by
  funext j
  unfold uZ
  by_cases h : j = k
  · rw [if_pos h, h]
  · rw [if_neg h]
