/-! pure rows: parts of a row written; the first place of a kind; changes; modes; runs -/
def wr (f g : Int → Int) (a b : Int) : Int → Int := fun j => if a ≤ j ∧ j < b then f j else g j
theorem wr_0 (f g : Int → Int) (a : Int) : wr f g a a = g := by
  funext j; unfold wr; rw [if_neg (by omega)]
theorem wr_step (f g : Int → Int) {a b : Int} (h : a ≤ b) : uZ (wr f g a b) b (f b) = wr f g a (b + 1) := by
  funext j; unfold uZ wr
  by_cases hj : j = b
  · subst hj; rw [if_pos rfl, if_pos (by omega)]
  · rw [if_neg hj]
    by_cases h2 : a ≤ j ∧ j < b
    · rw [if_pos h2, if_pos (by omega)]
    · rw [if_neg h2, if_neg (by omega)]
theorem wr_in (f g : Int → Int) {a b j : Int} (h : a ≤ j) (h2 : j < b) : wr f g a b j = f j := by unfold wr; rw [if_pos ⟨h, h2⟩]
theorem wr_out (f g : Int → Int) {a b j : Int} (h : j < a ∨ b ≤ j) : wr f g a b j = g j := by unfold wr; rw [if_neg (by omega)]
def sa (s : Sg) (k : Nat) (f : Int → Int) : Sg := fun k' => if k' = k then f else s k'
theorem sa_k (s : Sg) (k : Nat) (f : Int → Int) : sa s k f k = f := by simp [sa]
theorem sa_ne (s : Sg) {k k' : Nat} (f : Int → Int) (h : k' ≠ k) : sa s k f k' = s k' := by simp [sa, h]
theorem sa_id (s : Sg) (k : Nat) : sa s k (s k) = s := by funext k'; unfold sa; split <;> simp_all
theorem sa_sa (s : Sg) (k : Nat) (f g : Int → Int) : sa (sa s k f) k g = sa s k g := by funext k'; unfold sa; split <;> rfl
theorem su_sa (s : Sg) (k : Nat) (i v : Int) : su s k i v = sa s k (uZ (s k) i v) := rfl
theorem su_wr (s : Sg) (k : Nat) (f g : Int → Int) {a b : Int} (h : a ≤ b) : su (sa s k (wr f g a b)) k b (f b) = sa s k (wr f g a (b + 1)) := by
  rw [su_sa, sa_k, wr_step f g h, sa_sa]
/-- all but some fields stay -/
def Fr (L : List Nat) (s s' : Sg) : Prop := ∀ k, k ∉ L → s' k = s k
theorem Fr.rf {L : List Nat} {s : Sg} : Fr L s s := fun _ _ => rfl
theorem Fr.tr {L1 L2 L : List Nat} {s s1 s2 : Sg} (h1 : Fr L1 s s1) (h2 : Fr L2 s1 s2) (k1 : L1.all (fun k => L.contains k) = true) (k2 : L2.all (fun k => L.contains k) = true) : Fr L s s2 := by
  intro k hk
  have m1 : k ∉ L1 := fun h => hk (List.contains_iff_mem.mp (List.all_eq_true.mp k1 k h))
  have m2 : k ∉ L2 := fun h => hk (List.contains_iff_mem.mp (List.all_eq_true.mp k2 k h))
  rw [h2 k m2, h1 k m1]
theorem Fr.up {L L1 : List Nat} {s s1 : Sg} (h1 : Fr L1 s s1) (k1 : L1.all (fun k => L.contains k) = true) : Fr L s s1 := h1.tr (L2 := []) Fr.rf k1 rfl
theorem Fr.sa {L : List Nat} {s : Sg} {k : Nat} {f : Int → Int} (h : L.contains k = true) : Fr L s (sa s k f) := fun k' hk => sa_ne _ _ (fun e => hk (by rw [e]; exact List.contains_iff_mem.mp h))
theorem Fr.su {L : List Nat} {s : Sg} {k : Nat} {i v : Int} (h : L.contains k = true) : Fr L s (su s k i v) := Fr.sa h
/-- the first place from i on, below w, where lo has c; w if there is none -/
def fndN (lo : Int → Int) (c : Int) : Nat → Int → Int
  | 0, i => i
  | n + 1, i => if lo i = c then i else fndN lo c n (i + 1)
def fnd (lo : Int → Int) (c w i : Int) : Int := fndN lo c (w - i).toNat i
theorem fnd_end {lo : Int → Int} {c w i : Int} (h : w ≤ i) : fnd lo c w i = i := by
  unfold fnd; rw [show (w - i).toNat = 0 by omega]; rfl
theorem fnd_at {lo : Int → Int} {c w i : Int} (h : lo i = c) : fnd lo c w i = i := by
  unfold fnd
  cases (w - i).toNat with
  | zero => rfl
  | succ n => unfold fndN; rw [if_pos h]
theorem fnd_go {lo : Int → Int} {c w i : Int} (h : i < w) (hc : lo i ≠ c) : fnd lo c w i = fnd lo c w (i + 1) := by
  unfold fnd
  rw [show (w - i).toNat = (w - (i + 1)).toNat + 1 by omega]
  rw [fndN, if_neg hc]
theorem fndN_ge (lo : Int → Int) (c : Int) : ∀ (n : Nat) (i : Int), i ≤ fndN lo c n i ∧ fndN lo c n i ≤ i + n
  | 0, i => by unfold fndN; omega
  | n + 1, i => by
    have := fndN_ge lo c n (i + 1)
    unfold fndN
    split <;> omega
theorem fnd_ge (lo : Int → Int) (c w i : Int) : i ≤ fnd lo c w i := (fndN_ge lo c _ i).1
theorem fnd_le (lo : Int → Int) (c : Int) {w i : Int} (h : i ≤ w) : fnd lo c w i ≤ w := by have := (fndN_ge lo c (w - i).toNat i).2; unfold fnd; omega
/-- whether a place is a change -/
def isCh (u : Int → Int) (k : Int) : Int := if u k = (if k = 0 then 0 else u (k - 1)) then 0 else 1
theorem isCh_01 (u : Int → Int) (k : Int) : isCh u k = 0 ∨ isCh u k = 1 := by unfold isCh; by_cases h : u k = (if k = 0 then 0 else u (k - 1)) <;> simp [h]
/-- the first change from i on to another colour than c, below w; w if there is none -/
def chgN (u : Int → Int) (c : Int) : Nat → Int → Int
  | 0, i => i
  | n + 1, i => if isCh u i ≠ 0 ∧ u i ≠ c then i else chgN u c n (i + 1)
def chg (u : Int → Int) (c w i : Int) : Int := chgN u c (w - i).toNat i
theorem chg_end {u : Int → Int} {c w i : Int} (h : w ≤ i) : chg u c w i = i := by
  unfold chg; rw [show (w - i).toNat = 0 by omega]; rfl
theorem chg_at {u : Int → Int} {c w i : Int} (h : isCh u i ≠ 0) (h2 : u i ≠ c) : chg u c w i = i := by
  unfold chg
  cases (w - i).toNat with
  | zero => rfl
  | succ n => unfold chgN; rw [if_pos ⟨h, h2⟩]
theorem chg_go {u : Int → Int} {c w i : Int} (h : i < w) (hc : isCh u i = 0 ∨ u i = c) : chg u c w i = chg u c w (i + 1) := by
  unfold chg
  rw [show (w - i).toNat = (w - (i + 1)).toNat + 1 by omega]
  rw [chgN, if_neg (by intro ⟨a, b⟩; rcases hc with h | h; exact a h; exact b h)]
theorem chgN_ge (u : Int → Int) (c : Int) : ∀ (n : Nat) (i : Int), i ≤ chgN u c n i ∧ chgN u c n i ≤ i + n
  | 0, i => by unfold chgN; omega
  | n + 1, i => by
    have := chgN_ge u c n (i + 1)
    unfold chgN
    split <;> omega
theorem chg_ge (u : Int → Int) (c w i : Int) : i ≤ chg u c w i := (chgN_ge u c _ i).1
theorem chg_le (u : Int → Int) (c : Int) {w i : Int} (h : i ≤ w) : chg u c w i ≤ w := by have := (chgN_ge u c (w - i).toNat i).2; unfold chg; omega
/-- a mode: kind, two numbers, the place behind it -/
abbrev Md : Type := Int × Int × Int × Int
def mx0 (a : Int) : Int := if a < 0 then 0 else a
def nMd (u lo : Int → Int) (w a c : Int) : Md :=
  let t := fnd lo (1 - c) w (a + 1)
  let b := chg u c w (a + 1)
  let d := if b = w then w else chg u 2 w (b + 1)
  if d < t then (0, 0, 0, d)
  else if -3 ≤ t - b ∧ t - b ≤ 3 then (1, t - b, 0, t)
  else (2, t - mx0 a, (if t = w then w else fnd lo c w (t + 1)) - t, if t = w then w else fnd lo c w (t + 1))
def nCo (m : Md) (c : Int) : Int := if m.1 = 1 then 1 - c else c
def cdsN (u lo : Int → Int) (w : Int) : Nat → Int → Int → List Md
  | 0, _, _ => []
  | n + 1, a, c => if a = w then [] else nMd u lo w a c :: cdsN u lo w n (nMd u lo w a c).2.2.2 (nCo (nMd u lo w a c) c)
def cds (u lo : Int → Int) (w a c : Int) : List Md := cdsN u lo w (w - a).toNat a c
theorem nMd_place (u lo : Int → Int) {w a : Int} (c : Int) (h : a < w) : a < (nMd u lo w a c).2.2.2 ∧ (nMd u lo w a c).2.2.2 ≤ w := by
  have t1 := fnd_ge lo (1 - c) w (a + 1)
  have t2 := fnd_le lo (1 - c) (w := w) (i := a + 1) (by omega)
  have b1 := chg_ge u c w (a + 1)
  have b2 := chg_le u c (w := w) (i := a + 1) (by omega)
  have d1 := chg_ge u 2 w (chg u c w (a + 1) + 1)
  have f1 := fnd_ge lo c w (fnd lo (1 - c) w (a + 1) + 1)
  have f2 := fun h => fnd_le lo c (w := w) (i := fnd lo (1 - c) w (a + 1) + 1) h
  unfold nMd
  dsimp only
  generalize chg u 2 w (chg u c w (a + 1) + 1) = d at *
  generalize fnd lo c w (fnd lo (1 - c) w (a + 1) + 1) = f at *
  generalize fnd lo (1 - c) w (a + 1) = t at *
  generalize chg u c w (a + 1) = b at *
  show a < (if (if b = w then w else d) < t then ((0, 0, 0, if b = w then w else d) : Md) else if -3 ≤ t - b ∧ t - b ≤ 3 then (1, t - b, 0, t) else (2, t - mx0 a, (if t = w then w else f) - t, if t = w then w else f)).2.2.2 ∧ (if (if b = w then w else d) < t then ((0, 0, 0, if b = w then w else d) : Md) else if -3 ≤ t - b ∧ t - b ≤ 3 then (1, t - b, 0, t) else (2, t - mx0 a, (if t = w then w else f) - t, if t = w then w else f)).2.2.2 ≤ w
  generalize hd : (if b = w then w else d) = d'
  generalize hf : (if t = w then w else f) = f'
  have hf3 : t ≤ f' ∧ f' ≤ w ∧ a < f' := by
    by_cases ht : t = w
    · rw [if_pos ht] at hf; omega
    · rw [if_neg ht] at hf; have := f2 (by omega); omega
  have hd3 : a < d' := by
    by_cases ht : b = w
    · rw [if_pos ht] at hd; omega
    · rw [if_neg ht] at hd; omega
  by_cases h1 : d' < t
  · rw [if_pos h1]; show a < d' ∧ d' ≤ w; omega
  · rw [if_neg h1]
    by_cases h2 : -3 ≤ t - b ∧ t - b ≤ 3
    · rw [if_pos h2]; show a < t ∧ t ≤ w; omega
    · rw [if_neg h2]; show a < f' ∧ f' ≤ w; omega
theorem cdsN_enough (u lo : Int → Int) (w : Int) : ∀ (n : Nat) (a c : Int), a ≤ w → (w - a).toNat ≤ n → cdsN u lo w n a c = cds u lo w a c
  | 0, a, c, h, hn => by unfold cds; rw [show (w - a).toNat = 0 by omega]
  | n + 1, a, c, h, hn => by
    unfold cds
    by_cases ha : a = w
    · rw [show (w - a).toNat = 0 by omega]
      unfold cdsN; rw [if_pos ha]
    · have hp := nMd_place u lo c (show a < w by omega)
      rw [show (w - a).toNat = (w - a).toNat - 1 + 1 by omega]
      rw [cdsN, cdsN, if_neg ha, if_neg ha, cdsN_enough u lo w n _ _ hp.2 (by omega)]
      have : cdsN u lo w ((w - a).toNat - 1) (nMd u lo w a c).2.2.2 (nCo (nMd u lo w a c) c) = cds u lo w (nMd u lo w a c).2.2.2 (nCo (nMd u lo w a c) c) := by
        by_cases hle : (w - a).toNat - 1 ≤ n
        · unfold cds
          have key : ∀ (x y : Nat) (a c : Int), a ≤ w → (w - a).toNat ≤ x → (w - a).toNat ≤ y → cdsN u lo w x a c = cdsN u lo w y a c := by
            intro x
            induction x with
            | zero =>
              intro y a c h1 h2 h3
              cases y with
              | zero => rfl
              | succ y => unfold cdsN; rw [if_pos (by omega)]
            | succ x ih =>
              intro y a c h1 h2 h3
              cases y with
              | zero => unfold cdsN; rw [if_pos (by omega)]
              | succ y =>
                unfold cdsN
                by_cases hh : a = w
                · rw [if_pos hh, if_pos hh]
                · have hp := nMd_place u lo c (show a < w by omega)
                  rw [if_neg hh, if_neg hh, ih y _ _ hp.2 (by omega) (by omega)]
          exact key _ _ _ _ hp.2 (by omega) (by omega)
        · omega
      rw [this]
theorem cds_end (u lo : Int → Int) (w c : Int) : cds u lo w w c = [] := by unfold cds; rw [show (w - w).toNat = 0 by omega]; rfl
theorem cds_go (u lo : Int → Int) {w a : Int} (c : Int) (h : a < w) : cds u lo w a c = nMd u lo w a c :: cds u lo w (nMd u lo w a c).2.2.2 (nCo (nMd u lo w a c) c) := by
  have hp := nMd_place u lo c h
  conv => lhs; unfold cds
  rw [show (w - a).toNat = (w - a).toNat - 1 + 1 by omega, cdsN, if_neg (by omega), cdsN_enough u lo w _ _ _ hp.2 (by omega)]
/-- the runs of a line from a place on -/
def rnsN (lo : Int → Int) (w : Int) : Nat → Int → Int → List Int
  | 0, _, _ => []
  | n + 1, i, c => if i < w then (fnd lo (1 - c) w i - i) :: rnsN lo w n (fnd lo (1 - c) w i) (1 - c) else []
def nbt (n : Int) : Int := if n < 8 then 4 else 8
def mbt (m : Md) : Int := if m.1 = 0 then 4 else if m.1 = 2 then 3 + nbt m.2.1 + nbt m.2.2.1 else if (if m.2.1 < 0 then -m.2.1 else m.2.1) = 0 then 1 else if (if m.2.1 < 0 then -m.2.1 else m.2.1) = 1 then 3 else if (if m.2.1 < 0 then -m.2.1 else m.2.1) = 2 then 6 else 7
def sumM : List Md → Int
  | [] => 0
  | m :: L => mbt m + sumM L
def sumR : List Int → Int
  | [] => 0
  | n :: L => nbt n + sumR L
theorem sumM_app (L : List Md) (m : Md) : sumM (L ++ [m]) = sumM L + mbt m := by
  induction L with
  | nil => simp [sumM]
  | cons a L ih => simp only [List.cons_append, sumM, ih]; omega
theorem sumR_app (L : List Int) (m : Int) : sumR (L ++ [m]) = sumR L + nbt m := by
  induction L with
  | nil => simp [sumR]
  | cons a L ih => simp only [List.cons_append, sumR, ih]; omega
