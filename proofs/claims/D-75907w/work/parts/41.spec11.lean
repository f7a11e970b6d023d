/-! reading of texts: statements -/
theorem abR_I {tx : Int → Int} {n W : Int} {u : Int → Int} (hW : 8 ≤ W ∧ W ≤ 40) (r : Er LX) : RdOk W (abR tx n W u r).2 ∧ ∀ j, (abR tx n W u r).2.2.2 j = 0 ∨ (abR tx n W u r).2.2.2 j = 1 := by
  refine itN_inv (I := fun s : AbT => RdOk W s.2 ∧ ∀ j, s.2.2.2 j = 0 ∨ s.2.2.2 j = 1) (fun s h1 h2 => ⟨(abS_step s h1.1 h2).2, ?_⟩) 100 _ ⟨rd0_ok hW, fun _ => Or.inl rfl⟩
  unfold abS abM
  cases h3 : (abN tx n W (wixE tx s.1 - 6) (goE tx n (ndE s.1 (decide (s.2.1 < W)) 4))).1 with
  | inl e => exact h1.2
  | inr x =>
    dsimp only
    cases h4 : rdM u W s.2 (wixE tx s.1 - 6) (abN tx n W (wixE tx s.1 - 6) (goE tx n (ndE s.1 (decide (s.2.1 < W)) 4))).2.1 (abN tx n W (wixE tx s.1 - 6) (goE tx n (ndE s.1 (decide (s.2.1 < W)) 4))).2.2 with
    | none => exact h1.2
    | some q' => exact rdM_01 h1.1 h1.2 h4
def lnR (tx : Int → Int) (n w : Int) (P : Pg) (r : Er LX) : Er LX :=
  if w = 0 then rowE tx n (pW P) r else if w = 1 then alE (pW P) (alR tx n (pW P) r) else abE (pW P) (abR tx n (pW P) (upZ P (pN P)) r)
def lnF (tx : Int → Int) (n w : Int) (P : Pg) (r : Er LX) : Int → Int :=
  if w = 0 then rowF tx r else if w = 1 then (alR tx n (pW P) r).2.2.2.1 else (abR tx n (pW P) (upZ P (pN P)) r).2.2.2
theorem lnE_eq (tx : Int → Int) (n w : Int) (P : Pg) (r : Er LX) : lnE tx n w P r = mpE (seE tx n (lnR tx n w P r)) (adL P (lnF tx n w P r)) := by
  unfold lnE lnR lnF
  by_cases h : w = 0
  · rw [if_pos h, if_pos h, if_pos h]
  · rw [if_neg h, if_neg h, if_neg h]
    by_cases h1 : w = 1
    · rw [if_pos h1, if_pos h1, if_pos h1]
    · rw [if_neg h1, if_neg h1, if_neg h1]
theorem lnF_01 {tx : Int → Int} {n w : Int} {P : Pg} {r : Er LX} (ho : PgOk P) : MIf P (lnF tx n w P r) := by
  have hW : 8 ≤ pW P ∧ pW P ≤ 40 := ⟨ho.1, ho.2.1⟩
  intro k _ _
  unfold lnF
  by_cases h : w = 0
  · rw [if_pos h]
    unfold rowF
    cases r with
    | inl e => exact Or.inl rfl
    | inr x => dsimp only; split <;> simp
  · rw [if_neg h]
    by_cases h1 : w = 1
    · rw [if_pos h1]; exact (alR_I hW r).2.2.2.2.2 k
    · rw [if_neg h1]; exact (abR_I hW r).2 k
theorem nd2 (R : Er LX) (k c : Int) : ndE (ndE R (kdE R k) c) (kdE (ndE R (kdE R k) c) k) c = ndE R (kdE R k) c := by
  cases R with
  | inl e => rfl
  | inr x =>
    cases h : kdE (.inr x) k with
    | true => show ndE (.inr x) (kdE (.inr x) k) c = _; rw [h]
    | false => rfl
theorem stE_bad {tx : Int → Int} {n : Int} {x : LX} {P : Pg} (h : ¬ (0 ≤ wix tx x ∧ wix tx x ≤ 4)) : staE tx n x P = .inl (1, x.2.1) := by unfold staE; rw [if_pos h]
theorem stE_full {tx : Int → Int} {n : Int} {x : LX} {P : Pg} (h : 0 ≤ wix tx x ∧ wix tx x ≤ 4) (h2 : wix tx x ≤ 2 ∧ ¬ pN P < 20) : staE tx n x P = .inl (5, x.2.1) := by unfold staE; rw [if_neg (fun hh => hh h), if_pos h2]
theorem stE_ln {tx : Int → Int} {n : Int} {x : LX} {P : Pg} (h : 0 ≤ wix tx x ∧ wix tx x ≤ 2) (h2 : pN P < 20) : staE tx n x P = lnE tx n (wix tx x) P (.inr (nxt tx n x.1)) := by
  unfold staE; rw [if_neg (by omega), if_neg (by omega), if_pos (by omega)]
theorem stE_set {tx : Int → Int} {n : Int} {x : LX} {P : Pg} (h : wix tx x = 3) : staE tx n x P = stgE tx n P (.inr (nxt tx n x.1)) := by
  unfold staE; rw [if_neg (by omega), if_neg (by omega), if_neg (by omega), if_pos h]
theorem stE_los {tx : Int → Int} {n : Int} {x : LX} {P : Pg} (h : wix tx x = 4) : staE tx n x P = losE tx n P (.inr (nxt tx n x.1)) := by
  unfold staE; rw [if_neg (by omega), if_neg (by omega), if_neg (by omega), if_neg (by omega)]
theorem mpE_inr {r : Er LX} {P : Pg} {q : LX × Pg} (h : mpE r P = .inr q) : r = .inr q.1 ∧ q.2 = P := by
  cases r with
  | inl e => cases h
  | inr x => cases h; exact ⟨rfl, rfl⟩
theorem QX.mp {s : Sg} {tx : Int → Int} {n : Int} {r : Er LX} {P : Pg} (h : PX s tx n r) (h2 : ∀ x, r = .inr x → PgAt (s 2) P ∧ PgOk P) : QX s tx n (mpE r P) := by
  refine ⟨by rw [erP_mp]; exact h, fun q hq => ?_⟩
  have := mpE_inr hq
  rw [this.2]; exact h2 _ this.1
theorem lkV_eq {r : Er LX} {lo hi : Int} {x : LX} (h : lkE r lo hi = .inr x) : lkV r lo hi = x.2.2.2 := by unfold lkV; rw [h]
/-- a statement ends farther on -/
def LxF (n : Int) (x : LX) : Prop := 0 ≤ x.2.1 ∧ x.2.1 ≤ x.1 ∧ x.1 ≤ n ∧ (x.2.2.1 ≠ 0 → x.2.1 < x.1)
def stQ (n : Int) (s : Er (LX × Pg)) : Nat := match s with
  | .inl _ => 0
  | .inr q => (n - q.1.2.1).toNat + 1
