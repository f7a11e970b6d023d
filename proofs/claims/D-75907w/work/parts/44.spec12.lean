/-! reading of texts: it ends -/
def okR (n a : Int) (r : Er LX) : Prop := ∀ x, r = .inr x → LxOk n x ∧ a ≤ x.2.1
theorem okR.nd {n a : Int} {r : Er LX} (h : okR n a r) (b : Bool) (c : Int) : okR n a (ndE r b c) := fun x hx => h x (ndE_inr hx).1
theorem okR.lk {n a : Int} {r : Er LX} (h : okR n a r) (lo hi : Int) : okR n a (lkE r lo hi) := (h.nd _ _).nd _ _
theorem nxt_st (tx : Int → Int) (n a : Int) : a ≤ (nxt tx n a).2.1 := fnd_ge _ _ _ _
theorem okR.go {tx : Int → Int} (hb : ∀ j, -128 ≤ tx j ∧ tx j < 128) {n a : Int} {r : Er LX} (h : okR n a r) : okR n a (goE tx n r) := by
  intro x hx
  obtain ⟨y, hy, rfl⟩ := goE_inr hx
  obtain ⟨⟨h1, h2, h3, -⟩, h5⟩ := h y hy
  exact ⟨nxt_ok hb (by omega) h3, Int.le_trans (by omega) (nxt_st tx n y.1)⟩
theorem okR.row {tx : Int → Int} (hb : ∀ j, -128 ≤ tx j ∧ tx j < 128) {n a W : Int} {r : Er LX} (h : okR n a r) : okR n a (rowE tx n W r) := ((h.nd _ _).nd _ _).go hb
theorem okR.al {tx : Int → Int} (hb : ∀ j, -128 ≤ tx j ∧ tx j < 128) {n a W : Int} {r : Er LX} (h : okR n a r) : okR n a (alR tx n W r).1 := by
  refine itN_inv (I := fun T : AlT => okR n a T.1) (fun T h1 _ => ?_) 100 _ h
  cases hq : ndE (lkE T.1 (alLo T) W) (decide (T.2.1 + lkV T.1 (alLo T) W ≤ W)) 4 with
  | inl e => rw [alS_err hq]; intro x hx; cases hx
  | inr x =>
    rw [alS_ok hq]
    have h2 : okR n a (goE tx n (ndE (lkE T.1 (alLo T) W) (decide (T.2.1 + lkV T.1 (alLo T) W ≤ W)) 4)) := ((h1.lk _ _).nd _ _).go hb
    rw [hq] at h2; exact h2
theorem okR.abn {tx : Int → Int} (hb : ∀ j, -128 ≤ tx j ∧ tx j < 128) {n a W w : Int} {r : Er LX} (h : okR n a r) : okR n a (abN tx n W w r).1 := by
  unfold abN
  split
  · exact h
  · split
    · split
      · exact ((h.go hb).lk _ _).go hb
      · exact (h.lk _ _).go hb
    · exact (((h.lk _ _).go hb).lk _ _).go hb
theorem okR.ab {tx : Int → Int} (hb : ∀ j, -128 ≤ tx j ∧ tx j < 128) {n a W : Int} {u : Int → Int} {r : Er LX} (h : okR n a r) : okR n a (abR tx n W u r).1 := by
  refine itN_inv (I := fun T : AbT => okR n a T.1) (fun T h1 _ => ?_) 100 _ h
  have h2 : okR n a (abN tx n W (wixE tx T.1 - 6) (goE tx n (ndE T.1 (decide (T.2.1 < W)) 4))).1 := ((h1.nd _ _).go hb).abn hb
  unfold abS abM
  cases h3 : (abN tx n W (wixE tx T.1 - 6) (goE tx n (ndE T.1 (decide (T.2.1 < W)) 4))).1 with
  | inl e => intro x hx; cases hx
  | inr x =>
    dsimp only
    cases h4 : rdM u W T.2 (wixE tx T.1 - 6) (abN tx n W (wixE tx T.1 - 6) (goE tx n (ndE T.1 (decide (T.2.1 < W)) 4))).2.1 (abN tx n W (wixE tx T.1 - 6) (goE tx n (ndE T.1 (decide (T.2.1 < W)) 4))).2.2 with
    | none => intro x hx; cases hx
    | some q' => rw [← h3]; exact h2
theorem okR.ln {tx : Int → Int} (hb : ∀ j, -128 ≤ tx j ∧ tx j < 128) {n a w : Int} {P : Pg} {r : Er LX} (h : okR n a r) : okR n a (lnR tx n w P r) := by
  unfold lnR alE abE
  split
  · exact h.row hb
  · split
    · exact ((h.al hb).nd _ _).nd _ _
    · exact ((h.ab hb).nd _ _).nd _ _
theorem okR.st {tx : Int → Int} (hb : ∀ j, -128 ≤ tx j ∧ tx j < 128) {n : Int} {x : LX} {P : Pg} (h : LxOk n x) : okR n x.1 (erP (staE tx n x P)) := by
  have h0 : okR n x.1 (.inr (nxt tx n x.1)) := fun y hy => by
    cases hy
    obtain ⟨h1, h2, h3, -⟩ := h
    exact ⟨nxt_ok hb (by omega) h3, nxt_st tx n x.1⟩
  unfold staE
  split
  · intro y hy; cases hy
  · split
    · intro y hy; cases hy
    · split
      · rw [lnE_eq, erP_mp]; exact ((h0.ln hb).nd _ _).go hb
      · split
        · unfold stgE seE; dsimp only; rw [erP_mp]; exact (((((h0.lk _ _).go hb).lk _ _).go hb).nd _ _).go hb
        · unfold losE seE; dsimp only; rw [erP_mp]; exact (((((h0.lk _ _).go hb).lk _ _).go hb).nd _ _).go hb
theorem stS_step {tx : Int → Int} (hb : ∀ j, -128 ≤ tx j ∧ tx j < 128) {n : Int} : ∀ S : Er (LX × Pg), okR n 0 (erP S) → stC S = true → stQ n (stS tx n S) < stQ n S ∧ okR n 0 (erP (stS tx n S)) := by
  intro S hI hC
  cases S with
  | inl e => cases hC
  | inr q =>
    have hk := of_decide_eq_true hC
    have hq := (hI q.1 rfl).1
    have h1 := okR.st (P := q.2) hb hq
    obtain ⟨a1, a2, a3, -, -, -, -, a8⟩ := hq
    have h9 := a8 hk
    refine ⟨?_, fun y hy => ?_⟩
    · show stQ n (staE tx n q.1 q.2) < (n - q.1.2.1).toNat + 1
      cases hS : staE tx n q.1 q.2 with
      | inl e => exact Nat.succ_pos _
      | inr p =>
        rw [hS] at h1
        have h2 := h1 p.1 rfl
        obtain ⟨⟨b1, b2, b3, -⟩, b5⟩ := h2
        show (n - p.1.2.1).toNat + 1 < (n - q.1.2.1).toNat + 1
        omega
    · have h2 := h1 y hy
      exact ⟨h2.1, by omega⟩
theorem ldE_go {tx : Int → Int} (hb : ∀ j, -128 ≤ tx j ∧ tx j < 128) {n : Int} (hn : n ≤ 900) {S : Er (LX × Pg)} (hI : okR n 0 (erP S)) (hC : stC S = true) : itN (stS tx n) stC 1000 S = itN (stS tx n) stC 1000 (stS tx n S) := by
  refine itN_go (I := fun S => okR n 0 (erP S)) (μ := stQ n) (stS_step hb) hI ?_ hC
  cases S with
  | inl e => exact Nat.zero_le _
  | inr q =>
    have h := (hI q.1 rfl).1.1
    show (n - q.1.2.1).toNat + 1 ≤ 1000
    omega
theorem ldE_end {tx : Int → Int} {n : Int} {S : Er (LX × Pg)} (hC : ¬ stC S = true) : itN (stS tx n) stC 1000 S = S := itN_end hC
theorem ok_0 {tx : Int → Int} (hb : ∀ j, -128 ≤ tx j ∧ tx j < 128) {n : Int} (hn : 0 ≤ n) : okR n 0 (.inr (nxt tx n 0)) := fun x hx => by cases hx; exact ⟨nxt_ok hb (by decide) hn, nxt_st tx n 0⟩
theorem erP_inr {S : Er (LX × Pg)} {x : LX} (h : erP S = .inr x) : ∃ q, S = .inr q ∧ q.1 = x := by
  cases S with
  | inl e => cases h
  | inr q => exact ⟨q, rfl, by cases h; rfl⟩
theorem erP_inl {S : Er (LX × Pg)} {e : Int × Int} (h : erP S = .inl e) : S = .inl e := by
  cases S with
  | inl e' => cases h; rfl
  | inr q => cases h
