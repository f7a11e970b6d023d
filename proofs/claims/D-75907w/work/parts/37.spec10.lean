/-! reading of texts: pages, loops -/
theorem PgAt.add {f g : Int → Int} {P : Pg} {fz : Int → Int} (h : PgAt f P) (ho : PgOk P) (e0 : ∀ j, j ≠ 1 → j < 28 + 40 * pN P → g j = f j) (e1 : g 1 = pN P + 1) (el : ∀ k, 0 ≤ k → k < pW P → g (28 + 40 * pN P + k) = fz k) (hz : MIf P fz) : PgAt g (adL P fz) := by
  have hw := ho.2.1
  have hn0 : 0 ≤ pN P := Int.natCast_nonneg _
  have en : pN P = ((pB P).length : Int) := rfl
  refine PgAt.bits h (fun j a b c => e0 j c (by omega)) (by rw [e1, List.length_append]; simp) (fun l k a b c d => ?_)
  rw [List.length_append] at b
  simp at b
  by_cases hl : l = pN P
  · subst hl
    rw [el k c d, List.getD_eq_getElem?_getD, List.getElem?_append_right (by omega), show (pN P).toNat - (pB P).length = 0 by omega]
    show fz k = dz (bI (pW P) (fun k => decide (fz k = 1))) k
    rw [dz_bI c d]
    have := hz k c d
    by_cases h1 : fz k = 1
    · rw [if_pos (decide_eq_true h1)]; exact h1
    · rw [if_neg (fun hh => h1 (of_decide_eq_true hh))]; omega
  · rw [e0 _ (by omega) (by omega), h.2.2.2.2 l k a (by omega) c d]
    show dz _ k = dz _ k
    rw [List.getD_eq_getElem?_getD, List.getD_eq_getElem?_getD, List.getElem?_append_left (by omega)]
theorem PgOk.adL {P : Pg} (h : PgOk P) (hn : pN P < 20) (f : Int → Int) : PgOk (adL P f) := by
  have en : pN P = ((pB P).length : Int) := rfl
  refine h.bits (by rw [List.length_append]; simp; omega) (fun b hb => ?_)
  rcases List.mem_append.mp hb with h1 | h1
  · obtain ⟨i, hi, rfl⟩ := List.getElem_of_mem h1
    have := bitOf_lt h (i : Int)
    unfold bitOf at this
    rw [Int.toNat_natCast, List.getD_eq_getElem?_getD, List.getElem?_eq_getElem hi] at this; exact this
  · rw [List.mem_singleton.mp h1]; exact bI_lt _ _
theorem bgP_ok {w : Int} (h : 8 ≤ w ∧ w ≤ 40) : PgOk (bgP w) := by
  have e : pN (bgP w) = 0 := rfl
  refine ⟨h.1, h.2, by rw [e]; decide, (by show (1 : Int) ≤ 4 ∧ (4 : Int) ≤ 8; decide), (by show (0 : Int) ≤ 0 ∧ (0 : Int) ≤ 1; decide), (by show (0 : Int) ≤ 0 ∧ (0 : Int) ≤ 1; decide), (by show (0 : Int) ≤ 0 ∧ (0 : Int) ≤ 9; decide), (by show (0 : Int) ≤ 8 ∧ (8 : Int) ≤ 99; decide), (by show (0 : Int) ≤ 16 ∧ (16 : Int) ≤ 99; decide), fun i _ _ => ⟨(by show (0 : Int) ≤ 0; decide), (by show (0 : Int) ≤ 5; decide)⟩, fun b hb => by cases hb⟩
theorem bgP_at (g : Int → Int) (w : Int) (h : g 0 = w ∧ g 2 = 4 ∧ g 6 = 8 ∧ g 7 = 16) (hz : ∀ j, 1 ≤ j → j < 28 → j ≠ 2 → j ≠ 6 → j ≠ 7 → g j = 0) : PgAt g (bgP w) := by
  refine ⟨h.1, hz 1 (by decide) (by decide) (by decide) (by decide) (by decide), fun i a b => ?_, fun i a b => hz _ (by omega) (by omega) (by omega) (by omega) (by omega), fun l k a b => absurd b (by have e : pN (bgP w) = 0 := rfl; omega)⟩
  show g (2 + i) = (if i = 0 then 4 else if i = 4 then 8 else if i = 5 then 16 else 0)
  by_cases h0 : i = 0
  · rw [if_pos h0, h0]; exact h.2.1
  · rw [if_neg h0]
    by_cases h4 : i = 4
    · rw [if_pos h4, h4]; exact h.2.2.1
    · rw [if_neg h4]
      by_cases h5 : i = 5
      · rw [if_pos h5, h5]; exact h.2.2.2
      · rw [if_neg h5]; exact hz _ (by omega) (by omega) (by omega) (by omega) (by omega)
/-! runs -/
def alI (W : Int) (T : AlT) : Prop := 0 ≤ T.2.1 ∧ T.2.1 ≤ W ∧ (T.2.2.1 = 0 ∨ T.2.2.1 = 1) ∧ (T.2.2.2.2 = true ↔ (T.2.1 = 0 ∧ T.2.2.1 = 0 ∧ T.2.2.2.2 = true)) ∧ (T.2.2.2.2 = false → (∃ x, T.1 = .inr x) → 1 ≤ T.2.1 ∨ T.2.2.1 = 1) ∧ ∀ k, T.2.2.2.1 k = 0 ∨ T.2.2.2.1 k = 1
def okN {α : Type} (r : Er α) : Nat := match r with
  | .inl _ => 0
  | .inr _ => 1
def alM (W : Int) (T : AlT) : Nat := (W - T.2.1).toNat + (if T.2.2.2.2 = true then 1 else 0) + okN T.1
def alLo (T : AlT) : Int := if T.2.2.2.2 = true then 0 else 1
theorem alS_err {tx : Int → Int} {n W : Int} {T : AlT} {e : Int × Int} (h : ndE (lkE T.1 (alLo T) W) (decide (T.2.1 + lkV T.1 (alLo T) W ≤ W)) 4 = .inl e) : alS tx n W T = (.inl e, T.2.1, T.2.2.1, T.2.2.2.1, false) := by
  unfold alS alLo at *
  dsimp only
  rw [h]
theorem alS_ok {tx : Int → Int} {n W : Int} {T : AlT} {x : LX} (h : ndE (lkE T.1 (alLo T) W) (decide (T.2.1 + lkV T.1 (alLo T) W ≤ W)) 4 = .inr x) : alS tx n W T = (.inr (nxt tx n x.1), T.2.1 + lkV T.1 (alLo T) W, 1 - T.2.2.1, wr (fun _ => T.2.2.1) T.2.2.2.1 T.2.1 (T.2.1 + lkV T.1 (alLo T) W), false) := by
  unfold alS alLo at *
  dsimp only
  rw [h]
theorem alS_step {tx : Int → Int} {n W : Int} (hW : 8 ≤ W ∧ W ≤ 40) : ∀ T : AlT, alI W T → alC T = true → alM W (alS tx n W T) < alM W T ∧ alI W (alS tx n W T) := by
  intro T hI hC
  obtain ⟨i1, i2, i3, i4, i5, i6⟩ := hI
  have hlo : 0 ≤ alLo T ∧ alLo T ≤ 1 := by unfold alLo; split <;> omega
  have hv := lkV_in (r := T.1) (lo := alLo T) (hi := W) (by omega)
  cases hq : ndE (lkE T.1 (alLo T) W) (decide (T.2.1 + lkV T.1 (alLo T) W ≤ W)) 4 with
  | inl e =>
    rw [alS_err hq]
    refine ⟨?_, i1, i2, i3, ⟨(fun h => by cases h), fun h => by cases h.2.2⟩, (fun _ h => by obtain ⟨x, hx⟩ := h; cases hx), i6⟩
    unfold alM
    dsimp only
    show (W - T.2.1).toNat + (if (false : Bool) = true then 1 else 0) + 0 < _
    rw [if_neg (by decide)]
    by_cases hf : T.2.2.2.2 = true
    · rw [if_pos hf]; omega
    · have : ∃ x, T.1 = .inr x := by
        unfold alC at hC
        cases h1 : T.1 with
        | inl e => rw [h1] at hC; rcases Bool.or_eq_true_iff.mp hC with h2 | h2; exact absurd h2 hf; cases h2
        | inr x => exact ⟨x, rfl⟩
      obtain ⟨x, hx⟩ := this
      rw [hx, if_neg hf]
      show _ < _ + 0 + 1
      omega
  | inr x =>
    rw [alS_ok hq]
    have h1 := ndE_inr hq
    have h2 := of_decide_eq_true h1.2
    have h3 := lkE_inr h1.1
    refine ⟨?_, by dsimp only; omega, h2, by dsimp only; omega, ⟨(fun h => by cases h), fun h => by cases h.2.2⟩, fun _ _ => ?_, fun k => ?_⟩
    · unfold alM
      dsimp only
      rw [h3.1]
      show (W - (T.2.1 + lkV (.inr x) (alLo T) W)).toNat + (if (false : Bool) = true then 1 else 0) + 1 < (W - T.2.1).toNat + (if T.2.2.2.2 = true then 1 else 0) + 1
      rw [h3.1] at hv h2
      rw [if_neg (by decide)]
      by_cases hf : T.2.2.2.2 = true
      · rw [if_pos hf]; omega
      · rw [if_neg hf]
        have : alLo T = 1 := by unfold alLo; rw [if_neg hf]
        omega
    · dsimp only
      by_cases hf : T.2.2.2.2 = true
      · have := i4.mp hf; omega
      · have h9 := i5 (by cases h : T.2.2.2.2; rfl; exact absurd h hf) ⟨x, h3.1⟩
        have : alLo T = 1 := by unfold alLo; rw [if_neg hf]
        omega
    · dsimp only
      unfold wr
      split
      · exact i3
      · exact i6 k
theorem alR_go {tx : Int → Int} {n W : Int} (hW : 8 ≤ W ∧ W ≤ 40) {T : AlT} (hI : alI W T) (hC : alC T = true) : itN (alS tx n W) alC 100 T = itN (alS tx n W) alC 100 (alS tx n W T) := by
  refine itN_go (I := alI W) (μ := alM W) (alS_step hW) hI ?_ hC
  have := hI.1
  unfold alM okN
  split <;> split <;> omega
theorem alR_end {tx : Int → Int} {n W : Int} {T : AlT} (hC : ¬ alC T = true) : itN (alS tx n W) alC 100 T = T := itN_end hC
theorem al0_I {W : Int} (hW : 8 ≤ W ∧ W ≤ 40) (r : Er LX) : alI W (r, 0, 0, (fun _ => 0), true) :=
  ⟨Int.le_refl 0, by show (0 : Int) ≤ W; omega, Or.inl rfl, ⟨fun _ => ⟨rfl, rfl, rfl⟩, fun _ => rfl⟩, (fun h => by cases h), fun _ => Or.inl rfl⟩
theorem alR_I {tx : Int → Int} {n W : Int} (hW : 8 ≤ W ∧ W ≤ 40) (r : Er LX) : alI W (alR tx n W r) := itN_inv (fun s h1 h2 => (alS_step hW s h1 h2).2) 100 _ (al0_I hW r)
/-! modes -/
def abI (W : Int) (s : AbT) : Prop := RdOk W s.2
def abQ (W : Int) (s : AbT) : Nat := match s.1 with
  | .inl _ => 0
  | .inr _ => (W - s.2.1).toNat + 1
theorem rdM_gt {u : Int → Int} {w : Int} {q q' : Rd} {kd n1 n2 : Int} (ho : RdOk w q) (h : rdM u w q kd n1 n2 = some q') : q.1 < q'.1 := by
  obtain ⟨h1, h2, h3, h4⟩ := ho
  by_cases hw : q.1 = w
  · rw [rdM_w hw] at h; cases h
  obtain ⟨b, hb⟩ : ∃ b, b = chg u q.2.1 w (q.1 + 1) := ⟨_, rfl⟩
  have b1 := chg_ge u q.2.1 w (q.1 + 1)
  have b2 := chg_le u q.2.1 (w := w) (i := q.1 + 1) (by omega)
  by_cases hk : kd = 0
  · obtain ⟨d, hd⟩ : ∃ d, d = if b = w then w else chg u 2 w (b + 1) := ⟨_, rfl⟩
    rw [rdM_P hb hd hw hk] at h
    cases h
    show q.1 < d
    by_cases hbw : b = w
    · rw [if_pos hbw] at hd; omega
    · rw [if_neg hbw] at hd
      have := chg_ge u 2 w (b + 1)
      omega
  · obtain ⟨a, ha⟩ : ∃ a, a = if kd = 1 then b + n1 else mx0 q.1 + n1 := ⟨_, rfl⟩
    obtain ⟨e, he⟩ : ∃ e, e = if kd = 1 then a else a + n2 := ⟨_, rfl⟩
    by_cases h5 : e ≤ q.1 ∨ w < e
    · rw [rdM_F hb ha he hk h5] at h; cases h
    · rw [rdM_S hb ha he hw hk h5] at h
      cases h
      show q.1 < e
      omega
theorem abM_step {u : Int → Int} {W w st : Int} {q : Rd} {p : Er LX × Int × Int} (ho : RdOk W q) : abQ W (abM u W w st q p) < (W - q.1).toNat + 1 ∧ RdOk W (abM u W w st q p).2 := by
  unfold abM
  cases h1 : p.1 with
  | inl e => exact ⟨Nat.succ_pos _, ho⟩
  | inr x =>
    dsimp only
    cases h2 : rdM u W q w p.2.1 p.2.2 with
    | none => exact ⟨Nat.succ_pos _, ho⟩
    | some q' =>
      have h3 := rdM_gt ho h2
      have h4 := rdM_ok ho h2
      refine ⟨?_, h4⟩
      show (W - q'.1).toNat + 1 < (W - q.1).toNat + 1
      have := h4.2.1
      omega
theorem abS_step {tx : Int → Int} {n W : Int} {u : Int → Int} : ∀ s : AbT, abI W s → abC tx s = true → abQ W (abS tx n W u s) < abQ W s ∧ abI W (abS tx n W u s) := by
  intro s hI hC
  have h1 := of_decide_eq_true hC
  cases hs : s.1 with
  | inl e => unfold wixE at h1; rw [hs] at h1; exact absurd h1 (show ¬ (6 : Int) ≤ -1 by decide)
  | inr x =>
    have h2 := abM_step (u := u) (w := wixE tx s.1 - 6) (st := stE s.1) (p := abN tx n W (wixE tx s.1 - 6) (goE tx n (ndE s.1 (decide (s.2.1 < W)) 4))) hI
    unfold abS abI
    refine ⟨?_, h2.2⟩
    have e : abQ W s = (W - s.2.1).toNat + 1 := by unfold abQ; rw [hs]
    rw [e]; exact h2.1
theorem abR_go {tx : Int → Int} {n W : Int} {u : Int → Int} (hW : 8 ≤ W ∧ W ≤ 40) {s : AbT} (hI : abI W s) (hC : abC tx s = true) : itN (abS tx n W u) (abC tx) 100 s = itN (abS tx n W u) (abC tx) 100 (abS tx n W u s) := by
  refine itN_go (I := abI W) (μ := abQ W) abS_step hI ?_ hC
  have := hI.1
  unfold abQ
  split <;> omega
theorem abR_end {tx : Int → Int} {n W : Int} {u : Int → Int} {s : AbT} (hC : ¬ abC tx s = true) : itN (abS tx n W u) (abC tx) 100 s = s := itN_end hC
theorem rd0_ok {W : Int} (hW : 8 ≤ W ∧ W ≤ 40) : RdOk W rd0 := ⟨(by decide), (by show (-1 : Int) ≤ W; omega), (by decide), (by decide)⟩
theorem QXpg {P : Pg} (h : PgOk P) : 8 ≤ pW P ∧ pW P ≤ 40 ∧ 0 ≤ pN P ∧ pN P ≤ 20 := ⟨h.1, h.2.1, Int.natCast_nonneg _, h.2.2.1⟩
theorem PgAt.lose1 {f : Int → Int} {P : Pg} (h : PgAt f P) {k v : Int} (hk : 0 ≤ k ∧ k ≤ 19) : PgAt (uZ f (8 + k) v) (eLose P k v) := by
  obtain ⟨h1, h2, h3, h4, h5⟩ := h
  refine ⟨by rw [uZ_ne _ _ (by omega)]; exact h1, by rw [uZ_ne _ _ (by omega)]; exact h2, fun i a b => by rw [uZ_ne _ _ (by omega)]; exact h3 i a b, fun i a b => ?_, fun l j a b c d => by rw [uZ_ne _ _ (by omega)]; exact h5 l j a b c d⟩
  show uZ f (8 + k) v (8 + i) = uZ (pL P) k v i
  by_cases e : i = k
  · rw [e, uZ_self, uZ_self]
  · rw [uZ_ne _ _ (by omega), uZ_ne _ _ e]; exact h4 i a b
theorem PX.e1 {s : Sg} {tx : Int → Int} {n : Int} {r : Er LX} (h : PX s tx n r) (h0 : s 37 0 ≠ 0) : ∃ e, r = .inl e := by
  cases hr : r with
  | inl e => exact ⟨e, rfl⟩
  | inr x => exact absurd (h.e0.mpr ⟨x, hr⟩) h0
theorem abS_in {tx : Int → Int} {n W : Int} {u : Int → Int} {x : LX} {q : Rd} : abS tx n W u (.inr x, q) = abM u W (wix tx x - 6) x.2.1 q (abN tx n W (wix tx x - 6) (goE tx n (ndE (.inr x) (decide (q.1 < W)) 4))) := rfl
theorem abM_inl {u : Int → Int} {W w st : Int} {q : Rd} {p : Er LX × Int × Int} {e : Int × Int} (h : p.1 = .inl e) : abM u W w st q p = (.inl e, q) := by unfold abM; rw [h]
theorem abM_no {u : Int → Int} {W w st : Int} {q : Rd} {p : Er LX × Int × Int} {y : LX} (h : p.1 = .inr y) (h2 : rdM u W q w p.2.1 p.2.2 = none) : abM u W w st q p = (.inl (4, st), q) := by unfold abM; rw [h]; dsimp only; rw [h2]
theorem abM_ok {u : Int → Int} {W w st : Int} {q q' : Rd} {p : Er LX × Int × Int} {y : LX} (h : p.1 = .inr y) (h2 : rdM u W q w p.2.1 p.2.2 = some q') : abM u W w st q p = (.inr y, q') := by unfold abM; rw [h]; dsimp only; rw [h2]
theorem PX.put {s : Sg} {tx : Int → Int} {n : Int} {r : Er LX} (h : PX s tx n r) {cd p : Int} (hc : 1 ≤ cd ∧ cd ≤ 5) : PX (su (su s 37 0 cd) 38 0 p) tx n (.inl (cd, p)) := by
  obtain ⟨h1, ⟨a1, a2, a3, a4, a5, a6, a7, a8, a9⟩, -⟩ := h
  exact ⟨h1.fr rfl rfl, ⟨a1, a2, a3, a4, a5, a6, a7, (Int.le_trans (by decide) hc.1), hc.2⟩, rfl, rfl, hc.1⟩
