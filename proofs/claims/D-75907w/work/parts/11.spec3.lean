/-! pages; reading a code; marks -/
def dz (b : Nat) (k : Int) : Int := if b.testBit k.toNat then 1 else 0
theorem dz_01 (b : Nat) (k : Int) : dz b k = 0 ∨ dz b k = 1 := by unfold dz; split <;> simp
/-- a page: its width, settings, losses, lines -/
abbrev Pg : Type := Int × (Int → Int) × (Int → Int) × List Nat
abbrev pW (P : Pg) : Int := P.1
abbrev pS (P : Pg) : Int → Int := P.2.1
abbrev pL (P : Pg) : Int → Int := P.2.2.1
abbrev pB (P : Pg) : List Nat := P.2.2.2
abbrev pN (P : Pg) : Int := (P.2.2.2.length : Int)
def lnZ (P : Pg) (l : Int) : Int → Int := dz ((pB P).getD l.toNat 0)
def upZ (P : Pg) (l : Int) : Int → Int := if l = 0 then fun _ => 0 else lnZ P (l - 1)
theorem lnZ_01 (P : Pg) (l k : Int) : lnZ P l k = 0 ∨ lnZ P l k = 1 := dz_01 _ k
theorem upZ_01 (P : Pg) (l k : Int) : upZ P l k = 0 ∨ upZ P l k = 1 := by unfold upZ; split; exact Or.inl rfl; exact lnZ_01 _ _ _
def PgOk (P : Pg) : Prop := 8 ≤ pW P ∧ pW P ≤ 40 ∧ pN P ≤ 20 ∧ (1 ≤ pS P 0 ∧ pS P 0 ≤ 8) ∧ (0 ≤ pS P 1 ∧ pS P 1 ≤ 1) ∧ (0 ≤ pS P 2 ∧ pS P 2 ≤ 1) ∧ (0 ≤ pS P 3 ∧ pS P 3 ≤ 9) ∧ (0 ≤ pS P 4 ∧ pS P 4 ≤ 99) ∧ (0 ≤ pS P 5 ∧ pS P 5 ≤ 99) ∧ (∀ i, 0 ≤ i → i < 20 → 0 ≤ pL P i ∧ pL P i ≤ 5) ∧ ∀ b ∈ pB P, b < 2 ^ (pW P).toNat
def PgAt (f : Int → Int) (P : Pg) : Prop := f 0 = pW P ∧ f 1 = pN P ∧ (∀ i, 0 ≤ i → i < 6 → f (2 + i) = pS P i) ∧ (∀ i, 0 ≤ i → i < 20 → f (8 + i) = pL P i) ∧ ∀ l k, 0 ≤ l → l < pN P → 0 ≤ k → k < pW P → f (28 + 40 * l + k) = lnZ P l k
abbrev pC (P : Pg) (l : Int) : List Md := cds (upZ P l) (lnZ P l) (pW P) (-1) 0
abbrev pR (P : Pg) (l : Int) : List Int := rns (lnZ P l) (pW P) 0 0
/-- whether a line is a mark, by how many lines there is one -/
def isMk (P : Pg) (ev l : Int) : Int := if l.tmod ev = 0 then 1 else if pS P 1 = 1 ∧ sumR (pR P l) < sumM (pC P l) then 1 else 0
theorem isMk_01 (P : Pg) (ev l : Int) : isMk P ev l = 0 ∨ isMk P ev l = 1 := by unfold isMk; split; simp; split <;> simp
theorem isMk_0 (P : Pg) (ev : Int) : isMk P ev 0 = 1 := by unfold isMk; rw [Int.zero_tmod, if_pos rfl]
def bitsOf (P : Pg) (ev l : Int) : Int := if isMk P ev l = 1 then sumR (pR P l) else sumM (pC P l)
/-- the latest mark up to a line -/
def mkN (P : Pg) (ev : Int) : Nat → Int
  | 0 => 0
  | n + 1 => if isMk P ev (n + 1 : Nat) = 1 then ((n + 1 : Nat) : Int) else mkN P ev n
def mkTo (P : Pg) (ev l : Int) : Int := mkN P ev l.toNat
theorem mkTo_at {P : Pg} {ev l : Int} (h0 : 0 ≤ l) (h : isMk P ev l = 1) : mkTo P ev l = l := by
  unfold mkTo
  obtain ⟨n, rfl⟩ : ∃ n : Nat, l = n := ⟨l.toNat, by omega⟩
  rw [Int.toNat_natCast]
  cases n with
  | zero => rfl
  | succ n => unfold mkN; rw [if_pos h]
theorem mkTo_go {P : Pg} {ev l : Int} (h0 : 0 ≤ l) (h : isMk P ev l = 0) : 0 < l ∧ mkTo P ev l = mkTo P ev (l - 1) := by
  unfold mkTo
  obtain ⟨n, rfl⟩ : ∃ n : Nat, l = n := ⟨l.toNat, by omega⟩
  cases n with
  | zero => exact absurd h (by rw [show ((0 : Nat) : Int) = 0 from rfl, isMk_0]; decide)
  | succ n =>
    refine ⟨by omega, ?_⟩
    rw [Int.toNat_natCast, show (((n + 1 : Nat) : Int) - 1).toNat = n by omega]
    conv => lhs; unfold mkN
    rw [if_neg (by omega)]
theorem mkN_le (P : Pg) (ev : Int) : ∀ n : Nat, 0 ≤ mkN P ev n ∧ mkN P ev n ≤ n
  | 0 => by unfold mkN; omega
  | n + 1 => by
    have := mkN_le P ev n
    unfold mkN
    split <;> omega
theorem mkTo_le (P : Pg) (ev : Int) {l : Int} (h : 0 ≤ l) : 0 ≤ mkTo P ev l ∧ mkTo P ev l ≤ l := by have := mkN_le P ev l.toNat; unfold mkTo; omega
theorem sumM_in : ∀ L : List Md, 0 ≤ sumM L ∧ sumM L ≤ 19 * (L.length : Int)
  | [] => by simp [sumM]
  | m :: L => by
    have := sumM_in L
    have h : 0 ≤ mbt m ∧ mbt m ≤ 19 := by
      unfold mbt nbt
      split
      · omega
      · split
        · split <;> split <;> omega
        · split
          · omega
          · split
            · omega
            · split <;> omega
    simp only [sumM, List.length_cons]; omega
theorem sumR_in : ∀ L : List Int, 0 ≤ sumR L ∧ sumR L ≤ 8 * (L.length : Int)
  | [] => by simp [sumR]
  | m :: L => by
    have := sumR_in L
    have h : 0 ≤ nbt m ∧ nbt m ≤ 8 := by unfold nbt; split <;> omega
    simp only [sumR, List.length_cons]; omega
/-- reading: where it stands, the colour, the dots -/
abbrev Rd : Type := Int × Int × (Int → Int)
def rdM (u : Int → Int) (w : Int) (q : Rd) (kd n1 n2 : Int) : Option Rd :=
  let b := chg u q.2.1 w (q.1 + 1)
  let d := if b = w then w else chg u 2 w (b + 1)
  let a := if kd = 1 then b + n1 else mx0 q.1 + n1
  let e := if kd = 1 then a else a + n2
  if q.1 = w then none
  else if kd = 0 then some (d, q.2.1, wr (fun _ => q.2.1) q.2.2 (mx0 q.1) d)
  else if e ≤ q.1 ∨ w < e then none
  else some (e, if kd = 1 then 1 - q.2.1 else q.2.1, wr (fun _ => 1 - q.2.1) (wr (fun _ => q.2.1) q.2.2 (mx0 q.1) a) a e)
def rdL (u : Int → Int) (w : Int) : Rd → List Md → Option Rd
  | q, [] => some q
  | q, m :: L => match rdM u w q m.1 m.2.1 m.2.2.1 with
    | none => none
    | some q' => rdL u w q' L
def rd0 : Rd := (-1, 0, fun _ => 0)
def rdC (u : Int → Int) (w : Int) (L : List Md) : Option (Int → Int) := match rdL u w rd0 L with
  | none => none
  | some q => if q.1 = w then some q.2.2 else none
def RdAt (s : Sg) (q : Rd) : Prop := s 16 0 = q.1 ∧ s 17 0 = q.2.1 ∧ ∀ j, 0 ≤ j → j < 40 → s 15 j = q.2.2 j
def RdOk (w : Int) (q : Rd) : Prop := -1 ≤ q.1 ∧ q.1 ≤ w ∧ 0 ≤ q.2.1 ∧ q.2.1 ≤ 1
theorem rdM_w {u : Int → Int} {w : Int} {q : Rd} {kd n1 n2 : Int} (h : q.1 = w) : rdM u w q kd n1 n2 = none := by unfold rdM; dsimp only; rw [if_pos h]
theorem rdM_P {u : Int → Int} {w : Int} {q : Rd} {kd n1 n2 b d : Int} (hb : b = chg u q.2.1 w (q.1 + 1)) (hd : d = if b = w then w else chg u 2 w (b + 1)) (h : ¬ q.1 = w) (h2 : kd = 0) : rdM u w q kd n1 n2 = some (d, q.2.1, wr (fun _ => q.2.1) q.2.2 (mx0 q.1) d) := by
  subst hb; subst hd; unfold rdM; dsimp only; rw [if_neg h, if_pos h2]
theorem rdM_F {u : Int → Int} {w : Int} {q : Rd} {kd n1 n2 b a e : Int} (hb : b = chg u q.2.1 w (q.1 + 1)) (ha : a = if kd = 1 then b + n1 else mx0 q.1 + n1) (he : e = if kd = 1 then a else a + n2) (h2 : ¬ kd = 0) (h3 : e ≤ q.1 ∨ w < e) : rdM u w q kd n1 n2 = none := by
  subst hb; subst ha; subst he; unfold rdM; dsimp only
  by_cases hw : q.1 = w
  · rw [if_pos hw]
  · rw [if_neg hw, if_neg h2, if_pos h3]
theorem rdM_S {u : Int → Int} {w : Int} {q : Rd} {kd n1 n2 b a e : Int} (hb : b = chg u q.2.1 w (q.1 + 1)) (ha : a = if kd = 1 then b + n1 else mx0 q.1 + n1) (he : e = if kd = 1 then a else a + n2) (h : ¬ q.1 = w) (h2 : ¬ kd = 0) (h3 : ¬ (e ≤ q.1 ∨ w < e)) : rdM u w q kd n1 n2 = some (e, if kd = 1 then 1 - q.2.1 else q.2.1, wr (fun _ => 1 - q.2.1) (wr (fun _ => q.2.1) q.2.2 (mx0 q.1) a) a e) := by
  subst hb; subst ha; subst he; unfold rdM; dsimp only
  rw [if_neg h, if_neg h2, if_neg h3]
theorem rdM_ok {u : Int → Int} {w : Int} {q q' : Rd} {kd n1 n2 : Int} (ho : RdOk w q) (h : rdM u w q kd n1 n2 = some q') : RdOk w q' := by
  obtain ⟨h1, h2, h3, h4⟩ := ho
  by_cases hw : q.1 = w
  · rw [rdM_w hw] at h; cases h
  obtain ⟨b, hb⟩ : ∃ b, b = chg u q.2.1 w (q.1 + 1) := ⟨_, rfl⟩
  have b1 := chg_ge u q.2.1 w (q.1 + 1)
  have b2 := chg_le u q.2.1 (w := w) (i := q.1 + 1) (by omega)
  by_cases hk : kd = 0
  · obtain ⟨d, hd⟩ : ∃ d, d = if b = w then w else chg u 2 w (b + 1) := ⟨_, rfl⟩
    rw [rdM_P hb hd hw hk] at h
    cases h
    have hd2 : q.1 ≤ d ∧ d ≤ w := by
      by_cases hbw : b = w
      · rw [if_pos hbw] at hd; omega
      · rw [if_neg hbw] at hd
        have := chg_ge u 2 w (b + 1)
        have := chg_le u 2 (w := w) (i := b + 1) (by omega)
        omega
    exact ⟨by show -1 ≤ d; omega, by show d ≤ w; omega, h3, h4⟩
  · obtain ⟨a, ha⟩ : ∃ a, a = if kd = 1 then b + n1 else mx0 q.1 + n1 := ⟨_, rfl⟩
    obtain ⟨e, he⟩ : ∃ e, e = if kd = 1 then a else a + n2 := ⟨_, rfl⟩
    by_cases h5 : e ≤ q.1 ∨ w < e
    · rw [rdM_F hb ha he hk h5] at h; cases h
    · rw [rdM_S hb ha he hw hk h5] at h
      cases h
      refine ⟨by show -1 ≤ e; omega, by show e ≤ w; omega, ?_, ?_⟩
      · show 0 ≤ (if kd = 1 then 1 - q.2.1 else q.2.1); split <;> omega
      · show (if kd = 1 then 1 - q.2.1 else q.2.1) ≤ 1; split <;> omega
theorem rdL_step {u : Int → Int} {w : Int} {q q' : Rd} {L : List Md} {k : Int} (h0 : 0 ≤ k) (h : k < (L.length : Int)) (hm : rdM u w q (gM L k).1 (gM L k).2.1 (gM L k).2.2.1 = some q') : rdL u w q (L.drop k.toNat) = rdL u w q' (L.drop (k + 1).toNat) := by
  have h3 : k.toNat < L.length := by omega
  rw [List.drop_eq_getElem_cons h3, show (k + 1).toNat = k.toNat + 1 by omega]
  have e : gM L k = L[k.toNat] := by unfold gM; rw [List.getD_eq_getElem?_getD, List.getElem?_eq_getElem h3]; rfl
  rw [e] at hm
  rw [rdL, hm]
theorem rdL_stop {u : Int → Int} {w : Int} {q : Rd} {L : List Md} {k : Int} (h0 : 0 ≤ k) (h : k < (L.length : Int)) (hm : rdM u w q (gM L k).1 (gM L k).2.1 (gM L k).2.2.1 = none) : rdL u w q (L.drop k.toNat) = none := by
  have h3 : k.toNat < L.length := by omega
  rw [List.drop_eq_getElem_cons h3]
  have e : gM L k = L[k.toNat] := by unfold gM; rw [List.getD_eq_getElem?_getD, List.getElem?_eq_getElem h3]; rfl
  rw [e] at hm
  rw [rdL, hm]
theorem rdL_end {u : Int → Int} {w : Int} {q : Rd} {L : List Md} {k : Int} (h : (L.length : Int) ≤ k) : rdL u w q (L.drop k.toNat) = some q := by
  rw [List.drop_of_length_le (by omega)]; rfl
