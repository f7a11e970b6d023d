/-! sending -/
def itN {α : Type} (f : α → α) (c : α → Bool) : Nat → α → α
  | 0, s => s
  | n + 1, s => if c s = true then itN f c n (f s) else s
theorem itN_enough {α : Type} {f : α → α} {c : α → Bool} {I : α → Prop} {μ : α → Nat} (h : ∀ s, I s → c s = true → μ (f s) < μ s ∧ I (f s)) : ∀ (n m : Nat) (s : α), I s → μ s ≤ n → μ s ≤ m → itN f c n s = itN f c m s := by
  intro n
  induction n with
  | zero =>
    intro m s hI h1 h2
    have hc : ¬ c s = true := fun hc => by have := (h s hI hc).1; omega
    cases m with
    | zero => rfl
    | succ m => unfold itN; rw [if_neg hc]
  | succ n ih =>
    intro m s hI h1 h2
    by_cases hc : c s = true
    · have hs := h s hI hc
      cases m with
      | zero => omega
      | succ m => unfold itN; rw [if_pos hc, if_pos hc]; exact ih m (f s) hs.2 (by omega) (by omega)
    · cases m with
      | zero => unfold itN; rw [if_neg hc]
      | succ m => unfold itN; rw [if_neg hc, if_neg hc]
theorem itN_go {α : Type} {f : α → α} {c : α → Bool} {I : α → Prop} {μ : α → Nat} (h : ∀ s, I s → c s = true → μ (f s) < μ s ∧ I (f s)) {n : Nat} {s : α} (hI : I s) (hn : μ s ≤ n) (hc : c s = true) : itN f c n s = itN f c n (f s) := by
  have hs := h s hI hc
  cases n with
  | zero => omega
  | succ n =>
    conv => lhs; unfold itN
    rw [if_pos hc]
    exact itN_enough h n (n + 1) (f s) hs.2 (by omega) (by omega)
theorem itN_end {α : Type} {f : α → α} {c : α → Bool} {n : Nat} {s : α} (hc : ¬ c s = true) : itN f c n s = s := by
  cases n with
  | zero => rfl
  | succ n => unfold itN; rw [if_neg hc]
theorem itN_inv {α : Type} {f : α → α} {c : α → Bool} {I : α → Prop} (h : ∀ s, I s → c s = true → I (f s)) : ∀ (n : Nat) (s : α), I s → I (itN f c n s)
  | 0, s, hI => hI
  | n + 1, s, hI => by
    unfold itN
    by_cases hc : c s = true
    · rw [if_pos hc]; exact itN_inv h n (f s) (h s hI hc)
    · rw [if_neg hc]; exact hI
abbrev Gt : Type := Int → Int → Int
abbrev Sd : Type := Sg × Gt × Int
def gset (g : Gt) (l : Int) (r : Int → Int) : Gt := fun l' => if l' = l then r else g l'
def wrZ (P : Pg) (r : Int → Int) (l : Int) : Int := cnt (fun k => if r k = lnZ P l k then 0 else 1) (pW P)
def rdX (P : Pg) (ev : Int) (g : Gt) (l : Int) : Option (Int → Int) := if isMk P ev l = 1 then some (lnZ P l) else rdC (g (l - 1)) (pW P) (pC P l)
def tau1 (t : Sg) (l cost : Int) : Sg := su (su (su (su t 23 l (t 23 l + cost)) 26 0 (t 26 0 + cost)) 27 0 (t 27 0 + 1)) 22 l (t 22 l + 1)
def sdA (P : Pg) (ev : Int) (ls : Int → Int) (t : Sg) (g : Gt) (l : Int) : Sd :=
  if (tau1 t l (pS P 4 + bitsOf P ev l)) 22 l ≤ ls l then (su (tau1 t l (pS P 4 + bitsOf P ev l)) 29 0 (t 29 0 + 1), g, 1)
  else match rdX P ev g l with
    | none => (su (tau1 t l (pS P 4 + bitsOf P ev l)) 30 0 (t 30 0 + 1), g, 2)
    | some res => (su (tau1 t l (pS P 4 + bitsOf P ev l)) 21 l (if wrZ P res l = 0 then 0 else 3), gset g l res, 0)
def sdF (P : Pg) (g : Gt) (l : Int) : Int → Int := if pS P 2 = 1 ∨ l = 0 then fun _ => 0 else g (l - 1)
def sdS (P : Pg) (ev mst : Int) (ls : Int → Int) (s : Sd) : Sd :=
  let q := sdA P ev ls s.1 s.2.1 s.2.2
  if 0 < q.2.2 ∧ q.1 28 0 < mst then (su (su (su q.1 28 0 (q.1 28 0 + 1)) 24 s.2.2 (q.1 24 s.2.2 + 1)) 26 0 (q.1 26 0 + pS P 5), q.2.1, mkTo P ev s.2.2)
  else if 0 < q.2.2 then (su q.1 21 s.2.2 q.2.2, gset q.2.1 s.2.2 (sdF P q.2.1 s.2.2), s.2.2 + 1)
  else (q.1, q.2.1, s.2.2 + 1)
def sdC (P : Pg) (s : Sd) : Bool := decide (s.2.2 < pN P)
def sd0 : Sd := (fun _ _ => 0, fun _ _ => 0, 0)
def sdR (P : Pg) (ev mst : Int) (ls : Int → Int) : Sd := itN (sdS P ev mst ls) (sdC P) 400 sd0
def sdM (P : Pg) (mst : Int) (s : Sd) : Nat := (mst - s.1 28 0).toNat * 21 + (pN P - s.2.2).toNat
/-- what holds all through a sending -/
def SdI (P : Pg) (mst : Int) (s : Sd) : Prop := 0 ≤ s.2.2 ∧ s.2.2 ≤ pN P ∧ 0 ≤ s.1 28 0 ∧ s.1 28 0 ≤ mst ∧ (∀ l k, s.2.1 l k = 0 ∨ s.2.1 l k = 1) ∧ 0 ≤ s.1 27 0 ∧ s.1 27 0 + (sdM P mst s : Int) ≤ 210 ∧ (∀ l, 0 ≤ s.1 22 l ∧ s.1 22 l ≤ s.1 27 0) ∧ 0 ≤ s.1 26 0 ∧ s.1 26 0 ≤ 1000 * (s.1 27 0 + s.1 28 0) ∧ 0 ≤ s.1 29 0 ∧ 0 ≤ s.1 30 0 ∧ s.1 29 0 + s.1 30 0 ≤ s.1 27 0 ∧ (∀ l, 0 ≤ s.1 21 l ∧ s.1 21 l ≤ 3)
theorem bitsOf_in {P : Pg} (ho : PgOk P) (ev l : Int) : 0 ≤ bitsOf P ev l ∧ bitsOf P ev l ≤ 779 := by
  have s1 := sumR_in (pR P l)
  have s2 := sumM_in (pC P l)
  have h0 := ho.1
  have h1 := ho.2.1
  have l1 : ((pR P l).length : Int) ≤ pW P + 1 := rns_len (lnZ P l) (show 0 ≤ pW P by omega)
  have l2 : ((pC P l).length : Int) ≤ pW P + 1 := cds_len (upZ P l) (lnZ P l) (show 0 ≤ pW P by omega)
  unfold bitsOf
  split <;> omega
theorem rdX_01 {P : Pg} (ho : PgOk P) {ev l : Int} {g : Gt} {res : Int → Int} (h : rdX P ev g l = some res) : ∀ k, res k = 0 ∨ res k = 1 := by
  unfold rdX at h
  by_cases hm : isMk P ev l = 1
  · rw [if_pos hm] at h; cases h; exact lnZ_01 P l
  · rw [if_neg hm] at h; exact rdC_01 (by have := ho.1; omega) h
theorem tau1_22 (t : Sg) (l c : Int) : tau1 t l c 22 l = t 22 l + 1 := by unfold tau1; rw [su_self]
theorem tau1_22' (t : Sg) (l c i : Int) : tau1 t l c 22 i = if i = l then t 22 l + 1 else t 22 i := by unfold tau1; rw [su_k]; unfold uZ; rfl
theorem sdS_step {P : Pg} (ho : PgOk P) {ev mst : Int} (hev : 1 ≤ ev ∧ ev ≤ 8) (hm : 0 ≤ mst ∧ mst ≤ 9) {ls : Int → Int} : ∀ s : Sd, SdI P mst s → sdC P s = true → sdM P mst (sdS P ev mst ls s) < sdM P mst s ∧ SdI P mst (sdS P ev mst ls s) := by
  intro ⟨t, g, l⟩ hI hc
  have hc : l < pN P := of_decide_eq_true hc
  obtain ⟨i1, i2, i3, i4, i5, i6, i7, i8, i9, i10, i11, i12, i13, i14⟩ := hI
  dsimp only at i1 i2 i3 i4 i5 i6 i7 i8 i9 i10 i11 i12 i13 i14
  have hb := bitsOf_in ho ev l
  have h4 := ho.2.2.2.2.2.2.2.1
  have h5 := ho.2.2.2.2.2.2.2.2.1
  have hn := ho.2.2.1
  have hmk := mkTo_le P ev i1
  obtain ⟨cost, hcost⟩ : ∃ x, x = pS P 4 + bitsOf P ev l := ⟨_, rfl⟩
  have key : ∀ (t2 : Sg) (g2 : Gt) (how : Int), sdA P ev ls t g l = (t2, g2, how) → 0 ≤ how ∧ how ≤ 2 ∧ t2 28 0 = t 28 0 ∧ t2 27 0 = t 27 0 + 1 ∧ t2 26 0 = t 26 0 + cost ∧ (∀ i, t2 22 i = if i = l then t 22 l + 1 else t 22 i) ∧ (∀ l k, g2 l k = 0 ∨ g2 l k = 1) ∧ 0 ≤ t2 29 0 ∧ 0 ≤ t2 30 0 ∧ t2 29 0 + t2 30 0 ≤ t2 27 0 ∧ (∀ i, 0 ≤ t2 21 i ∧ t2 21 i ≤ 3) := by
    intro t2 g2 how he
    unfold sdA at he
    rw [← hcost] at he
    by_cases h1 : tau1 t l cost 22 l ≤ ls l
    · rw [if_pos h1] at he
      cases he
      exact ⟨by decide, by decide, rfl, rfl, rfl, tau1_22' t l cost, i5, by show 0 ≤ t 29 0 + 1; omega, by show 0 ≤ t 30 0; omega, by show t 29 0 + 1 + t 30 0 ≤ t 27 0 + 1; omega, i14⟩
    · rw [if_neg h1] at he
      cases hr : rdX P ev g l with
      | none =>
        rw [hr] at he
        cases he
        exact ⟨by decide, by decide, rfl, rfl, rfl, tau1_22' t l cost, i5, by show 0 ≤ t 29 0; omega, by show 0 ≤ t 30 0 + 1; omega, by show t 29 0 + (t 30 0 + 1) ≤ t 27 0 + 1; omega, i14⟩
      | some res =>
        rw [hr] at he
        cases he
        refine ⟨by decide, by decide, rfl, rfl, rfl, tau1_22' t l cost, fun l' k => ?_, by show 0 ≤ t 29 0; omega, by show 0 ≤ t 30 0; omega, by show t 29 0 + t 30 0 ≤ t 27 0 + 1; omega, fun i => ?_⟩
        · unfold gset
          by_cases e : l' = l
          · rw [if_pos e]; exact rdX_01 ho hr k
          · rw [if_neg e]; exact i5 l' k
        · show 0 ≤ uZ (t 21) l _ i ∧ uZ (t 21) l _ i ≤ 3
          unfold uZ
          by_cases e : i = l
          · rw [if_pos e]; split <;> omega
          · rw [if_neg e]; exact i14 i
  obtain ⟨⟨t2, g2, how⟩, hq⟩ : ∃ q, sdA P ev ls t g l = q := ⟨_, rfl⟩
  obtain ⟨k1, k2, k3, k4, k5, k6, k7, k8, k9, k10, k11⟩ := key t2 g2 how hq
  have i8' : ∀ i, 0 ≤ t2 22 i ∧ t2 22 i ≤ t2 27 0 := by
    intro i
    rw [k6 i, k4]
    have a := i8 i
    have b := i8 l
    split <;> omega
  unfold sdS
  dsimp only
  rw [hq]
  dsimp only
  unfold sdM at i7 ⊢
  dsimp only at i7 ⊢
  by_cases h1 : 0 < how ∧ t2 28 0 < mst
  · rw [if_pos h1]
    dsimp only
    have e28 : su (su (su t2 28 0 (t2 28 0 + 1)) 24 l (t2 24 l + 1)) 26 0 (t2 26 0 + pS P 5) 28 0 = t2 28 0 + 1 := rfl
    have hmu : (mst - (t2 28 0 + 1)).toNat * 21 + (pN P - mkTo P ev l).toNat + 1 ≤ (mst - t 28 0).toNat * 21 + (pN P - l).toNat := by
      rw [k3] at h1 ⊢
      have : (mst - t 28 0).toNat = (mst - (t 28 0 + 1)).toNat + 1 := by omega
      rw [this]; omega
    refine ⟨by rw [e28]; omega, hmk.1, by dsimp only; omega, by show 0 ≤ t2 28 0 + 1; omega, by show t2 28 0 + 1 ≤ mst; omega, k7, by show 0 ≤ t2 27 0; omega, ?_, i8', by show 0 ≤ t2 26 0 + pS P 5; omega, by show t2 26 0 + pS P 5 ≤ 1000 * (t2 27 0 + (t2 28 0 + 1)); omega, k8, k9, k10, k11⟩
    unfold sdM
    show t2 27 0 + (((mst - (t2 28 0 + 1)).toNat * 21 + (pN P - mkTo P ev l).toNat : Nat) : Int) ≤ 210
    omega
  · rw [if_neg h1]
    have hmu : (mst - t2 28 0).toNat * 21 + (pN P - (l + 1)).toNat + 1 = (mst - t 28 0).toNat * 21 + (pN P - l).toNat := by rw [k3]; omega
    by_cases h2 : 0 < how
    · rw [if_pos h2]
      dsimp only
      refine ⟨by show (mst - t2 28 0).toNat * 21 + (pN P - (l + 1)).toNat < _; omega, by dsimp only; omega, by dsimp only; omega, by show 0 ≤ t2 28 0; omega, by show t2 28 0 ≤ mst; omega, fun l' k => ?_, by show 0 ≤ t2 27 0; omega, ?_, i8', by show 0 ≤ t2 26 0; omega, by show t2 26 0 ≤ 1000 * (t2 27 0 + t2 28 0); omega, k8, k9, k10, fun i => ?_⟩
      · show gset g2 l (sdF P g2 l) l' k = 0 ∨ gset g2 l (sdF P g2 l) l' k = 1
        unfold gset sdF
        by_cases e : l' = l
        · rw [if_pos e]
          by_cases e2 : pS P 2 = 1 ∨ l = 0
          · rw [if_pos e2]; exact Or.inl rfl
          · rw [if_neg e2]; exact k7 _ _
        · rw [if_neg e]; exact k7 _ _
      · unfold sdM
        show t2 27 0 + (((mst - t2 28 0).toNat * 21 + (pN P - (l + 1)).toNat : Nat) : Int) ≤ 210
        omega
      · show 0 ≤ uZ (t2 21) l how i ∧ uZ (t2 21) l how i ≤ 3
        unfold uZ
        by_cases e : i = l
        · rw [if_pos e]; omega
        · rw [if_neg e]; exact k11 i
    · rw [if_neg h2]
      dsimp only
      refine ⟨by show (mst - t2 28 0).toNat * 21 + (pN P - (l + 1)).toNat < _; omega, by dsimp only; omega, by dsimp only; omega, by show 0 ≤ t2 28 0; omega, by show t2 28 0 ≤ mst; omega, k7, by show 0 ≤ t2 27 0; omega, ?_, i8', by show 0 ≤ t2 26 0; omega, by show t2 26 0 ≤ 1000 * (t2 27 0 + t2 28 0); omega, k8, k9, k10, k11⟩
      unfold sdM
      show t2 27 0 + (((mst - t2 28 0).toNat * 21 + (pN P - (l + 1)).toNat : Nat) : Int) ≤ 210
      omega
theorem sd0_I {P : Pg} (ho : PgOk P) {mst : Int} (hm : 0 ≤ mst ∧ mst ≤ 9) : SdI P mst sd0 := by
  have e : pN P = ((pB P).length : Int) := rfl
  have hn := ho.2.2.1
  refine ⟨by decide, by show (0 : Int) ≤ pN P; omega, by decide, hm.1, fun _ _ => Or.inl rfl, by decide, ?_, fun _ => ⟨Int.le_refl 0, Int.le_refl 0⟩, by decide, by decide, by decide, by decide, by decide, fun _ => ⟨Int.le_refl 0, (by decide : (0 : Int) ≤ 3)⟩⟩
  unfold sdM
  show (0 : Int) + (((mst - 0).toNat * 21 + (pN P - 0).toNat : Nat) : Int) ≤ 210
  omega
theorem sdA_L {P : Pg} {ev : Int} {ls : Int → Int} {t : Sg} {g : Gt} {l : Int} (h : t 22 l + 1 ≤ ls l) : sdA P ev ls t g l = (su (tau1 t l (pS P 4 + bitsOf P ev l)) 29 0 (t 29 0 + 1), g, 1) := by
  unfold sdA; rw [tau1_22, if_pos h]
theorem sdA_N {P : Pg} {ev : Int} {ls : Int → Int} {t : Sg} {g : Gt} {l : Int} (h : ¬ t 22 l + 1 ≤ ls l) (hr : rdX P ev g l = none) : sdA P ev ls t g l = (su (tau1 t l (pS P 4 + bitsOf P ev l)) 30 0 (t 30 0 + 1), g, 2) := by
  unfold sdA; rw [tau1_22, if_neg h, hr]
theorem sdA_S {P : Pg} {ev : Int} {ls : Int → Int} {t : Sg} {g : Gt} {l : Int} {res : Int → Int} (h : ¬ t 22 l + 1 ≤ ls l) (hr : rdX P ev g l = some res) : sdA P ev ls t g l = (su (tau1 t l (pS P 4 + bitsOf P ev l)) 21 l (if wrZ P res l = 0 then 0 else 3), gset g l res, 0) := by
  unfold sdA; rw [tau1_22, if_neg h, hr]
def TauAt (s t : Sg) : Prop := (∀ k, 21 ≤ k → k ≤ 24 → ∀ i, 0 ≤ i → i < 20 → s k i = t k i) ∧ (∀ k, 26 ≤ k → k ≤ 30 → s k 0 = t k 0)
theorem TauAt.fr {s s' t : Sg} (h : TauAt s t) (e : ∀ k, 21 ≤ k → k ≤ 30 → s' k = s k) : TauAt s' t := ⟨fun k a b i c d => by rw [e k a (by omega)]; exact h.1 k a b i c d, fun k a b => by rw [e k (by omega) b]; exact h.2 k a b⟩
theorem tauSu {s t : Sg} (h : TauAt s t) (k : Nat) (l v : Int) : TauAt (su s k l v) (su t k l v) := by
  refine ⟨fun k' a b i c d => ?_, fun k' a b => ?_⟩
  · by_cases e : k' = k
    · subst e
      rw [su_k, su_k]; unfold uZ
      by_cases e2 : i = l
      · rw [if_pos e2, if_pos e2]
      · rw [if_neg e2, if_neg e2]; exact h.1 _ a b i c d
    · rw [su_ne _ _ _ e, su_ne _ _ _ e]; exact h.1 _ a b i c d
  · by_cases e : k' = k
    · subst e
      rw [su_k, su_k]; unfold uZ
      by_cases e2 : (0 : Int) = l
      · rw [if_pos e2, if_pos e2]
      · rw [if_neg e2, if_neg e2]; exact h.2 _ a b
    · rw [su_ne _ _ _ e, su_ne _ _ _ e]; exact h.2 _ a b
def GtAt (w : Int) (s : Sg) (g : Gt) (n : Int) : Prop := ∀ l k, 0 ≤ l → l < n → 0 ≤ k → k < w → s 20 (40 * l + k) = g l k
theorem GtAt.fr {w n m : Int} {s s' : Sg} {g : Gt} (h : GtAt w s g n) (e : s' 20 = s 20) (hm : m ≤ n) : GtAt w s' g m := fun l k a b c d => by rw [e]; exact h l k a (by omega) c d
theorem GtAt.set {w n : Int} {s s' : Sg} {g : Gt} {r : Int → Int} (hw : w ≤ 40) (h : GtAt w s g n) (h0 : 0 ≤ n) (e : ∀ k, 0 ≤ k → k < w → s' 20 (40 * n + k) = r k) (o : ∀ j, j < 40 * n → s' 20 j = s 20 j) : GtAt w s' (gset g n r) (n + 1) := by
  intro l k a b c d
  unfold gset
  by_cases hl : l = n
  · subst hl
    rw [if_pos rfl]; exact e k c d
  · rw [if_neg hl, o _ (by omega)]; exact h l k a (by omega) c d
theorem sdA_in {P : Pg} {ev : Int} {ls : Int → Int} {t t2 : Sg} {g g2 : Gt} {l how : Int} (h : sdA P ev ls t g l = (t2, g2, how)) : 0 ≤ how ∧ how ≤ 2 ∧ t2 28 0 = t 28 0 ∧ t2 24 = t 24 ∧ (0 < how → g2 = g) := by
  by_cases h1 : t 22 l + 1 ≤ ls l
  · rw [sdA_L h1] at h; cases h; exact ⟨by decide, by decide, rfl, rfl, fun _ => rfl⟩
  · cases hr : rdX P ev g l with
    | none => rw [sdA_N h1 hr] at h; cases h; exact ⟨by decide, by decide, rfl, rfl, fun _ => rfl⟩
    | some res => rw [sdA_S h1 hr] at h; cases h; exact ⟨by decide, by decide, rfl, rfl, fun h => absurd h (by decide)⟩
theorem sdS_b {P : Pg} {ev mst : Int} {ls : Int → Int} {t t2 : Sg} {g g2 : Gt} {l how : Int} (h : sdA P ev ls t g l = (t2, g2, how)) (h1 : 0 < how ∧ t2 28 0 < mst) : sdS P ev mst ls (t, g, l) = (su (su (su t2 28 0 (t2 28 0 + 1)) 24 l (t2 24 l + 1)) 26 0 (t2 26 0 + pS P 5), g2, mkTo P ev l) := by
  unfold sdS; dsimp only; rw [h]; dsimp only; rw [if_pos h1]
theorem sdS_f {P : Pg} {ev mst : Int} {ls : Int → Int} {t t2 : Sg} {g g2 : Gt} {l how : Int} (h : sdA P ev ls t g l = (t2, g2, how)) (h1 : ¬ (0 < how ∧ t2 28 0 < mst)) (h2 : 0 < how) : sdS P ev mst ls (t, g, l) = (su t2 21 l how, gset g2 l (sdF P g2 l), l + 1) := by
  unfold sdS; dsimp only; rw [h]; dsimp only; rw [if_neg h1, if_pos h2]
theorem sdS_o {P : Pg} {ev mst : Int} {ls : Int → Int} {t t2 : Sg} {g g2 : Gt} {l how : Int} (h : sdA P ev ls t g l = (t2, g2, how)) (h2 : ¬ 0 < how) : sdS P ev mst ls (t, g, l) = (t2, g2, l + 1) := by
  unfold sdS; dsimp only; rw [h]; dsimp only; rw [if_neg (fun q => h2 q.1), if_neg h2]
theorem sdR_go {P : Pg} (ho : PgOk P) {ev mst : Int} (hev : 1 ≤ ev ∧ ev ≤ 8) (hm : 0 ≤ mst ∧ mst ≤ 9) {ls : Int → Int} {s : Sd} (hI : SdI P mst s) (hc : s.2.2 < pN P) : itN (sdS P ev mst ls) (sdC P) 400 s = itN (sdS P ev mst ls) (sdC P) 400 (sdS P ev mst ls s) := by
  refine itN_go (I := SdI P mst) (μ := sdM P mst) (sdS_step ho hev hm) hI ?_ (decide_eq_true hc)
  have := hI.2.2.2.2.2.2.1
  have := hI.2.2.2.2.2.1
  omega
theorem sdR_end {P : Pg} {ev mst : Int} {ls : Int → Int} {s : Sd} (hc : ¬ s.2.2 < pN P) : itN (sdS P ev mst ls) (sdC P) 400 s = s := itN_end (fun h => hc (of_decide_eq_true h))
