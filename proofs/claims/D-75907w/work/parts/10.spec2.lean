/-! lists by whole numbers; what the reference's rows hold of modes and runs -/
def gM (L : List Md) (k : Int) : Md := L.getD k.toNat (0, 0, 0, 0)
def gR (L : List Int) (k : Int) : Int := L.getD k.toNat 0
def MdsAt (s : Sg) (L : List Md) : Prop := s 14 0 = (L.length : Int) ∧ ∀ k : Int, 0 ≤ k → k < (L.length : Int) → s 10 k = (gM L k).1 ∧ s 11 k = (gM L k).2.1 ∧ s 12 k = (gM L k).2.2.1 ∧ s 13 k = (gM L k).2.2.2
def RnsAt (s : Sg) (L : List Int) : Prop := s 19 0 = (L.length : Int) ∧ ∀ k : Int, 0 ≤ k → k < (L.length : Int) → s 18 k = gR L k
def MdOk (w : Int) (m : Md) : Prop := 0 ≤ m.1 ∧ m.1 ≤ 2 ∧ -3 ≤ m.2.1 ∧ m.2.1 ≤ w ∧ 0 ≤ m.2.2.1 ∧ m.2.2.1 ≤ w ∧ 0 ≤ m.2.2.2 ∧ m.2.2.2 ≤ w ∧ (m.1 = 2 → 0 ≤ m.2.1)
theorem gM_app_lt {L L2 : List Md} {k : Int} (h : 0 ≤ k) (h2 : k < (L.length : Int)) : gM (L ++ L2) k = gM L k := by
  unfold gM
  rw [List.getD_eq_getElem?_getD, List.getD_eq_getElem?_getD, List.getElem?_append_left (by omega)]
theorem gM_app_at (L L2 : List Md) (m : Md) : gM (L ++ m :: L2) (L.length : Int) = m := by
  unfold gM
  rw [List.getD_eq_getElem?_getD, List.getElem?_append_right (by omega)]
  simp
theorem gR_app_lt {L L2 : List Int} {k : Int} (h : 0 ≤ k) (h2 : k < (L.length : Int)) : gR (L ++ L2) k = gR L k := by
  unfold gR
  rw [List.getD_eq_getElem?_getD, List.getD_eq_getElem?_getD, List.getElem?_append_left (by omega)]
theorem gR_app_at (L L2 : List Int) (m : Int) : gR (L ++ m :: L2) (L.length : Int) = m := by
  unfold gR
  rw [List.getD_eq_getElem?_getD, List.getElem?_append_right (by omega)]
  simp
theorem gM_mem {L : List Md} {k : Int} (h : 0 ≤ k) (h2 : k < (L.length : Int)) : gM L k ∈ L := by
  unfold gM
  have h3 : k.toNat < L.length := by omega
  rw [List.getD_eq_getElem?_getD, List.getElem?_eq_getElem h3]
  exact List.getElem_mem h3
theorem gR_mem {L : List Int} {k : Int} (h : 0 ≤ k) (h2 : k < (L.length : Int)) : gR L k ∈ L := by
  unfold gR
  have h3 : k.toNat < L.length := by omega
  rw [List.getD_eq_getElem?_getD, List.getElem?_eq_getElem h3]
  exact List.getElem_mem h3
theorem gM_take {L : List Md} {k : Int} (h : 0 ≤ k) (h2 : k < (L.length : Int)) : L.take (k + 1).toNat = L.take k.toNat ++ [gM L k] := by
  have h3 : k.toNat < L.length := by omega
  rw [show (k + 1).toNat = k.toNat + 1 by omega, List.take_succ]
  unfold gM
  rw [List.getD_eq_getElem?_getD, List.getElem?_eq_getElem h3]
  rfl
theorem gR_take {L : List Int} {k : Int} (h : 0 ≤ k) (h2 : k < (L.length : Int)) : L.take (k + 1).toNat = L.take k.toNat ++ [gR L k] := by
  have h3 : k.toNat < L.length := by omega
  rw [show (k + 1).toNat = k.toNat + 1 by omega, List.take_succ]
  unfold gR
  rw [List.getD_eq_getElem?_getD, List.getElem?_eq_getElem h3]
  rfl
theorem sumM_take {L : List Md} {k : Int} (h : 0 ≤ k) (h2 : k < (L.length : Int)) : sumM (L.take (k + 1).toNat) = sumM (L.take k.toNat) + mbt (gM L k) := by rw [gM_take h h2, sumM_app]
theorem sumR_take {L : List Int} {k : Int} (h : 0 ≤ k) (h2 : k < (L.length : Int)) : sumR (L.take (k + 1).toNat) = sumR (L.take k.toNat) + nbt (gR L k) := by rw [gR_take h h2, sumR_app]
theorem take_all_M {L : List Md} {k : Int} (h : (L.length : Int) ≤ k) : L.take k.toNat = L := List.take_of_length_le (by omega)
theorem take_all_R {L : List Int} {k : Int} (h : (L.length : Int) ≤ k) : L.take k.toNat = L := List.take_of_length_le (by omega)
theorem MdsAt.add {s : Sg} {L : List Md} (h : MdsAt s L) (a b c d : Int) : MdsAt (su (su (su (su (su s 10 (L.length : Int) a) 11 (L.length : Int) b) 12 (L.length : Int) c) 13 (L.length : Int) d) 14 0 ((L.length : Int) + 1)) (L ++ [(a, b, c, d)]) := by
  refine ⟨?_, fun k h0 h1 => ?_⟩
  · rw [su_self]; simp
  · rw [List.length_append] at h1
    rw [su_ne _ _ _ (by decide), su_ne _ _ _ (by decide), su_ne _ _ _ (by decide), su_ne _ _ _ (by decide), su_k]
    rw [su_ne _ _ _ (by decide : 11 ≠ 14), su_ne _ _ _ (by decide : 11 ≠ 13), su_ne _ _ _ (by decide : 11 ≠ 12), su_k, su_ne _ _ _ (by decide : 11 ≠ 10)]
    rw [su_ne _ _ _ (by decide : 12 ≠ 14), su_ne _ _ _ (by decide : 12 ≠ 13), su_k, su_ne _ _ _ (by decide : 12 ≠ 11), su_ne _ _ _ (by decide : 12 ≠ 10)]
    rw [su_ne _ _ _ (by decide : 13 ≠ 14), su_k, su_ne _ _ _ (by decide : 13 ≠ 12), su_ne _ _ _ (by decide : 13 ≠ 11), su_ne _ _ _ (by decide : 13 ≠ 10)]
    by_cases hk : k = (L.length : Int)
    · subst hk
      rw [uZ_self, uZ_self, uZ_self, uZ_self, gM_app_at]
      exact ⟨rfl, rfl, rfl, rfl⟩
    · rw [uZ_ne _ _ hk, uZ_ne _ _ hk, uZ_ne _ _ hk, uZ_ne _ _ hk, gM_app_lt h0 (by simp at h1; omega)]
      exact h.2 k h0 (by simp at h1; omega)
theorem RnsAt.add {s : Sg} {L : List Int} (h : RnsAt s L) (a : Int) : RnsAt (su (su s 18 (L.length : Int) a) 19 0 ((L.length : Int) + 1)) (L ++ [a]) := by
  refine ⟨?_, fun k h0 h1 => ?_⟩
  · rw [su_self]; simp
  · rw [List.length_append] at h1
    rw [su_ne _ _ _ (by decide), su_k]
    by_cases hk : k = (L.length : Int)
    · subst hk
      rw [uZ_self, gR_app_at]
    · rw [uZ_ne _ _ hk, gR_app_lt h0 (by simp at h1; omega)]
      exact h.2 k h0 (by simp at h1; omega)
theorem MdsAt.fr {s s' : Sg} {L : List Md} (h : MdsAt s L) (h10 : s' 10 = s 10) (h11 : s' 11 = s 11) (h12 : s' 12 = s 12) (h13 : s' 13 = s 13) (h14 : s' 14 = s 14) : MdsAt s' L := by
  unfold MdsAt; rw [h10, h11, h12, h13, h14]; exact h
theorem RnsAt.fr {s s' : Sg} {L : List Int} (h : RnsAt s L) (h18 : s' 18 = s 18) (h19 : s' 19 = s 19) : RnsAt s' L := by
  unfold RnsAt; rw [h18, h19]; exact h
theorem nMd_P {u lo : Int → Int} {w a c t b d : Int} (ht : t = fnd lo (1 - c) w (a + 1)) (hb : b = chg u c w (a + 1)) (hd : d = if b = w then w else chg u 2 w (b + 1)) (h : d < t) : nMd u lo w a c = (0, 0, 0, d) := by
  subst ht; subst hb; subst hd; unfold nMd; dsimp only; rw [if_pos h]
theorem nMd_V {u lo : Int → Int} {w a c t b d : Int} (ht : t = fnd lo (1 - c) w (a + 1)) (hb : b = chg u c w (a + 1)) (hd : d = if b = w then w else chg u 2 w (b + 1)) (h : ¬ d < t) (h2 : -3 ≤ t - b ∧ t - b ≤ 3) : nMd u lo w a c = (1, t - b, 0, t) := by
  subst ht; subst hb; subst hd; unfold nMd; dsimp only; rw [if_neg h, if_pos h2]
theorem nMd_H {u lo : Int → Int} {w a c t b d f : Int} (ht : t = fnd lo (1 - c) w (a + 1)) (hb : b = chg u c w (a + 1)) (hd : d = if b = w then w else chg u 2 w (b + 1)) (h : ¬ d < t) (h2 : ¬ (-3 ≤ t - b ∧ t - b ≤ 3)) (hf : f = if t = w then w else fnd lo c w (t + 1)) : nMd u lo w a c = (2, t - mx0 a, f - t, f) := by
  subst ht; subst hb; subst hd; subst hf; unfold nMd; dsimp only; rw [if_neg h, if_neg h2]
theorem nMd_ok (u lo : Int → Int) {w a : Int} (c : Int) (h0 : -1 ≤ a) (h : a < w) : MdOk w (nMd u lo w a c) := by
  have hp := nMd_place u lo c h
  obtain ⟨t, ht⟩ : ∃ t, t = fnd lo (1 - c) w (a + 1) := ⟨_, rfl⟩
  obtain ⟨b, hb⟩ : ∃ b, b = chg u c w (a + 1) := ⟨_, rfl⟩
  obtain ⟨d, hd⟩ : ∃ d, d = if b = w then w else chg u 2 w (b + 1) := ⟨_, rfl⟩
  obtain ⟨f, hf⟩ : ∃ f, f = if t = w then w else fnd lo c w (t + 1) := ⟨_, rfl⟩
  have t1 := fnd_ge lo (1 - c) w (a + 1)
  have t2 := fnd_le lo (1 - c) (w := w) (i := a + 1) (by omega)
  have b1 := chg_ge u c w (a + 1)
  have b2 := chg_le u c (w := w) (i := a + 1) (by omega)
  by_cases h1 : d < t
  · rw [nMd_P ht hb hd h1] at hp ⊢
    unfold MdOk; dsimp only at hp ⊢; omega
  · by_cases h2 : -3 ≤ t - b ∧ t - b ≤ 3
    · rw [nMd_V ht hb hd h1 h2] at hp ⊢
      unfold MdOk; dsimp only at hp ⊢; omega
    · rw [nMd_H ht hb hd h1 h2 hf] at hp ⊢
      have hfg : t ≤ f := by
        by_cases hw : t = w
        · rw [if_pos hw] at hf; omega
        · rw [if_neg hw] at hf; have := fnd_ge lo c w (t + 1); omega
      unfold MdOk mx0; dsimp only at hp ⊢
      split <;> omega
theorem cdsN_ok (u lo : Int → Int) (w : Int) : ∀ (n : Nat) (a c : Int), -1 ≤ a → a ≤ w → ∀ m ∈ cdsN u lo w n a c, MdOk w m
  | 0, a, c, h0, h, m, hm => by simp [cdsN] at hm
  | n + 1, a, c, h0, h, m, hm => by
    unfold cdsN at hm
    by_cases ha : a = w
    · rw [if_pos ha] at hm; simp at hm
    · rw [if_neg ha] at hm
      have hp := nMd_place u lo c (show a < w by omega)
      rcases List.mem_cons.mp hm with e | e
      · rw [e]; exact nMd_ok u lo c h0 (by omega)
      · exact cdsN_ok u lo w n _ _ (by omega) hp.2 m e
theorem cdsN_len (u lo : Int → Int) (w : Int) : ∀ (n : Nat) (a c : Int), (cdsN u lo w n a c).length ≤ n
  | 0, a, c => by simp [cdsN]
  | n + 1, a, c => by
    unfold cdsN
    split
    · simp
    · have := cdsN_len u lo w n (nMd u lo w a c).2.2.2 (nCo (nMd u lo w a c) c)
      simp; exact this
theorem cds_ok (u lo : Int → Int) {w : Int} (h : 0 ≤ w) : ∀ m ∈ cds u lo w (-1) 0, MdOk w m := cdsN_ok u lo w _ _ _ (by omega) (by omega)
theorem cds_len (u lo : Int → Int) {w : Int} (h : 0 ≤ w) : ((cds u lo w (-1) 0).length : Int) ≤ w + 1 := by have := cdsN_len u lo w (w - (-1)).toNat (-1) 0; unfold cds; omega
theorem fndN_is (lo : Int → Int) (c : Int) : ∀ (n : Nat) (i : Int), fndN lo c n i < i + n → lo (fndN lo c n i) = c
  | 0, i, h => by unfold fndN at h; omega
  | n + 1, i, h => by
    unfold fndN at h ⊢
    by_cases hc : lo i = c
    · rw [if_pos hc]; exact hc
    · rw [if_neg hc] at h ⊢
      exact fndN_is lo c n (i + 1) (by omega)
theorem fnd_is {lo : Int → Int} {c w i : Int} (hi : i ≤ w) (h : fnd lo c w i < w) : lo (fnd lo c w i) = c := by
  unfold fnd at h ⊢
  exact fndN_is lo c _ i (by omega)
def rnM (lo : Int → Int) (w i c : Int) : Nat := (w - i).toNat + (if i < w ∧ lo i = 1 - c then 1 else 0)
theorem rnM_step {lo : Int → Int} {w i c : Int} (h : i < w) : rnM lo w (fnd lo (1 - c) w i) (1 - c) + 1 ≤ rnM lo w i c := by
  have t1 := fnd_ge lo (1 - c) w i
  have t2 := fnd_le lo (1 - c) (w := w) (i := i) (by omega)
  have t3 := fun h2 => fnd_is (lo := lo) (c := 1 - c) (w := w) (i := i) (by omega) h2
  unfold rnM
  by_cases hq : fnd lo (1 - c) w i < w
  · have e := t3 hq
    rw [if_neg (by omega : ¬ (fnd lo (1 - c) w i < w ∧ lo (fnd lo (1 - c) w i) = 1 - (1 - c)))]
    by_cases hz : fnd lo (1 - c) w i = i
    · rw [hz] at e
      rw [if_pos ⟨h, e⟩, hz]; omega
    · split <;> omega
  · rw [if_neg (by omega : ¬ (fnd lo (1 - c) w i < w ∧ lo (fnd lo (1 - c) w i) = 1 - (1 - c)))]
    split <;> omega
theorem rnsN_two (lo : Int → Int) (w : Int) : ∀ (x y : Nat) (i c : Int), rnM lo w i c ≤ x → rnM lo w i c ≤ y → rnsN lo w x i c = rnsN lo w y i c := by
  intro x
  induction x with
  | zero =>
    intro y i c h1 h2
    have hi : ¬ i < w := by unfold rnM at h1; omega
    cases y with
    | zero => rfl
    | succ y => unfold rnsN; rw [if_neg hi]
  | succ x ih =>
    intro y i c h1 h2
    by_cases hi : i < w
    · cases y with
      | zero => unfold rnM at h2; omega
      | succ y =>
        have hs := rnM_step (lo := lo) (c := c) hi
        unfold rnsN
        rw [if_pos hi, if_pos hi, ih y _ _ (by omega) (by omega)]
    · cases y with
      | zero => unfold rnsN; rw [if_neg hi]
      | succ y => unfold rnsN; rw [if_neg hi, if_neg hi]
def rns (lo : Int → Int) (w i c : Int) : List Int := rnsN lo w (rnM lo w i c) i c
theorem rns_end {lo : Int → Int} {w i c : Int} (h : w ≤ i) : rns lo w i c = [] := by
  unfold rns
  cases rnM lo w i c with
  | zero => rfl
  | succ n => unfold rnsN; rw [if_neg (by omega)]
theorem rns_go {lo : Int → Int} {w i c : Int} (h : i < w) : rns lo w i c = (fnd lo (1 - c) w i - i) :: rns lo w (fnd lo (1 - c) w i) (1 - c) := by
  have hs := rnM_step (lo := lo) (c := c) h
  conv => lhs; unfold rns
  rw [show rnM lo w i c = rnM lo w i c - 1 + 1 by omega, rnsN, if_pos h]
  unfold rns
  rw [rnsN_two lo w (rnM lo w i c - 1) (rnM lo w (fnd lo (1 - c) w i) (1 - c)) _ _ (by omega) (by omega)]
theorem rnsN_in (lo : Int → Int) {w : Int} : ∀ (n : Nat) (i c : Int), 0 ≤ i → i ≤ w → ∀ r ∈ rnsN lo w n i c, 0 ≤ r ∧ r ≤ w
  | 0, i, c, h0, h, r, hr => by simp [rnsN] at hr
  | n + 1, i, c, h0, h, r, hr => by
    unfold rnsN at hr
    split at hr
    · have t1 := fnd_ge lo (1 - c) w i
      have t2 := fnd_le lo (1 - c) (w := w) (i := i) (by omega)
      rcases List.mem_cons.mp hr with e | e
      · rw [e]; omega
      · exact rnsN_in lo n _ _ (by omega) t2 r e
    · simp at hr
theorem rnsN_len (lo : Int → Int) (w : Int) : ∀ (n : Nat) (i c : Int), (rnsN lo w n i c).length ≤ n
  | 0, i, c => by simp [rnsN]
  | n + 1, i, c => by
    unfold rnsN
    split
    · have := rnsN_len lo w n (fnd lo (1 - c) w i) (1 - c)
      simp; exact this
    · simp
theorem rns_in (lo : Int → Int) {w : Int} (h : 0 ≤ w) : ∀ r ∈ rns lo w 0 0, 0 ≤ r ∧ r ≤ w := rnsN_in lo _ _ _ (by omega) (by omega)
theorem rns_len (lo : Int → Int) {w : Int} (h : 0 ≤ w) : ((rns lo w 0 0).length : Int) ≤ w + 1 := by
  have := rnsN_len lo w (rnM lo w 0 0) 0 0
  have h2 : rnM lo w 0 0 ≤ w.toNat + 1 := by unfold rnM; split <;> omega
  unfold rns; omega
/-! what stands in the reference behind codesLine: the width, the two lines, the modes, the runs -/
def Cod (s : Sg) (w : Int) (u lo : Int → Int) : Prop := s 9 0 = w ∧ (∀ k, 0 ≤ k → k < w → s 7 k = u k) ∧ (∀ k, 0 ≤ k → k < w → s 8 k = lo k) ∧ MdsAt s (cds u lo w (-1) 0) ∧ RnsAt s (rns lo w 0 0)
theorem frSu {L : List Nat} {s s1 : Sg} (h : Fr L s s1) {k : Nat} {i v : Int} (hk : L.contains k = true) : Fr L s (su s1 k i v) := fun k' hk' => by rw [su_ne _ _ _ (fun e => hk' (by rw [e]; exact List.contains_iff_mem.mp hk)), h k' hk']
theorem frSa {L : List Nat} {s s1 : Sg} (h : Fr L s s1) {k : Nat} {f : Int → Int} (hk : L.contains k = true) : Fr L s (sa s1 k f) := fun k' hk' => by rw [sa_ne _ _ (fun e => hk' (by rw [e]; exact List.contains_iff_mem.mp hk)), h k' hk']
theorem Fr.th {L L' : List Nat} {s s1 s2 : Sg} (h : Fr L s s1) (h2 : Fr L' s1 s2) (hk : L'.all (fun k => L.contains k) = true) : Fr L s s2 := fun k hk' => by rw [h2 k (fun m => hk' (List.contains_iff_mem.mp (List.all_eq_true.mp hk k m))), h k hk']
theorem Fr.at {L : List Nat} {s s1 : Sg} (h : Fr L s s1) (k : Nat) (hk : L.contains k = false) : s1 k = s k := h k (fun m => by rw [List.contains_iff_mem.mpr m] at hk; cases hk)
