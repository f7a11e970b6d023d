/-! the reference's methods, 1 (written by gen/model1.py) -/
set_option maxRecDepth 100000
set_option maxHeartbeats 1000000 in
theorem mm_in {l : Launch} {D : va_G} {dA : Nat → ClassId} {A : Nat → Prop} {o : Nat} {ad : Nat → Nat} (hk : mOk o ad) (σ : Sg) (v : Int) (a : Int) (b : Int) (h1 : zR v) (h2 : zR a) (h3 : zR b) : Met l yX3_in (ws_ yX3_in cX3_in 3 (some .boolean)) (rmL 1 0 0) (MP D dA A o ad [.int (iI v), .int (iI a), .int (iI b)] σ) (MQi D dA A o ad (fun r σ' => σ' = σ ∧ r = if a ≤ v ∧ v ≤ b then 1 else 0)) 0 0 A := by
  refine z_ofW (by decide) rfl ?_
  intro pp ee s0 mm below meth cc0 ls C hret hname hl hH hS
  have hl : lv_has ls 3 [(0, .int (iI v)), (1, .int (iI a)), (2, .int (iI b))] := hl
  have h11 := h1.1
  have h12 := h1.2
  have h21 := h2.1
  have h22 := h2.2
  have h31 := h3.1
  have h32 := h3.2
  refine z_iload_n C dX3_in_0 hl 0 rfl ?_
  refine z_iload_n C dX3_in_1 hl 1 rfl ?_
  refine z_icmplt C dX3_in_2 (tgt := 14) (by decide) ⟨⟨by omega, by omega⟩, ⟨by omega, by omega⟩⟩ (fun c_2 => ?_) (fun c_2 => ?_)
  · refine z_iconst C dX3_in_14 ?_
    refine m_zret C hret hH hS (by omega) dX3_in_15 ?_
    refine ⟨rfl, ?_⟩
    first | rw [if_pos (by omega)] | rw [if_neg (by omega)]
  · refine z_iload_n C dX3_in_5 hl 0 rfl ?_
    refine z_iload_n C dX3_in_6 hl 2 rfl ?_
    refine z_icmpgt C dX3_in_7 (tgt := 14) (by decide) ⟨⟨by omega, by omega⟩, ⟨by omega, by omega⟩⟩ (fun c_7 => ?_) (fun c_7 => ?_)
    · refine z_iconst C dX3_in_14 ?_
      refine m_zret C hret hH hS (by omega) dX3_in_15 ?_
      refine ⟨rfl, ?_⟩
      first | rw [if_pos (by omega)] | rw [if_neg (by omega)]
    · refine z_iconst C dX3_in_10 ?_
      refine z_goto C dX3_in_11 (tgt := 15) (by decide) ?_
      refine m_zret C hret hH hS (by omega) dX3_in_15 ?_
      refine ⟨rfl, ?_⟩
      first | rw [if_pos (by omega)] | rw [if_neg (by omega)]
set_option maxHeartbeats 1000000 in
theorem mm_copies {l : Launch} {D : va_G} {dA : Nat → ClassId} {A : Nat → Prop} {o : Nat} {ad : Nat → Nat} (hk : mOk o ad) (σ : Sg) (r1 : Nat) (sp : Int) (r2 : Nat) (dp : Int) (ht1 : r1 < 42 ∧ mT r1 = 1) (ht2 : r2 < 42 ∧ mT r2 = 1) (hne : r1 ≠ r2) (h1 : 0 ≤ sp ∧ sp + 828 ≤ (mLen r1 : Int)) (h2 : 0 ≤ dp ∧ dp + 828 ≤ (mLen r2 : Int)) : Met l yX3_copies (ws_ yX3_copies cX3_copies 5 none) (rmL 1 0 0) (MP D dA A o ad [.ref (ad r1), .int (iI sp), .ref (ad r2), .int (iI dp)] σ) (MQv D dA A o ad (fun σ' => σ' = (sa σ r2 (wr (fun j => σ r1 (sp + (j - dp))) (σ r2) dp (dp + 828))))) 0 0 A := by
  refine z_ofW (by decide) rfl ?_
  intro pp ee s0 mm below meth cc0 ls C hret hname hl hH hS
  have hl : lv_has ls 5 [(0, .ref (ad r1)), (1, .int (iI sp)), (2, .ref (ad r2)), (3, .int (iI dp))] := hl
  have z1 := mLen_lt r1
  have z2 := mLen_lt r2
  refine z_iconst C dX3_copies_0 ?_
  refine z_istore C [(4, .int (iI 0)), (0, .ref (ad r1)), (1, .int (iI sp)), (2, .ref (ad r2)), (3, .int (iI dp))] dX3_copies_1 hl (by decide) rfl (fun ls hl => ?_)
  have J_3 : ∀ (n : Nat) (k : Int) (s1 : Sg), (828 - k).toNat < n → 0 ≤ k ∧ k ≤ 828 → s1 = sa σ r2 (wr (fun j => σ r1 (sp + (j - dp))) (σ r2) dp (dp + k)) → ∀ (H : Heap) (locs : List Loc) (ls : Array Slot), MH D dA A o ad s1 H → va_S A s0.heap H locs → lv_has ls 5 [(0, .ref (ad r1)), (1, .int (iI sp)), (2, .ref (ad r2)), (3, .int (iI dp)), (4, .int (iI k))] → W pp l ee (rmL 1 0 0) s0 mm ([.ref (ad r1), .int (iI sp), .ref (ad r2), .int (iI dp)] : List Value).toArray below meth cc0 H locs 0 0 (MQ below (MQv D dA A o ad (fun σ' => σ' = (sa σ r2 (wr (fun j => σ r1 (sp + (j - dp))) (σ r2) dp (dp + 828))))) ([.ref (ad r1), .int (iI sp), .ref (ad r2), .int (iI dp)] : List Value).toArray s0 0 0 A) (F0 mm 3 ls []) := by
    intro n
    induction n with
    | zero => intro k s1 hn; exact absurd hn (Nat.not_lt_zero _)
    | succ n ih_3 =>
      intro k s1 hn hk0 hs H locs ls hH hS hl
      refine z_iload C dX3_copies_3 hl 4 rfl ?_
      refine z_sipush C dX3_copies_5 (by decide +kernel) ?_
      refine z_icmpge C dX3_copies_8 (tgt := 29) (by decide) ⟨⟨by omega, by omega⟩, ⟨by omega, by omega⟩⟩ (fun c_8 => ?_) (fun c_8 => ?_)
      · refine m_vret C hret hH hS dX3_copies_29 ?_
        rw [hs, show k = 828 by omega]
      · refine z_aload_n C dX3_copies_11 hl 2 rfl ?_
        refine z_iload_n C dX3_copies_12 hl 3 rfl ?_
        refine z_iload C dX3_copies_13 hl 4 rfl ?_
        refine z_iadd C dX3_copies_15 ?_
        refine z_aload_n C dX3_copies_16 hl 0 rfl ?_
        refine z_iload_n C dX3_copies_17 hl 1 rfl ?_
        refine z_iload C dX3_copies_18 hl 4 rfl ?_
        refine z_iadd C dX3_copies_20 ?_
        refine m_iald C hk hH r1 ht1 (by omega) dX3_copies_21 ?_
        refine m_iast C hk hH hS r2 ht2 (by omega) dX3_copies_22 (fun H locs hH hS => ?_)
        refine z_iinc C [(4, .int (iI (k + 1))), (0, .ref (ad r1)), (1, .int (iI sp)), (2, .ref (ad r2)), (3, .int (iI dp))] dX3_copies_23 hl 4 rfl (by decide) rfl (fun ls hl => ?_)
        refine z_goto C dX3_copies_26 (tgt := 3) (by decide) ?_
        exact ih_3 ((k + 1)) ((su s1 r2 (dp + k) (s1 r1 (sp + k)))) (by omega) (by omega) (by rw [hs, sa_ne _ _ hne, show dp + (k + 1) = dp + k + 1 by omega, ← su_wr _ _ _ _ (show dp ≤ dp + k by omega)]; simp only [show sp + (dp + k - dp) = sp + k by omega]) _ _ _ hH hS (lv_sub hl [1, 2, 3, 4, 0] rfl)
  exact J_3 _ 0 σ (Nat.lt_succ_self _) (by omega) (by rw [Int.add_zero, wr_0, sa_id]) _ _ _ hH hS (lv_sub hl [1, 2, 3, 4, 0] rfl)
set_option maxHeartbeats 1000000 in
theorem mm_begins {l : Launch} {D : va_G} {dA : Nat → ClassId} {A : Nat → Prop} {o : Nat} {ad : Nat → Nat} (hk : mOk o ad) (σ : Sg) (wd : Int)  : Met l yX3_begins (ws_ yX3_begins cX3_begins 3 none) (rmL 1 0 0) (MP D dA A o ad [.ref o, .int (iI wd)] σ) (MQv D dA A o ad (fun σ' => σ' = (su (su (su (su (sa σ 2 (wr (fun _ => 0) (σ 2) 0 828)) 2 0 wd) 2 2 4) 2 6 8) 2 7 16))) 0 0 A := by
  refine z_ofW (by decide) rfl ?_
  intro pp ee s0 mm below meth cc0 ls C hret hname hl hH hS
  have hl : lv_has ls 3 [(0, .ref o), (1, .int (iI wd))] := hl
  refine z_iconst C dX3_begins_0 ?_
  refine z_istore_n C [(2, .int (iI 0)), (0, .ref o), (1, .int (iI wd))] dX3_begins_1 hl (by decide) rfl (fun ls hl => ?_)
  have J_2 : ∀ (n : Nat) (k : Int) (s1 : Sg), (828 - k).toNat < n → 0 ≤ k ∧ k ≤ 828 → s1 = sa σ 2 (wr (fun _ => 0) (σ 2) 0 k) → ∀ (H : Heap) (locs : List Loc) (ls : Array Slot), MH D dA A o ad s1 H → va_S A s0.heap H locs → lv_has ls 3 [(0, .ref o), (1, .int (iI wd)), (2, .int (iI k))] → W pp l ee (rmL 1 0 0) s0 mm ([.ref o, .int (iI wd)] : List Value).toArray below meth cc0 H locs 0 0 (MQ below (MQv D dA A o ad (fun σ' => σ' = (su (su (su (su (sa σ 2 (wr (fun _ => 0) (σ 2) 0 828)) 2 0 wd) 2 2 4) 2 6 8) 2 7 16))) ([.ref o, .int (iI wd)] : List Value).toArray s0 0 0 A) (F0 mm 2 ls []) := by
    intro n
    induction n with
    | zero => intro k s1 hn; exact absurd hn (Nat.not_lt_zero _)
    | succ n ih_2 =>
      intro k s1 hn hk0 hs H locs ls hH hS hl
      refine z_iload_n C dX3_begins_2 hl 2 rfl ?_
      refine z_sipush C dX3_begins_3 (by decide +kernel) ?_
      refine z_icmpge C dX3_begins_6 (tgt := 22) (by decide) ⟨⟨by omega, by omega⟩, ⟨by omega, by omega⟩⟩ (fun c_6 => ?_) (fun c_6 => ?_)
      · have hk8 : k = 828 := by omega
        subst hk8
        subst hs
        refine z_aload_n C dX3_begins_22 hl 0 rfl ?_
        refine m_geta C hH 2 ⟨by decide, by decide⟩ q2187 rfl dX3_begins_23 ?_
        refine z_iconst C dX3_begins_26 ?_
        refine z_iload_n C dX3_begins_27 hl 1 rfl ?_
        refine m_iast C hk hH hS 2 ⟨by decide, by decide⟩ (show 0 ≤ 0 ∧ 0 < (828 : Int) by omega) dX3_begins_28 (fun H locs hH hS => ?_)
        refine z_aload_n C dX3_begins_29 hl 0 rfl ?_
        refine m_geta C hH 2 ⟨by decide, by decide⟩ q2187 rfl dX3_begins_30 ?_
        refine z_iconst C dX3_begins_33 ?_
        refine z_iconst C dX3_begins_34 ?_
        refine m_iast C hk hH hS 2 ⟨by decide, by decide⟩ (show 0 ≤ 2 ∧ 2 < (828 : Int) by omega) dX3_begins_35 (fun H locs hH hS => ?_)
        refine z_aload_n C dX3_begins_36 hl 0 rfl ?_
        refine m_geta C hH 2 ⟨by decide, by decide⟩ q2187 rfl dX3_begins_37 ?_
        refine z_bipush C dX3_begins_40 (by decide +kernel) ?_
        refine z_bipush C dX3_begins_42 (by decide +kernel) ?_
        refine m_iast C hk hH hS 2 ⟨by decide, by decide⟩ (show 0 ≤ 6 ∧ 6 < (828 : Int) by omega) dX3_begins_44 (fun H locs hH hS => ?_)
        refine z_aload_n C dX3_begins_45 hl 0 rfl ?_
        refine m_geta C hH 2 ⟨by decide, by decide⟩ q2187 rfl dX3_begins_46 ?_
        refine z_bipush C dX3_begins_49 (by decide +kernel) ?_
        refine z_bipush C dX3_begins_51 (by decide +kernel) ?_
        refine m_iast C hk hH hS 2 ⟨by decide, by decide⟩ (show 0 ≤ 7 ∧ 7 < (828 : Int) by omega) dX3_begins_53 (fun H locs hH hS => ?_)
        refine m_vret C hret hH hS dX3_begins_54 ?_
        rfl
      · refine z_aload_n C dX3_begins_9 hl 0 rfl ?_
        refine m_geta C hH 2 ⟨by decide, by decide⟩ q2187 rfl dX3_begins_10 ?_
        refine z_iload_n C dX3_begins_13 hl 2 rfl ?_
        refine z_iconst C dX3_begins_14 ?_
        refine m_iast C hk hH hS 2 ⟨by decide, by decide⟩ (show 0 ≤ k ∧ k < (828 : Int) by omega) dX3_begins_15 (fun H locs hH hS => ?_)
        refine z_iinc C [(2, .int (iI (k + 1))), (0, .ref o), (1, .int (iI wd))] dX3_begins_16 hl 2 rfl (by decide) rfl (fun ls hl => ?_)
        refine z_goto C dX3_begins_19 (tgt := 2) (by decide) ?_
        exact ih_2 ((k + 1)) ((su s1 2 k 0)) (by omega) (by omega) (by rw [hs]; exact su_wr σ 2 (fun _ => 0) _ (by omega)) _ _ _ hH hS (lv_sub hl [1, 2, 0] rfl)
  exact J_2 _ 0 σ (Nat.lt_succ_self _) (by omega) (by rw [wr_0, sa_id]) _ _ _ hH hS (lv_sub hl [1, 2, 0] rfl)
set_option maxHeartbeats 1000000 in
theorem mm_dotAt {l : Launch} {D : va_G} {dA : Nat → ClassId} {A : Nat → Prop} {o : Nat} {ad : Nat → Nat} (hk : mOk o ad) (σ : Sg) (ln : Int) (x : Int)  : Met l yX3_dotAt (ws_ yX3_dotAt cX3_dotAt 2 (some .int)) (rmL 1 0 0) (MP D dA A o ad [.int (iI ln), .int (iI x)] σ) (MQi D dA A o ad (fun r σ' => σ' = σ ∧ r = 28 + 40 * ln + x)) 0 0 A := by
  refine z_ofW (by decide) rfl ?_
  intro pp ee s0 mm below meth cc0 ls C hret hname hl hH hS
  have hl : lv_has ls 2 [(0, .int (iI ln)), (1, .int (iI x))] := hl
  refine z_bipush C dX3_dotAt_0 (by decide +kernel) ?_
  refine z_bipush C dX3_dotAt_2 (by decide +kernel) ?_
  refine z_iload_n C dX3_dotAt_4 hl 0 rfl ?_
  refine z_imul C dX3_dotAt_5 ?_
  refine z_iadd C dX3_dotAt_6 ?_
  refine z_iload_n C dX3_dotAt_7 hl 1 rfl ?_
  refine z_iadd C dX3_dotAt_8 ?_
  refine m_iret C hret hH hS dX3_dotAt_9 ?_
  exact ⟨rfl, rfl⟩
set_option maxHeartbeats 1000000 in
theorem mm_laysUpper {l : Launch} {D : va_G} {dA : Nat → ClassId} {A : Nat → Prop} {o : Nat} {ad : Nat → Nat} (hk : mOk o ad) (σ : Sg) (r : Nat) (fr : Int) (ht : r < 42 ∧ mT r = 1) (hne : r ≠ 7) (h1 : fr = -1 ∨ (0 ≤ fr ∧ fr + 40 ≤ (mLen r : Int))) : Met l yX3_laysUpper (ws_ yX3_laysUpper cX3_laysUpper 4 none) (rmL 1 0 0) (MP D dA A o ad [.ref o, .ref (ad r), .int (iI fr)] σ) (MQv D dA A o ad (fun σ' => σ' = (sa σ 7 (wr (fun j => if fr = -1 then 0 else σ r (fr + j)) (σ 7) 0 40)))) 0 0 A := by
  refine z_ofW (by decide) rfl ?_
  intro pp ee s0 mm below meth cc0 ls C hret hname hl hH hS
  have hl : lv_has ls 4 [(0, .ref o), (1, .ref (ad r)), (2, .int (iI fr))] := hl
  have z1 := mLen_lt r
  refine z_iconst C dX3_laysUpper_0 ?_
  refine z_istore_n C [(3, .int (iI 0)), (0, .ref o), (1, .ref (ad r)), (2, .int (iI fr))] dX3_laysUpper_1 hl (by decide) rfl (fun ls hl => ?_)
  have J_2 : ∀ (n : Nat) (k : Int) (s1 : Sg), (40 - k).toNat < n → 0 ≤ k ∧ k ≤ 40 → s1 = sa σ 7 (wr (fun j => if fr = -1 then 0 else σ r (fr + j)) (σ 7) 0 k) → ∀ (H : Heap) (locs : List Loc) (ls : Array Slot), MH D dA A o ad s1 H → va_S A s0.heap H locs → lv_has ls 4 [(0, .ref o), (1, .ref (ad r)), (2, .int (iI fr)), (3, .int (iI k))] → W pp l ee (rmL 1 0 0) s0 mm ([.ref o, .ref (ad r), .int (iI fr)] : List Value).toArray below meth cc0 H locs 0 0 (MQ below (MQv D dA A o ad (fun σ' => σ' = (sa σ 7 (wr (fun j => if fr = -1 then 0 else σ r (fr + j)) (σ 7) 0 40)))) ([.ref o, .ref (ad r), .int (iI fr)] : List Value).toArray s0 0 0 A) (F0 mm 2 ls []) := by
    intro n
    induction n with
    | zero => intro k s1 hn; exact absurd hn (Nat.not_lt_zero _)
    | succ n ih_2 =>
      intro k s1 hn hk0 hs H locs ls hH hS hl
      refine z_iload_n C dX3_laysUpper_2 hl 3 rfl ?_
      refine z_bipush C dX3_laysUpper_3 (by decide +kernel) ?_
      refine z_icmpge C dX3_laysUpper_5 (tgt := 34) (by decide) ⟨⟨by omega, by omega⟩, ⟨by omega, by omega⟩⟩ (fun c_5 => ?_) (fun c_5 => ?_)
      · have hk8 : k = 40 := by omega
        subst hk8
        refine m_vret C hret hH hS dX3_laysUpper_34 ?_
        exact hs
      · refine z_aload_n C dX3_laysUpper_8 hl 0 rfl ?_
        refine m_geta C hH 7 ⟨by decide, by decide⟩ q2192 rfl dX3_laysUpper_9 ?_
        refine z_iload_n C dX3_laysUpper_12 hl 3 rfl ?_
        refine z_iload_n C dX3_laysUpper_13 hl 2 rfl ?_
        refine z_iconst C dX3_laysUpper_14 ?_
        refine z_icmpne C dX3_laysUpper_15 (tgt := 22) (by decide) ⟨⟨by omega, by omega⟩, ⟨by omega, by omega⟩⟩ (fun c_15 => ?_) (fun c_15 => ?_)
        · refine z_aload_n C dX3_laysUpper_22 hl 1 rfl ?_
          refine z_iload_n C dX3_laysUpper_23 hl 2 rfl ?_
          refine z_iload_n C dX3_laysUpper_24 hl 3 rfl ?_
          refine z_iadd C dX3_laysUpper_25 ?_
          refine m_iald C hk hH r ht (by omega) dX3_laysUpper_26 ?_
          refine m_iast C hk hH hS 7 ⟨by decide, by decide⟩ (show 0 ≤ k ∧ k < (40 : Int) by omega) dX3_laysUpper_27 (fun H locs hH hS => ?_)
          refine z_iinc C [(3, .int (iI (k + 1))), (0, .ref o), (1, .ref (ad r)), (2, .int (iI fr))] dX3_laysUpper_28 hl 3 rfl (by decide) rfl (fun ls hl => ?_)
          refine z_goto C dX3_laysUpper_31 (tgt := 2) (by decide) ?_
          exact ih_2 ((k + 1)) ((su s1 7 k (s1 r (fr + k)))) (by omega) (by omega) (by rw [hs, ← su_wr _ _ _ _ (show (0 : Int) ≤ k by omega)]; first | (rw [if_pos (by omega)]; done) | (rw [if_neg (by omega), sa_ne _ _ hne]; done)) _ _ _ hH hS (lv_sub hl [1, 2, 3, 0] rfl)
        · refine z_iconst C dX3_laysUpper_18 ?_
          refine z_goto C dX3_laysUpper_19 (tgt := 27) (by decide) ?_
          refine m_iast C hk hH hS 7 ⟨by decide, by decide⟩ (show 0 ≤ k ∧ k < (40 : Int) by omega) dX3_laysUpper_27 (fun H locs hH hS => ?_)
          refine z_iinc C [(3, .int (iI (k + 1))), (0, .ref o), (1, .ref (ad r)), (2, .int (iI fr))] dX3_laysUpper_28 hl 3 rfl (by decide) rfl (fun ls hl => ?_)
          refine z_goto C dX3_laysUpper_31 (tgt := 2) (by decide) ?_
          exact ih_2 ((k + 1)) ((su s1 7 k 0)) (by omega) (by omega) (by rw [hs, ← su_wr _ _ _ _ (show (0 : Int) ≤ k by omega)]; first | (rw [if_pos (by omega)]; done) | (rw [if_neg (by omega), sa_ne _ _ hne]; done)) _ _ _ hH hS (lv_sub hl [1, 2, 3, 0] rfl)
  exact J_2 _ 0 σ (Nat.lt_succ_self _) (by omega) (by rw [wr_0, sa_id]) _ _ _ hH hS (lv_sub hl [1, 2, 3, 0] rfl)
set_option maxHeartbeats 1000000 in
theorem mm_laysLower {l : Launch} {D : va_G} {dA : Nat → ClassId} {A : Nat → Prop} {o : Nat} {ad : Nat → Nat} (hk : mOk o ad) (σ : Sg) (r : Nat) (fr : Int) (ht : r < 42 ∧ mT r = 1) (hne : r ≠ 8) (h1 : 0 ≤ fr ∧ fr + 40 ≤ (mLen r : Int)) : Met l yX3_laysLower (ws_ yX3_laysLower cX3_laysLower 4 none) (rmL 1 0 0) (MP D dA A o ad [.ref o, .ref (ad r), .int (iI fr)] σ) (MQv D dA A o ad (fun σ' => σ' = (sa σ 8 (wr (fun j => σ r (fr + j)) (σ 8) 0 40)))) 0 0 A := by
  refine z_ofW (by decide) rfl ?_
  intro pp ee s0 mm below meth cc0 ls C hret hname hl hH hS
  have hl : lv_has ls 4 [(0, .ref o), (1, .ref (ad r)), (2, .int (iI fr))] := hl
  have z1 := mLen_lt r
  refine z_iconst C dX3_laysLower_0 ?_
  refine z_istore_n C [(3, .int (iI 0)), (0, .ref o), (1, .ref (ad r)), (2, .int (iI fr))] dX3_laysLower_1 hl (by decide) rfl (fun ls hl => ?_)
  have J_2 : ∀ (n : Nat) (k : Int) (s1 : Sg), (40 - k).toNat < n → 0 ≤ k ∧ k ≤ 40 → s1 = sa σ 8 (wr (fun j => σ r (fr + j)) (σ 8) 0 k) → ∀ (H : Heap) (locs : List Loc) (ls : Array Slot), MH D dA A o ad s1 H → va_S A s0.heap H locs → lv_has ls 4 [(0, .ref o), (1, .ref (ad r)), (2, .int (iI fr)), (3, .int (iI k))] → W pp l ee (rmL 1 0 0) s0 mm ([.ref o, .ref (ad r), .int (iI fr)] : List Value).toArray below meth cc0 H locs 0 0 (MQ below (MQv D dA A o ad (fun σ' => σ' = (sa σ 8 (wr (fun j => σ r (fr + j)) (σ 8) 0 40)))) ([.ref o, .ref (ad r), .int (iI fr)] : List Value).toArray s0 0 0 A) (F0 mm 2 ls []) := by
    intro n
    induction n with
    | zero => intro k s1 hn; exact absurd hn (Nat.not_lt_zero _)
    | succ n ih_2 =>
      intro k s1 hn hk0 hs H locs ls hH hS hl
      refine z_iload_n C dX3_laysLower_2 hl 3 rfl ?_
      refine z_bipush C dX3_laysLower_3 (by decide +kernel) ?_
      refine z_icmpge C dX3_laysLower_5 (tgt := 25) (by decide) ⟨⟨by omega, by omega⟩, ⟨by omega, by omega⟩⟩ (fun c_5 => ?_) (fun c_5 => ?_)
      · have hk8 : k = 40 := by omega
        subst hk8
        refine m_vret C hret hH hS dX3_laysLower_25 ?_
        exact hs
      · refine z_aload_n C dX3_laysLower_8 hl 0 rfl ?_
        refine m_geta C hH 8 ⟨by decide, by decide⟩ q2193 rfl dX3_laysLower_9 ?_
        refine z_iload_n C dX3_laysLower_12 hl 3 rfl ?_
        refine z_aload_n C dX3_laysLower_13 hl 1 rfl ?_
        refine z_iload_n C dX3_laysLower_14 hl 2 rfl ?_
        refine z_iload_n C dX3_laysLower_15 hl 3 rfl ?_
        refine z_iadd C dX3_laysLower_16 ?_
        refine m_iald C hk hH r ht (by omega) dX3_laysLower_17 ?_
        refine m_iast C hk hH hS 8 ⟨by decide, by decide⟩ (show 0 ≤ k ∧ k < (40 : Int) by omega) dX3_laysLower_18 (fun H locs hH hS => ?_)
        refine z_iinc C [(3, .int (iI (k + 1))), (0, .ref o), (1, .ref (ad r)), (2, .int (iI fr))] dX3_laysLower_19 hl 3 rfl (by decide) rfl (fun ls hl => ?_)
        refine z_goto C dX3_laysLower_22 (tgt := 2) (by decide) ?_
        exact ih_2 ((k + 1)) ((su s1 8 k (s1 r (fr + k)))) (by omega) (by omega) (by rw [hs, ← su_wr _ _ _ _ (show (0 : Int) ≤ k by omega), sa_ne _ _ hne]) _ _ _ hH hS (lv_sub hl [1, 2, 3, 0] rfl)
  exact J_2 _ 0 σ (Nat.lt_succ_self _) (by omega) (by rw [wr_0, sa_id]) _ _ _ hH hS (lv_sub hl [1, 2, 3, 0] rfl)
set_option maxHeartbeats 1000000 in
theorem mm_isChange {l : Launch} {D : va_G} {dA : Nat → ClassId} {A : Nat → Prop} {o : Nat} {ad : Nat → Nat} (hk : mOk o ad) (σ : Sg) (k : Int) (w : Int) (u : Int → Int) (h0 : 0 ≤ k ∧ k < w) (hw : w ≤ 40) (hu : ∀ j, 0 ≤ j → j < w → σ 7 j = u j) (hb : ∀ j, u j = 0 ∨ u j = 1) : Met l yX3_isChange (ws_ yX3_isChange cX3_isChange 2 (some .boolean)) (rmL 1 0 0) (MP D dA A o ad [.ref o, .int (iI k)] σ) (MQi D dA A o ad (fun r σ' => σ' = σ ∧ r = isCh u k)) 0 0 A := by
  refine z_ofW (by decide) rfl ?_
  intro pp ee s0 mm below meth cc0 ls C hret hname hl hH hS
  have hl : lv_has ls 2 [(0, .ref o), (1, .int (iI k))] := hl
  have e1 := hu k (by omega) (by omega)
  have b1 := hb k
  have b2 := hb (k - 1)
  refine z_aload_n C dX3_isChange_0 hl 0 rfl ?_
  refine m_geta C hH 7 ⟨by decide, by decide⟩ q2192 rfl dX3_isChange_1 ?_
  refine z_iload_n C dX3_isChange_4 hl 1 rfl ?_
  refine m_iald C hk hH 7 ⟨by decide, by decide⟩ (show 0 ≤ k ∧ k < (40 : Int) by omega) dX3_isChange_5 ?_
  refine z_iload_n C dX3_isChange_6 hl 1 rfl ?_
  refine z_ifne C dX3_isChange_7 (tgt := 14) (by decide) ⟨by omega, by omega⟩ (fun c_7 => ?_) (fun c_7 => ?_)
  · have e2 := hu (k - 1) (by omega) (by omega)
    refine z_aload_n C dX3_isChange_14 hl 0 rfl ?_
    refine m_geta C hH 7 ⟨by decide, by decide⟩ q2192 rfl dX3_isChange_15 ?_
    refine z_iload_n C dX3_isChange_18 hl 1 rfl ?_
    refine z_iconst C dX3_isChange_19 ?_
    refine z_isub C dX3_isChange_20 ?_
    refine m_iald C hk hH 7 ⟨by decide, by decide⟩ (show 0 ≤ (k - 1) ∧ (k - 1) < (40 : Int) by omega) dX3_isChange_21 ?_
    refine z_icmpeq C dX3_isChange_22 (tgt := 29) (by decide) ⟨⟨by omega, by omega⟩, ⟨by omega, by omega⟩⟩ (fun c_22 => ?_) (fun c_22 => ?_)
    · refine z_iconst C dX3_isChange_29 ?_
      refine m_zret C hret hH hS (by omega) dX3_isChange_30 ?_
      refine ⟨rfl, ?_⟩
      unfold isCh
      first | rw [if_pos (by first | (rw [if_pos (by omega)]; omega) | (rw [if_neg (by omega)]; omega))] | rw [if_neg (by first | (rw [if_pos (by omega)]; omega) | (rw [if_neg (by omega)]; omega))]
    · refine z_iconst C dX3_isChange_25 ?_
      refine z_goto C dX3_isChange_26 (tgt := 30) (by decide) ?_
      refine m_zret C hret hH hS (by omega) dX3_isChange_30 ?_
      refine ⟨rfl, ?_⟩
      unfold isCh
      first | rw [if_pos (by first | (rw [if_pos (by omega)]; omega) | (rw [if_neg (by omega)]; omega))] | rw [if_neg (by first | (rw [if_pos (by omega)]; omega) | (rw [if_neg (by omega)]; omega))]
  · refine z_iconst C dX3_isChange_10 ?_
    refine z_goto C dX3_isChange_11 (tgt := 22) (by decide) ?_
    refine z_icmpeq C dX3_isChange_22 (tgt := 29) (by decide) ⟨⟨by omega, by omega⟩, ⟨by omega, by omega⟩⟩ (fun c_22_1 => ?_) (fun c_22_1 => ?_)
    · refine z_iconst C dX3_isChange_29 ?_
      refine m_zret C hret hH hS (by omega) dX3_isChange_30 ?_
      refine ⟨rfl, ?_⟩
      unfold isCh
      first | rw [if_pos (by first | (rw [if_pos (by omega)]; omega) | (rw [if_neg (by omega)]; omega))] | rw [if_neg (by first | (rw [if_pos (by omega)]; omega) | (rw [if_neg (by omega)]; omega))]
    · refine z_iconst C dX3_isChange_25 ?_
      refine z_goto C dX3_isChange_26 (tgt := 30) (by decide) ?_
      refine m_zret C hret hH hS (by omega) dX3_isChange_30 ?_
      refine ⟨rfl, ?_⟩
      unfold isCh
      first | rw [if_pos (by first | (rw [if_pos (by omega)]; omega) | (rw [if_neg (by omega)]; omega))] | rw [if_neg (by first | (rw [if_pos (by omega)]; omega) | (rw [if_neg (by omega)]; omega))]
set_option maxHeartbeats 1000000 in
theorem mm_changeBehind {l : Launch} {D : va_G} {dA : Nat → ClassId} {A : Nat → Prop} {o : Nat} {ad : Nat → Nat} (hk : mOk o ad) (σ : Sg) (a : Int) (c : Int) (w : Int) (u : Int → Int) (h0 : -1 ≤ a ∧ a < w) (hw : 0 ≤ w ∧ w ≤ 40) (hc : 0 ≤ c ∧ c ≤ 2) (h9 : σ 9 0 = w) (hu : ∀ j, 0 ≤ j → j < w → σ 7 j = u j) (hb : ∀ j, u j = 0 ∨ u j = 1) : Met l yX3_changeBehind (ws_ yX3_changeBehind cX3_changeBehind 4 (some .int)) (rmL 2 0 0) (MP D dA A o ad [.ref o, .int (iI a), .int (iI c)] σ) (MQi D dA A o ad (fun r σ' => σ' = σ ∧ r = chg u c w (a + 1))) 0 0 A := by
  refine z_ofW (by decide) rfl ?_
  intro pp ee s0 mm below meth cc0 ls C hret hname hl hH hS
  have hl : lv_has ls 4 [(0, .ref o), (1, .int (iI a)), (2, .int (iI c))] := hl
  refine z_iload_n C dX3_changeBehind_0 hl 1 rfl ?_
  refine z_iconst C dX3_changeBehind_1 ?_
  refine z_iadd C dX3_changeBehind_2 ?_
  refine z_istore_n C [(3, .int (iI (a + 1))), (0, .ref o), (1, .int (iI a)), (2, .int (iI c))] dX3_changeBehind_3 hl (by decide) rfl (fun ls hl => ?_)
  have J_4 : ∀ (n : Nat) (k : Int), (w - k).toNat < n → a + 1 ≤ k ∧ k ≤ w → chg u c w (a + 1) = chg u c w k → ∀ (H : Heap) (locs : List Loc) (ls : Array Slot), MH D dA A o ad σ H → va_S A s0.heap H locs → lv_has ls 4 [(0, .ref o), (1, .int (iI a)), (2, .int (iI c)), (3, .int (iI k))] → W pp l ee (rmL 2 0 0) s0 mm ([.ref o, .int (iI a), .int (iI c)] : List Value).toArray below meth cc0 H locs 0 0 (MQ below (MQi D dA A o ad (fun r σ' => σ' = σ ∧ r = chg u c w (a + 1))) ([.ref o, .int (iI a), .int (iI c)] : List Value).toArray s0 0 0 A) (F0 mm 4 ls []) := by
    intro n
    induction n with
    | zero => intro k hn; exact absurd hn (Nat.not_lt_zero _)
    | succ n ih_4 =>
      intro k hn hk0 hs H locs ls hH hS hl
      have J_36 : chg u c w (a + 1) = k → ∀ (H : Heap) (locs : List Loc) (ls : Array Slot), MH D dA A o ad σ H → va_S A s0.heap H locs → lv_has ls 4 [(0, .ref o), (1, .int (iI a)), (2, .int (iI c)), (3, .int (iI k))] → W pp l ee (rmL 2 0 0) s0 mm ([.ref o, .int (iI a), .int (iI c)] : List Value).toArray below meth cc0 H locs 0 0 (MQ below (MQi D dA A o ad (fun r σ' => σ' = σ ∧ r = chg u c w (a + 1))) ([.ref o, .int (iI a), .int (iI c)] : List Value).toArray s0 0 0 A) (F0 mm 36 ls []) := by
        intro  hx H locs ls hH hS hl
        refine z_iload_n C dX3_changeBehind_36 hl 3 rfl ?_
        refine z_aload_n C dX3_changeBehind_37 hl 0 rfl ?_
        refine m_gets C hH 9 ⟨by decide, by decide⟩ q2194 rfl dX3_changeBehind_38 ?_
        refine z_icmpge C dX3_changeBehind_41 (tgt := 48) (by decide) ⟨⟨by omega, by omega⟩, ⟨by omega, by omega⟩⟩ (fun c_41 => ?_) (fun c_41 => ?_)
        · refine z_aload_n C dX3_changeBehind_48 hl 0 rfl ?_
          refine m_gets C hH 9 ⟨by decide, by decide⟩ q2194 rfl dX3_changeBehind_49 ?_
          refine m_iret C hret hH hS dX3_changeBehind_52 ?_
          refine ⟨rfl, ?_⟩
          omega
        · refine z_iload_n C dX3_changeBehind_44 hl 3 rfl ?_
          refine z_goto C dX3_changeBehind_45 (tgt := 52) (by decide) ?_
          refine m_iret C hret hH hS dX3_changeBehind_52 ?_
          refine ⟨rfl, ?_⟩
          omega
      refine z_iload_n C dX3_changeBehind_4 hl 3 rfl ?_
      refine z_aload_n C dX3_changeBehind_5 hl 0 rfl ?_
      refine m_gets C hH 9 ⟨by decide, by decide⟩ q2194 rfl dX3_changeBehind_6 ?_
      refine z_icmpge C dX3_changeBehind_9 (tgt := 36) (by decide) ⟨⟨by omega, by omega⟩, ⟨by omega, by omega⟩⟩ (fun c_9 => ?_) (fun c_9 => ?_)
      · exact J_36  (by rw [hs]; first | exact chg_end (by omega) | exact chg_at (by omega) (by omega)) _ _ _ hH hS (lv_sub hl [0, 1, 2, 3] rfl)
      · refine z_aload_n C dX3_changeBehind_12 hl 0 rfl ?_
        refine z_iload_n C dX3_changeBehind_13 hl 3 rfl ?_
        refine m_ViF C hH hS (mm_isChange hk σ k w u (by omega) (by omega) (hu) (hb)) (cwV 1 C.1.2.2.2.2 (lw_V q2375 q2377 qs56 q133 q2378) rfl rfl rfl (by decide +kernel) ⟨Nat.le_of_ble_eq_true rfl, Nat.le_of_ble_eq_true rfl⟩) rfl hl rfl (by decide) dX3_changeBehind_14 ⟨Nat.le_refl _, Nat.le_refl _⟩ (fun H locs hH hS => ?_)
        have i1 := isCh_01 u k
        have e1 := hu k (by omega) (by omega)
        have b1 := hb k
        refine z_ifeq C dX3_changeBehind_17 (tgt := 30) (by decide) ⟨by omega, by omega⟩ (fun c_17 => ?_) (fun c_17 => ?_)
        · refine z_iinc C [(3, .int (iI (k + 1))), (0, .ref o), (1, .int (iI a)), (2, .int (iI c))] dX3_changeBehind_30 hl 3 rfl (by decide) rfl (fun ls hl => ?_)
          refine z_goto C dX3_changeBehind_33 (tgt := 4) (by decide) ?_
          exact ih_4 ((k + 1)) (by omega) (by omega) (by rw [hs]; exact chg_go (by omega) (by first | (left; omega) | (right; omega))) _ _ _ hH hS (lv_sub hl [1, 2, 3, 0] rfl)
        · refine z_aload_n C dX3_changeBehind_20 hl 0 rfl ?_
          refine m_geta C hH 7 ⟨by decide, by decide⟩ q2192 rfl dX3_changeBehind_21 ?_
          refine z_iload_n C dX3_changeBehind_24 hl 3 rfl ?_
          refine m_iald C hk hH 7 ⟨by decide, by decide⟩ (show 0 ≤ k ∧ k < (40 : Int) by omega) dX3_changeBehind_25 ?_
          refine z_iload_n C dX3_changeBehind_26 hl 2 rfl ?_
          refine z_icmpne C dX3_changeBehind_27 (tgt := 36) (by decide) ⟨⟨by omega, by omega⟩, ⟨by omega, by omega⟩⟩ (fun c_27 => ?_) (fun c_27 => ?_)
          · exact J_36  (by rw [hs]; first | exact chg_end (by omega) | exact chg_at (by omega) (by omega)) _ _ _ hH hS (lv_sub hl [0, 1, 2, 3] rfl)
          · refine z_iinc C [(3, .int (iI (k + 1))), (0, .ref o), (1, .int (iI a)), (2, .int (iI c))] dX3_changeBehind_30 hl 3 rfl (by decide) rfl (fun ls hl => ?_)
            refine z_goto C dX3_changeBehind_33 (tgt := 4) (by decide) ?_
            exact ih_4 ((k + 1)) (by omega) (by omega) (by rw [hs]; exact chg_go (by omega) (by first | (left; omega) | (right; omega))) _ _ _ hH hS (lv_sub hl [1, 2, 3, 0] rfl)
  exact J_4 _ ((a + 1)) (Nat.lt_succ_self _) (by omega) (rfl) _ _ _ hH hS (lv_sub hl [1, 2, 3, 0] rfl)
set_option maxHeartbeats 1000000 in
theorem mm_dotBehind {l : Launch} {D : va_G} {dA : Nat → ClassId} {A : Nat → Prop} {o : Nat} {ad : Nat → Nat} (hk : mOk o ad) (σ : Sg) (a : Int) (c : Int) (w : Int) (lo : Int → Int) (h0 : -1 ≤ a ∧ a < w) (hw : 0 ≤ w ∧ w ≤ 40) (hc : 0 ≤ c ∧ c ≤ 1) (h9 : σ 9 0 = w) (hu : ∀ j, 0 ≤ j → j < w → σ 8 j = lo j) (hb : ∀ j, lo j = 0 ∨ lo j = 1) : Met l yX3_dotBehind (ws_ yX3_dotBehind cX3_dotBehind 4 (some .int)) (rmL 2 0 0) (MP D dA A o ad [.ref o, .int (iI a), .int (iI c)] σ) (MQi D dA A o ad (fun r σ' => σ' = σ ∧ r = fnd lo c w (a + 1))) 0 0 A := by
  refine z_ofW (by decide) rfl ?_
  intro pp ee s0 mm below meth cc0 ls C hret hname hl hH hS
  have hl : lv_has ls 4 [(0, .ref o), (1, .int (iI a)), (2, .int (iI c))] := hl
  refine z_iload_n C dX3_dotBehind_0 hl 1 rfl ?_
  refine z_iconst C dX3_dotBehind_1 ?_
  refine z_iadd C dX3_dotBehind_2 ?_
  refine z_istore_n C [(3, .int (iI (a + 1))), (0, .ref o), (1, .int (iI a)), (2, .int (iI c))] dX3_dotBehind_3 hl (by decide) rfl (fun ls hl => ?_)
  have J_4 : ∀ (n : Nat) (k : Int), (w - k).toNat < n → a + 1 ≤ k ∧ k ≤ w → fnd lo c w (a + 1) = fnd lo c w k → ∀ (H : Heap) (locs : List Loc) (ls : Array Slot), MH D dA A o ad σ H → va_S A s0.heap H locs → lv_has ls 4 [(0, .ref o), (1, .int (iI a)), (2, .int (iI c)), (3, .int (iI k))] → W pp l ee (rmL 2 0 0) s0 mm ([.ref o, .int (iI a), .int (iI c)] : List Value).toArray below meth cc0 H locs 0 0 (MQ below (MQi D dA A o ad (fun r σ' => σ' = σ ∧ r = fnd lo c w (a + 1))) ([.ref o, .int (iI a), .int (iI c)] : List Value).toArray s0 0 0 A) (F0 mm 4 ls []) := by
    intro n
    induction n with
    | zero => intro k hn; exact absurd hn (Nat.not_lt_zero _)
    | succ n ih_4 =>
      intro k hn hk0 hs H locs ls hH hS hl
      have J_28 : fnd lo c w (a + 1) = k → ∀ (H : Heap) (locs : List Loc) (ls : Array Slot), MH D dA A o ad σ H → va_S A s0.heap H locs → lv_has ls 4 [(0, .ref o), (1, .int (iI a)), (2, .int (iI c)), (3, .int (iI k))] → W pp l ee (rmL 2 0 0) s0 mm ([.ref o, .int (iI a), .int (iI c)] : List Value).toArray below meth cc0 H locs 0 0 (MQ below (MQi D dA A o ad (fun r σ' => σ' = σ ∧ r = fnd lo c w (a + 1))) ([.ref o, .int (iI a), .int (iI c)] : List Value).toArray s0 0 0 A) (F0 mm 28 ls []) := by
        intro  hx H locs ls hH hS hl
        refine z_iload_n C dX3_dotBehind_28 hl 3 rfl ?_
        refine z_aload_n C dX3_dotBehind_29 hl 0 rfl ?_
        refine m_gets C hH 9 ⟨by decide, by decide⟩ q2194 rfl dX3_dotBehind_30 ?_
        refine z_icmpge C dX3_dotBehind_33 (tgt := 40) (by decide) ⟨⟨by omega, by omega⟩, ⟨by omega, by omega⟩⟩ (fun c_33 => ?_) (fun c_33 => ?_)
        · refine z_aload_n C dX3_dotBehind_40 hl 0 rfl ?_
          refine m_gets C hH 9 ⟨by decide, by decide⟩ q2194 rfl dX3_dotBehind_41 ?_
          refine m_iret C hret hH hS dX3_dotBehind_44 ?_
          refine ⟨rfl, ?_⟩
          omega
        · refine z_iload_n C dX3_dotBehind_36 hl 3 rfl ?_
          refine z_goto C dX3_dotBehind_37 (tgt := 44) (by decide) ?_
          refine m_iret C hret hH hS dX3_dotBehind_44 ?_
          refine ⟨rfl, ?_⟩
          omega
      refine z_iload_n C dX3_dotBehind_4 hl 3 rfl ?_
      refine z_aload_n C dX3_dotBehind_5 hl 0 rfl ?_
      refine m_gets C hH 9 ⟨by decide, by decide⟩ q2194 rfl dX3_dotBehind_6 ?_
      refine z_icmpge C dX3_dotBehind_9 (tgt := 28) (by decide) ⟨⟨by omega, by omega⟩, ⟨by omega, by omega⟩⟩ (fun c_9 => ?_) (fun c_9 => ?_)
      · exact J_28  (by rw [hs]; first | exact fnd_end (by omega) | exact fnd_at (by omega)) _ _ _ hH hS (lv_sub hl [0, 1, 2, 3] rfl)
      · have e1 := hu k (by omega) (by omega)
        have b1 := hb k
        refine z_aload_n C dX3_dotBehind_12 hl 0 rfl ?_
        refine m_geta C hH 8 ⟨by decide, by decide⟩ q2193 rfl dX3_dotBehind_13 ?_
        refine z_iload_n C dX3_dotBehind_16 hl 3 rfl ?_
        refine m_iald C hk hH 8 ⟨by decide, by decide⟩ (show 0 ≤ k ∧ k < (40 : Int) by omega) dX3_dotBehind_17 ?_
        refine z_iload_n C dX3_dotBehind_18 hl 2 rfl ?_
        refine z_icmpeq C dX3_dotBehind_19 (tgt := 28) (by decide) ⟨⟨by omega, by omega⟩, ⟨by omega, by omega⟩⟩ (fun c_19 => ?_) (fun c_19 => ?_)
        · exact J_28  (by rw [hs]; first | exact fnd_end (by omega) | exact fnd_at (by omega)) _ _ _ hH hS (lv_sub hl [0, 1, 2, 3] rfl)
        · refine z_iinc C [(3, .int (iI (k + 1))), (0, .ref o), (1, .int (iI a)), (2, .int (iI c))] dX3_dotBehind_22 hl 3 rfl (by decide) rfl (fun ls hl => ?_)
          refine z_goto C dX3_dotBehind_25 (tgt := 4) (by decide) ?_
          exact ih_4 ((k + 1)) (by omega) (by omega) (by rw [hs]; exact fnd_go (by omega) (by omega)) _ _ _ hH hS (lv_sub hl [1, 2, 3, 0] rfl)
  exact J_4 _ ((a + 1)) (Nat.lt_succ_self _) (by omega) (rfl) _ _ _ hH hS (lv_sub hl [1, 2, 3, 0] rfl)
