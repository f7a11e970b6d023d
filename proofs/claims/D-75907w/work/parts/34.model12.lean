/-! the reference's methods, 12 (written by gen/model12.py) -/
set_option maxRecDepth 100000
/-- what a dot costs; what of the lines is sent by the line above -/
def pdZ (P : Pg) : UInt64 := if pN P = 0 then FP.dconst0 else ddZ ((sdQ P).1 26 0) (pW P * pN P)
def baZ (P : Pg) : UInt32 := if pN P = 0 then FP.fconst0 else ffZ (pN P - smZ P 10) (pN P)
theorem pdZ_a {P : Pg} (h : PgOk P) : 0 ≤ (sdQ P).1 26 0 ∧ (sdQ P).1 26 0 ≤ 1000000 := by
  have h0 := h.2.2.2.1
  have h3 := h.2.2.2.2.2.2.1
  have hE := sdR_I h h0 h3 (pL P)
  have hE1 := hE.2.2.1
  have hE2 := hE.2.2.2.1
  have hE3 := hE.2.2.2.2.2.1
  have hE4 := hE.2.2.2.2.2.2.1
  have hE5 := hE.2.2.2.2.2.2.2.2.1
  have hE6 := hE.2.2.2.2.2.2.2.2.2.1
  unfold sdQ; omega
theorem pdZ_b {P : Pg} (h : PgOk P) (hn : pN P ≠ 0) : 1 ≤ pW P * pN P ∧ pW P * pN P ≤ 800 := by
  obtain ⟨a1, a2, a3, -⟩ := h
  have a4 : 0 ≤ pN P := Int.natCast_nonneg _
  have : pN P = 1 ∨ pN P = 2 ∨ pN P = 3 ∨ pN P = 4 ∨ pN P = 5 ∨ pN P = 6 ∨ pN P = 7 ∨ pN P = 8 ∨ pN P = 9 ∨ pN P = 10 ∨ pN P = 11 ∨ pN P = 12 ∨ pN P = 13 ∨ pN P = 14 ∨ pN P = 15 ∨ pN P = 16 ∨ pN P = 17 ∨ pN P = 18 ∨ pN P = 19 ∨ pN P = 20 := by omega
  rcases this with h | h | h | h | h | h | h | h | h | h | h | h | h | h | h | h | h | h | h | h <;> rw [h] <;> omega
theorem smZ10_in {P : Pg} (h : PgOk P) : 0 ≤ smZ P 10 ∧ smZ P 10 ≤ pN P := by
  have a4 : 0 ≤ pN P := Int.natCast_nonneg _
  have := cnt_in (f := fun l => isMk P (pS P 0) l) (w := pN P) (m := 1) (by omega) a4 (fun j _ _ => by have := isMk_01 P (pS P 0) j; omega)
  have e : smZ P 10 = cnt (fun l => isMk P (pS P 0) l) (pN P) := rfl
  rw [e]; omega
set_option maxHeartbeats 1000000 in
theorem mm_perDot {l : Launch} {D : va_G} {dA : Nat → ClassId} {A : Nat → Prop} {o : Nat} {ad : Nat → Nat} (hOk : mOk o ad) (σ : Sg) (P : Pg) (hP : PgAt (σ 1) P) (hk : PgOk P) : Met l yX3_perDot (ws_ yX3_perDot cX3_perDot 1 (some .double)) (rmL 10 0 0) (MP D dA A o ad [.ref o] σ) (MQd D dA A o ad (fun r σ' => σ' 0 0 = 0 ∧ r = pdZ P ∧ Fr [0, 7, 8, 9, 10, 11, 12, 13, 14, 15, 16, 17, 18, 19, 20, 21, 22, 23, 24, 25, 26, 27, 28, 29, 30] σ σ')) 0 0 A := by
  refine z_ofW (by decide) rfl ?_
  intro pp ee s0 mm below meth cc0 ls C hret hname hl hH hS
  have hl : lv_has ls 1 [(0, .ref o)] := hl
  have hk9 := hk
  have hP9 := hP
  obtain ⟨k1, k2, k3, k4, k5, k6, k7, k8, k9, k10, k11⟩ := hk
  obtain ⟨p1, p2, p3, p4, p5⟩ := hP
  have pn0 : 0 ≤ pN P := by show (0 : Int) ≤ ((pB P).length : Int); omega
  refine z_aload_n C dX3_perDot_0 hl 0 rfl ?_
  refine z_iconst C dX3_perDot_1 ?_
  refine m_puts C hH hS 0 ⟨by decide, by decide⟩ q2185 rfl ⟨rfl, rfl⟩ dX3_perDot_2 (fun H locs hH hS => ?_)
  refine z_aload_n C dX3_perDot_5 hl 0 rfl ?_
  refine m_geta C hH 1 ⟨by decide, by decide⟩ q2186 rfl dX3_perDot_6 ?_
  refine z_iconst C dX3_perDot_9 ?_
  refine m_ialdZ C hOk hH 1 ⟨by decide, by decide⟩ 1 (pN P) (p2) (show 0 ≤ 1 ∧ 1 < (828 : Int) by omega) dX3_perDot_10 ?_
  refine z_ifne C dX3_perDot_11 (tgt := 16) (by decide) ⟨by omega, by omega⟩ (fun c_11 => ?_) (fun c_11 => ?_)
  · refine z_aload_n C dX3_perDot_16 hl 0 rfl ?_
    refine m_Vv C hH hS (mm_sendsPage hOk (su σ 0 0 0) P (hP9) (hk9)) (cwV 0 C.1.2.2.2.2 (lw_V q2547 q2549 qs78 q133 q2550) rfl rfl rfl (by decide +kernel) ⟨Nat.le_of_ble_eq_true rfl, Nat.le_of_ble_eq_true rfl⟩) rfl hl rfl (Nat.le_of_ble_eq_true rfl) dX3_perDot_17 ⟨Nat.le_refl _, Nat.le_refl _⟩ (fun s_17 H locs hp_17 hH hS => ?_)
    obtain ⟨ht17, hg17, hf17⟩ := hp_17
    refine z_aload_n C dX3_perDot_20 hl 0 rfl ?_
    refine m_getsZ C hH 26 ⟨by decide, by decide⟩ ((sdQ P).1 26 0) (ht17.2 26 (by omega) (by omega)) q2211 rfl dX3_perDot_21 ?_
    refine z_i2d C dX3_perDot_24 ?_
    refine z_aload_n C dX3_perDot_25 hl 0 rfl ?_
    refine m_geta C hH 1 ⟨by decide, by decide⟩ q2186 rfl dX3_perDot_26 ?_
    refine z_iconst C dX3_perDot_29 ?_
    refine m_ialdZ C hOk hH 1 ⟨by decide, by decide⟩ 0 (pW P) (by rw [hf17.at 1 rfl]; exact p1) (show 0 ≤ 0 ∧ 0 < (828 : Int) by omega) dX3_perDot_30 ?_
    refine z_aload_n C dX3_perDot_31 hl 0 rfl ?_
    refine m_geta C hH 1 ⟨by decide, by decide⟩ q2186 rfl dX3_perDot_32 ?_
    refine z_iconst C dX3_perDot_35 ?_
    refine m_ialdZ C hOk hH 1 ⟨by decide, by decide⟩ 1 (pN P) (by rw [hf17.at 1 rfl]; exact p2) (show 0 ≤ 1 ∧ 1 < (828 : Int) by omega) dX3_perDot_36 ?_
    refine z_imul C dX3_perDot_37 ?_
    refine z_i2d C dX3_perDot_38 ?_
    refine z_ddivZ C (pdZ_a hk9) (pdZ_b hk9 (by omega)) dX3_perDot_39 ?_
    refine m_dret C hret hH hS dX3_perDot_40 ?_
    exact ⟨(by rw [hf17.at 0 rfl]; exact su_self _ _ _ _), by unfold pdZ; rw [if_neg (by omega)], ((frSu Fr.rf rfl).th hf17 rfl)⟩
  · refine lv_dconst0 C.1.1 C.1.2.1 dX3_perDot_14 ?_
    refine m_dret C hret hH hS dX3_perDot_15 ?_
    exact ⟨su_self _ _ _ _, by unfold pdZ; rw [if_pos (by omega)], frSu Fr.rf rfl⟩
set_option maxHeartbeats 1000000 in
theorem mm_byAbove {l : Launch} {D : va_G} {dA : Nat → ClassId} {A : Nat → Prop} {o : Nat} {ad : Nat → Nat} (hOk : mOk o ad) (σ : Sg) (P : Pg) (hP : PgAt (σ 1) P) (hk : PgOk P) : Met l yX3_byAbove (ws_ yX3_byAbove cX3_byAbove 2 (some .float)) (rmL 8 0 0) (MP D dA A o ad [.ref o] σ) (MQf D dA A o ad (fun r σ' => σ' 0 0 = 0 ∧ r = baZ P ∧ Fr [0, 7, 8, 9, 10, 11, 12, 13, 14, 15, 16, 17, 18, 19, 20, 21, 22, 23, 24, 25, 26, 27, 28, 29, 30] σ σ')) 0 0 A := by
  refine z_ofW (by decide) rfl ?_
  intro pp ee s0 mm below meth cc0 ls C hret hname hl hH hS
  have hl : lv_has ls 2 [(0, .ref o)] := hl
  have hk9 := hk
  have hP9 := hP
  obtain ⟨k1, k2, k3, k4, k5, k6, k7, k8, k9, k10, k11⟩ := hk
  obtain ⟨p1, p2, p3, p4, p5⟩ := hP
  have pn0 : 0 ≤ pN P := by show (0 : Int) ≤ ((pB P).length : Int); omega
  refine z_aload_n C dX3_byAbove_0 hl 0 rfl ?_
  refine z_iconst C dX3_byAbove_1 ?_
  refine m_puts C hH hS 0 ⟨by decide, by decide⟩ q2185 rfl ⟨rfl, rfl⟩ dX3_byAbove_2 (fun H locs hH hS => ?_)
  refine z_aload_n C dX3_byAbove_5 hl 0 rfl ?_
  refine m_geta C hH 1 ⟨by decide, by decide⟩ q2186 rfl dX3_byAbove_6 ?_
  refine z_iconst C dX3_byAbove_9 ?_
  refine m_ialdZ C hOk hH 1 ⟨by decide, by decide⟩ 1 (pN P) (p2) (show 0 ≤ 1 ∧ 1 < (828 : Int) by omega) dX3_byAbove_10 ?_
  refine z_aload_n C dX3_byAbove_11 hl 0 rfl ?_
  refine z_bipush C dX3_byAbove_12 (by decide +kernel) ?_
  refine m_Vi C hH hS (mm_sumOf hOk (su σ 0 0 0) 10 P (hP9) (hk9) (⟨by omega, by omega, by omega⟩)) (cwV 1 C.1.2.2.2.2 (lw_V q2324 q2326 qs44 q133 q2327) rfl rfl rfl (by decide +kernel) ⟨Nat.le_of_ble_eq_true rfl, Nat.le_of_ble_eq_true rfl⟩) rfl hl rfl (Nat.le_of_ble_eq_true rfl) dX3_byAbove_14 ⟨Nat.le_refl _, Nat.le_refl _⟩ (fun r_14 s_14 H locs hp_14 hH hS => ?_)
  obtain ⟨hr14, hf14⟩ := hp_14
  have v1 := smZ10_in hk9
  rw [← hr14] at v1
  refine z_isub C dX3_byAbove_17 ?_
  refine z_istore_n C [(1, .int (iI ((pN P) - r_14))), (0, .ref o)] dX3_byAbove_18 hl (by decide) rfl (fun ls hl => ?_)
  refine z_aload_n C dX3_byAbove_19 hl 1 rfl ?_
  refine m_geta C hH 1 ⟨by decide, by decide⟩ q2186 rfl dX3_byAbove_20 ?_
  refine z_iconst C dX3_byAbove_23 ?_
  refine m_ialdZ C hOk hH 1 ⟨by decide, by decide⟩ 1 (pN P) (by rw [hf14.at 1 rfl]; exact p2) (show 0 ≤ 1 ∧ 1 < (828 : Int) by omega) dX3_byAbove_24 ?_
  refine z_ifne C dX3_byAbove_25 (tgt := 32) (by decide) ⟨by omega, by omega⟩ (fun c_25 => ?_) (fun c_25 => ?_)
  · refine z_iload_n C dX3_byAbove_32 hl 0 rfl ?_
    refine z_i2f C dX3_byAbove_33 ?_
    refine z_aload_n C dX3_byAbove_34 hl 1 rfl ?_
    refine m_geta C hH 1 ⟨by decide, by decide⟩ q2186 rfl dX3_byAbove_35 ?_
    refine z_iconst C dX3_byAbove_38 ?_
    refine m_ialdZ C hOk hH 1 ⟨by decide, by decide⟩ 1 (pN P) (by rw [hf14.at 1 rfl]; exact p2) (show 0 ≤ 1 ∧ 1 < (828 : Int) by omega) dX3_byAbove_39 ?_
    refine z_i2f C dX3_byAbove_40 ?_
    refine z_fdivZ C (by omega) (by omega) dX3_byAbove_41 ?_
    refine m_fret C hret hH hS dX3_byAbove_42 ?_
    refine ⟨(by rw [hf14.at 0 rfl]; exact su_self _ _ _ _), ?_, ((frSu Fr.rf rfl).th hf14 rfl)⟩
    unfold baZ; rw [← hr14]; first | (rw [if_pos (by omega)]; done) | (rw [if_neg (by omega)]; done)
  · refine lv_fconst0 C.1.1 C.1.2.1 dX3_byAbove_28 ?_
    refine z_goto C dX3_byAbove_29 (tgt := 42) (by decide) ?_
    refine m_fret C hret hH hS dX3_byAbove_42 ?_
    refine ⟨(by rw [hf14.at 0 rfl]; exact su_self _ _ _ _), ?_, ((frSu Fr.rf rfl).th hf14 rfl)⟩
    unfold baZ; rw [← hr14]; first | (rw [if_pos (by omega)]; done) | (rw [if_neg (by omega)]; done)
set_option maxHeartbeats 1000000 in
theorem mm_appendText {l : Launch} {D : va_G} {dA : Nat → ClassId} {A : Nat → Prop} {o : Nat} {ad : Nat → Nat} (hOk : mOk o ad) (σ : Sg) (x : Int) (tx : Int → Int) (n : Int) (hT : TxAt σ tx n) : Met l yX3_appendText (ws_ yX3_appendText cX3_appendText 3 (some .int)) (rmL 1 0 0) (MP D dA A o ad [.ref o, .int (iI x)] σ) (MQi D dA A o ad (fun r σ' => σ' 0 0 = (if n + 4 ≤ 900 then 0 else 1) ∧ (σ' 0 0 = 0 → r = n + 4 ∧ TxAt σ' (txA tx n x) (n + 4)) ∧ (σ' 0 0 ≠ 0 → TxAt σ' tx n) ∧ Fr [0, 31, 32] σ σ')) 0 0 A := by
  refine z_ofW (by decide) rfl ?_
  intro pp ee s0 mm below meth cc0 ls C hret hname hl hH hS
  have hl : lv_has ls 3 [(0, .ref o), (1, .int (iI x))] := hl
  obtain ⟨hx1, hx2, hx3, hx4⟩ := hT
  have hT : TxAt σ tx n := ⟨hx1, hx2, hx3, hx4⟩
  refine z_aload_n C dX3_appendText_0 hl 0 rfl ?_
  refine z_aload_n C dX3_appendText_1 hl 0 rfl ?_
  refine m_getsZ C hH 32 ⟨by decide, by decide⟩ n (hx1) q2217 rfl dX3_appendText_2 ?_
  refine z_iconst C dX3_appendText_5 ?_
  refine z_iadd C dX3_appendText_6 ?_
  refine z_sipush C dX3_appendText_7 (by decide +kernel) ?_
  refine z_icmpgt C dX3_appendText_10 (tgt := 17) (by decide) ⟨⟨by omega, by omega⟩, ⟨by omega, by omega⟩⟩ (fun c_10 => ?_) (fun c_10 => ?_)
  · refine z_iconst C dX3_appendText_17 ?_
    refine m_puts C hH hS 0 ⟨by decide, by decide⟩ q2185 rfl ⟨rfl, rfl⟩ dX3_appendText_18 (fun H locs hH hS => ?_)
    refine z_aload_n C dX3_appendText_21 hl 0 rfl ?_
    refine m_getsZ C hH 0 ⟨by decide, by decide⟩ 1 rfl q2185 rfl dX3_appendText_22 ?_
    refine z_ifle C dX3_appendText_25 (tgt := 30) (by decide) ⟨by omega, by omega⟩ (fun c_25 => ?_) (fun c_25 => ?_)
    · exact absurd c_25 (by decide)
    · refine z_iconst C dX3_appendText_28 ?_
      refine m_iret C hret hH hS dX3_appendText_29 ?_
      refine ⟨by rw [su_self]; rw [if_neg (by omega)], fun h => absurd (show (1 : Int) = 0 from h) (by decide), fun _ => hT.fr rfl rfl, frSu Fr.rf rfl⟩
  · refine z_iconst C dX3_appendText_13 ?_
    refine z_goto C dX3_appendText_14 (tgt := 18) (by decide) ?_
    refine m_puts C hH hS 0 ⟨by decide, by decide⟩ q2185 rfl ⟨rfl, rfl⟩ dX3_appendText_18 (fun H locs hH hS => ?_)
    refine z_aload_n C dX3_appendText_21 hl 0 rfl ?_
    refine m_getsZ C hH 0 ⟨by decide, by decide⟩ 0 rfl q2185 rfl dX3_appendText_22 ?_
    refine z_ifle C dX3_appendText_25 (tgt := 30) (by decide) ⟨by omega, by omega⟩ (fun c_25_1 => ?_) (fun c_25_1 => ?_)
    · refine z_bipush C dX3_appendText_30 (by decide +kernel) ?_
      refine z_istore_n C [(2, .int (iI 24)), (0, .ref o), (1, .int (iI x))] dX3_appendText_32 hl (by decide) rfl (fun ls hl => ?_)
      have J_33 : ∀ (fu : Nat) (j : Int) (k : Int) (s1 : Sg), (4 - j).toNat < fu → (0 ≤ j ∧ j ≤ 4 ∧ k = 24 - 8 * j) → (s1 31 = wr (fun i => byB (shB x (24 - 8 * (i - n)))) (σ 31) n (n + j)) → (s1 32 0 = n + j) → (Fr [31, 32] (su σ 0 0 0) s1) → ∀ (H : Heap) (locs : List Loc) (ls : Array Slot), MH D dA A o ad s1 H → va_S A s0.heap H locs → lv_has ls 3 [(2, .int (iI k)), (0, .ref o), (1, .int (iI x))] → W pp l ee (rmL 1 0 0) s0 mm ([.ref o, .int (iI x)] : List Value).toArray below meth cc0 H locs 0 0 (MQ below (MQi D dA A o ad (fun r σ' => σ' 0 0 = (if n + 4 ≤ 900 then 0 else 1) ∧ (σ' 0 0 = 0 → r = n + 4 ∧ TxAt σ' (txA tx n x) (n + 4)) ∧ (σ' 0 0 ≠ 0 → TxAt σ' tx n) ∧ Fr [0, 31, 32] σ σ')) ([.ref o, .int (iI x)] : List Value).toArray s0 0 0 A) (F0 mm 33 ls []) := by
        intro fu
        induction fu with
        | zero => intro j k s1 hn; exact absurd hn (Nat.not_lt_zero _)
        | succ fu ih_33 =>
          intro j k s1 hn hj0 h31 h32 hf H locs ls hH hS hl
          refine z_iload_n C dX3_appendText_33 hl 0 rfl ?_
          refine z_iflt C dX3_appendText_34 (tgt := 66) (by decide) ⟨by omega, by omega⟩ (fun c_34 => ?_) (fun c_34 => ?_)
          · refine z_aload_n C dX3_appendText_66 hl 1 rfl ?_
            refine m_getsZ C hH 32 ⟨by decide, by decide⟩ ((n + j)) (h32) q2217 rfl dX3_appendText_67 ?_
            refine m_iret C hret hH hS dX3_appendText_70 ?_
            have e0 : s1 0 0 = 0 := by rw [hf.at 0 rfl]; exact su_self _ _ _ _
            refine ⟨by rw [e0, if_pos (by omega)], fun _ => ⟨by omega, ?_⟩, fun h => absurd e0 h, (frSu Fr.rf rfl).th hf rfl⟩
            refine ⟨by rw [h32]; omega, by omega, fun i a b => ?_, txA_in hx4⟩
            rw [h31]; unfold txA
            by_cases h : n ≤ i
            · rw [wr_in _ _ h (by omega), if_pos h]
            · rw [wr_out _ _ (by omega), if_neg h]; exact hx3 i a (by omega)
          · refine z_aload_n C dX3_appendText_37 hl 1 rfl ?_
            refine m_geta C hH 31 ⟨by decide, by decide⟩ q2216 rfl dX3_appendText_38 ?_
            refine z_aload_n C dX3_appendText_41 hl 1 rfl ?_
            refine m_getsZ C hH 32 ⟨by decide, by decide⟩ ((n + j)) (h32) q2217 rfl dX3_appendText_42 ?_
            refine z_iload_n C dX3_appendText_45 hl 2 rfl ?_
            refine z_iload_n C dX3_appendText_46 hl 0 rfl ?_
            refine z_ishr C dX3_appendText_47 ?_
            refine z_i2b C dX3_appendText_48 ?_
            refine m_bast C hOk hH hS 31 ⟨by decide, by decide⟩ (show 0 ≤ ((n + j)) ∧ ((n + j)) < (900 : Int) by omega) (byB_in _) dX3_appendText_49 (fun H locs hH hS => ?_)
            refine z_aload_n C dX3_appendText_50 hl 1 rfl ?_
            refine z_dup C dX3_appendText_51 rfl ?_
            refine m_getsZ C hH 32 ⟨by decide, by decide⟩ ((n + j)) (h32) q2217 rfl dX3_appendText_52 ?_
            refine z_iconst C dX3_appendText_55 ?_
            refine z_iadd C dX3_appendText_56 ?_
            refine m_puts C hH hS 32 ⟨by decide, by decide⟩ q2217 rfl ⟨rfl, rfl⟩ dX3_appendText_57 (fun H locs hH hS => ?_)
            refine z_iinc C [(2, .int (iI (k + (-8)))), (0, .ref o), (1, .int (iI x))] dX3_appendText_60 hl 0 rfl (by decide) rfl (fun ls hl => ?_)
            refine z_goto C dX3_appendText_63 (tgt := 33) (by decide) ?_
            exact ih_33 ((j + 1)) ((k + (-8))) ((su (su s1 31 ((n + j)) (byB (shB (x) (k)))) 32 0 (((n + j)) + 1))) (by omega) (by omega) (by show uZ (s1 31) (n + j) _ = _; rw [h31, hj0.2.2, ← Int.add_assoc, ← wr_step _ _ (show n ≤ n + j by omega)]; rw [show n + j - n = j by omega]) (by rw [su_self]; omega) (frSu (frSu hf rfl) rfl) _ _ _ hH hS (lv_sub hl [0, 1, 2] rfl)
      exact J_33 _ 0 24 ((su σ 0 0 0)) (Nat.lt_succ_self _) (by omega) (by rw [Int.add_zero, wr_0]; rfl) (by rw [Int.add_zero]; exact hx1) (Fr.rf) _ _ _ hH hS (lv_sub hl [0, 1, 2] rfl)
    · exact absurd c_25_1 (by decide)
set_option maxHeartbeats 1000000 in
theorem mm_truncateText {l : Launch} {D : va_G} {dA : Nat → ClassId} {A : Nat → Prop} {o : Nat} {ad : Nat → Nat} (hOk : mOk o ad) (σ : Sg) (x : Int) (tx : Int → Int) (n : Int) (hT : TxAt σ tx n) (hr : zR x) : Met l yX3_truncateText (ws_ yX3_truncateText cX3_truncateText 2 (some .int)) (rmL 2 0 0) (MP D dA A o ad [.ref o, .int (iI x)] σ) (MQi D dA A o ad (fun r σ' => σ' 0 0 = (if 0 ≤ x ∧ x ≤ n then 0 else 1) ∧ (σ' 0 0 = 0 → r = x ∧ TxAt σ' tx x) ∧ (σ' 0 0 ≠ 0 → TxAt σ' tx n) ∧ Fr [0, 32] σ σ')) 0 0 A := by
  refine z_ofW (by decide) rfl ?_
  intro pp ee s0 mm below meth cc0 ls C hret hname hl hH hS
  have hl : lv_has ls 2 [(0, .ref o), (1, .int (iI x))] := hl
  obtain ⟨hx1, hx2, hx3, hx4⟩ := hT
  have hT : TxAt σ tx n := ⟨hx1, hx2, hx3, hx4⟩
  have hr_1 := hr.1
  have hr_2 := hr.2
  refine z_aload_n C dX3_truncateText_0 hl 0 rfl ?_
  refine z_iload_n C dX3_truncateText_1 hl 1 rfl ?_
  refine z_iconst C dX3_truncateText_2 ?_
  refine z_aload_n C dX3_truncateText_3 hl 0 rfl ?_
  refine m_getsZ C hH 32 ⟨by decide, by decide⟩ n (hx1) q2217 rfl dX3_truncateText_4 ?_
  refine m_SiF C hH hS (mm_in hOk σ x 0 n (⟨by omega, by omega⟩) (⟨by omega, by omega⟩) (⟨by omega, by omega⟩)) (va_cwS 3 C.1.2.2.2.2 (lw_S q2321 q2322 q133 q2323) rfl rfl rfl (by decide +kernel) ⟨Nat.le_of_ble_eq_true rfl, Nat.le_of_ble_eq_true rfl⟩) rfl hl rfl (Nat.le_of_ble_eq_true rfl) dX3_truncateText_7 ⟨Nat.le_refl _, Nat.le_refl _⟩ (fun H locs hH hS => ?_)
  refine z_topi (fun z_7 hz_7 => ?_)
  have q_7 := inZ_or x 0 n
  rw [← hz_7] at q_7
  refine z_ifeq C dX3_truncateText_10 (tgt := 17) (by decide) ⟨by omega, by omega⟩ (fun c_10 => ?_) (fun c_10 => ?_)
  · refine z_iconst C dX3_truncateText_17 ?_
    refine m_puts C hH hS 0 ⟨by decide, by decide⟩ q2185 rfl ⟨rfl, rfl⟩ dX3_truncateText_18 (fun H locs hH hS => ?_)
    refine z_aload_n C dX3_truncateText_21 hl 0 rfl ?_
    refine m_getsZ C hH 0 ⟨by decide, by decide⟩ 1 rfl q2185 rfl dX3_truncateText_22 ?_
    refine z_ifle C dX3_truncateText_25 (tgt := 30) (by decide) ⟨by omega, by omega⟩ (fun c_25 => ?_) (fun c_25 => ?_)
    · exact absurd c_25 (by decide)
    · refine z_iconst C dX3_truncateText_28 ?_
      refine m_iret C hret hH hS dX3_truncateText_29 ?_
      refine ⟨by rw [su_self]; rw [if_neg (by omega)], fun h => absurd (show (1 : Int) = 0 from h) (by decide), fun _ => hT.fr rfl rfl, frSu Fr.rf rfl⟩
  · refine z_iconst C dX3_truncateText_13 ?_
    refine z_goto C dX3_truncateText_14 (tgt := 18) (by decide) ?_
    refine m_puts C hH hS 0 ⟨by decide, by decide⟩ q2185 rfl ⟨rfl, rfl⟩ dX3_truncateText_18 (fun H locs hH hS => ?_)
    refine z_aload_n C dX3_truncateText_21 hl 0 rfl ?_
    refine m_getsZ C hH 0 ⟨by decide, by decide⟩ 0 rfl q2185 rfl dX3_truncateText_22 ?_
    refine z_ifle C dX3_truncateText_25 (tgt := 30) (by decide) ⟨by omega, by omega⟩ (fun c_25_1 => ?_) (fun c_25_1 => ?_)
    · refine z_aload_n C dX3_truncateText_30 hl 0 rfl ?_
      refine z_iload_n C dX3_truncateText_31 hl 1 rfl ?_
      refine m_puts C hH hS 32 ⟨by decide, by decide⟩ q2217 rfl ⟨rfl, rfl⟩ dX3_truncateText_32 (fun H locs hH hS => ?_)
      refine z_aload_n C dX3_truncateText_35 hl 0 rfl ?_
      refine m_getsZ C hH 32 ⟨by decide, by decide⟩ x rfl q2217 rfl dX3_truncateText_36 ?_
      refine m_iret C hret hH hS dX3_truncateText_39 ?_
      have e0 : (su (su σ 0 0 0) 32 0 x) 0 0 = 0 := rfl
      refine ⟨by rw [e0, if_pos (by omega)], fun _ => ⟨rfl, ?_⟩, fun h => absurd e0 h, frSu (frSu Fr.rf rfl) rfl⟩
      exact ⟨su_self _ _ _ _, by omega, fun i a b => hx3 i a (by omega), hx4⟩
    · exact absurd c_25_1 (by decide)
set_option maxHeartbeats 1000000 in
theorem mm_undo {l : Launch} {D : va_G} {dA : Nat → ClassId} {A : Nat → Prop} {o : Nat} {ad : Nat → Nat} (hOk : mOk o ad) (σ : Sg) (P : Pg) (L : List Pg) (hI : MIv σ P L) : Met l yX3_undo (ws_ yX3_undo cX3_undo 1 (some .int)) (rmL 2 0 0) (MP D dA A o ad [.ref o] σ) (MQi D dA A o ad (fun r σ' => σ' 0 0 = 0 ∧ r = (if L = [] then -1 else (L.length : Int) - 1) ∧ MIv σ' (unP P L) L.dropLast ∧ Fr [0, 1, 4] σ σ')) 0 0 A := by
  refine z_ofW (by decide) rfl ?_
  intro pp ee s0 mm below meth cc0 ls C hret hname hl hH hS
  have hl : lv_has ls 1 [(0, .ref o)] := hl
  obtain ⟨hP, hk, hU, h4, hL, hLk⟩ := hI
  have hk9 := hk
  have hP9 := hP
  obtain ⟨k1, k2, k3, k4, k5, k6, k7, k8, k9, k10, k11⟩ := hk
  obtain ⟨p1, p2, p3, p4, p5⟩ := hP
  have pn0 : 0 ≤ pN P := by show (0 : Int) ≤ ((pB P).length : Int); omega
  have hI : MIv σ P L := ⟨hP9, hk9, hU, h4, hL, hLk⟩
  refine z_aload_n C dX3_undo_0 hl 0 rfl ?_
  refine z_iconst C dX3_undo_1 ?_
  refine m_puts C hH hS 0 ⟨by decide, by decide⟩ q2185 rfl ⟨rfl, rfl⟩ dX3_undo_2 (fun H locs hH hS => ?_)
  refine z_aload_n C dX3_undo_5 hl 0 rfl ?_
  refine m_getsZ C hH 4 ⟨by decide, by decide⟩ ((L.length : Int)) (h4) q2189 rfl dX3_undo_6 ?_
  refine z_ifne C dX3_undo_9 (tgt := 14) (by decide) ⟨by omega, by omega⟩ (fun c_9 => ?_) (fun c_9 => ?_)
  · refine z_aload_n C dX3_undo_14 hl 0 rfl ?_
    refine z_dup C dX3_undo_15 rfl ?_
    refine m_getsZ C hH 4 ⟨by decide, by decide⟩ ((L.length : Int)) (h4) q2189 rfl dX3_undo_16 ?_
    refine z_iconst C dX3_undo_19 ?_
    refine z_isub C dX3_undo_20 ?_
    refine m_puts C hH hS 4 ⟨by decide, by decide⟩ q2189 rfl ⟨rfl, rfl⟩ dX3_undo_21 (fun H locs hH hS => ?_)
    refine z_aload_n C dX3_undo_24 hl 0 rfl ?_
    refine m_geta C hH 3 ⟨by decide, by decide⟩ q2188 rfl dX3_undo_25 ?_
    refine z_sipush C dX3_undo_28 (by decide +kernel) ?_
    refine z_aload_n C dX3_undo_31 hl 0 rfl ?_
    refine m_getsZ C hH 4 ⟨by decide, by decide⟩ (((L.length : Int) - 1)) (su_self _ _ _ _) q2189 rfl dX3_undo_32 ?_
    refine z_imul C dX3_undo_35 ?_
    refine z_aload_n C dX3_undo_36 hl 0 rfl ?_
    refine m_geta C hH 1 ⟨by decide, by decide⟩ q2186 rfl dX3_undo_37 ?_
    refine z_iconst C dX3_undo_40 ?_
    refine m_SvF C hH hS (mm_copies hOk (su (su σ 0 0 0) 4 0 (((L.length : Int)) - 1)) 3 (828 * (((L.length : Int) - 1))) 1 0 (⟨by decide, by decide⟩) (⟨by decide, by decide⟩) (by decide) (show 0 ≤ 828 * ((L.length : Int) - 1) ∧ 828 * ((L.length : Int) - 1) + 828 ≤ (8280 : Int) by omega) (show 0 ≤ (0 : Int) ∧ (0 : Int) + 828 ≤ (828 : Int) by omega)) (va_cwS 4 C.1.2.2.2.2 (lw_S q2182 q2183 q133 q2184) rfl rfl rfl (by decide +kernel) ⟨Nat.le_of_ble_eq_true rfl, Nat.le_of_ble_eq_true rfl⟩) rfl hl rfl (Nat.le_of_ble_eq_true rfl) dX3_undo_41 ⟨Nat.le_refl _, Nat.le_refl _⟩ (fun H locs hH hS => ?_)
    refine z_aload_n C dX3_undo_44 hl 0 rfl ?_
    refine m_getsZ C hH 4 ⟨by decide, by decide⟩ (((L.length : Int) - 1)) rfl q2189 rfl dX3_undo_45 ?_
    refine m_iret C hret hH hS dX3_undo_48 ?_
    have hL0 : L ≠ [] := fun e => by rw [e] at c_9; exact c_9 rfl
    refine ⟨rfl, by rw [if_neg hL0], ?_, frSa (frSu (frSu Fr.rf rfl) rfl) rfl⟩
    refine hI.undo hL0 rfl ?_ (fun j a b => ?_)
    · show (L.length : Int) - 1 = σ 4 0 - 1
      rw [h4]
    · show wr (fun j => σ 3 (828 * ((L.length : Int) - 1) + (j - 0))) (σ 1) 0 (0 + 828) j = _
      rw [wr_in _ _ a (by omega), Int.sub_zero]
  · refine z_iconst C dX3_undo_12 ?_
    refine m_iret C hret hH hS dX3_undo_13 ?_
    have hL0 : L = [] := List.length_eq_zero_iff.mp (by omega)
    subst hL0
    exact ⟨su_self _ _ _ _, rfl, hI.keep rfl rfl rfl, frSu Fr.rf rfl⟩
set_option maxHeartbeats 1000000 in
theorem mm_save {l : Launch} {D : va_G} {dA : Nat → ClassId} {A : Nat → Prop} {o : Nat} {ad : Nat → Nat} (hOk : mOk o ad) (σ : Sg) (x : Int) (P : Pg) (L : List Pg) (V : Int → Option Pg) (hI : MIv σ P L) (hV : SvAt σ V) (hr : zR x) : Met l yX3_save (ws_ yX3_save cX3_save 2 none) (rmL 2 0 0) (MP D dA A o ad [.ref o, .int (iI x)] σ) (MQv D dA A o ad (fun σ' => σ' 0 0 = (if 0 ≤ x ∧ x ≤ 1 then 0 else 1) ∧ MIv σ' P L ∧ SvAt σ' (if 0 ≤ x ∧ x ≤ 1 then uZ V x (some P) else V) ∧ Fr [0, 5, 6] σ σ')) 0 0 A := by
  refine z_ofW (by decide) rfl ?_
  intro pp ee s0 mm below meth cc0 ls C hret hname hl hH hS
  have hl : lv_has ls 2 [(0, .ref o), (1, .int (iI x))] := hl
  obtain ⟨hP, hk, hU, h4, hL, hLk⟩ := hI
  have hk9 := hk
  have hP9 := hP
  obtain ⟨k1, k2, k3, k4, k5, k6, k7, k8, k9, k10, k11⟩ := hk
  obtain ⟨p1, p2, p3, p4, p5⟩ := hP
  have pn0 : 0 ≤ pN P := by show (0 : Int) ≤ ((pB P).length : Int); omega
  have hI : MIv σ P L := ⟨hP9, hk9, hU, h4, hL, hLk⟩
  have hr_1 := hr.1
  have hr_2 := hr.2
  refine z_aload_n C dX3_save_0 hl 0 rfl ?_
  refine z_iload_n C dX3_save_1 hl 1 rfl ?_
  refine z_iconst C dX3_save_2 ?_
  refine z_iconst C dX3_save_3 ?_
  refine m_SiF C hH hS (mm_in hOk σ x 0 1 (⟨by omega, by omega⟩) (⟨by omega, by omega⟩) (⟨by omega, by omega⟩)) (va_cwS 3 C.1.2.2.2.2 (lw_S q2321 q2322 q133 q2323) rfl rfl rfl (by decide +kernel) ⟨Nat.le_of_ble_eq_true rfl, Nat.le_of_ble_eq_true rfl⟩) rfl hl rfl (Nat.le_of_ble_eq_true rfl) dX3_save_4 ⟨Nat.le_refl _, Nat.le_refl _⟩ (fun H locs hH hS => ?_)
  refine z_topi (fun z_4 hz_4 => ?_)
  have q_4 := inZ_or x 0 1
  rw [← hz_4] at q_4
  refine z_ifeq C dX3_save_7 (tgt := 14) (by decide) ⟨by omega, by omega⟩ (fun c_7 => ?_) (fun c_7 => ?_)
  · refine z_iconst C dX3_save_14 ?_
    refine m_puts C hH hS 0 ⟨by decide, by decide⟩ q2185 rfl ⟨rfl, rfl⟩ dX3_save_15 (fun H locs hH hS => ?_)
    refine z_aload_n C dX3_save_18 hl 0 rfl ?_
    refine m_getsZ C hH 0 ⟨by decide, by decide⟩ 1 rfl q2185 rfl dX3_save_19 ?_
    refine z_ifle C dX3_save_22 (tgt := 26) (by decide) ⟨by omega, by omega⟩ (fun c_22 => ?_) (fun c_22 => ?_)
    · exact absurd c_22 (by decide)
    · refine m_vret C hret hH hS dX3_save_25 ?_
      exact ⟨by rw [su_self, if_neg (by omega)], hI.keep rfl rfl rfl, by rw [if_neg (by omega)]; exact hV.fr rfl rfl, frSu Fr.rf rfl⟩
  · refine z_iconst C dX3_save_10 ?_
    refine z_goto C dX3_save_11 (tgt := 15) (by decide) ?_
    refine m_puts C hH hS 0 ⟨by decide, by decide⟩ q2185 rfl ⟨rfl, rfl⟩ dX3_save_15 (fun H locs hH hS => ?_)
    refine z_aload_n C dX3_save_18 hl 0 rfl ?_
    refine m_getsZ C hH 0 ⟨by decide, by decide⟩ 0 rfl q2185 rfl dX3_save_19 ?_
    refine z_ifle C dX3_save_22 (tgt := 26) (by decide) ⟨by omega, by omega⟩ (fun c_22_1 => ?_) (fun c_22_1 => ?_)
    · refine z_aload_n C dX3_save_26 hl 0 rfl ?_
      refine m_geta C hH 1 ⟨by decide, by decide⟩ q2186 rfl dX3_save_27 ?_
      refine z_iconst C dX3_save_30 ?_
      refine z_aload_n C dX3_save_31 hl 0 rfl ?_
      refine m_geta C hH 5 ⟨by decide, by decide⟩ q2190 rfl dX3_save_32 ?_
      refine z_sipush C dX3_save_35 (by decide +kernel) ?_
      refine z_iload_n C dX3_save_38 hl 1 rfl ?_
      refine z_imul C dX3_save_39 ?_
      refine m_SvF C hH hS (mm_copies hOk (su σ 0 0 0) 1 0 5 (828 * x) (⟨by decide, by decide⟩) (⟨by decide, by decide⟩) (by decide) (show 0 ≤ (0 : Int) ∧ (0 : Int) + 828 ≤ (828 : Int) by omega) (show 0 ≤ 828 * x ∧ 828 * x + 828 ≤ (1656 : Int) by omega)) (va_cwS 4 C.1.2.2.2.2 (lw_S q2182 q2183 q133 q2184) rfl rfl rfl (by decide +kernel) ⟨Nat.le_of_ble_eq_true rfl, Nat.le_of_ble_eq_true rfl⟩) rfl hl rfl (Nat.le_of_ble_eq_true rfl) dX3_save_40 ⟨Nat.le_refl _, Nat.le_refl _⟩ (fun H locs hH hS => ?_)
      refine z_aload_n C dX3_save_43 hl 0 rfl ?_
      refine m_geta C hH 6 ⟨by decide, by decide⟩ q2191 rfl dX3_save_44 ?_
      refine z_iload_n C dX3_save_47 hl 1 rfl ?_
      refine z_iconst C dX3_save_48 ?_
      refine m_zast C hOk hH hS 6 ⟨by decide, by decide⟩ (show 0 ≤ x ∧ x < (2 : Int) by omega) (by decide +kernel) dX3_save_49 (fun H locs hH hS => ?_)
      refine m_vret C hret hH hS dX3_save_50 ?_
      refine ⟨by rw [if_pos (by omega)]; rfl, hI.keep rfl rfl rfl, ?_, frSu (frSa (frSu Fr.rf rfl) rfl) rfl⟩
      rw [if_pos (by omega)]
      refine hV.put (by omega) hk9 (fun j a => ?_) (PgAt.congr hk9 hP9 (fun j a b => ?_)) rfl
      · show wr (fun j => σ 1 (0 + (j - 828 * x))) (σ 5) (828 * x) (828 * x + 828) j = _
        rw [wr_out _ _ (by omega)]
      · show wr (fun j => σ 1 (0 + (j - 828 * x))) (σ 5) (828 * x) (828 * x + 828) (828 * x + j) = _
        rw [wr_in _ _ (by omega) (by omega)]; congr 1; omega
    · exact absurd c_22_1 (by decide)
set_option maxHeartbeats 1000000 in
theorem mm_restore {l : Launch} {D : va_G} {dA : Nat → ClassId} {A : Nat → Prop} {o : Nat} {ad : Nat → Nat} (hOk : mOk o ad) (σ : Sg) (x : Int) (P : Pg) (L : List Pg) (V : Int → Option Pg) (hI : MIv σ P L) (hV : SvAt σ V) (hr : zR x) : Met l yX3_restore (ws_ yX3_restore cX3_restore 2 none) (rmL 2 0 0) (MP D dA A o ad [.ref o, .int (iI x)] σ) (MQv D dA A o ad (fun σ' => σ' 0 0 = (if ¬ (0 ≤ x ∧ x ≤ 1) then 1 else if (V x).isSome then 0 else 2) ∧ (if 0 ≤ x ∧ x ≤ 1 then match V x with | some Q => MIv σ' Q [] | none => MIv σ' P L else MIv σ' P L) ∧ SvAt σ' V ∧ Fr [0, 1, 4] σ σ')) 0 0 A := by
  refine z_ofW (by decide) rfl ?_
  intro pp ee s0 mm below meth cc0 ls C hret hname hl hH hS
  have hl : lv_has ls 2 [(0, .ref o), (1, .int (iI x))] := hl
  obtain ⟨hP, hk, hU, h4, hL, hLk⟩ := hI
  have hk9 := hk
  have hP9 := hP
  obtain ⟨k1, k2, k3, k4, k5, k6, k7, k8, k9, k10, k11⟩ := hk
  obtain ⟨p1, p2, p3, p4, p5⟩ := hP
  have pn0 : 0 ≤ pN P := by show (0 : Int) ≤ ((pB P).length : Int); omega
  have hI : MIv σ P L := ⟨hP9, hk9, hU, h4, hL, hLk⟩
  have hr_1 := hr.1
  have hr_2 := hr.2
  have hV2 := hV x
  refine z_aload_n C dX3_restore_0 hl 0 rfl ?_
  refine z_iload_n C dX3_restore_1 hl 1 rfl ?_
  refine z_iconst C dX3_restore_2 ?_
  refine z_iconst C dX3_restore_3 ?_
  refine m_SiF C hH hS (mm_in hOk σ x 0 1 (⟨by omega, by omega⟩) (⟨by omega, by omega⟩) (⟨by omega, by omega⟩)) (va_cwS 3 C.1.2.2.2.2 (lw_S q2321 q2322 q133 q2323) rfl rfl rfl (by decide +kernel) ⟨Nat.le_of_ble_eq_true rfl, Nat.le_of_ble_eq_true rfl⟩) rfl hl rfl (Nat.le_of_ble_eq_true rfl) dX3_restore_4 ⟨Nat.le_refl _, Nat.le_refl _⟩ (fun H locs hH hS => ?_)
  refine z_topi (fun z_4 hz_4 => ?_)
  have q_4 := inZ_or x 0 1
  rw [← hz_4] at q_4
  refine z_ifne C dX3_restore_7 (tgt := 14) (by decide) ⟨by omega, by omega⟩ (fun c_7 => ?_) (fun c_7 => ?_)
  · refine z_aload_n C dX3_restore_14 hl 0 rfl ?_
    refine m_geta C hH 6 ⟨by decide, by decide⟩ q2191 rfl dX3_restore_15 ?_
    have hV3 := hV2 (by omega) (by omega)
    have v6 : 0 ≤ σ 6 x ∧ σ 6 x ≤ 1 := by
      cases hVx : V x with
      | none => rw [hVx] at hV3; dsimp only at hV3; omega
      | some Q => rw [hVx] at hV3; dsimp only at hV3; omega
    refine z_iload_n C dX3_restore_18 hl 1 rfl ?_
    refine m_zald C hOk hH 6 ⟨by decide, by decide⟩ (show 0 ≤ x ∧ x < (2 : Int) by omega) dX3_restore_19 ?_
    refine z_ifeq C dX3_restore_20 (tgt := 27) (by decide) ⟨by omega, by omega⟩ (fun c_20 => ?_) (fun c_20 => ?_)
    · refine z_iconst C dX3_restore_27 ?_
      refine m_puts C hH hS 0 ⟨by decide, by decide⟩ q2185 rfl ⟨rfl, rfl⟩ dX3_restore_28 (fun H locs hH hS => ?_)
      refine z_aload_n C dX3_restore_31 hl 0 rfl ?_
      refine m_getsZ C hH 0 ⟨by decide, by decide⟩ 2 rfl q2185 rfl dX3_restore_32 ?_
      refine z_ifle C dX3_restore_35 (tgt := 39) (by decide) ⟨by omega, by omega⟩ (fun c_35 => ?_) (fun c_35 => ?_)
      · exact absurd c_35 (by decide)
      · refine m_vret C hret hH hS dX3_restore_38 ?_
        first
          | exact ⟨by rw [su_self, if_pos (by omega)], by rw [if_neg (by omega)]; exact hI.keep rfl rfl rfl, hV.fr rfl rfl, frSu Fr.rf rfl⟩
          | (cases hVx : V x with
             | some Q => rw [hVx] at hV3; dsimp only at hV3; omega
             | none => exact ⟨by rw [su_self, if_neg (by omega)]; rfl, by rw [if_pos (by omega)]; exact hI.keep rfl rfl rfl, hV.fr rfl rfl, frSu Fr.rf rfl⟩)
    · refine z_iconst C dX3_restore_23 ?_
      refine z_goto C dX3_restore_24 (tgt := 28) (by decide) ?_
      refine m_puts C hH hS 0 ⟨by decide, by decide⟩ q2185 rfl ⟨rfl, rfl⟩ dX3_restore_28 (fun H locs hH hS => ?_)
      refine z_aload_n C dX3_restore_31 hl 0 rfl ?_
      refine m_getsZ C hH 0 ⟨by decide, by decide⟩ 0 rfl q2185 rfl dX3_restore_32 ?_
      refine z_ifle C dX3_restore_35 (tgt := 39) (by decide) ⟨by omega, by omega⟩ (fun c_35_1 => ?_) (fun c_35_1 => ?_)
      · refine z_aload_n C dX3_restore_39 hl 0 rfl ?_
        refine m_geta C hH 5 ⟨by decide, by decide⟩ q2190 rfl dX3_restore_40 ?_
        refine z_sipush C dX3_restore_43 (by decide +kernel) ?_
        refine z_iload_n C dX3_restore_46 hl 1 rfl ?_
        refine z_imul C dX3_restore_47 ?_
        refine z_aload_n C dX3_restore_48 hl 0 rfl ?_
        refine m_geta C hH 1 ⟨by decide, by decide⟩ q2186 rfl dX3_restore_49 ?_
        refine z_iconst C dX3_restore_52 ?_
        refine m_SvF C hH hS (mm_copies hOk (su σ 0 0 0) 5 (828 * x) 1 0 (⟨by decide, by decide⟩) (⟨by decide, by decide⟩) (by decide) (show 0 ≤ 828 * x ∧ 828 * x + 828 ≤ (1656 : Int) by omega) (show 0 ≤ (0 : Int) ∧ (0 : Int) + 828 ≤ (828 : Int) by omega)) (va_cwS 4 C.1.2.2.2.2 (lw_S q2182 q2183 q133 q2184) rfl rfl rfl (by decide +kernel) ⟨Nat.le_of_ble_eq_true rfl, Nat.le_of_ble_eq_true rfl⟩) rfl hl rfl (Nat.le_of_ble_eq_true rfl) dX3_restore_53 ⟨Nat.le_refl _, Nat.le_refl _⟩ (fun H locs hH hS => ?_)
        refine z_aload_n C dX3_restore_56 hl 0 rfl ?_
        refine z_iconst C dX3_restore_57 ?_
        refine m_puts C hH hS 4 ⟨by decide, by decide⟩ q2189 rfl ⟨rfl, rfl⟩ dX3_restore_58 (fun H locs hH hS => ?_)
        refine m_vret C hret hH hS dX3_restore_61 ?_
        cases hVx : V x with
        | none => rw [hVx] at hV3; dsimp only at hV3; omega
        | some Q =>
          rw [hVx] at hV3
          dsimp only at hV3
          refine ⟨by rw [if_neg (by omega)]; rfl, ?_, hV.fr rfl rfl, frSu (frSa (frSu Fr.rf rfl) rfl) rfl⟩
          rw [if_pos (by omega)]
          refine ⟨PgAt.congr hV3.2.1 hV3.2.2 (fun j a b => ?_), hV3.2.1, (fun i Q h => by cases h), su_self _ _ _ _, by decide, (fun Q h => by cases h)⟩
          show wr (fun j => σ 5 (828 * x + (j - 0))) (σ 1) 0 (0 + 828) j = _
          rw [wr_in _ _ a (by omega)]; congr 1; omega
      · exact absurd c_35_1 (by decide)
  · refine z_iconst C dX3_restore_10 ?_
    refine z_goto C dX3_restore_11 (tgt := 28) (by decide) ?_
    refine m_puts C hH hS 0 ⟨by decide, by decide⟩ q2185 rfl ⟨rfl, rfl⟩ dX3_restore_28 (fun H locs hH hS => ?_)
    refine z_aload_n C dX3_restore_31 hl 0 rfl ?_
    refine m_getsZ C hH 0 ⟨by decide, by decide⟩ 1 rfl q2185 rfl dX3_restore_32 ?_
    refine z_ifle C dX3_restore_35 (tgt := 39) (by decide) ⟨by omega, by omega⟩ (fun c_35_2 => ?_) (fun c_35_2 => ?_)
    · exact absurd c_35_2 (by decide)
    · refine m_vret C hret hH hS dX3_restore_38 ?_
      first
        | exact ⟨by rw [su_self, if_pos (by omega)], by rw [if_neg (by omega)]; exact hI.keep rfl rfl rfl, hV.fr rfl rfl, frSu Fr.rf rfl⟩
        | (cases hVx : V x with
           | some Q => rw [hVx] at hV3; dsimp only at hV3; omega
           | none => exact ⟨by rw [su_self, if_neg (by omega)]; rfl, by rw [if_pos (by omega)]; exact hI.keep rfl rfl rfl, hV.fr rfl rfl, frSu Fr.rf rfl⟩)
set_option maxHeartbeats 1000000 in
theorem mm_output {l : Launch} {D : va_G} {dA : Nat → ClassId} {A : Nat → Prop} {o : Nat} {ad : Nat → Nat} (hOk : mOk o ad) (σ : Sg) (x : Int) (ou : List Int) (hO : OuAt σ ou) (hr : zR x) : Met l yX3_output (ws_ yX3_output cX3_output 2 (some .int)) (rmL 2 0 0) (MP D dA A o ad [.ref o, .int (iI x)] σ) (MQi D dA A o ad (fun r σ' => σ' = su σ 0 0 0 ∧ r = (if 0 ≤ x ∧ x ≤ (ou.length : Int) - 1 then ou.getD x.toNat 0 else -1))) 0 0 A := by
  refine z_ofW (by decide) rfl ?_
  intro pp ee s0 mm below meth cc0 ls C hret hname hl hH hS
  have hl : lv_has ls 2 [(0, .ref o), (1, .int (iI x))] := hl
  have hr_1 := hr.1
  have hr_2 := hr.2
  have hO1 := hO.1
  have hO2 := hO.2.1
  have hO3 := hO.2.2
  refine z_aload_n C dX3_output_0 hl 0 rfl ?_
  refine z_iconst C dX3_output_1 ?_
  refine m_puts C hH hS 0 ⟨by decide, by decide⟩ q2185 rfl ⟨rfl, rfl⟩ dX3_output_2 (fun H locs hH hS => ?_)
  refine z_iload_n C dX3_output_5 hl 1 rfl ?_
  refine z_iconst C dX3_output_6 ?_
  refine z_aload_n C dX3_output_7 hl 0 rfl ?_
  refine m_getsZ C hH 41 ⟨by decide, by decide⟩ ((ou.length : Int)) (hO1) q2226 rfl dX3_output_8 ?_
  refine z_iconst C dX3_output_11 ?_
  refine z_isub C dX3_output_12 ?_
  refine m_SiF C hH hS (mm_in hOk (su σ 0 0 0) x 0 (((ou.length : Int)) - 1) (⟨by omega, by omega⟩) (⟨by omega, by omega⟩) (⟨by omega, by omega⟩)) (va_cwS 3 C.1.2.2.2.2 (lw_S q2321 q2322 q133 q2323) rfl rfl rfl (by decide +kernel) ⟨Nat.le_of_ble_eq_true rfl, Nat.le_of_ble_eq_true rfl⟩) rfl hl rfl (Nat.le_of_ble_eq_true rfl) dX3_output_13 ⟨Nat.le_refl _, Nat.le_refl _⟩ (fun H locs hH hS => ?_)
  refine z_topi (fun z_13 hz_13 => ?_)
  have q_13 := inZ_or x 0 (((ou.length : Int)) - 1)
  rw [← hz_13] at q_13
  refine z_ifeq C dX3_output_16 (tgt := 28) (by decide) ⟨by omega, by omega⟩ (fun c_16 => ?_) (fun c_16 => ?_)
  · refine z_iconst C dX3_output_28 ?_
    refine m_iret C hret hH hS dX3_output_29 ?_
    refine ⟨rfl, ?_⟩
    first
      | (rw [if_pos (by omega)]
         have h9 := hO2 x.toNat (by omega)
         rw [Int.toNat_of_nonneg (by omega)] at h9
         exact h9)
      | (rw [if_neg (by omega)]; done)
  · refine z_aload_n C dX3_output_19 hl 0 rfl ?_
    refine m_geta C hH 40 ⟨by decide, by decide⟩ q2225 rfl dX3_output_20 ?_
    refine z_iload_n C dX3_output_23 hl 1 rfl ?_
    refine m_bald C hOk hH 40 ⟨by decide, by decide⟩ (show 0 ≤ x ∧ x < (600 : Int) by omega) dX3_output_24 ?_
    refine z_goto C dX3_output_25 (tgt := 29) (by decide) ?_
    refine m_iret C hret hH hS dX3_output_29 ?_
    refine ⟨rfl, ?_⟩
    first
      | (rw [if_pos (by omega)]
         have h9 := hO2 x.toNat (by omega)
         rw [Int.toNat_of_nonneg (by omega)] at h9
         exact h9)
      | (rw [if_neg (by omega)]; done)
set_option maxHeartbeats 1000000 in
theorem mm_errorCode {l : Launch} {D : va_G} {dA : Nat → ClassId} {A : Nat → Prop} {o : Nat} {ad : Nat → Nat} (hOk : mOk o ad) (σ : Sg)   : Met l yX3_errorCode (ws_ yX3_errorCode cX3_errorCode 1 (some .int)) (rmL 1 0 0) (MP D dA A o ad [.ref o] σ) (MQi D dA A o ad (fun r σ' => σ' = (su σ 0 0 0) ∧ r = σ 37 0)) 0 0 A := by
  refine z_ofW (by decide) rfl ?_
  intro pp ee s0 mm below meth cc0 ls C hret hname hl hH hS
  have hl : lv_has ls 1 [(0, .ref o)] := hl
  refine z_aload_n C dX3_errorCode_0 hl 0 rfl ?_
  refine z_iconst C dX3_errorCode_1 ?_
  refine m_puts C hH hS 0 ⟨by decide, by decide⟩ q2185 rfl ⟨rfl, rfl⟩ dX3_errorCode_2 (fun H locs hH hS => ?_)
  refine z_aload_n C dX3_errorCode_5 hl 0 rfl ?_
  refine m_getsZ C hH 37 ⟨by decide, by decide⟩ (σ 37 0) rfl q2222 rfl dX3_errorCode_6 ?_
  refine m_iret C hret hH hS dX3_errorCode_9 ?_
  exact ⟨rfl, rfl⟩
set_option maxHeartbeats 1000000 in
theorem mm_errorPosition {l : Launch} {D : va_G} {dA : Nat → ClassId} {A : Nat → Prop} {o : Nat} {ad : Nat → Nat} (hOk : mOk o ad) (σ : Sg)   : Met l yX3_errorPosition (ws_ yX3_errorPosition cX3_errorPosition 1 (some .int)) (rmL 1 0 0) (MP D dA A o ad [.ref o] σ) (MQi D dA A o ad (fun r σ' => σ' = (su σ 0 0 0) ∧ r = σ 38 0)) 0 0 A := by
  refine z_ofW (by decide) rfl ?_
  intro pp ee s0 mm below meth cc0 ls C hret hname hl hH hS
  have hl : lv_has ls 1 [(0, .ref o)] := hl
  refine z_aload_n C dX3_errorPosition_0 hl 0 rfl ?_
  refine z_iconst C dX3_errorPosition_1 ?_
  refine m_puts C hH hS 0 ⟨by decide, by decide⟩ q2185 rfl ⟨rfl, rfl⟩ dX3_errorPosition_2 (fun H locs hH hS => ?_)
  refine z_aload_n C dX3_errorPosition_5 hl 0 rfl ?_
  refine m_getsZ C hH 38 ⟨by decide, by decide⟩ (σ 38 0) rfl q2223 rfl dX3_errorPosition_6 ?_
  refine m_iret C hret hH hS dX3_errorPosition_9 ?_
  exact ⟨rfl, rfl⟩
set_option maxHeartbeats 1000000 in
theorem mm_thrown {l : Launch} {D : va_G} {dA : Nat → ClassId} {A : Nat → Prop} {o : Nat} {ad : Nat → Nat} (hOk : mOk o ad) (σ : Sg)   : Met l yX3_thrown (ws_ yX3_thrown cX3_thrown 1 (some .int)) (rmL 1 0 0) (MP D dA A o ad [.ref o] σ) (MQi D dA A o ad (fun r σ' => σ' = σ ∧ r = σ 0 0)) 0 0 A := by
  refine z_ofW (by decide) rfl ?_
  intro pp ee s0 mm below meth cc0 ls C hret hname hl hH hS
  have hl : lv_has ls 1 [(0, .ref o)] := hl
  refine z_aload_n C dX3_thrown_0 hl 0 rfl ?_
  refine m_getsZ C hH 0 ⟨by decide, by decide⟩ (σ 0 0) rfl q2185 rfl dX3_thrown_1 ?_
  refine m_iret C hret hH hS dX3_thrown_4 ?_
  exact ⟨rfl, rfl⟩
