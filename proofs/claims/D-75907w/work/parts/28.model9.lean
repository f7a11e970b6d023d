/-! the reference's methods, 9 (written by gen/model9.py) -/
set_option maxRecDepth 100000
set_option maxHeartbeats 1000000 in
theorem mm_movesLine {l : Launch} {D : va_G} {dA : Nat → ClassId} {A : Nat → Prop} {o : Nat} {ad : Nat → Nat} (hOk : mOk o ad) (σ : Sg) (a : Int) (b : Int) (ha : 0 ≤ a ∧ a < 20) (hb : 0 ≤ b ∧ b < 20) : Met l yX3_movesLine (ws_ yX3_movesLine cX3_movesLine 4 none) (rmL 2 0 0) (MP D dA A o ad [.ref o, .int (iI a), .int (iI b)] σ) (MQv D dA A o ad (fun σ' => σ' = (sa σ 1 (wr (fun j => σ 1 (28 + 40 * a + (j - (28 + 40 * b)))) (σ 1) (28 + 40 * b) (28 + 40 * b + 40))))) 0 0 A := by
  refine z_ofW (by decide) rfl ?_
  intro pp ee s0 mm below meth cc0 ls C hret hname hl hH hS
  have hl : lv_has ls 4 [(0, .ref o), (1, .int (iI a)), (2, .int (iI b))] := hl
  refine z_iconst C dX3_movesLine_0 ?_
  refine z_istore_n C [(3, .int (iI 0)), (0, .ref o), (1, .int (iI a)), (2, .int (iI b))] dX3_movesLine_1 hl (by decide) rfl (fun ls hl => ?_)
  have J_2 : ∀ (fu : Nat) (k : Int) (s1 : Sg), (40 - k).toNat < fu → (0 ≤ k ∧ k ≤ 40) → (s1 = sa σ 1 (wr (fun j => σ 1 (28 + 40 * a + (j - (28 + 40 * b)))) (σ 1) (28 + 40 * b) (28 + 40 * b + k))) → ∀ (H : Heap) (locs : List Loc) (ls : Array Slot), MH D dA A o ad s1 H → va_S A s0.heap H locs → lv_has ls 4 [(3, .int (iI k)), (0, .ref o), (1, .int (iI a)), (2, .int (iI b))] → W pp l ee (rmL 2 0 0) s0 mm ([.ref o, .int (iI a), .int (iI b)] : List Value).toArray below meth cc0 H locs 0 0 (MQ below (MQv D dA A o ad (fun σ' => σ' = (sa σ 1 (wr (fun j => σ 1 (28 + 40 * a + (j - (28 + 40 * b)))) (σ 1) (28 + 40 * b) (28 + 40 * b + 40))))) ([.ref o, .int (iI a), .int (iI b)] : List Value).toArray s0 0 0 A) (F0 mm 2 ls []) := by
    intro fu
    induction fu with
    | zero => intro k s1 hn; exact absurd hn (Nat.not_lt_zero _)
    | succ fu ih_2 =>
      intro k s1 hn hk0 hs H locs ls hH hS hl
      refine z_iload_n C dX3_movesLine_2 hl 0 rfl ?_
      refine z_bipush C dX3_movesLine_3 (by decide +kernel) ?_
      refine z_icmpge C dX3_movesLine_5 (tgt := 34) (by decide) ⟨⟨by omega, by omega⟩, ⟨by omega, by omega⟩⟩ (fun c_5 => ?_) (fun c_5 => ?_)
      · refine m_vret C hret hH hS dX3_movesLine_34 ?_
        rw [hs, show k = 40 by omega]
      · refine z_aload_n C dX3_movesLine_8 hl 1 rfl ?_
        refine m_geta C hH 1 ⟨by decide, by decide⟩ q2186 rfl dX3_movesLine_9 ?_
        refine z_iload_n C dX3_movesLine_12 hl 3 rfl ?_
        refine z_iload_n C dX3_movesLine_13 hl 0 rfl ?_
        refine m_SiF C hH hS (mm_dotAt hOk s1 b k) (va_cwS 2 C.1.2.2.2.2 (lw_S q2332 q2333 q133 q2334) rfl rfl rfl (by decide +kernel) ⟨Nat.le_of_ble_eq_true rfl, Nat.le_of_ble_eq_true rfl⟩) rfl hl rfl (Nat.le_of_ble_eq_true rfl) dX3_movesLine_14 ⟨Nat.le_refl _, Nat.le_refl _⟩ (fun H locs hH hS => ?_)
        refine z_aload_n C dX3_movesLine_17 hl 1 rfl ?_
        refine m_geta C hH 1 ⟨by decide, by decide⟩ q2186 rfl dX3_movesLine_18 ?_
        refine z_iload_n C dX3_movesLine_21 hl 2 rfl ?_
        refine z_iload_n C dX3_movesLine_22 hl 0 rfl ?_
        refine m_SiF C hH hS (mm_dotAt hOk s1 a k) (va_cwS 2 C.1.2.2.2.2 (lw_S q2332 q2333 q133 q2334) rfl rfl rfl (by decide +kernel) ⟨Nat.le_of_ble_eq_true rfl, Nat.le_of_ble_eq_true rfl⟩) rfl hl rfl (Nat.le_of_ble_eq_true rfl) dX3_movesLine_23 ⟨Nat.le_refl _, Nat.le_refl _⟩ (fun H locs hH hS => ?_)
        refine m_ialdZ C hOk hH 1 ⟨by decide, by decide⟩ (28 + 40 * a + k) (σ 1 (28 + 40 * a + k)) (by rw [hs, sa_k, wr_out _ _ (by omega)]) (show 0 ≤ (28 + 40 * a + k) ∧ (28 + 40 * a + k) < (828 : Int) by omega) dX3_movesLine_26 ?_
        refine m_iast C hOk hH hS 1 ⟨by decide, by decide⟩ (show 0 ≤ (28 + 40 * b + k) ∧ (28 + 40 * b + k) < (828 : Int) by omega) dX3_movesLine_27 (fun H locs hH hS => ?_)
        refine z_iinc C [(3, .int (iI (k + 1))), (0, .ref o), (1, .int (iI a)), (2, .int (iI b))] dX3_movesLine_28 hl 0 rfl (by decide) rfl (fun ls hl => ?_)
        refine z_goto C dX3_movesLine_31 (tgt := 2) (by decide) ?_
        exact ih_2 ((k + 1)) ((su s1 1 (28 + 40 * b + k) (σ 1 (28 + 40 * a + k)))) (by omega) (by omega) (by rw [hs, ← Int.add_assoc, ← su_wr _ _ _ _ (show 28 + 40 * b ≤ 28 + 40 * b + k by omega)]; rw [show 28 + 40 * a + (28 + 40 * b + k - (28 + 40 * b)) = 28 + 40 * a + k by omega]) _ _ _ hH hS (lv_sub hl [0, 1, 2, 3] rfl)
  exact J_2 _ 0 σ (Nat.lt_succ_self _) (by omega) (by rw [Int.add_zero, wr_0, sa_id]) _ _ _ hH hS (lv_sub hl [0, 1, 2, 3] rfl)
set_option maxHeartbeats 1000000 in
theorem mm_invert {l : Launch} {D : va_G} {dA : Nat → ClassId} {A : Nat → Prop} {o : Nat} {ad : Nat → Nat} (hOk : mOk o ad) (σ : Sg) (ln : Int) (P : Pg) (L : List Pg) (hI : MIv σ P L) (hr : zR ln) : Met l yX3_invert (ws_ yX3_invert cX3_invert 3 (some .int)) (rmL 4 0 0) (MP D dA A o ad [.ref o, .int (iI ln)] σ) (MQi D dA A o ad (fun r σ' => σ' 0 0 = (if 0 ≤ ln ∧ ln ≤ pN P - 1 then 0 else 1) ∧ (σ' 0 0 = 0 → r = bkZ (eLn P ln (invF P ln)) ln ∧ MIv σ' (eLn P ln (invF P ln)) (pkL L P)) ∧ (σ' 0 0 ≠ 0 → MIv σ' P L) ∧ Fr [0, 1, 3, 4, 7, 8, 9, 10, 11, 12, 13, 14, 15, 16, 17, 18, 19] σ σ')) 0 0 A := by
  refine z_ofW (by decide) rfl ?_
  intro pp ee s0 mm below meth cc0 ls C hret hname hl hH hS
  have hl : lv_has ls 3 [(0, .ref o), (1, .int (iI ln))] := hl
  obtain ⟨hP, hk, hU, h4, hL, hLk⟩ := hI
  have hk9 := hk
  have hP9 := hP
  obtain ⟨k1, k2, k3, k4, k5, k6, k7, k8, k9, k10, k11⟩ := hk
  obtain ⟨p1, p2, p3, p4, p5⟩ := hP
  have pn0 : 0 ≤ pN P := by show (0 : Int) ≤ ((pB P).length : Int); omega
  have hI : MIv σ P L := ⟨hP9, hk9, hU, h4, hL, hLk⟩
  have hr_1 := hr.1
  have hr_2 := hr.2
  refine z_aload_n C dX3_invert_0 hl 0 rfl ?_
  refine z_aload_n C dX3_invert_1 hl 0 rfl ?_
  refine z_iload_n C dX3_invert_2 hl 1 rfl ?_
  refine m_ViF C hH hS (mm_isLine hOk σ ln P (hP9) (hk9) (⟨by omega, by omega⟩)) (cwV 1 C.1.2.2.2.2 (lw_V q2413 q2415 qs63 q133 q2416) rfl rfl rfl (by decide +kernel) ⟨Nat.le_of_ble_eq_true rfl, Nat.le_of_ble_eq_true rfl⟩) rfl hl rfl (Nat.le_of_ble_eq_true rfl) dX3_invert_3 ⟨Nat.le_refl _, Nat.le_refl _⟩ (fun H locs hH hS => ?_)
  refine z_topi (fun z_3 hz_3 => ?_)
  have q_3 := inZ_or ln 0 (pN P - 1)
  rw [← hz_3] at q_3
  refine z_ifeq C dX3_invert_6 (tgt := 13) (by decide) ⟨by omega, by omega⟩ (fun c_6 => ?_) (fun c_6 => ?_)
  · refine z_iconst C dX3_invert_13 ?_
    refine m_puts C hH hS 0 ⟨by decide, by decide⟩ q2185 rfl ⟨rfl, rfl⟩ dX3_invert_14 (fun H locs hH hS => ?_)
    refine z_aload_n C dX3_invert_17 hl 0 rfl ?_
    refine m_getsZ C hH 0 ⟨by decide, by decide⟩ 1 rfl q2185 rfl dX3_invert_18 ?_
    refine z_ifle C dX3_invert_21 (tgt := 26) (by decide) ⟨by omega, by omega⟩ (fun c_21 => ?_) (fun c_21 => ?_)
    · exact absurd c_21 (by decide)
    · refine z_iconst C dX3_invert_24 ?_
      refine m_iret C hret hH hS dX3_invert_25 ?_
      refine ⟨by rw [show (su σ 0 0 1) 0 0 = 1 from (su_self _ _ _ _)]; first | (rw [if_pos (by omega)]; done) | (rw [if_neg (by omega)]; done) | (rw [if_neg (by omega), if_pos (by omega)]; done) | (rw [if_neg (by omega), if_neg (by omega)]; done), fun hth => absurd ((show (su σ 0 0 1) 0 0 = 1 from (su_self _ _ _ _)).symm.trans hth) (by decide), fun _ => hI.keep rfl rfl rfl, frSu Fr.rf rfl⟩
  · refine z_iconst C dX3_invert_9 ?_
    refine z_goto C dX3_invert_10 (tgt := 14) (by decide) ?_
    refine m_puts C hH hS 0 ⟨by decide, by decide⟩ q2185 rfl ⟨rfl, rfl⟩ dX3_invert_14 (fun H locs hH hS => ?_)
    refine z_aload_n C dX3_invert_17 hl 0 rfl ?_
    refine m_getsZ C hH 0 ⟨by decide, by decide⟩ 0 rfl q2185 rfl dX3_invert_18 ?_
    refine z_ifle C dX3_invert_21 (tgt := 26) (by decide) ⟨by omega, by omega⟩ (fun c_21_1 => ?_) (fun c_21_1 => ?_)
    · refine z_aload_n C dX3_invert_26 hl 0 rfl ?_
      refine m_Vv C hH hS (mm_keeps hOk (su σ 0 0 0) P L (hI.keep rfl rfl rfl)) (cwV 0 C.1.2.2.2.2 (lw_V q2491 q2493 qs73 q133 q2494) rfl rfl rfl (by decide +kernel) ⟨Nat.le_of_ble_eq_true rfl, Nat.le_of_ble_eq_true rfl⟩) rfl hl rfl (Nat.le_of_ble_eq_true rfl) dX3_invert_27 ⟨Nat.le_refl _, Nat.le_refl _⟩ (fun s_27 H locs hp_27 hH hS => ?_)
      obtain ⟨hf27, hu27, h427⟩ := hp_27
      have e1 : s_27 1 = σ 1 := by rw [hf27.at 1 rfl]; rfl
      have hln : ∀ k, 0 ≤ k → k < pW P → s_27 1 (28 + 40 * ln + k) = lnZ P ln k := fun k a b => by rw [e1]; exact p5 ln k (by omega) (by omega) a b
      refine z_iconst C dX3_invert_30 ?_
      refine z_istore_n C [(2, .int (iI 0)), (0, .ref o), (1, .int (iI ln))] dX3_invert_31 hl (by decide) rfl (fun ls hl => ?_)
      have J_32 : ∀ (fu : Nat) (k : Int) (s1 : Sg), (pW P - k).toNat < fu → (0 ≤ k ∧ k ≤ pW P) → (s1 = sa s_27 1 (wr (fun j => 1 - s_27 1 j) (s_27 1) (28 + 40 * ln) (28 + 40 * ln + k))) → ∀ (H : Heap) (locs : List Loc) (ls : Array Slot), MH D dA A o ad s1 H → va_S A s0.heap H locs → lv_has ls 3 [(2, .int (iI k)), (0, .ref o), (1, .int (iI ln))] → W pp l ee (rmL 4 0 0) s0 mm ([.ref o, .int (iI ln)] : List Value).toArray below meth cc0 H locs 0 0 (MQ below (MQi D dA A o ad (fun r σ' => σ' 0 0 = (if 0 ≤ ln ∧ ln ≤ pN P - 1 then 0 else 1) ∧ (σ' 0 0 = 0 → r = bkZ (eLn P ln (invF P ln)) ln ∧ MIv σ' (eLn P ln (invF P ln)) (pkL L P)) ∧ (σ' 0 0 ≠ 0 → MIv σ' P L) ∧ Fr [0, 1, 3, 4, 7, 8, 9, 10, 11, 12, 13, 14, 15, 16, 17, 18, 19] σ σ')) ([.ref o, .int (iI ln)] : List Value).toArray s0 0 0 A) (F0 mm 32 ls []) := by
        intro fu
        induction fu with
        | zero => intro k s1 hn; exact absurd hn (Nat.not_lt_zero _)
        | succ fu ih_32 =>
          intro k s1 hn hk0 hs H locs ls hH hS hl
          refine z_iload_n C dX3_invert_32 hl 0 rfl ?_
          refine z_aload_n C dX3_invert_33 hl 1 rfl ?_
          refine m_geta C hH 1 ⟨by decide, by decide⟩ q2186 rfl dX3_invert_34 ?_
          refine z_iconst C dX3_invert_37 ?_
          refine m_ialdZ C hOk hH 1 ⟨by decide, by decide⟩ 0 (pW P) (by rw [hs, sa_k, wr_out _ _ (by omega), e1]; exact p1) (show 0 ≤ 0 ∧ 0 < (828 : Int) by omega) dX3_invert_38 ?_
          refine z_icmpge C dX3_invert_39 (tgt := 70) (by decide) ⟨⟨by omega, by omega⟩, ⟨by omega, by omega⟩⟩ (fun c_39 => ?_) (fun c_39 => ?_)
          · have hPn : PgAt (s1 1) (eLn P ln (invF P ln)) := by
              rw [hs, sa_k]
              refine PgAt.ln hk9 hP9 (by omega) (by omega) (fun j a => by rw [wr_out _ _ (by omega), e1]) (fun k a b => ?_)
              rw [wr_in _ _ (by omega) (by omega)]
              rw [hln k a b]
              have v := lnZ_01 P ln k
              unfold invF; simp; split <;> omega
            have hPo := hk9.ln (P := P) ln (invF P ln)
            refine z_aload_n C dX3_invert_70 hl 1 rfl ?_
            refine z_iload_n C dX3_invert_71 hl 2 rfl ?_
            refine m_ViF C hH hS (mm_blacks hOk s1 ln ((eLn P ln (invF P ln))) (hPn) (hPo) (by show 0 ≤ ln ∧ ln < (((pB P).set _ _).length : Int); rw [List.length_set]; have : pN P = ((pB P).length : Int) := rfl; omega)) (cwV 1 C.1.2.2.2.2 (lw_V q2328 q2330 qs45 q133 q2331) rfl rfl rfl (by decide +kernel) ⟨Nat.le_of_ble_eq_true rfl, Nat.le_of_ble_eq_true rfl⟩) rfl hl rfl (Nat.le_of_ble_eq_true rfl) dX3_invert_72 ⟨Nat.le_refl _, Nat.le_refl _⟩ (fun H locs hH hS => ?_)
            refine m_iret C hret hH hS dX3_invert_75 ?_
            refine ⟨by rw [hs, show sa s_27 1 _ 0 0 = 0 from (by show s_27 0 0 = 0; rw [hf27.at 0 rfl]; exact su_self _ _ _ _)]; first | (rw [if_pos (by omega)]; done) | (rw [if_neg (by omega)]; done), fun _ => ⟨rfl, ?_⟩, fun hth => absurd (by rw [hs]; exact (by show s_27 0 0 = 0; rw [hf27.at 0 rfl]; exact su_self _ _ _ _)) hth, by rw [hs]; exact frSa (((frSu Fr.rf rfl)).th hf27 rfl) rfl⟩
            exact ⟨hPn, hPo, by rw [hs]; exact hu27, by rw [hs]; exact h427, pkL_len L P hL, pkL_ok hLk hk9⟩
          · have v1 := lnZ_01 P ln k
            refine z_aload_n C dX3_invert_42 hl 1 rfl ?_
            refine m_geta C hH 1 ⟨by decide, by decide⟩ q2186 rfl dX3_invert_43 ?_
            refine z_iload_n C dX3_invert_46 hl 2 rfl ?_
            refine z_iload_n C dX3_invert_47 hl 0 rfl ?_
            refine m_SiF C hH hS (mm_dotAt hOk s1 ln k) (va_cwS 2 C.1.2.2.2.2 (lw_S q2332 q2333 q133 q2334) rfl rfl rfl (by decide +kernel) ⟨Nat.le_of_ble_eq_true rfl, Nat.le_of_ble_eq_true rfl⟩) rfl hl rfl (Nat.le_of_ble_eq_true rfl) dX3_invert_48 ⟨Nat.le_refl _, Nat.le_refl _⟩ (fun H locs hH hS => ?_)
            refine z_iconst C dX3_invert_51 ?_
            refine z_aload_n C dX3_invert_52 hl 1 rfl ?_
            refine m_geta C hH 1 ⟨by decide, by decide⟩ q2186 rfl dX3_invert_53 ?_
            refine z_iload_n C dX3_invert_56 hl 2 rfl ?_
            refine z_iload_n C dX3_invert_57 hl 0 rfl ?_
            refine m_SiF C hH hS (mm_dotAt hOk s1 ln k) (va_cwS 2 C.1.2.2.2.2 (lw_S q2332 q2333 q133 q2334) rfl rfl rfl (by decide +kernel) ⟨Nat.le_of_ble_eq_true rfl, Nat.le_of_ble_eq_true rfl⟩) rfl hl rfl (Nat.le_of_ble_eq_true rfl) dX3_invert_58 ⟨Nat.le_refl _, Nat.le_refl _⟩ (fun H locs hH hS => ?_)
            refine m_ialdZ C hOk hH 1 ⟨by decide, by decide⟩ (28 + 40 * ln + k) (lnZ P ln k) (by rw [hs, sa_k, wr_out _ _ (by omega)]; exact hln k hk0.1 (by omega)) (show 0 ≤ (28 + 40 * ln + k) ∧ (28 + 40 * ln + k) < (828 : Int) by omega) dX3_invert_61 ?_
            refine z_isub C dX3_invert_62 ?_
            refine m_iast C hOk hH hS 1 ⟨by decide, by decide⟩ (show 0 ≤ (28 + 40 * ln + k) ∧ (28 + 40 * ln + k) < (828 : Int) by omega) dX3_invert_63 (fun H locs hH hS => ?_)
            refine z_iinc C [(2, .int (iI (k + 1))), (0, .ref o), (1, .int (iI ln))] dX3_invert_64 hl 0 rfl (by decide) rfl (fun ls hl => ?_)
            refine z_goto C dX3_invert_67 (tgt := 32) (by decide) ?_
            exact ih_32 ((k + 1)) ((su s1 1 (28 + 40 * ln + k) (1 - (lnZ P ln k)))) (by omega) (by omega) (by rw [hs, ← Int.add_assoc, ← su_wr _ _ _ _ (show 28 + 40 * ln ≤ 28 + 40 * ln + k by omega), hln k hk0.1 (by omega)]) _ _ _ hH hS (lv_sub hl [0, 1, 2] rfl)
      exact J_32 _ 0 s_27 (Nat.lt_succ_self _) (by omega) (by rw [Int.add_zero, wr_0, sa_id]) _ _ _ hH hS (lv_sub hl [0, 1, 2] rfl)
    · exact absurd c_21_1 (by decide)
set_option maxHeartbeats 1000000 in
theorem mm_shift {l : Launch} {D : va_G} {dA : Nat → ClassId} {A : Nat → Prop} {o : Nat} {ad : Nat → Nat} (hOk : mOk o ad) (σ : Sg) (ln : Int) (x : Int) (P : Pg) (L : List Pg) (hI : MIv σ P L) (hr : zR ln) (hr2 : zR x) : Met l yX3_shift (ws_ yX3_shift cX3_shift 4 (some .int)) (rmL 5 0 0) (MP D dA A o ad [.ref o, .int (iI ln), .int (iI x)] σ) (MQi D dA A o ad (fun r σ' => σ' 0 0 = (if ¬ (0 ≤ ln ∧ ln ≤ pN P - 1) then 1 else if -40 ≤ x ∧ x ≤ 40 then 0 else 2) ∧ (σ' 0 0 = 0 → r = bkZ (eLn P ln (shfF P ln x)) ln ∧ MIv σ' (eLn P ln (shfF P ln x)) (pkL L P)) ∧ (σ' 0 0 ≠ 0 → MIv σ' P L) ∧ Fr [0, 1, 3, 4, 7, 8, 9, 10, 11, 12, 13, 14, 15, 16, 17, 18, 19] σ σ')) 0 0 A := by
  refine z_ofW (by decide) rfl ?_
  intro pp ee s0 mm below meth cc0 ls C hret hname hl hH hS
  have hl : lv_has ls 4 [(0, .ref o), (1, .int (iI ln)), (2, .int (iI x))] := hl
  obtain ⟨hP, hk, hU, h4, hL, hLk⟩ := hI
  have hk9 := hk
  have hP9 := hP
  obtain ⟨k1, k2, k3, k4, k5, k6, k7, k8, k9, k10, k11⟩ := hk
  obtain ⟨p1, p2, p3, p4, p5⟩ := hP
  have pn0 : 0 ≤ pN P := by show (0 : Int) ≤ ((pB P).length : Int); omega
  have hI : MIv σ P L := ⟨hP9, hk9, hU, h4, hL, hLk⟩
  have hr_1 := hr.1
  have hr_2 := hr.2
  have hr2_1 := hr2.1
  have hr2_2 := hr2.2
  refine z_aload_n C dX3_shift_0 hl 0 rfl ?_
  refine z_aload_n C dX3_shift_1 hl 0 rfl ?_
  refine z_iload_n C dX3_shift_2 hl 1 rfl ?_
  refine m_ViF C hH hS (mm_isLine hOk σ ln P (hP9) (hk9) (⟨by omega, by omega⟩)) (cwV 1 C.1.2.2.2.2 (lw_V q2413 q2415 qs63 q133 q2416) rfl rfl rfl (by decide +kernel) ⟨Nat.le_of_ble_eq_true rfl, Nat.le_of_ble_eq_true rfl⟩) rfl hl rfl (Nat.le_of_ble_eq_true rfl) dX3_shift_3 ⟨Nat.le_refl _, Nat.le_refl _⟩ (fun H locs hH hS => ?_)
  refine z_topi (fun z_3 hz_3 => ?_)
  have q_3 := inZ_or ln 0 (pN P - 1)
  rw [← hz_3] at q_3
  refine z_ifne C dX3_shift_6 (tgt := 13) (by decide) ⟨by omega, by omega⟩ (fun c_6 => ?_) (fun c_6 => ?_)
  · refine z_iload_n C dX3_shift_13 hl 2 rfl ?_
    refine z_bipush C dX3_shift_14 (by decide +kernel) ?_
    refine z_bipush C dX3_shift_16 (by decide +kernel) ?_
    refine m_SiF C hH hS (mm_in hOk σ x ((-40)) 40 (⟨by omega, by omega⟩) (⟨by omega, by omega⟩) (⟨by omega, by omega⟩)) (va_cwS 3 C.1.2.2.2.2 (lw_S q2321 q2322 q133 q2323) rfl rfl rfl (by decide +kernel) ⟨Nat.le_of_ble_eq_true rfl, Nat.le_of_ble_eq_true rfl⟩) rfl hl rfl (Nat.le_of_ble_eq_true rfl) dX3_shift_18 ⟨Nat.le_refl _, Nat.le_refl _⟩ (fun H locs hH hS => ?_)
    refine z_topi (fun z_18 hz_18 => ?_)
    have q_18 := inZ_or x ((-40)) 40
    rw [← hz_18] at q_18
    refine z_ifeq C dX3_shift_21 (tgt := 28) (by decide) ⟨by omega, by omega⟩ (fun c_21 => ?_) (fun c_21 => ?_)
    · refine z_iconst C dX3_shift_28 ?_
      refine m_puts C hH hS 0 ⟨by decide, by decide⟩ q2185 rfl ⟨rfl, rfl⟩ dX3_shift_29 (fun H locs hH hS => ?_)
      refine z_aload_n C dX3_shift_32 hl 0 rfl ?_
      refine m_getsZ C hH 0 ⟨by decide, by decide⟩ 2 rfl q2185 rfl dX3_shift_33 ?_
      refine z_ifle C dX3_shift_36 (tgt := 41) (by decide) ⟨by omega, by omega⟩ (fun c_36 => ?_) (fun c_36 => ?_)
      · exact absurd c_36 (by decide)
      · refine z_iconst C dX3_shift_39 ?_
        refine m_iret C hret hH hS dX3_shift_40 ?_
        refine ⟨by rw [show (su σ 0 0 2) 0 0 = 2 from (su_self _ _ _ _)]; first | (rw [if_pos (by omega)]; done) | (rw [if_neg (by omega)]; done) | (rw [if_neg (by omega), if_pos (by omega)]; done) | (rw [if_neg (by omega), if_neg (by omega)]; done), fun hth => absurd ((show (su σ 0 0 2) 0 0 = 2 from (su_self _ _ _ _)).symm.trans hth) (by decide), fun _ => hI.keep rfl rfl rfl, frSu Fr.rf rfl⟩
    · refine z_iconst C dX3_shift_24 ?_
      refine z_goto C dX3_shift_25 (tgt := 29) (by decide) ?_
      refine m_puts C hH hS 0 ⟨by decide, by decide⟩ q2185 rfl ⟨rfl, rfl⟩ dX3_shift_29 (fun H locs hH hS => ?_)
      refine z_aload_n C dX3_shift_32 hl 0 rfl ?_
      refine m_getsZ C hH 0 ⟨by decide, by decide⟩ 0 rfl q2185 rfl dX3_shift_33 ?_
      refine z_ifle C dX3_shift_36 (tgt := 41) (by decide) ⟨by omega, by omega⟩ (fun c_36_1 => ?_) (fun c_36_1 => ?_)
      · refine z_aload_n C dX3_shift_41 hl 0 rfl ?_
        refine m_Vv C hH hS (mm_keeps hOk (su σ 0 0 0) P L (hI.keep rfl rfl rfl)) (cwV 0 C.1.2.2.2.2 (lw_V q2491 q2493 qs73 q133 q2494) rfl rfl rfl (by decide +kernel) ⟨Nat.le_of_ble_eq_true rfl, Nat.le_of_ble_eq_true rfl⟩) rfl hl rfl (Nat.le_of_ble_eq_true rfl) dX3_shift_42 ⟨Nat.le_refl _, Nat.le_refl _⟩ (fun s_42 H locs hp_42 hH hS => ?_)
        obtain ⟨hf42, hu42, h442⟩ := hp_42
        have e1 : s_42 1 = σ 1 := by rw [hf42.at 1 rfl]; rfl
        refine z_aload_n C dX3_shift_45 hl 0 rfl ?_
        refine z_iload_n C dX3_shift_46 hl 1 rfl ?_
        refine m_Vv C hH hS (mm_laysLine hOk s_42 ln P (by rw [e1]; exact hP9) (hk9) (by omega)) (cwV 1 C.1.2.2.2.2 (lw_V q2351 q2353 qs50 q133 q2354) rfl rfl rfl (by decide +kernel) ⟨Nat.le_of_ble_eq_true rfl, Nat.le_of_ble_eq_true rfl⟩) rfl hl rfl (Nat.le_of_ble_eq_true rfl) dX3_shift_47 ⟨Nat.le_refl _, Nat.le_refl _⟩ (fun s_47 H locs hp_47 hH hS => ?_)
        obtain ⟨h947, hu47, hl47, hf47⟩ := hp_47
        have e2 : s_47 1 = σ 1 := by rw [hf47.at 1 rfl]; exact e1
        refine z_iconst C dX3_shift_50 ?_
        refine z_istore_n C [(3, .int (iI 0)), (0, .ref o), (1, .int (iI ln)), (2, .int (iI x))] dX3_shift_51 hl (by decide) rfl (fun ls hl => ?_)
        have J_52 : ∀ (fu : Nat) (k : Int) (s1 : Sg), (pW P - k).toNat < fu → (0 ≤ k ∧ k ≤ pW P) → (s1 = sa s_47 1 (wr (fun j => if 0 ≤ j - (28 + 40 * ln) - x ∧ j - (28 + 40 * ln) - x ≤ pW P - 1 then lnZ P ln (j - (28 + 40 * ln) - x) else 0) (s_47 1) (28 + 40 * ln) (28 + 40 * ln + k))) → ∀ (H : Heap) (locs : List Loc) (ls : Array Slot), MH D dA A o ad s1 H → va_S A s0.heap H locs → lv_has ls 4 [(3, .int (iI k)), (0, .ref o), (1, .int (iI ln)), (2, .int (iI x))] → W pp l ee (rmL 5 0 0) s0 mm ([.ref o, .int (iI ln), .int (iI x)] : List Value).toArray below meth cc0 H locs 0 0 (MQ below (MQi D dA A o ad (fun r σ' => σ' 0 0 = (if ¬ (0 ≤ ln ∧ ln ≤ pN P - 1) then 1 else if -40 ≤ x ∧ x ≤ 40 then 0 else 2) ∧ (σ' 0 0 = 0 → r = bkZ (eLn P ln (shfF P ln x)) ln ∧ MIv σ' (eLn P ln (shfF P ln x)) (pkL L P)) ∧ (σ' 0 0 ≠ 0 → MIv σ' P L) ∧ Fr [0, 1, 3, 4, 7, 8, 9, 10, 11, 12, 13, 14, 15, 16, 17, 18, 19] σ σ')) ([.ref o, .int (iI ln), .int (iI x)] : List Value).toArray s0 0 0 A) (F0 mm 52 ls []) := by
          intro fu
          induction fu with
          | zero => intro k s1 hn; exact absurd hn (Nat.not_lt_zero _)
          | succ fu ih_52 =>
            intro k s1 hn hk0 hs H locs ls hH hS hl
            refine z_iload_n C dX3_shift_52 hl 0 rfl ?_
            refine z_aload_n C dX3_shift_53 hl 1 rfl ?_
            refine m_getsZ C hH 9 ⟨by decide, by decide⟩ (pW P) (by rw [hs]; exact h947) q2194 rfl dX3_shift_54 ?_
            refine z_icmpge C dX3_shift_57 (tgt := 104) (by decide) ⟨⟨by omega, by omega⟩, ⟨by omega, by omega⟩⟩ (fun c_57 => ?_) (fun c_57 => ?_)
            · have hPn : PgAt (s1 1) (eLn P ln (shfF P ln x)) := by
                rw [hs, sa_k]
                refine PgAt.ln hk9 hP9 (by omega) (by omega) (fun j a => by rw [wr_out _ _ (by omega), e2]) (fun k a b => ?_)
                rw [wr_in _ _ (by omega) (by omega)]
                have v := lnZ_01 P ln (k - x)
                rw [show 28 + 40 * ln + k - (28 + 40 * ln) - x = k - x by omega]
                unfold shfF; simp; split <;> split <;> omega
              have hPo := hk9.ln (P := P) ln (shfF P ln x)
              refine z_aload_n C dX3_shift_104 hl 1 rfl ?_
              refine z_iload_n C dX3_shift_105 hl 2 rfl ?_
              refine m_ViF C hH hS (mm_blacks hOk s1 ln ((eLn P ln (shfF P ln x))) (hPn) (hPo) (by show 0 ≤ ln ∧ ln < (((pB P).set _ _).length : Int); rw [List.length_set]; have : pN P = ((pB P).length : Int) := rfl; omega)) (cwV 1 C.1.2.2.2.2 (lw_V q2328 q2330 qs45 q133 q2331) rfl rfl rfl (by decide +kernel) ⟨Nat.le_of_ble_eq_true rfl, Nat.le_of_ble_eq_true rfl⟩) rfl hl rfl (Nat.le_of_ble_eq_true rfl) dX3_shift_106 ⟨Nat.le_refl _, Nat.le_refl _⟩ (fun H locs hH hS => ?_)
              refine m_iret C hret hH hS dX3_shift_109 ?_
              refine ⟨by rw [hs, show sa s_47 1 _ 0 0 = 0 from (by show s_47 0 0 = 0; rw [hf47.at 0 rfl, hf42.at 0 rfl]; exact su_self _ _ _ _)]; first | (rw [if_pos (by omega)]; done) | (rw [if_neg (by omega)]; done) | (rw [if_neg (by omega), if_pos (by omega)]; done) | (rw [if_neg (by omega), if_neg (by omega)]; done), fun _ => ⟨rfl, ?_⟩, fun hth => absurd (by rw [hs]; exact (by show s_47 0 0 = 0; rw [hf47.at 0 rfl, hf42.at 0 rfl]; exact su_self _ _ _ _)) hth, by rw [hs]; exact frSa ((((frSu Fr.rf rfl)).th hf42 rfl).th hf47 rfl) rfl⟩
              exact ⟨hPn, hPo, by rw [hs]; show UAt (s_47 3) _; rw [hf47.at 3 rfl]; exact hu42, by rw [hs]; show s_47 4 0 = _; rw [hf47.at 4 rfl]; exact h442, pkL_len L P hL, pkL_ok hLk hk9⟩
            · refine z_aload_n C dX3_shift_60 hl 1 rfl ?_
              refine m_geta C hH 1 ⟨by decide, by decide⟩ q2186 rfl dX3_shift_61 ?_
              refine z_iload_n C dX3_shift_64 hl 2 rfl ?_
              refine z_iload_n C dX3_shift_65 hl 0 rfl ?_
              refine m_SiF C hH hS (mm_dotAt hOk s1 ln k) (va_cwS 2 C.1.2.2.2.2 (lw_S q2332 q2333 q133 q2334) rfl rfl rfl (by decide +kernel) ⟨Nat.le_of_ble_eq_true rfl, Nat.le_of_ble_eq_true rfl⟩) rfl hl rfl (Nat.le_of_ble_eq_true rfl) dX3_shift_66 ⟨Nat.le_refl _, Nat.le_refl _⟩ (fun H locs hH hS => ?_)
              refine z_iload_n C dX3_shift_69 hl 0 rfl ?_
              refine z_iload_n C dX3_shift_70 hl 3 rfl ?_
              refine z_isub C dX3_shift_71 ?_
              refine z_iconst C dX3_shift_72 ?_
              refine z_aload_n C dX3_shift_73 hl 1 rfl ?_
              refine m_getsZ C hH 9 ⟨by decide, by decide⟩ (pW P) (by rw [hs]; exact h947) q2194 rfl dX3_shift_74 ?_
              refine z_iconst C dX3_shift_77 ?_
              refine z_isub C dX3_shift_78 ?_
              refine m_SiF C hH hS (mm_in hOk s1 (k - x) 0 ((pW P) - 1) (⟨by omega, by omega⟩) (⟨by omega, by omega⟩) (⟨by omega, by omega⟩)) (va_cwS 3 C.1.2.2.2.2 (lw_S q2321 q2322 q133 q2323) rfl rfl rfl (by decide +kernel) ⟨Nat.le_of_ble_eq_true rfl, Nat.le_of_ble_eq_true rfl⟩) rfl hl rfl (Nat.le_of_ble_eq_true rfl) dX3_shift_79 ⟨Nat.le_refl _, Nat.le_refl _⟩ (fun H locs hH hS => ?_)
              refine z_topi (fun z_79 hz_79 => ?_)
              have q_79 := inZ_or (k - x) 0 ((pW P) - 1)
              rw [← hz_79] at q_79
              refine z_ifeq C dX3_shift_82 (tgt := 96) (by decide) ⟨by omega, by omega⟩ (fun c_82 => ?_) (fun c_82 => ?_)
              · refine z_iconst C dX3_shift_96 ?_
                refine m_iast C hOk hH hS 1 ⟨by decide, by decide⟩ (show 0 ≤ (28 + 40 * ln + k) ∧ (28 + 40 * ln + k) < (828 : Int) by omega) dX3_shift_97 (fun H locs hH hS => ?_)
                refine z_iinc C [(3, .int (iI (k + 1))), (0, .ref o), (1, .int (iI ln)), (2, .int (iI x))] dX3_shift_98 hl 0 rfl (by decide) rfl (fun ls hl => ?_)
                refine z_goto C dX3_shift_101 (tgt := 52) (by decide) ?_
                exact ih_52 ((k + 1)) ((su s1 1 (28 + 40 * ln + k) 0)) (by omega) (by omega) (by rw [hs, ← Int.add_assoc, ← su_wr _ _ _ _ (show 28 + 40 * ln ≤ 28 + 40 * ln + k by omega)]; rw [show 28 + 40 * ln + k - (28 + 40 * ln) - x = k - x by omega]; first | (rw [if_pos (by omega)]; done) | (rw [if_neg (by omega)]; done)) _ _ _ hH hS (lv_sub hl [0, 1, 2, 3] rfl)
              · refine z_aload_n C dX3_shift_85 hl 1 rfl ?_
                refine m_geta C hH 8 ⟨by decide, by decide⟩ q2193 rfl dX3_shift_86 ?_
                refine z_iload_n C dX3_shift_89 hl 0 rfl ?_
                refine z_iload_n C dX3_shift_90 hl 3 rfl ?_
                refine z_isub C dX3_shift_91 ?_
                refine m_ialdZ C hOk hH 8 ⟨by decide, by decide⟩ (k - x) (lnZ P ln (k - x)) (by rw [hs]; exact hl47 (k - x) (by omega) (by omega)) (show 0 ≤ (k - x) ∧ (k - x) < (40 : Int) by omega) dX3_shift_92 ?_
                refine z_goto C dX3_shift_93 (tgt := 97) (by decide) ?_
                refine m_iast C hOk hH hS 1 ⟨by decide, by decide⟩ (show 0 ≤ (28 + 40 * ln + k) ∧ (28 + 40 * ln + k) < (828 : Int) by omega) dX3_shift_97 (fun H locs hH hS => ?_)
                refine z_iinc C [(3, .int (iI (k + 1))), (0, .ref o), (1, .int (iI ln)), (2, .int (iI x))] dX3_shift_98 hl 0 rfl (by decide) rfl (fun ls hl => ?_)
                refine z_goto C dX3_shift_101 (tgt := 52) (by decide) ?_
                exact ih_52 ((k + 1)) ((su s1 1 (28 + 40 * ln + k) (lnZ P ln (k - x)))) (by omega) (by omega) (by rw [hs, ← Int.add_assoc, ← su_wr _ _ _ _ (show 28 + 40 * ln ≤ 28 + 40 * ln + k by omega)]; rw [show 28 + 40 * ln + k - (28 + 40 * ln) - x = k - x by omega]; first | (rw [if_pos (by omega)]; done) | (rw [if_neg (by omega)]; done)) _ _ _ hH hS (lv_sub hl [0, 1, 2, 3] rfl)
        exact J_52 _ 0 s_47 (Nat.lt_succ_self _) (by omega) (by rw [Int.add_zero, wr_0, sa_id]) _ _ _ hH hS (lv_sub hl [0, 1, 2, 3] rfl)
      · exact absurd c_36_1 (by decide)
  · refine z_iconst C dX3_shift_9 ?_
    refine z_goto C dX3_shift_10 (tgt := 29) (by decide) ?_
    refine m_puts C hH hS 0 ⟨by decide, by decide⟩ q2185 rfl ⟨rfl, rfl⟩ dX3_shift_29 (fun H locs hH hS => ?_)
    refine z_aload_n C dX3_shift_32 hl 0 rfl ?_
    refine m_getsZ C hH 0 ⟨by decide, by decide⟩ 1 rfl q2185 rfl dX3_shift_33 ?_
    refine z_ifle C dX3_shift_36 (tgt := 41) (by decide) ⟨by omega, by omega⟩ (fun c_36_2 => ?_) (fun c_36_2 => ?_)
    · exact absurd c_36_2 (by decide)
    · refine z_iconst C dX3_shift_39 ?_
      refine m_iret C hret hH hS dX3_shift_40 ?_
      refine ⟨by rw [show (su σ 0 0 1) 0 0 = 1 from (su_self _ _ _ _)]; first | (rw [if_pos (by omega)]; done) | (rw [if_neg (by omega)]; done) | (rw [if_neg (by omega), if_pos (by omega)]; done) | (rw [if_neg (by omega), if_neg (by omega)]; done), fun hth => absurd ((show (su σ 0 0 1) 0 0 = 1 from (su_self _ _ _ _)).symm.trans hth) (by decide), fun _ => hI.keep rfl rfl rfl, frSu Fr.rf rfl⟩
set_option maxHeartbeats 1000000 in
theorem mm_copyLine {l : Launch} {D : va_G} {dA : Nat → ClassId} {A : Nat → Prop} {o : Nat} {ad : Nat → Nat} (hOk : mOk o ad) (σ : Sg) (ln : Int) (x : Int) (P : Pg) (L : List Pg) (hI : MIv σ P L) (hr : zR ln) (hr2 : zR x) : Met l yX3_copyLine (ws_ yX3_copyLine cX3_copyLine 4 (some .int)) (rmL 4 0 0) (MP D dA A o ad [.ref o, .int (iI ln), .int (iI x)] σ) (MQi D dA A o ad (fun r σ' => σ' 0 0 = (if ¬ ((0 ≤ ln ∧ ln ≤ pN P - 1) ∧ 0 ≤ x ∧ x ≤ pN P) then 1 else if pN P < 20 then 0 else 2) ∧ (σ' 0 0 = 0 → r = pN P + 1 ∧ MIv σ' (eCpy P ln x) (pkL L P)) ∧ (σ' 0 0 ≠ 0 → MIv σ' P L) ∧ Fr [0, 1, 3, 4, 7, 8, 9, 10, 11, 12, 13, 14, 15, 16, 17, 18, 19] σ σ')) 0 0 A := by
  refine z_ofW (by decide) rfl ?_
  intro pp ee s0 mm below meth cc0 ls C hret hname hl hH hS
  have hl : lv_has ls 4 [(0, .ref o), (1, .int (iI ln)), (2, .int (iI x))] := hl
  obtain ⟨hP, hk, hU, h4, hL, hLk⟩ := hI
  have hk9 := hk
  have hP9 := hP
  obtain ⟨k1, k2, k3, k4, k5, k6, k7, k8, k9, k10, k11⟩ := hk
  obtain ⟨p1, p2, p3, p4, p5⟩ := hP
  have pn0 : 0 ≤ pN P := by show (0 : Int) ≤ ((pB P).length : Int); omega
  have hI : MIv σ P L := ⟨hP9, hk9, hU, h4, hL, hLk⟩
  have hr_1 := hr.1
  have hr_2 := hr.2
  have hr2_1 := hr2.1
  have hr2_2 := hr2.2
  refine z_aload_n C dX3_copyLine_0 hl 0 rfl ?_
  refine z_aload_n C dX3_copyLine_1 hl 0 rfl ?_
  refine z_iload_n C dX3_copyLine_2 hl 1 rfl ?_
  refine m_ViF C hH hS (mm_isLine hOk σ ln P (hP9) (hk9) (⟨by omega, by omega⟩)) (cwV 1 C.1.2.2.2.2 (lw_V q2413 q2415 qs63 q133 q2416) rfl rfl rfl (by decide +kernel) ⟨Nat.le_of_ble_eq_true rfl, Nat.le_of_ble_eq_true rfl⟩) rfl hl rfl (Nat.le_of_ble_eq_true rfl) dX3_copyLine_3 ⟨Nat.le_refl _, Nat.le_refl _⟩ (fun H locs hH hS => ?_)
  refine z_topi (fun z_3 hz_3 => ?_)
  have q_3 := inZ_or ln 0 (pN P - 1)
  rw [← hz_3] at q_3
  refine z_ifeq C dX3_copyLine_6 (tgt := 23) (by decide) ⟨by omega, by omega⟩ (fun c_6 => ?_) (fun c_6 => ?_)
  · refine z_iconst C dX3_copyLine_23 ?_
    refine z_goto C dX3_copyLine_24 (tgt := 43) (by decide) ?_
    refine m_puts C hH hS 0 ⟨by decide, by decide⟩ q2185 rfl ⟨rfl, rfl⟩ dX3_copyLine_43 (fun H locs hH hS => ?_)
    refine z_aload_n C dX3_copyLine_46 hl 0 rfl ?_
    refine m_getsZ C hH 0 ⟨by decide, by decide⟩ 1 rfl q2185 rfl dX3_copyLine_47 ?_
    refine z_ifle C dX3_copyLine_50 (tgt := 55) (by decide) ⟨by omega, by omega⟩ (fun c_50 => ?_) (fun c_50 => ?_)
    · exact absurd c_50 (by decide)
    · refine z_iconst C dX3_copyLine_53 ?_
      refine m_iret C hret hH hS dX3_copyLine_54 ?_
      refine ⟨by rw [show (su σ 0 0 1) 0 0 = 1 from (su_self _ _ _ _)]; first | (rw [if_pos (by omega)]; done) | (rw [if_neg (by omega)]; done) | (rw [if_neg (by omega), if_pos (by omega)]; done) | (rw [if_neg (by omega), if_neg (by omega)]; done), fun hth => absurd ((show (su σ 0 0 1) 0 0 = 1 from (su_self _ _ _ _)).symm.trans hth) (by decide), fun _ => hI.keep rfl rfl rfl, frSu Fr.rf rfl⟩
  · refine z_iload_n C dX3_copyLine_9 hl 2 rfl ?_
    refine z_iconst C dX3_copyLine_10 ?_
    refine z_aload_n C dX3_copyLine_11 hl 0 rfl ?_
    refine m_geta C hH 1 ⟨by decide, by decide⟩ q2186 rfl dX3_copyLine_12 ?_
    refine z_iconst C dX3_copyLine_15 ?_
    refine m_ialdZ C hOk hH 1 ⟨by decide, by decide⟩ 1 (σ 1 1) rfl (show 0 ≤ 1 ∧ 1 < (828 : Int) by omega) dX3_copyLine_16 ?_
    refine m_SiF C hH hS (mm_in hOk σ x 0 (σ 1 1) (⟨by omega, by omega⟩) (⟨by omega, by omega⟩) (⟨by omega, by omega⟩)) (va_cwS 3 C.1.2.2.2.2 (lw_S q2321 q2322 q133 q2323) rfl rfl rfl (by decide +kernel) ⟨Nat.le_of_ble_eq_true rfl, Nat.le_of_ble_eq_true rfl⟩) rfl hl rfl (Nat.le_of_ble_eq_true rfl) dX3_copyLine_17 ⟨Nat.le_refl _, Nat.le_refl _⟩ (fun H locs hH hS => ?_)
    refine z_topi (fun z_17 hz_17 => ?_)
    have q_17 := inZ_or x 0 (σ 1 1)
    rw [← hz_17] at q_17
    refine z_ifne C dX3_copyLine_20 (tgt := 27) (by decide) ⟨by omega, by omega⟩ (fun c_20 => ?_) (fun c_20 => ?_)
    · refine z_aload_n C dX3_copyLine_27 hl 0 rfl ?_
      refine m_geta C hH 1 ⟨by decide, by decide⟩ q2186 rfl dX3_copyLine_28 ?_
      refine z_iconst C dX3_copyLine_31 ?_
      refine m_ialdZ C hOk hH 1 ⟨by decide, by decide⟩ 1 (pN P) (p2) (show 0 ≤ 1 ∧ 1 < (828 : Int) by omega) dX3_copyLine_32 ?_
      refine z_bipush C dX3_copyLine_33 (by decide +kernel) ?_
      refine z_icmpge C dX3_copyLine_35 (tgt := 42) (by decide) ⟨⟨by omega, by omega⟩, ⟨by omega, by omega⟩⟩ (fun c_35 => ?_) (fun c_35 => ?_)
      · refine z_iconst C dX3_copyLine_42 ?_
        refine m_puts C hH hS 0 ⟨by decide, by decide⟩ q2185 rfl ⟨rfl, rfl⟩ dX3_copyLine_43 (fun H locs hH hS => ?_)
        refine z_aload_n C dX3_copyLine_46 hl 0 rfl ?_
        refine m_getsZ C hH 0 ⟨by decide, by decide⟩ 2 rfl q2185 rfl dX3_copyLine_47 ?_
        refine z_ifle C dX3_copyLine_50 (tgt := 55) (by decide) ⟨by omega, by omega⟩ (fun c_50_1 => ?_) (fun c_50_1 => ?_)
        · exact absurd c_50_1 (by decide)
        · refine z_iconst C dX3_copyLine_53 ?_
          refine m_iret C hret hH hS dX3_copyLine_54 ?_
          refine ⟨by rw [show (su σ 0 0 2) 0 0 = 2 from (su_self _ _ _ _)]; first | (rw [if_pos (by omega)]; done) | (rw [if_neg (by omega)]; done) | (rw [if_neg (by omega), if_pos (by omega)]; done) | (rw [if_neg (by omega), if_neg (by omega)]; done), fun hth => absurd ((show (su σ 0 0 2) 0 0 = 2 from (su_self _ _ _ _)).symm.trans hth) (by decide), fun _ => hI.keep rfl rfl rfl, frSu Fr.rf rfl⟩
      · refine z_iconst C dX3_copyLine_38 ?_
        refine z_goto C dX3_copyLine_39 (tgt := 43) (by decide) ?_
        refine m_puts C hH hS 0 ⟨by decide, by decide⟩ q2185 rfl ⟨rfl, rfl⟩ dX3_copyLine_43 (fun H locs hH hS => ?_)
        refine z_aload_n C dX3_copyLine_46 hl 0 rfl ?_
        refine m_getsZ C hH 0 ⟨by decide, by decide⟩ 0 rfl q2185 rfl dX3_copyLine_47 ?_
        refine z_ifle C dX3_copyLine_50 (tgt := 55) (by decide) ⟨by omega, by omega⟩ (fun c_50_2 => ?_) (fun c_50_2 => ?_)
        · refine z_aload_n C dX3_copyLine_55 hl 0 rfl ?_
          refine m_Vv C hH hS (mm_keeps hOk (su σ 0 0 0) P L (hI.keep rfl rfl rfl)) (cwV 0 C.1.2.2.2.2 (lw_V q2491 q2493 qs73 q133 q2494) rfl rfl rfl (by decide +kernel) ⟨Nat.le_of_ble_eq_true rfl, Nat.le_of_ble_eq_true rfl⟩) rfl hl rfl (Nat.le_of_ble_eq_true rfl) dX3_copyLine_56 ⟨Nat.le_refl _, Nat.le_refl _⟩ (fun s_56 H locs hp_56 hH hS => ?_)
          obtain ⟨hf56, hu56, h456⟩ := hp_56
          have e1 : s_56 1 = σ 1 := by rw [hf56.at 1 rfl]; rfl
          refine z_aload_n C dX3_copyLine_59 hl 0 rfl ?_
          refine z_aload_n C dX3_copyLine_60 hl 0 rfl ?_
          refine m_geta C hH 1 ⟨by decide, by decide⟩ q2186 rfl dX3_copyLine_61 ?_
          refine z_iload_n C dX3_copyLine_64 hl 1 rfl ?_
          refine z_iconst C dX3_copyLine_65 ?_
          refine m_SiF C hH hS (mm_dotAt hOk s_56 ln 0) (va_cwS 2 C.1.2.2.2.2 (lw_S q2332 q2333 q133 q2334) rfl rfl rfl (by decide +kernel) ⟨Nat.le_of_ble_eq_true rfl, Nat.le_of_ble_eq_true rfl⟩) rfl hl rfl (Nat.le_of_ble_eq_true rfl) dX3_copyLine_66 ⟨Nat.le_refl _, Nat.le_refl _⟩ (fun H locs hH hS => ?_)
          refine m_VvF C hH hS (mm_laysLower hOk s_56 1 (28 + 40 * ln + 0) (⟨by decide, by decide⟩) (by decide) (show 0 ≤ 28 + 40 * ln + 0 ∧ 28 + 40 * ln + 0 + 40 ≤ (828 : Int) by omega)) (cwV 2 C.1.2.2.2.2 (lw_V q2359 q2361 qs52 q133 q2362) rfl rfl rfl (by decide +kernel) ⟨Nat.le_of_ble_eq_true rfl, Nat.le_of_ble_eq_true rfl⟩) rfl hl rfl (Nat.le_of_ble_eq_true rfl) dX3_copyLine_69 ⟨Nat.le_refl _, Nat.le_refl _⟩ (fun H locs hH hS => ?_)
          refine z_aload_n C dX3_copyLine_72 hl 0 rfl ?_
          refine m_geta C hH 1 ⟨by decide, by decide⟩ q2186 rfl dX3_copyLine_73 ?_
          refine z_iconst C dX3_copyLine_76 ?_
          refine m_ialdZ C hOk hH 1 ⟨by decide, by decide⟩ 1 (pN P) (by show s_56 1 1 = _; rw [e1]; exact p2) (show 0 ≤ 1 ∧ 1 < (828 : Int) by omega) dX3_copyLine_77 ?_
          refine z_istore_n C [(3, .int (iI (pN P))), (0, .ref o), (1, .int (iI ln)), (2, .int (iI x))] dX3_copyLine_78 hl (by decide) rfl (fun ls hl => ?_)
          have J_79 : ∀ (fu : Nat) (lz : Int) (s1 : Sg), (lz - x).toNat < fu → (x ≤ lz ∧ lz ≤ pN P) → (Fr [1] (sa s_56 8 (wr (fun j => s_56 1 (28 + 40 * ln + 0 + j)) (s_56 8) 0 40)) s1) → (∀ r k, 0 ≤ r → r < 20 → 0 ≤ k → k < 40 → s1 1 (28 + 40 * r + k) = if lz < r ∧ r ≤ pN P then σ 1 (28 + 40 * (r - 1) + k) else σ 1 (28 + 40 * r + k)) → (∀ j, 0 ≤ j → j < 28 → s1 1 j = σ 1 j) → ∀ (H : Heap) (locs : List Loc) (ls : Array Slot), MH D dA A o ad s1 H → va_S A s0.heap H locs → lv_has ls 4 [(3, .int (iI lz)), (0, .ref o), (1, .int (iI ln)), (2, .int (iI x))] → W pp l ee (rmL 4 0 0) s0 mm ([.ref o, .int (iI ln), .int (iI x)] : List Value).toArray below meth cc0 H locs 0 0 (MQ below (MQi D dA A o ad (fun r σ' => σ' 0 0 = (if ¬ ((0 ≤ ln ∧ ln ≤ pN P - 1) ∧ 0 ≤ x ∧ x ≤ pN P) then 1 else if pN P < 20 then 0 else 2) ∧ (σ' 0 0 = 0 → r = pN P + 1 ∧ MIv σ' (eCpy P ln x) (pkL L P)) ∧ (σ' 0 0 ≠ 0 → MIv σ' P L) ∧ Fr [0, 1, 3, 4, 7, 8, 9, 10, 11, 12, 13, 14, 15, 16, 17, 18, 19] σ σ')) ([.ref o, .int (iI ln), .int (iI x)] : List Value).toArray s0 0 0 A) (F0 mm 79 ls []) := by
            intro fu
            induction fu with
            | zero => intro lz s1 hn; exact absurd hn (Nat.not_lt_zero _)
            | succ fu ih_79 =>
              intro lz s1 hn hl0 hfr hrw hlow H locs ls hH hS hl
              refine z_iload_n C dX3_copyLine_79 hl 0 rfl ?_
              refine z_iload_n C dX3_copyLine_80 hl 3 rfl ?_
              refine z_icmple C dX3_copyLine_81 (tgt := 98) (by decide) ⟨⟨by omega, by omega⟩, ⟨by omega, by omega⟩⟩ (fun c_81 => ?_) (fun c_81 => ?_)
              · have hlx : x = lz := by omega
                subst hlx
                refine z_iconst C dX3_copyLine_98 ?_
                refine z_istore_n C [(3, .int (iI 0)), (0, .ref o), (1, .int (iI ln)), (2, .int (iI x))] dX3_copyLine_99 hl (by decide) rfl (fun ls hl => ?_)
                have J_100 : ∀ (fu : Nat) (k : Int) (s2 : Sg), (40 - k).toNat < fu → (0 ≤ k ∧ k ≤ 40) → (s2 = sa s1 1 (wr (fun j => s1 8 (j - (28 + 40 * x))) (s1 1) (28 + 40 * x) (28 + 40 * x + k))) → ∀ (H : Heap) (locs : List Loc) (ls : Array Slot), MH D dA A o ad s2 H → va_S A s0.heap H locs → lv_has ls 4 [(3, .int (iI k)), (0, .ref o), (1, .int (iI ln)), (2, .int (iI x))] → W pp l ee (rmL 4 0 0) s0 mm ([.ref o, .int (iI ln), .int (iI x)] : List Value).toArray below meth cc0 H locs 0 0 (MQ below (MQi D dA A o ad (fun r σ' => σ' 0 0 = (if ¬ ((0 ≤ ln ∧ ln ≤ pN P - 1) ∧ 0 ≤ x ∧ x ≤ pN P) then 1 else if pN P < 20 then 0 else 2) ∧ (σ' 0 0 = 0 → r = pN P + 1 ∧ MIv σ' (eCpy P ln x) (pkL L P)) ∧ (σ' 0 0 ≠ 0 → MIv σ' P L) ∧ Fr [0, 1, 3, 4, 7, 8, 9, 10, 11, 12, 13, 14, 15, 16, 17, 18, 19] σ σ')) ([.ref o, .int (iI ln), .int (iI x)] : List Value).toArray s0 0 0 A) (F0 mm 100 ls []) := by
                  intro fu
                  induction fu with
                  | zero => intro k s2 hn; exact absurd hn (Nat.not_lt_zero _)
                  | succ fu ih_100 =>
                    intro k s2 hn hk0 hs2 H locs ls hH hS hl
                    refine z_iload_n C dX3_copyLine_100 hl 0 rfl ?_
                    refine z_bipush C dX3_copyLine_101 (by decide +kernel) ?_
                    refine z_icmpge C dX3_copyLine_103 (tgt := 128) (by decide) ⟨⟨by omega, by omega⟩, ⟨by omega, by omega⟩⟩ (fun c_103 => ?_) (fun c_103 => ?_)
                    · refine z_aload_n C dX3_copyLine_128 hl 1 rfl ?_
                      refine m_geta C hH 1 ⟨by decide, by decide⟩ q2186 rfl dX3_copyLine_129 ?_
                      refine z_iconst C dX3_copyLine_132 ?_
                      refine lv_dup2_11 C.1.1 C.1.2.1 dX3_copyLine_133 rfl rfl ?_
                      refine m_ialdZ C hOk hH 1 ⟨by decide, by decide⟩ 1 (pN P) (by rw [hs2, sa_k, wr_out _ _ (by omega), hlow 1 (by omega) (by omega)]; exact p2) (show 0 ≤ 1 ∧ 1 < (828 : Int) by omega) dX3_copyLine_134 ?_
                      refine z_iconst C dX3_copyLine_135 ?_
                      refine z_iadd C dX3_copyLine_136 ?_
                      refine m_iast C hOk hH hS 1 ⟨by decide, by decide⟩ (show 0 ≤ 1 ∧ 1 < (828 : Int) by omega) dX3_copyLine_137 (fun H locs hH hS => ?_)
                      refine z_aload_n C dX3_copyLine_138 hl 1 rfl ?_
                      refine m_geta C hH 1 ⟨by decide, by decide⟩ q2186 rfl dX3_copyLine_139 ?_
                      refine z_iconst C dX3_copyLine_142 ?_
                      refine m_ialdZ C hOk hH 1 ⟨by decide, by decide⟩ 1 (pN P + 1) (su_self _ _ _ _) (show 0 ≤ 1 ∧ 1 < (828 : Int) by omega) dX3_copyLine_143 ?_
                      refine m_iret C hret hH hS dX3_copyLine_144 ?_
                      have en : pN P = ((pB P).length : Int) := rfl
                      have hT : s1 0 0 = 0 := by rw [hfr.at 0 rfl]; exact (by show s_56 0 0 = 0; rw [hf56.at 0 rfl]; exact su_self _ _ _ _)
                      refine ⟨by show s2 0 0 = _; rw [hs2, show sa s1 1 _ 0 0 = 0 from hT]; first | (rw [if_pos (by omega)]; done) | (rw [if_neg (by omega)]; done) | (rw [if_neg (by omega), if_pos (by omega)]; done) | (rw [if_neg (by omega), if_neg (by omega)]; done), fun _ => ⟨rfl, ?_⟩, fun hth => absurd (by show s2 0 0 = 0; rw [hs2]; exact hT) hth, frSu (by rw [hs2]; exact frSa ((frSa (((frSu Fr.rf rfl)).th hf56 rfl) rfl).th hfr rfl) rfl) rfl⟩
                      refine ⟨?_, hk9.cpy (by omega) ln (by omega), by show UAt (s2 3) _; rw [hs2]; show UAt (s1 3) _; rw [hfr.at 3 rfl]; exact hu56, by show s2 4 0 = _; rw [hs2]; show s1 4 0 = _; rw [hfr.at 4 rfl]; exact h456, pkL_len L P hL, pkL_ok hLk hk9⟩
                      show PgAt (uZ (s2 1) 1 (pN P + 1)) _
                      rw [hs2, sa_k, show k = 40 by omega]
                      refine PgAt.bits hP9 (fun j a b c => by rw [uZ_ne _ _ c, wr_out _ _ (by omega)]; exact hlow j a b) (by rw [uZ_self, List.length_insertIdx_of_le_length (by omega)]; omega) (fun r k a b c d => ?_)
                      rw [List.length_insertIdx_of_le_length (by omega)] at b
                      rw [uZ_ne _ _ (by omega), List.getD_eq_getElem?_getD]
                      by_cases h1 : r < x
                      · rw [wr_out _ _ (by omega), hrw r k a (by omega) c (by omega), if_neg (by omega), p5 r k a (by omega) c d, List.getElem?_insertIdx_of_lt (by omega)]
                        unfold lnZ; rw [List.getD_eq_getElem?_getD]
                      · by_cases h2 : r = x
                        · subst h2
                          rw [wr_in _ _ (by omega) (by omega), List.getElem?_insertIdx_self, if_pos (by omega)]
                          show s1 8 _ = dz (bitOf P ln) k
                          rw [hfr.at 8 rfl, sa_k, wr_in _ _ (by omega) (by omega), e1, show 28 + 40 * ln + 0 + (28 + 40 * r + k - (28 + 40 * r)) = 28 + 40 * ln + k by omega, p5 ln k (by omega) (by omega) c d]; rfl
                        · rw [wr_out _ _ (by omega), hrw r k a (by omega) c (by omega), if_pos (by omega), p5 (r - 1) k (by omega) (by omega) c d, List.getElem?_insertIdx_of_gt (by omega)]
                          unfold lnZ; rw [List.getD_eq_getElem?_getD, show (r - 1).toNat = r.toNat - 1 by omega]
                    · refine z_aload_n C dX3_copyLine_106 hl 1 rfl ?_
                      refine m_geta C hH 1 ⟨by decide, by decide⟩ q2186 rfl dX3_copyLine_107 ?_
                      refine z_iload_n C dX3_copyLine_110 hl 3 rfl ?_
                      refine z_iload_n C dX3_copyLine_111 hl 0 rfl ?_
                      refine m_SiF C hH hS (mm_dotAt hOk s2 x k) (va_cwS 2 C.1.2.2.2.2 (lw_S q2332 q2333 q133 q2334) rfl rfl rfl (by decide +kernel) ⟨Nat.le_of_ble_eq_true rfl, Nat.le_of_ble_eq_true rfl⟩) rfl hl rfl (Nat.le_of_ble_eq_true rfl) dX3_copyLine_112 ⟨Nat.le_refl _, Nat.le_refl _⟩ (fun H locs hH hS => ?_)
                      refine z_aload_n C dX3_copyLine_115 hl 1 rfl ?_
                      refine m_geta C hH 8 ⟨by decide, by decide⟩ q2193 rfl dX3_copyLine_116 ?_
                      refine z_iload_n C dX3_copyLine_119 hl 0 rfl ?_
                      refine m_ialdZ C hOk hH 8 ⟨by decide, by decide⟩ k (s1 8 k) (by rw [hs2]; rfl) (show 0 ≤ k ∧ k < (40 : Int) by omega) dX3_copyLine_120 ?_
                      refine m_iast C hOk hH hS 1 ⟨by decide, by decide⟩ (show 0 ≤ (28 + 40 * x + k) ∧ (28 + 40 * x + k) < (828 : Int) by omega) dX3_copyLine_121 (fun H locs hH hS => ?_)
                      refine z_iinc C [(3, .int (iI (k + 1))), (0, .ref o), (1, .int (iI ln)), (2, .int (iI x))] dX3_copyLine_122 hl 0 rfl (by decide) rfl (fun ls hl => ?_)
                      refine z_goto C dX3_copyLine_125 (tgt := 100) (by decide) ?_
                      exact ih_100 ((k + 1)) ((su s2 1 (28 + 40 * x + k) (s1 8 k))) (by omega) (by omega) (by rw [hs2, ← Int.add_assoc, ← su_wr _ _ _ _ (show 28 + 40 * x ≤ 28 + 40 * x + k by omega)]; rw [show 28 + 40 * x + k - (28 + 40 * x) = k by omega]) _ _ _ hH hS (lv_sub hl [0, 1, 2, 3] rfl)
                exact J_100 _ 0 s1 (Nat.lt_succ_self _) (by omega) (by rw [Int.add_zero, wr_0, sa_id]) _ _ _ hH hS (lv_sub hl [0, 1, 2, 3] rfl)
              · refine z_aload_n C dX3_copyLine_84 hl 1 rfl ?_
                refine z_iload_n C dX3_copyLine_85 hl 0 rfl ?_
                refine z_iconst C dX3_copyLine_86 ?_
                refine z_isub C dX3_copyLine_87 ?_
                refine z_iload_n C dX3_copyLine_88 hl 0 rfl ?_
                refine m_VvF C hH hS (mm_movesLine hOk s1 (lz - 1) lz (by omega) (by omega)) (cwV 2 C.1.2.2.2.2 (lw_V q2527 q2529 qs77 q133 q2530) rfl rfl rfl (by decide +kernel) ⟨Nat.le_of_ble_eq_true rfl, Nat.le_of_ble_eq_true rfl⟩) rfl hl rfl (Nat.le_of_ble_eq_true rfl) dX3_copyLine_89 ⟨Nat.le_refl _, Nat.le_refl _⟩ (fun H locs hH hS => ?_)
                refine z_iinc C [(3, .int (iI (lz + (-1)))), (0, .ref o), (1, .int (iI ln)), (2, .int (iI x))] dX3_copyLine_92 hl 0 rfl (by decide) rfl (fun ls hl => ?_)
                refine z_goto C dX3_copyLine_95 (tgt := 79) (by decide) ?_
                exact ih_79 ((lz + (-1))) ((sa s1 1 (wr (fun j => s1 1 (28 + 40 * (lz - 1) + (j - (28 + 40 * lz)))) (s1 1) (28 + 40 * lz) (28 + 40 * lz + 40)))) (by omega) (by omega) (frSa hfr rfl) (fun r k a b c d => by
                  show wr (fun j => s1 1 (28 + 40 * (lz - 1) + (j - (28 + 40 * lz)))) (s1 1) (28 + 40 * lz) (28 + 40 * lz + 40) (28 + 40 * r + k) = _
                  by_cases hrl : r = lz
                  · subst hrl
                    rw [wr_in _ _ (by omega) (by omega), show 28 + 40 * (r - 1) + (28 + 40 * r + k - (28 + 40 * r)) = 28 + 40 * (r - 1) + k by omega, hrw (r - 1) k (by omega) (by omega) c d, if_neg (by omega), if_pos (by omega)]
                  · rw [wr_out _ _ (by omega), hrw r k a b c d]
                    by_cases hq : lz < r ∧ r ≤ pN P
                    · rw [if_pos hq, if_pos (by omega)]
                    · rw [if_neg hq, if_neg (by omega)]) (fun j a b => by show wr (fun j => s1 1 (28 + 40 * (lz - 1) + (j - (28 + 40 * lz)))) (s1 1) (28 + 40 * lz) (28 + 40 * lz + 40) j = _; rw [wr_out _ _ (by omega)]; exact hlow j a b) _ _ _ hH hS (lv_sub hl [0, 1, 2, 3] rfl)
          exact J_79 _ ((pN P)) ((sa s_56 8 (wr (fun j => s_56 1 ((28 + 40 * ln + 0) + j)) (s_56 8) 0 40))) (Nat.lt_succ_self _) (by omega) (Fr.rf) (fun r k a b c d => by rw [if_neg (by omega)]; show s_56 1 _ = _; rw [e1]) (fun j a b => by show s_56 1 j = _; rw [e1]) _ _ _ hH hS (lv_sub hl [0, 1, 2, 3] rfl)
        · exact absurd c_50_2 (by decide)
    · refine z_iconst C dX3_copyLine_23 ?_
      refine z_goto C dX3_copyLine_24 (tgt := 43) (by decide) ?_
      refine m_puts C hH hS 0 ⟨by decide, by decide⟩ q2185 rfl ⟨rfl, rfl⟩ dX3_copyLine_43 (fun H locs hH hS => ?_)
      refine z_aload_n C dX3_copyLine_46 hl 0 rfl ?_
      refine m_getsZ C hH 0 ⟨by decide, by decide⟩ 1 rfl q2185 rfl dX3_copyLine_47 ?_
      refine z_ifle C dX3_copyLine_50 (tgt := 55) (by decide) ⟨by omega, by omega⟩ (fun c_50_3 => ?_) (fun c_50_3 => ?_)
      · exact absurd c_50_3 (by decide)
      · refine z_iconst C dX3_copyLine_53 ?_
        refine m_iret C hret hH hS dX3_copyLine_54 ?_
        refine ⟨by rw [show (su σ 0 0 1) 0 0 = 1 from (su_self _ _ _ _)]; first | (rw [if_pos (by omega)]; done) | (rw [if_neg (by omega)]; done) | (rw [if_neg (by omega), if_pos (by omega)]; done) | (rw [if_neg (by omega), if_neg (by omega)]; done), fun hth => absurd ((show (su σ 0 0 1) 0 0 = 1 from (su_self _ _ _ _)).symm.trans hth) (by decide), fun _ => hI.keep rfl rfl rfl, frSu Fr.rf rfl⟩
set_option maxHeartbeats 1000000 in
theorem mm_removeLine {l : Launch} {D : va_G} {dA : Nat → ClassId} {A : Nat → Prop} {o : Nat} {ad : Nat → Nat} (hOk : mOk o ad) (σ : Sg) (ln : Int) (P : Pg) (L : List Pg) (hI : MIv σ P L) (hr : zR ln) : Met l yX3_removeLine (ws_ yX3_removeLine cX3_removeLine 3 (some .int)) (rmL 4 0 0) (MP D dA A o ad [.ref o, .int (iI ln)] σ) (MQi D dA A o ad (fun r σ' => σ' 0 0 = (if 0 ≤ ln ∧ ln ≤ pN P - 1 then 0 else 1) ∧ (σ' 0 0 = 0 → r = pN P - 1 ∧ MIv σ' (eRem P ln) (pkL L P)) ∧ (σ' 0 0 ≠ 0 → MIv σ' P L) ∧ Fr [0, 1, 3, 4, 7, 8, 9, 10, 11, 12, 13, 14, 15, 16, 17, 18, 19] σ σ')) 0 0 A := by
  refine z_ofW (by decide) rfl ?_
  intro pp ee s0 mm below meth cc0 ls C hret hname hl hH hS
  have hl : lv_has ls 3 [(0, .ref o), (1, .int (iI ln))] := hl
  obtain ⟨hP, hk, hU, h4, hL, hLk⟩ := hI
  have hk9 := hk
  have hP9 := hP
  obtain ⟨k1, k2, k3, k4, k5, k6, k7, k8, k9, k10, k11⟩ := hk
  obtain ⟨p1, p2, p3, p4, p5⟩ := hP
  have pn0 : 0 ≤ pN P := by show (0 : Int) ≤ ((pB P).length : Int); omega
  have hI : MIv σ P L := ⟨hP9, hk9, hU, h4, hL, hLk⟩
  have hr_1 := hr.1
  have hr_2 := hr.2
  refine z_aload_n C dX3_removeLine_0 hl 0 rfl ?_
  refine z_aload_n C dX3_removeLine_1 hl 0 rfl ?_
  refine z_iload_n C dX3_removeLine_2 hl 1 rfl ?_
  refine m_ViF C hH hS (mm_isLine hOk σ ln P (hP9) (hk9) (⟨by omega, by omega⟩)) (cwV 1 C.1.2.2.2.2 (lw_V q2413 q2415 qs63 q133 q2416) rfl rfl rfl (by decide +kernel) ⟨Nat.le_of_ble_eq_true rfl, Nat.le_of_ble_eq_true rfl⟩) rfl hl rfl (Nat.le_of_ble_eq_true rfl) dX3_removeLine_3 ⟨Nat.le_refl _, Nat.le_refl _⟩ (fun H locs hH hS => ?_)
  refine z_topi (fun z_3 hz_3 => ?_)
  have q_3 := inZ_or ln 0 (pN P - 1)
  rw [← hz_3] at q_3
  refine z_ifeq C dX3_removeLine_6 (tgt := 13) (by decide) ⟨by omega, by omega⟩ (fun c_6 => ?_) (fun c_6 => ?_)
  · refine z_iconst C dX3_removeLine_13 ?_
    refine m_puts C hH hS 0 ⟨by decide, by decide⟩ q2185 rfl ⟨rfl, rfl⟩ dX3_removeLine_14 (fun H locs hH hS => ?_)
    refine z_aload_n C dX3_removeLine_17 hl 0 rfl ?_
    refine m_getsZ C hH 0 ⟨by decide, by decide⟩ 1 rfl q2185 rfl dX3_removeLine_18 ?_
    refine z_ifle C dX3_removeLine_21 (tgt := 26) (by decide) ⟨by omega, by omega⟩ (fun c_21 => ?_) (fun c_21 => ?_)
    · exact absurd c_21 (by decide)
    · refine z_iconst C dX3_removeLine_24 ?_
      refine m_iret C hret hH hS dX3_removeLine_25 ?_
      refine ⟨by rw [show (su σ 0 0 1) 0 0 = 1 from (su_self _ _ _ _)]; first | (rw [if_pos (by omega)]; done) | (rw [if_neg (by omega)]; done) | (rw [if_neg (by omega), if_pos (by omega)]; done) | (rw [if_neg (by omega), if_neg (by omega)]; done), fun hth => absurd ((show (su σ 0 0 1) 0 0 = 1 from (su_self _ _ _ _)).symm.trans hth) (by decide), fun _ => hI.keep rfl rfl rfl, frSu Fr.rf rfl⟩
  · refine z_iconst C dX3_removeLine_9 ?_
    refine z_goto C dX3_removeLine_10 (tgt := 14) (by decide) ?_
    refine m_puts C hH hS 0 ⟨by decide, by decide⟩ q2185 rfl ⟨rfl, rfl⟩ dX3_removeLine_14 (fun H locs hH hS => ?_)
    refine z_aload_n C dX3_removeLine_17 hl 0 rfl ?_
    refine m_getsZ C hH 0 ⟨by decide, by decide⟩ 0 rfl q2185 rfl dX3_removeLine_18 ?_
    refine z_ifle C dX3_removeLine_21 (tgt := 26) (by decide) ⟨by omega, by omega⟩ (fun c_21_1 => ?_) (fun c_21_1 => ?_)
    · refine z_aload_n C dX3_removeLine_26 hl 0 rfl ?_
      refine m_Vv C hH hS (mm_keeps hOk (su σ 0 0 0) P L (hI.keep rfl rfl rfl)) (cwV 0 C.1.2.2.2.2 (lw_V q2491 q2493 qs73 q133 q2494) rfl rfl rfl (by decide +kernel) ⟨Nat.le_of_ble_eq_true rfl, Nat.le_of_ble_eq_true rfl⟩) rfl hl rfl (Nat.le_of_ble_eq_true rfl) dX3_removeLine_27 ⟨Nat.le_refl _, Nat.le_refl _⟩ (fun s_27 H locs hp_27 hH hS => ?_)
      obtain ⟨hf27, hu27, h427⟩ := hp_27
      have e1 : s_27 1 = σ 1 := by rw [hf27.at 1 rfl]; rfl
      refine z_aload_n C dX3_removeLine_30 hl 0 rfl ?_
      refine m_geta C hH 1 ⟨by decide, by decide⟩ q2186 rfl dX3_removeLine_31 ?_
      refine z_iconst C dX3_removeLine_34 ?_
      refine lv_dup2_11 C.1.1 C.1.2.1 dX3_removeLine_35 rfl rfl ?_
      refine m_ialdZ C hOk hH 1 ⟨by decide, by decide⟩ 1 (pN P) (by show s_27 1 1 = _; rw [e1]; exact p2) (show 0 ≤ 1 ∧ 1 < (828 : Int) by omega) dX3_removeLine_36 ?_
      refine z_iconst C dX3_removeLine_37 ?_
      refine z_isub C dX3_removeLine_38 ?_
      refine m_iast C hOk hH hS 1 ⟨by decide, by decide⟩ (show 0 ≤ 1 ∧ 1 < (828 : Int) by omega) dX3_removeLine_39 (fun H locs hH hS => ?_)
      refine z_iload_n C dX3_removeLine_40 hl 1 rfl ?_
      refine z_istore_n C [(2, .int (iI ln)), (0, .ref o), (1, .int (iI ln))] dX3_removeLine_41 hl (by decide) rfl (fun ls hl => ?_)
      have J_42 : ∀ (fu : Nat) (lz : Int) (s1 : Sg), (pN P - lz).toNat < fu → (ln ≤ lz ∧ lz ≤ pN P - 1) → (Fr [1] s_27 s1) → (∀ r k, 0 ≤ r → r < 20 → 0 ≤ k → k < 40 → s1 1 (28 + 40 * r + k) = if ln ≤ r ∧ r < lz then σ 1 (28 + 40 * (r + 1) + k) else σ 1 (28 + 40 * r + k)) → (∀ j, 0 ≤ j → j < 28 → j ≠ 1 → s1 1 j = σ 1 j) → (s1 1 1 = pN P - 1) → ∀ (H : Heap) (locs : List Loc) (ls : Array Slot), MH D dA A o ad s1 H → va_S A s0.heap H locs → lv_has ls 3 [(2, .int (iI lz)), (0, .ref o), (1, .int (iI ln))] → W pp l ee (rmL 4 0 0) s0 mm ([.ref o, .int (iI ln)] : List Value).toArray below meth cc0 H locs 0 0 (MQ below (MQi D dA A o ad (fun r σ' => σ' 0 0 = (if 0 ≤ ln ∧ ln ≤ pN P - 1 then 0 else 1) ∧ (σ' 0 0 = 0 → r = pN P - 1 ∧ MIv σ' (eRem P ln) (pkL L P)) ∧ (σ' 0 0 ≠ 0 → MIv σ' P L) ∧ Fr [0, 1, 3, 4, 7, 8, 9, 10, 11, 12, 13, 14, 15, 16, 17, 18, 19] σ σ')) ([.ref o, .int (iI ln)] : List Value).toArray s0 0 0 A) (F0 mm 42 ls []) := by
        intro fu
        induction fu with
        | zero => intro lz s1 hn; exact absurd hn (Nat.not_lt_zero _)
        | succ fu ih_42 =>
          intro lz s1 hn hl0 hfr hrw hlow hn1 H locs ls hH hS hl
          refine z_iload_n C dX3_removeLine_42 hl 0 rfl ?_
          refine z_aload_n C dX3_removeLine_43 hl 1 rfl ?_
          refine m_geta C hH 1 ⟨by decide, by decide⟩ q2186 rfl dX3_removeLine_44 ?_
          refine z_iconst C dX3_removeLine_47 ?_
          refine m_ialdZ C hOk hH 1 ⟨by decide, by decide⟩ 1 (pN P - 1) (hn1) (show 0 ≤ 1 ∧ 1 < (828 : Int) by omega) dX3_removeLine_48 ?_
          refine z_icmpge C dX3_removeLine_49 (tgt := 66) (by decide) ⟨⟨by omega, by omega⟩, ⟨by omega, by omega⟩⟩ (fun c_49 => ?_) (fun c_49 => ?_)
          · refine z_aload_n C dX3_removeLine_66 hl 1 rfl ?_
            refine z_aload_n C dX3_removeLine_67 hl 1 rfl ?_
            refine m_geta C hH 1 ⟨by decide, by decide⟩ q2186 rfl dX3_removeLine_68 ?_
            refine z_iconst C dX3_removeLine_71 ?_
            refine m_ialdZ C hOk hH 1 ⟨by decide, by decide⟩ 1 (pN P - 1) (hn1) (show 0 ≤ 1 ∧ 1 < (828 : Int) by omega) dX3_removeLine_72 ?_
            refine m_VvF C hH hS (mm_clearsLine hOk s1 (pN P - 1) (by omega)) (cwV 1 C.1.2.2.2.2 (lw_V q2507 q2509 qs75 q133 q2510) rfl rfl rfl (by decide +kernel) ⟨Nat.le_of_ble_eq_true rfl, Nat.le_of_ble_eq_true rfl⟩) rfl hl rfl (Nat.le_of_ble_eq_true rfl) dX3_removeLine_73 ⟨Nat.le_refl _, Nat.le_refl _⟩ (fun H locs hH hS => ?_)
            refine z_aload_n C dX3_removeLine_76 hl 1 rfl ?_
            refine m_geta C hH 1 ⟨by decide, by decide⟩ q2186 rfl dX3_removeLine_77 ?_
            refine z_iconst C dX3_removeLine_80 ?_
            refine m_ialdZ C hOk hH 1 ⟨by decide, by decide⟩ 1 (pN P - 1) (by show wr (fun _ => 0) (s1 1) (28 + 40 * (pN P - 1)) (28 + 40 * (pN P - 1) + 40) 1 = _; rw [wr_out _ _ (by omega)]; exact hn1) (show 0 ≤ 1 ∧ 1 < (828 : Int) by omega) dX3_removeLine_81 ?_
            refine m_iret C hret hH hS dX3_removeLine_82 ?_
            have en : pN P = ((pB P).length : Int) := rfl
            have hT : s1 0 0 = 0 := by rw [hfr.at 0 rfl]; exact (by show s_27 0 0 = 0; rw [hf27.at 0 rfl]; exact su_self _ _ _ _)
            refine ⟨by show s1 0 0 = _; rw [hT]; first | (rw [if_pos (by omega)]; done) | (rw [if_neg (by omega)]; done) | (rw [if_neg (by omega), if_pos (by omega)]; done) | (rw [if_neg (by omega), if_neg (by omega)]; done), fun _ => ⟨rfl, ?_⟩, fun hth => absurd hT hth, frSa ((((frSu Fr.rf rfl)).th hf27 rfl).th hfr rfl) rfl⟩
            refine ⟨?_, hk9.rem ln, by show UAt (s1 3) _; rw [hfr.at 3 rfl]; exact hu27, by show s1 4 0 = _; rw [hfr.at 4 rfl]; exact h427, pkL_len L P hL, pkL_ok hLk hk9⟩
            show PgAt (wr (fun _ => 0) (s1 1) (28 + 40 * (pN P - 1)) (28 + 40 * (pN P - 1) + 40)) _
            refine PgAt.bits hP9 (fun j a b c => by rw [wr_out _ _ (by omega)]; exact hlow j a b c) (by rw [wr_out _ _ (by omega), hn1, List.length_eraseIdx_of_lt (by omega)]; omega) (fun r k a b c d => ?_)
            rw [List.length_eraseIdx_of_lt (by omega)] at b
            rw [wr_out _ _ (by omega), hrw r k a (by omega) c (by omega), List.getD_eq_getElem?_getD]
            by_cases h1 : r < ln
            · rw [if_neg (by omega), p5 r k a (by omega) c d, List.getElem?_eraseIdx_of_lt (by omega)]
              unfold lnZ; rw [List.getD_eq_getElem?_getD]
            · rw [if_pos (by omega), p5 (r + 1) k (by omega) (by omega) c d, List.getElem?_eraseIdx_of_ge (by omega)]
              unfold lnZ; rw [List.getD_eq_getElem?_getD, show (r + 1).toNat = r.toNat + 1 by omega]
          · refine z_aload_n C dX3_removeLine_52 hl 1 rfl ?_
            refine z_iload_n C dX3_removeLine_53 hl 0 rfl ?_
            refine z_iconst C dX3_removeLine_54 ?_
            refine z_iadd C dX3_removeLine_55 ?_
            refine z_iload_n C dX3_removeLine_56 hl 0 rfl ?_
            refine m_VvF C hH hS (mm_movesLine hOk s1 (lz + 1) lz (by omega) (by omega)) (cwV 2 C.1.2.2.2.2 (lw_V q2527 q2529 qs77 q133 q2530) rfl rfl rfl (by decide +kernel) ⟨Nat.le_of_ble_eq_true rfl, Nat.le_of_ble_eq_true rfl⟩) rfl hl rfl (Nat.le_of_ble_eq_true rfl) dX3_removeLine_57 ⟨Nat.le_refl _, Nat.le_refl _⟩ (fun H locs hH hS => ?_)
            refine z_iinc C [(2, .int (iI (lz + 1))), (0, .ref o), (1, .int (iI ln))] dX3_removeLine_60 hl 0 rfl (by decide) rfl (fun ls hl => ?_)
            refine z_goto C dX3_removeLine_63 (tgt := 42) (by decide) ?_
            exact ih_42 ((lz + 1)) ((sa s1 1 (wr (fun j => s1 1 (28 + 40 * (lz + 1) + (j - (28 + 40 * lz)))) (s1 1) (28 + 40 * lz) (28 + 40 * lz + 40)))) (by omega) (by omega) (frSa hfr rfl) (fun r k a b c d => by
              show wr (fun j => s1 1 (28 + 40 * (lz + 1) + (j - (28 + 40 * lz)))) (s1 1) (28 + 40 * lz) (28 + 40 * lz + 40) (28 + 40 * r + k) = _
              by_cases hrl : r = lz
              · subst hrl
                rw [wr_in _ _ (by omega) (by omega), show 28 + 40 * (r + 1) + (28 + 40 * r + k - (28 + 40 * r)) = 28 + 40 * (r + 1) + k by omega, hrw (r + 1) k (by omega) (by omega) c d, if_neg (by omega), if_pos (by omega)]
              · rw [wr_out _ _ (by omega), hrw r k a b c d]
                by_cases hq : ln ≤ r ∧ r < lz
                · rw [if_pos hq, if_pos (by omega)]
                · rw [if_neg hq, if_neg (by omega)]) (fun j a b c => by show wr (fun j => s1 1 (28 + 40 * (lz + 1) + (j - (28 + 40 * lz)))) (s1 1) (28 + 40 * lz) (28 + 40 * lz + 40) j = _; rw [wr_out _ _ (by omega)]; exact hlow j a b c) (by show wr (fun j => s1 1 (28 + 40 * (lz + 1) + (j - (28 + 40 * lz)))) (s1 1) (28 + 40 * lz) (28 + 40 * lz + 40) 1 = _; rw [wr_out _ _ (by omega)]; exact hn1) _ _ _ hH hS (lv_sub hl [0, 1, 2] rfl)
      exact J_42 _ ln ((su s_27 1 1 ((pN P) - 1))) (Nat.lt_succ_self _) (by omega) (frSu Fr.rf rfl) (fun r k a b c d => by rw [if_neg (by omega)]; show uZ (s_27 1) 1 (pN P - 1) _ = _; rw [uZ_ne _ _ (by omega), e1]) (fun j a b c => by show uZ (s_27 1) 1 (pN P - 1) j = _; rw [uZ_ne _ _ c, e1]) (su_self _ _ _ _) _ _ _ hH hS (lv_sub hl [0, 1, 2] rfl)
    · exact absurd c_21_1 (by decide)
set_option maxHeartbeats 1000000 in
theorem mm_swap {l : Launch} {D : va_G} {dA : Nat → ClassId} {A : Nat → Prop} {o : Nat} {ad : Nat → Nat} (hOk : mOk o ad) (σ : Sg) (ln : Int) (x : Int) (P : Pg) (L : List Pg) (hI : MIv σ P L) (hr : zR ln) (hr2 : zR x) : Met l yX3_swap (ws_ yX3_swap cX3_swap 5 (some .int)) (rmL 4 0 0) (MP D dA A o ad [.ref o, .int (iI ln), .int (iI x)] σ) (MQi D dA A o ad (fun r σ' => σ' 0 0 = (if (0 ≤ ln ∧ ln ≤ pN P - 1) ∧ 0 ≤ x ∧ x ≤ pN P - 1 then 0 else 1) ∧ (σ' 0 0 = 0 → r = dfZ P ln x ∧ MIv σ' (eSwp P ln x) (pkL L P)) ∧ (σ' 0 0 ≠ 0 → MIv σ' P L) ∧ Fr [0, 1, 3, 4, 7, 8, 9, 10, 11, 12, 13, 14, 15, 16, 17, 18, 19] σ σ')) 0 0 A := by
  refine z_ofW (by decide) rfl ?_
  intro pp ee s0 mm below meth cc0 ls C hret hname hl hH hS
  have hl : lv_has ls 5 [(0, .ref o), (1, .int (iI ln)), (2, .int (iI x))] := hl
  obtain ⟨hP, hk, hU, h4, hL, hLk⟩ := hI
  have hk9 := hk
  have hP9 := hP
  obtain ⟨k1, k2, k3, k4, k5, k6, k7, k8, k9, k10, k11⟩ := hk
  obtain ⟨p1, p2, p3, p4, p5⟩ := hP
  have pn0 : 0 ≤ pN P := by show (0 : Int) ≤ ((pB P).length : Int); omega
  have hI : MIv σ P L := ⟨hP9, hk9, hU, h4, hL, hLk⟩
  have hr_1 := hr.1
  have hr_2 := hr.2
  have hr2_1 := hr2.1
  have hr2_2 := hr2.2
  refine z_aload_n C dX3_swap_0 hl 0 rfl ?_
  refine z_aload_n C dX3_swap_1 hl 0 rfl ?_
  refine z_iload_n C dX3_swap_2 hl 1 rfl ?_
  refine m_ViF C hH hS (mm_isLine hOk σ ln P (hP9) (hk9) (⟨by omega, by omega⟩)) (cwV 1 C.1.2.2.2.2 (lw_V q2413 q2415 qs63 q133 q2416) rfl rfl rfl (by decide +kernel) ⟨Nat.le_of_ble_eq_true rfl, Nat.le_of_ble_eq_true rfl⟩) rfl hl rfl (Nat.le_of_ble_eq_true rfl) dX3_swap_3 ⟨Nat.le_refl _, Nat.le_refl _⟩ (fun H locs hH hS => ?_)
  refine z_topi (fun z_3 hz_3 => ?_)
  have q_3 := inZ_or ln 0 (pN P - 1)
  rw [← hz_3] at q_3
  refine z_ifeq C dX3_swap_6 (tgt := 21) (by decide) ⟨by omega, by omega⟩ (fun c_6 => ?_) (fun c_6 => ?_)
  · refine z_iconst C dX3_swap_21 ?_
    refine m_puts C hH hS 0 ⟨by decide, by decide⟩ q2185 rfl ⟨rfl, rfl⟩ dX3_swap_22 (fun H locs hH hS => ?_)
    refine z_aload_n C dX3_swap_25 hl 0 rfl ?_
    refine m_getsZ C hH 0 ⟨by decide, by decide⟩ 1 rfl q2185 rfl dX3_swap_26 ?_
    refine z_ifle C dX3_swap_29 (tgt := 34) (by decide) ⟨by omega, by omega⟩ (fun c_29 => ?_) (fun c_29 => ?_)
    · exact absurd c_29 (by decide)
    · refine z_iconst C dX3_swap_32 ?_
      refine m_iret C hret hH hS dX3_swap_33 ?_
      refine ⟨by rw [show (su σ 0 0 1) 0 0 = 1 from (su_self _ _ _ _)]; first | (rw [if_pos (by omega)]; done) | (rw [if_neg (by omega)]; done) | (rw [if_neg (by omega), if_pos (by omega)]; done) | (rw [if_neg (by omega), if_neg (by omega)]; done), fun hth => absurd ((show (su σ 0 0 1) 0 0 = 1 from (su_self _ _ _ _)).symm.trans hth) (by decide), fun _ => hI.keep rfl rfl rfl, frSu Fr.rf rfl⟩
  · refine z_aload_n C dX3_swap_9 hl 0 rfl ?_
    refine z_iload_n C dX3_swap_10 hl 2 rfl ?_
    refine m_ViF C hH hS (mm_isLine hOk σ x P (hP9) (hk9) (⟨by omega, by omega⟩)) (cwV 1 C.1.2.2.2.2 (lw_V q2413 q2415 qs63 q133 q2416) rfl rfl rfl (by decide +kernel) ⟨Nat.le_of_ble_eq_true rfl, Nat.le_of_ble_eq_true rfl⟩) rfl hl rfl (Nat.le_of_ble_eq_true rfl) dX3_swap_11 ⟨Nat.le_refl _, Nat.le_refl _⟩ (fun H locs hH hS => ?_)
    refine z_topi (fun z_11 hz_11 => ?_)
    have q_11 := inZ_or x 0 (pN P - 1)
    rw [← hz_11] at q_11
    refine z_ifeq C dX3_swap_14 (tgt := 21) (by decide) ⟨by omega, by omega⟩ (fun c_14 => ?_) (fun c_14 => ?_)
    · refine z_iconst C dX3_swap_21 ?_
      refine m_puts C hH hS 0 ⟨by decide, by decide⟩ q2185 rfl ⟨rfl, rfl⟩ dX3_swap_22 (fun H locs hH hS => ?_)
      refine z_aload_n C dX3_swap_25 hl 0 rfl ?_
      refine m_getsZ C hH 0 ⟨by decide, by decide⟩ 1 rfl q2185 rfl dX3_swap_26 ?_
      refine z_ifle C dX3_swap_29 (tgt := 34) (by decide) ⟨by omega, by omega⟩ (fun c_29_1 => ?_) (fun c_29_1 => ?_)
      · exact absurd c_29_1 (by decide)
      · refine z_iconst C dX3_swap_32 ?_
        refine m_iret C hret hH hS dX3_swap_33 ?_
        refine ⟨by rw [show (su σ 0 0 1) 0 0 = 1 from (su_self _ _ _ _)]; first | (rw [if_pos (by omega)]; done) | (rw [if_neg (by omega)]; done) | (rw [if_neg (by omega), if_pos (by omega)]; done) | (rw [if_neg (by omega), if_neg (by omega)]; done), fun hth => absurd ((show (su σ 0 0 1) 0 0 = 1 from (su_self _ _ _ _)).symm.trans hth) (by decide), fun _ => hI.keep rfl rfl rfl, frSu Fr.rf rfl⟩
    · refine z_iconst C dX3_swap_17 ?_
      refine z_goto C dX3_swap_18 (tgt := 22) (by decide) ?_
      refine m_puts C hH hS 0 ⟨by decide, by decide⟩ q2185 rfl ⟨rfl, rfl⟩ dX3_swap_22 (fun H locs hH hS => ?_)
      refine z_aload_n C dX3_swap_25 hl 0 rfl ?_
      refine m_getsZ C hH 0 ⟨by decide, by decide⟩ 0 rfl q2185 rfl dX3_swap_26 ?_
      refine z_ifle C dX3_swap_29 (tgt := 34) (by decide) ⟨by omega, by omega⟩ (fun c_29_2 => ?_) (fun c_29_2 => ?_)
      · refine z_aload_n C dX3_swap_34 hl 0 rfl ?_
        refine z_iload_n C dX3_swap_35 hl 1 rfl ?_
        refine z_iload_n C dX3_swap_36 hl 2 rfl ?_
        refine m_ViF C hH hS (mm_differs hOk (su σ 0 0 0) ln x P (hP9) (hk9) (by omega) (by omega)) (cwV 2 C.1.2.2.2.2 (lw_V q2401 q2403 qs61 q133 q2404) rfl rfl rfl (by decide +kernel) ⟨Nat.le_of_ble_eq_true rfl, Nat.le_of_ble_eq_true rfl⟩) rfl hl rfl (Nat.le_of_ble_eq_true rfl) dX3_swap_37 ⟨Nat.le_refl _, Nat.le_refl _⟩ (fun H locs hH hS => ?_)
        refine z_istore_n C [(3, .int (iI (dfZ P ln x))), (0, .ref o), (1, .int (iI ln)), (2, .int (iI x))] dX3_swap_40 hl (by decide) rfl (fun ls hl => ?_)
        refine z_aload_n C dX3_swap_41 hl 1 rfl ?_
        refine m_Vv C hH hS (mm_keeps hOk ((su σ 0 0 0)) P L (hI.keep rfl rfl rfl)) (cwV 0 C.1.2.2.2.2 (lw_V q2491 q2493 qs73 q133 q2494) rfl rfl rfl (by decide +kernel) ⟨Nat.le_of_ble_eq_true rfl, Nat.le_of_ble_eq_true rfl⟩) rfl hl rfl (Nat.le_of_ble_eq_true rfl) dX3_swap_42 ⟨Nat.le_refl _, Nat.le_refl _⟩ (fun s_42 H locs hp_42 hH hS => ?_)
        obtain ⟨hf42, hu42, h442⟩ := hp_42
        have e1 : s_42 1 = σ 1 := by rw [hf42.at 1 rfl]; rfl
        refine z_aload_n C dX3_swap_45 hl 1 rfl ?_
        refine z_aload_n C dX3_swap_46 hl 1 rfl ?_
        refine m_geta C hH 1 ⟨by decide, by decide⟩ q2186 rfl dX3_swap_47 ?_
        refine z_iload_n C dX3_swap_50 hl 2 rfl ?_
        refine z_iconst C dX3_swap_51 ?_
        refine m_SiF C hH hS (mm_dotAt hOk s_42 ln 0) (va_cwS 2 C.1.2.2.2.2 (lw_S q2332 q2333 q133 q2334) rfl rfl rfl (by decide +kernel) ⟨Nat.le_of_ble_eq_true rfl, Nat.le_of_ble_eq_true rfl⟩) rfl hl rfl (Nat.le_of_ble_eq_true rfl) dX3_swap_52 ⟨Nat.le_refl _, Nat.le_refl _⟩ (fun H locs hH hS => ?_)
        refine m_VvF C hH hS (mm_laysLower hOk s_42 1 (28 + 40 * ln + 0) (⟨by decide, by decide⟩) (by decide) (show 0 ≤ 28 + 40 * ln + 0 ∧ 28 + 40 * ln + 0 + 40 ≤ (828 : Int) by omega)) (cwV 2 C.1.2.2.2.2 (lw_V q2359 q2361 qs52 q133 q2362) rfl rfl rfl (by decide +kernel) ⟨Nat.le_of_ble_eq_true rfl, Nat.le_of_ble_eq_true rfl⟩) rfl hl rfl (Nat.le_of_ble_eq_true rfl) dX3_swap_55 ⟨Nat.le_refl _, Nat.le_refl _⟩ (fun H locs hH hS => ?_)
        refine z_aload_n C dX3_swap_58 hl 1 rfl ?_
        refine z_iload_n C dX3_swap_59 hl 3 rfl ?_
        refine z_iload_n C dX3_swap_60 hl 2 rfl ?_
        refine m_VvF C hH hS (mm_movesLine hOk (sa s_42 8 (wr (fun j => s_42 1 ((28 + 40 * ln + 0) + j)) (s_42 8) 0 40)) x ln (by omega) (by omega)) (cwV 2 C.1.2.2.2.2 (lw_V q2527 q2529 qs77 q133 q2530) rfl rfl rfl (by decide +kernel) ⟨Nat.le_of_ble_eq_true rfl, Nat.le_of_ble_eq_true rfl⟩) rfl hl rfl (Nat.le_of_ble_eq_true rfl) dX3_swap_61 ⟨Nat.le_refl _, Nat.le_refl _⟩ (fun H locs hH hS => ?_)
        refine z_iconst C dX3_swap_64 ?_
        refine z_istore C [(4, .int (iI 0)), (3, .int (iI (dfZ P ln x))), (0, .ref o), (1, .int (iI ln)), (2, .int (iI x))] dX3_swap_65 hl (by decide) rfl (fun ls hl => ?_)
        have J_67 : ∀ (fu : Nat) (k : Int) (s2 : Sg), (40 - k).toNat < fu → (0 ≤ k ∧ k ≤ 40) → (s2 = sa (sa s_42 8 (wr (fun j => s_42 1 (28 + 40 * ln + 0 + j)) (s_42 8) 0 40)) 1 (wr (fun j => s_42 1 (28 + 40 * ln + 0 + (j - (28 + 40 * x)))) (wr (fun j => s_42 1 (28 + 40 * x + (j - (28 + 40 * ln)))) (s_42 1) (28 + 40 * ln) (28 + 40 * ln + 40)) (28 + 40 * x) (28 + 40 * x + k))) → ∀ (H : Heap) (locs : List Loc) (ls : Array Slot), MH D dA A o ad s2 H → va_S A s0.heap H locs → lv_has ls 5 [(4, .int (iI k)), (3, .int (iI (dfZ P ln x))), (0, .ref o), (1, .int (iI ln)), (2, .int (iI x))] → W pp l ee (rmL 4 0 0) s0 mm ([.ref o, .int (iI ln), .int (iI x)] : List Value).toArray below meth cc0 H locs 0 0 (MQ below (MQi D dA A o ad (fun r σ' => σ' 0 0 = (if (0 ≤ ln ∧ ln ≤ pN P - 1) ∧ 0 ≤ x ∧ x ≤ pN P - 1 then 0 else 1) ∧ (σ' 0 0 = 0 → r = dfZ P ln x ∧ MIv σ' (eSwp P ln x) (pkL L P)) ∧ (σ' 0 0 ≠ 0 → MIv σ' P L) ∧ Fr [0, 1, 3, 4, 7, 8, 9, 10, 11, 12, 13, 14, 15, 16, 17, 18, 19] σ σ')) ([.ref o, .int (iI ln), .int (iI x)] : List Value).toArray s0 0 0 A) (F0 mm 67 ls []) := by
          intro fu
          induction fu with
          | zero => intro k s2 hn; exact absurd hn (Nat.not_lt_zero _)
          | succ fu ih_67 =>
            intro k s2 hn hk0 hs2 H locs ls hH hS hl
            refine z_iload C dX3_swap_67 hl 0 rfl ?_
            refine z_bipush C dX3_swap_69 (by decide +kernel) ?_
            refine z_icmpge C dX3_swap_71 (tgt := 98) (by decide) ⟨⟨by omega, by omega⟩, ⟨by omega, by omega⟩⟩ (fun c_71 => ?_) (fun c_71 => ?_)
            · refine z_iload_n C dX3_swap_98 hl 1 rfl ?_
              refine m_iret C hret hH hS dX3_swap_99 ?_
              have en : pN P = ((pB P).length : Int) := rfl
              refine ⟨by rw [hs2]; show s_42 0 0 = _; rw [show s_42 0 0 = 0 from (by show s_42 0 0 = 0; rw [hf42.at 0 rfl]; exact su_self _ _ _ _)]; first | (rw [if_pos (by omega)]; done) | (rw [if_neg (by omega)]; done) | (rw [if_neg (by omega), if_pos (by omega)]; done) | (rw [if_neg (by omega), if_neg (by omega)]; done), fun _ => ⟨rfl, ?_⟩, fun hth => absurd (by rw [hs2]; exact (by show s_42 0 0 = 0; rw [hf42.at 0 rfl]; exact su_self _ _ _ _)) hth, by rw [hs2]; exact frSa (frSa (((frSu Fr.rf rfl)).th hf42 rfl) rfl) rfl⟩
              refine ⟨?_, hk9.swp ln x, by rw [hs2]; exact hu42, by rw [hs2]; exact h442, pkL_len L P hL, pkL_ok hLk hk9⟩
              rw [hs2, sa_k, show k = 40 by omega, e1]
              refine PgAt.bits hP9 (fun j a b c => by rw [wr_out _ _ (by omega), wr_out _ _ (by omega)]) (by rw [wr_out _ _ (by omega), wr_out _ _ (by omega), p2, List.length_set, List.length_set]) (fun r k a b c d => ?_)
              rw [List.length_set, List.length_set] at b
              rw [List.getD_eq_getElem?_getD, List.getElem?_set]
              by_cases h1 : r = x
              · subst h1
                rw [wr_in _ _ (by omega) (by omega), if_pos rfl, if_pos (by rw [List.length_set]; omega), show 28 + 40 * ln + 0 + (28 + 40 * r + k - (28 + 40 * r)) = 28 + 40 * ln + k by omega, p5 ln k (by omega) (by omega) c d]; rfl
              · rw [if_neg (by omega), List.getElem?_set, wr_out _ _ (by omega)]
                by_cases h2 : r = ln
                · subst h2
                  rw [wr_in _ _ (by omega) (by omega), if_pos rfl, if_pos (by omega), show 28 + 40 * x + (28 + 40 * r + k - (28 + 40 * r)) = 28 + 40 * x + k by omega, p5 x k (by omega) (by omega) c d]; rfl
                · rw [wr_out _ _ (by omega), if_neg (by omega), p5 r k a (by omega) c d]
                  unfold lnZ; rw [List.getD_eq_getElem?_getD]
            · refine z_aload_n C dX3_swap_74 hl 2 rfl ?_
              refine m_geta C hH 1 ⟨by decide, by decide⟩ q2186 rfl dX3_swap_75 ?_
              refine z_iload_n C dX3_swap_78 hl 4 rfl ?_
              refine z_iload C dX3_swap_79 hl 0 rfl ?_
              refine m_SiF C hH hS (mm_dotAt hOk s2 x k) (va_cwS 2 C.1.2.2.2.2 (lw_S q2332 q2333 q133 q2334) rfl rfl rfl (by decide +kernel) ⟨Nat.le_of_ble_eq_true rfl, Nat.le_of_ble_eq_true rfl⟩) rfl hl rfl (Nat.le_of_ble_eq_true rfl) dX3_swap_81 ⟨Nat.le_refl _, Nat.le_refl _⟩ (fun H locs hH hS => ?_)
              refine z_aload_n C dX3_swap_84 hl 2 rfl ?_
              refine m_geta C hH 8 ⟨by decide, by decide⟩ q2193 rfl dX3_swap_85 ?_
              refine z_iload C dX3_swap_88 hl 0 rfl ?_
              refine m_ialdZ C hOk hH 8 ⟨by decide, by decide⟩ k (s_42 1 (28 + 40 * ln + 0 + k)) (by rw [hs2]; show wr (fun j => s_42 1 (28 + 40 * ln + 0 + j)) (s_42 8) 0 40 k = _; rw [wr_in _ _ hk0.1 (by omega)]) (show 0 ≤ k ∧ k < (40 : Int) by omega) dX3_swap_90 ?_
              refine m_iast C hOk hH hS 1 ⟨by decide, by decide⟩ (show 0 ≤ (28 + 40 * x + k) ∧ (28 + 40 * x + k) < (828 : Int) by omega) dX3_swap_91 (fun H locs hH hS => ?_)
              refine z_iinc C [(4, .int (iI (k + 1))), (3, .int (iI (dfZ P ln x))), (0, .ref o), (1, .int (iI ln)), (2, .int (iI x))] dX3_swap_92 hl 0 rfl (by decide) rfl (fun ls hl => ?_)
              refine z_goto C dX3_swap_95 (tgt := 67) (by decide) ?_
              exact ih_67 ((k + 1)) ((su s2 1 (28 + 40 * x + k) (s_42 1 (28 + 40 * ln + 0 + k)))) (by omega) (by omega) (by rw [hs2, ← Int.add_assoc, ← su_wr _ _ _ _ (show 28 + 40 * x ≤ 28 + 40 * x + k by omega)]; rw [show 28 + 40 * ln + 0 + (28 + 40 * x + k - (28 + 40 * x)) = 28 + 40 * ln + 0 + k by omega]) _ _ _ hH hS (lv_sub hl [0, 1, 2, 3, 4] rfl)
        exact J_67 _ 0 ((sa (sa s_42 8 (wr (fun j => s_42 1 ((28 + 40 * ln + 0) + j)) (s_42 8) 0 40)) 1 (wr (fun j => (sa s_42 8 (wr (fun j => s_42 1 ((28 + 40 * ln + 0) + j)) (s_42 8) 0 40)) 1 (28 + 40 * x + (j - (28 + 40 * ln)))) ((sa s_42 8 (wr (fun j => s_42 1 ((28 + 40 * ln + 0) + j)) (s_42 8) 0 40)) 1) (28 + 40 * ln) (28 + 40 * ln + 40)))) (Nat.lt_succ_self _) (by omega) (by rw [show 28 + 40 * x + (0 : Int) = 28 + 40 * x from Int.add_zero _, wr_0]; rfl) _ _ _ hH hS (lv_sub hl [0, 1, 2, 3, 4] rfl)
      · exact absurd c_29_2 (by decide)
