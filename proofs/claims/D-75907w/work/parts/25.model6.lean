/-! the reference's methods, 6 (written by gen/model6.py) -/
set_option maxRecDepth 100000
set_option maxHeartbeats 1000000 in
theorem mm_sumOf {l : Launch} {D : va_G} {dA : Nat → ClassId} {A : Nat → Prop} {o : Nat} {ad : Nat → Nat} (hOk : mOk o ad) (σ : Sg) (x : Int) (P : Pg) (hP : PgAt (σ 1) P) (hk : PgOk P) (hx : 8 ≤ x ∧ x ≤ 12 ∧ x ≠ 11) : Met l yX3_sumOf (ws_ yX3_sumOf cX3_sumOf 4 (some .int)) (rmL 7 0 0) (MP D dA A o ad [.ref o, .int (iI x)] σ) (MQi D dA A o ad (fun r σ' => r = smZ P x ∧ Fr [7, 8, 9, 10, 11, 12, 13, 14, 18, 19] σ σ')) 0 0 A := by
  refine z_ofW (by decide) rfl ?_
  intro pp ee s0 mm below meth cc0 ls C hret hname hl hH hS
  have hl : lv_has ls 4 [(0, .ref o), (1, .int (iI x))] := hl
  have hk9 := hk
  have hP9 := hP
  obtain ⟨k1, k2, k3, k4, k5, k6, k7, k8, k9, k10, k11⟩ := hk
  obtain ⟨p1, p2, p3, p4, p5⟩ := hP
  have pn0 : 0 ≤ pN P := by show (0 : Int) ≤ ((pB P).length : Int); omega
  refine z_iconst C dX3_sumOf_0 ?_
  refine z_istore_n C [(2, .int (iI 0)), (0, .ref o), (1, .int (iI x))] dX3_sumOf_1 hl (by decide) rfl (fun ls hl => ?_)
  refine z_iconst C dX3_sumOf_2 ?_
  refine z_istore_n C [(3, .int (iI 0)), (2, .int (iI 0)), (0, .ref o), (1, .int (iI x))] dX3_sumOf_3 hl (by decide) rfl (fun ls hl => ?_)
  have J_4 : ∀ (n : Nat) (t : Int) (k : Int) (s1 : Sg), (pN P - k).toNat < n → (0 ≤ k ∧ k ≤ pN P) → (t = cnt (fun l => if x = 8 then bkZ P l else if x = 9 then chZ P l else if x = 10 then isMk P (pS P 0) l else if dfZ P l (l - 1) = 0 then 1 else 0) k) → (Fr [7, 8, 9, 10, 11, 12, 13, 14, 18, 19] σ s1) → ∀ (H : Heap) (locs : List Loc) (ls : Array Slot), MH D dA A o ad s1 H → va_S A s0.heap H locs → lv_has ls 4 [(3, .int (iI k)), (2, .int (iI t)), (0, .ref o), (1, .int (iI x))] → W pp l ee (rmL 7 0 0) s0 mm ([.ref o, .int (iI x)] : List Value).toArray below meth cc0 H locs 0 0 (MQ below (MQi D dA A o ad (fun r σ' => r = smZ P x ∧ Fr [7, 8, 9, 10, 11, 12, 13, 14, 18, 19] σ σ')) ([.ref o, .int (iI x)] : List Value).toArray s0 0 0 A) (F0 mm 4 ls []) := by
    intro n
    induction n with
    | zero => intro t k s1 hn; exact absurd hn (Nat.not_lt_zero _)
    | succ n ih_4 =>
      intro t k s1 hn hk0 ht hf H locs ls hH hS hl
      refine z_iload_n C dX3_sumOf_4 hl 0 rfl ?_
      refine z_aload_n C dX3_sumOf_5 hl 2 rfl ?_
      refine m_geta C hH 1 ⟨by decide, by decide⟩ q2186 rfl dX3_sumOf_6 ?_
      refine z_iconst C dX3_sumOf_9 ?_
      refine m_ialdZ C hOk hH 1 ⟨by decide, by decide⟩ 1 (pN P) (by rw [hf.at 1 rfl]; exact p2) (show 0 ≤ 1 ∧ 1 < (828 : Int) by omega) dX3_sumOf_10 ?_
      refine z_icmpge C dX3_sumOf_11 (tgt := 89) (by decide) ⟨⟨by omega, by omega⟩, ⟨by omega, by omega⟩⟩ (fun c_11 => ?_) (fun c_11 => ?_)
      · refine z_iload_n C dX3_sumOf_89 hl 1 rfl ?_
        refine m_iret C hret hH hS dX3_sumOf_90 ?_
        refine ⟨?_, hf⟩
        unfold smZ; rw [ht, show k = pN P by omega]
      · have hP8 : PgAt (s1 1) P := by rw [hf.at 1 rfl]; exact hP9
        have d1 := cnt_in (f := fun j => if lnZ P k j = loZ P (k - 1) j then 0 else 1) (w := pW P) (m := 1) (by omega) (by omega) (fun j _ _ => by split <;> omega)
        have d2 : dfZ P k (k - 1) = cnt (fun j => if lnZ P k j = loZ P (k - 1) j then 0 else 1) (pW P) := rfl
        have J_81 : ∀ (v : Int) (s2 : Sg), (v = (if x = 8 then bkZ P k else if x = 9 then chZ P k else if x = 10 then isMk P (pS P 0) k else if dfZ P k (k - 1) = 0 then 1 else 0)) → (Fr [7, 8, 9, 10, 11, 12, 13, 14, 18, 19] σ s2) → ∀ (H : Heap) (locs : List Loc) (ls : Array Slot), MH D dA A o ad s2 H → va_S A s0.heap H locs → lv_has ls 4 [(3, .int (iI k)), (2, .int (iI t)), (0, .ref o), (1, .int (iI x))] → W pp l ee (rmL 7 0 0) s0 mm ([.ref o, .int (iI x)] : List Value).toArray below meth cc0 H locs 0 0 (MQ below (MQi D dA A o ad (fun r σ' => r = smZ P x ∧ Fr [7, 8, 9, 10, 11, 12, 13, 14, 18, 19] σ σ')) ([.ref o, .int (iI x)] : List Value).toArray s0 0 0 A) (F0 mm 81 ls [.int (iI v), .int (iI t)]) := by
          intro v s2 hv hf2 H locs ls hH hS hl
          refine z_iadd C dX3_sumOf_81 ?_
          refine z_istore_n C [(2, .int (iI (t + v))), (3, .int (iI k)), (0, .ref o), (1, .int (iI x))] dX3_sumOf_82 hl (by decide) rfl (fun ls hl => ?_)
          refine z_iinc C [(3, .int (iI (k + 1))), (2, .int (iI (t + v))), (0, .ref o), (1, .int (iI x))] dX3_sumOf_83 hl 1 rfl (by decide) rfl (fun ls hl => ?_)
          refine z_goto C dX3_sumOf_86 (tgt := 4) (by decide) ?_
          exact ih_4 ((t + v)) ((k + 1)) s2 (by omega) (by omega) (by rw [cnt_go _ hk0.1, ← ht, ← hv]) (hf2) _ _ _ hH hS (lv_sub hl [0, 1, 2, 3] rfl)
        refine z_iload_n C dX3_sumOf_14 hl 1 rfl ?_
        refine z_iload_n C dX3_sumOf_15 hl 3 rfl ?_
        refine z_bipush C dX3_sumOf_16 (by decide +kernel) ?_
        refine z_icmpne C dX3_sumOf_18 (tgt := 29) (by decide) ⟨⟨by omega, by omega⟩, ⟨by omega, by omega⟩⟩ (fun c_18 => ?_) (fun c_18 => ?_)
        · refine z_iload_n C dX3_sumOf_29 hl 3 rfl ?_
          refine z_bipush C dX3_sumOf_30 (by decide +kernel) ?_
          refine z_icmpne C dX3_sumOf_32 (tgt := 43) (by decide) ⟨⟨by omega, by omega⟩, ⟨by omega, by omega⟩⟩ (fun c_32 => ?_) (fun c_32 => ?_)
          · refine z_iload_n C dX3_sumOf_43 hl 3 rfl ?_
            refine z_bipush C dX3_sumOf_44 (by decide +kernel) ?_
            refine z_icmpne C dX3_sumOf_46 (tgt := 65) (by decide) ⟨⟨by omega, by omega⟩, ⟨by omega, by omega⟩⟩ (fun c_46 => ?_) (fun c_46 => ?_)
            · refine z_aload_n C dX3_sumOf_65 hl 2 rfl ?_
              refine z_iload_n C dX3_sumOf_66 hl 0 rfl ?_
              refine z_iload_n C dX3_sumOf_67 hl 0 rfl ?_
              refine z_iconst C dX3_sumOf_68 ?_
              refine z_isub C dX3_sumOf_69 ?_
              refine m_ViF C hH hS (mm_differs hOk s1 k (k - 1) P (hP8) (hk9) (by omega) (by omega)) (cwV 2 C.1.2.2.2.2 (lw_V q2401 q2403 qs61 q133 q2404) rfl rfl rfl (by decide +kernel) ⟨Nat.le_of_ble_eq_true rfl, Nat.le_of_ble_eq_true rfl⟩) rfl hl rfl (Nat.le_of_ble_eq_true rfl) dX3_sumOf_70 ⟨Nat.le_refl _, Nat.le_refl _⟩ (fun H locs hH hS => ?_)
              refine z_ifne C dX3_sumOf_73 (tgt := 80) (by decide) ⟨by omega, by omega⟩ (fun c_73 => ?_) (fun c_73 => ?_)
              · refine z_iconst C dX3_sumOf_80 ?_
                exact J_81 0 s1 (by first | (rw [if_pos (by omega)]; done) | (rw [if_neg (by omega), if_pos (by omega)]; done) | (rw [if_neg (by omega), if_neg (by omega), if_pos (by omega)]; omega) | (rw [if_neg (by omega), if_neg (by omega), if_neg (by omega)]; first | (rw [if_pos (by omega)]; done) | (rw [if_neg (by omega)]; done))) (hf) _ _ _ hH hS (lv_sub hl [0, 1, 2, 3] rfl)
              · refine z_iconst C dX3_sumOf_76 ?_
                refine z_goto C dX3_sumOf_77 (tgt := 81) (by decide) ?_
                exact J_81 1 s1 (by first | (rw [if_pos (by omega)]; done) | (rw [if_neg (by omega), if_pos (by omega)]; done) | (rw [if_neg (by omega), if_neg (by omega), if_pos (by omega)]; omega) | (rw [if_neg (by omega), if_neg (by omega), if_neg (by omega)]; first | (rw [if_pos (by omega)]; done) | (rw [if_neg (by omega)]; done))) (hf) _ _ _ hH hS (lv_sub hl [0, 1, 2, 3] rfl)
            · refine z_aload_n C dX3_sumOf_49 hl 2 rfl ?_
              refine z_iload_n C dX3_sumOf_50 hl 0 rfl ?_
              refine m_Vi C hH hS (mm_isMark hOk s1 k P (pS P 0) (hP8) (hk9) (by omega) (by rw [hf.at 1 rfl]; exact p3 0 (by omega) (by omega)) (by omega)) (cwV 1 C.1.2.2.2.2 (lw_V q2343 q2345 qs48 q133 q2346) rfl rfl rfl (by decide +kernel) ⟨Nat.le_of_ble_eq_true rfl, Nat.le_of_ble_eq_true rfl⟩) rfl hl rfl (Nat.le_of_ble_eq_true rfl) dX3_sumOf_51 ⟨Nat.le_refl _, Nat.le_refl _⟩ (fun r_51 s_51 H locs hp_51 hH hS => ?_)
              obtain ⟨hr51, hf51⟩ := hp_51
              have i01 := isMk_01 P (pS P 0) k
              refine z_ifeq C dX3_sumOf_54 (tgt := 61) (by decide) ⟨by omega, by omega⟩ (fun c_54 => ?_) (fun c_54 => ?_)
              · refine z_iconst C dX3_sumOf_61 ?_
                refine z_goto C dX3_sumOf_62 (tgt := 81) (by decide) ?_
                exact J_81 0 s_51 (by first | (rw [if_pos (by omega)]; done) | (rw [if_neg (by omega), if_pos (by omega)]; done) | (rw [if_neg (by omega), if_neg (by omega), if_pos (by omega)]; omega) | (rw [if_neg (by omega), if_neg (by omega), if_neg (by omega)]; first | (rw [if_pos (by omega)]; done) | (rw [if_neg (by omega)]; done))) ((hf.th hf51 rfl)) _ _ _ hH hS (lv_sub hl [0, 1, 2, 3] rfl)
              · refine z_iconst C dX3_sumOf_57 ?_
                refine z_goto C dX3_sumOf_58 (tgt := 81) (by decide) ?_
                exact J_81 1 s_51 (by first | (rw [if_pos (by omega)]; done) | (rw [if_neg (by omega), if_pos (by omega)]; done) | (rw [if_neg (by omega), if_neg (by omega), if_pos (by omega)]; omega) | (rw [if_neg (by omega), if_neg (by omega), if_neg (by omega)]; first | (rw [if_pos (by omega)]; done) | (rw [if_neg (by omega)]; done))) ((hf.th hf51 rfl)) _ _ _ hH hS (lv_sub hl [0, 1, 2, 3] rfl)
          · refine z_aload_n C dX3_sumOf_35 hl 2 rfl ?_
            refine z_iload_n C dX3_sumOf_36 hl 0 rfl ?_
            refine m_ViF C hH hS (mm_changes hOk s1 k P (hP8) (hk9) (by omega)) (cwV 1 C.1.2.2.2.2 (lw_V q2335 q2337 qs46 q133 q2338) rfl rfl rfl (by decide +kernel) ⟨Nat.le_of_ble_eq_true rfl, Nat.le_of_ble_eq_true rfl⟩) rfl hl rfl (Nat.le_of_ble_eq_true rfl) dX3_sumOf_37 ⟨Nat.le_refl _, Nat.le_refl _⟩ (fun H locs hH hS => ?_)
            refine z_goto C dX3_sumOf_40 (tgt := 81) (by decide) ?_
            exact J_81 ((chZ P k)) s1 (by first | (rw [if_pos (by omega)]; done) | (rw [if_neg (by omega), if_pos (by omega)]; done) | (rw [if_neg (by omega), if_neg (by omega), if_pos (by omega)]; omega) | (rw [if_neg (by omega), if_neg (by omega), if_neg (by omega)]; first | (rw [if_pos (by omega)]; done) | (rw [if_neg (by omega)]; done))) (hf) _ _ _ hH hS (lv_sub hl [0, 1, 2, 3] rfl)
        · refine z_aload_n C dX3_sumOf_21 hl 2 rfl ?_
          refine z_iload_n C dX3_sumOf_22 hl 0 rfl ?_
          refine m_ViF C hH hS (mm_blacks hOk s1 k P (hP8) (hk9) (by omega)) (cwV 1 C.1.2.2.2.2 (lw_V q2328 q2330 qs45 q133 q2331) rfl rfl rfl (by decide +kernel) ⟨Nat.le_of_ble_eq_true rfl, Nat.le_of_ble_eq_true rfl⟩) rfl hl rfl (Nat.le_of_ble_eq_true rfl) dX3_sumOf_23 ⟨Nat.le_refl _, Nat.le_refl _⟩ (fun H locs hH hS => ?_)
          refine z_goto C dX3_sumOf_26 (tgt := 81) (by decide) ?_
          exact J_81 ((bkZ P k)) s1 (by first | (rw [if_pos (by omega)]; done) | (rw [if_neg (by omega), if_pos (by omega)]; done) | (rw [if_neg (by omega), if_neg (by omega), if_pos (by omega)]; omega) | (rw [if_neg (by omega), if_neg (by omega), if_neg (by omega)]; first | (rw [if_pos (by omega)]; done) | (rw [if_neg (by omega)]; done))) (hf) _ _ _ hH hS (lv_sub hl [0, 1, 2, 3] rfl)
  exact J_4 _ 0 0 σ (Nat.lt_succ_self _) (by omega) (rfl) (Fr.rf) _ _ _ hH hS (lv_sub hl [0, 1, 2, 3] rfl)
set_option maxHeartbeats 1000000 in
theorem mm_count {l : Launch} {D : va_G} {dA : Nat → ClassId} {A : Nat → Prop} {o : Nat} {ad : Nat → Nat} (hOk : mOk o ad) (σ : Sg) (ln : Int) (P : Pg) (hP : PgAt (σ 1) P) (hk : PgOk P) (hr : zR ln) (hu : 0 ≤ σ 4 0 ∧ σ 4 0 ≤ 10) : Met l yX3_count (ws_ yX3_count cX3_count 2 (some .int)) (rmL 8 0 0) (MP D dA A o ad [.ref o, .int (iI ln)] σ) (MQi D dA A o ad (fun r σ' => σ' 0 0 = (if 0 ≤ ln ∧ ln ≤ 12 then 0 else 1) ∧ (σ' 0 0 = 0 → r = ctZ P (σ 4 0) ln) ∧ Fr [0, 7, 8, 9, 10, 11, 12, 13, 14, 15, 16, 17, 18, 19] σ σ')) 0 0 A := by
  refine z_ofW (by decide) rfl ?_
  intro pp ee s0 mm below meth cc0 ls C hret hname hl hH hS
  have hl : lv_has ls 2 [(0, .ref o), (1, .int (iI ln))] := hl
  have hk9 := hk
  have hP9 := hP
  obtain ⟨k1, k2, k3, k4, k5, k6, k7, k8, k9, k10, k11⟩ := hk
  obtain ⟨p1, p2, p3, p4, p5⟩ := hP
  have pn0 : 0 ≤ pN P := by show (0 : Int) ≤ ((pB P).length : Int); omega
  have hr_1 := hr.1
  have hr_2 := hr.2
  refine z_aload_n C dX3_count_0 hl 0 rfl ?_
  refine z_iload_n C dX3_count_1 hl 1 rfl ?_
  refine z_iconst C dX3_count_2 ?_
  refine z_bipush C dX3_count_3 (by decide +kernel) ?_
  refine m_SiF C hH hS (mm_in hOk σ ln 0 12 (⟨by omega, by omega⟩) (⟨by omega, by omega⟩) (⟨by omega, by omega⟩)) (va_cwS 3 C.1.2.2.2.2 (lw_S q2321 q2322 q133 q2323) rfl rfl rfl (by decide +kernel) ⟨Nat.le_of_ble_eq_true rfl, Nat.le_of_ble_eq_true rfl⟩) rfl hl rfl (Nat.le_of_ble_eq_true rfl) dX3_count_5 ⟨Nat.le_refl _, Nat.le_refl _⟩ (fun H locs hH hS => ?_)
  refine z_topi (fun z_5 hz_5 => ?_)
  have q_5 := inZ_or ln 0 12
  rw [← hz_5] at q_5
  refine z_ifeq C dX3_count_8 (tgt := 15) (by decide) ⟨by omega, by omega⟩ (fun c_8 => ?_) (fun c_8 => ?_)
  · refine z_iconst C dX3_count_15 ?_
    refine m_puts C hH hS 0 ⟨by decide, by decide⟩ q2185 rfl ⟨rfl, rfl⟩ dX3_count_16 (fun H locs hH hS => ?_)
    refine z_aload_n C dX3_count_19 hl 0 rfl ?_
    refine m_getsZ C hH 0 ⟨by decide, by decide⟩ 1 rfl q2185 rfl dX3_count_20 ?_
    refine z_ifle C dX3_count_23 (tgt := 30) (by decide) ⟨by omega, by omega⟩ (fun c_23 => ?_) (fun c_23 => ?_)
    · exact absurd c_23 (by decide)
    · refine z_iconst C dX3_count_26 ?_
      refine z_goto C dX3_count_27 (tgt := 31) (by decide) ?_
      refine z_tsIn C (z := ((-1))) rfl dX3_count_31 (by decide) rfl (tgt := 100) (by decide) ?_
      refine z_iconst C dX3_count_100 ?_
      refine m_iret C hret hH hS dX3_count_101 ?_
      refine ⟨by rw [show (su σ 0 0 1) 0 0 = 1 from (su_self _ _ _ _)]; first | (rw [if_pos (by omega)]; done) | (rw [if_neg (by omega)]; done) | (rw [if_neg (by omega), if_pos (by omega)]; done) | (rw [if_neg (by omega), if_neg (by omega)]; done), fun hth => ?_, (frSu Fr.rf rfl)⟩
      exact absurd ((show (su σ 0 0 1) 0 0 = 1 from (su_self _ _ _ _)).symm.trans hth) (by decide)
  · refine z_iconst C dX3_count_11 ?_
    refine z_goto C dX3_count_12 (tgt := 16) (by decide) ?_
    refine m_puts C hH hS 0 ⟨by decide, by decide⟩ q2185 rfl ⟨rfl, rfl⟩ dX3_count_16 (fun H locs hH hS => ?_)
    refine z_aload_n C dX3_count_19 hl 0 rfl ?_
    refine m_getsZ C hH 0 ⟨by decide, by decide⟩ 0 rfl q2185 rfl dX3_count_20 ?_
    refine z_ifle C dX3_count_23 (tgt := 30) (by decide) ⟨by omega, by omega⟩ (fun c_23_1 => ?_) (fun c_23_1 => ?_)
    · refine z_iload_n C dX3_count_30 hl 1 rfl ?_
      rcases (show ln = -1 ∨ ln = 0 ∨ ln = 1 ∨ ln = 2 ∨ ln = 3 ∨ ln = 4 ∨ ln = 5 ∨ ln = 6 ∨ ln = 7 ∨ ln = 8 ∨ ln = 9 ∨ ln = 10 ∨ ln = 11 ∨ ln = 12 ∨ (ln < -1 ∨ 12 < ln) by omega) with ts_31 | ts_31 | ts_31 | ts_31 | ts_31 | ts_31 | ts_31 | ts_31 | ts_31 | ts_31 | ts_31 | ts_31 | ts_31 | ts_31 | ts_31
      · exact absurd ts_31 (by omega)
      · refine z_tsIn C ts_31 dX3_count_31 (by decide) rfl (tgt := 127) (by decide) ?_
        refine z_aload_n C dX3_count_127 hl 0 rfl ?_
        refine m_geta C hH 1 ⟨by decide, by decide⟩ q2186 rfl dX3_count_128 ?_
        refine z_iconst C dX3_count_131 ?_
        refine z_iload_n C dX3_count_132 hl 1 rfl ?_
        refine z_iadd C dX3_count_133 ?_
        refine m_ialdZ C hOk hH 1 ⟨by decide, by decide⟩ (2 + ln) (pS P ln) (by have := p3 ln (by omega) (by omega); exact this) (show 0 ≤ (2 + ln) ∧ (2 + ln) < (828 : Int) by omega) dX3_count_134 ?_
        refine m_iret C hret hH hS dX3_count_135 ?_
        refine ⟨by rw [show (su σ 0 0 0) 0 0 = 0 from (su_self _ _ _ _)]; first | (rw [if_pos (by omega)]; done) | (rw [if_neg (by omega)]; done) | (rw [if_neg (by omega), if_pos (by omega)]; done) | (rw [if_neg (by omega), if_neg (by omega)]; done), fun hth => ?_, (frSu Fr.rf rfl)⟩
        unfold ctZ; rw [if_neg (by omega), if_neg (by omega), if_neg (by omega), if_neg (by omega)]
      · refine z_tsIn C ts_31 dX3_count_31 (by decide) rfl (tgt := 127) (by decide) ?_
        refine z_aload_n C dX3_count_127 hl 0 rfl ?_
        refine m_geta C hH 1 ⟨by decide, by decide⟩ q2186 rfl dX3_count_128 ?_
        refine z_iconst C dX3_count_131 ?_
        refine z_iload_n C dX3_count_132 hl 1 rfl ?_
        refine z_iadd C dX3_count_133 ?_
        refine m_ialdZ C hOk hH 1 ⟨by decide, by decide⟩ (2 + ln) (pS P ln) (by have := p3 ln (by omega) (by omega); exact this) (show 0 ≤ (2 + ln) ∧ (2 + ln) < (828 : Int) by omega) dX3_count_134 ?_
        refine m_iret C hret hH hS dX3_count_135 ?_
        refine ⟨by rw [show (su σ 0 0 0) 0 0 = 0 from (su_self _ _ _ _)]; first | (rw [if_pos (by omega)]; done) | (rw [if_neg (by omega)]; done) | (rw [if_neg (by omega), if_pos (by omega)]; done) | (rw [if_neg (by omega), if_neg (by omega)]; done), fun hth => ?_, (frSu Fr.rf rfl)⟩
        unfold ctZ; rw [if_neg (by omega), if_neg (by omega), if_neg (by omega), if_neg (by omega)]
      · refine z_tsIn C ts_31 dX3_count_31 (by decide) rfl (tgt := 127) (by decide) ?_
        refine z_aload_n C dX3_count_127 hl 0 rfl ?_
        refine m_geta C hH 1 ⟨by decide, by decide⟩ q2186 rfl dX3_count_128 ?_
        refine z_iconst C dX3_count_131 ?_
        refine z_iload_n C dX3_count_132 hl 1 rfl ?_
        refine z_iadd C dX3_count_133 ?_
        refine m_ialdZ C hOk hH 1 ⟨by decide, by decide⟩ (2 + ln) (pS P ln) (by have := p3 ln (by omega) (by omega); exact this) (show 0 ≤ (2 + ln) ∧ (2 + ln) < (828 : Int) by omega) dX3_count_134 ?_
        refine m_iret C hret hH hS dX3_count_135 ?_
        refine ⟨by rw [show (su σ 0 0 0) 0 0 = 0 from (su_self _ _ _ _)]; first | (rw [if_pos (by omega)]; done) | (rw [if_neg (by omega)]; done) | (rw [if_neg (by omega), if_pos (by omega)]; done) | (rw [if_neg (by omega), if_neg (by omega)]; done), fun hth => ?_, (frSu Fr.rf rfl)⟩
        unfold ctZ; rw [if_neg (by omega), if_neg (by omega), if_neg (by omega), if_neg (by omega)]
      · refine z_tsIn C ts_31 dX3_count_31 (by decide) rfl (tgt := 127) (by decide) ?_
        refine z_aload_n C dX3_count_127 hl 0 rfl ?_
        refine m_geta C hH 1 ⟨by decide, by decide⟩ q2186 rfl dX3_count_128 ?_
        refine z_iconst C dX3_count_131 ?_
        refine z_iload_n C dX3_count_132 hl 1 rfl ?_
        refine z_iadd C dX3_count_133 ?_
        refine m_ialdZ C hOk hH 1 ⟨by decide, by decide⟩ (2 + ln) (pS P ln) (by have := p3 ln (by omega) (by omega); exact this) (show 0 ≤ (2 + ln) ∧ (2 + ln) < (828 : Int) by omega) dX3_count_134 ?_
        refine m_iret C hret hH hS dX3_count_135 ?_
        refine ⟨by rw [show (su σ 0 0 0) 0 0 = 0 from (su_self _ _ _ _)]; first | (rw [if_pos (by omega)]; done) | (rw [if_neg (by omega)]; done) | (rw [if_neg (by omega), if_pos (by omega)]; done) | (rw [if_neg (by omega), if_neg (by omega)]; done), fun hth => ?_, (frSu Fr.rf rfl)⟩
        unfold ctZ; rw [if_neg (by omega), if_neg (by omega), if_neg (by omega), if_neg (by omega)]
      · refine z_tsIn C ts_31 dX3_count_31 (by decide) rfl (tgt := 127) (by decide) ?_
        refine z_aload_n C dX3_count_127 hl 0 rfl ?_
        refine m_geta C hH 1 ⟨by decide, by decide⟩ q2186 rfl dX3_count_128 ?_
        refine z_iconst C dX3_count_131 ?_
        refine z_iload_n C dX3_count_132 hl 1 rfl ?_
        refine z_iadd C dX3_count_133 ?_
        refine m_ialdZ C hOk hH 1 ⟨by decide, by decide⟩ (2 + ln) (pS P ln) (by have := p3 ln (by omega) (by omega); exact this) (show 0 ≤ (2 + ln) ∧ (2 + ln) < (828 : Int) by omega) dX3_count_134 ?_
        refine m_iret C hret hH hS dX3_count_135 ?_
        refine ⟨by rw [show (su σ 0 0 0) 0 0 = 0 from (su_self _ _ _ _)]; first | (rw [if_pos (by omega)]; done) | (rw [if_neg (by omega)]; done) | (rw [if_neg (by omega), if_pos (by omega)]; done) | (rw [if_neg (by omega), if_neg (by omega)]; done), fun hth => ?_, (frSu Fr.rf rfl)⟩
        unfold ctZ; rw [if_neg (by omega), if_neg (by omega), if_neg (by omega), if_neg (by omega)]
      · refine z_tsIn C ts_31 dX3_count_31 (by decide) rfl (tgt := 127) (by decide) ?_
        refine z_aload_n C dX3_count_127 hl 0 rfl ?_
        refine m_geta C hH 1 ⟨by decide, by decide⟩ q2186 rfl dX3_count_128 ?_
        refine z_iconst C dX3_count_131 ?_
        refine z_iload_n C dX3_count_132 hl 1 rfl ?_
        refine z_iadd C dX3_count_133 ?_
        refine m_ialdZ C hOk hH 1 ⟨by decide, by decide⟩ (2 + ln) (pS P ln) (by have := p3 ln (by omega) (by omega); exact this) (show 0 ≤ (2 + ln) ∧ (2 + ln) < (828 : Int) by omega) dX3_count_134 ?_
        refine m_iret C hret hH hS dX3_count_135 ?_
        refine ⟨by rw [show (su σ 0 0 0) 0 0 = 0 from (su_self _ _ _ _)]; first | (rw [if_pos (by omega)]; done) | (rw [if_neg (by omega)]; done) | (rw [if_neg (by omega), if_pos (by omega)]; done) | (rw [if_neg (by omega), if_neg (by omega)]; done), fun hth => ?_, (frSu Fr.rf rfl)⟩
        unfold ctZ; rw [if_neg (by omega), if_neg (by omega), if_neg (by omega), if_neg (by omega)]
      · refine z_tsIn C ts_31 dX3_count_31 (by decide) rfl (tgt := 102) (by decide) ?_
        refine z_aload_n C dX3_count_102 hl 0 rfl ?_
        refine m_geta C hH 1 ⟨by decide, by decide⟩ q2186 rfl dX3_count_103 ?_
        refine z_iconst C dX3_count_106 ?_
        refine m_ialdZ C hOk hH 1 ⟨by decide, by decide⟩ 0 (pW P) (p1) (show 0 ≤ 0 ∧ 0 < (828 : Int) by omega) dX3_count_107 ?_
        refine m_iret C hret hH hS dX3_count_108 ?_
        refine ⟨by rw [show (su σ 0 0 0) 0 0 = 0 from (su_self _ _ _ _)]; first | (rw [if_pos (by omega)]; done) | (rw [if_neg (by omega)]; done) | (rw [if_neg (by omega), if_pos (by omega)]; done) | (rw [if_neg (by omega), if_neg (by omega)]; done), fun hth => ?_, (frSu Fr.rf rfl)⟩
        unfold ctZ; rw [if_pos (by omega)]
      · refine z_tsIn C ts_31 dX3_count_31 (by decide) rfl (tgt := 109) (by decide) ?_
        refine z_aload_n C dX3_count_109 hl 0 rfl ?_
        refine m_geta C hH 1 ⟨by decide, by decide⟩ q2186 rfl dX3_count_110 ?_
        refine z_iconst C dX3_count_113 ?_
        refine m_ialdZ C hOk hH 1 ⟨by decide, by decide⟩ 1 (pN P) (p2) (show 0 ≤ 1 ∧ 1 < (828 : Int) by omega) dX3_count_114 ?_
        refine m_iret C hret hH hS dX3_count_115 ?_
        refine ⟨by rw [show (su σ 0 0 0) 0 0 = 0 from (su_self _ _ _ _)]; first | (rw [if_pos (by omega)]; done) | (rw [if_neg (by omega)]; done) | (rw [if_neg (by omega), if_pos (by omega)]; done) | (rw [if_neg (by omega), if_neg (by omega)]; done), fun hth => ?_, (frSu Fr.rf rfl)⟩
        unfold ctZ; rw [if_neg (by omega), if_pos (by omega)]
      · refine z_tsIn C ts_31 dX3_count_31 (by decide) rfl (tgt := 116) (by decide) ?_
        refine z_aload_n C dX3_count_116 hl 0 rfl ?_
        refine z_iload_n C dX3_count_117 hl 1 rfl ?_
        refine m_Vi C hH hS (mm_sumOf hOk (su σ 0 0 0) ln P (hP9) (hk9) (by omega)) (cwV 1 C.1.2.2.2.2 (lw_V q2324 q2326 qs44 q133 q2327) rfl rfl rfl (by decide +kernel) ⟨Nat.le_of_ble_eq_true rfl, Nat.le_of_ble_eq_true rfl⟩) rfl hl rfl (Nat.le_of_ble_eq_true rfl) dX3_count_118 ⟨Nat.le_refl _, Nat.le_refl _⟩ (fun r_118 s_118 H locs hp_118 hH hS => ?_)
        obtain ⟨hr118, hf118⟩ := hp_118
        refine m_iret C hret hH hS dX3_count_121 ?_
        refine ⟨by rw [show s_118 0 0 = 0 from (by rw [hf118.at 0 rfl]; exact su_self _ _ _ _)]; first | (rw [if_pos (by omega)]; done) | (rw [if_neg (by omega)]; done) | (rw [if_neg (by omega), if_pos (by omega)]; done) | (rw [if_neg (by omega), if_neg (by omega)]; done), fun hth => ?_, ((frSu Fr.rf rfl).th hf118 rfl)⟩
        unfold ctZ; rw [if_neg (by omega), if_neg (by omega), if_pos (by omega)]; assumption
      · refine z_tsIn C ts_31 dX3_count_31 (by decide) rfl (tgt := 116) (by decide) ?_
        refine z_aload_n C dX3_count_116 hl 0 rfl ?_
        refine z_iload_n C dX3_count_117 hl 1 rfl ?_
        refine m_Vi C hH hS (mm_sumOf hOk (su σ 0 0 0) ln P (hP9) (hk9) (by omega)) (cwV 1 C.1.2.2.2.2 (lw_V q2324 q2326 qs44 q133 q2327) rfl rfl rfl (by decide +kernel) ⟨Nat.le_of_ble_eq_true rfl, Nat.le_of_ble_eq_true rfl⟩) rfl hl rfl (Nat.le_of_ble_eq_true rfl) dX3_count_118 ⟨Nat.le_refl _, Nat.le_refl _⟩ (fun r_118_1 s_118_1 H locs hp_118_1 hH hS => ?_)
        obtain ⟨hr118_1, hf118_1⟩ := hp_118_1
        refine m_iret C hret hH hS dX3_count_121 ?_
        refine ⟨by rw [show s_118_1 0 0 = 0 from (by rw [hf118_1.at 0 rfl]; exact su_self _ _ _ _)]; first | (rw [if_pos (by omega)]; done) | (rw [if_neg (by omega)]; done) | (rw [if_neg (by omega), if_pos (by omega)]; done) | (rw [if_neg (by omega), if_neg (by omega)]; done), fun hth => ?_, ((frSu Fr.rf rfl).th hf118_1 rfl)⟩
        unfold ctZ; rw [if_neg (by omega), if_neg (by omega), if_pos (by omega)]; assumption
      · refine z_tsIn C ts_31 dX3_count_31 (by decide) rfl (tgt := 116) (by decide) ?_
        refine z_aload_n C dX3_count_116 hl 0 rfl ?_
        refine z_iload_n C dX3_count_117 hl 1 rfl ?_
        refine m_Vi C hH hS (mm_sumOf hOk (su σ 0 0 0) ln P (hP9) (hk9) (by omega)) (cwV 1 C.1.2.2.2.2 (lw_V q2324 q2326 qs44 q133 q2327) rfl rfl rfl (by decide +kernel) ⟨Nat.le_of_ble_eq_true rfl, Nat.le_of_ble_eq_true rfl⟩) rfl hl rfl (Nat.le_of_ble_eq_true rfl) dX3_count_118 ⟨Nat.le_refl _, Nat.le_refl _⟩ (fun r_118_2 s_118_2 H locs hp_118_2 hH hS => ?_)
        obtain ⟨hr118_2, hf118_2⟩ := hp_118_2
        refine m_iret C hret hH hS dX3_count_121 ?_
        refine ⟨by rw [show s_118_2 0 0 = 0 from (by rw [hf118_2.at 0 rfl]; exact su_self _ _ _ _)]; first | (rw [if_pos (by omega)]; done) | (rw [if_neg (by omega)]; done) | (rw [if_neg (by omega), if_pos (by omega)]; done) | (rw [if_neg (by omega), if_neg (by omega)]; done), fun hth => ?_, ((frSu Fr.rf rfl).th hf118_2 rfl)⟩
        unfold ctZ; rw [if_neg (by omega), if_neg (by omega), if_pos (by omega)]; assumption
      · refine z_tsIn C ts_31 dX3_count_31 (by decide) rfl (tgt := 122) (by decide) ?_
        refine z_aload_n C dX3_count_122 hl 0 rfl ?_
        refine m_getsZ C hH 4 ⟨by decide, by decide⟩ (σ 4 0) rfl q2189 rfl dX3_count_123 ?_
        refine m_iret C hret hH hS dX3_count_126 ?_
        refine ⟨by rw [show (su σ 0 0 0) 0 0 = 0 from (su_self _ _ _ _)]; first | (rw [if_pos (by omega)]; done) | (rw [if_neg (by omega)]; done) | (rw [if_neg (by omega), if_pos (by omega)]; done) | (rw [if_neg (by omega), if_neg (by omega)]; done), fun hth => ?_, (frSu Fr.rf rfl)⟩
        unfold ctZ; rw [if_neg (by omega), if_neg (by omega), if_neg (by omega), if_pos (by omega)]
      · refine z_tsIn C ts_31 dX3_count_31 (by decide) rfl (tgt := 116) (by decide) ?_
        refine z_aload_n C dX3_count_116 hl 0 rfl ?_
        refine z_iload_n C dX3_count_117 hl 1 rfl ?_
        refine m_Vi C hH hS (mm_sumOf hOk (su σ 0 0 0) ln P (hP9) (hk9) (by omega)) (cwV 1 C.1.2.2.2.2 (lw_V q2324 q2326 qs44 q133 q2327) rfl rfl rfl (by decide +kernel) ⟨Nat.le_of_ble_eq_true rfl, Nat.le_of_ble_eq_true rfl⟩) rfl hl rfl (Nat.le_of_ble_eq_true rfl) dX3_count_118 ⟨Nat.le_refl _, Nat.le_refl _⟩ (fun r_118_3 s_118_3 H locs hp_118_3 hH hS => ?_)
        obtain ⟨hr118_3, hf118_3⟩ := hp_118_3
        refine m_iret C hret hH hS dX3_count_121 ?_
        refine ⟨by rw [show s_118_3 0 0 = 0 from (by rw [hf118_3.at 0 rfl]; exact su_self _ _ _ _)]; first | (rw [if_pos (by omega)]; done) | (rw [if_neg (by omega)]; done) | (rw [if_neg (by omega), if_pos (by omega)]; done) | (rw [if_neg (by omega), if_neg (by omega)]; done), fun hth => ?_, ((frSu Fr.rf rfl).th hf118_3 rfl)⟩
        unfold ctZ; rw [if_neg (by omega), if_neg (by omega), if_pos (by omega)]; assumption
      · exact absurd ts_31 (by omega)
    · exact absurd c_23_1 (by decide)
set_option maxHeartbeats 1000000 in
theorem mm_line {l : Launch} {D : va_G} {dA : Nat → ClassId} {A : Nat → Prop} {o : Nat} {ad : Nat → Nat} (hOk : mOk o ad) (σ : Sg) (ln : Int) (x : Int) (P : Pg) (hP : PgAt (σ 1) P) (hk : PgOk P) (hr : zR ln) (hr2 : zR x) : Met l yX3_line (ws_ yX3_line cX3_line 3 (some .int)) (rmL 8 0 0) (MP D dA A o ad [.ref o, .int (iI ln), .int (iI x)] σ) (MQi D dA A o ad (fun r σ' => σ' 0 0 = (if ¬ (0 ≤ ln ∧ ln ≤ pN P - 1) then 1 else if 0 ≤ x ∧ x ≤ 11 then 0 else 2) ∧ (σ' 0 0 = 0 → r = liZ P ln x) ∧ Fr [0, 7, 8, 9, 10, 11, 12, 13, 14, 15, 16, 17, 18, 19] σ σ')) 0 0 A := by
  refine z_ofW (by decide) rfl ?_
  intro pp ee s0 mm below meth cc0 ls C hret hname hl hH hS
  have hl : lv_has ls 3 [(0, .ref o), (1, .int (iI ln)), (2, .int (iI x))] := hl
  have hk9 := hk
  have hP9 := hP
  obtain ⟨k1, k2, k3, k4, k5, k6, k7, k8, k9, k10, k11⟩ := hk
  obtain ⟨p1, p2, p3, p4, p5⟩ := hP
  have pn0 : 0 ≤ pN P := by show (0 : Int) ≤ ((pB P).length : Int); omega
  have hr_1 := hr.1
  have hr_2 := hr.2
  have hr2_1 := hr2.1
  have hr2_2 := hr2.2
  refine z_aload_n C dX3_line_0 hl 0 rfl ?_
  refine z_aload_n C dX3_line_1 hl 0 rfl ?_
  refine z_iload_n C dX3_line_2 hl 1 rfl ?_
  refine m_ViF C hH hS (mm_isLine hOk σ ln P (hP9) (hk9) (⟨by omega, by omega⟩)) (cwV 1 C.1.2.2.2.2 (lw_V q2413 q2415 qs63 q133 q2416) rfl rfl rfl (by decide +kernel) ⟨Nat.le_of_ble_eq_true rfl, Nat.le_of_ble_eq_true rfl⟩) rfl hl rfl (Nat.le_of_ble_eq_true rfl) dX3_line_3 ⟨Nat.le_refl _, Nat.le_refl _⟩ (fun H locs hH hS => ?_)
  refine z_topi (fun z_3 hz_3 => ?_)
  have q_3 := inZ_or ln 0 (pN P - 1)
  rw [← hz_3] at q_3
  refine z_ifne C dX3_line_6 (tgt := 13) (by decide) ⟨by omega, by omega⟩ (fun c_6 => ?_) (fun c_6 => ?_)
  · refine z_iload_n C dX3_line_13 hl 2 rfl ?_
    refine z_iconst C dX3_line_14 ?_
    refine z_bipush C dX3_line_15 (by decide +kernel) ?_
    refine m_SiF C hH hS (mm_in hOk σ x 0 11 (⟨by omega, by omega⟩) (⟨by omega, by omega⟩) (⟨by omega, by omega⟩)) (va_cwS 3 C.1.2.2.2.2 (lw_S q2321 q2322 q133 q2323) rfl rfl rfl (by decide +kernel) ⟨Nat.le_of_ble_eq_true rfl, Nat.le_of_ble_eq_true rfl⟩) rfl hl rfl (Nat.le_of_ble_eq_true rfl) dX3_line_17 ⟨Nat.le_refl _, Nat.le_refl _⟩ (fun H locs hH hS => ?_)
    refine z_topi (fun z_17 hz_17 => ?_)
    have q_17 := inZ_or x 0 11
    rw [← hz_17] at q_17
    refine z_ifeq C dX3_line_20 (tgt := 27) (by decide) ⟨by omega, by omega⟩ (fun c_20 => ?_) (fun c_20 => ?_)
    · refine z_iconst C dX3_line_27 ?_
      refine m_puts C hH hS 0 ⟨by decide, by decide⟩ q2185 rfl ⟨rfl, rfl⟩ dX3_line_28 (fun H locs hH hS => ?_)
      refine z_aload_n C dX3_line_31 hl 0 rfl ?_
      refine m_getsZ C hH 0 ⟨by decide, by decide⟩ 2 rfl q2185 rfl dX3_line_32 ?_
      refine z_ifle C dX3_line_35 (tgt := 40) (by decide) ⟨by omega, by omega⟩ (fun c_35 => ?_) (fun c_35 => ?_)
      · exact absurd c_35 (by decide)
      · refine z_iconst C dX3_line_38 ?_
        refine m_iret C hret hH hS dX3_line_39 ?_
        refine ⟨by rw [show (su σ 0 0 2) 0 0 = 2 from (su_self _ _ _ _)]; first | (rw [if_pos (by omega)]; done) | (rw [if_neg (by omega)]; done) | (rw [if_neg (by omega), if_pos (by omega)]; done) | (rw [if_neg (by omega), if_neg (by omega)]; done), fun hth => ?_, (frSu Fr.rf rfl)⟩
        exact absurd ((show (su σ 0 0 2) 0 0 = 2 from (su_self _ _ _ _)).symm.trans hth) (by decide)
    · refine z_iconst C dX3_line_23 ?_
      refine z_goto C dX3_line_24 (tgt := 28) (by decide) ?_
      refine m_puts C hH hS 0 ⟨by decide, by decide⟩ q2185 rfl ⟨rfl, rfl⟩ dX3_line_28 (fun H locs hH hS => ?_)
      refine z_aload_n C dX3_line_31 hl 0 rfl ?_
      refine m_getsZ C hH 0 ⟨by decide, by decide⟩ 0 rfl q2185 rfl dX3_line_32 ?_
      refine z_ifle C dX3_line_35 (tgt := 40) (by decide) ⟨by omega, by omega⟩ (fun c_35_1 => ?_) (fun c_35_1 => ?_)
      · refine z_aload_n C dX3_line_40 hl 0 rfl ?_
        refine z_iload_n C dX3_line_41 hl 1 rfl ?_
        refine m_Vv C hH hS (mm_codesLine hOk (su σ 0 0 0) ln P (hP9) (hk9) (by omega)) (cwV 1 C.1.2.2.2.2 (lw_V q2347 q2349 qs49 q133 q2350) rfl rfl rfl (by decide +kernel) ⟨Nat.le_of_ble_eq_true rfl, Nat.le_of_ble_eq_true rfl⟩) rfl hl rfl (Nat.le_of_ble_eq_true rfl) dX3_line_42 ⟨Nat.le_refl _, Nat.le_refl _⟩ (fun s_42 H locs hp_42 hH hS => ?_)
        obtain ⟨hc42, hf42⟩ := hp_42
        obtain ⟨c1, c2, c3, c4, c5⟩ := hc42
        have l1 : ((pR P ln).length : Int) ≤ pW P + 1 := rns_len (lnZ P ln) (show 0 ≤ pW P by omega)
        have l2 : ((pC P ln).length : Int) ≤ pW P + 1 := cds_len (upZ P ln) (lnZ P ln) (show 0 ≤ pW P by omega)
        have hP8 : PgAt (s_42 1) P := by rw [hf42.at 1 rfl]; exact hP9
        have hev : s_42 1 2 = pS P 0 := by rw [hf42.at 1 rfl]; exact p3 0 (by omega) (by omega)
        refine z_iload_n C dX3_line_45 hl 2 rfl ?_
        rcases (show x = 0 ∨ x = 1 ∨ x = 2 ∨ x = 3 ∨ x = 4 ∨ x = 5 ∨ x = 6 ∨ x = 7 ∨ x = 8 ∨ x = 9 ∨ x = 10 ∨ x = 11 ∨ (x < 0 ∨ 11 < x) by omega) with ts_46 | ts_46 | ts_46 | ts_46 | ts_46 | ts_46 | ts_46 | ts_46 | ts_46 | ts_46 | ts_46 | ts_46 | ts_46
        · refine z_tsIn C ts_46 dX3_line_46 (by decide) rfl (tgt := 108) (by decide) ?_
          refine z_aload_n C dX3_line_108 hl 0 rfl ?_
          refine z_iload_n C dX3_line_109 hl 1 rfl ?_
          refine m_Vi C hH hS (mm_isMark hOk s_42 ln P (pS P 0) (hP8) (hk9) (by omega) (hev) (by omega)) (cwV 1 C.1.2.2.2.2 (lw_V q2343 q2345 qs48 q133 q2346) rfl rfl rfl (by decide +kernel) ⟨Nat.le_of_ble_eq_true rfl, Nat.le_of_ble_eq_true rfl⟩) rfl hl rfl (Nat.le_of_ble_eq_true rfl) dX3_line_110 ⟨Nat.le_refl _, Nat.le_refl _⟩ (fun r_110 s_110 H locs hp_110 hH hS => ?_)
          obtain ⟨hr110, hf110⟩ := hp_110
          have i01 := isMk_01 P (pS P 0) ln
          refine z_ifeq C dX3_line_113 (tgt := 120) (by decide) ⟨by omega, by omega⟩ (fun c_113 => ?_) (fun c_113 => ?_)
          · refine z_iconst C dX3_line_120 ?_
            refine m_iret C hret hH hS dX3_line_121 ?_
            refine ⟨by rw [show s_110 0 0 = 0 from (by rw [hf110.at 0 rfl, hf42.at 0 rfl]; exact su_self _ _ _ _)]; first | (rw [if_pos (by omega)]; done) | (rw [if_neg (by omega)]; done) | (rw [if_neg (by omega), if_pos (by omega)]; done) | (rw [if_neg (by omega), if_neg (by omega)]; done), fun hth => ?_, (((frSu Fr.rf rfl).th hf42 rfl).th hf110 rfl)⟩
            unfold liZ; rw [if_pos (by omega)]; try omega
          · refine z_iconst C dX3_line_116 ?_
            refine z_goto C dX3_line_117 (tgt := 121) (by decide) ?_
            refine m_iret C hret hH hS dX3_line_121 ?_
            refine ⟨by rw [show s_110 0 0 = 0 from (by rw [hf110.at 0 rfl, hf42.at 0 rfl]; exact su_self _ _ _ _)]; first | (rw [if_pos (by omega)]; done) | (rw [if_neg (by omega)]; done) | (rw [if_neg (by omega), if_pos (by omega)]; done) | (rw [if_neg (by omega), if_neg (by omega)]; done), fun hth => ?_, (((frSu Fr.rf rfl).th hf42 rfl).th hf110 rfl)⟩
            unfold liZ; rw [if_pos (by omega)]; try omega
        · refine z_tsIn C ts_46 dX3_line_46 (by decide) rfl (tgt := 122) (by decide) ?_
          refine z_aload_n C dX3_line_122 hl 0 rfl ?_
          refine m_ViF C hH hS (mm_aloneBits hOk s_42 (pW P) (pR P ln) (by omega) (c5) (rns_in _ (by omega)) (by omega)) (cwV 0 C.1.2.2.2.2 (lw_V q2390 q2392 qs59 q133 q2393) rfl rfl rfl (by decide +kernel) ⟨Nat.le_of_ble_eq_true rfl, Nat.le_of_ble_eq_true rfl⟩) rfl hl rfl (Nat.le_of_ble_eq_true rfl) dX3_line_123 ⟨Nat.le_refl _, Nat.le_refl _⟩ (fun H locs hH hS => ?_)
          refine m_iret C hret hH hS dX3_line_126 ?_
          refine ⟨by rw [show s_42 0 0 = 0 from (by rw [hf42.at 0 rfl]; exact su_self _ _ _ _)]; first | (rw [if_pos (by omega)]; done) | (rw [if_neg (by omega)]; done) | (rw [if_neg (by omega), if_pos (by omega)]; done) | (rw [if_neg (by omega), if_neg (by omega)]; done), fun hth => ?_, ((frSu Fr.rf rfl).th hf42 rfl)⟩
          unfold liZ; rw [if_neg (by omega), if_pos (by omega)]; try omega
        · refine z_tsIn C ts_46 dX3_line_46 (by decide) rfl (tgt := 127) (by decide) ?_
          refine z_aload_n C dX3_line_127 hl 0 rfl ?_
          refine m_ViF C hH hS (mm_codeBits hOk s_42 (pW P) (pC P ln) (by omega) (c4) (cds_ok _ _ (by omega)) (by omega)) (cwV 0 C.1.2.2.2.2 (lw_V q2397 q2399 qs60 q133 q2400) rfl rfl rfl (by decide +kernel) ⟨Nat.le_of_ble_eq_true rfl, Nat.le_of_ble_eq_true rfl⟩) rfl hl rfl (Nat.le_of_ble_eq_true rfl) dX3_line_128 ⟨Nat.le_refl _, Nat.le_refl _⟩ (fun H locs hH hS => ?_)
          refine m_iret C hret hH hS dX3_line_131 ?_
          refine ⟨by rw [show s_42 0 0 = 0 from (by rw [hf42.at 0 rfl]; exact su_self _ _ _ _)]; first | (rw [if_pos (by omega)]; done) | (rw [if_neg (by omega)]; done) | (rw [if_neg (by omega), if_pos (by omega)]; done) | (rw [if_neg (by omega), if_neg (by omega)]; done), fun hth => ?_, ((frSu Fr.rf rfl).th hf42 rfl)⟩
          unfold liZ; rw [if_neg (by omega), if_neg (by omega), if_pos (by omega)]; try omega
        · refine z_tsIn C ts_46 dX3_line_46 (by decide) rfl (tgt := 132) (by decide) ?_
          refine z_aload_n C dX3_line_132 hl 0 rfl ?_
          refine z_iload_n C dX3_line_133 hl 1 rfl ?_
          refine m_Vi C hH hS (mm_sentBits hOk s_42 ln P (pS P 0) (hP8) (hk9) (by omega) (hev) (by omega)) (cwV 1 C.1.2.2.2.2 (lw_V q2421 q2423 qs64 q133 q2424) rfl rfl rfl (by decide +kernel) ⟨Nat.le_of_ble_eq_true rfl, Nat.le_of_ble_eq_true rfl⟩) rfl hl rfl (Nat.le_of_ble_eq_true rfl) dX3_line_134 ⟨Nat.le_refl _, Nat.le_refl _⟩ (fun r_134 s_134 H locs hp_134 hH hS => ?_)
          obtain ⟨hr134, hf134⟩ := hp_134
          refine m_iret C hret hH hS dX3_line_137 ?_
          refine ⟨by rw [show s_134 0 0 = 0 from (by rw [hf134.at 0 rfl, hf42.at 0 rfl]; exact su_self _ _ _ _)]; first | (rw [if_pos (by omega)]; done) | (rw [if_neg (by omega)]; done) | (rw [if_neg (by omega), if_pos (by omega)]; done) | (rw [if_neg (by omega), if_neg (by omega)]; done), fun hth => ?_, (((frSu Fr.rf rfl).th hf42 rfl).th hf134 rfl)⟩
          unfold liZ; rw [if_neg (by omega), if_neg (by omega), if_neg (by omega), if_pos (by omega)]; try omega
        · refine z_tsIn C ts_46 dX3_line_46 (by decide) rfl (tgt := 138) (by decide) ?_
          refine z_aload_n C dX3_line_138 hl 0 rfl ?_
          refine m_getsZ C hH 19 ⟨by decide, by decide⟩ (((pR P ln).length : Int)) (c5.1) q2204 rfl dX3_line_139 ?_
          refine m_iret C hret hH hS dX3_line_142 ?_
          refine ⟨by rw [show s_42 0 0 = 0 from (by rw [hf42.at 0 rfl]; exact su_self _ _ _ _)]; first | (rw [if_pos (by omega)]; done) | (rw [if_neg (by omega)]; done) | (rw [if_neg (by omega), if_pos (by omega)]; done) | (rw [if_neg (by omega), if_neg (by omega)]; done), fun hth => ?_, ((frSu Fr.rf rfl).th hf42 rfl)⟩
          unfold liZ; rw [if_neg (by omega), if_neg (by omega), if_neg (by omega), if_neg (by omega), if_pos (by omega)]; try omega
        · refine z_tsIn C ts_46 dX3_line_46 (by decide) rfl (tgt := 143) (by decide) ?_
          refine z_aload_n C dX3_line_143 hl 0 rfl ?_
          refine m_getsZ C hH 14 ⟨by decide, by decide⟩ (((pC P ln).length : Int)) (c4.1) q2199 rfl dX3_line_144 ?_
          refine m_iret C hret hH hS dX3_line_147 ?_
          refine ⟨by rw [show s_42 0 0 = 0 from (by rw [hf42.at 0 rfl]; exact su_self _ _ _ _)]; first | (rw [if_pos (by omega)]; done) | (rw [if_neg (by omega)]; done) | (rw [if_neg (by omega), if_pos (by omega)]; done) | (rw [if_neg (by omega), if_neg (by omega)]; done), fun hth => ?_, ((frSu Fr.rf rfl).th hf42 rfl)⟩
          unfold liZ; rw [if_neg (by omega), if_neg (by omega), if_neg (by omega), if_neg (by omega), if_neg (by omega), if_pos (by omega)]; try omega
        · refine z_tsIn C ts_46 dX3_line_46 (by decide) rfl (tgt := 170) (by decide) ?_
          refine z_aload_n C dX3_line_170 hl 0 rfl ?_
          refine z_iload_n C dX3_line_171 hl 2 rfl ?_
          refine z_bipush C dX3_line_172 (by decide +kernel) ?_
          refine z_isub C dX3_line_174 ?_
          refine m_ViF C hH hS (mm_modesOf hOk s_42 (x - 6) (pW P) (pC P ln) (⟨by omega, by omega⟩) (by omega) (c4) (cds_ok _ _ (by omega)) (by omega)) (cwV 1 C.1.2.2.2.2 (lw_V q2429 q2431 qs66 q133 q2432) rfl rfl rfl (by decide +kernel) ⟨Nat.le_of_ble_eq_true rfl, Nat.le_of_ble_eq_true rfl⟩) rfl hl rfl (Nat.le_of_ble_eq_true rfl) dX3_line_175 ⟨Nat.le_refl _, Nat.le_refl _⟩ (fun H locs hH hS => ?_)
          refine m_iret C hret hH hS dX3_line_178 ?_
          refine ⟨by rw [show s_42 0 0 = 0 from (by rw [hf42.at 0 rfl]; exact su_self _ _ _ _)]; first | (rw [if_pos (by omega)]; done) | (rw [if_neg (by omega)]; done) | (rw [if_neg (by omega), if_pos (by omega)]; done) | (rw [if_neg (by omega), if_neg (by omega)]; done), fun hth => ?_, ((frSu Fr.rf rfl).th hf42 rfl)⟩
          unfold liZ; rw [if_neg (by omega), if_neg (by omega), if_neg (by omega), if_neg (by omega), if_neg (by omega), if_neg (by omega), if_neg (by omega), if_neg (by omega), if_neg (by omega)]
        · refine z_tsIn C ts_46 dX3_line_46 (by decide) rfl (tgt := 170) (by decide) ?_
          refine z_aload_n C dX3_line_170 hl 0 rfl ?_
          refine z_iload_n C dX3_line_171 hl 2 rfl ?_
          refine z_bipush C dX3_line_172 (by decide +kernel) ?_
          refine z_isub C dX3_line_174 ?_
          refine m_ViF C hH hS (mm_modesOf hOk s_42 (x - 6) (pW P) (pC P ln) (⟨by omega, by omega⟩) (by omega) (c4) (cds_ok _ _ (by omega)) (by omega)) (cwV 1 C.1.2.2.2.2 (lw_V q2429 q2431 qs66 q133 q2432) rfl rfl rfl (by decide +kernel) ⟨Nat.le_of_ble_eq_true rfl, Nat.le_of_ble_eq_true rfl⟩) rfl hl rfl (Nat.le_of_ble_eq_true rfl) dX3_line_175 ⟨Nat.le_refl _, Nat.le_refl _⟩ (fun H locs hH hS => ?_)
          refine m_iret C hret hH hS dX3_line_178 ?_
          refine ⟨by rw [show s_42 0 0 = 0 from (by rw [hf42.at 0 rfl]; exact su_self _ _ _ _)]; first | (rw [if_pos (by omega)]; done) | (rw [if_neg (by omega)]; done) | (rw [if_neg (by omega), if_pos (by omega)]; done) | (rw [if_neg (by omega), if_neg (by omega)]; done), fun hth => ?_, ((frSu Fr.rf rfl).th hf42 rfl)⟩
          unfold liZ; rw [if_neg (by omega), if_neg (by omega), if_neg (by omega), if_neg (by omega), if_neg (by omega), if_neg (by omega), if_neg (by omega), if_neg (by omega), if_neg (by omega)]
        · refine z_tsIn C ts_46 dX3_line_46 (by decide) rfl (tgt := 170) (by decide) ?_
          refine z_aload_n C dX3_line_170 hl 0 rfl ?_
          refine z_iload_n C dX3_line_171 hl 2 rfl ?_
          refine z_bipush C dX3_line_172 (by decide +kernel) ?_
          refine z_isub C dX3_line_174 ?_
          refine m_ViF C hH hS (mm_modesOf hOk s_42 (x - 6) (pW P) (pC P ln) (⟨by omega, by omega⟩) (by omega) (c4) (cds_ok _ _ (by omega)) (by omega)) (cwV 1 C.1.2.2.2.2 (lw_V q2429 q2431 qs66 q133 q2432) rfl rfl rfl (by decide +kernel) ⟨Nat.le_of_ble_eq_true rfl, Nat.le_of_ble_eq_true rfl⟩) rfl hl rfl (Nat.le_of_ble_eq_true rfl) dX3_line_175 ⟨Nat.le_refl _, Nat.le_refl _⟩ (fun H locs hH hS => ?_)
          refine m_iret C hret hH hS dX3_line_178 ?_
          refine ⟨by rw [show s_42 0 0 = 0 from (by rw [hf42.at 0 rfl]; exact su_self _ _ _ _)]; first | (rw [if_pos (by omega)]; done) | (rw [if_neg (by omega)]; done) | (rw [if_neg (by omega), if_pos (by omega)]; done) | (rw [if_neg (by omega), if_neg (by omega)]; done), fun hth => ?_, ((frSu Fr.rf rfl).th hf42 rfl)⟩
          unfold liZ; rw [if_neg (by omega), if_neg (by omega), if_neg (by omega), if_neg (by omega), if_neg (by omega), if_neg (by omega), if_neg (by omega), if_neg (by omega), if_neg (by omega)]
        · refine z_tsIn C ts_46 dX3_line_46 (by decide) rfl (tgt := 148) (by decide) ?_
          refine z_aload_n C dX3_line_148 hl 0 rfl ?_
          refine m_geta C hH 1 ⟨by decide, by decide⟩ q2186 rfl dX3_line_149 ?_
          refine z_bipush C dX3_line_152 (by decide +kernel) ?_
          refine z_iload_n C dX3_line_154 hl 1 rfl ?_
          refine z_iadd C dX3_line_155 ?_
          refine m_ialdZ C hOk hH 1 ⟨by decide, by decide⟩ (8 + ln) (pL P ln) (by rw [hf42.at 1 rfl]; exact p4 ln (by omega) (by omega)) (show 0 ≤ (8 + ln) ∧ (8 + ln) < (828 : Int) by omega) dX3_line_156 ?_
          refine m_iret C hret hH hS dX3_line_157 ?_
          refine ⟨by rw [show s_42 0 0 = 0 from (by rw [hf42.at 0 rfl]; exact su_self _ _ _ _)]; first | (rw [if_pos (by omega)]; done) | (rw [if_neg (by omega)]; done) | (rw [if_neg (by omega), if_pos (by omega)]; done) | (rw [if_neg (by omega), if_neg (by omega)]; done), fun hth => ?_, ((frSu Fr.rf rfl).th hf42 rfl)⟩
          unfold liZ; rw [if_neg (by omega), if_neg (by omega), if_neg (by omega), if_neg (by omega), if_neg (by omega), if_neg (by omega), if_pos (by omega)]; try omega
        · refine z_tsIn C ts_46 dX3_line_46 (by decide) rfl (tgt := 158) (by decide) ?_
          refine z_aload_n C dX3_line_158 hl 0 rfl ?_
          refine z_iload_n C dX3_line_159 hl 1 rfl ?_
          refine m_ViF C hH hS (mm_blacks hOk s_42 ln P (hP8) (hk9) (by omega)) (cwV 1 C.1.2.2.2.2 (lw_V q2328 q2330 qs45 q133 q2331) rfl rfl rfl (by decide +kernel) ⟨Nat.le_of_ble_eq_true rfl, Nat.le_of_ble_eq_true rfl⟩) rfl hl rfl (Nat.le_of_ble_eq_true rfl) dX3_line_160 ⟨Nat.le_refl _, Nat.le_refl _⟩ (fun H locs hH hS => ?_)
          refine m_iret C hret hH hS dX3_line_163 ?_
          refine ⟨by rw [show s_42 0 0 = 0 from (by rw [hf42.at 0 rfl]; exact su_self _ _ _ _)]; first | (rw [if_pos (by omega)]; done) | (rw [if_neg (by omega)]; done) | (rw [if_neg (by omega), if_pos (by omega)]; done) | (rw [if_neg (by omega), if_neg (by omega)]; done), fun hth => ?_, ((frSu Fr.rf rfl).th hf42 rfl)⟩
          unfold liZ; rw [if_neg (by omega), if_neg (by omega), if_neg (by omega), if_neg (by omega), if_neg (by omega), if_neg (by omega), if_neg (by omega), if_pos (by omega)]; try omega
        · refine z_tsIn C ts_46 dX3_line_46 (by decide) rfl (tgt := 164) (by decide) ?_
          refine z_aload_n C dX3_line_164 hl 0 rfl ?_
          refine z_iload_n C dX3_line_165 hl 1 rfl ?_
          refine m_Vi C hH hS (mm_markUpTo hOk s_42 ln P (pS P 0) (hP8) (hk9) (by omega) (hev) (by omega)) (cwV 1 C.1.2.2.2.2 (lw_V q2425 q2427 qs65 q133 q2428) rfl rfl rfl (by decide +kernel) ⟨Nat.le_of_ble_eq_true rfl, Nat.le_of_ble_eq_true rfl⟩) rfl hl rfl (Nat.le_of_ble_eq_true rfl) dX3_line_166 ⟨Nat.le_refl _, Nat.le_refl _⟩ (fun r_166 s_166 H locs hp_166 hH hS => ?_)
          obtain ⟨hr166, hf166⟩ := hp_166
          refine m_iret C hret hH hS dX3_line_169 ?_
          refine ⟨by rw [show s_166 0 0 = 0 from (by rw [hf166.at 0 rfl, hf42.at 0 rfl]; exact su_self _ _ _ _)]; first | (rw [if_pos (by omega)]; done) | (rw [if_neg (by omega)]; done) | (rw [if_neg (by omega), if_pos (by omega)]; done) | (rw [if_neg (by omega), if_neg (by omega)]; done), fun hth => ?_, (((frSu Fr.rf rfl).th hf42 rfl).th hf166 rfl)⟩
          unfold liZ; rw [if_neg (by omega), if_neg (by omega), if_neg (by omega), if_neg (by omega), if_neg (by omega), if_neg (by omega), if_neg (by omega), if_neg (by omega), if_pos (by omega)]; try omega
        · exact absurd ts_46 (by omega)
      · exact absurd c_35_1 (by decide)
  · refine z_iconst C dX3_line_9 ?_
    refine z_goto C dX3_line_10 (tgt := 28) (by decide) ?_
    refine m_puts C hH hS 0 ⟨by decide, by decide⟩ q2185 rfl ⟨rfl, rfl⟩ dX3_line_28 (fun H locs hH hS => ?_)
    refine z_aload_n C dX3_line_31 hl 0 rfl ?_
    refine m_getsZ C hH 0 ⟨by decide, by decide⟩ 1 rfl q2185 rfl dX3_line_32 ?_
    refine z_ifle C dX3_line_35 (tgt := 40) (by decide) ⟨by omega, by omega⟩ (fun c_35_2 => ?_) (fun c_35_2 => ?_)
    · exact absurd c_35_2 (by decide)
    · refine z_iconst C dX3_line_38 ?_
      refine m_iret C hret hH hS dX3_line_39 ?_
      refine ⟨by rw [show (su σ 0 0 1) 0 0 = 1 from (su_self _ _ _ _)]; first | (rw [if_pos (by omega)]; done) | (rw [if_neg (by omega)]; done) | (rw [if_neg (by omega), if_pos (by omega)]; done) | (rw [if_neg (by omega), if_neg (by omega)]; done), fun hth => ?_, (frSu Fr.rf rfl)⟩
      exact absurd ((show (su σ 0 0 1) 0 0 = 1 from (su_self _ _ _ _)).symm.trans hth) (by decide)
