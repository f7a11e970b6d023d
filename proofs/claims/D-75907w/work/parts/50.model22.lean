/-! the reference's methods, 22 (written by gen/model22.py) -/
set_option maxRecDepth 100000
set_option maxHeartbeats 1000000 in
theorem mm_show {l : Launch} {D : va_G} {dA : Nat → ClassId} {A : Nat → Prop} {o : Nat} {ad : Nat → Nat} (hOk : mOk o ad) (σ : Sg) (ln : Int) (P : Pg) (hP : PgAt (σ 1) P) (hk : PgOk P) (hr : zR ln) : Met l yX3_show (ws_ yX3_show cX3_show 3 (some .int)) (rmL 10 0 0) (MP D dA A o ad [.ref o, .int (iI ln)] σ) (MQi D dA A o ad (fun r σ' => σ' 0 0 = (if 0 ≤ ln ∧ ln ≤ pN P - 1 then 0 else 1) ∧ (σ' 0 0 = 0 → r = ((shoL P ln).length : Int) ∧ OuAt σ' (shoL P ln)) ∧ (σ' 0 0 ≠ 0 → σ' 40 = σ 40 ∧ σ' 41 = σ 41) ∧ Fr [0, 7, 8, 9, 10, 11, 12, 13, 14, 15, 16, 17, 18, 19, 20, 21, 22, 23, 24, 25, 26, 27, 28, 29, 30, 40, 41] σ σ')) 0 0 A := by
  refine z_ofW (by decide) rfl ?_
  intro pp ee s0 mm below meth cc0 ls C hret hname hl hH hS
  have hl : lv_has ls 3 [(0, .ref o), (1, .int (iI ln))] := hl
  have hk9 := hk
  have hP9 := hP
  obtain ⟨k1, k2, k3, k4, k5, k6, k7, k8, k9, k10, k11⟩ := hk
  obtain ⟨p1, p2, p3, p4, p5⟩ := hP
  have pn0 : 0 ≤ pN P := by show (0 : Int) ≤ ((pB P).length : Int); omega
  have hr_1 := hr.1
  have hr_2 := hr.2
  refine z_aload_n C dX3_show_0 hl 0 rfl ?_
  refine z_aload_n C dX3_show_1 hl 0 rfl ?_
  refine z_iload_n C dX3_show_2 hl 1 rfl ?_
  refine m_ViF C hH hS (mm_isLine hOk σ ln P (hP9) (hk9) (⟨by omega, by omega⟩)) (cwV 1 C.1.2.2.2.2 (lw_V q2413 q2415 qs63 q133 q2416) rfl rfl rfl (by decide +kernel) ⟨Nat.le_of_ble_eq_true rfl, Nat.le_of_ble_eq_true rfl⟩) rfl hl rfl (Nat.le_of_ble_eq_true rfl) dX3_show_3 ⟨Nat.le_refl _, Nat.le_refl _⟩ (fun H locs hH hS => ?_)
  refine z_topi (fun z_3 hz_3 => ?_)
  have q_3 := inZ_or ln 0 (pN P - 1)
  rw [← hz_3] at q_3
  refine z_ifeq C dX3_show_6 (tgt := 13) (by decide) ⟨by omega, by omega⟩ (fun c_6 => ?_) (fun c_6 => ?_)
  · refine z_iconst C dX3_show_13 ?_
    refine m_puts C hH hS 0 ⟨by decide, by decide⟩ q2185 rfl ⟨rfl, rfl⟩ dX3_show_14 (fun H locs hH hS => ?_)
    refine z_aload_n C dX3_show_17 hl 0 rfl ?_
    refine m_getsZ C hH 0 ⟨by decide, by decide⟩ 1 rfl q2185 rfl dX3_show_18 ?_
    refine z_ifle C dX3_show_21 (tgt := 26) (by decide) ⟨by omega, by omega⟩ (fun c_21 => ?_) (fun c_21 => ?_)
    · exact absurd c_21 (by decide)
    · refine z_iconst C dX3_show_24 ?_
      refine m_iret C hret hH hS dX3_show_25 ?_
      exact ⟨by rw [su_self, if_neg (by omega)], fun h => absurd (show (1 : Int) = 0 from h) (by decide), fun _ => ⟨rfl, rfl⟩, frSu Fr.rf rfl⟩
  · refine z_iconst C dX3_show_9 ?_
    refine z_goto C dX3_show_10 (tgt := 14) (by decide) ?_
    refine m_puts C hH hS 0 ⟨by decide, by decide⟩ q2185 rfl ⟨rfl, rfl⟩ dX3_show_14 (fun H locs hH hS => ?_)
    refine z_aload_n C dX3_show_17 hl 0 rfl ?_
    refine m_getsZ C hH 0 ⟨by decide, by decide⟩ 0 rfl q2185 rfl dX3_show_18 ?_
    refine z_ifle C dX3_show_21 (tgt := 26) (by decide) ⟨by omega, by omega⟩ (fun c_21_1 => ?_) (fun c_21_1 => ?_)
    · refine z_aload_n C dX3_show_26 hl 0 rfl ?_
      refine m_Vv C hH hS (mm_sendsPage hOk (su σ 0 0 0) P (hP9) (hk9)) (cwV 0 C.1.2.2.2.2 (lw_V q2547 q2549 qs78 q133 q2550) rfl rfl rfl (by decide +kernel) ⟨Nat.le_of_ble_eq_true rfl, Nat.le_of_ble_eq_true rfl⟩) rfl hl rfl (Nat.le_of_ble_eq_true rfl) dX3_show_27 ⟨Nat.le_refl _, Nat.le_refl _⟩ (fun ta H locs hp_27 hH hS => ?_)
      obtain ⟨hta, hga, hfa⟩ := hp_27
      have hI := sdR_I hk9 (show 1 ≤ pS P 0 ∧ pS P 0 ≤ 8 by omega) (show 0 ≤ pS P 3 ∧ pS P 3 ≤ 9 by omega) (pL P)
      have hI5 := hI.2.2.2.2.1
      have hI14 := hI.2.2.2.2.2.2.2.2.2.2.2.2.2 ln
      obtain ⟨st, hst⟩ : ∃ y, y = (sdQ P).1 21 ln := ⟨_, rfl⟩
      have hst2 : 0 ≤ st ∧ st ≤ 3 := by rw [hst]; exact hI14
      have hta0 : ta 0 0 = 0 := by rw [hfa.at 0 rfl]; exact su_self _ _ _ _
      refine z_aload_n C dX3_show_30 hl 0 rfl ?_
      refine z_iconst C dX3_show_31 ?_
      refine m_puts C hH hS 41 ⟨by decide, by decide⟩ q2226 rfl ⟨rfl, rfl⟩ dX3_show_32 (fun H locs hH hS => ?_)
      refine z_iconst C dX3_show_35 ?_
      refine z_istore_n C [(2, .int (iI 0)), (0, .ref o), (1, .int (iI ln))] dX3_show_36 hl (by decide) rfl (fun ls hl => ?_)
      have J_37 : ∀ (fu : Nat) (k : Int) (s1 : Sg), (pW P - k).toNat < fu → (0 ≤ k ∧ k ≤ pW P) → (OuAt s1 (dotL ((sdQ P).2.1 ln) k.toNat)) → (Fr [40, 41] ta s1) → ∀ (H : Heap) (locs : List Loc) (ls : Array Slot), MH D dA A o ad s1 H → va_S A s0.heap H locs → lv_has ls 3 [(2, .int (iI k)), (0, .ref o), (1, .int (iI ln))] → W pp l ee (rmL 10 0 0) s0 mm ([.ref o, .int (iI ln)] : List Value).toArray below meth cc0 H locs 0 0 (MQ below (MQi D dA A o ad (fun r σ' => σ' 0 0 = (if 0 ≤ ln ∧ ln ≤ pN P - 1 then 0 else 1) ∧ (σ' 0 0 = 0 → r = ((shoL P ln).length : Int) ∧ OuAt σ' (shoL P ln)) ∧ (σ' 0 0 ≠ 0 → σ' 40 = σ 40 ∧ σ' 41 = σ 41) ∧ Fr [0, 7, 8, 9, 10, 11, 12, 13, 14, 15, 16, 17, 18, 19, 20, 21, 22, 23, 24, 25, 26, 27, 28, 29, 30, 40, 41] σ σ')) ([.ref o, .int (iI ln)] : List Value).toArray s0 0 0 A) (F0 mm 37 ls []) := by
        intro fu
        induction fu with
        | zero => intro k s1 hn; exact absurd hn (Nat.not_lt_zero _)
        | succ fu ih_37 =>
          intro k s1 hn hk0 hO1 hf1 H locs ls hH hS hl
          refine z_iload_n C dX3_show_37 hl 0 rfl ?_
          refine z_aload_n C dX3_show_38 hl 1 rfl ?_
          refine m_geta C hH 1 ⟨by decide, by decide⟩ q2186 rfl dX3_show_39 ?_
          refine z_iconst C dX3_show_42 ?_
          refine m_ialdZ C hOk hH 1 ⟨by decide, by decide⟩ 0 (pW P) (by rw [hf1.at 1 rfl, hfa.at 1 rfl]; exact p1) (show 0 ≤ 0 ∧ 0 < (828 : Int) by omega) dX3_show_43 ?_
          refine z_icmpge C dX3_show_44 (tgt := 79) (by decide) ⟨⟨by omega, by omega⟩, ⟨by omega, by omega⟩⟩ (fun c_44 => ?_) (fun c_44 => ?_)
          · have hkW : k = pW P := by omega
            refine z_aload_n C dX3_show_79 hl 1 rfl ?_
            refine m_geta C hH 21 ⟨by decide, by decide⟩ q2206 rfl dX3_show_80 ?_
            refine z_iload_n C dX3_show_83 hl 2 rfl ?_
            refine m_ialdZ C hOk hH 21 ⟨by decide, by decide⟩ ln st (by rw [hf1.at 21 rfl, hst]; exact hta.1 21 (by omega) (by omega) ln (by omega) (by omega)) (show 0 ≤ ln ∧ ln < (20 : Int) by omega) dX3_show_84 ?_
            refine z_ifle C dX3_show_85 (tgt := 101) (by decide) ⟨by omega, by omega⟩ (fun c_85 => ?_) (fun c_85 => ?_)
            · refine z_aload_n C dX3_show_101 hl 1 rfl ?_
              refine m_getsZ C hH 41 ⟨by decide, by decide⟩ (((dotL ((sdQ P).2.1 ln) k.toNat).length : Int)) (hO1.1) q2226 rfl dX3_show_102 ?_
              refine m_iret C hret hH hS dX3_show_105 ?_
              first
                | (exfalso; omega)
                | (have hf9 := hf1
                   have h00 : s1 0 0 = 0 := by rw [hf9.at 0 rfl]; exact hta0
                   have hL : (dotL ((sdQ P).2.1 ln) k.toNat) = shoL P ln := by
                     unfold shoL; rewrite [← hst, if_neg (by omega), ← hkW]
                     first | rfl | rw [List.append_nil]
                   have hO9 := hO1
                   rw [hL] at hO9 ⊢
                   exact ⟨by rw [h00, if_pos (by omega)], fun _ => ⟨rfl, hO9⟩, fun h => absurd h00 h, ((frSu Fr.rf rfl).th hfa rfl).th hf9 rfl⟩)
            · refine z_aload_n C dX3_show_88 hl 1 rfl ?_
              refine z_bipush C dX3_show_89 (by decide +kernel) ?_
              refine z_aload_n C dX3_show_91 hl 1 rfl ?_
              refine m_geta C hH 21 ⟨by decide, by decide⟩ q2206 rfl dX3_show_92 ?_
              refine z_iload_n C dX3_show_95 hl 2 rfl ?_
              refine m_ialdZ C hOk hH 21 ⟨by decide, by decide⟩ ln st (by rw [hf1.at 21 rfl, hst]; exact hta.1 21 (by omega) (by omega) ln (by omega) (by omega)) (show 0 ≤ ln ∧ ln < (20 : Int) by omega) dX3_show_96 ?_
              refine z_iadd C dX3_show_97 ?_
              refine m_Vv C hH hS (mm_prints hOk s1 (48 + st) ((dotL ((sdQ P).2.1 ln) k.toNat)) (hO1) (by omega) (by rw [dotL_len]; omega)) (cwV 1 C.1.2.2.2.2 (lw_V q2722 q2724 qs107 q133 q2725) rfl rfl rfl (by decide +kernel) ⟨Nat.le_of_ble_eq_true rfl, Nat.le_of_ble_eq_true rfl⟩) rfl hl rfl (Nat.le_of_ble_eq_true rfl) dX3_show_98 ⟨Nat.le_refl _, Nat.le_refl _⟩ (fun tc H locs hp_98 hH hS => ?_)
              obtain ⟨hoc, hfc⟩ := hp_98
              refine z_aload_n C dX3_show_101 hl 1 rfl ?_
              refine m_getsZ C hH 41 ⟨by decide, by decide⟩ (((dotL ((sdQ P).2.1 ln) k.toNat ++ [48 + st]).length : Int)) (hoc.1) q2226 rfl dX3_show_102 ?_
              refine m_iret C hret hH hS dX3_show_105 ?_
              first
                | (exfalso; omega)
                | (have hf9 := hf1.th hfc rfl
                   have h00 : tc 0 0 = 0 := by rw [hf9.at 0 rfl]; exact hta0
                   have hL : (dotL ((sdQ P).2.1 ln) k.toNat ++ [48 + st]) = shoL P ln := by
                     unfold shoL; rewrite [← hst, if_pos (by omega), ← hkW]
                     first | rfl | rw [List.append_nil]
                   have hO9 := hoc
                   rw [hL] at hO9 ⊢
                   exact ⟨by rw [h00, if_pos (by omega)], fun _ => ⟨rfl, hO9⟩, fun h => absurd h00 h, ((frSu Fr.rf rfl).th hfa rfl).th hf9 rfl⟩)
          · have g01 := hI5 ln k
            have g01 : (sdQ P).2.1 ln k = 0 ∨ (sdQ P).2.1 ln k = 1 := g01
            refine z_aload_n C dX3_show_47 hl 1 rfl ?_
            refine z_aload_n C dX3_show_48 hl 1 rfl ?_
            refine m_geta C hH 20 ⟨by decide, by decide⟩ q2205 rfl dX3_show_49 ?_
            refine z_bipush C dX3_show_52 (by decide +kernel) ?_
            refine z_iload_n C dX3_show_54 hl 2 rfl ?_
            refine z_imul C dX3_show_55 ?_
            refine z_iload_n C dX3_show_56 hl 0 rfl ?_
            refine z_iadd C dX3_show_57 ?_
            refine m_ialdZ C hOk hH 20 ⟨by decide, by decide⟩ ((40 * ln) + k) ((sdQ P).2.1 ln k) (by rw [hf1.at 20 rfl]; exact hga ln k (by omega) (by omega) hk0.1 (by omega)) (show 0 ≤ ((40 * ln) + k) ∧ ((40 * ln) + k) < (800 : Int) by omega) dX3_show_58 ?_
            refine z_iconst C dX3_show_59 ?_
            refine z_icmpne C dX3_show_60 (tgt := 68) (by decide) ⟨⟨by omega, by omega⟩, ⟨by omega, by omega⟩⟩ (fun c_60 => ?_) (fun c_60 => ?_)
            · refine z_bipush C dX3_show_68 (by decide +kernel) ?_
              refine m_Vv C hH hS (mm_prints hOk s1 46 ((dotL ((sdQ P).2.1 ln) k.toNat)) (hO1) (by decide) (by rw [dotL_len]; omega)) (cwV 1 C.1.2.2.2.2 (lw_V q2722 q2724 qs107 q133 q2725) rfl rfl rfl (by decide +kernel) ⟨Nat.le_of_ble_eq_true rfl, Nat.le_of_ble_eq_true rfl⟩) rfl hl rfl (Nat.le_of_ble_eq_true rfl) dX3_show_70 ⟨Nat.le_refl _, Nat.le_refl _⟩ (fun tb H locs hp_70 hH hS => ?_)
              obtain ⟨hob, hfb⟩ := hp_70
              refine z_iinc C [(2, .int (iI (k + 1))), (0, .ref o), (1, .int (iI ln))] dX3_show_73 hl 0 rfl (by decide) rfl (fun ls hl => ?_)
              refine z_goto C dX3_show_76 (tgt := 37) (by decide) ?_
              exact ih_37 ((k + 1)) tb (by omega) (by omega) (by rw [show (k + 1).toNat = k.toNat + 1 by omega, dotL, Int.toNat_of_nonneg hk0.1, if_neg (show ¬ (sdQ P).2.1 ln k = 1 by omega)]; exact hob) (hf1.th hfb rfl) _ _ _ hH hS (lv_sub hl [0, 1, 2] rfl)
            · refine z_bipush C dX3_show_63 (by decide +kernel) ?_
              refine z_goto C dX3_show_65 (tgt := 70) (by decide) ?_
              refine m_Vv C hH hS (mm_prints hOk s1 35 ((dotL ((sdQ P).2.1 ln) k.toNat)) (hO1) (by decide) (by rw [dotL_len]; omega)) (cwV 1 C.1.2.2.2.2 (lw_V q2722 q2724 qs107 q133 q2725) rfl rfl rfl (by decide +kernel) ⟨Nat.le_of_ble_eq_true rfl, Nat.le_of_ble_eq_true rfl⟩) rfl hl rfl (Nat.le_of_ble_eq_true rfl) dX3_show_70 ⟨Nat.le_refl _, Nat.le_refl _⟩ (fun tb H locs hp_70_1 hH hS => ?_)
              obtain ⟨hob, hfb⟩ := hp_70_1
              refine z_iinc C [(2, .int (iI (k + 1))), (0, .ref o), (1, .int (iI ln))] dX3_show_73 hl 0 rfl (by decide) rfl (fun ls hl => ?_)
              refine z_goto C dX3_show_76 (tgt := 37) (by decide) ?_
              exact ih_37 ((k + 1)) tb (by omega) (by omega) (by rw [show (k + 1).toNat = k.toNat + 1 by omega, dotL, Int.toNat_of_nonneg hk0.1, if_pos (show (sdQ P).2.1 ln k = 1 by omega)]; exact hob) (hf1.th hfb rfl) _ _ _ hH hS (lv_sub hl [0, 1, 2] rfl)
      exact J_37 _ 0 ((su ta 41 0 0)) (Nat.lt_succ_self _) (by omega) (⟨su_self _ _ _ _, (fun j hj => absurd hj (Nat.not_lt_zero _)), Nat.zero_le _⟩) (frSu Fr.rf rfl) _ _ _ hH hS (lv_sub hl [0, 1, 2] rfl)
    · exact absurd c_21_1 (by decide)
