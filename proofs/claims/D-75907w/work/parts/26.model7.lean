/-! the reference's methods, 7 (written by gen/model7.py) -/
set_option maxRecDepth 100000
set_option maxHeartbeats 1000000 in
theorem mm_run {l : Launch} {D : va_G} {dA : Nat → ClassId} {A : Nat → Prop} {o : Nat} {ad : Nat → Nat} (hOk : mOk o ad) (σ : Sg) (ln : Int) (x : Int) (P : Pg) (hP : PgAt (σ 1) P) (hk : PgOk P) (hr : zR ln) (hr2 : zR x) : Met l yX3_run (ws_ yX3_run cX3_run 3 (some .int)) (rmL 8 0 0) (MP D dA A o ad [.ref o, .int (iI ln), .int (iI x)] σ) (MQi D dA A o ad (fun r σ' => σ' 0 0 = (if (0 ≤ ln ∧ ln ≤ pN P - 1) ∧ 0 ≤ x then 0 else 1) ∧ (σ' 0 0 = 0 → r = rnZ P ln x) ∧ Fr [0, 7, 8, 9, 10, 11, 12, 13, 14, 15, 16, 17, 18, 19] σ σ')) 0 0 A := by
  refine z_ofW (by decide) rfl ?_
  intro pp ee s0 mm below meth cc0 ls C hret hname hl hH hS
  have hl : lv_has ls 3 [(0, .ref o), (1, .int (iI ln)), (2, .int (iI x))] := hl
  have hk9 := hk
  have hP9 := hP
  obtain ⟨k1, k2, k3, k4, k5, k6, k7, k8, k9, k10, k11⟩ := hk
  obtain ⟨p1, p2, p3, p4, p5⟩ := hP
  have pn0 : 0 ≤ pN P := by show (0 : Int) ≤ ((pB P).length : Int); omega
  have hr_1 := hr.1
  have hr_2 := hr.2
  have hr2_1 := hr2.1
  have hr2_2 := hr2.2
  refine z_aload_n C dX3_run_0 hl 0 rfl ?_
  refine z_aload_n C dX3_run_1 hl 0 rfl ?_
  refine z_iload_n C dX3_run_2 hl 1 rfl ?_
  refine m_ViF C hH hS (mm_isLine hOk σ ln P (hP9) (hk9) (⟨by omega, by omega⟩)) (cwV 1 C.1.2.2.2.2 (lw_V q2413 q2415 qs63 q133 q2416) rfl rfl rfl (by decide +kernel) ⟨Nat.le_of_ble_eq_true rfl, Nat.le_of_ble_eq_true rfl⟩) rfl hl rfl (Nat.le_of_ble_eq_true rfl) dX3_run_3 ⟨Nat.le_refl _, Nat.le_refl _⟩ (fun H locs hH hS => ?_)
  refine z_topi (fun z_3 hz_3 => ?_)
  have q_3 := inZ_or ln 0 (pN P - 1)
  rw [← hz_3] at q_3
  refine z_ifeq C dX3_run_6 (tgt := 17) (by decide) ⟨by omega, by omega⟩ (fun c_6 => ?_) (fun c_6 => ?_)
  · refine z_iconst C dX3_run_17 ?_
    refine m_puts C hH hS 0 ⟨by decide, by decide⟩ q2185 rfl ⟨rfl, rfl⟩ dX3_run_18 (fun H locs hH hS => ?_)
    refine z_aload_n C dX3_run_21 hl 0 rfl ?_
    refine m_getsZ C hH 0 ⟨by decide, by decide⟩ 1 rfl q2185 rfl dX3_run_22 ?_
    refine z_ifle C dX3_run_25 (tgt := 30) (by decide) ⟨by omega, by omega⟩ (fun c_25 => ?_) (fun c_25 => ?_)
    · exact absurd c_25 (by decide)
    · refine z_iconst C dX3_run_28 ?_
      refine m_iret C hret hH hS dX3_run_29 ?_
      refine ⟨by rw [show (su σ 0 0 1) 0 0 = 1 from (su_self _ _ _ _)]; first | (rw [if_pos (by omega)]; done) | (rw [if_neg (by omega)]; done) | (rw [if_neg (by omega), if_pos (by omega)]; done) | (rw [if_neg (by omega), if_neg (by omega)]; done), fun hth => ?_, (frSu Fr.rf rfl)⟩
      exact absurd ((show (su σ 0 0 1) 0 0 = 1 from (su_self _ _ _ _)).symm.trans hth) (by decide)
  · refine z_iload_n C dX3_run_9 hl 2 rfl ?_
    refine z_iflt C dX3_run_10 (tgt := 17) (by decide) ⟨by omega, by omega⟩ (fun c_10 => ?_) (fun c_10 => ?_)
    · refine z_iconst C dX3_run_17 ?_
      refine m_puts C hH hS 0 ⟨by decide, by decide⟩ q2185 rfl ⟨rfl, rfl⟩ dX3_run_18 (fun H locs hH hS => ?_)
      refine z_aload_n C dX3_run_21 hl 0 rfl ?_
      refine m_getsZ C hH 0 ⟨by decide, by decide⟩ 1 rfl q2185 rfl dX3_run_22 ?_
      refine z_ifle C dX3_run_25 (tgt := 30) (by decide) ⟨by omega, by omega⟩ (fun c_25_1 => ?_) (fun c_25_1 => ?_)
      · exact absurd c_25_1 (by decide)
      · refine z_iconst C dX3_run_28 ?_
        refine m_iret C hret hH hS dX3_run_29 ?_
        refine ⟨by rw [show (su σ 0 0 1) 0 0 = 1 from (su_self _ _ _ _)]; first | (rw [if_pos (by omega)]; done) | (rw [if_neg (by omega)]; done) | (rw [if_neg (by omega), if_pos (by omega)]; done) | (rw [if_neg (by omega), if_neg (by omega)]; done), fun hth => ?_, (frSu Fr.rf rfl)⟩
        exact absurd ((show (su σ 0 0 1) 0 0 = 1 from (su_self _ _ _ _)).symm.trans hth) (by decide)
    · refine z_iconst C dX3_run_13 ?_
      refine z_goto C dX3_run_14 (tgt := 18) (by decide) ?_
      refine m_puts C hH hS 0 ⟨by decide, by decide⟩ q2185 rfl ⟨rfl, rfl⟩ dX3_run_18 (fun H locs hH hS => ?_)
      refine z_aload_n C dX3_run_21 hl 0 rfl ?_
      refine m_getsZ C hH 0 ⟨by decide, by decide⟩ 0 rfl q2185 rfl dX3_run_22 ?_
      refine z_ifle C dX3_run_25 (tgt := 30) (by decide) ⟨by omega, by omega⟩ (fun c_25_2 => ?_) (fun c_25_2 => ?_)
      · refine z_aload_n C dX3_run_30 hl 0 rfl ?_
        refine z_iload_n C dX3_run_31 hl 1 rfl ?_
        refine m_Vv C hH hS (mm_codesLine hOk (su σ 0 0 0) ln P (hP9) (hk9) (by omega)) (cwV 1 C.1.2.2.2.2 (lw_V q2347 q2349 qs49 q133 q2350) rfl rfl rfl (by decide +kernel) ⟨Nat.le_of_ble_eq_true rfl, Nat.le_of_ble_eq_true rfl⟩) rfl hl rfl (Nat.le_of_ble_eq_true rfl) dX3_run_32 ⟨Nat.le_refl _, Nat.le_refl _⟩ (fun s_32 H locs hp_32 hH hS => ?_)
        obtain ⟨hc32, hf32⟩ := hp_32
        obtain ⟨c1, c2, c3, c4, c5⟩ := hc32
        have l1 : ((pR P ln).length : Int) ≤ pW P + 1 := rns_len (lnZ P ln) (show 0 ≤ pW P by omega)
        have l2 : ((pC P ln).length : Int) ≤ pW P + 1 := cds_len (upZ P ln) (lnZ P ln) (show 0 ≤ pW P by omega)
        refine z_iload_n C dX3_run_35 hl 2 rfl ?_
        refine z_aload_n C dX3_run_36 hl 0 rfl ?_
        refine m_getsZ C hH 19 ⟨by decide, by decide⟩ (((pR P ln).length : Int)) (c5.1) q2204 rfl dX3_run_37 ?_
        refine z_icmpge C dX3_run_40 (tgt := 52) (by decide) ⟨⟨by omega, by omega⟩, ⟨by omega, by omega⟩⟩ (fun c_40 => ?_) (fun c_40 => ?_)
        · refine z_iconst C dX3_run_52 ?_
          refine m_iret C hret hH hS dX3_run_53 ?_
          refine ⟨by rw [show s_32 0 0 = 0 from (by rw [hf32.at 0 rfl]; exact su_self _ _ _ _)]; first | (rw [if_pos (by omega)]; done) | (rw [if_neg (by omega)]; done) | (rw [if_neg (by omega), if_pos (by omega)]; done) | (rw [if_neg (by omega), if_neg (by omega)]; done), fun hth => ?_, ((frSu Fr.rf rfl).th hf32 rfl)⟩
          unfold rnZ; first | (rw [if_pos (by omega)]; done) | (rw [if_neg (by omega)]; done)
        · refine z_aload_n C dX3_run_43 hl 0 rfl ?_
          refine m_geta C hH 18 ⟨by decide, by decide⟩ q2203 rfl dX3_run_44 ?_
          refine z_iload_n C dX3_run_47 hl 2 rfl ?_
          refine m_ialdZ C hOk hH 18 ⟨by decide, by decide⟩ x (gR (pR P ln) x) (c5.2 x (by omega) (show x < ((pR P ln).length : Int) by omega)) (show 0 ≤ x ∧ x < (44 : Int) by omega) dX3_run_48 ?_
          refine z_goto C dX3_run_49 (tgt := 53) (by decide) ?_
          refine m_iret C hret hH hS dX3_run_53 ?_
          refine ⟨by rw [show s_32 0 0 = 0 from (by rw [hf32.at 0 rfl]; exact su_self _ _ _ _)]; first | (rw [if_pos (by omega)]; done) | (rw [if_neg (by omega)]; done) | (rw [if_neg (by omega), if_pos (by omega)]; done) | (rw [if_neg (by omega), if_neg (by omega)]; done), fun hth => ?_, ((frSu Fr.rf rfl).th hf32 rfl)⟩
          unfold rnZ; first | (rw [if_pos (by omega)]; done) | (rw [if_neg (by omega)]; done)
      · exact absurd c_25_2 (by decide)
set_option maxHeartbeats 1000000 in
theorem mm_mode {l : Launch} {D : va_G} {dA : Nat → ClassId} {A : Nat → Prop} {o : Nat} {ad : Nat → Nat} (hOk : mOk o ad) (σ : Sg) (ln : Int) (x : Int) (z : Int) (P : Pg) (hP : PgAt (σ 1) P) (hk : PgOk P) (hr : zR ln) (hr2 : zR x) (hr3 : zR z) : Met l yX3_mode (ws_ yX3_mode cX3_mode 4 (some .int)) (rmL 8 0 0) (MP D dA A o ad [.ref o, .int (iI ln), .int (iI x), .int (iI z)] σ) (MQi D dA A o ad (fun r σ' => σ' 0 0 = (if ¬ (0 ≤ ln ∧ ln ≤ pN P - 1) ∨ x < 0 then 1 else if 0 ≤ z ∧ z ≤ 3 then 0 else 2) ∧ (σ' 0 0 = 0 → r = moZ P ln x z) ∧ Fr [0, 7, 8, 9, 10, 11, 12, 13, 14, 15, 16, 17, 18, 19] σ σ')) 0 0 A := by
  refine z_ofW (by decide) rfl ?_
  intro pp ee s0 mm below meth cc0 ls C hret hname hl hH hS
  have hl : lv_has ls 4 [(0, .ref o), (1, .int (iI ln)), (2, .int (iI x)), (3, .int (iI z))] := hl
  have hk9 := hk
  have hP9 := hP
  obtain ⟨k1, k2, k3, k4, k5, k6, k7, k8, k9, k10, k11⟩ := hk
  obtain ⟨p1, p2, p3, p4, p5⟩ := hP
  have pn0 : 0 ≤ pN P := by show (0 : Int) ≤ ((pB P).length : Int); omega
  have hr_1 := hr.1
  have hr_2 := hr.2
  have hr2_1 := hr2.1
  have hr2_2 := hr2.2
  have hr3_1 := hr3.1
  have hr3_2 := hr3.2
  refine z_aload_n C dX3_mode_0 hl 0 rfl ?_
  refine z_aload_n C dX3_mode_1 hl 0 rfl ?_
  refine z_iload_n C dX3_mode_2 hl 1 rfl ?_
  refine m_ViF C hH hS (mm_isLine hOk σ ln P (hP9) (hk9) (⟨by omega, by omega⟩)) (cwV 1 C.1.2.2.2.2 (lw_V q2413 q2415 qs63 q133 q2416) rfl rfl rfl (by decide +kernel) ⟨Nat.le_of_ble_eq_true rfl, Nat.le_of_ble_eq_true rfl⟩) rfl hl rfl (Nat.le_of_ble_eq_true rfl) dX3_mode_3 ⟨Nat.le_refl _, Nat.le_refl _⟩ (fun H locs hH hS => ?_)
  refine z_topi (fun z_3 hz_3 => ?_)
  have q_3 := inZ_or ln 0 (pN P - 1)
  rw [← hz_3] at q_3
  refine z_ifeq C dX3_mode_6 (tgt := 13) (by decide) ⟨by omega, by omega⟩ (fun c_6 => ?_) (fun c_6 => ?_)
  · refine z_iconst C dX3_mode_13 ?_
    refine z_goto C dX3_mode_14 (tgt := 31) (by decide) ?_
    refine m_puts C hH hS 0 ⟨by decide, by decide⟩ q2185 rfl ⟨rfl, rfl⟩ dX3_mode_31 (fun H locs hH hS => ?_)
    refine z_aload_n C dX3_mode_34 hl 0 rfl ?_
    refine m_getsZ C hH 0 ⟨by decide, by decide⟩ 1 rfl q2185 rfl dX3_mode_35 ?_
    refine z_ifle C dX3_mode_38 (tgt := 43) (by decide) ⟨by omega, by omega⟩ (fun c_38 => ?_) (fun c_38 => ?_)
    · exact absurd c_38 (by decide)
    · refine z_iconst C dX3_mode_41 ?_
      refine m_iret C hret hH hS dX3_mode_42 ?_
      refine ⟨by rw [show (su σ 0 0 1) 0 0 = 1 from (su_self _ _ _ _)]; first | (rw [if_pos (by omega)]; done) | (rw [if_neg (by omega)]; done) | (rw [if_neg (by omega), if_pos (by omega)]; done) | (rw [if_neg (by omega), if_neg (by omega)]; done), fun hth => ?_, (frSu Fr.rf rfl)⟩
      exact absurd ((show (su σ 0 0 1) 0 0 = 1 from (su_self _ _ _ _)).symm.trans hth) (by decide)
  · refine z_iload_n C dX3_mode_9 hl 2 rfl ?_
    refine z_ifge C dX3_mode_10 (tgt := 17) (by decide) ⟨by omega, by omega⟩ (fun c_10 => ?_) (fun c_10 => ?_)
    · refine z_iload_n C dX3_mode_17 hl 3 rfl ?_
      refine z_iconst C dX3_mode_18 ?_
      refine z_iconst C dX3_mode_19 ?_
      refine m_SiF C hH hS (mm_in hOk σ z 0 3 (⟨by omega, by omega⟩) (⟨by omega, by omega⟩) (⟨by omega, by omega⟩)) (va_cwS 3 C.1.2.2.2.2 (lw_S q2321 q2322 q133 q2323) rfl rfl rfl (by decide +kernel) ⟨Nat.le_of_ble_eq_true rfl, Nat.le_of_ble_eq_true rfl⟩) rfl hl rfl (Nat.le_of_ble_eq_true rfl) dX3_mode_20 ⟨Nat.le_refl _, Nat.le_refl _⟩ (fun H locs hH hS => ?_)
      refine z_topi (fun z_20 hz_20 => ?_)
      have q_20 := inZ_or z 0 3
      rw [← hz_20] at q_20
      refine z_ifeq C dX3_mode_23 (tgt := 30) (by decide) ⟨by omega, by omega⟩ (fun c_23 => ?_) (fun c_23 => ?_)
      · refine z_iconst C dX3_mode_30 ?_
        refine m_puts C hH hS 0 ⟨by decide, by decide⟩ q2185 rfl ⟨rfl, rfl⟩ dX3_mode_31 (fun H locs hH hS => ?_)
        refine z_aload_n C dX3_mode_34 hl 0 rfl ?_
        refine m_getsZ C hH 0 ⟨by decide, by decide⟩ 2 rfl q2185 rfl dX3_mode_35 ?_
        refine z_ifle C dX3_mode_38 (tgt := 43) (by decide) ⟨by omega, by omega⟩ (fun c_38_1 => ?_) (fun c_38_1 => ?_)
        · exact absurd c_38_1 (by decide)
        · refine z_iconst C dX3_mode_41 ?_
          refine m_iret C hret hH hS dX3_mode_42 ?_
          refine ⟨by rw [show (su σ 0 0 2) 0 0 = 2 from (su_self _ _ _ _)]; first | (rw [if_pos (by omega)]; done) | (rw [if_neg (by omega)]; done) | (rw [if_neg (by omega), if_pos (by omega)]; done) | (rw [if_neg (by omega), if_neg (by omega)]; done), fun hth => ?_, (frSu Fr.rf rfl)⟩
          exact absurd ((show (su σ 0 0 2) 0 0 = 2 from (su_self _ _ _ _)).symm.trans hth) (by decide)
      · refine z_iconst C dX3_mode_26 ?_
        refine z_goto C dX3_mode_27 (tgt := 31) (by decide) ?_
        refine m_puts C hH hS 0 ⟨by decide, by decide⟩ q2185 rfl ⟨rfl, rfl⟩ dX3_mode_31 (fun H locs hH hS => ?_)
        refine z_aload_n C dX3_mode_34 hl 0 rfl ?_
        refine m_getsZ C hH 0 ⟨by decide, by decide⟩ 0 rfl q2185 rfl dX3_mode_35 ?_
        refine z_ifle C dX3_mode_38 (tgt := 43) (by decide) ⟨by omega, by omega⟩ (fun c_38_2 => ?_) (fun c_38_2 => ?_)
        · refine z_aload_n C dX3_mode_43 hl 0 rfl ?_
          refine z_iload_n C dX3_mode_44 hl 1 rfl ?_
          refine m_Vv C hH hS (mm_codesLine hOk (su σ 0 0 0) ln P (hP9) (hk9) (by omega)) (cwV 1 C.1.2.2.2.2 (lw_V q2347 q2349 qs49 q133 q2350) rfl rfl rfl (by decide +kernel) ⟨Nat.le_of_ble_eq_true rfl, Nat.le_of_ble_eq_true rfl⟩) rfl hl rfl (Nat.le_of_ble_eq_true rfl) dX3_mode_45 ⟨Nat.le_refl _, Nat.le_refl _⟩ (fun s_45 H locs hp_45 hH hS => ?_)
          obtain ⟨hc45, hf45⟩ := hp_45
          obtain ⟨c1, c2, c3, c4, c5⟩ := hc45
          have l1 : ((pR P ln).length : Int) ≤ pW P + 1 := rns_len (lnZ P ln) (show 0 ≤ pW P by omega)
          have l2 : ((pC P ln).length : Int) ≤ pW P + 1 := cds_len (upZ P ln) (lnZ P ln) (show 0 ≤ pW P by omega)
          refine z_iload_n C dX3_mode_48 hl 2 rfl ?_
          refine z_aload_n C dX3_mode_49 hl 0 rfl ?_
          refine m_getsZ C hH 14 ⟨by decide, by decide⟩ (((pC P ln).length : Int)) (c4.1) q2199 rfl dX3_mode_50 ?_
          refine z_icmplt C dX3_mode_53 (tgt := 59) (by decide) ⟨⟨by omega, by omega⟩, ⟨by omega, by omega⟩⟩ (fun c_53 => ?_) (fun c_53 => ?_)
          · obtain ⟨e10, e11, e12, e13⟩ := c4.2 x (by omega) (show x < ((pC P ln).length : Int) by omega)
            refine z_iload_n C dX3_mode_59 hl 3 rfl ?_
            refine z_ifne C dX3_mode_60 (tgt := 72) (by decide) ⟨by omega, by omega⟩ (fun c_60 => ?_) (fun c_60 => ?_)
            · refine z_iload_n C dX3_mode_72 hl 3 rfl ?_
              refine z_iconst C dX3_mode_73 ?_
              refine z_icmpne C dX3_mode_74 (tgt := 86) (by decide) ⟨⟨by omega, by omega⟩, ⟨by omega, by omega⟩⟩ (fun c_74 => ?_) (fun c_74 => ?_)
              · refine z_iload_n C dX3_mode_86 hl 3 rfl ?_
                refine z_iconst C dX3_mode_87 ?_
                refine z_icmpne C dX3_mode_88 (tgt := 100) (by decide) ⟨⟨by omega, by omega⟩, ⟨by omega, by omega⟩⟩ (fun c_88 => ?_) (fun c_88 => ?_)
                · refine z_aload_n C dX3_mode_100 hl 0 rfl ?_
                  refine m_geta C hH 13 ⟨by decide, by decide⟩ q2198 rfl dX3_mode_101 ?_
                  refine z_iload_n C dX3_mode_104 hl 2 rfl ?_
                  refine m_ialdZ C hOk hH 13 ⟨by decide, by decide⟩ x ((gM (pC P ln) x).2.2.2) (e13) (show 0 ≤ x ∧ x < (48 : Int) by omega) dX3_mode_105 ?_
                  refine m_iret C hret hH hS dX3_mode_106 ?_
                  refine ⟨by rw [show s_45 0 0 = 0 from (by rw [hf45.at 0 rfl]; exact su_self _ _ _ _)]; first | (rw [if_pos (by omega)]; done) | (rw [if_neg (by omega)]; done) | (rw [if_neg (by omega), if_pos (by omega)]; done) | (rw [if_neg (by omega), if_neg (by omega)]; done), fun hth => ?_, ((frSu Fr.rf rfl).th hf45 rfl)⟩
                  unfold moZ; first | (rw [if_neg (by omega), if_pos (by omega)]; done) | (rw [if_neg (by omega), if_neg (by omega), if_pos (by omega)]; done) | (rw [if_neg (by omega), if_neg (by omega), if_neg (by omega), if_pos (by omega)]; done) | (rw [if_neg (by omega), if_neg (by omega), if_neg (by omega), if_neg (by omega)]; done)
                · refine z_aload_n C dX3_mode_91 hl 0 rfl ?_
                  refine m_geta C hH 12 ⟨by decide, by decide⟩ q2197 rfl dX3_mode_92 ?_
                  refine z_iload_n C dX3_mode_95 hl 2 rfl ?_
                  refine m_ialdZ C hOk hH 12 ⟨by decide, by decide⟩ x ((gM (pC P ln) x).2.2.1) (e12) (show 0 ≤ x ∧ x < (48 : Int) by omega) dX3_mode_96 ?_
                  refine z_goto C dX3_mode_97 (tgt := 106) (by decide) ?_
                  refine m_iret C hret hH hS dX3_mode_106 ?_
                  refine ⟨by rw [show s_45 0 0 = 0 from (by rw [hf45.at 0 rfl]; exact su_self _ _ _ _)]; first | (rw [if_pos (by omega)]; done) | (rw [if_neg (by omega)]; done) | (rw [if_neg (by omega), if_pos (by omega)]; done) | (rw [if_neg (by omega), if_neg (by omega)]; done), fun hth => ?_, ((frSu Fr.rf rfl).th hf45 rfl)⟩
                  unfold moZ; first | (rw [if_neg (by omega), if_pos (by omega)]; done) | (rw [if_neg (by omega), if_neg (by omega), if_pos (by omega)]; done) | (rw [if_neg (by omega), if_neg (by omega), if_neg (by omega), if_pos (by omega)]; done) | (rw [if_neg (by omega), if_neg (by omega), if_neg (by omega), if_neg (by omega)]; done)
              · refine z_aload_n C dX3_mode_77 hl 0 rfl ?_
                refine m_geta C hH 11 ⟨by decide, by decide⟩ q2196 rfl dX3_mode_78 ?_
                refine z_iload_n C dX3_mode_81 hl 2 rfl ?_
                refine m_ialdZ C hOk hH 11 ⟨by decide, by decide⟩ x ((gM (pC P ln) x).2.1) (e11) (show 0 ≤ x ∧ x < (48 : Int) by omega) dX3_mode_82 ?_
                refine z_goto C dX3_mode_83 (tgt := 106) (by decide) ?_
                refine m_iret C hret hH hS dX3_mode_106 ?_
                refine ⟨by rw [show s_45 0 0 = 0 from (by rw [hf45.at 0 rfl]; exact su_self _ _ _ _)]; first | (rw [if_pos (by omega)]; done) | (rw [if_neg (by omega)]; done) | (rw [if_neg (by omega), if_pos (by omega)]; done) | (rw [if_neg (by omega), if_neg (by omega)]; done), fun hth => ?_, ((frSu Fr.rf rfl).th hf45 rfl)⟩
                unfold moZ; first | (rw [if_neg (by omega), if_pos (by omega)]; done) | (rw [if_neg (by omega), if_neg (by omega), if_pos (by omega)]; done) | (rw [if_neg (by omega), if_neg (by omega), if_neg (by omega), if_pos (by omega)]; done) | (rw [if_neg (by omega), if_neg (by omega), if_neg (by omega), if_neg (by omega)]; done)
            · refine z_aload_n C dX3_mode_63 hl 0 rfl ?_
              refine m_geta C hH 10 ⟨by decide, by decide⟩ q2195 rfl dX3_mode_64 ?_
              refine z_iload_n C dX3_mode_67 hl 2 rfl ?_
              refine m_ialdZ C hOk hH 10 ⟨by decide, by decide⟩ x ((gM (pC P ln) x).1) (e10) (show 0 ≤ x ∧ x < (48 : Int) by omega) dX3_mode_68 ?_
              refine z_goto C dX3_mode_69 (tgt := 106) (by decide) ?_
              refine m_iret C hret hH hS dX3_mode_106 ?_
              refine ⟨by rw [show s_45 0 0 = 0 from (by rw [hf45.at 0 rfl]; exact su_self _ _ _ _)]; first | (rw [if_pos (by omega)]; done) | (rw [if_neg (by omega)]; done) | (rw [if_neg (by omega), if_pos (by omega)]; done) | (rw [if_neg (by omega), if_neg (by omega)]; done), fun hth => ?_, ((frSu Fr.rf rfl).th hf45 rfl)⟩
              unfold moZ; first | (rw [if_neg (by omega), if_pos (by omega)]; done) | (rw [if_neg (by omega), if_neg (by omega), if_pos (by omega)]; done) | (rw [if_neg (by omega), if_neg (by omega), if_neg (by omega), if_pos (by omega)]; done) | (rw [if_neg (by omega), if_neg (by omega), if_neg (by omega), if_neg (by omega)]; done)
          · refine z_bipush C dX3_mode_56 (by decide +kernel) ?_
            refine m_iret C hret hH hS dX3_mode_58 ?_
            refine ⟨by rw [show s_45 0 0 = 0 from (by rw [hf45.at 0 rfl]; exact su_self _ _ _ _)]; first | (rw [if_pos (by omega)]; done) | (rw [if_neg (by omega)]; done) | (rw [if_neg (by omega), if_pos (by omega)]; done) | (rw [if_neg (by omega), if_neg (by omega)]; done), fun hth => ?_, ((frSu Fr.rf rfl).th hf45 rfl)⟩
            unfold moZ; rw [if_pos (by omega)]
        · exact absurd c_38_2 (by decide)
    · refine z_iconst C dX3_mode_13 ?_
      refine z_goto C dX3_mode_14 (tgt := 31) (by decide) ?_
      refine m_puts C hH hS 0 ⟨by decide, by decide⟩ q2185 rfl ⟨rfl, rfl⟩ dX3_mode_31 (fun H locs hH hS => ?_)
      refine z_aload_n C dX3_mode_34 hl 0 rfl ?_
      refine m_getsZ C hH 0 ⟨by decide, by decide⟩ 1 rfl q2185 rfl dX3_mode_35 ?_
      refine z_ifle C dX3_mode_38 (tgt := 43) (by decide) ⟨by omega, by omega⟩ (fun c_38_3 => ?_) (fun c_38_3 => ?_)
      · exact absurd c_38_3 (by decide)
      · refine z_iconst C dX3_mode_41 ?_
        refine m_iret C hret hH hS dX3_mode_42 ?_
        refine ⟨by rw [show (su σ 0 0 1) 0 0 = 1 from (su_self _ _ _ _)]; first | (rw [if_pos (by omega)]; done) | (rw [if_neg (by omega)]; done) | (rw [if_neg (by omega), if_pos (by omega)]; done) | (rw [if_neg (by omega), if_neg (by omega)]; done), fun hth => ?_, (frSu Fr.rf rfl)⟩
        exact absurd ((show (su σ 0 0 1) 0 0 = 1 from (su_self _ _ _ _)).symm.trans hth) (by decide)
set_option maxHeartbeats 1000000 in
theorem mm_change {l : Launch} {D : va_G} {dA : Nat → ClassId} {A : Nat → Prop} {o : Nat} {ad : Nat → Nat} (hOk : mOk o ad) (σ : Sg) (ln : Int) (x : Int) (P : Pg) (hP : PgAt (σ 1) P) (hk : PgOk P) (hr : zR ln) (hr2 : zR x) : Met l yX3_change (ws_ yX3_change cX3_change 6 (some .int)) (rmL 8 0 0) (MP D dA A o ad [.ref o, .int (iI ln), .int (iI x)] σ) (MQi D dA A o ad (fun r σ' => σ' 0 0 = (if (0 ≤ ln ∧ ln ≤ pN P - 1) ∧ 0 ≤ x then 0 else 1) ∧ (σ' 0 0 = 0 → r = ciZ (lnZ P ln) (pW P) 0 x) ∧ Fr [0, 7, 8, 9, 10, 11, 12, 13, 14, 15, 16, 17, 18, 19] σ σ')) 0 0 A := by
  refine z_ofW (by decide) rfl ?_
  intro pp ee s0 mm below meth cc0 ls C hret hname hl hH hS
  have hl : lv_has ls 6 [(0, .ref o), (1, .int (iI ln)), (2, .int (iI x))] := hl
  have hk9 := hk
  have hP9 := hP
  obtain ⟨k1, k2, k3, k4, k5, k6, k7, k8, k9, k10, k11⟩ := hk
  obtain ⟨p1, p2, p3, p4, p5⟩ := hP
  have pn0 : 0 ≤ pN P := by show (0 : Int) ≤ ((pB P).length : Int); omega
  have hr_1 := hr.1
  have hr_2 := hr.2
  have hr2_1 := hr2.1
  have hr2_2 := hr2.2
  refine z_aload_n C dX3_change_0 hl 0 rfl ?_
  refine z_aload_n C dX3_change_1 hl 0 rfl ?_
  refine z_iload_n C dX3_change_2 hl 1 rfl ?_
  refine m_ViF C hH hS (mm_isLine hOk σ ln P (hP9) (hk9) (⟨by omega, by omega⟩)) (cwV 1 C.1.2.2.2.2 (lw_V q2413 q2415 qs63 q133 q2416) rfl rfl rfl (by decide +kernel) ⟨Nat.le_of_ble_eq_true rfl, Nat.le_of_ble_eq_true rfl⟩) rfl hl rfl (Nat.le_of_ble_eq_true rfl) dX3_change_3 ⟨Nat.le_refl _, Nat.le_refl _⟩ (fun H locs hH hS => ?_)
  refine z_topi (fun z_3 hz_3 => ?_)
  have q_3 := inZ_or ln 0 (pN P - 1)
  rw [← hz_3] at q_3
  refine z_ifeq C dX3_change_6 (tgt := 17) (by decide) ⟨by omega, by omega⟩ (fun c_6 => ?_) (fun c_6 => ?_)
  · refine z_iconst C dX3_change_17 ?_
    refine m_puts C hH hS 0 ⟨by decide, by decide⟩ q2185 rfl ⟨rfl, rfl⟩ dX3_change_18 (fun H locs hH hS => ?_)
    refine z_iload_n C dX3_change_21 hl 2 rfl ?_
    refine z_istore_n C [(3, .int (iI x)), (0, .ref o), (1, .int (iI ln)), (2, .int (iI x))] dX3_change_22 hl (by decide) rfl (fun ls hl => ?_)
    refine z_iconst C dX3_change_23 ?_
    refine z_istore C [(4, .int (iI 0)), (3, .int (iI x)), (0, .ref o), (1, .int (iI ln)), (2, .int (iI x))] dX3_change_24 hl (by decide) rfl (fun ls hl => ?_)
    have J_26 : ∀ (n : Nat) (y : Int) (k : Int) (s1 : Sg) (th : Int), (pW P - k).toNat < n → (0 ≤ k ∧ k ≤ pW P) → (s1 = su σ 0 0 th) → (s1 1 = σ 1) → ((th = 0 ∧ 0 ≤ ln ∧ ln ≤ pN P - 1 ∧ 0 ≤ y ∧ y ≤ x) ∨ th = 1) → (th = (if (0 ≤ ln ∧ ln ≤ pN P - 1) ∧ 0 ≤ x then 0 else 1)) → (th = 0 → ciZ (lnZ P ln) (pW P) 0 x = ciZ (lnZ P ln) (pW P) k y) → ∀ (H : Heap) (locs : List Loc) (ls : Array Slot), MH D dA A o ad s1 H → va_S A s0.heap H locs → lv_has ls 6 [(4, .int (iI k)), (3, .int (iI y)), (0, .ref o), (1, .int (iI ln)), (2, .int (iI x))] → W pp l ee (rmL 8 0 0) s0 mm ([.ref o, .int (iI ln), .int (iI x)] : List Value).toArray below meth cc0 H locs 0 0 (MQ below (MQi D dA A o ad (fun r σ' => σ' 0 0 = (if (0 ≤ ln ∧ ln ≤ pN P - 1) ∧ 0 ≤ x then 0 else 1) ∧ (σ' 0 0 = 0 → r = ciZ (lnZ P ln) (pW P) 0 x) ∧ Fr [0, 7, 8, 9, 10, 11, 12, 13, 14, 15, 16, 17, 18, 19] σ σ')) ([.ref o, .int (iI ln), .int (iI x)] : List Value).toArray s0 0 0 A) (F0 mm 26 ls []) := by
      intro n
      induction n with
      | zero => intro y k s1 th hn; exact absurd hn (Nat.not_lt_zero _)
      | succ n ih_26 =>
        intro y k s1 th hn hk0 hs0 hs hth hth2 hc H locs ls hH hS hl
        have J_103 : (th = 1 ∨ (th = 0 ∧ k = pW P)) → ∀ (H : Heap) (locs : List Loc) (ls : Array Slot), MH D dA A o ad s1 H → va_S A s0.heap H locs → lv_has ls 6 [(4, .int (iI k)), (3, .int (iI y)), (0, .ref o), (1, .int (iI ln)), (2, .int (iI x))] → W pp l ee (rmL 8 0 0) s0 mm ([.ref o, .int (iI ln), .int (iI x)] : List Value).toArray below meth cc0 H locs 0 0 (MQ below (MQi D dA A o ad (fun r σ' => σ' 0 0 = (if (0 ≤ ln ∧ ln ≤ pN P - 1) ∧ 0 ≤ x then 0 else 1) ∧ (σ' 0 0 = 0 → r = ciZ (lnZ P ln) (pW P) 0 x) ∧ Fr [0, 7, 8, 9, 10, 11, 12, 13, 14, 15, 16, 17, 18, 19] σ σ')) ([.ref o, .int (iI ln), .int (iI x)] : List Value).toArray s0 0 0 A) (F0 mm 103 ls []) := by
          intro  hx H locs ls hH hS hl
          refine z_aload_n C dX3_change_103 hl 2 rfl ?_
          refine m_getsZ C hH 0 ⟨by decide, by decide⟩ th (by rw [hs0]; exact su_self _ _ _ _) q2185 rfl dX3_change_104 ?_
          refine z_ifle C dX3_change_107 (tgt := 114) (by decide) ⟨by omega, by omega⟩ (fun c_107 => ?_) (fun c_107 => ?_)
          · refine z_iconst C dX3_change_114 ?_
            refine m_iret C hret hH hS dX3_change_115 ?_
            refine ⟨?_, fun hth3 => ?_, by rw [hs0]; exact frSu Fr.rf rfl⟩
            · rw [hs0, su_self]; exact hth2
            · rw [hs0, su_self] at hth3; rw [hc hth3]; first | exact (ciZ_end (by omega)).symm | exact absurd hth3 (by omega)
          · refine z_iconst C dX3_change_110 ?_
            refine z_goto C dX3_change_111 (tgt := 115) (by decide) ?_
            refine m_iret C hret hH hS dX3_change_115 ?_
            refine ⟨?_, fun hth3 => ?_, by rw [hs0]; exact frSu Fr.rf rfl⟩
            · rw [hs0, su_self]; exact hth2
            · rw [hs0, su_self] at hth3; rw [hc hth3]; first | exact (ciZ_end (by omega)).symm | exact absurd hth3 (by omega)
        refine z_iload C dX3_change_26 hl 0 rfl ?_
        refine z_aload_n C dX3_change_28 hl 2 rfl ?_
        refine m_geta C hH 1 ⟨by decide, by decide⟩ q2186 rfl dX3_change_29 ?_
        refine z_iconst C dX3_change_32 ?_
        refine m_ialdZ C hOk hH 1 ⟨by decide, by decide⟩ 0 (pW P) (by rw [hs]; exact p1) (show 0 ≤ 0 ∧ 0 < (828 : Int) by omega) dX3_change_33 ?_
        refine z_icmpge C dX3_change_34 (tgt := 103) (by decide) ⟨⟨by omega, by omega⟩, ⟨by omega, by omega⟩⟩ (fun c_34 => ?_) (fun c_34 => ?_)
        · exact J_103  (by omega) _ _ _ hH hS (lv_sub hl [0, 1, 2, 3, 4] rfl)
        · refine z_aload_n C dX3_change_37 hl 2 rfl ?_
          refine m_getsZ C hH 0 ⟨by decide, by decide⟩ th (by rw [hs0]; exact su_self _ _ _ _) q2185 rfl dX3_change_38 ?_
          refine z_ifne C dX3_change_41 (tgt := 103) (by decide) ⟨by omega, by omega⟩ (fun c_41 => ?_) (fun c_41 => ?_)
          · exact J_103  (by omega) _ _ _ hH hS (lv_sub hl [0, 1, 2, 3, 4] rfl)
          · have v1 := lnZ_01 P ln k
            have v2 := lnZ_01 P ln (k - 1)
            refine z_aload_n C dX3_change_44 hl 2 rfl ?_
            refine m_geta C hH 1 ⟨by decide, by decide⟩ q2186 rfl dX3_change_45 ?_
            refine z_iload_n C dX3_change_48 hl 3 rfl ?_
            refine z_iload C dX3_change_49 hl 0 rfl ?_
            refine m_SiF C hH hS (mm_dotAt hOk s1 ln k) (va_cwS 2 C.1.2.2.2.2 (lw_S q2332 q2333 q133 q2334) rfl rfl rfl (by decide +kernel) ⟨Nat.le_of_ble_eq_true rfl, Nat.le_of_ble_eq_true rfl⟩) rfl hl rfl (Nat.le_of_ble_eq_true rfl) dX3_change_51 ⟨Nat.le_refl _, Nat.le_refl _⟩ (fun H locs hH hS => ?_)
            have J_70 : ∀ (v : Int), (v = isCh (lnZ P ln) k) → ∀ (H : Heap) (locs : List Loc) (ls : Array Slot), MH D dA A o ad s1 H → va_S A s0.heap H locs → lv_has ls 6 [(4, .int (iI k)), (3, .int (iI y)), (0, .ref o), (1, .int (iI ln)), (2, .int (iI x))] → W pp l ee (rmL 8 0 0) s0 mm ([.ref o, .int (iI ln), .int (iI x)] : List Value).toArray below meth cc0 H locs 0 0 (MQ below (MQi D dA A o ad (fun r σ' => σ' 0 0 = (if (0 ≤ ln ∧ ln ≤ pN P - 1) ∧ 0 ≤ x then 0 else 1) ∧ (σ' 0 0 = 0 → r = ciZ (lnZ P ln) (pW P) 0 x) ∧ Fr [0, 7, 8, 9, 10, 11, 12, 13, 14, 15, 16, 17, 18, 19] σ σ')) ([.ref o, .int (iI ln), .int (iI x)] : List Value).toArray s0 0 0 A) (F0 mm 70 ls [.int (iI v)]) := by
              intro v hv H locs ls hH hS hl
              refine z_istore C [(5, .int (iI v)), (4, .int (iI k)), (3, .int (iI y)), (0, .ref o), (1, .int (iI ln)), (2, .int (iI x))] dX3_change_70 hl (by decide) rfl (fun ls hl => ?_)
              have i01 := isCh_01 (lnZ P ln) k
              refine z_iload C dX3_change_72 hl 0 rfl ?_
              refine z_ifeq C dX3_change_74 (tgt := 84) (by decide) ⟨by omega, by omega⟩ (fun c_74 => ?_) (fun c_74 => ?_)
              · refine z_iload_n C dX3_change_84 hl 2 rfl ?_
                refine z_iload C dX3_change_85 hl 0 rfl ?_
                refine z_ifeq C dX3_change_87 (tgt := 94) (by decide) ⟨by omega, by omega⟩ (fun c_87 => ?_) (fun c_87 => ?_)
                · refine z_iconst C dX3_change_94 ?_
                  refine z_isub C dX3_change_95 ?_
                  refine z_istore_n C [(3, .int (iI (y - 0))), (5, .int (iI v)), (4, .int (iI k)), (0, .ref o), (1, .int (iI ln)), (2, .int (iI x))] dX3_change_96 hl (by decide) rfl (fun ls hl => ?_)
                  refine z_iinc C [(4, .int (iI (k + 1))), (3, .int (iI (y - 0))), (5, .int (iI v)), (0, .ref o), (1, .int (iI ln)), (2, .int (iI x))] dX3_change_97 hl 2 rfl (by decide) rfl (fun ls hl => ?_)
                  refine z_goto C dX3_change_100 (tgt := 26) (by decide) ?_
                  exact ih_26 ((y - 0)) ((k + 1)) s1 th (by omega) (by omega) (hs0) (hs) (Or.inl ⟨by omega, by omega, by omega, by omega, by omega⟩) (hth2) (fun h => by rw [hc h, ciZ_go (by omega) (by omega), show isCh (lnZ P ln) k = 0 by omega]) _ _ _ hH hS (lv_sub hl [0, 1, 3, 4, 5] rfl)
                · refine z_iconst C dX3_change_90 ?_
                  refine z_goto C dX3_change_91 (tgt := 95) (by decide) ?_
                  refine z_isub C dX3_change_95 ?_
                  refine z_istore_n C [(3, .int (iI (y - 1))), (5, .int (iI v)), (4, .int (iI k)), (0, .ref o), (1, .int (iI ln)), (2, .int (iI x))] dX3_change_96 hl (by decide) rfl (fun ls hl => ?_)
                  refine z_iinc C [(4, .int (iI (k + 1))), (3, .int (iI (y - 1))), (5, .int (iI v)), (0, .ref o), (1, .int (iI ln)), (2, .int (iI x))] dX3_change_97 hl 2 rfl (by decide) rfl (fun ls hl => ?_)
                  refine z_goto C dX3_change_100 (tgt := 26) (by decide) ?_
                  exact ih_26 ((y - 1)) ((k + 1)) s1 th (by omega) (by omega) (hs0) (hs) (Or.inl ⟨by omega, by omega, by omega, by omega, by omega⟩) (hth2) (fun h => by rw [hc h, ciZ_go (by omega) (by omega), show isCh (lnZ P ln) k = 1 by omega]) _ _ _ hH hS (lv_sub hl [0, 1, 3, 4, 5] rfl)
              · refine z_iload_n C dX3_change_77 hl 2 rfl ?_
                refine z_ifne C dX3_change_78 (tgt := 84) (by decide) ⟨by omega, by omega⟩ (fun c_78 => ?_) (fun c_78 => ?_)
                · refine z_iload_n C dX3_change_84 hl 2 rfl ?_
                  refine z_iload C dX3_change_85 hl 0 rfl ?_
                  refine z_ifeq C dX3_change_87 (tgt := 94) (by decide) ⟨by omega, by omega⟩ (fun c_87_1 => ?_) (fun c_87_1 => ?_)
                  · refine z_iconst C dX3_change_94 ?_
                    refine z_isub C dX3_change_95 ?_
                    refine z_istore_n C [(3, .int (iI (y - 0))), (5, .int (iI v)), (4, .int (iI k)), (0, .ref o), (1, .int (iI ln)), (2, .int (iI x))] dX3_change_96 hl (by decide) rfl (fun ls hl => ?_)
                    refine z_iinc C [(4, .int (iI (k + 1))), (3, .int (iI (y - 0))), (5, .int (iI v)), (0, .ref o), (1, .int (iI ln)), (2, .int (iI x))] dX3_change_97 hl 2 rfl (by decide) rfl (fun ls hl => ?_)
                    refine z_goto C dX3_change_100 (tgt := 26) (by decide) ?_
                    exact ih_26 ((y - 0)) ((k + 1)) s1 th (by omega) (by omega) (hs0) (hs) (Or.inl ⟨by omega, by omega, by omega, by omega, by omega⟩) (hth2) (fun h => by rw [hc h, ciZ_go (by omega) (by omega), show isCh (lnZ P ln) k = 0 by omega]) _ _ _ hH hS (lv_sub hl [0, 1, 3, 4, 5] rfl)
                  · refine z_iconst C dX3_change_90 ?_
                    refine z_goto C dX3_change_91 (tgt := 95) (by decide) ?_
                    refine z_isub C dX3_change_95 ?_
                    refine z_istore_n C [(3, .int (iI (y - 1))), (5, .int (iI v)), (4, .int (iI k)), (0, .ref o), (1, .int (iI ln)), (2, .int (iI x))] dX3_change_96 hl (by decide) rfl (fun ls hl => ?_)
                    refine z_iinc C [(4, .int (iI (k + 1))), (3, .int (iI (y - 1))), (5, .int (iI v)), (0, .ref o), (1, .int (iI ln)), (2, .int (iI x))] dX3_change_97 hl 2 rfl (by decide) rfl (fun ls hl => ?_)
                    refine z_goto C dX3_change_100 (tgt := 26) (by decide) ?_
                    exact ih_26 ((y - 1)) ((k + 1)) s1 th (by omega) (by omega) (hs0) (hs) (Or.inl ⟨by omega, by omega, by omega, by omega, by omega⟩) (hth2) (fun h => by rw [hc h, ciZ_go (by omega) (by omega), show isCh (lnZ P ln) k = 1 by omega]) _ _ _ hH hS (lv_sub hl [0, 1, 3, 4, 5] rfl)
                · refine z_iload C dX3_change_81 hl 1 rfl ?_
                  refine m_iret C hret hH hS dX3_change_83 ?_
                  refine ⟨?_, fun hth3 => ?_, by rw [hs0]; exact frSu Fr.rf rfl⟩
                  · rw [hs0, su_self]; exact hth2
                  · rw [hc (by omega)]; exact (ciZ_at (by omega) (by omega) (by omega)).symm
            refine m_ialdZ C hOk hH 1 ⟨by decide, by decide⟩ (28 + 40 * ln + k) (lnZ P ln k) (by rw [hs]; exact p5 ln k (by omega) (by omega) (by omega) (by omega)) (show 0 ≤ (28 + 40 * ln + k) ∧ (28 + 40 * ln + k) < (828 : Int) by omega) dX3_change_54 ?_
            refine z_aload_n C dX3_change_55 hl 2 rfl ?_
            refine z_iload_n C dX3_change_56 hl 3 rfl ?_
            refine z_iload C dX3_change_57 hl 0 rfl ?_
            refine m_ViF C hH hS (mm_ahead hOk s1 ln k P ((by rw [hs]; exact hP9)) (hk9) (by omega) (by omega)) (cwV 2 C.1.2.2.2.2 (lw_V q2339 q2341 qs47 q133 q2342) rfl rfl rfl (by decide +kernel) ⟨Nat.le_of_ble_eq_true rfl, Nat.le_of_ble_eq_true rfl⟩) rfl hl rfl (Nat.le_of_ble_eq_true rfl) dX3_change_59 ⟨Nat.le_refl _, Nat.le_refl _⟩ (fun H locs hH hS => ?_)
            refine z_topi (fun v2_ hv2_ => ?_)
            have hv3 : v2_ = 0 ∨ v2_ = 1 := by rw [hv2_]; split <;> omega
            refine z_icmpeq C dX3_change_62 (tgt := 69) (by decide) ⟨⟨by omega, by omega⟩, ⟨by omega, by omega⟩⟩ (fun c_62 => ?_) (fun c_62 => ?_)
            · refine z_iconst C dX3_change_69 ?_
              exact J_70 0 (by unfold isCh; first | (rw [if_pos (by omega)]; done) | (rw [if_neg (by omega)]; done)) _ _ _ hH hS (lv_sub hl [0, 1, 2, 3, 4] rfl)
            · refine z_iconst C dX3_change_65 ?_
              refine z_goto C dX3_change_66 (tgt := 70) (by decide) ?_
              exact J_70 1 (by unfold isCh; first | (rw [if_pos (by omega)]; done) | (rw [if_neg (by omega)]; done)) _ _ _ hH hS (lv_sub hl [0, 1, 2, 3, 4] rfl)
    exact J_26 _ x 0 ((su σ 0 0 1)) 1 (Nat.lt_succ_self _) (by omega) (rfl) (rfl) (by omega) (by first | (rw [if_pos (by omega)]; done) | (rw [if_neg (by omega)]; done) | (rw [if_neg (by omega), if_pos (by omega)]; done) | (rw [if_neg (by omega), if_neg (by omega)]; done)) (fun _ => rfl) _ _ _ hH hS (lv_sub hl [0, 1, 2, 3, 4] rfl)
  · refine z_iload_n C dX3_change_9 hl 2 rfl ?_
    refine z_iflt C dX3_change_10 (tgt := 17) (by decide) ⟨by omega, by omega⟩ (fun c_10 => ?_) (fun c_10 => ?_)
    · refine z_iconst C dX3_change_17 ?_
      refine m_puts C hH hS 0 ⟨by decide, by decide⟩ q2185 rfl ⟨rfl, rfl⟩ dX3_change_18 (fun H locs hH hS => ?_)
      refine z_iload_n C dX3_change_21 hl 2 rfl ?_
      refine z_istore_n C [(3, .int (iI x)), (0, .ref o), (1, .int (iI ln)), (2, .int (iI x))] dX3_change_22 hl (by decide) rfl (fun ls hl => ?_)
      refine z_iconst C dX3_change_23 ?_
      refine z_istore C [(4, .int (iI 0)), (3, .int (iI x)), (0, .ref o), (1, .int (iI ln)), (2, .int (iI x))] dX3_change_24 hl (by decide) rfl (fun ls hl => ?_)
      have J_26 : ∀ (n : Nat) (y : Int) (k : Int) (s1 : Sg) (th : Int), (pW P - k).toNat < n → (0 ≤ k ∧ k ≤ pW P) → (s1 = su σ 0 0 th) → (s1 1 = σ 1) → ((th = 0 ∧ 0 ≤ ln ∧ ln ≤ pN P - 1 ∧ 0 ≤ y ∧ y ≤ x) ∨ th = 1) → (th = (if (0 ≤ ln ∧ ln ≤ pN P - 1) ∧ 0 ≤ x then 0 else 1)) → (th = 0 → ciZ (lnZ P ln) (pW P) 0 x = ciZ (lnZ P ln) (pW P) k y) → ∀ (H : Heap) (locs : List Loc) (ls : Array Slot), MH D dA A o ad s1 H → va_S A s0.heap H locs → lv_has ls 6 [(4, .int (iI k)), (3, .int (iI y)), (0, .ref o), (1, .int (iI ln)), (2, .int (iI x))] → W pp l ee (rmL 8 0 0) s0 mm ([.ref o, .int (iI ln), .int (iI x)] : List Value).toArray below meth cc0 H locs 0 0 (MQ below (MQi D dA A o ad (fun r σ' => σ' 0 0 = (if (0 ≤ ln ∧ ln ≤ pN P - 1) ∧ 0 ≤ x then 0 else 1) ∧ (σ' 0 0 = 0 → r = ciZ (lnZ P ln) (pW P) 0 x) ∧ Fr [0, 7, 8, 9, 10, 11, 12, 13, 14, 15, 16, 17, 18, 19] σ σ')) ([.ref o, .int (iI ln), .int (iI x)] : List Value).toArray s0 0 0 A) (F0 mm 26 ls []) := by
        intro n
        induction n with
        | zero => intro y k s1 th hn; exact absurd hn (Nat.not_lt_zero _)
        | succ n ih_26 =>
          intro y k s1 th hn hk0 hs0 hs hth hth2 hc H locs ls hH hS hl
          have J_103 : (th = 1 ∨ (th = 0 ∧ k = pW P)) → ∀ (H : Heap) (locs : List Loc) (ls : Array Slot), MH D dA A o ad s1 H → va_S A s0.heap H locs → lv_has ls 6 [(4, .int (iI k)), (3, .int (iI y)), (0, .ref o), (1, .int (iI ln)), (2, .int (iI x))] → W pp l ee (rmL 8 0 0) s0 mm ([.ref o, .int (iI ln), .int (iI x)] : List Value).toArray below meth cc0 H locs 0 0 (MQ below (MQi D dA A o ad (fun r σ' => σ' 0 0 = (if (0 ≤ ln ∧ ln ≤ pN P - 1) ∧ 0 ≤ x then 0 else 1) ∧ (σ' 0 0 = 0 → r = ciZ (lnZ P ln) (pW P) 0 x) ∧ Fr [0, 7, 8, 9, 10, 11, 12, 13, 14, 15, 16, 17, 18, 19] σ σ')) ([.ref o, .int (iI ln), .int (iI x)] : List Value).toArray s0 0 0 A) (F0 mm 103 ls []) := by
            intro  hx H locs ls hH hS hl
            refine z_aload_n C dX3_change_103 hl 2 rfl ?_
            refine m_getsZ C hH 0 ⟨by decide, by decide⟩ th (by rw [hs0]; exact su_self _ _ _ _) q2185 rfl dX3_change_104 ?_
            refine z_ifle C dX3_change_107 (tgt := 114) (by decide) ⟨by omega, by omega⟩ (fun c_107_1 => ?_) (fun c_107_1 => ?_)
            · refine z_iconst C dX3_change_114 ?_
              refine m_iret C hret hH hS dX3_change_115 ?_
              refine ⟨?_, fun hth3 => ?_, by rw [hs0]; exact frSu Fr.rf rfl⟩
              · rw [hs0, su_self]; exact hth2
              · rw [hs0, su_self] at hth3; rw [hc hth3]; first | exact (ciZ_end (by omega)).symm | exact absurd hth3 (by omega)
            · refine z_iconst C dX3_change_110 ?_
              refine z_goto C dX3_change_111 (tgt := 115) (by decide) ?_
              refine m_iret C hret hH hS dX3_change_115 ?_
              refine ⟨?_, fun hth3 => ?_, by rw [hs0]; exact frSu Fr.rf rfl⟩
              · rw [hs0, su_self]; exact hth2
              · rw [hs0, su_self] at hth3; rw [hc hth3]; first | exact (ciZ_end (by omega)).symm | exact absurd hth3 (by omega)
          refine z_iload C dX3_change_26 hl 0 rfl ?_
          refine z_aload_n C dX3_change_28 hl 2 rfl ?_
          refine m_geta C hH 1 ⟨by decide, by decide⟩ q2186 rfl dX3_change_29 ?_
          refine z_iconst C dX3_change_32 ?_
          refine m_ialdZ C hOk hH 1 ⟨by decide, by decide⟩ 0 (pW P) (by rw [hs]; exact p1) (show 0 ≤ 0 ∧ 0 < (828 : Int) by omega) dX3_change_33 ?_
          refine z_icmpge C dX3_change_34 (tgt := 103) (by decide) ⟨⟨by omega, by omega⟩, ⟨by omega, by omega⟩⟩ (fun c_34_1 => ?_) (fun c_34_1 => ?_)
          · exact J_103  (by omega) _ _ _ hH hS (lv_sub hl [0, 1, 2, 3, 4] rfl)
          · refine z_aload_n C dX3_change_37 hl 2 rfl ?_
            refine m_getsZ C hH 0 ⟨by decide, by decide⟩ th (by rw [hs0]; exact su_self _ _ _ _) q2185 rfl dX3_change_38 ?_
            refine z_ifne C dX3_change_41 (tgt := 103) (by decide) ⟨by omega, by omega⟩ (fun c_41_1 => ?_) (fun c_41_1 => ?_)
            · exact J_103  (by omega) _ _ _ hH hS (lv_sub hl [0, 1, 2, 3, 4] rfl)
            · have v1 := lnZ_01 P ln k
              have v2 := lnZ_01 P ln (k - 1)
              refine z_aload_n C dX3_change_44 hl 2 rfl ?_
              refine m_geta C hH 1 ⟨by decide, by decide⟩ q2186 rfl dX3_change_45 ?_
              refine z_iload_n C dX3_change_48 hl 3 rfl ?_
              refine z_iload C dX3_change_49 hl 0 rfl ?_
              refine m_SiF C hH hS (mm_dotAt hOk s1 ln k) (va_cwS 2 C.1.2.2.2.2 (lw_S q2332 q2333 q133 q2334) rfl rfl rfl (by decide +kernel) ⟨Nat.le_of_ble_eq_true rfl, Nat.le_of_ble_eq_true rfl⟩) rfl hl rfl (Nat.le_of_ble_eq_true rfl) dX3_change_51 ⟨Nat.le_refl _, Nat.le_refl _⟩ (fun H locs hH hS => ?_)
              have J_70 : ∀ (v : Int), (v = isCh (lnZ P ln) k) → ∀ (H : Heap) (locs : List Loc) (ls : Array Slot), MH D dA A o ad s1 H → va_S A s0.heap H locs → lv_has ls 6 [(4, .int (iI k)), (3, .int (iI y)), (0, .ref o), (1, .int (iI ln)), (2, .int (iI x))] → W pp l ee (rmL 8 0 0) s0 mm ([.ref o, .int (iI ln), .int (iI x)] : List Value).toArray below meth cc0 H locs 0 0 (MQ below (MQi D dA A o ad (fun r σ' => σ' 0 0 = (if (0 ≤ ln ∧ ln ≤ pN P - 1) ∧ 0 ≤ x then 0 else 1) ∧ (σ' 0 0 = 0 → r = ciZ (lnZ P ln) (pW P) 0 x) ∧ Fr [0, 7, 8, 9, 10, 11, 12, 13, 14, 15, 16, 17, 18, 19] σ σ')) ([.ref o, .int (iI ln), .int (iI x)] : List Value).toArray s0 0 0 A) (F0 mm 70 ls [.int (iI v)]) := by
                intro v hv H locs ls hH hS hl
                refine z_istore C [(5, .int (iI v)), (4, .int (iI k)), (3, .int (iI y)), (0, .ref o), (1, .int (iI ln)), (2, .int (iI x))] dX3_change_70 hl (by decide) rfl (fun ls hl => ?_)
                have i01 := isCh_01 (lnZ P ln) k
                refine z_iload C dX3_change_72 hl 0 rfl ?_
                refine z_ifeq C dX3_change_74 (tgt := 84) (by decide) ⟨by omega, by omega⟩ (fun c_74_1 => ?_) (fun c_74_1 => ?_)
                · refine z_iload_n C dX3_change_84 hl 2 rfl ?_
                  refine z_iload C dX3_change_85 hl 0 rfl ?_
                  refine z_ifeq C dX3_change_87 (tgt := 94) (by decide) ⟨by omega, by omega⟩ (fun c_87_2 => ?_) (fun c_87_2 => ?_)
                  · refine z_iconst C dX3_change_94 ?_
                    refine z_isub C dX3_change_95 ?_
                    refine z_istore_n C [(3, .int (iI (y - 0))), (5, .int (iI v)), (4, .int (iI k)), (0, .ref o), (1, .int (iI ln)), (2, .int (iI x))] dX3_change_96 hl (by decide) rfl (fun ls hl => ?_)
                    refine z_iinc C [(4, .int (iI (k + 1))), (3, .int (iI (y - 0))), (5, .int (iI v)), (0, .ref o), (1, .int (iI ln)), (2, .int (iI x))] dX3_change_97 hl 2 rfl (by decide) rfl (fun ls hl => ?_)
                    refine z_goto C dX3_change_100 (tgt := 26) (by decide) ?_
                    exact ih_26 ((y - 0)) ((k + 1)) s1 th (by omega) (by omega) (hs0) (hs) (Or.inl ⟨by omega, by omega, by omega, by omega, by omega⟩) (hth2) (fun h => by rw [hc h, ciZ_go (by omega) (by omega), show isCh (lnZ P ln) k = 0 by omega]) _ _ _ hH hS (lv_sub hl [0, 1, 3, 4, 5] rfl)
                  · refine z_iconst C dX3_change_90 ?_
                    refine z_goto C dX3_change_91 (tgt := 95) (by decide) ?_
                    refine z_isub C dX3_change_95 ?_
                    refine z_istore_n C [(3, .int (iI (y - 1))), (5, .int (iI v)), (4, .int (iI k)), (0, .ref o), (1, .int (iI ln)), (2, .int (iI x))] dX3_change_96 hl (by decide) rfl (fun ls hl => ?_)
                    refine z_iinc C [(4, .int (iI (k + 1))), (3, .int (iI (y - 1))), (5, .int (iI v)), (0, .ref o), (1, .int (iI ln)), (2, .int (iI x))] dX3_change_97 hl 2 rfl (by decide) rfl (fun ls hl => ?_)
                    refine z_goto C dX3_change_100 (tgt := 26) (by decide) ?_
                    exact ih_26 ((y - 1)) ((k + 1)) s1 th (by omega) (by omega) (hs0) (hs) (Or.inl ⟨by omega, by omega, by omega, by omega, by omega⟩) (hth2) (fun h => by rw [hc h, ciZ_go (by omega) (by omega), show isCh (lnZ P ln) k = 1 by omega]) _ _ _ hH hS (lv_sub hl [0, 1, 3, 4, 5] rfl)
                · refine z_iload_n C dX3_change_77 hl 2 rfl ?_
                  refine z_ifne C dX3_change_78 (tgt := 84) (by decide) ⟨by omega, by omega⟩ (fun c_78_1 => ?_) (fun c_78_1 => ?_)
                  · refine z_iload_n C dX3_change_84 hl 2 rfl ?_
                    refine z_iload C dX3_change_85 hl 0 rfl ?_
                    refine z_ifeq C dX3_change_87 (tgt := 94) (by decide) ⟨by omega, by omega⟩ (fun c_87_3 => ?_) (fun c_87_3 => ?_)
                    · refine z_iconst C dX3_change_94 ?_
                      refine z_isub C dX3_change_95 ?_
                      refine z_istore_n C [(3, .int (iI (y - 0))), (5, .int (iI v)), (4, .int (iI k)), (0, .ref o), (1, .int (iI ln)), (2, .int (iI x))] dX3_change_96 hl (by decide) rfl (fun ls hl => ?_)
                      refine z_iinc C [(4, .int (iI (k + 1))), (3, .int (iI (y - 0))), (5, .int (iI v)), (0, .ref o), (1, .int (iI ln)), (2, .int (iI x))] dX3_change_97 hl 2 rfl (by decide) rfl (fun ls hl => ?_)
                      refine z_goto C dX3_change_100 (tgt := 26) (by decide) ?_
                      exact ih_26 ((y - 0)) ((k + 1)) s1 th (by omega) (by omega) (hs0) (hs) (Or.inl ⟨by omega, by omega, by omega, by omega, by omega⟩) (hth2) (fun h => by rw [hc h, ciZ_go (by omega) (by omega), show isCh (lnZ P ln) k = 0 by omega]) _ _ _ hH hS (lv_sub hl [0, 1, 3, 4, 5] rfl)
                    · refine z_iconst C dX3_change_90 ?_
                      refine z_goto C dX3_change_91 (tgt := 95) (by decide) ?_
                      refine z_isub C dX3_change_95 ?_
                      refine z_istore_n C [(3, .int (iI (y - 1))), (5, .int (iI v)), (4, .int (iI k)), (0, .ref o), (1, .int (iI ln)), (2, .int (iI x))] dX3_change_96 hl (by decide) rfl (fun ls hl => ?_)
                      refine z_iinc C [(4, .int (iI (k + 1))), (3, .int (iI (y - 1))), (5, .int (iI v)), (0, .ref o), (1, .int (iI ln)), (2, .int (iI x))] dX3_change_97 hl 2 rfl (by decide) rfl (fun ls hl => ?_)
                      refine z_goto C dX3_change_100 (tgt := 26) (by decide) ?_
                      exact ih_26 ((y - 1)) ((k + 1)) s1 th (by omega) (by omega) (hs0) (hs) (Or.inl ⟨by omega, by omega, by omega, by omega, by omega⟩) (hth2) (fun h => by rw [hc h, ciZ_go (by omega) (by omega), show isCh (lnZ P ln) k = 1 by omega]) _ _ _ hH hS (lv_sub hl [0, 1, 3, 4, 5] rfl)
                  · refine z_iload C dX3_change_81 hl 1 rfl ?_
                    refine m_iret C hret hH hS dX3_change_83 ?_
                    refine ⟨?_, fun hth3 => ?_, by rw [hs0]; exact frSu Fr.rf rfl⟩
                    · rw [hs0, su_self]; exact hth2
                    · rw [hc (by omega)]; exact (ciZ_at (by omega) (by omega) (by omega)).symm
              refine m_ialdZ C hOk hH 1 ⟨by decide, by decide⟩ (28 + 40 * ln + k) (lnZ P ln k) (by rw [hs]; exact p5 ln k (by omega) (by omega) (by omega) (by omega)) (show 0 ≤ (28 + 40 * ln + k) ∧ (28 + 40 * ln + k) < (828 : Int) by omega) dX3_change_54 ?_
              refine z_aload_n C dX3_change_55 hl 2 rfl ?_
              refine z_iload_n C dX3_change_56 hl 3 rfl ?_
              refine z_iload C dX3_change_57 hl 0 rfl ?_
              refine m_ViF C hH hS (mm_ahead hOk s1 ln k P ((by rw [hs]; exact hP9)) (hk9) (by omega) (by omega)) (cwV 2 C.1.2.2.2.2 (lw_V q2339 q2341 qs47 q133 q2342) rfl rfl rfl (by decide +kernel) ⟨Nat.le_of_ble_eq_true rfl, Nat.le_of_ble_eq_true rfl⟩) rfl hl rfl (Nat.le_of_ble_eq_true rfl) dX3_change_59 ⟨Nat.le_refl _, Nat.le_refl _⟩ (fun H locs hH hS => ?_)
              refine z_topi (fun v2_ hv2_ => ?_)
              have hv3 : v2_ = 0 ∨ v2_ = 1 := by rw [hv2_]; split <;> omega
              refine z_icmpeq C dX3_change_62 (tgt := 69) (by decide) ⟨⟨by omega, by omega⟩, ⟨by omega, by omega⟩⟩ (fun c_62_1 => ?_) (fun c_62_1 => ?_)
              · refine z_iconst C dX3_change_69 ?_
                exact J_70 0 (by unfold isCh; first | (rw [if_pos (by omega)]; done) | (rw [if_neg (by omega)]; done)) _ _ _ hH hS (lv_sub hl [0, 1, 2, 3, 4] rfl)
              · refine z_iconst C dX3_change_65 ?_
                refine z_goto C dX3_change_66 (tgt := 70) (by decide) ?_
                exact J_70 1 (by unfold isCh; first | (rw [if_pos (by omega)]; done) | (rw [if_neg (by omega)]; done)) _ _ _ hH hS (lv_sub hl [0, 1, 2, 3, 4] rfl)
      exact J_26 _ x 0 ((su σ 0 0 1)) 1 (Nat.lt_succ_self _) (by omega) (rfl) (rfl) (by omega) (by first | (rw [if_pos (by omega)]; done) | (rw [if_neg (by omega)]; done) | (rw [if_neg (by omega), if_pos (by omega)]; done) | (rw [if_neg (by omega), if_neg (by omega)]; done)) (fun _ => rfl) _ _ _ hH hS (lv_sub hl [0, 1, 2, 3, 4] rfl)
    · refine z_iconst C dX3_change_13 ?_
      refine z_goto C dX3_change_14 (tgt := 18) (by decide) ?_
      refine m_puts C hH hS 0 ⟨by decide, by decide⟩ q2185 rfl ⟨rfl, rfl⟩ dX3_change_18 (fun H locs hH hS => ?_)
      refine z_iload_n C dX3_change_21 hl 2 rfl ?_
      refine z_istore_n C [(3, .int (iI x)), (0, .ref o), (1, .int (iI ln)), (2, .int (iI x))] dX3_change_22 hl (by decide) rfl (fun ls hl => ?_)
      refine z_iconst C dX3_change_23 ?_
      refine z_istore C [(4, .int (iI 0)), (3, .int (iI x)), (0, .ref o), (1, .int (iI ln)), (2, .int (iI x))] dX3_change_24 hl (by decide) rfl (fun ls hl => ?_)
      have J_26 : ∀ (n : Nat) (y : Int) (k : Int) (s1 : Sg) (th : Int), (pW P - k).toNat < n → (0 ≤ k ∧ k ≤ pW P) → (s1 = su σ 0 0 th) → (s1 1 = σ 1) → ((th = 0 ∧ 0 ≤ ln ∧ ln ≤ pN P - 1 ∧ 0 ≤ y ∧ y ≤ x) ∨ th = 1) → (th = (if (0 ≤ ln ∧ ln ≤ pN P - 1) ∧ 0 ≤ x then 0 else 1)) → (th = 0 → ciZ (lnZ P ln) (pW P) 0 x = ciZ (lnZ P ln) (pW P) k y) → ∀ (H : Heap) (locs : List Loc) (ls : Array Slot), MH D dA A o ad s1 H → va_S A s0.heap H locs → lv_has ls 6 [(4, .int (iI k)), (3, .int (iI y)), (0, .ref o), (1, .int (iI ln)), (2, .int (iI x))] → W pp l ee (rmL 8 0 0) s0 mm ([.ref o, .int (iI ln), .int (iI x)] : List Value).toArray below meth cc0 H locs 0 0 (MQ below (MQi D dA A o ad (fun r σ' => σ' 0 0 = (if (0 ≤ ln ∧ ln ≤ pN P - 1) ∧ 0 ≤ x then 0 else 1) ∧ (σ' 0 0 = 0 → r = ciZ (lnZ P ln) (pW P) 0 x) ∧ Fr [0, 7, 8, 9, 10, 11, 12, 13, 14, 15, 16, 17, 18, 19] σ σ')) ([.ref o, .int (iI ln), .int (iI x)] : List Value).toArray s0 0 0 A) (F0 mm 26 ls []) := by
        intro n
        induction n with
        | zero => intro y k s1 th hn; exact absurd hn (Nat.not_lt_zero _)
        | succ n ih_26 =>
          intro y k s1 th hn hk0 hs0 hs hth hth2 hc H locs ls hH hS hl
          have J_103 : (th = 1 ∨ (th = 0 ∧ k = pW P)) → ∀ (H : Heap) (locs : List Loc) (ls : Array Slot), MH D dA A o ad s1 H → va_S A s0.heap H locs → lv_has ls 6 [(4, .int (iI k)), (3, .int (iI y)), (0, .ref o), (1, .int (iI ln)), (2, .int (iI x))] → W pp l ee (rmL 8 0 0) s0 mm ([.ref o, .int (iI ln), .int (iI x)] : List Value).toArray below meth cc0 H locs 0 0 (MQ below (MQi D dA A o ad (fun r σ' => σ' 0 0 = (if (0 ≤ ln ∧ ln ≤ pN P - 1) ∧ 0 ≤ x then 0 else 1) ∧ (σ' 0 0 = 0 → r = ciZ (lnZ P ln) (pW P) 0 x) ∧ Fr [0, 7, 8, 9, 10, 11, 12, 13, 14, 15, 16, 17, 18, 19] σ σ')) ([.ref o, .int (iI ln), .int (iI x)] : List Value).toArray s0 0 0 A) (F0 mm 103 ls []) := by
            intro  hx H locs ls hH hS hl
            refine z_aload_n C dX3_change_103 hl 2 rfl ?_
            refine m_getsZ C hH 0 ⟨by decide, by decide⟩ th (by rw [hs0]; exact su_self _ _ _ _) q2185 rfl dX3_change_104 ?_
            refine z_ifle C dX3_change_107 (tgt := 114) (by decide) ⟨by omega, by omega⟩ (fun c_107_2 => ?_) (fun c_107_2 => ?_)
            · refine z_iconst C dX3_change_114 ?_
              refine m_iret C hret hH hS dX3_change_115 ?_
              refine ⟨?_, fun hth3 => ?_, by rw [hs0]; exact frSu Fr.rf rfl⟩
              · rw [hs0, su_self]; exact hth2
              · rw [hs0, su_self] at hth3; rw [hc hth3]; first | exact (ciZ_end (by omega)).symm | exact absurd hth3 (by omega)
            · refine z_iconst C dX3_change_110 ?_
              refine z_goto C dX3_change_111 (tgt := 115) (by decide) ?_
              refine m_iret C hret hH hS dX3_change_115 ?_
              refine ⟨?_, fun hth3 => ?_, by rw [hs0]; exact frSu Fr.rf rfl⟩
              · rw [hs0, su_self]; exact hth2
              · rw [hs0, su_self] at hth3; rw [hc hth3]; first | exact (ciZ_end (by omega)).symm | exact absurd hth3 (by omega)
          refine z_iload C dX3_change_26 hl 0 rfl ?_
          refine z_aload_n C dX3_change_28 hl 2 rfl ?_
          refine m_geta C hH 1 ⟨by decide, by decide⟩ q2186 rfl dX3_change_29 ?_
          refine z_iconst C dX3_change_32 ?_
          refine m_ialdZ C hOk hH 1 ⟨by decide, by decide⟩ 0 (pW P) (by rw [hs]; exact p1) (show 0 ≤ 0 ∧ 0 < (828 : Int) by omega) dX3_change_33 ?_
          refine z_icmpge C dX3_change_34 (tgt := 103) (by decide) ⟨⟨by omega, by omega⟩, ⟨by omega, by omega⟩⟩ (fun c_34_2 => ?_) (fun c_34_2 => ?_)
          · exact J_103  (by omega) _ _ _ hH hS (lv_sub hl [0, 1, 2, 3, 4] rfl)
          · refine z_aload_n C dX3_change_37 hl 2 rfl ?_
            refine m_getsZ C hH 0 ⟨by decide, by decide⟩ th (by rw [hs0]; exact su_self _ _ _ _) q2185 rfl dX3_change_38 ?_
            refine z_ifne C dX3_change_41 (tgt := 103) (by decide) ⟨by omega, by omega⟩ (fun c_41_2 => ?_) (fun c_41_2 => ?_)
            · exact J_103  (by omega) _ _ _ hH hS (lv_sub hl [0, 1, 2, 3, 4] rfl)
            · have v1 := lnZ_01 P ln k
              have v2 := lnZ_01 P ln (k - 1)
              refine z_aload_n C dX3_change_44 hl 2 rfl ?_
              refine m_geta C hH 1 ⟨by decide, by decide⟩ q2186 rfl dX3_change_45 ?_
              refine z_iload_n C dX3_change_48 hl 3 rfl ?_
              refine z_iload C dX3_change_49 hl 0 rfl ?_
              refine m_SiF C hH hS (mm_dotAt hOk s1 ln k) (va_cwS 2 C.1.2.2.2.2 (lw_S q2332 q2333 q133 q2334) rfl rfl rfl (by decide +kernel) ⟨Nat.le_of_ble_eq_true rfl, Nat.le_of_ble_eq_true rfl⟩) rfl hl rfl (Nat.le_of_ble_eq_true rfl) dX3_change_51 ⟨Nat.le_refl _, Nat.le_refl _⟩ (fun H locs hH hS => ?_)
              have J_70 : ∀ (v : Int), (v = isCh (lnZ P ln) k) → ∀ (H : Heap) (locs : List Loc) (ls : Array Slot), MH D dA A o ad s1 H → va_S A s0.heap H locs → lv_has ls 6 [(4, .int (iI k)), (3, .int (iI y)), (0, .ref o), (1, .int (iI ln)), (2, .int (iI x))] → W pp l ee (rmL 8 0 0) s0 mm ([.ref o, .int (iI ln), .int (iI x)] : List Value).toArray below meth cc0 H locs 0 0 (MQ below (MQi D dA A o ad (fun r σ' => σ' 0 0 = (if (0 ≤ ln ∧ ln ≤ pN P - 1) ∧ 0 ≤ x then 0 else 1) ∧ (σ' 0 0 = 0 → r = ciZ (lnZ P ln) (pW P) 0 x) ∧ Fr [0, 7, 8, 9, 10, 11, 12, 13, 14, 15, 16, 17, 18, 19] σ σ')) ([.ref o, .int (iI ln), .int (iI x)] : List Value).toArray s0 0 0 A) (F0 mm 70 ls [.int (iI v)]) := by
                intro v hv H locs ls hH hS hl
                refine z_istore C [(5, .int (iI v)), (4, .int (iI k)), (3, .int (iI y)), (0, .ref o), (1, .int (iI ln)), (2, .int (iI x))] dX3_change_70 hl (by decide) rfl (fun ls hl => ?_)
                have i01 := isCh_01 (lnZ P ln) k
                refine z_iload C dX3_change_72 hl 0 rfl ?_
                refine z_ifeq C dX3_change_74 (tgt := 84) (by decide) ⟨by omega, by omega⟩ (fun c_74_2 => ?_) (fun c_74_2 => ?_)
                · refine z_iload_n C dX3_change_84 hl 2 rfl ?_
                  refine z_iload C dX3_change_85 hl 0 rfl ?_
                  refine z_ifeq C dX3_change_87 (tgt := 94) (by decide) ⟨by omega, by omega⟩ (fun c_87_4 => ?_) (fun c_87_4 => ?_)
                  · refine z_iconst C dX3_change_94 ?_
                    refine z_isub C dX3_change_95 ?_
                    refine z_istore_n C [(3, .int (iI (y - 0))), (5, .int (iI v)), (4, .int (iI k)), (0, .ref o), (1, .int (iI ln)), (2, .int (iI x))] dX3_change_96 hl (by decide) rfl (fun ls hl => ?_)
                    refine z_iinc C [(4, .int (iI (k + 1))), (3, .int (iI (y - 0))), (5, .int (iI v)), (0, .ref o), (1, .int (iI ln)), (2, .int (iI x))] dX3_change_97 hl 2 rfl (by decide) rfl (fun ls hl => ?_)
                    refine z_goto C dX3_change_100 (tgt := 26) (by decide) ?_
                    exact ih_26 ((y - 0)) ((k + 1)) s1 th (by omega) (by omega) (hs0) (hs) (Or.inl ⟨by omega, by omega, by omega, by omega, by omega⟩) (hth2) (fun h => by rw [hc h, ciZ_go (by omega) (by omega), show isCh (lnZ P ln) k = 0 by omega]) _ _ _ hH hS (lv_sub hl [0, 1, 3, 4, 5] rfl)
                  · refine z_iconst C dX3_change_90 ?_
                    refine z_goto C dX3_change_91 (tgt := 95) (by decide) ?_
                    refine z_isub C dX3_change_95 ?_
                    refine z_istore_n C [(3, .int (iI (y - 1))), (5, .int (iI v)), (4, .int (iI k)), (0, .ref o), (1, .int (iI ln)), (2, .int (iI x))] dX3_change_96 hl (by decide) rfl (fun ls hl => ?_)
                    refine z_iinc C [(4, .int (iI (k + 1))), (3, .int (iI (y - 1))), (5, .int (iI v)), (0, .ref o), (1, .int (iI ln)), (2, .int (iI x))] dX3_change_97 hl 2 rfl (by decide) rfl (fun ls hl => ?_)
                    refine z_goto C dX3_change_100 (tgt := 26) (by decide) ?_
                    exact ih_26 ((y - 1)) ((k + 1)) s1 th (by omega) (by omega) (hs0) (hs) (Or.inl ⟨by omega, by omega, by omega, by omega, by omega⟩) (hth2) (fun h => by rw [hc h, ciZ_go (by omega) (by omega), show isCh (lnZ P ln) k = 1 by omega]) _ _ _ hH hS (lv_sub hl [0, 1, 3, 4, 5] rfl)
                · refine z_iload_n C dX3_change_77 hl 2 rfl ?_
                  refine z_ifne C dX3_change_78 (tgt := 84) (by decide) ⟨by omega, by omega⟩ (fun c_78_2 => ?_) (fun c_78_2 => ?_)
                  · refine z_iload_n C dX3_change_84 hl 2 rfl ?_
                    refine z_iload C dX3_change_85 hl 0 rfl ?_
                    refine z_ifeq C dX3_change_87 (tgt := 94) (by decide) ⟨by omega, by omega⟩ (fun c_87_5 => ?_) (fun c_87_5 => ?_)
                    · refine z_iconst C dX3_change_94 ?_
                      refine z_isub C dX3_change_95 ?_
                      refine z_istore_n C [(3, .int (iI (y - 0))), (5, .int (iI v)), (4, .int (iI k)), (0, .ref o), (1, .int (iI ln)), (2, .int (iI x))] dX3_change_96 hl (by decide) rfl (fun ls hl => ?_)
                      refine z_iinc C [(4, .int (iI (k + 1))), (3, .int (iI (y - 0))), (5, .int (iI v)), (0, .ref o), (1, .int (iI ln)), (2, .int (iI x))] dX3_change_97 hl 2 rfl (by decide) rfl (fun ls hl => ?_)
                      refine z_goto C dX3_change_100 (tgt := 26) (by decide) ?_
                      exact ih_26 ((y - 0)) ((k + 1)) s1 th (by omega) (by omega) (hs0) (hs) (Or.inl ⟨by omega, by omega, by omega, by omega, by omega⟩) (hth2) (fun h => by rw [hc h, ciZ_go (by omega) (by omega), show isCh (lnZ P ln) k = 0 by omega]) _ _ _ hH hS (lv_sub hl [0, 1, 3, 4, 5] rfl)
                    · refine z_iconst C dX3_change_90 ?_
                      refine z_goto C dX3_change_91 (tgt := 95) (by decide) ?_
                      refine z_isub C dX3_change_95 ?_
                      refine z_istore_n C [(3, .int (iI (y - 1))), (5, .int (iI v)), (4, .int (iI k)), (0, .ref o), (1, .int (iI ln)), (2, .int (iI x))] dX3_change_96 hl (by decide) rfl (fun ls hl => ?_)
                      refine z_iinc C [(4, .int (iI (k + 1))), (3, .int (iI (y - 1))), (5, .int (iI v)), (0, .ref o), (1, .int (iI ln)), (2, .int (iI x))] dX3_change_97 hl 2 rfl (by decide) rfl (fun ls hl => ?_)
                      refine z_goto C dX3_change_100 (tgt := 26) (by decide) ?_
                      exact ih_26 ((y - 1)) ((k + 1)) s1 th (by omega) (by omega) (hs0) (hs) (Or.inl ⟨by omega, by omega, by omega, by omega, by omega⟩) (hth2) (fun h => by rw [hc h, ciZ_go (by omega) (by omega), show isCh (lnZ P ln) k = 1 by omega]) _ _ _ hH hS (lv_sub hl [0, 1, 3, 4, 5] rfl)
                  · refine z_iload C dX3_change_81 hl 1 rfl ?_
                    refine m_iret C hret hH hS dX3_change_83 ?_
                    refine ⟨?_, fun hth3 => ?_, by rw [hs0]; exact frSu Fr.rf rfl⟩
                    · rw [hs0, su_self]; exact hth2
                    · rw [hc (by omega)]; exact (ciZ_at (by omega) (by omega) (by omega)).symm
              refine m_ialdZ C hOk hH 1 ⟨by decide, by decide⟩ (28 + 40 * ln + k) (lnZ P ln k) (by rw [hs]; exact p5 ln k (by omega) (by omega) (by omega) (by omega)) (show 0 ≤ (28 + 40 * ln + k) ∧ (28 + 40 * ln + k) < (828 : Int) by omega) dX3_change_54 ?_
              refine z_aload_n C dX3_change_55 hl 2 rfl ?_
              refine z_iload_n C dX3_change_56 hl 3 rfl ?_
              refine z_iload C dX3_change_57 hl 0 rfl ?_
              refine m_ViF C hH hS (mm_ahead hOk s1 ln k P ((by rw [hs]; exact hP9)) (hk9) (by omega) (by omega)) (cwV 2 C.1.2.2.2.2 (lw_V q2339 q2341 qs47 q133 q2342) rfl rfl rfl (by decide +kernel) ⟨Nat.le_of_ble_eq_true rfl, Nat.le_of_ble_eq_true rfl⟩) rfl hl rfl (Nat.le_of_ble_eq_true rfl) dX3_change_59 ⟨Nat.le_refl _, Nat.le_refl _⟩ (fun H locs hH hS => ?_)
              refine z_topi (fun v2_ hv2_ => ?_)
              have hv3 : v2_ = 0 ∨ v2_ = 1 := by rw [hv2_]; split <;> omega
              refine z_icmpeq C dX3_change_62 (tgt := 69) (by decide) ⟨⟨by omega, by omega⟩, ⟨by omega, by omega⟩⟩ (fun c_62_2 => ?_) (fun c_62_2 => ?_)
              · refine z_iconst C dX3_change_69 ?_
                exact J_70 0 (by unfold isCh; first | (rw [if_pos (by omega)]; done) | (rw [if_neg (by omega)]; done)) _ _ _ hH hS (lv_sub hl [0, 1, 2, 3, 4] rfl)
              · refine z_iconst C dX3_change_65 ?_
                refine z_goto C dX3_change_66 (tgt := 70) (by decide) ?_
                exact J_70 1 (by unfold isCh; first | (rw [if_pos (by omega)]; done) | (rw [if_neg (by omega)]; done)) _ _ _ hH hS (lv_sub hl [0, 1, 2, 3, 4] rfl)
      exact J_26 _ x 0 ((su σ 0 0 0)) 0 (Nat.lt_succ_self _) (by omega) (rfl) (rfl) (by omega) (by first | (rw [if_pos (by omega)]; done) | (rw [if_neg (by omega)]; done) | (rw [if_neg (by omega), if_pos (by omega)]; done) | (rw [if_neg (by omega), if_neg (by omega)]; done)) (fun _ => rfl) _ _ _ hH hS (lv_sub hl [0, 1, 2, 3, 4] rfl)
set_option maxHeartbeats 1000000 in
theorem mm_rowFrom {l : Launch} {D : va_G} {dA : Nat → ClassId} {A : Nat → Prop} {o : Nat} {ad : Nat → Nat} (hOk : mOk o ad) (σ : Sg) (ln : Int) (x : Int) (cc : Int) (P : Pg) (hP : PgAt (σ 1) P) (hk : PgOk P) (hl0 : 0 ≤ ln ∧ ln < pN P) (hx : 0 ≤ x ∧ x ≤ pW P) (hc : 0 ≤ cc ∧ cc ≤ 1) : Met l yX3_rowFrom (ws_ yX3_rowFrom cX3_rowFrom 5 (some .int)) (rmL 2 0 0) (MP D dA A o ad [.ref o, .int (iI ln), .int (iI x), .int (iI cc)] σ) (MQi D dA A o ad (fun r σ' => σ' = σ ∧ r = rwZ (lnZ P ln) (pW P) cc x)) 0 0 A := by
  refine z_ofW (by decide) rfl ?_
  intro pp ee s0 mm below meth cc0 ls C hret hname hl hH hS
  have hl : lv_has ls 5 [(0, .ref o), (1, .int (iI ln)), (2, .int (iI x)), (3, .int (iI cc))] := hl
  have hk9 := hk
  have hP9 := hP
  obtain ⟨k1, k2, k3, k4, k5, k6, k7, k8, k9, k10, k11⟩ := hk
  obtain ⟨p1, p2, p3, p4, p5⟩ := hP
  have pn0 : 0 ≤ pN P := by show (0 : Int) ≤ ((pB P).length : Int); omega
  refine z_iload_n C dX3_rowFrom_0 hl 2 rfl ?_
  refine z_istore C [(4, .int (iI x)), (0, .ref o), (1, .int (iI ln)), (2, .int (iI x)), (3, .int (iI cc))] dX3_rowFrom_1 hl (by decide) rfl (fun ls hl => ?_)
  have J_3 : ∀ (n : Nat) (k : Int), (pW P - k).toNat < n → (x ≤ k ∧ k ≤ pW P) → (rwZ (lnZ P ln) (pW P) cc x = fnd (fun j => if lnZ P ln j = cc then 0 else 1) 1 (pW P) k - x) → ∀ (H : Heap) (locs : List Loc) (ls : Array Slot), MH D dA A o ad σ H → va_S A s0.heap H locs → lv_has ls 5 [(4, .int (iI k)), (0, .ref o), (1, .int (iI ln)), (2, .int (iI x)), (3, .int (iI cc))] → W pp l ee (rmL 2 0 0) s0 mm ([.ref o, .int (iI ln), .int (iI x), .int (iI cc)] : List Value).toArray below meth cc0 H locs 0 0 (MQ below (MQi D dA A o ad (fun r σ' => σ' = σ ∧ r = rwZ (lnZ P ln) (pW P) cc x)) ([.ref o, .int (iI ln), .int (iI x), .int (iI cc)] : List Value).toArray s0 0 0 A) (F0 mm 3 ls []) := by
    intro n
    induction n with
    | zero => intro k hn; exact absurd hn (Nat.not_lt_zero _)
    | succ n ih_3 =>
      intro k hn hk0 hs H locs ls hH hS hl
      have J_35 : (rwZ (lnZ P ln) (pW P) cc x = k - x) → ∀ (H : Heap) (locs : List Loc) (ls : Array Slot), MH D dA A o ad σ H → va_S A s0.heap H locs → lv_has ls 5 [(4, .int (iI k)), (0, .ref o), (1, .int (iI ln)), (2, .int (iI x)), (3, .int (iI cc))] → W pp l ee (rmL 2 0 0) s0 mm ([.ref o, .int (iI ln), .int (iI x), .int (iI cc)] : List Value).toArray below meth cc0 H locs 0 0 (MQ below (MQi D dA A o ad (fun r σ' => σ' = σ ∧ r = rwZ (lnZ P ln) (pW P) cc x)) ([.ref o, .int (iI ln), .int (iI x), .int (iI cc)] : List Value).toArray s0 0 0 A) (F0 mm 35 ls []) := by
        intro  hy H locs ls hH hS hl
        refine z_iload C dX3_rowFrom_35 hl 0 rfl ?_
        refine z_iload_n C dX3_rowFrom_37 hl 3 rfl ?_
        refine z_isub C dX3_rowFrom_38 ?_
        refine m_iret C hret hH hS dX3_rowFrom_39 ?_
        refine ⟨rfl, ?_⟩
        omega
      refine z_iload C dX3_rowFrom_3 hl 0 rfl ?_
      refine z_aload_n C dX3_rowFrom_5 hl 1 rfl ?_
      refine m_geta C hH 1 ⟨by decide, by decide⟩ q2186 rfl dX3_rowFrom_6 ?_
      refine z_iconst C dX3_rowFrom_9 ?_
      refine m_ialdZ C hOk hH 1 ⟨by decide, by decide⟩ 0 (pW P) (p1) (show 0 ≤ 0 ∧ 0 < (828 : Int) by omega) dX3_rowFrom_10 ?_
      refine z_icmpge C dX3_rowFrom_11 (tgt := 35) (by decide) ⟨⟨by omega, by omega⟩, ⟨by omega, by omega⟩⟩ (fun c_11 => ?_) (fun c_11 => ?_)
      · exact J_35  (by rw [hs]; first | rw [fnd_end (by omega)] | rw [fnd_at (by rw [if_neg (by omega)])]) _ _ _ hH hS (lv_sub hl [0, 1, 2, 3, 4] rfl)
      · have v1 := lnZ_01 P ln k
        refine z_aload_n C dX3_rowFrom_14 hl 1 rfl ?_
        refine m_geta C hH 1 ⟨by decide, by decide⟩ q2186 rfl dX3_rowFrom_15 ?_
        refine z_iload_n C dX3_rowFrom_18 hl 2 rfl ?_
        refine z_iload C dX3_rowFrom_19 hl 0 rfl ?_
        refine m_SiF C hH hS (mm_dotAt hOk σ ln k) (va_cwS 2 C.1.2.2.2.2 (lw_S q2332 q2333 q133 q2334) rfl rfl rfl (by decide +kernel) ⟨Nat.le_of_ble_eq_true rfl, Nat.le_of_ble_eq_true rfl⟩) rfl hl rfl (Nat.le_of_ble_eq_true rfl) dX3_rowFrom_21 ⟨Nat.le_refl _, Nat.le_refl _⟩ (fun H locs hH hS => ?_)
        refine m_ialdZ C hOk hH 1 ⟨by decide, by decide⟩ (28 + 40 * ln + k) (lnZ P ln k) (p5 ln k (by omega) (by omega) (by omega) (by omega)) (show 0 ≤ (28 + 40 * ln + k) ∧ (28 + 40 * ln + k) < (828 : Int) by omega) dX3_rowFrom_24 ?_
        refine z_iload_n C dX3_rowFrom_25 hl 4 rfl ?_
        refine z_icmpne C dX3_rowFrom_26 (tgt := 35) (by decide) ⟨⟨by omega, by omega⟩, ⟨by omega, by omega⟩⟩ (fun c_26 => ?_) (fun c_26 => ?_)
        · exact J_35  (by rw [hs]; first | rw [fnd_end (by omega)] | rw [fnd_at (by rw [if_neg c_26])]) _ _ _ hH hS (lv_sub hl [0, 1, 2, 3, 4] rfl)
        · refine z_iinc C [(4, .int (iI (k + 1))), (0, .ref o), (1, .int (iI ln)), (2, .int (iI x)), (3, .int (iI cc))] dX3_rowFrom_29 hl 0 rfl (by decide) rfl (fun ls hl => ?_)
          refine z_goto C dX3_rowFrom_32 (tgt := 3) (by decide) ?_
          exact ih_3 ((k + 1)) (by omega) (by omega) (by rw [hs, fnd_go (by omega) (by rw [if_pos c_26]; decide)]) _ _ _ hH hS (lv_sub hl [0, 1, 2, 3, 4] rfl)
  exact J_3 _ x (Nat.lt_succ_self _) (by omega) (rfl) _ _ _ hH hS (lv_sub hl [0, 1, 2, 3, 4] rfl)
set_option maxHeartbeats 1000000 in
theorem mm_beginsRow {l : Launch} {D : va_G} {dA : Nat → ClassId} {A : Nat → Prop} {o : Nat} {ad : Nat → Nat} (hOk : mOk o ad) (σ : Sg) (ln : Int) (x : Int) (cc : Int) (P : Pg) (hP : PgAt (σ 1) P) (hk : PgOk P) (hl0 : 0 ≤ ln ∧ ln < pN P) (hx : 0 ≤ x ∧ x < pW P) (hc : 0 ≤ cc ∧ cc ≤ 1) : Met l yX3_beginsRow (ws_ yX3_beginsRow cX3_beginsRow 4 (some .boolean)) (rmL 2 0 0) (MP D dA A o ad [.ref o, .int (iI ln), .int (iI x), .int (iI cc)] σ) (MQi D dA A o ad (fun r σ' => σ' = σ ∧ r = bgZ (lnZ P ln) cc x)) 0 0 A := by
  refine z_ofW (by decide) rfl ?_
  intro pp ee s0 mm below meth cc0 ls C hret hname hl hH hS
  have hl : lv_has ls 4 [(0, .ref o), (1, .int (iI ln)), (2, .int (iI x)), (3, .int (iI cc))] := hl
  have hk9 := hk
  have hP9 := hP
  obtain ⟨k1, k2, k3, k4, k5, k6, k7, k8, k9, k10, k11⟩ := hk
  obtain ⟨p1, p2, p3, p4, p5⟩ := hP
  have pn0 : 0 ≤ pN P := by show (0 : Int) ≤ ((pB P).length : Int); omega
  have v1 := lnZ_01 P ln x
  have v2 := lnZ_01 P ln (x - 1)
  refine z_aload_n C dX3_beginsRow_0 hl 0 rfl ?_
  refine m_geta C hH 1 ⟨by decide, by decide⟩ q2186 rfl dX3_beginsRow_1 ?_
  refine z_iload_n C dX3_beginsRow_4 hl 1 rfl ?_
  refine z_iload_n C dX3_beginsRow_5 hl 2 rfl ?_
  refine m_SiF C hH hS (mm_dotAt hOk σ ln x) (va_cwS 2 C.1.2.2.2.2 (lw_S q2332 q2333 q133 q2334) rfl rfl rfl (by decide +kernel) ⟨Nat.le_of_ble_eq_true rfl, Nat.le_of_ble_eq_true rfl⟩) rfl hl rfl (Nat.le_of_ble_eq_true rfl) dX3_beginsRow_6 ⟨Nat.le_refl _, Nat.le_refl _⟩ (fun H locs hH hS => ?_)
  refine m_ialdZ C hOk hH 1 ⟨by decide, by decide⟩ (28 + 40 * ln + x) (lnZ P ln x) (p5 ln x (by omega) (by omega) (by omega) (by omega)) (show 0 ≤ (28 + 40 * ln + x) ∧ (28 + 40 * ln + x) < (828 : Int) by omega) dX3_beginsRow_9 ?_
  refine z_iload_n C dX3_beginsRow_10 hl 3 rfl ?_
  refine z_icmpne C dX3_beginsRow_11 (tgt := 38) (by decide) ⟨⟨by omega, by omega⟩, ⟨by omega, by omega⟩⟩ (fun c_11 => ?_) (fun c_11 => ?_)
  · refine z_iconst C dX3_beginsRow_38 ?_
    refine m_zret C hret hH hS (by omega) dX3_beginsRow_39 ?_
    refine ⟨rfl, ?_⟩
    unfold bgZ; first | (rw [if_pos (by omega)]; done) | (rw [if_neg (by omega)]; done)
  · refine z_iload_n C dX3_beginsRow_14 hl 2 rfl ?_
    refine z_ifeq C dX3_beginsRow_15 (tgt := 34) (by decide) ⟨by omega, by omega⟩ (fun c_15 => ?_) (fun c_15 => ?_)
    · refine z_iconst C dX3_beginsRow_34 ?_
      refine z_goto C dX3_beginsRow_35 (tgt := 39) (by decide) ?_
      refine m_zret C hret hH hS (by omega) dX3_beginsRow_39 ?_
      refine ⟨rfl, ?_⟩
      unfold bgZ; first | (rw [if_pos (by omega)]; done) | (rw [if_neg (by omega)]; done)
    · refine z_aload_n C dX3_beginsRow_18 hl 0 rfl ?_
      refine m_geta C hH 1 ⟨by decide, by decide⟩ q2186 rfl dX3_beginsRow_19 ?_
      refine z_iload_n C dX3_beginsRow_22 hl 1 rfl ?_
      refine z_iload_n C dX3_beginsRow_23 hl 2 rfl ?_
      refine z_iconst C dX3_beginsRow_24 ?_
      refine z_isub C dX3_beginsRow_25 ?_
      refine m_SiF C hH hS (mm_dotAt hOk σ ln (x - 1)) (va_cwS 2 C.1.2.2.2.2 (lw_S q2332 q2333 q133 q2334) rfl rfl rfl (by decide +kernel) ⟨Nat.le_of_ble_eq_true rfl, Nat.le_of_ble_eq_true rfl⟩) rfl hl rfl (Nat.le_of_ble_eq_true rfl) dX3_beginsRow_26 ⟨Nat.le_refl _, Nat.le_refl _⟩ (fun H locs hH hS => ?_)
      refine m_ialdZ C hOk hH 1 ⟨by decide, by decide⟩ (28 + 40 * ln + (x - 1)) (lnZ P ln (x - 1)) (p5 ln (x - 1) (by omega) (by omega) (by omega) (by omega)) (show 0 ≤ (28 + 40 * ln + (x - 1)) ∧ (28 + 40 * ln + (x - 1)) < (828 : Int) by omega) dX3_beginsRow_29 ?_
      refine z_iload_n C dX3_beginsRow_30 hl 3 rfl ?_
      refine z_icmpeq C dX3_beginsRow_31 (tgt := 38) (by decide) ⟨⟨by omega, by omega⟩, ⟨by omega, by omega⟩⟩ (fun c_31 => ?_) (fun c_31 => ?_)
      · refine z_iconst C dX3_beginsRow_38 ?_
        refine m_zret C hret hH hS (by omega) dX3_beginsRow_39 ?_
        refine ⟨rfl, ?_⟩
        unfold bgZ; first | (rw [if_pos (by omega)]; done) | (rw [if_neg (by omega)]; done)
      · refine z_iconst C dX3_beginsRow_34 ?_
        refine z_goto C dX3_beginsRow_35 (tgt := 39) (by decide) ?_
        refine m_zret C hret hH hS (by omega) dX3_beginsRow_39 ?_
        refine ⟨rfl, ?_⟩
        unfold bgZ; first | (rw [if_pos (by omega)]; done) | (rw [if_neg (by omega)]; done)
set_option maxHeartbeats 1000000 in
theorem mm_longest {l : Launch} {D : va_G} {dA : Nat → ClassId} {A : Nat → Prop} {o : Nat} {ad : Nat → Nat} (hOk : mOk o ad) (σ : Sg) (c0 : Int) (P : Pg) (hP : PgAt (σ 1) P) (hk : PgOk P) (hr : zR c0) : Met l yX3_longest (ws_ yX3_longest cX3_longest 6 (some .int)) (rmL 3 0 0) (MP D dA A o ad [.ref o, .int (iI c0)] σ) (MQi D dA A o ad (fun r σ' => σ' 0 0 = (if 0 ≤ c0 ∧ c0 ≤ 1 then 0 else 1) ∧ (σ' 0 0 = 0 → r = lgZ P c0) ∧ Fr [0, 7, 8, 9, 10, 11, 12, 13, 14, 15, 16, 17, 18, 19] σ σ')) 0 0 A := by
  refine z_ofW (by decide) rfl ?_
  intro pp ee s0 mm below meth cc0 ls C hret hname hl hH hS
  have hl : lv_has ls 6 [(0, .ref o), (1, .int (iI c0))] := hl
  have hk9 := hk
  have hP9 := hP
  obtain ⟨k1, k2, k3, k4, k5, k6, k7, k8, k9, k10, k11⟩ := hk
  obtain ⟨p1, p2, p3, p4, p5⟩ := hP
  have pn0 : 0 ≤ pN P := by show (0 : Int) ≤ ((pB P).length : Int); omega
  have hr_1 := hr.1
  have hr_2 := hr.2
  refine z_aload_n C dX3_longest_0 hl 0 rfl ?_
  refine z_iload_n C dX3_longest_1 hl 1 rfl ?_
  refine z_iconst C dX3_longest_2 ?_
  refine z_iconst C dX3_longest_3 ?_
  refine m_SiF C hH hS (mm_in hOk σ c0 0 1 (⟨by omega, by omega⟩) (⟨by omega, by omega⟩) (⟨by omega, by omega⟩)) (va_cwS 3 C.1.2.2.2.2 (lw_S q2321 q2322 q133 q2323) rfl rfl rfl (by decide +kernel) ⟨Nat.le_of_ble_eq_true rfl, Nat.le_of_ble_eq_true rfl⟩) rfl hl rfl (Nat.le_of_ble_eq_true rfl) dX3_longest_4 ⟨Nat.le_refl _, Nat.le_refl _⟩ (fun H locs hH hS => ?_)
  refine z_topi (fun z_4 hz_4 => ?_)
  have q_4 := inZ_or c0 0 1
  rw [← hz_4] at q_4
  refine z_ifeq C dX3_longest_7 (tgt := 14) (by decide) ⟨by omega, by omega⟩ (fun c_7 => ?_) (fun c_7 => ?_)
  · refine z_iconst C dX3_longest_14 ?_
    refine m_puts C hH hS 0 ⟨by decide, by decide⟩ q2185 rfl ⟨rfl, rfl⟩ dX3_longest_15 (fun H locs hH hS => ?_)
    refine z_iconst C dX3_longest_18 ?_
    refine z_istore_n C [(2, .int (iI 0)), (0, .ref o), (1, .int (iI c0))] dX3_longest_19 hl (by decide) rfl (fun ls hl => ?_)
    refine z_iconst C dX3_longest_20 ?_
    refine z_istore_n C [(3, .int (iI 0)), (2, .int (iI 0)), (0, .ref o), (1, .int (iI c0))] dX3_longest_21 hl (by decide) rfl (fun ls hl => ?_)
    have J_22 : ∀ (n : Nat) (t : Int) (k : Int) (s1 : Sg) (th : Int), (pN P - k).toNat < n → (0 ≤ k ∧ k ≤ pN P) → (s1 = su σ 0 0 th) → (s1 1 = σ 1) → ((th = 0 ∧ 0 ≤ c0 ∧ c0 ≤ 1) ∨ th = 1) → (th = (if 0 ≤ c0 ∧ c0 ≤ 1 then 0 else 1)) → (t = lgL P c0 k.toNat) → (0 ≤ t ∧ t ≤ 40) → ∀ (H : Heap) (locs : List Loc) (ls : Array Slot), MH D dA A o ad s1 H → va_S A s0.heap H locs → lv_has ls 6 [(3, .int (iI k)), (2, .int (iI t)), (0, .ref o), (1, .int (iI c0))] → W pp l ee (rmL 3 0 0) s0 mm ([.ref o, .int (iI c0)] : List Value).toArray below meth cc0 H locs 0 0 (MQ below (MQi D dA A o ad (fun r σ' => σ' 0 0 = (if 0 ≤ c0 ∧ c0 ≤ 1 then 0 else 1) ∧ (σ' 0 0 = 0 → r = lgZ P c0) ∧ Fr [0, 7, 8, 9, 10, 11, 12, 13, 14, 15, 16, 17, 18, 19] σ σ')) ([.ref o, .int (iI c0)] : List Value).toArray s0 0 0 A) (F0 mm 22 ls []) := by
      intro n
      induction n with
      | zero => intro t k s1 th hn; exact absurd hn (Nat.not_lt_zero _)
      | succ n ih_22 =>
        intro t k s1 th hn hk0 hs0 hs hth hth2 hc ht0 H locs ls hH hS hl
        have J_88 : (th = 1 ∨ (th = 0 ∧ k = pN P)) → ∀ (H : Heap) (locs : List Loc) (ls : Array Slot), MH D dA A o ad s1 H → va_S A s0.heap H locs → lv_has ls 6 [(3, .int (iI k)), (2, .int (iI t)), (0, .ref o), (1, .int (iI c0))] → W pp l ee (rmL 3 0 0) s0 mm ([.ref o, .int (iI c0)] : List Value).toArray below meth cc0 H locs 0 0 (MQ below (MQi D dA A o ad (fun r σ' => σ' 0 0 = (if 0 ≤ c0 ∧ c0 ≤ 1 then 0 else 1) ∧ (σ' 0 0 = 0 → r = lgZ P c0) ∧ Fr [0, 7, 8, 9, 10, 11, 12, 13, 14, 15, 16, 17, 18, 19] σ σ')) ([.ref o, .int (iI c0)] : List Value).toArray s0 0 0 A) (F0 mm 88 ls []) := by
          intro  hx H locs ls hH hS hl
          refine z_iload_n C dX3_longest_88 hl 1 rfl ?_
          refine m_iret C hret hH hS dX3_longest_89 ?_
          refine ⟨?_, fun hth3 => ?_, by rw [hs0]; exact frSu Fr.rf rfl⟩
          · rw [hs0, su_self]; exact hth2
          · rw [hs0, su_self] at hth3; first | exact absurd hth3 (by omega) | (rw [hc, show k.toNat = (pB P).length by have : pN P = ((pB P).length : Int) := rfl; omega]; rfl)
        refine z_iload_n C dX3_longest_22 hl 0 rfl ?_
        refine z_aload_n C dX3_longest_23 hl 2 rfl ?_
        refine m_geta C hH 1 ⟨by decide, by decide⟩ q2186 rfl dX3_longest_24 ?_
        refine z_iconst C dX3_longest_27 ?_
        refine m_ialdZ C hOk hH 1 ⟨by decide, by decide⟩ 1 (pN P) (by rw [hs]; exact p2) (show 0 ≤ 1 ∧ 1 < (828 : Int) by omega) dX3_longest_28 ?_
        refine z_icmpge C dX3_longest_29 (tgt := 88) (by decide) ⟨⟨by omega, by omega⟩, ⟨by omega, by omega⟩⟩ (fun c_29 => ?_) (fun c_29 => ?_)
        · exact J_88  (by omega) _ _ _ hH hS (lv_sub hl [0, 1, 2, 3] rfl)
        · refine z_aload_n C dX3_longest_32 hl 2 rfl ?_
          refine m_getsZ C hH 0 ⟨by decide, by decide⟩ th (by rw [hs0]; exact su_self _ _ _ _) q2185 rfl dX3_longest_33 ?_
          refine z_ifne C dX3_longest_36 (tgt := 88) (by decide) ⟨by omega, by omega⟩ (fun c_36 => ?_) (fun c_36 => ?_)
          · exact J_88  (by omega) _ _ _ hH hS (lv_sub hl [0, 1, 2, 3] rfl)
          · refine z_iconst C dX3_longest_39 ?_
            refine z_istore C [(4, .int (iI 0)), (3, .int (iI k)), (2, .int (iI t)), (0, .ref o), (1, .int (iI c0))] dX3_longest_40 hl (by decide) rfl (fun ls hl => ?_)
            have J_42 : ∀ (n : Nat) (d : Int) (j : Int), (pW P - j).toNat < n → (0 ≤ j ∧ j ≤ pW P) → (d = lgK (lnZ P k) (pW P) c0 j.toNat t) → (0 ≤ d ∧ d ≤ 40) → ∀ (H : Heap) (locs : List Loc) (ls : Array Slot), MH D dA A o ad s1 H → va_S A s0.heap H locs → lv_has ls 6 [(4, .int (iI j)), (2, .int (iI d)), (3, .int (iI k)), (0, .ref o), (1, .int (iI c0))] → W pp l ee (rmL 3 0 0) s0 mm ([.ref o, .int (iI c0)] : List Value).toArray below meth cc0 H locs 0 0 (MQ below (MQi D dA A o ad (fun r σ' => σ' 0 0 = (if 0 ≤ c0 ∧ c0 ≤ 1 then 0 else 1) ∧ (σ' 0 0 = 0 → r = lgZ P c0) ∧ Fr [0, 7, 8, 9, 10, 11, 12, 13, 14, 15, 16, 17, 18, 19] σ σ')) ([.ref o, .int (iI c0)] : List Value).toArray s0 0 0 A) (F0 mm 42 ls []) := by
              intro n
              induction n with
              | zero => intro d j hn; exact absurd hn (Nat.not_lt_zero _)
              | succ n ih_42 =>
                intro d j hn hj0 hd hd0 H locs ls hH hS hl
                refine z_iload C dX3_longest_42 hl 0 rfl ?_
                refine z_aload_n C dX3_longest_44 hl 3 rfl ?_
                refine m_geta C hH 1 ⟨by decide, by decide⟩ q2186 rfl dX3_longest_45 ?_
                refine z_iconst C dX3_longest_48 ?_
                refine m_ialdZ C hOk hH 1 ⟨by decide, by decide⟩ 0 (pW P) (by rw [hs]; exact p1) (show 0 ≤ 0 ∧ 0 < (828 : Int) by omega) dX3_longest_49 ?_
                refine z_icmpge C dX3_longest_50 (tgt := 82) (by decide) ⟨⟨by omega, by omega⟩, ⟨by omega, by omega⟩⟩ (fun c_50 => ?_) (fun c_50 => ?_)
                · refine z_iinc C [(3, .int (iI (k + 1))), (4, .int (iI j)), (2, .int (iI d)), (0, .ref o), (1, .int (iI c0))] dX3_longest_82 hl 2 rfl (by decide) rfl (fun ls hl => ?_)
                  refine z_goto C dX3_longest_85 (tgt := 22) (by decide) ?_
                  exact ih_22 d ((k + 1)) s1 th (by omega) (by omega) (hs0) (hs) (hth) (hth2) (by rw [show (k + 1).toNat = k.toNat + 1 by omega]; unfold lgL; rw [Int.toNat_of_nonneg hk0.1, ← hc, hd, show j = pW P by omega]) (by omega) _ _ _ hH hS (lv_sub hl [0, 2, 3, 4] rfl)
                · refine z_aload_n C dX3_longest_53 hl 3 rfl ?_
                  refine z_iload_n C dX3_longest_54 hl 2 rfl ?_
                  refine z_iload C dX3_longest_55 hl 0 rfl ?_
                  refine z_iload_n C dX3_longest_57 hl 4 rfl ?_
                  refine m_ViF C hH hS (mm_rowFrom hOk s1 k j c0 P ((by rw [hs]; exact hP9)) (hk9) (by omega) (by omega) (by omega)) (cwV 3 C.1.2.2.2.2 (lw_V q2449 q2451 qs67 q133 q2452) rfl rfl rfl (by decide +kernel) ⟨Nat.le_of_ble_eq_true rfl, Nat.le_of_ble_eq_true rfl⟩) rfl hl rfl (Nat.le_of_ble_eq_true rfl) dX3_longest_58 ⟨Nat.le_refl _, Nat.le_refl _⟩ (fun H locs hH hS => ?_)
                  refine z_istore C [(5, .int (iI (rwZ (lnZ P k) (pW P) c0 j))), (4, .int (iI j)), (2, .int (iI d)), (3, .int (iI k)), (0, .ref o), (1, .int (iI c0))] dX3_longest_61 hl (by decide) rfl (fun ls hl => ?_)
                  have rw1 := fnd_ge (fun i => if lnZ P k i = c0 then 0 else 1) 1 (pW P) j
                  have rw2 := fnd_le (fun i => if lnZ P k i = c0 then 0 else 1) 1 (w := pW P) (i := j) (by omega)
                  have rw3 : rwZ (lnZ P k) (pW P) c0 j = fnd (fun i => if lnZ P k i = c0 then 0 else 1) 1 (pW P) j - j := rfl
                  refine z_iload C dX3_longest_63 hl 0 rfl ?_
                  refine z_iload_n C dX3_longest_65 hl 2 rfl ?_
                  refine z_icmple C dX3_longest_66 (tgt := 74) (by decide) ⟨⟨by omega, by omega⟩, ⟨by omega, by omega⟩⟩ (fun c_66 => ?_) (fun c_66 => ?_)
                  · refine z_iload_n C dX3_longest_74 hl 2 rfl ?_
                    refine z_istore_n C [(2, .int (iI d)), (5, .int (iI (rwZ (lnZ P k) (pW P) c0 j))), (4, .int (iI j)), (3, .int (iI k)), (0, .ref o), (1, .int (iI c0))] dX3_longest_75 hl (by decide) rfl (fun ls hl => ?_)
                    refine z_iinc C [(4, .int (iI (j + 1))), (2, .int (iI d)), (5, .int (iI (rwZ (lnZ P k) (pW P) c0 j))), (3, .int (iI k)), (0, .ref o), (1, .int (iI c0))] dX3_longest_76 hl 2 rfl (by decide) rfl (fun ls hl => ?_)
                    refine z_goto C dX3_longest_79 (tgt := 42) (by decide) ?_
                    exact ih_42 d ((j + 1)) (by omega) (by omega) (by rw [show (j + 1).toNat = j.toNat + 1 by omega]; unfold lgK mxI; rw [Int.toNat_of_nonneg hj0.1, ← hd]; first | (rw [if_pos (by omega)]; done) | (rw [if_neg (by omega)]; done)) (by omega) _ _ _ hH hS (lv_sub hl [0, 1, 3, 4, 5] rfl)
                  · refine z_iload C dX3_longest_69 hl 0 rfl ?_
                    refine z_goto C dX3_longest_71 (tgt := 75) (by decide) ?_
                    refine z_istore_n C [(2, .int (iI (rwZ (lnZ P k) (pW P) c0 j))), (5, .int (iI (rwZ (lnZ P k) (pW P) c0 j))), (4, .int (iI j)), (3, .int (iI k)), (0, .ref o), (1, .int (iI c0))] dX3_longest_75 hl (by decide) rfl (fun ls hl => ?_)
                    refine z_iinc C [(4, .int (iI (j + 1))), (2, .int (iI (rwZ (lnZ P k) (pW P) c0 j))), (5, .int (iI (rwZ (lnZ P k) (pW P) c0 j))), (3, .int (iI k)), (0, .ref o), (1, .int (iI c0))] dX3_longest_76 hl 2 rfl (by decide) rfl (fun ls hl => ?_)
                    refine z_goto C dX3_longest_79 (tgt := 42) (by decide) ?_
                    exact ih_42 ((rwZ (lnZ P k) (pW P) c0 j)) ((j + 1)) (by omega) (by omega) (by rw [show (j + 1).toNat = j.toNat + 1 by omega]; unfold lgK mxI; rw [Int.toNat_of_nonneg hj0.1, ← hd]; first | (rw [if_pos (by omega)]; done) | (rw [if_neg (by omega)]; done)) (by omega) _ _ _ hH hS (lv_sub hl [0, 1, 3, 4, 5] rfl)
            exact J_42 _ t 0 (Nat.lt_succ_self _) (by omega) (rfl) (by omega) _ _ _ hH hS (lv_sub hl [0, 2, 1, 3, 4] rfl)
    exact J_22 _ 0 0 ((su σ 0 0 1)) 1 (Nat.lt_succ_self _) (by omega) (rfl) (rfl) (by omega) (by first | (rw [if_pos (by omega)]; done) | (rw [if_neg (by omega)]; done) | (rw [if_neg (by omega), if_pos (by omega)]; done) | (rw [if_neg (by omega), if_neg (by omega)]; done)) (rfl) (by omega) _ _ _ hH hS (lv_sub hl [0, 1, 2, 3] rfl)
  · refine z_iconst C dX3_longest_10 ?_
    refine z_goto C dX3_longest_11 (tgt := 15) (by decide) ?_
    refine m_puts C hH hS 0 ⟨by decide, by decide⟩ q2185 rfl ⟨rfl, rfl⟩ dX3_longest_15 (fun H locs hH hS => ?_)
    refine z_iconst C dX3_longest_18 ?_
    refine z_istore_n C [(2, .int (iI 0)), (0, .ref o), (1, .int (iI c0))] dX3_longest_19 hl (by decide) rfl (fun ls hl => ?_)
    refine z_iconst C dX3_longest_20 ?_
    refine z_istore_n C [(3, .int (iI 0)), (2, .int (iI 0)), (0, .ref o), (1, .int (iI c0))] dX3_longest_21 hl (by decide) rfl (fun ls hl => ?_)
    have J_22 : ∀ (n : Nat) (t : Int) (k : Int) (s1 : Sg) (th : Int), (pN P - k).toNat < n → (0 ≤ k ∧ k ≤ pN P) → (s1 = su σ 0 0 th) → (s1 1 = σ 1) → ((th = 0 ∧ 0 ≤ c0 ∧ c0 ≤ 1) ∨ th = 1) → (th = (if 0 ≤ c0 ∧ c0 ≤ 1 then 0 else 1)) → (t = lgL P c0 k.toNat) → (0 ≤ t ∧ t ≤ 40) → ∀ (H : Heap) (locs : List Loc) (ls : Array Slot), MH D dA A o ad s1 H → va_S A s0.heap H locs → lv_has ls 6 [(3, .int (iI k)), (2, .int (iI t)), (0, .ref o), (1, .int (iI c0))] → W pp l ee (rmL 3 0 0) s0 mm ([.ref o, .int (iI c0)] : List Value).toArray below meth cc0 H locs 0 0 (MQ below (MQi D dA A o ad (fun r σ' => σ' 0 0 = (if 0 ≤ c0 ∧ c0 ≤ 1 then 0 else 1) ∧ (σ' 0 0 = 0 → r = lgZ P c0) ∧ Fr [0, 7, 8, 9, 10, 11, 12, 13, 14, 15, 16, 17, 18, 19] σ σ')) ([.ref o, .int (iI c0)] : List Value).toArray s0 0 0 A) (F0 mm 22 ls []) := by
      intro n
      induction n with
      | zero => intro t k s1 th hn; exact absurd hn (Nat.not_lt_zero _)
      | succ n ih_22 =>
        intro t k s1 th hn hk0 hs0 hs hth hth2 hc ht0 H locs ls hH hS hl
        have J_88 : (th = 1 ∨ (th = 0 ∧ k = pN P)) → ∀ (H : Heap) (locs : List Loc) (ls : Array Slot), MH D dA A o ad s1 H → va_S A s0.heap H locs → lv_has ls 6 [(3, .int (iI k)), (2, .int (iI t)), (0, .ref o), (1, .int (iI c0))] → W pp l ee (rmL 3 0 0) s0 mm ([.ref o, .int (iI c0)] : List Value).toArray below meth cc0 H locs 0 0 (MQ below (MQi D dA A o ad (fun r σ' => σ' 0 0 = (if 0 ≤ c0 ∧ c0 ≤ 1 then 0 else 1) ∧ (σ' 0 0 = 0 → r = lgZ P c0) ∧ Fr [0, 7, 8, 9, 10, 11, 12, 13, 14, 15, 16, 17, 18, 19] σ σ')) ([.ref o, .int (iI c0)] : List Value).toArray s0 0 0 A) (F0 mm 88 ls []) := by
          intro  hx H locs ls hH hS hl
          refine z_iload_n C dX3_longest_88 hl 1 rfl ?_
          refine m_iret C hret hH hS dX3_longest_89 ?_
          refine ⟨?_, fun hth3 => ?_, by rw [hs0]; exact frSu Fr.rf rfl⟩
          · rw [hs0, su_self]; exact hth2
          · rw [hs0, su_self] at hth3; first | exact absurd hth3 (by omega) | (rw [hc, show k.toNat = (pB P).length by have : pN P = ((pB P).length : Int) := rfl; omega]; rfl)
        refine z_iload_n C dX3_longest_22 hl 0 rfl ?_
        refine z_aload_n C dX3_longest_23 hl 2 rfl ?_
        refine m_geta C hH 1 ⟨by decide, by decide⟩ q2186 rfl dX3_longest_24 ?_
        refine z_iconst C dX3_longest_27 ?_
        refine m_ialdZ C hOk hH 1 ⟨by decide, by decide⟩ 1 (pN P) (by rw [hs]; exact p2) (show 0 ≤ 1 ∧ 1 < (828 : Int) by omega) dX3_longest_28 ?_
        refine z_icmpge C dX3_longest_29 (tgt := 88) (by decide) ⟨⟨by omega, by omega⟩, ⟨by omega, by omega⟩⟩ (fun c_29_1 => ?_) (fun c_29_1 => ?_)
        · exact J_88  (by omega) _ _ _ hH hS (lv_sub hl [0, 1, 2, 3] rfl)
        · refine z_aload_n C dX3_longest_32 hl 2 rfl ?_
          refine m_getsZ C hH 0 ⟨by decide, by decide⟩ th (by rw [hs0]; exact su_self _ _ _ _) q2185 rfl dX3_longest_33 ?_
          refine z_ifne C dX3_longest_36 (tgt := 88) (by decide) ⟨by omega, by omega⟩ (fun c_36_1 => ?_) (fun c_36_1 => ?_)
          · exact J_88  (by omega) _ _ _ hH hS (lv_sub hl [0, 1, 2, 3] rfl)
          · refine z_iconst C dX3_longest_39 ?_
            refine z_istore C [(4, .int (iI 0)), (3, .int (iI k)), (2, .int (iI t)), (0, .ref o), (1, .int (iI c0))] dX3_longest_40 hl (by decide) rfl (fun ls hl => ?_)
            have J_42 : ∀ (n : Nat) (d : Int) (j : Int), (pW P - j).toNat < n → (0 ≤ j ∧ j ≤ pW P) → (d = lgK (lnZ P k) (pW P) c0 j.toNat t) → (0 ≤ d ∧ d ≤ 40) → ∀ (H : Heap) (locs : List Loc) (ls : Array Slot), MH D dA A o ad s1 H → va_S A s0.heap H locs → lv_has ls 6 [(4, .int (iI j)), (2, .int (iI d)), (3, .int (iI k)), (0, .ref o), (1, .int (iI c0))] → W pp l ee (rmL 3 0 0) s0 mm ([.ref o, .int (iI c0)] : List Value).toArray below meth cc0 H locs 0 0 (MQ below (MQi D dA A o ad (fun r σ' => σ' 0 0 = (if 0 ≤ c0 ∧ c0 ≤ 1 then 0 else 1) ∧ (σ' 0 0 = 0 → r = lgZ P c0) ∧ Fr [0, 7, 8, 9, 10, 11, 12, 13, 14, 15, 16, 17, 18, 19] σ σ')) ([.ref o, .int (iI c0)] : List Value).toArray s0 0 0 A) (F0 mm 42 ls []) := by
              intro n
              induction n with
              | zero => intro d j hn; exact absurd hn (Nat.not_lt_zero _)
              | succ n ih_42 =>
                intro d j hn hj0 hd hd0 H locs ls hH hS hl
                refine z_iload C dX3_longest_42 hl 0 rfl ?_
                refine z_aload_n C dX3_longest_44 hl 3 rfl ?_
                refine m_geta C hH 1 ⟨by decide, by decide⟩ q2186 rfl dX3_longest_45 ?_
                refine z_iconst C dX3_longest_48 ?_
                refine m_ialdZ C hOk hH 1 ⟨by decide, by decide⟩ 0 (pW P) (by rw [hs]; exact p1) (show 0 ≤ 0 ∧ 0 < (828 : Int) by omega) dX3_longest_49 ?_
                refine z_icmpge C dX3_longest_50 (tgt := 82) (by decide) ⟨⟨by omega, by omega⟩, ⟨by omega, by omega⟩⟩ (fun c_50_1 => ?_) (fun c_50_1 => ?_)
                · refine z_iinc C [(3, .int (iI (k + 1))), (4, .int (iI j)), (2, .int (iI d)), (0, .ref o), (1, .int (iI c0))] dX3_longest_82 hl 2 rfl (by decide) rfl (fun ls hl => ?_)
                  refine z_goto C dX3_longest_85 (tgt := 22) (by decide) ?_
                  exact ih_22 d ((k + 1)) s1 th (by omega) (by omega) (hs0) (hs) (hth) (hth2) (by rw [show (k + 1).toNat = k.toNat + 1 by omega]; unfold lgL; rw [Int.toNat_of_nonneg hk0.1, ← hc, hd, show j = pW P by omega]) (by omega) _ _ _ hH hS (lv_sub hl [0, 2, 3, 4] rfl)
                · refine z_aload_n C dX3_longest_53 hl 3 rfl ?_
                  refine z_iload_n C dX3_longest_54 hl 2 rfl ?_
                  refine z_iload C dX3_longest_55 hl 0 rfl ?_
                  refine z_iload_n C dX3_longest_57 hl 4 rfl ?_
                  refine m_ViF C hH hS (mm_rowFrom hOk s1 k j c0 P ((by rw [hs]; exact hP9)) (hk9) (by omega) (by omega) (by omega)) (cwV 3 C.1.2.2.2.2 (lw_V q2449 q2451 qs67 q133 q2452) rfl rfl rfl (by decide +kernel) ⟨Nat.le_of_ble_eq_true rfl, Nat.le_of_ble_eq_true rfl⟩) rfl hl rfl (Nat.le_of_ble_eq_true rfl) dX3_longest_58 ⟨Nat.le_refl _, Nat.le_refl _⟩ (fun H locs hH hS => ?_)
                  refine z_istore C [(5, .int (iI (rwZ (lnZ P k) (pW P) c0 j))), (4, .int (iI j)), (2, .int (iI d)), (3, .int (iI k)), (0, .ref o), (1, .int (iI c0))] dX3_longest_61 hl (by decide) rfl (fun ls hl => ?_)
                  have rw1 := fnd_ge (fun i => if lnZ P k i = c0 then 0 else 1) 1 (pW P) j
                  have rw2 := fnd_le (fun i => if lnZ P k i = c0 then 0 else 1) 1 (w := pW P) (i := j) (by omega)
                  have rw3 : rwZ (lnZ P k) (pW P) c0 j = fnd (fun i => if lnZ P k i = c0 then 0 else 1) 1 (pW P) j - j := rfl
                  refine z_iload C dX3_longest_63 hl 0 rfl ?_
                  refine z_iload_n C dX3_longest_65 hl 2 rfl ?_
                  refine z_icmple C dX3_longest_66 (tgt := 74) (by decide) ⟨⟨by omega, by omega⟩, ⟨by omega, by omega⟩⟩ (fun c_66_1 => ?_) (fun c_66_1 => ?_)
                  · refine z_iload_n C dX3_longest_74 hl 2 rfl ?_
                    refine z_istore_n C [(2, .int (iI d)), (5, .int (iI (rwZ (lnZ P k) (pW P) c0 j))), (4, .int (iI j)), (3, .int (iI k)), (0, .ref o), (1, .int (iI c0))] dX3_longest_75 hl (by decide) rfl (fun ls hl => ?_)
                    refine z_iinc C [(4, .int (iI (j + 1))), (2, .int (iI d)), (5, .int (iI (rwZ (lnZ P k) (pW P) c0 j))), (3, .int (iI k)), (0, .ref o), (1, .int (iI c0))] dX3_longest_76 hl 2 rfl (by decide) rfl (fun ls hl => ?_)
                    refine z_goto C dX3_longest_79 (tgt := 42) (by decide) ?_
                    exact ih_42 d ((j + 1)) (by omega) (by omega) (by rw [show (j + 1).toNat = j.toNat + 1 by omega]; unfold lgK mxI; rw [Int.toNat_of_nonneg hj0.1, ← hd]; first | (rw [if_pos (by omega)]; done) | (rw [if_neg (by omega)]; done)) (by omega) _ _ _ hH hS (lv_sub hl [0, 1, 3, 4, 5] rfl)
                  · refine z_iload C dX3_longest_69 hl 0 rfl ?_
                    refine z_goto C dX3_longest_71 (tgt := 75) (by decide) ?_
                    refine z_istore_n C [(2, .int (iI (rwZ (lnZ P k) (pW P) c0 j))), (5, .int (iI (rwZ (lnZ P k) (pW P) c0 j))), (4, .int (iI j)), (3, .int (iI k)), (0, .ref o), (1, .int (iI c0))] dX3_longest_75 hl (by decide) rfl (fun ls hl => ?_)
                    refine z_iinc C [(4, .int (iI (j + 1))), (2, .int (iI (rwZ (lnZ P k) (pW P) c0 j))), (5, .int (iI (rwZ (lnZ P k) (pW P) c0 j))), (3, .int (iI k)), (0, .ref o), (1, .int (iI c0))] dX3_longest_76 hl 2 rfl (by decide) rfl (fun ls hl => ?_)
                    refine z_goto C dX3_longest_79 (tgt := 42) (by decide) ?_
                    exact ih_42 ((rwZ (lnZ P k) (pW P) c0 j)) ((j + 1)) (by omega) (by omega) (by rw [show (j + 1).toNat = j.toNat + 1 by omega]; unfold lgK mxI; rw [Int.toNat_of_nonneg hj0.1, ← hd]; first | (rw [if_pos (by omega)]; done) | (rw [if_neg (by omega)]; done)) (by omega) _ _ _ hH hS (lv_sub hl [0, 1, 3, 4, 5] rfl)
            exact J_42 _ t 0 (Nat.lt_succ_self _) (by omega) (rfl) (by omega) _ _ _ hH hS (lv_sub hl [0, 2, 1, 3, 4] rfl)
    exact J_22 _ 0 0 ((su σ 0 0 0)) 0 (Nat.lt_succ_self _) (by omega) (rfl) (rfl) (by omega) (by first | (rw [if_pos (by omega)]; done) | (rw [if_neg (by omega)]; done) | (rw [if_neg (by omega), if_pos (by omega)]; done) | (rw [if_neg (by omega), if_neg (by omega)]; done)) (rfl) (by omega) _ _ _ hH hS (lv_sub hl [0, 1, 2, 3] rfl)
set_option maxHeartbeats 1000000 in
theorem mm_runsOf {l : Launch} {D : va_G} {dA : Nat → ClassId} {A : Nat → Prop} {o : Nat} {ad : Nat → Nat} (hOk : mOk o ad) (σ : Sg) (c0 : Int) (x : Int) (P : Pg) (hP : PgAt (σ 1) P) (hk : PgOk P) (hr : zR c0) (hr2 : zR x) : Met l yX3_runsOf (ws_ yX3_runsOf cX3_runsOf 6 (some .int)) (rmL 3 0 0) (MP D dA A o ad [.ref o, .int (iI c0), .int (iI x)] σ) (MQi D dA A o ad (fun r σ' => σ' 0 0 = (if (0 ≤ c0 ∧ c0 ≤ 1) ∧ 1 ≤ x ∧ x ≤ 40 then 0 else 1) ∧ (σ' 0 0 = 0 → r = roZ P c0 x) ∧ Fr [0, 7, 8, 9, 10, 11, 12, 13, 14, 15, 16, 17, 18, 19] σ σ')) 0 0 A := by
  refine z_ofW (by decide) rfl ?_
  intro pp ee s0 mm below meth cc0 ls C hret hname hl hH hS
  have hl : lv_has ls 6 [(0, .ref o), (1, .int (iI c0)), (2, .int (iI x))] := hl
  have hk9 := hk
  have hP9 := hP
  obtain ⟨k1, k2, k3, k4, k5, k6, k7, k8, k9, k10, k11⟩ := hk
  obtain ⟨p1, p2, p3, p4, p5⟩ := hP
  have pn0 : 0 ≤ pN P := by show (0 : Int) ≤ ((pB P).length : Int); omega
  have hr_1 := hr.1
  have hr_2 := hr.2
  have hr2_1 := hr2.1
  have hr2_2 := hr2.2
  refine z_aload_n C dX3_runsOf_0 hl 0 rfl ?_
  refine z_iload_n C dX3_runsOf_1 hl 1 rfl ?_
  refine z_iconst C dX3_runsOf_2 ?_
  refine z_iconst C dX3_runsOf_3 ?_
  refine m_SiF C hH hS (mm_in hOk σ c0 0 1 (⟨by omega, by omega⟩) (⟨by omega, by omega⟩) (⟨by omega, by omega⟩)) (va_cwS 3 C.1.2.2.2.2 (lw_S q2321 q2322 q133 q2323) rfl rfl rfl (by decide +kernel) ⟨Nat.le_of_ble_eq_true rfl, Nat.le_of_ble_eq_true rfl⟩) rfl hl rfl (Nat.le_of_ble_eq_true rfl) dX3_runsOf_4 ⟨Nat.le_refl _, Nat.le_refl _⟩ (fun H locs hH hS => ?_)
  refine z_topi (fun z_4 hz_4 => ?_)
  have q_4 := inZ_or c0 0 1
  rw [← hz_4] at q_4
  refine z_ifeq C dX3_runsOf_7 (tgt := 24) (by decide) ⟨by omega, by omega⟩ (fun c_7 => ?_) (fun c_7 => ?_)
  · refine z_iconst C dX3_runsOf_24 ?_
    refine m_puts C hH hS 0 ⟨by decide, by decide⟩ q2185 rfl ⟨rfl, rfl⟩ dX3_runsOf_25 (fun H locs hH hS => ?_)
    refine z_iconst C dX3_runsOf_28 ?_
    refine z_istore_n C [(3, .int (iI 0)), (0, .ref o), (1, .int (iI c0)), (2, .int (iI x))] dX3_runsOf_29 hl (by decide) rfl (fun ls hl => ?_)
    refine z_iconst C dX3_runsOf_30 ?_
    refine z_istore C [(4, .int (iI 0)), (3, .int (iI 0)), (0, .ref o), (1, .int (iI c0)), (2, .int (iI x))] dX3_runsOf_31 hl (by decide) rfl (fun ls hl => ?_)
    have J_33 : ∀ (n : Nat) (t : Int) (k : Int) (s1 : Sg) (th : Int), (pN P - k).toNat < n → (0 ≤ k ∧ k ≤ pN P) → (s1 = su σ 0 0 th) → (s1 1 = σ 1) → ((th = 0 ∧ 0 ≤ c0 ∧ c0 ≤ 1) ∨ th = 1) → (th = (if (0 ≤ c0 ∧ c0 ≤ 1) ∧ 1 ≤ x ∧ x ≤ 40 then 0 else 1)) → (t = cnt (fun l => roK (lnZ P l) (pW P) c0 x) k) → ∀ (H : Heap) (locs : List Loc) (ls : Array Slot), MH D dA A o ad s1 H → va_S A s0.heap H locs → lv_has ls 6 [(4, .int (iI k)), (3, .int (iI t)), (0, .ref o), (1, .int (iI c0)), (2, .int (iI x))] → W pp l ee (rmL 3 0 0) s0 mm ([.ref o, .int (iI c0), .int (iI x)] : List Value).toArray below meth cc0 H locs 0 0 (MQ below (MQi D dA A o ad (fun r σ' => σ' 0 0 = (if (0 ≤ c0 ∧ c0 ≤ 1) ∧ 1 ≤ x ∧ x ≤ 40 then 0 else 1) ∧ (σ' 0 0 = 0 → r = roZ P c0 x) ∧ Fr [0, 7, 8, 9, 10, 11, 12, 13, 14, 15, 16, 17, 18, 19] σ σ')) ([.ref o, .int (iI c0), .int (iI x)] : List Value).toArray s0 0 0 A) (F0 mm 33 ls []) := by
      intro n
      induction n with
      | zero => intro t k s1 th hn; exact absurd hn (Nat.not_lt_zero _)
      | succ n ih_33 =>
        intro t k s1 th hn hk0 hs0 hs hth hth2 hc H locs ls hH hS hl
        have J_110 : (th = 1 ∨ (th = 0 ∧ k = pN P)) → ∀ (H : Heap) (locs : List Loc) (ls : Array Slot), MH D dA A o ad s1 H → va_S A s0.heap H locs → lv_has ls 6 [(4, .int (iI k)), (3, .int (iI t)), (0, .ref o), (1, .int (iI c0)), (2, .int (iI x))] → W pp l ee (rmL 3 0 0) s0 mm ([.ref o, .int (iI c0), .int (iI x)] : List Value).toArray below meth cc0 H locs 0 0 (MQ below (MQi D dA A o ad (fun r σ' => σ' 0 0 = (if (0 ≤ c0 ∧ c0 ≤ 1) ∧ 1 ≤ x ∧ x ≤ 40 then 0 else 1) ∧ (σ' 0 0 = 0 → r = roZ P c0 x) ∧ Fr [0, 7, 8, 9, 10, 11, 12, 13, 14, 15, 16, 17, 18, 19] σ σ')) ([.ref o, .int (iI c0), .int (iI x)] : List Value).toArray s0 0 0 A) (F0 mm 110 ls []) := by
          intro  hx H locs ls hH hS hl
          refine z_iload_n C dX3_runsOf_110 hl 1 rfl ?_
          refine m_iret C hret hH hS dX3_runsOf_111 ?_
          refine ⟨?_, fun hth3 => ?_, by rw [hs0]; exact frSu Fr.rf rfl⟩
          · rw [hs0, su_self]; exact hth2
          · rw [hs0, su_self] at hth3; first | exact absurd hth3 (by omega) | (rw [hc, show k = pN P by omega]; rfl)
        refine z_iload C dX3_runsOf_33 hl 0 rfl ?_
        refine z_aload_n C dX3_runsOf_35 hl 2 rfl ?_
        refine m_geta C hH 1 ⟨by decide, by decide⟩ q2186 rfl dX3_runsOf_36 ?_
        refine z_iconst C dX3_runsOf_39 ?_
        refine m_ialdZ C hOk hH 1 ⟨by decide, by decide⟩ 1 (pN P) (by rw [hs]; exact p2) (show 0 ≤ 1 ∧ 1 < (828 : Int) by omega) dX3_runsOf_40 ?_
        refine z_icmpge C dX3_runsOf_41 (tgt := 110) (by decide) ⟨⟨by omega, by omega⟩, ⟨by omega, by omega⟩⟩ (fun c_41 => ?_) (fun c_41 => ?_)
        · exact J_110  (by omega) _ _ _ hH hS (lv_sub hl [0, 1, 2, 3, 4] rfl)
        · refine z_aload_n C dX3_runsOf_44 hl 2 rfl ?_
          refine m_getsZ C hH 0 ⟨by decide, by decide⟩ th (by rw [hs0]; exact su_self _ _ _ _) q2185 rfl dX3_runsOf_45 ?_
          refine z_ifne C dX3_runsOf_48 (tgt := 110) (by decide) ⟨by omega, by omega⟩ (fun c_48 => ?_) (fun c_48 => ?_)
          · exact J_110  (by omega) _ _ _ hH hS (lv_sub hl [0, 1, 2, 3, 4] rfl)
          · refine z_iconst C dX3_runsOf_51 ?_
            refine z_istore C [(5, .int (iI 0)), (4, .int (iI k)), (3, .int (iI t)), (0, .ref o), (1, .int (iI c0)), (2, .int (iI x))] dX3_runsOf_52 hl (by decide) rfl (fun ls hl => ?_)
            have J_54 : ∀ (n : Nat) (d : Int) (j : Int), (pW P - j).toNat < n → (0 ≤ j ∧ j ≤ pW P) → (d = t + cnt (fun i => if bgZ (lnZ P k) c0 i = 1 ∧ rwZ (lnZ P k) (pW P) c0 i = x then 1 else 0) j) → ∀ (H : Heap) (locs : List Loc) (ls : Array Slot), MH D dA A o ad s1 H → va_S A s0.heap H locs → lv_has ls 6 [(5, .int (iI j)), (3, .int (iI d)), (4, .int (iI k)), (0, .ref o), (1, .int (iI c0)), (2, .int (iI x))] → W pp l ee (rmL 3 0 0) s0 mm ([.ref o, .int (iI c0), .int (iI x)] : List Value).toArray below meth cc0 H locs 0 0 (MQ below (MQi D dA A o ad (fun r σ' => σ' 0 0 = (if (0 ≤ c0 ∧ c0 ≤ 1) ∧ 1 ≤ x ∧ x ≤ 40 then 0 else 1) ∧ (σ' 0 0 = 0 → r = roZ P c0 x) ∧ Fr [0, 7, 8, 9, 10, 11, 12, 13, 14, 15, 16, 17, 18, 19] σ σ')) ([.ref o, .int (iI c0), .int (iI x)] : List Value).toArray s0 0 0 A) (F0 mm 54 ls []) := by
              intro n
              induction n with
              | zero => intro d j hn; exact absurd hn (Nat.not_lt_zero _)
              | succ n ih_54 =>
                intro d j hn hj0 hd H locs ls hH hS hl
                refine z_iload C dX3_runsOf_54 hl 0 rfl ?_
                refine z_aload_n C dX3_runsOf_56 hl 3 rfl ?_
                refine m_geta C hH 1 ⟨by decide, by decide⟩ q2186 rfl dX3_runsOf_57 ?_
                refine z_iconst C dX3_runsOf_60 ?_
                refine m_ialdZ C hOk hH 1 ⟨by decide, by decide⟩ 0 (pW P) (by rw [hs]; exact p1) (show 0 ≤ 0 ∧ 0 < (828 : Int) by omega) dX3_runsOf_61 ?_
                refine z_icmpge C dX3_runsOf_62 (tgt := 104) (by decide) ⟨⟨by omega, by omega⟩, ⟨by omega, by omega⟩⟩ (fun c_62 => ?_) (fun c_62 => ?_)
                · refine z_iinc C [(4, .int (iI (k + 1))), (5, .int (iI j)), (3, .int (iI d)), (0, .ref o), (1, .int (iI c0)), (2, .int (iI x))] dX3_runsOf_104 hl 2 rfl (by decide) rfl (fun ls hl => ?_)
                  refine z_goto C dX3_runsOf_107 (tgt := 33) (by decide) ?_
                  exact ih_33 d ((k + 1)) s1 th (by omega) (by omega) (hs0) (hs) (hth) (hth2) (by rw [cnt_go _ hk0.1, ← hc, hd, show j = pW P by omega]; rfl) _ _ _ hH hS (lv_sub hl [0, 2, 3, 4, 5] rfl)
                · refine z_iload_n C dX3_runsOf_65 hl 1 rfl ?_
                  refine z_aload_n C dX3_runsOf_66 hl 3 rfl ?_
                  refine z_iload C dX3_runsOf_67 hl 2 rfl ?_
                  refine z_iload C dX3_runsOf_69 hl 0 rfl ?_
                  refine z_iload_n C dX3_runsOf_71 hl 4 rfl ?_
                  refine m_ViF C hH hS (mm_beginsRow hOk s1 k j c0 P ((by rw [hs]; exact hP9)) (hk9) (by omega) (by omega) (by omega)) (cwV 3 C.1.2.2.2.2 (lw_V q2457 q2459 qs68 q133 q2460) rfl rfl rfl (by decide +kernel) ⟨Nat.le_of_ble_eq_true rfl, Nat.le_of_ble_eq_true rfl⟩) rfl hl rfl (Nat.le_of_ble_eq_true rfl) dX3_runsOf_72 ⟨Nat.le_refl _, Nat.le_refl _⟩ (fun H locs hH hS => ?_)
                  refine z_topi (fun b hb => ?_)
                  have b01 : b = 0 ∨ b = 1 := by rw [hb]; unfold bgZ; split <;> simp
                  refine z_ifeq C dX3_runsOf_75 (tgt := 95) (by decide) ⟨by omega, by omega⟩ (fun c_75 => ?_) (fun c_75 => ?_)
                  · refine z_iconst C dX3_runsOf_95 ?_
                    refine z_iadd C dX3_runsOf_96 ?_
                    refine z_istore_n C [(3, .int (iI (d + 0))), (5, .int (iI j)), (4, .int (iI k)), (0, .ref o), (1, .int (iI c0)), (2, .int (iI x))] dX3_runsOf_97 hl (by decide) rfl (fun ls hl => ?_)
                    refine z_iinc C [(5, .int (iI (j + 1))), (3, .int (iI (d + 0))), (4, .int (iI k)), (0, .ref o), (1, .int (iI c0)), (2, .int (iI x))] dX3_runsOf_98 hl 1 rfl (by decide) rfl (fun ls hl => ?_)
                    refine z_goto C dX3_runsOf_101 (tgt := 54) (by decide) ?_
                    exact ih_54 ((d + 0)) ((j + 1)) (by omega) (by omega) (by rw [cnt_go _ hj0.1, hd, Int.add_assoc]; congr 2; first | (rw [if_pos ⟨by omega, by omega⟩]; done) | (rw [if_neg (by omega)]; done)) _ _ _ hH hS (lv_sub hl [0, 1, 2, 3, 4, 5] rfl)
                  · refine z_aload_n C dX3_runsOf_78 hl 3 rfl ?_
                    refine z_iload C dX3_runsOf_79 hl 2 rfl ?_
                    refine z_iload C dX3_runsOf_81 hl 0 rfl ?_
                    refine z_iload_n C dX3_runsOf_83 hl 4 rfl ?_
                    refine m_ViF C hH hS (mm_rowFrom hOk s1 k j c0 P ((by rw [hs]; exact hP9)) (hk9) (by omega) (by omega) (by omega)) (cwV 3 C.1.2.2.2.2 (lw_V q2449 q2451 qs67 q133 q2452) rfl rfl rfl (by decide +kernel) ⟨Nat.le_of_ble_eq_true rfl, Nat.le_of_ble_eq_true rfl⟩) rfl hl rfl (Nat.le_of_ble_eq_true rfl) dX3_runsOf_84 ⟨Nat.le_refl _, Nat.le_refl _⟩ (fun H locs hH hS => ?_)
                    have rw1 := fnd_ge (fun i => if lnZ P k i = c0 then 0 else 1) 1 (pW P) j
                    have rw2 := fnd_le (fun i => if lnZ P k i = c0 then 0 else 1) 1 (w := pW P) (i := j) (by omega)
                    have rw3 : rwZ (lnZ P k) (pW P) c0 j = fnd (fun i => if lnZ P k i = c0 then 0 else 1) 1 (pW P) j - j := rfl
                    refine z_iload_n C dX3_runsOf_87 hl 5 rfl ?_
                    refine z_icmpne C dX3_runsOf_88 (tgt := 95) (by decide) ⟨⟨by omega, by omega⟩, ⟨by omega, by omega⟩⟩ (fun c_88 => ?_) (fun c_88 => ?_)
                    · refine z_iconst C dX3_runsOf_95 ?_
                      refine z_iadd C dX3_runsOf_96 ?_
                      refine z_istore_n C [(3, .int (iI (d + 0))), (5, .int (iI j)), (4, .int (iI k)), (0, .ref o), (1, .int (iI c0)), (2, .int (iI x))] dX3_runsOf_97 hl (by decide) rfl (fun ls hl => ?_)
                      refine z_iinc C [(5, .int (iI (j + 1))), (3, .int (iI (d + 0))), (4, .int (iI k)), (0, .ref o), (1, .int (iI c0)), (2, .int (iI x))] dX3_runsOf_98 hl 1 rfl (by decide) rfl (fun ls hl => ?_)
                      refine z_goto C dX3_runsOf_101 (tgt := 54) (by decide) ?_
                      exact ih_54 ((d + 0)) ((j + 1)) (by omega) (by omega) (by rw [cnt_go _ hj0.1, hd, Int.add_assoc]; congr 2; first | (rw [if_pos ⟨by omega, by omega⟩]; done) | (rw [if_neg (by omega)]; done)) _ _ _ hH hS (lv_sub hl [0, 1, 2, 3, 4, 5] rfl)
                    · refine z_iconst C dX3_runsOf_91 ?_
                      refine z_goto C dX3_runsOf_92 (tgt := 96) (by decide) ?_
                      refine z_iadd C dX3_runsOf_96 ?_
                      refine z_istore_n C [(3, .int (iI (d + 1))), (5, .int (iI j)), (4, .int (iI k)), (0, .ref o), (1, .int (iI c0)), (2, .int (iI x))] dX3_runsOf_97 hl (by decide) rfl (fun ls hl => ?_)
                      refine z_iinc C [(5, .int (iI (j + 1))), (3, .int (iI (d + 1))), (4, .int (iI k)), (0, .ref o), (1, .int (iI c0)), (2, .int (iI x))] dX3_runsOf_98 hl 1 rfl (by decide) rfl (fun ls hl => ?_)
                      refine z_goto C dX3_runsOf_101 (tgt := 54) (by decide) ?_
                      exact ih_54 ((d + 1)) ((j + 1)) (by omega) (by omega) (by rw [cnt_go _ hj0.1, hd, Int.add_assoc]; congr 2; first | (rw [if_pos ⟨by omega, by omega⟩]; done) | (rw [if_neg (by omega)]; done)) _ _ _ hH hS (lv_sub hl [0, 1, 2, 3, 4, 5] rfl)
            exact J_54 _ t 0 (Nat.lt_succ_self _) (by omega) (by rw [cnt_0]; omega) _ _ _ hH hS (lv_sub hl [0, 2, 1, 3, 4, 5] rfl)
    exact J_33 _ 0 0 ((su σ 0 0 1)) 1 (Nat.lt_succ_self _) (by omega) (rfl) (rfl) (by omega) (by first | (rw [if_pos (by omega)]; done) | (rw [if_neg (by omega)]; done) | (rw [if_neg (by omega), if_pos (by omega)]; done) | (rw [if_neg (by omega), if_neg (by omega)]; done)) (rfl) _ _ _ hH hS (lv_sub hl [0, 1, 2, 3, 4] rfl)
  · refine z_iload_n C dX3_runsOf_10 hl 2 rfl ?_
    refine z_iconst C dX3_runsOf_11 ?_
    refine z_bipush C dX3_runsOf_12 (by decide +kernel) ?_
    refine m_SiF C hH hS (mm_in hOk σ x 1 40 (⟨by omega, by omega⟩) (⟨by omega, by omega⟩) (⟨by omega, by omega⟩)) (va_cwS 3 C.1.2.2.2.2 (lw_S q2321 q2322 q133 q2323) rfl rfl rfl (by decide +kernel) ⟨Nat.le_of_ble_eq_true rfl, Nat.le_of_ble_eq_true rfl⟩) rfl hl rfl (Nat.le_of_ble_eq_true rfl) dX3_runsOf_14 ⟨Nat.le_refl _, Nat.le_refl _⟩ (fun H locs hH hS => ?_)
    refine z_topi (fun z_14 hz_14 => ?_)
    have q_14 := inZ_or x 1 40
    rw [← hz_14] at q_14
    refine z_ifeq C dX3_runsOf_17 (tgt := 24) (by decide) ⟨by omega, by omega⟩ (fun c_17 => ?_) (fun c_17 => ?_)
    · refine z_iconst C dX3_runsOf_24 ?_
      refine m_puts C hH hS 0 ⟨by decide, by decide⟩ q2185 rfl ⟨rfl, rfl⟩ dX3_runsOf_25 (fun H locs hH hS => ?_)
      refine z_iconst C dX3_runsOf_28 ?_
      refine z_istore_n C [(3, .int (iI 0)), (0, .ref o), (1, .int (iI c0)), (2, .int (iI x))] dX3_runsOf_29 hl (by decide) rfl (fun ls hl => ?_)
      refine z_iconst C dX3_runsOf_30 ?_
      refine z_istore C [(4, .int (iI 0)), (3, .int (iI 0)), (0, .ref o), (1, .int (iI c0)), (2, .int (iI x))] dX3_runsOf_31 hl (by decide) rfl (fun ls hl => ?_)
      have J_33 : ∀ (n : Nat) (t : Int) (k : Int) (s1 : Sg) (th : Int), (pN P - k).toNat < n → (0 ≤ k ∧ k ≤ pN P) → (s1 = su σ 0 0 th) → (s1 1 = σ 1) → ((th = 0 ∧ 0 ≤ c0 ∧ c0 ≤ 1) ∨ th = 1) → (th = (if (0 ≤ c0 ∧ c0 ≤ 1) ∧ 1 ≤ x ∧ x ≤ 40 then 0 else 1)) → (t = cnt (fun l => roK (lnZ P l) (pW P) c0 x) k) → ∀ (H : Heap) (locs : List Loc) (ls : Array Slot), MH D dA A o ad s1 H → va_S A s0.heap H locs → lv_has ls 6 [(4, .int (iI k)), (3, .int (iI t)), (0, .ref o), (1, .int (iI c0)), (2, .int (iI x))] → W pp l ee (rmL 3 0 0) s0 mm ([.ref o, .int (iI c0), .int (iI x)] : List Value).toArray below meth cc0 H locs 0 0 (MQ below (MQi D dA A o ad (fun r σ' => σ' 0 0 = (if (0 ≤ c0 ∧ c0 ≤ 1) ∧ 1 ≤ x ∧ x ≤ 40 then 0 else 1) ∧ (σ' 0 0 = 0 → r = roZ P c0 x) ∧ Fr [0, 7, 8, 9, 10, 11, 12, 13, 14, 15, 16, 17, 18, 19] σ σ')) ([.ref o, .int (iI c0), .int (iI x)] : List Value).toArray s0 0 0 A) (F0 mm 33 ls []) := by
        intro n
        induction n with
        | zero => intro t k s1 th hn; exact absurd hn (Nat.not_lt_zero _)
        | succ n ih_33 =>
          intro t k s1 th hn hk0 hs0 hs hth hth2 hc H locs ls hH hS hl
          have J_110 : (th = 1 ∨ (th = 0 ∧ k = pN P)) → ∀ (H : Heap) (locs : List Loc) (ls : Array Slot), MH D dA A o ad s1 H → va_S A s0.heap H locs → lv_has ls 6 [(4, .int (iI k)), (3, .int (iI t)), (0, .ref o), (1, .int (iI c0)), (2, .int (iI x))] → W pp l ee (rmL 3 0 0) s0 mm ([.ref o, .int (iI c0), .int (iI x)] : List Value).toArray below meth cc0 H locs 0 0 (MQ below (MQi D dA A o ad (fun r σ' => σ' 0 0 = (if (0 ≤ c0 ∧ c0 ≤ 1) ∧ 1 ≤ x ∧ x ≤ 40 then 0 else 1) ∧ (σ' 0 0 = 0 → r = roZ P c0 x) ∧ Fr [0, 7, 8, 9, 10, 11, 12, 13, 14, 15, 16, 17, 18, 19] σ σ')) ([.ref o, .int (iI c0), .int (iI x)] : List Value).toArray s0 0 0 A) (F0 mm 110 ls []) := by
            intro  hx H locs ls hH hS hl
            refine z_iload_n C dX3_runsOf_110 hl 1 rfl ?_
            refine m_iret C hret hH hS dX3_runsOf_111 ?_
            refine ⟨?_, fun hth3 => ?_, by rw [hs0]; exact frSu Fr.rf rfl⟩
            · rw [hs0, su_self]; exact hth2
            · rw [hs0, su_self] at hth3; first | exact absurd hth3 (by omega) | (rw [hc, show k = pN P by omega]; rfl)
          refine z_iload C dX3_runsOf_33 hl 0 rfl ?_
          refine z_aload_n C dX3_runsOf_35 hl 2 rfl ?_
          refine m_geta C hH 1 ⟨by decide, by decide⟩ q2186 rfl dX3_runsOf_36 ?_
          refine z_iconst C dX3_runsOf_39 ?_
          refine m_ialdZ C hOk hH 1 ⟨by decide, by decide⟩ 1 (pN P) (by rw [hs]; exact p2) (show 0 ≤ 1 ∧ 1 < (828 : Int) by omega) dX3_runsOf_40 ?_
          refine z_icmpge C dX3_runsOf_41 (tgt := 110) (by decide) ⟨⟨by omega, by omega⟩, ⟨by omega, by omega⟩⟩ (fun c_41_1 => ?_) (fun c_41_1 => ?_)
          · exact J_110  (by omega) _ _ _ hH hS (lv_sub hl [0, 1, 2, 3, 4] rfl)
          · refine z_aload_n C dX3_runsOf_44 hl 2 rfl ?_
            refine m_getsZ C hH 0 ⟨by decide, by decide⟩ th (by rw [hs0]; exact su_self _ _ _ _) q2185 rfl dX3_runsOf_45 ?_
            refine z_ifne C dX3_runsOf_48 (tgt := 110) (by decide) ⟨by omega, by omega⟩ (fun c_48_1 => ?_) (fun c_48_1 => ?_)
            · exact J_110  (by omega) _ _ _ hH hS (lv_sub hl [0, 1, 2, 3, 4] rfl)
            · refine z_iconst C dX3_runsOf_51 ?_
              refine z_istore C [(5, .int (iI 0)), (4, .int (iI k)), (3, .int (iI t)), (0, .ref o), (1, .int (iI c0)), (2, .int (iI x))] dX3_runsOf_52 hl (by decide) rfl (fun ls hl => ?_)
              have J_54 : ∀ (n : Nat) (d : Int) (j : Int), (pW P - j).toNat < n → (0 ≤ j ∧ j ≤ pW P) → (d = t + cnt (fun i => if bgZ (lnZ P k) c0 i = 1 ∧ rwZ (lnZ P k) (pW P) c0 i = x then 1 else 0) j) → ∀ (H : Heap) (locs : List Loc) (ls : Array Slot), MH D dA A o ad s1 H → va_S A s0.heap H locs → lv_has ls 6 [(5, .int (iI j)), (3, .int (iI d)), (4, .int (iI k)), (0, .ref o), (1, .int (iI c0)), (2, .int (iI x))] → W pp l ee (rmL 3 0 0) s0 mm ([.ref o, .int (iI c0), .int (iI x)] : List Value).toArray below meth cc0 H locs 0 0 (MQ below (MQi D dA A o ad (fun r σ' => σ' 0 0 = (if (0 ≤ c0 ∧ c0 ≤ 1) ∧ 1 ≤ x ∧ x ≤ 40 then 0 else 1) ∧ (σ' 0 0 = 0 → r = roZ P c0 x) ∧ Fr [0, 7, 8, 9, 10, 11, 12, 13, 14, 15, 16, 17, 18, 19] σ σ')) ([.ref o, .int (iI c0), .int (iI x)] : List Value).toArray s0 0 0 A) (F0 mm 54 ls []) := by
                intro n
                induction n with
                | zero => intro d j hn; exact absurd hn (Nat.not_lt_zero _)
                | succ n ih_54 =>
                  intro d j hn hj0 hd H locs ls hH hS hl
                  refine z_iload C dX3_runsOf_54 hl 0 rfl ?_
                  refine z_aload_n C dX3_runsOf_56 hl 3 rfl ?_
                  refine m_geta C hH 1 ⟨by decide, by decide⟩ q2186 rfl dX3_runsOf_57 ?_
                  refine z_iconst C dX3_runsOf_60 ?_
                  refine m_ialdZ C hOk hH 1 ⟨by decide, by decide⟩ 0 (pW P) (by rw [hs]; exact p1) (show 0 ≤ 0 ∧ 0 < (828 : Int) by omega) dX3_runsOf_61 ?_
                  refine z_icmpge C dX3_runsOf_62 (tgt := 104) (by decide) ⟨⟨by omega, by omega⟩, ⟨by omega, by omega⟩⟩ (fun c_62_1 => ?_) (fun c_62_1 => ?_)
                  · refine z_iinc C [(4, .int (iI (k + 1))), (5, .int (iI j)), (3, .int (iI d)), (0, .ref o), (1, .int (iI c0)), (2, .int (iI x))] dX3_runsOf_104 hl 2 rfl (by decide) rfl (fun ls hl => ?_)
                    refine z_goto C dX3_runsOf_107 (tgt := 33) (by decide) ?_
                    exact ih_33 d ((k + 1)) s1 th (by omega) (by omega) (hs0) (hs) (hth) (hth2) (by rw [cnt_go _ hk0.1, ← hc, hd, show j = pW P by omega]; rfl) _ _ _ hH hS (lv_sub hl [0, 2, 3, 4, 5] rfl)
                  · refine z_iload_n C dX3_runsOf_65 hl 1 rfl ?_
                    refine z_aload_n C dX3_runsOf_66 hl 3 rfl ?_
                    refine z_iload C dX3_runsOf_67 hl 2 rfl ?_
                    refine z_iload C dX3_runsOf_69 hl 0 rfl ?_
                    refine z_iload_n C dX3_runsOf_71 hl 4 rfl ?_
                    refine m_ViF C hH hS (mm_beginsRow hOk s1 k j c0 P ((by rw [hs]; exact hP9)) (hk9) (by omega) (by omega) (by omega)) (cwV 3 C.1.2.2.2.2 (lw_V q2457 q2459 qs68 q133 q2460) rfl rfl rfl (by decide +kernel) ⟨Nat.le_of_ble_eq_true rfl, Nat.le_of_ble_eq_true rfl⟩) rfl hl rfl (Nat.le_of_ble_eq_true rfl) dX3_runsOf_72 ⟨Nat.le_refl _, Nat.le_refl _⟩ (fun H locs hH hS => ?_)
                    refine z_topi (fun b hb => ?_)
                    have b01 : b = 0 ∨ b = 1 := by rw [hb]; unfold bgZ; split <;> simp
                    refine z_ifeq C dX3_runsOf_75 (tgt := 95) (by decide) ⟨by omega, by omega⟩ (fun c_75_1 => ?_) (fun c_75_1 => ?_)
                    · refine z_iconst C dX3_runsOf_95 ?_
                      refine z_iadd C dX3_runsOf_96 ?_
                      refine z_istore_n C [(3, .int (iI (d + 0))), (5, .int (iI j)), (4, .int (iI k)), (0, .ref o), (1, .int (iI c0)), (2, .int (iI x))] dX3_runsOf_97 hl (by decide) rfl (fun ls hl => ?_)
                      refine z_iinc C [(5, .int (iI (j + 1))), (3, .int (iI (d + 0))), (4, .int (iI k)), (0, .ref o), (1, .int (iI c0)), (2, .int (iI x))] dX3_runsOf_98 hl 1 rfl (by decide) rfl (fun ls hl => ?_)
                      refine z_goto C dX3_runsOf_101 (tgt := 54) (by decide) ?_
                      exact ih_54 ((d + 0)) ((j + 1)) (by omega) (by omega) (by rw [cnt_go _ hj0.1, hd, Int.add_assoc]; congr 2; first | (rw [if_pos ⟨by omega, by omega⟩]; done) | (rw [if_neg (by omega)]; done)) _ _ _ hH hS (lv_sub hl [0, 1, 2, 3, 4, 5] rfl)
                    · refine z_aload_n C dX3_runsOf_78 hl 3 rfl ?_
                      refine z_iload C dX3_runsOf_79 hl 2 rfl ?_
                      refine z_iload C dX3_runsOf_81 hl 0 rfl ?_
                      refine z_iload_n C dX3_runsOf_83 hl 4 rfl ?_
                      refine m_ViF C hH hS (mm_rowFrom hOk s1 k j c0 P ((by rw [hs]; exact hP9)) (hk9) (by omega) (by omega) (by omega)) (cwV 3 C.1.2.2.2.2 (lw_V q2449 q2451 qs67 q133 q2452) rfl rfl rfl (by decide +kernel) ⟨Nat.le_of_ble_eq_true rfl, Nat.le_of_ble_eq_true rfl⟩) rfl hl rfl (Nat.le_of_ble_eq_true rfl) dX3_runsOf_84 ⟨Nat.le_refl _, Nat.le_refl _⟩ (fun H locs hH hS => ?_)
                      have rw1 := fnd_ge (fun i => if lnZ P k i = c0 then 0 else 1) 1 (pW P) j
                      have rw2 := fnd_le (fun i => if lnZ P k i = c0 then 0 else 1) 1 (w := pW P) (i := j) (by omega)
                      have rw3 : rwZ (lnZ P k) (pW P) c0 j = fnd (fun i => if lnZ P k i = c0 then 0 else 1) 1 (pW P) j - j := rfl
                      refine z_iload_n C dX3_runsOf_87 hl 5 rfl ?_
                      refine z_icmpne C dX3_runsOf_88 (tgt := 95) (by decide) ⟨⟨by omega, by omega⟩, ⟨by omega, by omega⟩⟩ (fun c_88_1 => ?_) (fun c_88_1 => ?_)
                      · refine z_iconst C dX3_runsOf_95 ?_
                        refine z_iadd C dX3_runsOf_96 ?_
                        refine z_istore_n C [(3, .int (iI (d + 0))), (5, .int (iI j)), (4, .int (iI k)), (0, .ref o), (1, .int (iI c0)), (2, .int (iI x))] dX3_runsOf_97 hl (by decide) rfl (fun ls hl => ?_)
                        refine z_iinc C [(5, .int (iI (j + 1))), (3, .int (iI (d + 0))), (4, .int (iI k)), (0, .ref o), (1, .int (iI c0)), (2, .int (iI x))] dX3_runsOf_98 hl 1 rfl (by decide) rfl (fun ls hl => ?_)
                        refine z_goto C dX3_runsOf_101 (tgt := 54) (by decide) ?_
                        exact ih_54 ((d + 0)) ((j + 1)) (by omega) (by omega) (by rw [cnt_go _ hj0.1, hd, Int.add_assoc]; congr 2; first | (rw [if_pos ⟨by omega, by omega⟩]; done) | (rw [if_neg (by omega)]; done)) _ _ _ hH hS (lv_sub hl [0, 1, 2, 3, 4, 5] rfl)
                      · refine z_iconst C dX3_runsOf_91 ?_
                        refine z_goto C dX3_runsOf_92 (tgt := 96) (by decide) ?_
                        refine z_iadd C dX3_runsOf_96 ?_
                        refine z_istore_n C [(3, .int (iI (d + 1))), (5, .int (iI j)), (4, .int (iI k)), (0, .ref o), (1, .int (iI c0)), (2, .int (iI x))] dX3_runsOf_97 hl (by decide) rfl (fun ls hl => ?_)
                        refine z_iinc C [(5, .int (iI (j + 1))), (3, .int (iI (d + 1))), (4, .int (iI k)), (0, .ref o), (1, .int (iI c0)), (2, .int (iI x))] dX3_runsOf_98 hl 1 rfl (by decide) rfl (fun ls hl => ?_)
                        refine z_goto C dX3_runsOf_101 (tgt := 54) (by decide) ?_
                        exact ih_54 ((d + 1)) ((j + 1)) (by omega) (by omega) (by rw [cnt_go _ hj0.1, hd, Int.add_assoc]; congr 2; first | (rw [if_pos ⟨by omega, by omega⟩]; done) | (rw [if_neg (by omega)]; done)) _ _ _ hH hS (lv_sub hl [0, 1, 2, 3, 4, 5] rfl)
              exact J_54 _ t 0 (Nat.lt_succ_self _) (by omega) (by rw [cnt_0]; omega) _ _ _ hH hS (lv_sub hl [0, 2, 1, 3, 4, 5] rfl)
      exact J_33 _ 0 0 ((su σ 0 0 1)) 1 (Nat.lt_succ_self _) (by omega) (rfl) (rfl) (by omega) (by first | (rw [if_pos (by omega)]; done) | (rw [if_neg (by omega)]; done) | (rw [if_neg (by omega), if_pos (by omega)]; done) | (rw [if_neg (by omega), if_neg (by omega)]; done)) (rfl) _ _ _ hH hS (lv_sub hl [0, 1, 2, 3, 4] rfl)
    · refine z_iconst C dX3_runsOf_20 ?_
      refine z_goto C dX3_runsOf_21 (tgt := 25) (by decide) ?_
      refine m_puts C hH hS 0 ⟨by decide, by decide⟩ q2185 rfl ⟨rfl, rfl⟩ dX3_runsOf_25 (fun H locs hH hS => ?_)
      refine z_iconst C dX3_runsOf_28 ?_
      refine z_istore_n C [(3, .int (iI 0)), (0, .ref o), (1, .int (iI c0)), (2, .int (iI x))] dX3_runsOf_29 hl (by decide) rfl (fun ls hl => ?_)
      refine z_iconst C dX3_runsOf_30 ?_
      refine z_istore C [(4, .int (iI 0)), (3, .int (iI 0)), (0, .ref o), (1, .int (iI c0)), (2, .int (iI x))] dX3_runsOf_31 hl (by decide) rfl (fun ls hl => ?_)
      have J_33 : ∀ (n : Nat) (t : Int) (k : Int) (s1 : Sg) (th : Int), (pN P - k).toNat < n → (0 ≤ k ∧ k ≤ pN P) → (s1 = su σ 0 0 th) → (s1 1 = σ 1) → ((th = 0 ∧ 0 ≤ c0 ∧ c0 ≤ 1) ∨ th = 1) → (th = (if (0 ≤ c0 ∧ c0 ≤ 1) ∧ 1 ≤ x ∧ x ≤ 40 then 0 else 1)) → (t = cnt (fun l => roK (lnZ P l) (pW P) c0 x) k) → ∀ (H : Heap) (locs : List Loc) (ls : Array Slot), MH D dA A o ad s1 H → va_S A s0.heap H locs → lv_has ls 6 [(4, .int (iI k)), (3, .int (iI t)), (0, .ref o), (1, .int (iI c0)), (2, .int (iI x))] → W pp l ee (rmL 3 0 0) s0 mm ([.ref o, .int (iI c0), .int (iI x)] : List Value).toArray below meth cc0 H locs 0 0 (MQ below (MQi D dA A o ad (fun r σ' => σ' 0 0 = (if (0 ≤ c0 ∧ c0 ≤ 1) ∧ 1 ≤ x ∧ x ≤ 40 then 0 else 1) ∧ (σ' 0 0 = 0 → r = roZ P c0 x) ∧ Fr [0, 7, 8, 9, 10, 11, 12, 13, 14, 15, 16, 17, 18, 19] σ σ')) ([.ref o, .int (iI c0), .int (iI x)] : List Value).toArray s0 0 0 A) (F0 mm 33 ls []) := by
        intro n
        induction n with
        | zero => intro t k s1 th hn; exact absurd hn (Nat.not_lt_zero _)
        | succ n ih_33 =>
          intro t k s1 th hn hk0 hs0 hs hth hth2 hc H locs ls hH hS hl
          have J_110 : (th = 1 ∨ (th = 0 ∧ k = pN P)) → ∀ (H : Heap) (locs : List Loc) (ls : Array Slot), MH D dA A o ad s1 H → va_S A s0.heap H locs → lv_has ls 6 [(4, .int (iI k)), (3, .int (iI t)), (0, .ref o), (1, .int (iI c0)), (2, .int (iI x))] → W pp l ee (rmL 3 0 0) s0 mm ([.ref o, .int (iI c0), .int (iI x)] : List Value).toArray below meth cc0 H locs 0 0 (MQ below (MQi D dA A o ad (fun r σ' => σ' 0 0 = (if (0 ≤ c0 ∧ c0 ≤ 1) ∧ 1 ≤ x ∧ x ≤ 40 then 0 else 1) ∧ (σ' 0 0 = 0 → r = roZ P c0 x) ∧ Fr [0, 7, 8, 9, 10, 11, 12, 13, 14, 15, 16, 17, 18, 19] σ σ')) ([.ref o, .int (iI c0), .int (iI x)] : List Value).toArray s0 0 0 A) (F0 mm 110 ls []) := by
            intro  hx H locs ls hH hS hl
            refine z_iload_n C dX3_runsOf_110 hl 1 rfl ?_
            refine m_iret C hret hH hS dX3_runsOf_111 ?_
            refine ⟨?_, fun hth3 => ?_, by rw [hs0]; exact frSu Fr.rf rfl⟩
            · rw [hs0, su_self]; exact hth2
            · rw [hs0, su_self] at hth3; first | exact absurd hth3 (by omega) | (rw [hc, show k = pN P by omega]; rfl)
          refine z_iload C dX3_runsOf_33 hl 0 rfl ?_
          refine z_aload_n C dX3_runsOf_35 hl 2 rfl ?_
          refine m_geta C hH 1 ⟨by decide, by decide⟩ q2186 rfl dX3_runsOf_36 ?_
          refine z_iconst C dX3_runsOf_39 ?_
          refine m_ialdZ C hOk hH 1 ⟨by decide, by decide⟩ 1 (pN P) (by rw [hs]; exact p2) (show 0 ≤ 1 ∧ 1 < (828 : Int) by omega) dX3_runsOf_40 ?_
          refine z_icmpge C dX3_runsOf_41 (tgt := 110) (by decide) ⟨⟨by omega, by omega⟩, ⟨by omega, by omega⟩⟩ (fun c_41_2 => ?_) (fun c_41_2 => ?_)
          · exact J_110  (by omega) _ _ _ hH hS (lv_sub hl [0, 1, 2, 3, 4] rfl)
          · refine z_aload_n C dX3_runsOf_44 hl 2 rfl ?_
            refine m_getsZ C hH 0 ⟨by decide, by decide⟩ th (by rw [hs0]; exact su_self _ _ _ _) q2185 rfl dX3_runsOf_45 ?_
            refine z_ifne C dX3_runsOf_48 (tgt := 110) (by decide) ⟨by omega, by omega⟩ (fun c_48_2 => ?_) (fun c_48_2 => ?_)
            · exact J_110  (by omega) _ _ _ hH hS (lv_sub hl [0, 1, 2, 3, 4] rfl)
            · refine z_iconst C dX3_runsOf_51 ?_
              refine z_istore C [(5, .int (iI 0)), (4, .int (iI k)), (3, .int (iI t)), (0, .ref o), (1, .int (iI c0)), (2, .int (iI x))] dX3_runsOf_52 hl (by decide) rfl (fun ls hl => ?_)
              have J_54 : ∀ (n : Nat) (d : Int) (j : Int), (pW P - j).toNat < n → (0 ≤ j ∧ j ≤ pW P) → (d = t + cnt (fun i => if bgZ (lnZ P k) c0 i = 1 ∧ rwZ (lnZ P k) (pW P) c0 i = x then 1 else 0) j) → ∀ (H : Heap) (locs : List Loc) (ls : Array Slot), MH D dA A o ad s1 H → va_S A s0.heap H locs → lv_has ls 6 [(5, .int (iI j)), (3, .int (iI d)), (4, .int (iI k)), (0, .ref o), (1, .int (iI c0)), (2, .int (iI x))] → W pp l ee (rmL 3 0 0) s0 mm ([.ref o, .int (iI c0), .int (iI x)] : List Value).toArray below meth cc0 H locs 0 0 (MQ below (MQi D dA A o ad (fun r σ' => σ' 0 0 = (if (0 ≤ c0 ∧ c0 ≤ 1) ∧ 1 ≤ x ∧ x ≤ 40 then 0 else 1) ∧ (σ' 0 0 = 0 → r = roZ P c0 x) ∧ Fr [0, 7, 8, 9, 10, 11, 12, 13, 14, 15, 16, 17, 18, 19] σ σ')) ([.ref o, .int (iI c0), .int (iI x)] : List Value).toArray s0 0 0 A) (F0 mm 54 ls []) := by
                intro n
                induction n with
                | zero => intro d j hn; exact absurd hn (Nat.not_lt_zero _)
                | succ n ih_54 =>
                  intro d j hn hj0 hd H locs ls hH hS hl
                  refine z_iload C dX3_runsOf_54 hl 0 rfl ?_
                  refine z_aload_n C dX3_runsOf_56 hl 3 rfl ?_
                  refine m_geta C hH 1 ⟨by decide, by decide⟩ q2186 rfl dX3_runsOf_57 ?_
                  refine z_iconst C dX3_runsOf_60 ?_
                  refine m_ialdZ C hOk hH 1 ⟨by decide, by decide⟩ 0 (pW P) (by rw [hs]; exact p1) (show 0 ≤ 0 ∧ 0 < (828 : Int) by omega) dX3_runsOf_61 ?_
                  refine z_icmpge C dX3_runsOf_62 (tgt := 104) (by decide) ⟨⟨by omega, by omega⟩, ⟨by omega, by omega⟩⟩ (fun c_62_2 => ?_) (fun c_62_2 => ?_)
                  · refine z_iinc C [(4, .int (iI (k + 1))), (5, .int (iI j)), (3, .int (iI d)), (0, .ref o), (1, .int (iI c0)), (2, .int (iI x))] dX3_runsOf_104 hl 2 rfl (by decide) rfl (fun ls hl => ?_)
                    refine z_goto C dX3_runsOf_107 (tgt := 33) (by decide) ?_
                    exact ih_33 d ((k + 1)) s1 th (by omega) (by omega) (hs0) (hs) (hth) (hth2) (by rw [cnt_go _ hk0.1, ← hc, hd, show j = pW P by omega]; rfl) _ _ _ hH hS (lv_sub hl [0, 2, 3, 4, 5] rfl)
                  · refine z_iload_n C dX3_runsOf_65 hl 1 rfl ?_
                    refine z_aload_n C dX3_runsOf_66 hl 3 rfl ?_
                    refine z_iload C dX3_runsOf_67 hl 2 rfl ?_
                    refine z_iload C dX3_runsOf_69 hl 0 rfl ?_
                    refine z_iload_n C dX3_runsOf_71 hl 4 rfl ?_
                    refine m_ViF C hH hS (mm_beginsRow hOk s1 k j c0 P ((by rw [hs]; exact hP9)) (hk9) (by omega) (by omega) (by omega)) (cwV 3 C.1.2.2.2.2 (lw_V q2457 q2459 qs68 q133 q2460) rfl rfl rfl (by decide +kernel) ⟨Nat.le_of_ble_eq_true rfl, Nat.le_of_ble_eq_true rfl⟩) rfl hl rfl (Nat.le_of_ble_eq_true rfl) dX3_runsOf_72 ⟨Nat.le_refl _, Nat.le_refl _⟩ (fun H locs hH hS => ?_)
                    refine z_topi (fun b hb => ?_)
                    have b01 : b = 0 ∨ b = 1 := by rw [hb]; unfold bgZ; split <;> simp
                    refine z_ifeq C dX3_runsOf_75 (tgt := 95) (by decide) ⟨by omega, by omega⟩ (fun c_75_2 => ?_) (fun c_75_2 => ?_)
                    · refine z_iconst C dX3_runsOf_95 ?_
                      refine z_iadd C dX3_runsOf_96 ?_
                      refine z_istore_n C [(3, .int (iI (d + 0))), (5, .int (iI j)), (4, .int (iI k)), (0, .ref o), (1, .int (iI c0)), (2, .int (iI x))] dX3_runsOf_97 hl (by decide) rfl (fun ls hl => ?_)
                      refine z_iinc C [(5, .int (iI (j + 1))), (3, .int (iI (d + 0))), (4, .int (iI k)), (0, .ref o), (1, .int (iI c0)), (2, .int (iI x))] dX3_runsOf_98 hl 1 rfl (by decide) rfl (fun ls hl => ?_)
                      refine z_goto C dX3_runsOf_101 (tgt := 54) (by decide) ?_
                      exact ih_54 ((d + 0)) ((j + 1)) (by omega) (by omega) (by rw [cnt_go _ hj0.1, hd, Int.add_assoc]; congr 2; first | (rw [if_pos ⟨by omega, by omega⟩]; done) | (rw [if_neg (by omega)]; done)) _ _ _ hH hS (lv_sub hl [0, 1, 2, 3, 4, 5] rfl)
                    · refine z_aload_n C dX3_runsOf_78 hl 3 rfl ?_
                      refine z_iload C dX3_runsOf_79 hl 2 rfl ?_
                      refine z_iload C dX3_runsOf_81 hl 0 rfl ?_
                      refine z_iload_n C dX3_runsOf_83 hl 4 rfl ?_
                      refine m_ViF C hH hS (mm_rowFrom hOk s1 k j c0 P ((by rw [hs]; exact hP9)) (hk9) (by omega) (by omega) (by omega)) (cwV 3 C.1.2.2.2.2 (lw_V q2449 q2451 qs67 q133 q2452) rfl rfl rfl (by decide +kernel) ⟨Nat.le_of_ble_eq_true rfl, Nat.le_of_ble_eq_true rfl⟩) rfl hl rfl (Nat.le_of_ble_eq_true rfl) dX3_runsOf_84 ⟨Nat.le_refl _, Nat.le_refl _⟩ (fun H locs hH hS => ?_)
                      have rw1 := fnd_ge (fun i => if lnZ P k i = c0 then 0 else 1) 1 (pW P) j
                      have rw2 := fnd_le (fun i => if lnZ P k i = c0 then 0 else 1) 1 (w := pW P) (i := j) (by omega)
                      have rw3 : rwZ (lnZ P k) (pW P) c0 j = fnd (fun i => if lnZ P k i = c0 then 0 else 1) 1 (pW P) j - j := rfl
                      refine z_iload_n C dX3_runsOf_87 hl 5 rfl ?_
                      refine z_icmpne C dX3_runsOf_88 (tgt := 95) (by decide) ⟨⟨by omega, by omega⟩, ⟨by omega, by omega⟩⟩ (fun c_88_2 => ?_) (fun c_88_2 => ?_)
                      · refine z_iconst C dX3_runsOf_95 ?_
                        refine z_iadd C dX3_runsOf_96 ?_
                        refine z_istore_n C [(3, .int (iI (d + 0))), (5, .int (iI j)), (4, .int (iI k)), (0, .ref o), (1, .int (iI c0)), (2, .int (iI x))] dX3_runsOf_97 hl (by decide) rfl (fun ls hl => ?_)
                        refine z_iinc C [(5, .int (iI (j + 1))), (3, .int (iI (d + 0))), (4, .int (iI k)), (0, .ref o), (1, .int (iI c0)), (2, .int (iI x))] dX3_runsOf_98 hl 1 rfl (by decide) rfl (fun ls hl => ?_)
                        refine z_goto C dX3_runsOf_101 (tgt := 54) (by decide) ?_
                        exact ih_54 ((d + 0)) ((j + 1)) (by omega) (by omega) (by rw [cnt_go _ hj0.1, hd, Int.add_assoc]; congr 2; first | (rw [if_pos ⟨by omega, by omega⟩]; done) | (rw [if_neg (by omega)]; done)) _ _ _ hH hS (lv_sub hl [0, 1, 2, 3, 4, 5] rfl)
                      · refine z_iconst C dX3_runsOf_91 ?_
                        refine z_goto C dX3_runsOf_92 (tgt := 96) (by decide) ?_
                        refine z_iadd C dX3_runsOf_96 ?_
                        refine z_istore_n C [(3, .int (iI (d + 1))), (5, .int (iI j)), (4, .int (iI k)), (0, .ref o), (1, .int (iI c0)), (2, .int (iI x))] dX3_runsOf_97 hl (by decide) rfl (fun ls hl => ?_)
                        refine z_iinc C [(5, .int (iI (j + 1))), (3, .int (iI (d + 1))), (4, .int (iI k)), (0, .ref o), (1, .int (iI c0)), (2, .int (iI x))] dX3_runsOf_98 hl 1 rfl (by decide) rfl (fun ls hl => ?_)
                        refine z_goto C dX3_runsOf_101 (tgt := 54) (by decide) ?_
                        exact ih_54 ((d + 1)) ((j + 1)) (by omega) (by omega) (by rw [cnt_go _ hj0.1, hd, Int.add_assoc]; congr 2; first | (rw [if_pos ⟨by omega, by omega⟩]; done) | (rw [if_neg (by omega)]; done)) _ _ _ hH hS (lv_sub hl [0, 1, 2, 3, 4, 5] rfl)
              exact J_54 _ t 0 (Nat.lt_succ_self _) (by omega) (by rw [cnt_0]; omega) _ _ _ hH hS (lv_sub hl [0, 2, 1, 3, 4, 5] rfl)
      exact J_33 _ 0 0 ((su σ 0 0 0)) 0 (Nat.lt_succ_self _) (by omega) (rfl) (rfl) (by omega) (by first | (rw [if_pos (by omega)]; done) | (rw [if_neg (by omega)]; done) | (rw [if_neg (by omega), if_pos (by omega)]; done) | (rw [if_neg (by omega), if_neg (by omega)]; done)) (rfl) _ _ _ hH hS (lv_sub hl [0, 1, 2, 3, 4] rfl)
set_option maxHeartbeats 1000000 in
theorem mm_readBelow {l : Launch} {D : va_G} {dA : Nat → ClassId} {A : Nat → Prop} {o : Nat} {ad : Nat → Nat} (hOk : mOk o ad) (σ : Sg) (ln : Int) (x : Int) (P : Pg) (hP : PgAt (σ 1) P) (hk : PgOk P) (hr : zR ln) (hr2 : zR x) : Met l yX3_readBelow (ws_ yX3_readBelow cX3_readBelow 5 (some .int)) (rmL 8 0 0) (MP D dA A o ad [.ref o, .int (iI ln), .int (iI x)] σ) (MQi D dA A o ad (fun r σ' => σ' 0 0 = (if (0 ≤ ln ∧ ln ≤ pN P - 1) ∧ (x = -1 ∨ (0 ≤ x ∧ x ≤ pN P - 1)) then 0 else 1) ∧ (σ' 0 0 = 0 → r = rbZ P ln x) ∧ Fr [0, 7, 8, 9, 10, 11, 12, 13, 14, 15, 16, 17, 18, 19] σ σ')) 0 0 A := by
  refine z_ofW (by decide) rfl ?_
  intro pp ee s0 mm below meth cc0 ls C hret hname hl hH hS
  have hl : lv_has ls 5 [(0, .ref o), (1, .int (iI ln)), (2, .int (iI x))] := hl
  have hk9 := hk
  have hP9 := hP
  obtain ⟨k1, k2, k3, k4, k5, k6, k7, k8, k9, k10, k11⟩ := hk
  obtain ⟨p1, p2, p3, p4, p5⟩ := hP
  have pn0 : 0 ≤ pN P := by show (0 : Int) ≤ ((pB P).length : Int); omega
  have hr_1 := hr.1
  have hr_2 := hr.2
  have hr2_1 := hr2.1
  have hr2_2 := hr2.2
  have J_39 : ((0 ≤ ln ∧ ln ≤ pN P - 1) ∧ (x = -1 ∨ (0 ≤ x ∧ x ≤ pN P - 1))) → ∀ (H : Heap) (locs : List Loc) (ls : Array Slot), MH D dA A o ad (su σ 0 0 0) H → va_S A s0.heap H locs → lv_has ls 5 [(0, .ref o), (1, .int (iI ln)), (2, .int (iI x))] → W pp l ee (rmL 8 0 0) s0 mm ([.ref o, .int (iI ln), .int (iI x)] : List Value).toArray below meth cc0 H locs 0 0 (MQ below (MQi D dA A o ad (fun r σ' => σ' 0 0 = (if (0 ≤ ln ∧ ln ≤ pN P - 1) ∧ (x = -1 ∨ (0 ≤ x ∧ x ≤ pN P - 1)) then 0 else 1) ∧ (σ' 0 0 = 0 → r = rbZ P ln x) ∧ Fr [0, 7, 8, 9, 10, 11, 12, 13, 14, 15, 16, 17, 18, 19] σ σ')) ([.ref o, .int (iI ln), .int (iI x)] : List Value).toArray s0 0 0 A) (F0 mm 39 ls []) := by
    intro  hb1 H locs ls hH hS hl
    refine z_aload_n C dX3_readBelow_39 hl 0 rfl ?_
    refine z_iload_n C dX3_readBelow_40 hl 1 rfl ?_
    refine m_Vv C hH hS (mm_codesLine hOk (su σ 0 0 0) ln P (hP9) (hk9) (by omega)) (cwV 1 C.1.2.2.2.2 (lw_V q2347 q2349 qs49 q133 q2350) rfl rfl rfl (by decide +kernel) ⟨Nat.le_of_ble_eq_true rfl, Nat.le_of_ble_eq_true rfl⟩) rfl hl rfl (Nat.le_of_ble_eq_true rfl) dX3_readBelow_41 ⟨Nat.le_refl _, Nat.le_refl _⟩ (fun s_41 H locs hp_41 hH hS => ?_)
    obtain ⟨hc41, hf41⟩ := hp_41
    obtain ⟨c1, c2, c3, c4, c5⟩ := hc41
    have l1 : ((pR P ln).length : Int) ≤ pW P + 1 := rns_len (lnZ P ln) (show 0 ≤ pW P by omega)
    have l2 : ((pC P ln).length : Int) ≤ pW P + 1 := cds_len (upZ P ln) (lnZ P ln) (show 0 ≤ pW P by omega)
    have hP8 : PgAt (s_41 1) P := by rw [hf41.at 1 rfl]; exact hP9
    obtain ⟨y1, y2, y3, y4, y5⟩ := hP8
    refine z_aload_n C dX3_readBelow_44 hl 0 rfl ?_
    refine z_aload_n C dX3_readBelow_45 hl 0 rfl ?_
    refine m_geta C hH 1 ⟨by decide, by decide⟩ q2186 rfl dX3_readBelow_46 ?_
    refine z_iload_n C dX3_readBelow_49 hl 2 rfl ?_
    refine z_iconst C dX3_readBelow_50 ?_
    refine z_icmpne C dX3_readBelow_51 (tgt := 58) (by decide) ⟨⟨by omega, by omega⟩, ⟨by omega, by omega⟩⟩ (fun c_51 => ?_) (fun c_51 => ?_)
    · refine z_iload_n C dX3_readBelow_58 hl 2 rfl ?_
      refine z_iconst C dX3_readBelow_59 ?_
      refine m_SiF C hH hS (mm_dotAt hOk s_41 x 0) (va_cwS 2 C.1.2.2.2.2 (lw_S q2332 q2333 q133 q2334) rfl rfl rfl (by decide +kernel) ⟨Nat.le_of_ble_eq_true rfl, Nat.le_of_ble_eq_true rfl⟩) rfl hl rfl (Nat.le_of_ble_eq_true rfl) dX3_readBelow_60 ⟨Nat.le_refl _, Nat.le_refl _⟩ (fun H locs hH hS => ?_)
      refine m_VvF C hH hS (mm_laysUpper hOk s_41 1 (28 + 40 * x + 0) (⟨by decide, by decide⟩) (by decide) (Or.inr (show 0 ≤ 28 + 40 * x + 0 ∧ 28 + 40 * x + 0 + 40 ≤ (828 : Int) by omega))) (cwV 2 C.1.2.2.2.2 (lw_V q2355 q2357 qs51 q133 q2358) rfl rfl rfl (by decide +kernel) ⟨Nat.le_of_ble_eq_true rfl, Nat.le_of_ble_eq_true rfl⟩) rfl hl rfl (Nat.le_of_ble_eq_true rfl) dX3_readBelow_63 ⟨Nat.le_refl _, Nat.le_refl _⟩ (fun H locs hH hS => ?_)
      refine z_aload_n C dX3_readBelow_66 hl 0 rfl ?_
      refine m_Vi C hH hS (mm_readsCode hOk (sa s_41 7 (wr (fun j => if (28 + 40 * x + 0) = -1 then 0 else s_41 1 ((28 + 40 * x + 0) + j)) (s_41 7) 0 40)) (pW P) (loZ P x) (pC P ln) (by omega) (c1) (fun j h0 h1 => (by show wr (fun j => if 28 + 40 * x + 0 = -1 then 0 else s_41 1 (28 + 40 * x + 0 + j)) (s_41 7) 0 40 j = loZ P x j; rw [wr_in _ _ h0 (by omega), if_neg (by omega)]; unfold loZ; rw [if_neg (by omega), show 28 + 40 * x + 0 + j = 28 + 40 * x + j by omega]; exact y5 x j (by omega) (by omega) h0 h1)) (loZ_01 P x) (c4) (cds_ok _ _ (by omega)) (by omega)) (cwV 0 C.1.2.2.2.2 (lw_V q2465 q2467 qs69 q133 q2468) rfl rfl rfl (by decide +kernel) ⟨Nat.le_of_ble_eq_true rfl, Nat.le_of_ble_eq_true rfl⟩) rfl hl rfl (Nat.le_of_ble_eq_true rfl) dX3_readBelow_67 ⟨Nat.le_refl _, Nat.le_refl _⟩ (fun r_67 s_67 H locs hp_67 hH hS => ?_)
      obtain ⟨hf67, hr67⟩ := hp_67
      rcases hr67 with ⟨hn67, hr967⟩ | ⟨res, hs967, hr967, hq67⟩
      · subst hr967
        refine z_ifne C dX3_readBelow_70 (tgt := 75) (by decide) ⟨by omega, by omega⟩ (fun c_70 => ?_) (fun c_70 => ?_)
        · exact absurd c_70 (by decide)
        · refine z_iconst C dX3_readBelow_73 ?_
          refine m_iret C hret hH hS dX3_readBelow_74 ?_
          refine ⟨by rw [show s_67 0 0 = 0 from (by rw [hf67.at 0 rfl]; show s_41 0 0 = 0; rw [hf41.at 0 rfl]; exact su_self _ _ _ _)]; first | (rw [if_pos (by omega)]; done) | (rw [if_neg (by omega)]; done) | (rw [if_neg (by omega), if_pos (by omega)]; done) | (rw [if_neg (by omega), if_neg (by omega)]; done), fun hth => ?_, ((((frSu Fr.rf rfl).th hf41 rfl).th (frSa Fr.rf (L := [7]) rfl) rfl).th hf67 rfl)⟩
          unfold rbZ; rw [hn67]
      · subst hr967
        refine z_ifne C dX3_readBelow_70 (tgt := 75) (by decide) ⟨by omega, by omega⟩ (fun c_70_1 => ?_) (fun c_70_1 => ?_)
        · refine z_iconst C dX3_readBelow_75 ?_
          refine z_istore_n C [(3, .int (iI 0)), (0, .ref o), (1, .int (iI ln)), (2, .int (iI x))] dX3_readBelow_76 hl (by decide) rfl (fun ls hl => ?_)
          refine z_iconst C dX3_readBelow_77 ?_
          refine z_istore C [(4, .int (iI 0)), (3, .int (iI 0)), (0, .ref o), (1, .int (iI ln)), (2, .int (iI x))] dX3_readBelow_78 hl (by decide) rfl (fun ls hl => ?_)
          have J_80 : ∀ (n : Nat) (t : Int) (k : Int), (pW P - k).toNat < n → (0 ≤ k ∧ k ≤ pW P) → (t = cnt (fun j => if res j = lnZ P ln j then 0 else 1) k) → ∀ (H : Heap) (locs : List Loc) (ls : Array Slot), MH D dA A o ad s_67 H → va_S A s0.heap H locs → lv_has ls 5 [(4, .int (iI k)), (3, .int (iI t)), (0, .ref o), (1, .int (iI ln)), (2, .int (iI x))] → W pp l ee (rmL 8 0 0) s0 mm ([.ref o, .int (iI ln), .int (iI x)] : List Value).toArray below meth cc0 H locs 0 0 (MQ below (MQi D dA A o ad (fun r σ' => σ' 0 0 = (if (0 ≤ ln ∧ ln ≤ pN P - 1) ∧ (x = -1 ∨ (0 ≤ x ∧ x ≤ pN P - 1)) then 0 else 1) ∧ (σ' 0 0 = 0 → r = rbZ P ln x) ∧ Fr [0, 7, 8, 9, 10, 11, 12, 13, 14, 15, 16, 17, 18, 19] σ σ')) ([.ref o, .int (iI ln), .int (iI x)] : List Value).toArray s0 0 0 A) (F0 mm 80 ls []) := by
            intro n
            induction n with
            | zero => intro t k hn; exact absurd hn (Nat.not_lt_zero _)
            | succ n ih_80 =>
              intro t k hn hk0 ht H locs ls hH hS hl
              refine z_iload C dX3_readBelow_80 hl 0 rfl ?_
              refine z_aload_n C dX3_readBelow_82 hl 2 rfl ?_
              refine m_getsZ C hH 9 ⟨by decide, by decide⟩ (pW P) (by rw [hf67.at 9 rfl]; exact c1) q2194 rfl dX3_readBelow_83 ?_
              refine z_icmpge C dX3_readBelow_86 (tgt := 120) (by decide) ⟨⟨by omega, by omega⟩, ⟨by omega, by omega⟩⟩ (fun c_86 => ?_) (fun c_86 => ?_)
              · refine z_iload_n C dX3_readBelow_120 hl 1 rfl ?_
                refine m_iret C hret hH hS dX3_readBelow_121 ?_
                refine ⟨by rw [show s_67 0 0 = 0 from (by rw [hf67.at 0 rfl]; show s_41 0 0 = 0; rw [hf41.at 0 rfl]; exact su_self _ _ _ _)]; first | (rw [if_pos (by omega)]; done) | (rw [if_neg (by omega)]; done) | (rw [if_neg (by omega), if_pos (by omega)]; done) | (rw [if_neg (by omega), if_neg (by omega)]; done), fun hth => ?_, ((((frSu Fr.rf rfl).th hf41 rfl).th (frSa Fr.rf (L := [7]) rfl) rfl).th hf67 rfl)⟩
                unfold rbZ; rw [hs967]; exact (by rw [ht, show k = pW P by omega])
              · have e8 := c3 k hk0.1 (by omega)
                have v1 := lnZ_01 P ln k
                have v2 := hq67 k hk0.1 (by omega)
                have v3 := rdC_01 (by omega) hs967 k
                refine z_iload_n C dX3_readBelow_89 hl 1 rfl ?_
                refine z_aload_n C dX3_readBelow_90 hl 2 rfl ?_
                refine m_geta C hH 15 ⟨by decide, by decide⟩ q2200 rfl dX3_readBelow_91 ?_
                refine z_iload C dX3_readBelow_94 hl 0 rfl ?_
                refine m_ialdZ C hOk hH 15 ⟨by decide, by decide⟩ k (res k) (v2) (show 0 ≤ k ∧ k < (40 : Int) by omega) dX3_readBelow_96 ?_
                refine z_aload_n C dX3_readBelow_97 hl 2 rfl ?_
                refine m_geta C hH 8 ⟨by decide, by decide⟩ q2193 rfl dX3_readBelow_98 ?_
                refine z_iload C dX3_readBelow_101 hl 0 rfl ?_
                refine m_ialdZ C hOk hH 8 ⟨by decide, by decide⟩ k (lnZ P ln k) (by rw [hf67.at 8 rfl]; exact e8) (show 0 ≤ k ∧ k < (40 : Int) by omega) dX3_readBelow_103 ?_
                refine z_icmpne C dX3_readBelow_104 (tgt := 111) (by decide) ⟨⟨by omega, by omega⟩, ⟨by omega, by omega⟩⟩ (fun c_104 => ?_) (fun c_104 => ?_)
                · refine z_iconst C dX3_readBelow_111 ?_
                  refine z_iadd C dX3_readBelow_112 ?_
                  refine z_istore_n C [(3, .int (iI (t + 1))), (4, .int (iI k)), (0, .ref o), (1, .int (iI ln)), (2, .int (iI x))] dX3_readBelow_113 hl (by decide) rfl (fun ls hl => ?_)
                  refine z_iinc C [(4, .int (iI (k + 1))), (3, .int (iI (t + 1))), (0, .ref o), (1, .int (iI ln)), (2, .int (iI x))] dX3_readBelow_114 hl 1 rfl (by decide) rfl (fun ls hl => ?_)
                  refine z_goto C dX3_readBelow_117 (tgt := 80) (by decide) ?_
                  exact ih_80 ((t + 1)) ((k + 1)) (by omega) (by omega) (by rw [cnt_go _ hk0.1, ← ht, if_neg (fun h => c_104 h)]) _ _ _ hH hS (lv_sub hl [0, 1, 2, 3, 4] rfl)
                · refine z_iconst C dX3_readBelow_107 ?_
                  refine z_goto C dX3_readBelow_108 (tgt := 112) (by decide) ?_
                  refine z_iadd C dX3_readBelow_112 ?_
                  refine z_istore_n C [(3, .int (iI (t + 0))), (4, .int (iI k)), (0, .ref o), (1, .int (iI ln)), (2, .int (iI x))] dX3_readBelow_113 hl (by decide) rfl (fun ls hl => ?_)
                  refine z_iinc C [(4, .int (iI (k + 1))), (3, .int (iI (t + 0))), (0, .ref o), (1, .int (iI ln)), (2, .int (iI x))] dX3_readBelow_114 hl 1 rfl (by decide) rfl (fun ls hl => ?_)
                  refine z_goto C dX3_readBelow_117 (tgt := 80) (by decide) ?_
                  exact ih_80 ((t + 0)) ((k + 1)) (by omega) (by omega) (by rw [cnt_go _ hk0.1, ← ht, if_pos c_104]) _ _ _ hH hS (lv_sub hl [0, 1, 2, 3, 4] rfl)
          exact J_80 _ 0 0 (Nat.lt_succ_self _) (by omega) (rfl) _ _ _ hH hS (lv_sub hl [0, 1, 2, 3, 4] rfl)
        · exact absurd c_70_1 (by decide)
    · refine z_iconst C dX3_readBelow_54 ?_
      refine z_goto C dX3_readBelow_55 (tgt := 63) (by decide) ?_
      refine m_VvF C hH hS (mm_laysUpper hOk s_41 1 ((-1)) (⟨by decide, by decide⟩) (by decide) (Or.inl rfl)) (cwV 2 C.1.2.2.2.2 (lw_V q2355 q2357 qs51 q133 q2358) rfl rfl rfl (by decide +kernel) ⟨Nat.le_of_ble_eq_true rfl, Nat.le_of_ble_eq_true rfl⟩) rfl hl rfl (Nat.le_of_ble_eq_true rfl) dX3_readBelow_63 ⟨Nat.le_refl _, Nat.le_refl _⟩ (fun H locs hH hS => ?_)
      refine z_aload_n C dX3_readBelow_66 hl 0 rfl ?_
      refine m_Vi C hH hS (mm_readsCode hOk (sa s_41 7 (wr (fun j => if ((-1)) = -1 then 0 else s_41 1 (((-1)) + j)) (s_41 7) 0 40)) (pW P) (loZ P x) (pC P ln) (by omega) (c1) (fun j h0 h1 => (by show wr (fun j => if (-1 : Int) = -1 then 0 else s_41 1 (-1 + j)) (s_41 7) 0 40 j = loZ P x j; rw [wr_in _ _ h0 (by omega), if_pos rfl]; unfold loZ; rw [if_pos (by omega)])) (loZ_01 P x) (c4) (cds_ok _ _ (by omega)) (by omega)) (cwV 0 C.1.2.2.2.2 (lw_V q2465 q2467 qs69 q133 q2468) rfl rfl rfl (by decide +kernel) ⟨Nat.le_of_ble_eq_true rfl, Nat.le_of_ble_eq_true rfl⟩) rfl hl rfl (Nat.le_of_ble_eq_true rfl) dX3_readBelow_67 ⟨Nat.le_refl _, Nat.le_refl _⟩ (fun r_67_1 s_67_1 H locs hp_67_1 hH hS => ?_)
      obtain ⟨hf67_1, hr67_1⟩ := hp_67_1
      rcases hr67_1 with ⟨hn67_1, hr967_1⟩ | ⟨res, hs967_1, hr967_1, hq67_1⟩
      · subst hr967_1
        refine z_ifne C dX3_readBelow_70 (tgt := 75) (by decide) ⟨by omega, by omega⟩ (fun c_70_2 => ?_) (fun c_70_2 => ?_)
        · exact absurd c_70_2 (by decide)
        · refine z_iconst C dX3_readBelow_73 ?_
          refine m_iret C hret hH hS dX3_readBelow_74 ?_
          refine ⟨by rw [show s_67_1 0 0 = 0 from (by rw [hf67_1.at 0 rfl]; show s_41 0 0 = 0; rw [hf41.at 0 rfl]; exact su_self _ _ _ _)]; first | (rw [if_pos (by omega)]; done) | (rw [if_neg (by omega)]; done) | (rw [if_neg (by omega), if_pos (by omega)]; done) | (rw [if_neg (by omega), if_neg (by omega)]; done), fun hth => ?_, ((((frSu Fr.rf rfl).th hf41 rfl).th (frSa Fr.rf (L := [7]) rfl) rfl).th hf67_1 rfl)⟩
          unfold rbZ; rw [hn67_1]
      · subst hr967_1
        refine z_ifne C dX3_readBelow_70 (tgt := 75) (by decide) ⟨by omega, by omega⟩ (fun c_70_3 => ?_) (fun c_70_3 => ?_)
        · refine z_iconst C dX3_readBelow_75 ?_
          refine z_istore_n C [(3, .int (iI 0)), (0, .ref o), (1, .int (iI ln)), (2, .int (iI x))] dX3_readBelow_76 hl (by decide) rfl (fun ls hl => ?_)
          refine z_iconst C dX3_readBelow_77 ?_
          refine z_istore C [(4, .int (iI 0)), (3, .int (iI 0)), (0, .ref o), (1, .int (iI ln)), (2, .int (iI x))] dX3_readBelow_78 hl (by decide) rfl (fun ls hl => ?_)
          have J_80 : ∀ (n : Nat) (t : Int) (k : Int), (pW P - k).toNat < n → (0 ≤ k ∧ k ≤ pW P) → (t = cnt (fun j => if res j = lnZ P ln j then 0 else 1) k) → ∀ (H : Heap) (locs : List Loc) (ls : Array Slot), MH D dA A o ad s_67_1 H → va_S A s0.heap H locs → lv_has ls 5 [(4, .int (iI k)), (3, .int (iI t)), (0, .ref o), (1, .int (iI ln)), (2, .int (iI x))] → W pp l ee (rmL 8 0 0) s0 mm ([.ref o, .int (iI ln), .int (iI x)] : List Value).toArray below meth cc0 H locs 0 0 (MQ below (MQi D dA A o ad (fun r σ' => σ' 0 0 = (if (0 ≤ ln ∧ ln ≤ pN P - 1) ∧ (x = -1 ∨ (0 ≤ x ∧ x ≤ pN P - 1)) then 0 else 1) ∧ (σ' 0 0 = 0 → r = rbZ P ln x) ∧ Fr [0, 7, 8, 9, 10, 11, 12, 13, 14, 15, 16, 17, 18, 19] σ σ')) ([.ref o, .int (iI ln), .int (iI x)] : List Value).toArray s0 0 0 A) (F0 mm 80 ls []) := by
            intro n
            induction n with
            | zero => intro t k hn; exact absurd hn (Nat.not_lt_zero _)
            | succ n ih_80 =>
              intro t k hn hk0 ht H locs ls hH hS hl
              refine z_iload C dX3_readBelow_80 hl 0 rfl ?_
              refine z_aload_n C dX3_readBelow_82 hl 2 rfl ?_
              refine m_getsZ C hH 9 ⟨by decide, by decide⟩ (pW P) (by rw [hf67_1.at 9 rfl]; exact c1) q2194 rfl dX3_readBelow_83 ?_
              refine z_icmpge C dX3_readBelow_86 (tgt := 120) (by decide) ⟨⟨by omega, by omega⟩, ⟨by omega, by omega⟩⟩ (fun c_86_1 => ?_) (fun c_86_1 => ?_)
              · refine z_iload_n C dX3_readBelow_120 hl 1 rfl ?_
                refine m_iret C hret hH hS dX3_readBelow_121 ?_
                refine ⟨by rw [show s_67_1 0 0 = 0 from (by rw [hf67_1.at 0 rfl]; show s_41 0 0 = 0; rw [hf41.at 0 rfl]; exact su_self _ _ _ _)]; first | (rw [if_pos (by omega)]; done) | (rw [if_neg (by omega)]; done) | (rw [if_neg (by omega), if_pos (by omega)]; done) | (rw [if_neg (by omega), if_neg (by omega)]; done), fun hth => ?_, ((((frSu Fr.rf rfl).th hf41 rfl).th (frSa Fr.rf (L := [7]) rfl) rfl).th hf67_1 rfl)⟩
                unfold rbZ; rw [hs967_1]; exact (by rw [ht, show k = pW P by omega])
              · have e8 := c3 k hk0.1 (by omega)
                have v1 := lnZ_01 P ln k
                have v2 := hq67_1 k hk0.1 (by omega)
                have v3 := rdC_01 (by omega) hs967_1 k
                refine z_iload_n C dX3_readBelow_89 hl 1 rfl ?_
                refine z_aload_n C dX3_readBelow_90 hl 2 rfl ?_
                refine m_geta C hH 15 ⟨by decide, by decide⟩ q2200 rfl dX3_readBelow_91 ?_
                refine z_iload C dX3_readBelow_94 hl 0 rfl ?_
                refine m_ialdZ C hOk hH 15 ⟨by decide, by decide⟩ k (res k) (v2) (show 0 ≤ k ∧ k < (40 : Int) by omega) dX3_readBelow_96 ?_
                refine z_aload_n C dX3_readBelow_97 hl 2 rfl ?_
                refine m_geta C hH 8 ⟨by decide, by decide⟩ q2193 rfl dX3_readBelow_98 ?_
                refine z_iload C dX3_readBelow_101 hl 0 rfl ?_
                refine m_ialdZ C hOk hH 8 ⟨by decide, by decide⟩ k (lnZ P ln k) (by rw [hf67_1.at 8 rfl]; exact e8) (show 0 ≤ k ∧ k < (40 : Int) by omega) dX3_readBelow_103 ?_
                refine z_icmpne C dX3_readBelow_104 (tgt := 111) (by decide) ⟨⟨by omega, by omega⟩, ⟨by omega, by omega⟩⟩ (fun c_104_1 => ?_) (fun c_104_1 => ?_)
                · refine z_iconst C dX3_readBelow_111 ?_
                  refine z_iadd C dX3_readBelow_112 ?_
                  refine z_istore_n C [(3, .int (iI (t + 1))), (4, .int (iI k)), (0, .ref o), (1, .int (iI ln)), (2, .int (iI x))] dX3_readBelow_113 hl (by decide) rfl (fun ls hl => ?_)
                  refine z_iinc C [(4, .int (iI (k + 1))), (3, .int (iI (t + 1))), (0, .ref o), (1, .int (iI ln)), (2, .int (iI x))] dX3_readBelow_114 hl 1 rfl (by decide) rfl (fun ls hl => ?_)
                  refine z_goto C dX3_readBelow_117 (tgt := 80) (by decide) ?_
                  exact ih_80 ((t + 1)) ((k + 1)) (by omega) (by omega) (by rw [cnt_go _ hk0.1, ← ht, if_neg (fun h => c_104_1 h)]) _ _ _ hH hS (lv_sub hl [0, 1, 2, 3, 4] rfl)
                · refine z_iconst C dX3_readBelow_107 ?_
                  refine z_goto C dX3_readBelow_108 (tgt := 112) (by decide) ?_
                  refine z_iadd C dX3_readBelow_112 ?_
                  refine z_istore_n C [(3, .int (iI (t + 0))), (4, .int (iI k)), (0, .ref o), (1, .int (iI ln)), (2, .int (iI x))] dX3_readBelow_113 hl (by decide) rfl (fun ls hl => ?_)
                  refine z_iinc C [(4, .int (iI (k + 1))), (3, .int (iI (t + 0))), (0, .ref o), (1, .int (iI ln)), (2, .int (iI x))] dX3_readBelow_114 hl 1 rfl (by decide) rfl (fun ls hl => ?_)
                  refine z_goto C dX3_readBelow_117 (tgt := 80) (by decide) ?_
                  exact ih_80 ((t + 0)) ((k + 1)) (by omega) (by omega) (by rw [cnt_go _ hk0.1, ← ht, if_pos c_104_1]) _ _ _ hH hS (lv_sub hl [0, 1, 2, 3, 4] rfl)
          exact J_80 _ 0 0 (Nat.lt_succ_self _) (by omega) (rfl) _ _ _ hH hS (lv_sub hl [0, 1, 2, 3, 4] rfl)
        · exact absurd c_70_3 (by decide)
  refine z_aload_n C dX3_readBelow_0 hl 0 rfl ?_
  refine z_aload_n C dX3_readBelow_1 hl 0 rfl ?_
  refine z_iload_n C dX3_readBelow_2 hl 1 rfl ?_
  refine m_ViF C hH hS (mm_isLine hOk σ ln P (hP9) (hk9) (⟨by omega, by omega⟩)) (cwV 1 C.1.2.2.2.2 (lw_V q2413 q2415 qs63 q133 q2416) rfl rfl rfl (by decide +kernel) ⟨Nat.le_of_ble_eq_true rfl, Nat.le_of_ble_eq_true rfl⟩) rfl hl rfl (Nat.le_of_ble_eq_true rfl) dX3_readBelow_3 ⟨Nat.le_refl _, Nat.le_refl _⟩ (fun H locs hH hS => ?_)
  refine z_topi (fun z_3 hz_3 => ?_)
  have q_3 := inZ_or ln 0 (pN P - 1)
  rw [← hz_3] at q_3
  refine z_ifeq C dX3_readBelow_6 (tgt := 26) (by decide) ⟨by omega, by omega⟩ (fun c_6 => ?_) (fun c_6 => ?_)
  · refine z_iconst C dX3_readBelow_26 ?_
    refine m_puts C hH hS 0 ⟨by decide, by decide⟩ q2185 rfl ⟨rfl, rfl⟩ dX3_readBelow_27 (fun H locs hH hS => ?_)
    refine z_aload_n C dX3_readBelow_30 hl 0 rfl ?_
    refine m_getsZ C hH 0 ⟨by decide, by decide⟩ 1 rfl q2185 rfl dX3_readBelow_31 ?_
    refine z_ifle C dX3_readBelow_34 (tgt := 39) (by decide) ⟨by omega, by omega⟩ (fun c_34 => ?_) (fun c_34 => ?_)
    · exact absurd c_34 (by decide)
    · refine z_iconst C dX3_readBelow_37 ?_
      refine m_iret C hret hH hS dX3_readBelow_38 ?_
      refine ⟨by rw [show (su σ 0 0 1) 0 0 = 1 from (su_self _ _ _ _)]; first | (rw [if_pos (by omega)]; done) | (rw [if_neg (by omega)]; done) | (rw [if_neg (by omega), if_pos (by omega)]; done) | (rw [if_neg (by omega), if_neg (by omega)]; done), fun hth => ?_, (frSu Fr.rf rfl)⟩
      exact absurd ((show (su σ 0 0 1) 0 0 = 1 from (su_self _ _ _ _)).symm.trans hth) (by decide)
  · refine z_iload_n C dX3_readBelow_9 hl 2 rfl ?_
    refine z_iconst C dX3_readBelow_10 ?_
    refine z_icmpeq C dX3_readBelow_11 (tgt := 22) (by decide) ⟨⟨by omega, by omega⟩, ⟨by omega, by omega⟩⟩ (fun c_11 => ?_) (fun c_11 => ?_)
    · refine z_iconst C dX3_readBelow_22 ?_
      refine z_goto C dX3_readBelow_23 (tgt := 27) (by decide) ?_
      refine m_puts C hH hS 0 ⟨by decide, by decide⟩ q2185 rfl ⟨rfl, rfl⟩ dX3_readBelow_27 (fun H locs hH hS => ?_)
      refine z_aload_n C dX3_readBelow_30 hl 0 rfl ?_
      refine m_getsZ C hH 0 ⟨by decide, by decide⟩ 0 rfl q2185 rfl dX3_readBelow_31 ?_
      refine z_ifle C dX3_readBelow_34 (tgt := 39) (by decide) ⟨by omega, by omega⟩ (fun c_34_1 => ?_) (fun c_34_1 => ?_)
      · exact J_39  (by omega) _ _ _ hH hS (lv_sub hl [0, 1, 2] rfl)
      · exact absurd c_34_1 (by decide)
    · refine z_aload_n C dX3_readBelow_14 hl 0 rfl ?_
      refine z_iload_n C dX3_readBelow_15 hl 2 rfl ?_
      refine m_ViF C hH hS (mm_isLine hOk σ x P (hP9) (hk9) (⟨by omega, by omega⟩)) (cwV 1 C.1.2.2.2.2 (lw_V q2413 q2415 qs63 q133 q2416) rfl rfl rfl (by decide +kernel) ⟨Nat.le_of_ble_eq_true rfl, Nat.le_of_ble_eq_true rfl⟩) rfl hl rfl (Nat.le_of_ble_eq_true rfl) dX3_readBelow_16 ⟨Nat.le_refl _, Nat.le_refl _⟩ (fun H locs hH hS => ?_)
      refine z_topi (fun z_16 hz_16 => ?_)
      have q_16 := inZ_or x 0 (pN P - 1)
      rw [← hz_16] at q_16
      refine z_ifeq C dX3_readBelow_19 (tgt := 26) (by decide) ⟨by omega, by omega⟩ (fun c_19 => ?_) (fun c_19 => ?_)
      · refine z_iconst C dX3_readBelow_26 ?_
        refine m_puts C hH hS 0 ⟨by decide, by decide⟩ q2185 rfl ⟨rfl, rfl⟩ dX3_readBelow_27 (fun H locs hH hS => ?_)
        refine z_aload_n C dX3_readBelow_30 hl 0 rfl ?_
        refine m_getsZ C hH 0 ⟨by decide, by decide⟩ 1 rfl q2185 rfl dX3_readBelow_31 ?_
        refine z_ifle C dX3_readBelow_34 (tgt := 39) (by decide) ⟨by omega, by omega⟩ (fun c_34_2 => ?_) (fun c_34_2 => ?_)
        · exact absurd c_34_2 (by decide)
        · refine z_iconst C dX3_readBelow_37 ?_
          refine m_iret C hret hH hS dX3_readBelow_38 ?_
          refine ⟨by rw [show (su σ 0 0 1) 0 0 = 1 from (su_self _ _ _ _)]; first | (rw [if_pos (by omega)]; done) | (rw [if_neg (by omega)]; done) | (rw [if_neg (by omega), if_pos (by omega)]; done) | (rw [if_neg (by omega), if_neg (by omega)]; done), fun hth => ?_, (frSu Fr.rf rfl)⟩
          exact absurd ((show (su σ 0 0 1) 0 0 = 1 from (su_self _ _ _ _)).symm.trans hth) (by decide)
      · refine z_iconst C dX3_readBelow_22 ?_
        refine z_goto C dX3_readBelow_23 (tgt := 27) (by decide) ?_
        refine m_puts C hH hS 0 ⟨by decide, by decide⟩ q2185 rfl ⟨rfl, rfl⟩ dX3_readBelow_27 (fun H locs hH hS => ?_)
        refine z_aload_n C dX3_readBelow_30 hl 0 rfl ?_
        refine m_getsZ C hH 0 ⟨by decide, by decide⟩ 0 rfl q2185 rfl dX3_readBelow_31 ?_
        refine z_ifle C dX3_readBelow_34 (tgt := 39) (by decide) ⟨by omega, by omega⟩ (fun c_34_3 => ?_) (fun c_34_3 => ?_)
        · exact J_39  (by omega) _ _ _ hH hS (lv_sub hl [0, 1, 2] rfl)
        · exact absurd c_34_3 (by decide)
