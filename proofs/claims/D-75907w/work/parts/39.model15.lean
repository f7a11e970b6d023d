/-! the reference's methods, 15 (written by gen/model15.py) -/
set_option maxRecDepth 100000
set_option maxHeartbeats 1000000 in
theorem mm_readsSetting {l : Launch} {D : va_G} {dA : Nat → ClassId} {A : Nat → Prop} {o : Nat} {ad : Nat → Nat} (hOk : mOk o ad) (σ : Sg) (tx : Int → Int) (n : Int) (r : Er LX) (P : Pg) (hp : PX σ tx n r) (ho : PgOk P) (hP : ∀ x, r = .inr x → PgAt (σ 2) P) : Met l yX3_readsSetting (ws_ yX3_readsSetting cX3_readsSetting 3 none) (rmL 6 0 0) (MP D dA A o ad [.ref o] σ) (MQv D dA A o ad (fun σ' => PX σ' tx n (goE tx n (lkE (goE tx n (lkE r 0 5)) (loK (lkV r 0 5)) (hiZ (lkV r 0 5)))) ∧ (∀ x', goE tx n (lkE (goE tx n (lkE r 0 5)) (loK (lkV r 0 5)) (hiZ (lkV r 0 5))) = .inr x' → PgAt (σ' 2) (eSet P (lkV r 0 5) (lkV (goE tx n (lkE r 0 5)) (loK (lkV r 0 5)) (hiZ (lkV r 0 5))))) ∧ Fr [2, 33, 34, 35, 36, 37, 38] σ σ')) 0 0 A := by
  refine z_ofW (by decide) rfl ?_
  intro pp ee s0 mm below meth cc0 ls C hret hname hl hH hS
  have hl : lv_has ls 3 [(0, .ref o)] := hl
  have hTx := hp.1
  obtain ⟨hx1, hx2, hx3, hx4⟩ := hTx
  have hRx := hp.2.1
  obtain ⟨g1, g2, g3, g4, g5, g6, g7, g8, g9⟩ := hRx
  have hq := QXpg ho
  refine z_aload_n C dX3_readsSetting_0 hl 0 rfl ?_
  refine z_iconst C dX3_readsSetting_1 ?_
  refine z_iconst C dX3_readsSetting_2 ?_
  refine m_Vi C hH hS (mm_reads hOk σ 0 5 tx n r (hp) (by decide)) (cwV 2 C.1.2.2.2.2 (lw_V q2654 q2656 qs93 q133 q2657) rfl rfl rfl (by decide +kernel) ⟨Nat.le_of_ble_eq_true rfl, Nat.le_of_ble_eq_true rfl⟩) rfl hl rfl (Nat.le_of_ble_eq_true rfl) dX3_readsSetting_3 ⟨Nat.le_refl _, Nat.le_refl _⟩ (fun k ta H locs hp_3 hH hS => ?_)
  obtain ⟨hka, hpa, hfa⟩ := hp_3
  have kr := lkV_in (r := r) (show (0 : Int) ≤ 5 by decide)
  rw [← hka] at kr
  have hh := hiZ_in k
  have ll : loK k = if k = 0 then 1 else 0 := rfl
  refine z_istore_n C [(1, .int (iI k)), (0, .ref o)] dX3_readsSetting_6 hl (by decide) rfl (fun ls hl => ?_)
  refine z_aload_n C dX3_readsSetting_7 hl 1 rfl ?_
  refine z_iload_n C dX3_readsSetting_8 hl 0 rfl ?_
  refine z_ifne C dX3_readsSetting_9 (tgt := 16) (by decide) ⟨by omega, by omega⟩ (fun c_9 => ?_) (fun c_9 => ?_)
  · rw [if_neg (by omega)] at ll
    refine z_iconst C dX3_readsSetting_16 ?_
    refine z_iload_n C dX3_readsSetting_17 hl 0 rfl ?_
    refine m_SiF C hH hS (mm_highOf hOk ta k (by omega)) (va_cwS 1 C.1.2.2.2.2 (lw_S q2488 q2489 q133 q2490) rfl rfl rfl (by decide +kernel) ⟨Nat.le_of_ble_eq_true rfl, Nat.le_of_ble_eq_true rfl⟩) rfl hl rfl (Nat.le_of_ble_eq_true rfl) dX3_readsSetting_18 ⟨Nat.le_refl _, Nat.le_refl _⟩ (fun H locs hH hS => ?_)
    refine m_Vi C hH hS (mm_reads hOk ta 0 (hiZ k) tx n ((goE tx n (lkE r 0 5))) (hpa) (⟨by omega, by omega, by omega⟩)) (cwV 2 C.1.2.2.2.2 (lw_V q2654 q2656 qs93 q133 q2657) rfl rfl rfl (by decide +kernel) ⟨Nat.le_of_ble_eq_true rfl, Nat.le_of_ble_eq_true rfl⟩) rfl hl rfl (Nat.le_of_ble_eq_true rfl) dX3_readsSetting_21 ⟨Nat.le_refl _, Nat.le_refl _⟩ (fun v tb H locs hp_21 hH hS => ?_)
    obtain ⟨hvb, hpb, hfb⟩ := hp_21
    have hvb : v = lkV (goE tx n (lkE r 0 5)) (loK k) (hiZ k) := by rw [← (show (0 : Int) = loK k by omega)]; exact hvb
    have hpb : PX tb tx n (goE tx n (lkE (goE tx n (lkE r 0 5)) (loK k) (hiZ k))) := by rw [← (show (0 : Int) = loK k by omega)]; exact hpb
    have erb := hpb.er
    refine z_istore_n C [(2, .int (iI v)), (1, .int (iI k)), (0, .ref o)] dX3_readsSetting_24 hl (by decide) rfl (fun ls hl => ?_)
    refine z_aload_n C dX3_readsSetting_25 hl 2 rfl ?_
    refine m_geta C hH 2 ⟨by decide, by decide⟩ q2187 rfl dX3_readsSetting_26 ?_
    refine z_iconst C dX3_readsSetting_29 ?_
    refine z_iload_n C dX3_readsSetting_30 hl 1 rfl ?_
    refine z_iadd C dX3_readsSetting_31 ?_
    refine z_aload_n C dX3_readsSetting_32 hl 2 rfl ?_
    refine m_getsZ C hH 37 ⟨by decide, by decide⟩ (tb 37 0) rfl q2222 rfl dX3_readsSetting_33 ?_
    refine z_ifne C dX3_readsSetting_36 (tgt := 43) (by decide) ⟨by omega, by omega⟩ (fun c_36 => ?_) (fun c_36 => ?_)
    · refine z_aload_n C dX3_readsSetting_43 hl 2 rfl ?_
      refine m_geta C hH 2 ⟨by decide, by decide⟩ q2187 rfl dX3_readsSetting_44 ?_
      refine z_iconst C dX3_readsSetting_47 ?_
      refine z_iload_n C dX3_readsSetting_48 hl 1 rfl ?_
      refine z_iadd C dX3_readsSetting_49 ?_
      refine m_ialdZ C hOk hH 2 ⟨by decide, by decide⟩ (2 + k) (tb 2 (2 + k)) rfl (show 0 ≤ 2 + k ∧ 2 + k < (828 : Int) by omega) dX3_readsSetting_50 ?_
      refine m_iast C hOk hH hS 2 ⟨by decide, by decide⟩ (show 0 ≤ 2 + k ∧ 2 + k < (828 : Int) by omega) dX3_readsSetting_51 (fun H locs hH hS => ?_)
      refine m_vret C hret hH hS dX3_readsSetting_52 ?_
      refine ⟨?_, fun x' hx' => ?_, frSu ((hfa.up rfl).th hfb rfl) rfl⟩
      · rw [← hka]; exact hpb.fr (fun k' a b => su_ne _ _ _ (by omega))
      · rw [← hka] at hx' ⊢
        have he : tb 37 0 = 0 := hpb.e0.mpr ⟨x', hx'⟩
        obtain ⟨y, hy, -⟩ := goE_inr hx'
        obtain ⟨z, hz, -⟩ := goE_inr (lkE_inr hy).1
        have hP1 := hP z (lkE_inr hz).1
        first
          | (exfalso; omega)
          | (show PgAt (uZ (tb 2) (2 + k) v) _
             rw [hfb.at 2 rfl, hfa.at 2 rfl, ← hvb]
             exact hP1.set1 ⟨by omega, by omega⟩)
    · refine z_iload_n C dX3_readsSetting_39 hl 0 rfl ?_
      refine z_goto C dX3_readsSetting_40 (tgt := 51) (by decide) ?_
      refine m_iast C hOk hH hS 2 ⟨by decide, by decide⟩ (show 0 ≤ 2 + k ∧ 2 + k < (828 : Int) by omega) dX3_readsSetting_51 (fun H locs hH hS => ?_)
      refine m_vret C hret hH hS dX3_readsSetting_52 ?_
      refine ⟨?_, fun x' hx' => ?_, frSu ((hfa.up rfl).th hfb rfl) rfl⟩
      · rw [← hka]; exact hpb.fr (fun k' a b => su_ne _ _ _ (by omega))
      · rw [← hka] at hx' ⊢
        have he : tb 37 0 = 0 := hpb.e0.mpr ⟨x', hx'⟩
        obtain ⟨y, hy, -⟩ := goE_inr hx'
        obtain ⟨z, hz, -⟩ := goE_inr (lkE_inr hy).1
        have hP1 := hP z (lkE_inr hz).1
        first
          | (exfalso; omega)
          | (show PgAt (uZ (tb 2) (2 + k) v) _
             rw [hfb.at 2 rfl, hfa.at 2 rfl, ← hvb]
             exact hP1.set1 ⟨by omega, by omega⟩)
  · rw [if_pos (by omega)] at ll
    refine z_iconst C dX3_readsSetting_12 ?_
    refine z_goto C dX3_readsSetting_13 (tgt := 17) (by decide) ?_
    refine z_iload_n C dX3_readsSetting_17 hl 0 rfl ?_
    refine m_SiF C hH hS (mm_highOf hOk ta k (by omega)) (va_cwS 1 C.1.2.2.2.2 (lw_S q2488 q2489 q133 q2490) rfl rfl rfl (by decide +kernel) ⟨Nat.le_of_ble_eq_true rfl, Nat.le_of_ble_eq_true rfl⟩) rfl hl rfl (Nat.le_of_ble_eq_true rfl) dX3_readsSetting_18 ⟨Nat.le_refl _, Nat.le_refl _⟩ (fun H locs hH hS => ?_)
    refine m_Vi C hH hS (mm_reads hOk ta 1 (hiZ k) tx n ((goE tx n (lkE r 0 5))) (hpa) (⟨by omega, by omega, by omega⟩)) (cwV 2 C.1.2.2.2.2 (lw_V q2654 q2656 qs93 q133 q2657) rfl rfl rfl (by decide +kernel) ⟨Nat.le_of_ble_eq_true rfl, Nat.le_of_ble_eq_true rfl⟩) rfl hl rfl (Nat.le_of_ble_eq_true rfl) dX3_readsSetting_21 ⟨Nat.le_refl _, Nat.le_refl _⟩ (fun v tb H locs hp_21_1 hH hS => ?_)
    obtain ⟨hvb, hpb, hfb⟩ := hp_21_1
    have hvb : v = lkV (goE tx n (lkE r 0 5)) (loK k) (hiZ k) := by rw [← (show (1 : Int) = loK k by omega)]; exact hvb
    have hpb : PX tb tx n (goE tx n (lkE (goE tx n (lkE r 0 5)) (loK k) (hiZ k))) := by rw [← (show (1 : Int) = loK k by omega)]; exact hpb
    have erb := hpb.er
    refine z_istore_n C [(2, .int (iI v)), (1, .int (iI k)), (0, .ref o)] dX3_readsSetting_24 hl (by decide) rfl (fun ls hl => ?_)
    refine z_aload_n C dX3_readsSetting_25 hl 2 rfl ?_
    refine m_geta C hH 2 ⟨by decide, by decide⟩ q2187 rfl dX3_readsSetting_26 ?_
    refine z_iconst C dX3_readsSetting_29 ?_
    refine z_iload_n C dX3_readsSetting_30 hl 1 rfl ?_
    refine z_iadd C dX3_readsSetting_31 ?_
    refine z_aload_n C dX3_readsSetting_32 hl 2 rfl ?_
    refine m_getsZ C hH 37 ⟨by decide, by decide⟩ (tb 37 0) rfl q2222 rfl dX3_readsSetting_33 ?_
    refine z_ifne C dX3_readsSetting_36 (tgt := 43) (by decide) ⟨by omega, by omega⟩ (fun c_36_1 => ?_) (fun c_36_1 => ?_)
    · refine z_aload_n C dX3_readsSetting_43 hl 2 rfl ?_
      refine m_geta C hH 2 ⟨by decide, by decide⟩ q2187 rfl dX3_readsSetting_44 ?_
      refine z_iconst C dX3_readsSetting_47 ?_
      refine z_iload_n C dX3_readsSetting_48 hl 1 rfl ?_
      refine z_iadd C dX3_readsSetting_49 ?_
      refine m_ialdZ C hOk hH 2 ⟨by decide, by decide⟩ (2 + k) (tb 2 (2 + k)) rfl (show 0 ≤ 2 + k ∧ 2 + k < (828 : Int) by omega) dX3_readsSetting_50 ?_
      refine m_iast C hOk hH hS 2 ⟨by decide, by decide⟩ (show 0 ≤ 2 + k ∧ 2 + k < (828 : Int) by omega) dX3_readsSetting_51 (fun H locs hH hS => ?_)
      refine m_vret C hret hH hS dX3_readsSetting_52 ?_
      refine ⟨?_, fun x' hx' => ?_, frSu ((hfa.up rfl).th hfb rfl) rfl⟩
      · rw [← hka]; exact hpb.fr (fun k' a b => su_ne _ _ _ (by omega))
      · rw [← hka] at hx' ⊢
        have he : tb 37 0 = 0 := hpb.e0.mpr ⟨x', hx'⟩
        obtain ⟨y, hy, -⟩ := goE_inr hx'
        obtain ⟨z, hz, -⟩ := goE_inr (lkE_inr hy).1
        have hP1 := hP z (lkE_inr hz).1
        first
          | (exfalso; omega)
          | (show PgAt (uZ (tb 2) (2 + k) v) _
             rw [hfb.at 2 rfl, hfa.at 2 rfl, ← hvb]
             exact hP1.set1 ⟨by omega, by omega⟩)
    · refine z_iload_n C dX3_readsSetting_39 hl 0 rfl ?_
      refine z_goto C dX3_readsSetting_40 (tgt := 51) (by decide) ?_
      refine m_iast C hOk hH hS 2 ⟨by decide, by decide⟩ (show 0 ≤ 2 + k ∧ 2 + k < (828 : Int) by omega) dX3_readsSetting_51 (fun H locs hH hS => ?_)
      refine m_vret C hret hH hS dX3_readsSetting_52 ?_
      refine ⟨?_, fun x' hx' => ?_, frSu ((hfa.up rfl).th hfb rfl) rfl⟩
      · rw [← hka]; exact hpb.fr (fun k' a b => su_ne _ _ _ (by omega))
      · rw [← hka] at hx' ⊢
        have he : tb 37 0 = 0 := hpb.e0.mpr ⟨x', hx'⟩
        obtain ⟨y, hy, -⟩ := goE_inr hx'
        obtain ⟨z, hz, -⟩ := goE_inr (lkE_inr hy).1
        have hP1 := hP z (lkE_inr hz).1
        first
          | (exfalso; omega)
          | (show PgAt (uZ (tb 2) (2 + k) v) _
             rw [hfb.at 2 rfl, hfa.at 2 rfl, ← hvb]
             exact hP1.set1 ⟨by omega, by omega⟩)
set_option maxHeartbeats 1000000 in
theorem mm_readsLoss {l : Launch} {D : va_G} {dA : Nat → ClassId} {A : Nat → Prop} {o : Nat} {ad : Nat → Nat} (hOk : mOk o ad) (σ : Sg) (tx : Int → Int) (n : Int) (r : Er LX) (P : Pg) (hp : PX σ tx n r) (ho : PgOk P) (hP : ∀ x, r = .inr x → PgAt (σ 2) P) : Met l yX3_readsLoss (ws_ yX3_readsLoss cX3_readsLoss 3 none) (rmL 6 0 0) (MP D dA A o ad [.ref o] σ) (MQv D dA A o ad (fun σ' => PX σ' tx n (goE tx n (lkE (goE tx n (lkE r 0 19)) 0 5)) ∧ (∀ x', goE tx n (lkE (goE tx n (lkE r 0 19)) 0 5) = .inr x' → PgAt (σ' 2) (eLose P (lkV r 0 19) (lkV (goE tx n (lkE r 0 19)) 0 5))) ∧ Fr [2, 33, 34, 35, 36, 37, 38] σ σ')) 0 0 A := by
  refine z_ofW (by decide) rfl ?_
  intro pp ee s0 mm below meth cc0 ls C hret hname hl hH hS
  have hl : lv_has ls 3 [(0, .ref o)] := hl
  have hTx := hp.1
  obtain ⟨hx1, hx2, hx3, hx4⟩ := hTx
  have hRx := hp.2.1
  obtain ⟨g1, g2, g3, g4, g5, g6, g7, g8, g9⟩ := hRx
  have hq := QXpg ho
  refine z_aload_n C dX3_readsLoss_0 hl 0 rfl ?_
  refine z_iconst C dX3_readsLoss_1 ?_
  refine z_bipush C dX3_readsLoss_2 (by decide +kernel) ?_
  refine m_Vi C hH hS (mm_reads hOk σ 0 19 tx n r (hp) (by decide)) (cwV 2 C.1.2.2.2.2 (lw_V q2654 q2656 qs93 q133 q2657) rfl rfl rfl (by decide +kernel) ⟨Nat.le_of_ble_eq_true rfl, Nat.le_of_ble_eq_true rfl⟩) rfl hl rfl (Nat.le_of_ble_eq_true rfl) dX3_readsLoss_4 ⟨Nat.le_refl _, Nat.le_refl _⟩ (fun k ta H locs hp_4 hH hS => ?_)
  obtain ⟨hka, hpa, hfa⟩ := hp_4
  have kr := lkV_in (r := r) (show (0 : Int) ≤ 19 by decide)
  rw [← hka] at kr
  refine z_istore_n C [(1, .int (iI k)), (0, .ref o)] dX3_readsLoss_7 hl (by decide) rfl (fun ls hl => ?_)
  refine z_aload_n C dX3_readsLoss_8 hl 1 rfl ?_
  refine z_iconst C dX3_readsLoss_9 ?_
  refine z_iconst C dX3_readsLoss_10 ?_
  refine m_Vi C hH hS (mm_reads hOk ta 0 5 tx n ((goE tx n (lkE r 0 19))) (hpa) (by decide)) (cwV 2 C.1.2.2.2.2 (lw_V q2654 q2656 qs93 q133 q2657) rfl rfl rfl (by decide +kernel) ⟨Nat.le_of_ble_eq_true rfl, Nat.le_of_ble_eq_true rfl⟩) rfl hl rfl (Nat.le_of_ble_eq_true rfl) dX3_readsLoss_11 ⟨Nat.le_refl _, Nat.le_refl _⟩ (fun v tb H locs hp_11 hH hS => ?_)
  obtain ⟨hvb, hpb, hfb⟩ := hp_11
  have erb := hpb.er
  refine z_istore_n C [(2, .int (iI v)), (1, .int (iI k)), (0, .ref o)] dX3_readsLoss_14 hl (by decide) rfl (fun ls hl => ?_)
  refine z_aload_n C dX3_readsLoss_15 hl 2 rfl ?_
  refine m_geta C hH 2 ⟨by decide, by decide⟩ q2187 rfl dX3_readsLoss_16 ?_
  refine z_bipush C dX3_readsLoss_19 (by decide +kernel) ?_
  refine z_iload_n C dX3_readsLoss_21 hl 1 rfl ?_
  refine z_iadd C dX3_readsLoss_22 ?_
  refine z_aload_n C dX3_readsLoss_23 hl 2 rfl ?_
  refine m_getsZ C hH 37 ⟨by decide, by decide⟩ (tb 37 0) rfl q2222 rfl dX3_readsLoss_24 ?_
  refine z_ifne C dX3_readsLoss_27 (tgt := 34) (by decide) ⟨by omega, by omega⟩ (fun c_27 => ?_) (fun c_27 => ?_)
  · refine z_aload_n C dX3_readsLoss_34 hl 2 rfl ?_
    refine m_geta C hH 2 ⟨by decide, by decide⟩ q2187 rfl dX3_readsLoss_35 ?_
    refine z_bipush C dX3_readsLoss_38 (by decide +kernel) ?_
    refine z_iload_n C dX3_readsLoss_40 hl 1 rfl ?_
    refine z_iadd C dX3_readsLoss_41 ?_
    refine m_ialdZ C hOk hH 2 ⟨by decide, by decide⟩ (8 + k) (tb 2 (8 + k)) rfl (show 0 ≤ 8 + k ∧ 8 + k < (828 : Int) by omega) dX3_readsLoss_42 ?_
    refine m_iast C hOk hH hS 2 ⟨by decide, by decide⟩ (show 0 ≤ 8 + k ∧ 8 + k < (828 : Int) by omega) dX3_readsLoss_43 (fun H locs hH hS => ?_)
    refine m_vret C hret hH hS dX3_readsLoss_44 ?_
    refine ⟨hpb.fr (fun k' a b => su_ne _ _ _ (by omega)), fun x' hx' => ?_, frSu ((hfa.up rfl).th hfb rfl) rfl⟩
    have he : tb 37 0 = 0 := hpb.e0.mpr ⟨x', hx'⟩
    obtain ⟨y, hy, -⟩ := goE_inr hx'
    obtain ⟨z, hz, -⟩ := goE_inr (lkE_inr hy).1
    have hP1 := hP z (lkE_inr hz).1
    first
      | (exfalso; omega)
      | (show PgAt (uZ (tb 2) (8 + k) v) _
         rw [hfb.at 2 rfl, hfa.at 2 rfl, ← hvb, ← hka]
         exact hP1.lose1 ⟨by omega, by omega⟩)
  · refine z_iload_n C dX3_readsLoss_30 hl 0 rfl ?_
    refine z_goto C dX3_readsLoss_31 (tgt := 43) (by decide) ?_
    refine m_iast C hOk hH hS 2 ⟨by decide, by decide⟩ (show 0 ≤ 8 + k ∧ 8 + k < (828 : Int) by omega) dX3_readsLoss_43 (fun H locs hH hS => ?_)
    refine m_vret C hret hH hS dX3_readsLoss_44 ?_
    refine ⟨hpb.fr (fun k' a b => su_ne _ _ _ (by omega)), fun x' hx' => ?_, frSu ((hfa.up rfl).th hfb rfl) rfl⟩
    have he : tb 37 0 = 0 := hpb.e0.mpr ⟨x', hx'⟩
    obtain ⟨y, hy, -⟩ := goE_inr hx'
    obtain ⟨z, hz, -⟩ := goE_inr (lkE_inr hy).1
    have hP1 := hP z (lkE_inr hz).1
    first
      | (exfalso; omega)
      | (show PgAt (uZ (tb 2) (8 + k) v) _
         rw [hfb.at 2 rfl, hfa.at 2 rfl, ← hvb, ← hka]
         exact hP1.lose1 ⟨by omega, by omega⟩)
set_option maxHeartbeats 1000000 in
theorem mm_readsAlone {l : Launch} {D : va_G} {dA : Nat → ClassId} {A : Nat → Prop} {o : Nat} {ad : Nat → Nat} (hOk : mOk o ad) (σ : Sg) (tx : Int → Int) (n : Int) (r : Er LX) (wd : Int) (hp : PX σ tx n r) (hW : 8 ≤ wd ∧ wd ≤ 40) (h9 : σ 9 0 = wd) (h15 : ∀ j, 0 ≤ j → j < 40 → σ 15 j = 0) : Met l yX3_readsAlone (ws_ yX3_readsAlone cX3_readsAlone 5 none) (rmL 5 0 0) (MP D dA A o ad [.ref o] σ) (MQv D dA A o ad (fun σ' => PX σ' tx n (alE wd (alR tx n wd r)) ∧ (∀ i, 0 ≤ i → i < 40 → σ' 15 i = (alR tx n wd r).2.2.2.1 i) ∧ Fr [15, 33, 34, 35, 36, 37, 38] σ σ')) 0 0 A := by
  refine z_ofW (by decide) rfl ?_
  intro pp ee s0 mm below meth cc0 ls C hret hname hl hH hS
  have hl : lv_has ls 5 [(0, .ref o)] := hl
  have hTx := hp.1
  obtain ⟨hx1, hx2, hx3, hx4⟩ := hTx
  have hRx := hp.2.1
  obtain ⟨g1, g2, g3, g4, g5, g6, g7, g8, g9⟩ := hRx
  refine z_iconst C dX3_readsAlone_0 ?_
  refine z_istore_n C [(1, .int (iI 0)), (0, .ref o)] dX3_readsAlone_1 hl (by decide) rfl (fun ls hl => ?_)
  refine z_iconst C dX3_readsAlone_2 ?_
  refine z_istore_n C [(2, .int (iI 0)), (1, .int (iI 0)), (0, .ref o)] dX3_readsAlone_3 hl (by decide) rfl (fun ls hl => ?_)
  refine z_iconst C dX3_readsAlone_4 ?_
  refine z_istore_n C [(3, .int (iI 1)), (2, .int (iI 0)), (1, .int (iI 0)), (0, .ref o)] dX3_readsAlone_5 hl (by decide) rfl (fun ls hl => ?_)
  have J_6 : ∀ (fu : Nat) (q : Int) (cl : Int) (fi : Int) (s1 : Sg) (T : AlT), alM wd T < fu → (PX s1 tx n T.1) → (T.2.1 = q) → (T.2.2.1 = cl) → (fi = (if T.2.2.2.2 = true then 1 else 0)) → (alI wd T) → (Fr [15, 33, 34, 35, 36, 37, 38] σ s1) → (∀ j, 0 ≤ j → j < 40 → s1 15 j = T.2.2.2.1 j) → (itN (alS tx n wd) alC 100 T = alR tx n wd r) → ∀ (H : Heap) (locs : List Loc) (ls : Array Slot), MH D dA A o ad s1 H → va_S A s0.heap H locs → lv_has ls 5 [(3, .int (iI fi)), (2, .int (iI cl)), (1, .int (iI q)), (0, .ref o)] → W pp l ee (rmL 5 0 0) s0 mm ([.ref o] : List Value).toArray below meth cc0 H locs 0 0 (MQ below (MQv D dA A o ad (fun σ' => PX σ' tx n (alE wd (alR tx n wd r)) ∧ (∀ i, 0 ≤ i → i < 40 → σ' 15 i = (alR tx n wd r).2.2.2.1 i) ∧ Fr [15, 33, 34, 35, 36, 37, 38] σ σ')) ([.ref o] : List Value).toArray s0 0 0 A) (F0 mm 6 ls []) := by
    intro fu
    induction fu with
    | zero => intro q cl fi s1 T hn; exact absurd hn (Nat.not_lt_zero _)
    | succ fu ih_6 =>
      intro q cl fi s1 T hn hPX hq hcl hfi hI hfr hrow hR H locs ls hH hS hl
      have er1 := hPX.er
      have tkr := hPX.2.1
      obtain ⟨-, -, -, t4, t5, -, -, -, -⟩ := tkr
      have hI9 := hI
      obtain ⟨i1, i2, i3, -, -, i6⟩ := hI9
      rw [hq] at i1 i2
      rw [hcl] at i3
      refine z_iload_n C dX3_readsAlone_6 hl 0 rfl ?_
      refine z_ifne C dX3_readsAlone_7 (tgt := 25) (by decide) ⟨by omega, by omega⟩ (fun c_7 => ?_) (fun c_7 => ?_)
      · have f01 : fi = 0 ∨ fi = 1 := by rw [hfi]; split <;> omega
        have hC : alC T = true := by
          unfold alC
          first
            | (by_cases hf : T.2.2.2.2 = true
               · rw [hf]; rfl
               · exact absurd (show fi = 0 by rw [hfi, if_neg hf]) (by omega))
            | (obtain ⟨x, hx⟩ := hPX.e0.mp (by omega)
               rw [hx] at hPX ⊢
               have := hPX.at.2.2
               rw [show kdE (.inr x) 2 = true from decide_eq_true (by omega), Bool.or_true])
        refine z_aload_n C dX3_readsAlone_25 hl 3 rfl ?_
        refine z_iload_n C dX3_readsAlone_26 hl 0 rfl ?_
        refine z_ifeq C dX3_readsAlone_27 (tgt := 34) (by decide) ⟨by omega, by omega⟩ (fun c_27 => ?_) (fun c_27 => ?_)
        · refine z_iconst C dX3_readsAlone_34 ?_
          refine z_aload_n C dX3_readsAlone_35 hl 3 rfl ?_
          refine m_getsZ C hH 9 ⟨by decide, by decide⟩ wd (by rw [hfr.at 9 rfl]; exact h9) q2194 rfl dX3_readsAlone_36 ?_
          refine m_Vi C hH hS (mm_looks hOk s1 1 wd tx n T.1 (hPX) (by omega)) (cwV 2 C.1.2.2.2.2 (lw_V q2658 q2660 qs94 q133 q2661) rfl rfl rfl (by decide +kernel) ⟨Nat.le_of_ble_eq_true rfl, Nat.le_of_ble_eq_true rfl⟩) rfl hl rfl (Nat.le_of_ble_eq_true rfl) dX3_readsAlone_39 ⟨Nat.le_refl _, Nat.le_refl _⟩ (fun v ta H locs hp_39 hH hS => ?_)
          obtain ⟨hva, hpa, hfa⟩ := hp_39
          have hlo : alLo T = 1 := by unfold alLo; by_cases hf : T.2.2.2.2 = true; exact absurd (show fi = 1 by rw [hfi, if_pos hf]) (by omega); rw [if_neg hf]
          have kr := lkV_in (r := T.1) (lo := 1) (hi := wd) (by omega)
          rw [← hva] at kr
          refine z_istore C [(4, .int (iI v)), (3, .int (iI fi)), (2, .int (iI cl)), (1, .int (iI q)), (0, .ref o)] dX3_readsAlone_42 hl (by decide) rfl (fun ls hl => ?_)
          refine z_aload_n C dX3_readsAlone_44 hl 4 rfl ?_
          refine z_iload_n C dX3_readsAlone_45 hl 3 rfl ?_
          refine z_iload C dX3_readsAlone_46 hl 0 rfl ?_
          refine z_iadd C dX3_readsAlone_48 ?_
          refine z_aload_n C dX3_readsAlone_49 hl 4 rfl ?_
          refine m_getsZ C hH 9 ⟨by decide, by decide⟩ wd (by rw [hfa.at 9 rfl, hfr.at 9 rfl]; exact h9) q2194 rfl dX3_readsAlone_50 ?_
          refine z_icmpgt C dX3_readsAlone_53 (tgt := 60) (by decide) ⟨⟨by omega, by omega⟩, ⟨by omega, by omega⟩⟩ (fun c_53 => ?_) (fun c_53 => ?_)
          · refine z_iconst C dX3_readsAlone_60 ?_
            refine z_iconst C dX3_readsAlone_61 ?_
            refine m_Vv C hH hS (mm_must hOk ta 0 4 tx n ((lkE T.1 1 wd)) (hpa) (by decide) (by decide)) (cwV 2 C.1.2.2.2.2 (lw_V q2662 q2664 qs95 q133 q2665) rfl rfl rfl (by decide +kernel) ⟨Nat.le_of_ble_eq_true rfl, Nat.le_of_ble_eq_true rfl⟩) rfl hl rfl (Nat.le_of_ble_eq_true rfl) dX3_readsAlone_62 ⟨Nat.le_refl _, Nat.le_refl _⟩ (fun tb H locs hp_62 hH hS => ?_)
            obtain ⟨hpb, hfb⟩ := hp_62
            have e62 : ndE (lkE T.1 1 wd) (decide ((0 : Int) = 1)) 4 = ndE (lkE T.1 (alLo T) wd) (decide (T.2.1 + lkV T.1 (alLo T) wd ≤ wd)) 4 := by
              rw [hlo, ← hva, hq]
              exact ndE_congr (fun x hx => decide_eq_decide.mpr (by omega))
            rw [e62] at hpb
            have erb := hpb.er
            refine z_aload_n C dX3_readsAlone_65 hl 4 rfl ?_
            refine m_getsZ C hH 37 ⟨by decide, by decide⟩ (tb 37 0) rfl q2222 rfl dX3_readsAlone_66 ?_
            refine z_ifne C dX3_readsAlone_69 (tgt := 91) (by decide) ⟨by omega, by omega⟩ (fun c_69 => ?_) (fun c_69 => ?_)
            · refine z_aload_n C dX3_readsAlone_91 hl 4 rfl ?_
              refine m_Vv C hH hS (mm_goesOn hOk tb tx n ((ndE (lkE T.1 (alLo T) wd) (decide (T.2.1 + lkV T.1 (alLo T) wd ≤ wd)) 4)) (hpb)) (cwV 0 C.1.2.2.2.2 (lw_V q2650 q2652 qs92 q133 q2653) rfl rfl rfl (by decide +kernel) ⟨Nat.le_of_ble_eq_true rfl, Nat.le_of_ble_eq_true rfl⟩) rfl hl rfl (Nat.le_of_ble_eq_true rfl) dX3_readsAlone_92 ⟨Nat.le_refl _, Nat.le_refl _⟩ (fun tc H locs hp_92 hH hS => ?_)
              obtain ⟨hpc, hfc⟩ := hp_92
              refine z_iconst C dX3_readsAlone_95 ?_
              refine z_istore_n C [(3, .int (iI 0)), (4, .int (iI v)), (2, .int (iI cl)), (1, .int (iI q)), (0, .ref o)] dX3_readsAlone_96 hl (by decide) rfl (fun ls hl => ?_)
              refine z_goto C dX3_readsAlone_97 (tgt := 6) (by decide) ?_
              exact ih_6 q cl 0 tc ((alS tx n wd T)) (by have := (alS_step (tx := tx) (n := n) hW T hI hC).1; omega) (by
                obtain ⟨e, he⟩ := hpb.e1 (by omega)
                rw [alS_err he]; rw [he] at hpc; exact hpc) (by obtain ⟨e, he⟩ := hpb.e1 (by omega); rw [alS_err he]; exact hq) (by obtain ⟨e, he⟩ := hpb.e1 (by omega); rw [alS_err he]; exact hcl) (by obtain ⟨e, he⟩ := hpb.e1 (by omega); rw [alS_err he]; rfl) ((alS_step (tx := tx) (n := n) hW T hI hC).2) ((((hfr.th hfa rfl).th hfb rfl).th hfc rfl)) (fun j a b => by obtain ⟨e, he⟩ := hpb.e1 (by omega); rw [alS_err he]; rw [hfc.at 15 rfl, hfb.at 15 rfl, hfa.at 15 rfl]; exact hrow j a b) (by rw [← hR, alR_go hW hI hC]) _ _ _ hH hS (lv_sub hl [0, 2, 3, 4] rfl)
            · obtain ⟨y, hy⟩ : ∃ y, ndE (lkE T.1 (alLo T) wd) (decide (T.2.1 + lkV T.1 (alLo T) wd ≤ wd)) 4 = .inr y := hpb.e0.mp (by omega)
              have hvw := of_decide_eq_true (ndE_inr hy).2
              rw [hlo, ← hva, hq] at hvw
              refine z_aload_n C dX3_readsAlone_72 hl 4 rfl ?_
              refine z_iload_n C dX3_readsAlone_73 hl 3 rfl ?_
              refine z_iload_n C dX3_readsAlone_74 hl 3 rfl ?_
              refine z_iload C dX3_readsAlone_75 hl 0 rfl ?_
              refine z_iadd C dX3_readsAlone_77 ?_
              refine z_iload_n C dX3_readsAlone_78 hl 2 rfl ?_
              refine m_VvF C hH hS (mm_paints hOk tb q (q + v) cl (⟨by omega, by omega, by omega, by omega⟩)) (cwV 3 C.1.2.2.2.2 (lw_V q2477 q2479 qs72 q133 q2480) rfl rfl rfl (by decide +kernel) ⟨Nat.le_of_ble_eq_true rfl, Nat.le_of_ble_eq_true rfl⟩) rfl hl rfl (Nat.le_of_ble_eq_true rfl) dX3_readsAlone_79 ⟨Nat.le_refl _, Nat.le_refl _⟩ (fun H locs hH hS => ?_)
              refine z_iload_n C dX3_readsAlone_82 hl 3 rfl ?_
              refine z_iload C dX3_readsAlone_83 hl 0 rfl ?_
              refine z_iadd C dX3_readsAlone_85 ?_
              refine z_istore_n C [(1, .int (iI (q + v))), (4, .int (iI v)), (3, .int (iI fi)), (2, .int (iI cl)), (0, .ref o)] dX3_readsAlone_86 hl (by decide) rfl (fun ls hl => ?_)
              refine z_iconst C dX3_readsAlone_87 ?_
              refine z_iload_n C dX3_readsAlone_88 hl 3 rfl ?_
              refine z_isub C dX3_readsAlone_89 ?_
              refine z_istore_n C [(2, .int (iI (1 - cl))), (1, .int (iI (q + v))), (4, .int (iI v)), (3, .int (iI fi)), (0, .ref o)] dX3_readsAlone_90 hl (by decide) rfl (fun ls hl => ?_)
              refine z_aload_n C dX3_readsAlone_91 hl 4 rfl ?_
              refine m_Vv C hH hS (mm_goesOn hOk (sa tb 15 (wr (fun _ => cl) (tb 15) q (q + v))) tx n ((ndE (lkE T.1 (alLo T) wd) (decide (T.2.1 + lkV T.1 (alLo T) wd ≤ wd)) 4)) (hpb.fr (fun k a b => sa_ne _ _ (by omega)))) (cwV 0 C.1.2.2.2.2 (lw_V q2650 q2652 qs92 q133 q2653) rfl rfl rfl (by decide +kernel) ⟨Nat.le_of_ble_eq_true rfl, Nat.le_of_ble_eq_true rfl⟩) rfl hl rfl (Nat.le_of_ble_eq_true rfl) dX3_readsAlone_92 ⟨Nat.le_refl _, Nat.le_refl _⟩ (fun tc H locs hp_92_1 hH hS => ?_)
              obtain ⟨hpc, hfc⟩ := hp_92_1
              refine z_iconst C dX3_readsAlone_95 ?_
              refine z_istore_n C [(3, .int (iI 0)), (2, .int (iI (1 - cl))), (1, .int (iI (q + v))), (4, .int (iI v)), (0, .ref o)] dX3_readsAlone_96 hl (by decide) rfl (fun ls hl => ?_)
              refine z_goto C dX3_readsAlone_97 (tgt := 6) (by decide) ?_
              exact ih_6 ((q + v)) ((1 - cl)) 0 tc ((alS tx n wd T)) (by have := (alS_step (tx := tx) (n := n) hW T hI hC).1; omega) (by rw [alS_ok hy]; rw [hy] at hpc; exact hpc) (by rw [alS_ok hy]; show T.2.1 + lkV T.1 (alLo T) wd = q + v; rw [hlo, ← hva, hq]) (by rw [alS_ok hy]; show 1 - T.2.2.1 = 1 - cl; rw [hcl]) (by rw [alS_ok hy]; rfl) ((alS_step (tx := tx) (n := n) hW T hI hC).2) (((frSa ((hfr.th hfa rfl).th hfb rfl) rfl).th hfc rfl)) (fun j a b => by
                rw [alS_ok hy]
                show tc 15 j = wr (fun _ => T.2.2.1) T.2.2.2.1 T.2.1 (T.2.1 + lkV T.1 (alLo T) wd) j
                rw [hlo, ← hva, hq, hcl, hfc.at 15 rfl]
                show wr (fun _ => cl) (tb 15) q (q + v) j = _
                unfold wr
                by_cases h : q ≤ j ∧ j < q + v
                · rw [if_pos h, if_pos h]
                · rw [if_neg h, if_neg h, hfb.at 15 rfl, hfa.at 15 rfl]; exact hrow j a b) (by rw [← hR, alR_go hW hI hC]) _ _ _ hH hS (lv_sub hl [0, 1, 2, 4] rfl)
          · refine z_iconst C dX3_readsAlone_56 ?_
            refine z_goto C dX3_readsAlone_57 (tgt := 61) (by decide) ?_
            refine z_iconst C dX3_readsAlone_61 ?_
            refine m_Vv C hH hS (mm_must hOk ta 1 4 tx n ((lkE T.1 1 wd)) (hpa) (by decide) (by decide)) (cwV 2 C.1.2.2.2.2 (lw_V q2662 q2664 qs95 q133 q2665) rfl rfl rfl (by decide +kernel) ⟨Nat.le_of_ble_eq_true rfl, Nat.le_of_ble_eq_true rfl⟩) rfl hl rfl (Nat.le_of_ble_eq_true rfl) dX3_readsAlone_62 ⟨Nat.le_refl _, Nat.le_refl _⟩ (fun tb H locs hp_62_1 hH hS => ?_)
            obtain ⟨hpb, hfb⟩ := hp_62_1
            have e62 : ndE (lkE T.1 1 wd) (decide ((1 : Int) = 1)) 4 = ndE (lkE T.1 (alLo T) wd) (decide (T.2.1 + lkV T.1 (alLo T) wd ≤ wd)) 4 := by
              rw [hlo, ← hva, hq]
              exact ndE_congr (fun x hx => decide_eq_decide.mpr (by omega))
            rw [e62] at hpb
            have erb := hpb.er
            refine z_aload_n C dX3_readsAlone_65 hl 4 rfl ?_
            refine m_getsZ C hH 37 ⟨by decide, by decide⟩ (tb 37 0) rfl q2222 rfl dX3_readsAlone_66 ?_
            refine z_ifne C dX3_readsAlone_69 (tgt := 91) (by decide) ⟨by omega, by omega⟩ (fun c_69_1 => ?_) (fun c_69_1 => ?_)
            · refine z_aload_n C dX3_readsAlone_91 hl 4 rfl ?_
              refine m_Vv C hH hS (mm_goesOn hOk tb tx n ((ndE (lkE T.1 (alLo T) wd) (decide (T.2.1 + lkV T.1 (alLo T) wd ≤ wd)) 4)) (hpb)) (cwV 0 C.1.2.2.2.2 (lw_V q2650 q2652 qs92 q133 q2653) rfl rfl rfl (by decide +kernel) ⟨Nat.le_of_ble_eq_true rfl, Nat.le_of_ble_eq_true rfl⟩) rfl hl rfl (Nat.le_of_ble_eq_true rfl) dX3_readsAlone_92 ⟨Nat.le_refl _, Nat.le_refl _⟩ (fun tc H locs hp_92_2 hH hS => ?_)
              obtain ⟨hpc, hfc⟩ := hp_92_2
              refine z_iconst C dX3_readsAlone_95 ?_
              refine z_istore_n C [(3, .int (iI 0)), (4, .int (iI v)), (2, .int (iI cl)), (1, .int (iI q)), (0, .ref o)] dX3_readsAlone_96 hl (by decide) rfl (fun ls hl => ?_)
              refine z_goto C dX3_readsAlone_97 (tgt := 6) (by decide) ?_
              exact ih_6 q cl 0 tc ((alS tx n wd T)) (by have := (alS_step (tx := tx) (n := n) hW T hI hC).1; omega) (by
                obtain ⟨e, he⟩ := hpb.e1 (by omega)
                rw [alS_err he]; rw [he] at hpc; exact hpc) (by obtain ⟨e, he⟩ := hpb.e1 (by omega); rw [alS_err he]; exact hq) (by obtain ⟨e, he⟩ := hpb.e1 (by omega); rw [alS_err he]; exact hcl) (by obtain ⟨e, he⟩ := hpb.e1 (by omega); rw [alS_err he]; rfl) ((alS_step (tx := tx) (n := n) hW T hI hC).2) ((((hfr.th hfa rfl).th hfb rfl).th hfc rfl)) (fun j a b => by obtain ⟨e, he⟩ := hpb.e1 (by omega); rw [alS_err he]; rw [hfc.at 15 rfl, hfb.at 15 rfl, hfa.at 15 rfl]; exact hrow j a b) (by rw [← hR, alR_go hW hI hC]) _ _ _ hH hS (lv_sub hl [0, 2, 3, 4] rfl)
            · obtain ⟨y, hy⟩ : ∃ y, ndE (lkE T.1 (alLo T) wd) (decide (T.2.1 + lkV T.1 (alLo T) wd ≤ wd)) 4 = .inr y := hpb.e0.mp (by omega)
              have hvw := of_decide_eq_true (ndE_inr hy).2
              rw [hlo, ← hva, hq] at hvw
              refine z_aload_n C dX3_readsAlone_72 hl 4 rfl ?_
              refine z_iload_n C dX3_readsAlone_73 hl 3 rfl ?_
              refine z_iload_n C dX3_readsAlone_74 hl 3 rfl ?_
              refine z_iload C dX3_readsAlone_75 hl 0 rfl ?_
              refine z_iadd C dX3_readsAlone_77 ?_
              refine z_iload_n C dX3_readsAlone_78 hl 2 rfl ?_
              refine m_VvF C hH hS (mm_paints hOk tb q (q + v) cl (⟨by omega, by omega, by omega, by omega⟩)) (cwV 3 C.1.2.2.2.2 (lw_V q2477 q2479 qs72 q133 q2480) rfl rfl rfl (by decide +kernel) ⟨Nat.le_of_ble_eq_true rfl, Nat.le_of_ble_eq_true rfl⟩) rfl hl rfl (Nat.le_of_ble_eq_true rfl) dX3_readsAlone_79 ⟨Nat.le_refl _, Nat.le_refl _⟩ (fun H locs hH hS => ?_)
              refine z_iload_n C dX3_readsAlone_82 hl 3 rfl ?_
              refine z_iload C dX3_readsAlone_83 hl 0 rfl ?_
              refine z_iadd C dX3_readsAlone_85 ?_
              refine z_istore_n C [(1, .int (iI (q + v))), (4, .int (iI v)), (3, .int (iI fi)), (2, .int (iI cl)), (0, .ref o)] dX3_readsAlone_86 hl (by decide) rfl (fun ls hl => ?_)
              refine z_iconst C dX3_readsAlone_87 ?_
              refine z_iload_n C dX3_readsAlone_88 hl 3 rfl ?_
              refine z_isub C dX3_readsAlone_89 ?_
              refine z_istore_n C [(2, .int (iI (1 - cl))), (1, .int (iI (q + v))), (4, .int (iI v)), (3, .int (iI fi)), (0, .ref o)] dX3_readsAlone_90 hl (by decide) rfl (fun ls hl => ?_)
              refine z_aload_n C dX3_readsAlone_91 hl 4 rfl ?_
              refine m_Vv C hH hS (mm_goesOn hOk (sa tb 15 (wr (fun _ => cl) (tb 15) q (q + v))) tx n ((ndE (lkE T.1 (alLo T) wd) (decide (T.2.1 + lkV T.1 (alLo T) wd ≤ wd)) 4)) (hpb.fr (fun k a b => sa_ne _ _ (by omega)))) (cwV 0 C.1.2.2.2.2 (lw_V q2650 q2652 qs92 q133 q2653) rfl rfl rfl (by decide +kernel) ⟨Nat.le_of_ble_eq_true rfl, Nat.le_of_ble_eq_true rfl⟩) rfl hl rfl (Nat.le_of_ble_eq_true rfl) dX3_readsAlone_92 ⟨Nat.le_refl _, Nat.le_refl _⟩ (fun tc H locs hp_92_3 hH hS => ?_)
              obtain ⟨hpc, hfc⟩ := hp_92_3
              refine z_iconst C dX3_readsAlone_95 ?_
              refine z_istore_n C [(3, .int (iI 0)), (2, .int (iI (1 - cl))), (1, .int (iI (q + v))), (4, .int (iI v)), (0, .ref o)] dX3_readsAlone_96 hl (by decide) rfl (fun ls hl => ?_)
              refine z_goto C dX3_readsAlone_97 (tgt := 6) (by decide) ?_
              exact ih_6 ((q + v)) ((1 - cl)) 0 tc ((alS tx n wd T)) (by have := (alS_step (tx := tx) (n := n) hW T hI hC).1; omega) (by rw [alS_ok hy]; rw [hy] at hpc; exact hpc) (by rw [alS_ok hy]; show T.2.1 + lkV T.1 (alLo T) wd = q + v; rw [hlo, ← hva, hq]) (by rw [alS_ok hy]; show 1 - T.2.2.1 = 1 - cl; rw [hcl]) (by rw [alS_ok hy]; rfl) ((alS_step (tx := tx) (n := n) hW T hI hC).2) (((frSa ((hfr.th hfa rfl).th hfb rfl) rfl).th hfc rfl)) (fun j a b => by
                rw [alS_ok hy]
                show tc 15 j = wr (fun _ => T.2.2.1) T.2.2.2.1 T.2.1 (T.2.1 + lkV T.1 (alLo T) wd) j
                rw [hlo, ← hva, hq, hcl, hfc.at 15 rfl]
                show wr (fun _ => cl) (tb 15) q (q + v) j = _
                unfold wr
                by_cases h : q ≤ j ∧ j < q + v
                · rw [if_pos h, if_pos h]
                · rw [if_neg h, if_neg h, hfb.at 15 rfl, hfa.at 15 rfl]; exact hrow j a b) (by rw [← hR, alR_go hW hI hC]) _ _ _ hH hS (lv_sub hl [0, 1, 2, 4] rfl)
        · refine z_iconst C dX3_readsAlone_30 ?_
          refine z_goto C dX3_readsAlone_31 (tgt := 35) (by decide) ?_
          refine z_aload_n C dX3_readsAlone_35 hl 3 rfl ?_
          refine m_getsZ C hH 9 ⟨by decide, by decide⟩ wd (by rw [hfr.at 9 rfl]; exact h9) q2194 rfl dX3_readsAlone_36 ?_
          refine m_Vi C hH hS (mm_looks hOk s1 0 wd tx n T.1 (hPX) (by omega)) (cwV 2 C.1.2.2.2.2 (lw_V q2658 q2660 qs94 q133 q2661) rfl rfl rfl (by decide +kernel) ⟨Nat.le_of_ble_eq_true rfl, Nat.le_of_ble_eq_true rfl⟩) rfl hl rfl (Nat.le_of_ble_eq_true rfl) dX3_readsAlone_39 ⟨Nat.le_refl _, Nat.le_refl _⟩ (fun v ta H locs hp_39_1 hH hS => ?_)
          obtain ⟨hva, hpa, hfa⟩ := hp_39_1
          have hlo : alLo T = 0 := by unfold alLo; by_cases hf : T.2.2.2.2 = true; rw [if_pos hf]; exact absurd (show fi = 0 by rw [hfi, if_neg hf]) (by omega)
          have kr := lkV_in (r := T.1) (lo := 0) (hi := wd) (by omega)
          rw [← hva] at kr
          refine z_istore C [(4, .int (iI v)), (3, .int (iI fi)), (2, .int (iI cl)), (1, .int (iI q)), (0, .ref o)] dX3_readsAlone_42 hl (by decide) rfl (fun ls hl => ?_)
          refine z_aload_n C dX3_readsAlone_44 hl 4 rfl ?_
          refine z_iload_n C dX3_readsAlone_45 hl 3 rfl ?_
          refine z_iload C dX3_readsAlone_46 hl 0 rfl ?_
          refine z_iadd C dX3_readsAlone_48 ?_
          refine z_aload_n C dX3_readsAlone_49 hl 4 rfl ?_
          refine m_getsZ C hH 9 ⟨by decide, by decide⟩ wd (by rw [hfa.at 9 rfl, hfr.at 9 rfl]; exact h9) q2194 rfl dX3_readsAlone_50 ?_
          refine z_icmpgt C dX3_readsAlone_53 (tgt := 60) (by decide) ⟨⟨by omega, by omega⟩, ⟨by omega, by omega⟩⟩ (fun c_53_1 => ?_) (fun c_53_1 => ?_)
          · refine z_iconst C dX3_readsAlone_60 ?_
            refine z_iconst C dX3_readsAlone_61 ?_
            refine m_Vv C hH hS (mm_must hOk ta 0 4 tx n ((lkE T.1 0 wd)) (hpa) (by decide) (by decide)) (cwV 2 C.1.2.2.2.2 (lw_V q2662 q2664 qs95 q133 q2665) rfl rfl rfl (by decide +kernel) ⟨Nat.le_of_ble_eq_true rfl, Nat.le_of_ble_eq_true rfl⟩) rfl hl rfl (Nat.le_of_ble_eq_true rfl) dX3_readsAlone_62 ⟨Nat.le_refl _, Nat.le_refl _⟩ (fun tb H locs hp_62_2 hH hS => ?_)
            obtain ⟨hpb, hfb⟩ := hp_62_2
            have e62 : ndE (lkE T.1 0 wd) (decide ((0 : Int) = 1)) 4 = ndE (lkE T.1 (alLo T) wd) (decide (T.2.1 + lkV T.1 (alLo T) wd ≤ wd)) 4 := by
              rw [hlo, ← hva, hq]
              exact ndE_congr (fun x hx => decide_eq_decide.mpr (by omega))
            rw [e62] at hpb
            have erb := hpb.er
            refine z_aload_n C dX3_readsAlone_65 hl 4 rfl ?_
            refine m_getsZ C hH 37 ⟨by decide, by decide⟩ (tb 37 0) rfl q2222 rfl dX3_readsAlone_66 ?_
            refine z_ifne C dX3_readsAlone_69 (tgt := 91) (by decide) ⟨by omega, by omega⟩ (fun c_69_2 => ?_) (fun c_69_2 => ?_)
            · refine z_aload_n C dX3_readsAlone_91 hl 4 rfl ?_
              refine m_Vv C hH hS (mm_goesOn hOk tb tx n ((ndE (lkE T.1 (alLo T) wd) (decide (T.2.1 + lkV T.1 (alLo T) wd ≤ wd)) 4)) (hpb)) (cwV 0 C.1.2.2.2.2 (lw_V q2650 q2652 qs92 q133 q2653) rfl rfl rfl (by decide +kernel) ⟨Nat.le_of_ble_eq_true rfl, Nat.le_of_ble_eq_true rfl⟩) rfl hl rfl (Nat.le_of_ble_eq_true rfl) dX3_readsAlone_92 ⟨Nat.le_refl _, Nat.le_refl _⟩ (fun tc H locs hp_92_4 hH hS => ?_)
              obtain ⟨hpc, hfc⟩ := hp_92_4
              refine z_iconst C dX3_readsAlone_95 ?_
              refine z_istore_n C [(3, .int (iI 0)), (4, .int (iI v)), (2, .int (iI cl)), (1, .int (iI q)), (0, .ref o)] dX3_readsAlone_96 hl (by decide) rfl (fun ls hl => ?_)
              refine z_goto C dX3_readsAlone_97 (tgt := 6) (by decide) ?_
              exact ih_6 q cl 0 tc ((alS tx n wd T)) (by have := (alS_step (tx := tx) (n := n) hW T hI hC).1; omega) (by
                obtain ⟨e, he⟩ := hpb.e1 (by omega)
                rw [alS_err he]; rw [he] at hpc; exact hpc) (by obtain ⟨e, he⟩ := hpb.e1 (by omega); rw [alS_err he]; exact hq) (by obtain ⟨e, he⟩ := hpb.e1 (by omega); rw [alS_err he]; exact hcl) (by obtain ⟨e, he⟩ := hpb.e1 (by omega); rw [alS_err he]; rfl) ((alS_step (tx := tx) (n := n) hW T hI hC).2) ((((hfr.th hfa rfl).th hfb rfl).th hfc rfl)) (fun j a b => by obtain ⟨e, he⟩ := hpb.e1 (by omega); rw [alS_err he]; rw [hfc.at 15 rfl, hfb.at 15 rfl, hfa.at 15 rfl]; exact hrow j a b) (by rw [← hR, alR_go hW hI hC]) _ _ _ hH hS (lv_sub hl [0, 2, 3, 4] rfl)
            · obtain ⟨y, hy⟩ : ∃ y, ndE (lkE T.1 (alLo T) wd) (decide (T.2.1 + lkV T.1 (alLo T) wd ≤ wd)) 4 = .inr y := hpb.e0.mp (by omega)
              have hvw := of_decide_eq_true (ndE_inr hy).2
              rw [hlo, ← hva, hq] at hvw
              refine z_aload_n C dX3_readsAlone_72 hl 4 rfl ?_
              refine z_iload_n C dX3_readsAlone_73 hl 3 rfl ?_
              refine z_iload_n C dX3_readsAlone_74 hl 3 rfl ?_
              refine z_iload C dX3_readsAlone_75 hl 0 rfl ?_
              refine z_iadd C dX3_readsAlone_77 ?_
              refine z_iload_n C dX3_readsAlone_78 hl 2 rfl ?_
              refine m_VvF C hH hS (mm_paints hOk tb q (q + v) cl (⟨by omega, by omega, by omega, by omega⟩)) (cwV 3 C.1.2.2.2.2 (lw_V q2477 q2479 qs72 q133 q2480) rfl rfl rfl (by decide +kernel) ⟨Nat.le_of_ble_eq_true rfl, Nat.le_of_ble_eq_true rfl⟩) rfl hl rfl (Nat.le_of_ble_eq_true rfl) dX3_readsAlone_79 ⟨Nat.le_refl _, Nat.le_refl _⟩ (fun H locs hH hS => ?_)
              refine z_iload_n C dX3_readsAlone_82 hl 3 rfl ?_
              refine z_iload C dX3_readsAlone_83 hl 0 rfl ?_
              refine z_iadd C dX3_readsAlone_85 ?_
              refine z_istore_n C [(1, .int (iI (q + v))), (4, .int (iI v)), (3, .int (iI fi)), (2, .int (iI cl)), (0, .ref o)] dX3_readsAlone_86 hl (by decide) rfl (fun ls hl => ?_)
              refine z_iconst C dX3_readsAlone_87 ?_
              refine z_iload_n C dX3_readsAlone_88 hl 3 rfl ?_
              refine z_isub C dX3_readsAlone_89 ?_
              refine z_istore_n C [(2, .int (iI (1 - cl))), (1, .int (iI (q + v))), (4, .int (iI v)), (3, .int (iI fi)), (0, .ref o)] dX3_readsAlone_90 hl (by decide) rfl (fun ls hl => ?_)
              refine z_aload_n C dX3_readsAlone_91 hl 4 rfl ?_
              refine m_Vv C hH hS (mm_goesOn hOk (sa tb 15 (wr (fun _ => cl) (tb 15) q (q + v))) tx n ((ndE (lkE T.1 (alLo T) wd) (decide (T.2.1 + lkV T.1 (alLo T) wd ≤ wd)) 4)) (hpb.fr (fun k a b => sa_ne _ _ (by omega)))) (cwV 0 C.1.2.2.2.2 (lw_V q2650 q2652 qs92 q133 q2653) rfl rfl rfl (by decide +kernel) ⟨Nat.le_of_ble_eq_true rfl, Nat.le_of_ble_eq_true rfl⟩) rfl hl rfl (Nat.le_of_ble_eq_true rfl) dX3_readsAlone_92 ⟨Nat.le_refl _, Nat.le_refl _⟩ (fun tc H locs hp_92_5 hH hS => ?_)
              obtain ⟨hpc, hfc⟩ := hp_92_5
              refine z_iconst C dX3_readsAlone_95 ?_
              refine z_istore_n C [(3, .int (iI 0)), (2, .int (iI (1 - cl))), (1, .int (iI (q + v))), (4, .int (iI v)), (0, .ref o)] dX3_readsAlone_96 hl (by decide) rfl (fun ls hl => ?_)
              refine z_goto C dX3_readsAlone_97 (tgt := 6) (by decide) ?_
              exact ih_6 ((q + v)) ((1 - cl)) 0 tc ((alS tx n wd T)) (by have := (alS_step (tx := tx) (n := n) hW T hI hC).1; omega) (by rw [alS_ok hy]; rw [hy] at hpc; exact hpc) (by rw [alS_ok hy]; show T.2.1 + lkV T.1 (alLo T) wd = q + v; rw [hlo, ← hva, hq]) (by rw [alS_ok hy]; show 1 - T.2.2.1 = 1 - cl; rw [hcl]) (by rw [alS_ok hy]; rfl) ((alS_step (tx := tx) (n := n) hW T hI hC).2) (((frSa ((hfr.th hfa rfl).th hfb rfl) rfl).th hfc rfl)) (fun j a b => by
                rw [alS_ok hy]
                show tc 15 j = wr (fun _ => T.2.2.1) T.2.2.2.1 T.2.1 (T.2.1 + lkV T.1 (alLo T) wd) j
                rw [hlo, ← hva, hq, hcl, hfc.at 15 rfl]
                show wr (fun _ => cl) (tb 15) q (q + v) j = _
                unfold wr
                by_cases h : q ≤ j ∧ j < q + v
                · rw [if_pos h, if_pos h]
                · rw [if_neg h, if_neg h, hfb.at 15 rfl, hfa.at 15 rfl]; exact hrow j a b) (by rw [← hR, alR_go hW hI hC]) _ _ _ hH hS (lv_sub hl [0, 1, 2, 4] rfl)
          · refine z_iconst C dX3_readsAlone_56 ?_
            refine z_goto C dX3_readsAlone_57 (tgt := 61) (by decide) ?_
            refine z_iconst C dX3_readsAlone_61 ?_
            refine m_Vv C hH hS (mm_must hOk ta 1 4 tx n ((lkE T.1 0 wd)) (hpa) (by decide) (by decide)) (cwV 2 C.1.2.2.2.2 (lw_V q2662 q2664 qs95 q133 q2665) rfl rfl rfl (by decide +kernel) ⟨Nat.le_of_ble_eq_true rfl, Nat.le_of_ble_eq_true rfl⟩) rfl hl rfl (Nat.le_of_ble_eq_true rfl) dX3_readsAlone_62 ⟨Nat.le_refl _, Nat.le_refl _⟩ (fun tb H locs hp_62_3 hH hS => ?_)
            obtain ⟨hpb, hfb⟩ := hp_62_3
            have e62 : ndE (lkE T.1 0 wd) (decide ((1 : Int) = 1)) 4 = ndE (lkE T.1 (alLo T) wd) (decide (T.2.1 + lkV T.1 (alLo T) wd ≤ wd)) 4 := by
              rw [hlo, ← hva, hq]
              exact ndE_congr (fun x hx => decide_eq_decide.mpr (by omega))
            rw [e62] at hpb
            have erb := hpb.er
            refine z_aload_n C dX3_readsAlone_65 hl 4 rfl ?_
            refine m_getsZ C hH 37 ⟨by decide, by decide⟩ (tb 37 0) rfl q2222 rfl dX3_readsAlone_66 ?_
            refine z_ifne C dX3_readsAlone_69 (tgt := 91) (by decide) ⟨by omega, by omega⟩ (fun c_69_3 => ?_) (fun c_69_3 => ?_)
            · refine z_aload_n C dX3_readsAlone_91 hl 4 rfl ?_
              refine m_Vv C hH hS (mm_goesOn hOk tb tx n ((ndE (lkE T.1 (alLo T) wd) (decide (T.2.1 + lkV T.1 (alLo T) wd ≤ wd)) 4)) (hpb)) (cwV 0 C.1.2.2.2.2 (lw_V q2650 q2652 qs92 q133 q2653) rfl rfl rfl (by decide +kernel) ⟨Nat.le_of_ble_eq_true rfl, Nat.le_of_ble_eq_true rfl⟩) rfl hl rfl (Nat.le_of_ble_eq_true rfl) dX3_readsAlone_92 ⟨Nat.le_refl _, Nat.le_refl _⟩ (fun tc H locs hp_92_6 hH hS => ?_)
              obtain ⟨hpc, hfc⟩ := hp_92_6
              refine z_iconst C dX3_readsAlone_95 ?_
              refine z_istore_n C [(3, .int (iI 0)), (4, .int (iI v)), (2, .int (iI cl)), (1, .int (iI q)), (0, .ref o)] dX3_readsAlone_96 hl (by decide) rfl (fun ls hl => ?_)
              refine z_goto C dX3_readsAlone_97 (tgt := 6) (by decide) ?_
              exact ih_6 q cl 0 tc ((alS tx n wd T)) (by have := (alS_step (tx := tx) (n := n) hW T hI hC).1; omega) (by
                obtain ⟨e, he⟩ := hpb.e1 (by omega)
                rw [alS_err he]; rw [he] at hpc; exact hpc) (by obtain ⟨e, he⟩ := hpb.e1 (by omega); rw [alS_err he]; exact hq) (by obtain ⟨e, he⟩ := hpb.e1 (by omega); rw [alS_err he]; exact hcl) (by obtain ⟨e, he⟩ := hpb.e1 (by omega); rw [alS_err he]; rfl) ((alS_step (tx := tx) (n := n) hW T hI hC).2) ((((hfr.th hfa rfl).th hfb rfl).th hfc rfl)) (fun j a b => by obtain ⟨e, he⟩ := hpb.e1 (by omega); rw [alS_err he]; rw [hfc.at 15 rfl, hfb.at 15 rfl, hfa.at 15 rfl]; exact hrow j a b) (by rw [← hR, alR_go hW hI hC]) _ _ _ hH hS (lv_sub hl [0, 2, 3, 4] rfl)
            · obtain ⟨y, hy⟩ : ∃ y, ndE (lkE T.1 (alLo T) wd) (decide (T.2.1 + lkV T.1 (alLo T) wd ≤ wd)) 4 = .inr y := hpb.e0.mp (by omega)
              have hvw := of_decide_eq_true (ndE_inr hy).2
              rw [hlo, ← hva, hq] at hvw
              refine z_aload_n C dX3_readsAlone_72 hl 4 rfl ?_
              refine z_iload_n C dX3_readsAlone_73 hl 3 rfl ?_
              refine z_iload_n C dX3_readsAlone_74 hl 3 rfl ?_
              refine z_iload C dX3_readsAlone_75 hl 0 rfl ?_
              refine z_iadd C dX3_readsAlone_77 ?_
              refine z_iload_n C dX3_readsAlone_78 hl 2 rfl ?_
              refine m_VvF C hH hS (mm_paints hOk tb q (q + v) cl (⟨by omega, by omega, by omega, by omega⟩)) (cwV 3 C.1.2.2.2.2 (lw_V q2477 q2479 qs72 q133 q2480) rfl rfl rfl (by decide +kernel) ⟨Nat.le_of_ble_eq_true rfl, Nat.le_of_ble_eq_true rfl⟩) rfl hl rfl (Nat.le_of_ble_eq_true rfl) dX3_readsAlone_79 ⟨Nat.le_refl _, Nat.le_refl _⟩ (fun H locs hH hS => ?_)
              refine z_iload_n C dX3_readsAlone_82 hl 3 rfl ?_
              refine z_iload C dX3_readsAlone_83 hl 0 rfl ?_
              refine z_iadd C dX3_readsAlone_85 ?_
              refine z_istore_n C [(1, .int (iI (q + v))), (4, .int (iI v)), (3, .int (iI fi)), (2, .int (iI cl)), (0, .ref o)] dX3_readsAlone_86 hl (by decide) rfl (fun ls hl => ?_)
              refine z_iconst C dX3_readsAlone_87 ?_
              refine z_iload_n C dX3_readsAlone_88 hl 3 rfl ?_
              refine z_isub C dX3_readsAlone_89 ?_
              refine z_istore_n C [(2, .int (iI (1 - cl))), (1, .int (iI (q + v))), (4, .int (iI v)), (3, .int (iI fi)), (0, .ref o)] dX3_readsAlone_90 hl (by decide) rfl (fun ls hl => ?_)
              refine z_aload_n C dX3_readsAlone_91 hl 4 rfl ?_
              refine m_Vv C hH hS (mm_goesOn hOk (sa tb 15 (wr (fun _ => cl) (tb 15) q (q + v))) tx n ((ndE (lkE T.1 (alLo T) wd) (decide (T.2.1 + lkV T.1 (alLo T) wd ≤ wd)) 4)) (hpb.fr (fun k a b => sa_ne _ _ (by omega)))) (cwV 0 C.1.2.2.2.2 (lw_V q2650 q2652 qs92 q133 q2653) rfl rfl rfl (by decide +kernel) ⟨Nat.le_of_ble_eq_true rfl, Nat.le_of_ble_eq_true rfl⟩) rfl hl rfl (Nat.le_of_ble_eq_true rfl) dX3_readsAlone_92 ⟨Nat.le_refl _, Nat.le_refl _⟩ (fun tc H locs hp_92_7 hH hS => ?_)
              obtain ⟨hpc, hfc⟩ := hp_92_7
              refine z_iconst C dX3_readsAlone_95 ?_
              refine z_istore_n C [(3, .int (iI 0)), (2, .int (iI (1 - cl))), (1, .int (iI (q + v))), (4, .int (iI v)), (0, .ref o)] dX3_readsAlone_96 hl (by decide) rfl (fun ls hl => ?_)
              refine z_goto C dX3_readsAlone_97 (tgt := 6) (by decide) ?_
              exact ih_6 ((q + v)) ((1 - cl)) 0 tc ((alS tx n wd T)) (by have := (alS_step (tx := tx) (n := n) hW T hI hC).1; omega) (by rw [alS_ok hy]; rw [hy] at hpc; exact hpc) (by rw [alS_ok hy]; show T.2.1 + lkV T.1 (alLo T) wd = q + v; rw [hlo, ← hva, hq]) (by rw [alS_ok hy]; show 1 - T.2.2.1 = 1 - cl; rw [hcl]) (by rw [alS_ok hy]; rfl) ((alS_step (tx := tx) (n := n) hW T hI hC).2) (((frSa ((hfr.th hfa rfl).th hfb rfl) rfl).th hfc rfl)) (fun j a b => by
                rw [alS_ok hy]
                show tc 15 j = wr (fun _ => T.2.2.1) T.2.2.2.1 T.2.1 (T.2.1 + lkV T.1 (alLo T) wd) j
                rw [hlo, ← hva, hq, hcl, hfc.at 15 rfl]
                show wr (fun _ => cl) (tb 15) q (q + v) j = _
                unfold wr
                by_cases h : q ≤ j ∧ j < q + v
                · rw [if_pos h, if_pos h]
                · rw [if_neg h, if_neg h, hfb.at 15 rfl, hfa.at 15 rfl]; exact hrow j a b) (by rw [← hR, alR_go hW hI hC]) _ _ _ hH hS (lv_sub hl [0, 1, 2, 4] rfl)
      · refine z_aload_n C dX3_readsAlone_10 hl 3 rfl ?_
        refine m_getsZ C hH 37 ⟨by decide, by decide⟩ (s1 37 0) rfl q2222 rfl dX3_readsAlone_11 ?_
        refine z_ifne C dX3_readsAlone_14 (tgt := 100) (by decide) ⟨by omega, by omega⟩ (fun c_14 => ?_) (fun c_14 => ?_)
        · have hCn : ¬ alC T = true := fun hC => by
            unfold alC at hC
            rcases Bool.or_eq_true_iff.mp hC with h | h
            · rw [if_pos h] at hfi; omega
            · cases hT1 : T.1 with
              | inl e => rw [hT1] at h; cases h
              | inr x =>
                rw [hT1] at h hPX
                have h2 : x.2.2.1 = 2 := of_decide_eq_true h
                have h3 := hPX.at.2.2
                have h4 := hPX.e0.mpr ⟨x, rfl⟩
                omega
          have hRT : alR tx n wd r = T := by rw [← hR]; exact alR_end hCn
          refine z_aload_n C dX3_readsAlone_100 hl 3 rfl ?_
          refine z_aload_n C dX3_readsAlone_101 hl 3 rfl ?_
          refine m_getsZ C hH 35 ⟨by decide, by decide⟩ (s1 35 0) rfl q2220 rfl dX3_readsAlone_102 ?_
          refine z_iconst C dX3_readsAlone_105 ?_
          refine z_icmpne C dX3_readsAlone_106 (tgt := 113) (by decide) ⟨⟨by omega, by omega⟩, ⟨by omega, by omega⟩⟩ (fun c_106 => ?_) (fun c_106 => ?_)
          · refine z_iconst C dX3_readsAlone_113 ?_
            refine z_iconst C dX3_readsAlone_114 ?_
            refine m_Vv C hH hS (mm_must hOk s1 0 1 tx n T.1 (hPX) (by decide) (by decide)) (cwV 2 C.1.2.2.2.2 (lw_V q2662 q2664 qs95 q133 q2665) rfl rfl rfl (by decide +kernel) ⟨Nat.le_of_ble_eq_true rfl, Nat.le_of_ble_eq_true rfl⟩) rfl hl rfl (Nat.le_of_ble_eq_true rfl) dX3_readsAlone_115 ⟨Nat.le_refl _, Nat.le_refl _⟩ (fun td H locs hp_115 hH hS => ?_)
            obtain ⟨hpd, hfd⟩ := hp_115
            have e115 : ndE T.1 (decide ((0 : Int) = 1)) 1 = ndE T.1 (kdE T.1 4) 1 := hPX.kd (decide_eq_decide.mpr (by omega))
            rw [e115] at hpd
            refine z_aload_n C dX3_readsAlone_118 hl 3 rfl ?_
            refine z_iload_n C dX3_readsAlone_119 hl 2 rfl ?_
            refine z_aload_n C dX3_readsAlone_120 hl 3 rfl ?_
            refine m_getsZ C hH 9 ⟨by decide, by decide⟩ wd (by rw [hfd.at 9 rfl, hfr.at 9 rfl]; exact h9) q2194 rfl dX3_readsAlone_121 ?_
            refine z_icmpne C dX3_readsAlone_124 (tgt := 131) (by decide) ⟨⟨by omega, by omega⟩, ⟨by omega, by omega⟩⟩ (fun c_124 => ?_) (fun c_124 => ?_)
            · refine z_iconst C dX3_readsAlone_131 ?_
              refine z_iconst C dX3_readsAlone_132 ?_
              refine m_Vv C hH hS (mm_must hOk td 0 3 tx n ((ndE T.1 (kdE T.1 4) 1)) (hpd) (by decide) (by decide)) (cwV 2 C.1.2.2.2.2 (lw_V q2662 q2664 qs95 q133 q2665) rfl rfl rfl (by decide +kernel) ⟨Nat.le_of_ble_eq_true rfl, Nat.le_of_ble_eq_true rfl⟩) rfl hl rfl (Nat.le_of_ble_eq_true rfl) dX3_readsAlone_133 ⟨Nat.le_refl _, Nat.le_refl _⟩ (fun te H locs hp_133 hH hS => ?_)
              obtain ⟨hpe, hfe⟩ := hp_133
              have e133 : ndE (ndE T.1 (kdE T.1 4) 1) (decide ((0 : Int) = 1)) 3 = alE wd T := ndE_congr (fun x hx => decide_eq_decide.mpr (by omega))
              rw [e133] at hpe
              refine m_vret C hret hH hS dX3_readsAlone_136 ?_
              rw [hRT]
              exact ⟨hpe, fun i a b => by rw [hfe.at 15 rfl, hfd.at 15 rfl]; exact hrow i a b, (hfr.th hfd rfl).th hfe rfl⟩
            · refine z_iconst C dX3_readsAlone_127 ?_
              refine z_goto C dX3_readsAlone_128 (tgt := 132) (by decide) ?_
              refine z_iconst C dX3_readsAlone_132 ?_
              refine m_Vv C hH hS (mm_must hOk td 1 3 tx n ((ndE T.1 (kdE T.1 4) 1)) (hpd) (by decide) (by decide)) (cwV 2 C.1.2.2.2.2 (lw_V q2662 q2664 qs95 q133 q2665) rfl rfl rfl (by decide +kernel) ⟨Nat.le_of_ble_eq_true rfl, Nat.le_of_ble_eq_true rfl⟩) rfl hl rfl (Nat.le_of_ble_eq_true rfl) dX3_readsAlone_133 ⟨Nat.le_refl _, Nat.le_refl _⟩ (fun te H locs hp_133_1 hH hS => ?_)
              obtain ⟨hpe, hfe⟩ := hp_133_1
              have e133 : ndE (ndE T.1 (kdE T.1 4) 1) (decide ((1 : Int) = 1)) 3 = alE wd T := ndE_congr (fun x hx => decide_eq_decide.mpr (by omega))
              rw [e133] at hpe
              refine m_vret C hret hH hS dX3_readsAlone_136 ?_
              rw [hRT]
              exact ⟨hpe, fun i a b => by rw [hfe.at 15 rfl, hfd.at 15 rfl]; exact hrow i a b, (hfr.th hfd rfl).th hfe rfl⟩
          · refine z_iconst C dX3_readsAlone_109 ?_
            refine z_goto C dX3_readsAlone_110 (tgt := 114) (by decide) ?_
            refine z_iconst C dX3_readsAlone_114 ?_
            refine m_Vv C hH hS (mm_must hOk s1 1 1 tx n T.1 (hPX) (by decide) (by decide)) (cwV 2 C.1.2.2.2.2 (lw_V q2662 q2664 qs95 q133 q2665) rfl rfl rfl (by decide +kernel) ⟨Nat.le_of_ble_eq_true rfl, Nat.le_of_ble_eq_true rfl⟩) rfl hl rfl (Nat.le_of_ble_eq_true rfl) dX3_readsAlone_115 ⟨Nat.le_refl _, Nat.le_refl _⟩ (fun td H locs hp_115_1 hH hS => ?_)
            obtain ⟨hpd, hfd⟩ := hp_115_1
            have e115 : ndE T.1 (decide ((1 : Int) = 1)) 1 = ndE T.1 (kdE T.1 4) 1 := hPX.kd (decide_eq_decide.mpr (by omega))
            rw [e115] at hpd
            refine z_aload_n C dX3_readsAlone_118 hl 3 rfl ?_
            refine z_iload_n C dX3_readsAlone_119 hl 2 rfl ?_
            refine z_aload_n C dX3_readsAlone_120 hl 3 rfl ?_
            refine m_getsZ C hH 9 ⟨by decide, by decide⟩ wd (by rw [hfd.at 9 rfl, hfr.at 9 rfl]; exact h9) q2194 rfl dX3_readsAlone_121 ?_
            refine z_icmpne C dX3_readsAlone_124 (tgt := 131) (by decide) ⟨⟨by omega, by omega⟩, ⟨by omega, by omega⟩⟩ (fun c_124_1 => ?_) (fun c_124_1 => ?_)
            · refine z_iconst C dX3_readsAlone_131 ?_
              refine z_iconst C dX3_readsAlone_132 ?_
              refine m_Vv C hH hS (mm_must hOk td 0 3 tx n ((ndE T.1 (kdE T.1 4) 1)) (hpd) (by decide) (by decide)) (cwV 2 C.1.2.2.2.2 (lw_V q2662 q2664 qs95 q133 q2665) rfl rfl rfl (by decide +kernel) ⟨Nat.le_of_ble_eq_true rfl, Nat.le_of_ble_eq_true rfl⟩) rfl hl rfl (Nat.le_of_ble_eq_true rfl) dX3_readsAlone_133 ⟨Nat.le_refl _, Nat.le_refl _⟩ (fun te H locs hp_133_2 hH hS => ?_)
              obtain ⟨hpe, hfe⟩ := hp_133_2
              have e133 : ndE (ndE T.1 (kdE T.1 4) 1) (decide ((0 : Int) = 1)) 3 = alE wd T := ndE_congr (fun x hx => decide_eq_decide.mpr (by omega))
              rw [e133] at hpe
              refine m_vret C hret hH hS dX3_readsAlone_136 ?_
              rw [hRT]
              exact ⟨hpe, fun i a b => by rw [hfe.at 15 rfl, hfd.at 15 rfl]; exact hrow i a b, (hfr.th hfd rfl).th hfe rfl⟩
            · refine z_iconst C dX3_readsAlone_127 ?_
              refine z_goto C dX3_readsAlone_128 (tgt := 132) (by decide) ?_
              refine z_iconst C dX3_readsAlone_132 ?_
              refine m_Vv C hH hS (mm_must hOk td 1 3 tx n ((ndE T.1 (kdE T.1 4) 1)) (hpd) (by decide) (by decide)) (cwV 2 C.1.2.2.2.2 (lw_V q2662 q2664 qs95 q133 q2665) rfl rfl rfl (by decide +kernel) ⟨Nat.le_of_ble_eq_true rfl, Nat.le_of_ble_eq_true rfl⟩) rfl hl rfl (Nat.le_of_ble_eq_true rfl) dX3_readsAlone_133 ⟨Nat.le_refl _, Nat.le_refl _⟩ (fun te H locs hp_133_3 hH hS => ?_)
              obtain ⟨hpe, hfe⟩ := hp_133_3
              have e133 : ndE (ndE T.1 (kdE T.1 4) 1) (decide ((1 : Int) = 1)) 3 = alE wd T := ndE_congr (fun x hx => decide_eq_decide.mpr (by omega))
              rw [e133] at hpe
              refine m_vret C hret hH hS dX3_readsAlone_136 ?_
              rw [hRT]
              exact ⟨hpe, fun i a b => by rw [hfe.at 15 rfl, hfd.at 15 rfl]; exact hrow i a b, (hfr.th hfd rfl).th hfe rfl⟩
        · refine z_aload_n C dX3_readsAlone_17 hl 3 rfl ?_
          refine m_getsZ C hH 35 ⟨by decide, by decide⟩ (s1 35 0) rfl q2220 rfl dX3_readsAlone_18 ?_
          refine z_iconst C dX3_readsAlone_21 ?_
          refine z_icmpne C dX3_readsAlone_22 (tgt := 100) (by decide) ⟨⟨by omega, by omega⟩, ⟨by omega, by omega⟩⟩ (fun c_22 => ?_) (fun c_22 => ?_)
          · have hCn : ¬ alC T = true := fun hC => by
              unfold alC at hC
              rcases Bool.or_eq_true_iff.mp hC with h | h
              · rw [if_pos h] at hfi; omega
              · cases hT1 : T.1 with
                | inl e => rw [hT1] at h; cases h
                | inr x =>
                  rw [hT1] at h hPX
                  have h2 : x.2.2.1 = 2 := of_decide_eq_true h
                  have h3 := hPX.at.2.2
                  have h4 := hPX.e0.mpr ⟨x, rfl⟩
                  omega
            have hRT : alR tx n wd r = T := by rw [← hR]; exact alR_end hCn
            refine z_aload_n C dX3_readsAlone_100 hl 3 rfl ?_
            refine z_aload_n C dX3_readsAlone_101 hl 3 rfl ?_
            refine m_getsZ C hH 35 ⟨by decide, by decide⟩ (s1 35 0) rfl q2220 rfl dX3_readsAlone_102 ?_
            refine z_iconst C dX3_readsAlone_105 ?_
            refine z_icmpne C dX3_readsAlone_106 (tgt := 113) (by decide) ⟨⟨by omega, by omega⟩, ⟨by omega, by omega⟩⟩ (fun c_106_1 => ?_) (fun c_106_1 => ?_)
            · refine z_iconst C dX3_readsAlone_113 ?_
              refine z_iconst C dX3_readsAlone_114 ?_
              refine m_Vv C hH hS (mm_must hOk s1 0 1 tx n T.1 (hPX) (by decide) (by decide)) (cwV 2 C.1.2.2.2.2 (lw_V q2662 q2664 qs95 q133 q2665) rfl rfl rfl (by decide +kernel) ⟨Nat.le_of_ble_eq_true rfl, Nat.le_of_ble_eq_true rfl⟩) rfl hl rfl (Nat.le_of_ble_eq_true rfl) dX3_readsAlone_115 ⟨Nat.le_refl _, Nat.le_refl _⟩ (fun td H locs hp_115_2 hH hS => ?_)
              obtain ⟨hpd, hfd⟩ := hp_115_2
              have e115 : ndE T.1 (decide ((0 : Int) = 1)) 1 = ndE T.1 (kdE T.1 4) 1 := hPX.kd (decide_eq_decide.mpr (by omega))
              rw [e115] at hpd
              refine z_aload_n C dX3_readsAlone_118 hl 3 rfl ?_
              refine z_iload_n C dX3_readsAlone_119 hl 2 rfl ?_
              refine z_aload_n C dX3_readsAlone_120 hl 3 rfl ?_
              refine m_getsZ C hH 9 ⟨by decide, by decide⟩ wd (by rw [hfd.at 9 rfl, hfr.at 9 rfl]; exact h9) q2194 rfl dX3_readsAlone_121 ?_
              refine z_icmpne C dX3_readsAlone_124 (tgt := 131) (by decide) ⟨⟨by omega, by omega⟩, ⟨by omega, by omega⟩⟩ (fun c_124_2 => ?_) (fun c_124_2 => ?_)
              · refine z_iconst C dX3_readsAlone_131 ?_
                refine z_iconst C dX3_readsAlone_132 ?_
                refine m_Vv C hH hS (mm_must hOk td 0 3 tx n ((ndE T.1 (kdE T.1 4) 1)) (hpd) (by decide) (by decide)) (cwV 2 C.1.2.2.2.2 (lw_V q2662 q2664 qs95 q133 q2665) rfl rfl rfl (by decide +kernel) ⟨Nat.le_of_ble_eq_true rfl, Nat.le_of_ble_eq_true rfl⟩) rfl hl rfl (Nat.le_of_ble_eq_true rfl) dX3_readsAlone_133 ⟨Nat.le_refl _, Nat.le_refl _⟩ (fun te H locs hp_133_4 hH hS => ?_)
                obtain ⟨hpe, hfe⟩ := hp_133_4
                have e133 : ndE (ndE T.1 (kdE T.1 4) 1) (decide ((0 : Int) = 1)) 3 = alE wd T := ndE_congr (fun x hx => decide_eq_decide.mpr (by omega))
                rw [e133] at hpe
                refine m_vret C hret hH hS dX3_readsAlone_136 ?_
                rw [hRT]
                exact ⟨hpe, fun i a b => by rw [hfe.at 15 rfl, hfd.at 15 rfl]; exact hrow i a b, (hfr.th hfd rfl).th hfe rfl⟩
              · refine z_iconst C dX3_readsAlone_127 ?_
                refine z_goto C dX3_readsAlone_128 (tgt := 132) (by decide) ?_
                refine z_iconst C dX3_readsAlone_132 ?_
                refine m_Vv C hH hS (mm_must hOk td 1 3 tx n ((ndE T.1 (kdE T.1 4) 1)) (hpd) (by decide) (by decide)) (cwV 2 C.1.2.2.2.2 (lw_V q2662 q2664 qs95 q133 q2665) rfl rfl rfl (by decide +kernel) ⟨Nat.le_of_ble_eq_true rfl, Nat.le_of_ble_eq_true rfl⟩) rfl hl rfl (Nat.le_of_ble_eq_true rfl) dX3_readsAlone_133 ⟨Nat.le_refl _, Nat.le_refl _⟩ (fun te H locs hp_133_5 hH hS => ?_)
                obtain ⟨hpe, hfe⟩ := hp_133_5
                have e133 : ndE (ndE T.1 (kdE T.1 4) 1) (decide ((1 : Int) = 1)) 3 = alE wd T := ndE_congr (fun x hx => decide_eq_decide.mpr (by omega))
                rw [e133] at hpe
                refine m_vret C hret hH hS dX3_readsAlone_136 ?_
                rw [hRT]
                exact ⟨hpe, fun i a b => by rw [hfe.at 15 rfl, hfd.at 15 rfl]; exact hrow i a b, (hfr.th hfd rfl).th hfe rfl⟩
            · refine z_iconst C dX3_readsAlone_109 ?_
              refine z_goto C dX3_readsAlone_110 (tgt := 114) (by decide) ?_
              refine z_iconst C dX3_readsAlone_114 ?_
              refine m_Vv C hH hS (mm_must hOk s1 1 1 tx n T.1 (hPX) (by decide) (by decide)) (cwV 2 C.1.2.2.2.2 (lw_V q2662 q2664 qs95 q133 q2665) rfl rfl rfl (by decide +kernel) ⟨Nat.le_of_ble_eq_true rfl, Nat.le_of_ble_eq_true rfl⟩) rfl hl rfl (Nat.le_of_ble_eq_true rfl) dX3_readsAlone_115 ⟨Nat.le_refl _, Nat.le_refl _⟩ (fun td H locs hp_115_3 hH hS => ?_)
              obtain ⟨hpd, hfd⟩ := hp_115_3
              have e115 : ndE T.1 (decide ((1 : Int) = 1)) 1 = ndE T.1 (kdE T.1 4) 1 := hPX.kd (decide_eq_decide.mpr (by omega))
              rw [e115] at hpd
              refine z_aload_n C dX3_readsAlone_118 hl 3 rfl ?_
              refine z_iload_n C dX3_readsAlone_119 hl 2 rfl ?_
              refine z_aload_n C dX3_readsAlone_120 hl 3 rfl ?_
              refine m_getsZ C hH 9 ⟨by decide, by decide⟩ wd (by rw [hfd.at 9 rfl, hfr.at 9 rfl]; exact h9) q2194 rfl dX3_readsAlone_121 ?_
              refine z_icmpne C dX3_readsAlone_124 (tgt := 131) (by decide) ⟨⟨by omega, by omega⟩, ⟨by omega, by omega⟩⟩ (fun c_124_3 => ?_) (fun c_124_3 => ?_)
              · refine z_iconst C dX3_readsAlone_131 ?_
                refine z_iconst C dX3_readsAlone_132 ?_
                refine m_Vv C hH hS (mm_must hOk td 0 3 tx n ((ndE T.1 (kdE T.1 4) 1)) (hpd) (by decide) (by decide)) (cwV 2 C.1.2.2.2.2 (lw_V q2662 q2664 qs95 q133 q2665) rfl rfl rfl (by decide +kernel) ⟨Nat.le_of_ble_eq_true rfl, Nat.le_of_ble_eq_true rfl⟩) rfl hl rfl (Nat.le_of_ble_eq_true rfl) dX3_readsAlone_133 ⟨Nat.le_refl _, Nat.le_refl _⟩ (fun te H locs hp_133_6 hH hS => ?_)
                obtain ⟨hpe, hfe⟩ := hp_133_6
                have e133 : ndE (ndE T.1 (kdE T.1 4) 1) (decide ((0 : Int) = 1)) 3 = alE wd T := ndE_congr (fun x hx => decide_eq_decide.mpr (by omega))
                rw [e133] at hpe
                refine m_vret C hret hH hS dX3_readsAlone_136 ?_
                rw [hRT]
                exact ⟨hpe, fun i a b => by rw [hfe.at 15 rfl, hfd.at 15 rfl]; exact hrow i a b, (hfr.th hfd rfl).th hfe rfl⟩
              · refine z_iconst C dX3_readsAlone_127 ?_
                refine z_goto C dX3_readsAlone_128 (tgt := 132) (by decide) ?_
                refine z_iconst C dX3_readsAlone_132 ?_
                refine m_Vv C hH hS (mm_must hOk td 1 3 tx n ((ndE T.1 (kdE T.1 4) 1)) (hpd) (by decide) (by decide)) (cwV 2 C.1.2.2.2.2 (lw_V q2662 q2664 qs95 q133 q2665) rfl rfl rfl (by decide +kernel) ⟨Nat.le_of_ble_eq_true rfl, Nat.le_of_ble_eq_true rfl⟩) rfl hl rfl (Nat.le_of_ble_eq_true rfl) dX3_readsAlone_133 ⟨Nat.le_refl _, Nat.le_refl _⟩ (fun te H locs hp_133_7 hH hS => ?_)
                obtain ⟨hpe, hfe⟩ := hp_133_7
                have e133 : ndE (ndE T.1 (kdE T.1 4) 1) (decide ((1 : Int) = 1)) 3 = alE wd T := ndE_congr (fun x hx => decide_eq_decide.mpr (by omega))
                rw [e133] at hpe
                refine m_vret C hret hH hS dX3_readsAlone_136 ?_
                rw [hRT]
                exact ⟨hpe, fun i a b => by rw [hfe.at 15 rfl, hfd.at 15 rfl]; exact hrow i a b, (hfr.th hfd rfl).th hfe rfl⟩
          · have f01 : fi = 0 ∨ fi = 1 := by rw [hfi]; split <;> omega
            have hC : alC T = true := by
              unfold alC
              first
                | (by_cases hf : T.2.2.2.2 = true
                   · rw [hf]; rfl
                   · exact absurd (show fi = 0 by rw [hfi, if_neg hf]) (by omega))
                | (obtain ⟨x, hx⟩ := hPX.e0.mp (by omega)
                   rw [hx] at hPX ⊢
                   have := hPX.at.2.2
                   rw [show kdE (.inr x) 2 = true from decide_eq_true (by omega), Bool.or_true])
            refine z_aload_n C dX3_readsAlone_25 hl 3 rfl ?_
            refine z_iload_n C dX3_readsAlone_26 hl 0 rfl ?_
            refine z_ifeq C dX3_readsAlone_27 (tgt := 34) (by decide) ⟨by omega, by omega⟩ (fun c_27_1 => ?_) (fun c_27_1 => ?_)
            · refine z_iconst C dX3_readsAlone_34 ?_
              refine z_aload_n C dX3_readsAlone_35 hl 3 rfl ?_
              refine m_getsZ C hH 9 ⟨by decide, by decide⟩ wd (by rw [hfr.at 9 rfl]; exact h9) q2194 rfl dX3_readsAlone_36 ?_
              refine m_Vi C hH hS (mm_looks hOk s1 1 wd tx n T.1 (hPX) (by omega)) (cwV 2 C.1.2.2.2.2 (lw_V q2658 q2660 qs94 q133 q2661) rfl rfl rfl (by decide +kernel) ⟨Nat.le_of_ble_eq_true rfl, Nat.le_of_ble_eq_true rfl⟩) rfl hl rfl (Nat.le_of_ble_eq_true rfl) dX3_readsAlone_39 ⟨Nat.le_refl _, Nat.le_refl _⟩ (fun v ta H locs hp_39_2 hH hS => ?_)
              obtain ⟨hva, hpa, hfa⟩ := hp_39_2
              have hlo : alLo T = 1 := by unfold alLo; by_cases hf : T.2.2.2.2 = true; exact absurd (show fi = 1 by rw [hfi, if_pos hf]) (by omega); rw [if_neg hf]
              have kr := lkV_in (r := T.1) (lo := 1) (hi := wd) (by omega)
              rw [← hva] at kr
              refine z_istore C [(4, .int (iI v)), (3, .int (iI fi)), (2, .int (iI cl)), (1, .int (iI q)), (0, .ref o)] dX3_readsAlone_42 hl (by decide) rfl (fun ls hl => ?_)
              refine z_aload_n C dX3_readsAlone_44 hl 4 rfl ?_
              refine z_iload_n C dX3_readsAlone_45 hl 3 rfl ?_
              refine z_iload C dX3_readsAlone_46 hl 0 rfl ?_
              refine z_iadd C dX3_readsAlone_48 ?_
              refine z_aload_n C dX3_readsAlone_49 hl 4 rfl ?_
              refine m_getsZ C hH 9 ⟨by decide, by decide⟩ wd (by rw [hfa.at 9 rfl, hfr.at 9 rfl]; exact h9) q2194 rfl dX3_readsAlone_50 ?_
              refine z_icmpgt C dX3_readsAlone_53 (tgt := 60) (by decide) ⟨⟨by omega, by omega⟩, ⟨by omega, by omega⟩⟩ (fun c_53_2 => ?_) (fun c_53_2 => ?_)
              · refine z_iconst C dX3_readsAlone_60 ?_
                refine z_iconst C dX3_readsAlone_61 ?_
                refine m_Vv C hH hS (mm_must hOk ta 0 4 tx n ((lkE T.1 1 wd)) (hpa) (by decide) (by decide)) (cwV 2 C.1.2.2.2.2 (lw_V q2662 q2664 qs95 q133 q2665) rfl rfl rfl (by decide +kernel) ⟨Nat.le_of_ble_eq_true rfl, Nat.le_of_ble_eq_true rfl⟩) rfl hl rfl (Nat.le_of_ble_eq_true rfl) dX3_readsAlone_62 ⟨Nat.le_refl _, Nat.le_refl _⟩ (fun tb H locs hp_62_4 hH hS => ?_)
                obtain ⟨hpb, hfb⟩ := hp_62_4
                have e62 : ndE (lkE T.1 1 wd) (decide ((0 : Int) = 1)) 4 = ndE (lkE T.1 (alLo T) wd) (decide (T.2.1 + lkV T.1 (alLo T) wd ≤ wd)) 4 := by
                  rw [hlo, ← hva, hq]
                  exact ndE_congr (fun x hx => decide_eq_decide.mpr (by omega))
                rw [e62] at hpb
                have erb := hpb.er
                refine z_aload_n C dX3_readsAlone_65 hl 4 rfl ?_
                refine m_getsZ C hH 37 ⟨by decide, by decide⟩ (tb 37 0) rfl q2222 rfl dX3_readsAlone_66 ?_
                refine z_ifne C dX3_readsAlone_69 (tgt := 91) (by decide) ⟨by omega, by omega⟩ (fun c_69_4 => ?_) (fun c_69_4 => ?_)
                · refine z_aload_n C dX3_readsAlone_91 hl 4 rfl ?_
                  refine m_Vv C hH hS (mm_goesOn hOk tb tx n ((ndE (lkE T.1 (alLo T) wd) (decide (T.2.1 + lkV T.1 (alLo T) wd ≤ wd)) 4)) (hpb)) (cwV 0 C.1.2.2.2.2 (lw_V q2650 q2652 qs92 q133 q2653) rfl rfl rfl (by decide +kernel) ⟨Nat.le_of_ble_eq_true rfl, Nat.le_of_ble_eq_true rfl⟩) rfl hl rfl (Nat.le_of_ble_eq_true rfl) dX3_readsAlone_92 ⟨Nat.le_refl _, Nat.le_refl _⟩ (fun tc H locs hp_92_8 hH hS => ?_)
                  obtain ⟨hpc, hfc⟩ := hp_92_8
                  refine z_iconst C dX3_readsAlone_95 ?_
                  refine z_istore_n C [(3, .int (iI 0)), (4, .int (iI v)), (2, .int (iI cl)), (1, .int (iI q)), (0, .ref o)] dX3_readsAlone_96 hl (by decide) rfl (fun ls hl => ?_)
                  refine z_goto C dX3_readsAlone_97 (tgt := 6) (by decide) ?_
                  exact ih_6 q cl 0 tc ((alS tx n wd T)) (by have := (alS_step (tx := tx) (n := n) hW T hI hC).1; omega) (by
                    obtain ⟨e, he⟩ := hpb.e1 (by omega)
                    rw [alS_err he]; rw [he] at hpc; exact hpc) (by obtain ⟨e, he⟩ := hpb.e1 (by omega); rw [alS_err he]; exact hq) (by obtain ⟨e, he⟩ := hpb.e1 (by omega); rw [alS_err he]; exact hcl) (by obtain ⟨e, he⟩ := hpb.e1 (by omega); rw [alS_err he]; rfl) ((alS_step (tx := tx) (n := n) hW T hI hC).2) ((((hfr.th hfa rfl).th hfb rfl).th hfc rfl)) (fun j a b => by obtain ⟨e, he⟩ := hpb.e1 (by omega); rw [alS_err he]; rw [hfc.at 15 rfl, hfb.at 15 rfl, hfa.at 15 rfl]; exact hrow j a b) (by rw [← hR, alR_go hW hI hC]) _ _ _ hH hS (lv_sub hl [0, 2, 3, 4] rfl)
                · obtain ⟨y, hy⟩ : ∃ y, ndE (lkE T.1 (alLo T) wd) (decide (T.2.1 + lkV T.1 (alLo T) wd ≤ wd)) 4 = .inr y := hpb.e0.mp (by omega)
                  have hvw := of_decide_eq_true (ndE_inr hy).2
                  rw [hlo, ← hva, hq] at hvw
                  refine z_aload_n C dX3_readsAlone_72 hl 4 rfl ?_
                  refine z_iload_n C dX3_readsAlone_73 hl 3 rfl ?_
                  refine z_iload_n C dX3_readsAlone_74 hl 3 rfl ?_
                  refine z_iload C dX3_readsAlone_75 hl 0 rfl ?_
                  refine z_iadd C dX3_readsAlone_77 ?_
                  refine z_iload_n C dX3_readsAlone_78 hl 2 rfl ?_
                  refine m_VvF C hH hS (mm_paints hOk tb q (q + v) cl (⟨by omega, by omega, by omega, by omega⟩)) (cwV 3 C.1.2.2.2.2 (lw_V q2477 q2479 qs72 q133 q2480) rfl rfl rfl (by decide +kernel) ⟨Nat.le_of_ble_eq_true rfl, Nat.le_of_ble_eq_true rfl⟩) rfl hl rfl (Nat.le_of_ble_eq_true rfl) dX3_readsAlone_79 ⟨Nat.le_refl _, Nat.le_refl _⟩ (fun H locs hH hS => ?_)
                  refine z_iload_n C dX3_readsAlone_82 hl 3 rfl ?_
                  refine z_iload C dX3_readsAlone_83 hl 0 rfl ?_
                  refine z_iadd C dX3_readsAlone_85 ?_
                  refine z_istore_n C [(1, .int (iI (q + v))), (4, .int (iI v)), (3, .int (iI fi)), (2, .int (iI cl)), (0, .ref o)] dX3_readsAlone_86 hl (by decide) rfl (fun ls hl => ?_)
                  refine z_iconst C dX3_readsAlone_87 ?_
                  refine z_iload_n C dX3_readsAlone_88 hl 3 rfl ?_
                  refine z_isub C dX3_readsAlone_89 ?_
                  refine z_istore_n C [(2, .int (iI (1 - cl))), (1, .int (iI (q + v))), (4, .int (iI v)), (3, .int (iI fi)), (0, .ref o)] dX3_readsAlone_90 hl (by decide) rfl (fun ls hl => ?_)
                  refine z_aload_n C dX3_readsAlone_91 hl 4 rfl ?_
                  refine m_Vv C hH hS (mm_goesOn hOk (sa tb 15 (wr (fun _ => cl) (tb 15) q (q + v))) tx n ((ndE (lkE T.1 (alLo T) wd) (decide (T.2.1 + lkV T.1 (alLo T) wd ≤ wd)) 4)) (hpb.fr (fun k a b => sa_ne _ _ (by omega)))) (cwV 0 C.1.2.2.2.2 (lw_V q2650 q2652 qs92 q133 q2653) rfl rfl rfl (by decide +kernel) ⟨Nat.le_of_ble_eq_true rfl, Nat.le_of_ble_eq_true rfl⟩) rfl hl rfl (Nat.le_of_ble_eq_true rfl) dX3_readsAlone_92 ⟨Nat.le_refl _, Nat.le_refl _⟩ (fun tc H locs hp_92_9 hH hS => ?_)
                  obtain ⟨hpc, hfc⟩ := hp_92_9
                  refine z_iconst C dX3_readsAlone_95 ?_
                  refine z_istore_n C [(3, .int (iI 0)), (2, .int (iI (1 - cl))), (1, .int (iI (q + v))), (4, .int (iI v)), (0, .ref o)] dX3_readsAlone_96 hl (by decide) rfl (fun ls hl => ?_)
                  refine z_goto C dX3_readsAlone_97 (tgt := 6) (by decide) ?_
                  exact ih_6 ((q + v)) ((1 - cl)) 0 tc ((alS tx n wd T)) (by have := (alS_step (tx := tx) (n := n) hW T hI hC).1; omega) (by rw [alS_ok hy]; rw [hy] at hpc; exact hpc) (by rw [alS_ok hy]; show T.2.1 + lkV T.1 (alLo T) wd = q + v; rw [hlo, ← hva, hq]) (by rw [alS_ok hy]; show 1 - T.2.2.1 = 1 - cl; rw [hcl]) (by rw [alS_ok hy]; rfl) ((alS_step (tx := tx) (n := n) hW T hI hC).2) (((frSa ((hfr.th hfa rfl).th hfb rfl) rfl).th hfc rfl)) (fun j a b => by
                    rw [alS_ok hy]
                    show tc 15 j = wr (fun _ => T.2.2.1) T.2.2.2.1 T.2.1 (T.2.1 + lkV T.1 (alLo T) wd) j
                    rw [hlo, ← hva, hq, hcl, hfc.at 15 rfl]
                    show wr (fun _ => cl) (tb 15) q (q + v) j = _
                    unfold wr
                    by_cases h : q ≤ j ∧ j < q + v
                    · rw [if_pos h, if_pos h]
                    · rw [if_neg h, if_neg h, hfb.at 15 rfl, hfa.at 15 rfl]; exact hrow j a b) (by rw [← hR, alR_go hW hI hC]) _ _ _ hH hS (lv_sub hl [0, 1, 2, 4] rfl)
              · refine z_iconst C dX3_readsAlone_56 ?_
                refine z_goto C dX3_readsAlone_57 (tgt := 61) (by decide) ?_
                refine z_iconst C dX3_readsAlone_61 ?_
                refine m_Vv C hH hS (mm_must hOk ta 1 4 tx n ((lkE T.1 1 wd)) (hpa) (by decide) (by decide)) (cwV 2 C.1.2.2.2.2 (lw_V q2662 q2664 qs95 q133 q2665) rfl rfl rfl (by decide +kernel) ⟨Nat.le_of_ble_eq_true rfl, Nat.le_of_ble_eq_true rfl⟩) rfl hl rfl (Nat.le_of_ble_eq_true rfl) dX3_readsAlone_62 ⟨Nat.le_refl _, Nat.le_refl _⟩ (fun tb H locs hp_62_5 hH hS => ?_)
                obtain ⟨hpb, hfb⟩ := hp_62_5
                have e62 : ndE (lkE T.1 1 wd) (decide ((1 : Int) = 1)) 4 = ndE (lkE T.1 (alLo T) wd) (decide (T.2.1 + lkV T.1 (alLo T) wd ≤ wd)) 4 := by
                  rw [hlo, ← hva, hq]
                  exact ndE_congr (fun x hx => decide_eq_decide.mpr (by omega))
                rw [e62] at hpb
                have erb := hpb.er
                refine z_aload_n C dX3_readsAlone_65 hl 4 rfl ?_
                refine m_getsZ C hH 37 ⟨by decide, by decide⟩ (tb 37 0) rfl q2222 rfl dX3_readsAlone_66 ?_
                refine z_ifne C dX3_readsAlone_69 (tgt := 91) (by decide) ⟨by omega, by omega⟩ (fun c_69_5 => ?_) (fun c_69_5 => ?_)
                · refine z_aload_n C dX3_readsAlone_91 hl 4 rfl ?_
                  refine m_Vv C hH hS (mm_goesOn hOk tb tx n ((ndE (lkE T.1 (alLo T) wd) (decide (T.2.1 + lkV T.1 (alLo T) wd ≤ wd)) 4)) (hpb)) (cwV 0 C.1.2.2.2.2 (lw_V q2650 q2652 qs92 q133 q2653) rfl rfl rfl (by decide +kernel) ⟨Nat.le_of_ble_eq_true rfl, Nat.le_of_ble_eq_true rfl⟩) rfl hl rfl (Nat.le_of_ble_eq_true rfl) dX3_readsAlone_92 ⟨Nat.le_refl _, Nat.le_refl _⟩ (fun tc H locs hp_92_10 hH hS => ?_)
                  obtain ⟨hpc, hfc⟩ := hp_92_10
                  refine z_iconst C dX3_readsAlone_95 ?_
                  refine z_istore_n C [(3, .int (iI 0)), (4, .int (iI v)), (2, .int (iI cl)), (1, .int (iI q)), (0, .ref o)] dX3_readsAlone_96 hl (by decide) rfl (fun ls hl => ?_)
                  refine z_goto C dX3_readsAlone_97 (tgt := 6) (by decide) ?_
                  exact ih_6 q cl 0 tc ((alS tx n wd T)) (by have := (alS_step (tx := tx) (n := n) hW T hI hC).1; omega) (by
                    obtain ⟨e, he⟩ := hpb.e1 (by omega)
                    rw [alS_err he]; rw [he] at hpc; exact hpc) (by obtain ⟨e, he⟩ := hpb.e1 (by omega); rw [alS_err he]; exact hq) (by obtain ⟨e, he⟩ := hpb.e1 (by omega); rw [alS_err he]; exact hcl) (by obtain ⟨e, he⟩ := hpb.e1 (by omega); rw [alS_err he]; rfl) ((alS_step (tx := tx) (n := n) hW T hI hC).2) ((((hfr.th hfa rfl).th hfb rfl).th hfc rfl)) (fun j a b => by obtain ⟨e, he⟩ := hpb.e1 (by omega); rw [alS_err he]; rw [hfc.at 15 rfl, hfb.at 15 rfl, hfa.at 15 rfl]; exact hrow j a b) (by rw [← hR, alR_go hW hI hC]) _ _ _ hH hS (lv_sub hl [0, 2, 3, 4] rfl)
                · obtain ⟨y, hy⟩ : ∃ y, ndE (lkE T.1 (alLo T) wd) (decide (T.2.1 + lkV T.1 (alLo T) wd ≤ wd)) 4 = .inr y := hpb.e0.mp (by omega)
                  have hvw := of_decide_eq_true (ndE_inr hy).2
                  rw [hlo, ← hva, hq] at hvw
                  refine z_aload_n C dX3_readsAlone_72 hl 4 rfl ?_
                  refine z_iload_n C dX3_readsAlone_73 hl 3 rfl ?_
                  refine z_iload_n C dX3_readsAlone_74 hl 3 rfl ?_
                  refine z_iload C dX3_readsAlone_75 hl 0 rfl ?_
                  refine z_iadd C dX3_readsAlone_77 ?_
                  refine z_iload_n C dX3_readsAlone_78 hl 2 rfl ?_
                  refine m_VvF C hH hS (mm_paints hOk tb q (q + v) cl (⟨by omega, by omega, by omega, by omega⟩)) (cwV 3 C.1.2.2.2.2 (lw_V q2477 q2479 qs72 q133 q2480) rfl rfl rfl (by decide +kernel) ⟨Nat.le_of_ble_eq_true rfl, Nat.le_of_ble_eq_true rfl⟩) rfl hl rfl (Nat.le_of_ble_eq_true rfl) dX3_readsAlone_79 ⟨Nat.le_refl _, Nat.le_refl _⟩ (fun H locs hH hS => ?_)
                  refine z_iload_n C dX3_readsAlone_82 hl 3 rfl ?_
                  refine z_iload C dX3_readsAlone_83 hl 0 rfl ?_
                  refine z_iadd C dX3_readsAlone_85 ?_
                  refine z_istore_n C [(1, .int (iI (q + v))), (4, .int (iI v)), (3, .int (iI fi)), (2, .int (iI cl)), (0, .ref o)] dX3_readsAlone_86 hl (by decide) rfl (fun ls hl => ?_)
                  refine z_iconst C dX3_readsAlone_87 ?_
                  refine z_iload_n C dX3_readsAlone_88 hl 3 rfl ?_
                  refine z_isub C dX3_readsAlone_89 ?_
                  refine z_istore_n C [(2, .int (iI (1 - cl))), (1, .int (iI (q + v))), (4, .int (iI v)), (3, .int (iI fi)), (0, .ref o)] dX3_readsAlone_90 hl (by decide) rfl (fun ls hl => ?_)
                  refine z_aload_n C dX3_readsAlone_91 hl 4 rfl ?_
                  refine m_Vv C hH hS (mm_goesOn hOk (sa tb 15 (wr (fun _ => cl) (tb 15) q (q + v))) tx n ((ndE (lkE T.1 (alLo T) wd) (decide (T.2.1 + lkV T.1 (alLo T) wd ≤ wd)) 4)) (hpb.fr (fun k a b => sa_ne _ _ (by omega)))) (cwV 0 C.1.2.2.2.2 (lw_V q2650 q2652 qs92 q133 q2653) rfl rfl rfl (by decide +kernel) ⟨Nat.le_of_ble_eq_true rfl, Nat.le_of_ble_eq_true rfl⟩) rfl hl rfl (Nat.le_of_ble_eq_true rfl) dX3_readsAlone_92 ⟨Nat.le_refl _, Nat.le_refl _⟩ (fun tc H locs hp_92_11 hH hS => ?_)
                  obtain ⟨hpc, hfc⟩ := hp_92_11
                  refine z_iconst C dX3_readsAlone_95 ?_
                  refine z_istore_n C [(3, .int (iI 0)), (2, .int (iI (1 - cl))), (1, .int (iI (q + v))), (4, .int (iI v)), (0, .ref o)] dX3_readsAlone_96 hl (by decide) rfl (fun ls hl => ?_)
                  refine z_goto C dX3_readsAlone_97 (tgt := 6) (by decide) ?_
                  exact ih_6 ((q + v)) ((1 - cl)) 0 tc ((alS tx n wd T)) (by have := (alS_step (tx := tx) (n := n) hW T hI hC).1; omega) (by rw [alS_ok hy]; rw [hy] at hpc; exact hpc) (by rw [alS_ok hy]; show T.2.1 + lkV T.1 (alLo T) wd = q + v; rw [hlo, ← hva, hq]) (by rw [alS_ok hy]; show 1 - T.2.2.1 = 1 - cl; rw [hcl]) (by rw [alS_ok hy]; rfl) ((alS_step (tx := tx) (n := n) hW T hI hC).2) (((frSa ((hfr.th hfa rfl).th hfb rfl) rfl).th hfc rfl)) (fun j a b => by
                    rw [alS_ok hy]
                    show tc 15 j = wr (fun _ => T.2.2.1) T.2.2.2.1 T.2.1 (T.2.1 + lkV T.1 (alLo T) wd) j
                    rw [hlo, ← hva, hq, hcl, hfc.at 15 rfl]
                    show wr (fun _ => cl) (tb 15) q (q + v) j = _
                    unfold wr
                    by_cases h : q ≤ j ∧ j < q + v
                    · rw [if_pos h, if_pos h]
                    · rw [if_neg h, if_neg h, hfb.at 15 rfl, hfa.at 15 rfl]; exact hrow j a b) (by rw [← hR, alR_go hW hI hC]) _ _ _ hH hS (lv_sub hl [0, 1, 2, 4] rfl)
            · refine z_iconst C dX3_readsAlone_30 ?_
              refine z_goto C dX3_readsAlone_31 (tgt := 35) (by decide) ?_
              refine z_aload_n C dX3_readsAlone_35 hl 3 rfl ?_
              refine m_getsZ C hH 9 ⟨by decide, by decide⟩ wd (by rw [hfr.at 9 rfl]; exact h9) q2194 rfl dX3_readsAlone_36 ?_
              refine m_Vi C hH hS (mm_looks hOk s1 0 wd tx n T.1 (hPX) (by omega)) (cwV 2 C.1.2.2.2.2 (lw_V q2658 q2660 qs94 q133 q2661) rfl rfl rfl (by decide +kernel) ⟨Nat.le_of_ble_eq_true rfl, Nat.le_of_ble_eq_true rfl⟩) rfl hl rfl (Nat.le_of_ble_eq_true rfl) dX3_readsAlone_39 ⟨Nat.le_refl _, Nat.le_refl _⟩ (fun v ta H locs hp_39_3 hH hS => ?_)
              obtain ⟨hva, hpa, hfa⟩ := hp_39_3
              have hlo : alLo T = 0 := by unfold alLo; by_cases hf : T.2.2.2.2 = true; rw [if_pos hf]; exact absurd (show fi = 0 by rw [hfi, if_neg hf]) (by omega)
              have kr := lkV_in (r := T.1) (lo := 0) (hi := wd) (by omega)
              rw [← hva] at kr
              refine z_istore C [(4, .int (iI v)), (3, .int (iI fi)), (2, .int (iI cl)), (1, .int (iI q)), (0, .ref o)] dX3_readsAlone_42 hl (by decide) rfl (fun ls hl => ?_)
              refine z_aload_n C dX3_readsAlone_44 hl 4 rfl ?_
              refine z_iload_n C dX3_readsAlone_45 hl 3 rfl ?_
              refine z_iload C dX3_readsAlone_46 hl 0 rfl ?_
              refine z_iadd C dX3_readsAlone_48 ?_
              refine z_aload_n C dX3_readsAlone_49 hl 4 rfl ?_
              refine m_getsZ C hH 9 ⟨by decide, by decide⟩ wd (by rw [hfa.at 9 rfl, hfr.at 9 rfl]; exact h9) q2194 rfl dX3_readsAlone_50 ?_
              refine z_icmpgt C dX3_readsAlone_53 (tgt := 60) (by decide) ⟨⟨by omega, by omega⟩, ⟨by omega, by omega⟩⟩ (fun c_53_3 => ?_) (fun c_53_3 => ?_)
              · refine z_iconst C dX3_readsAlone_60 ?_
                refine z_iconst C dX3_readsAlone_61 ?_
                refine m_Vv C hH hS (mm_must hOk ta 0 4 tx n ((lkE T.1 0 wd)) (hpa) (by decide) (by decide)) (cwV 2 C.1.2.2.2.2 (lw_V q2662 q2664 qs95 q133 q2665) rfl rfl rfl (by decide +kernel) ⟨Nat.le_of_ble_eq_true rfl, Nat.le_of_ble_eq_true rfl⟩) rfl hl rfl (Nat.le_of_ble_eq_true rfl) dX3_readsAlone_62 ⟨Nat.le_refl _, Nat.le_refl _⟩ (fun tb H locs hp_62_6 hH hS => ?_)
                obtain ⟨hpb, hfb⟩ := hp_62_6
                have e62 : ndE (lkE T.1 0 wd) (decide ((0 : Int) = 1)) 4 = ndE (lkE T.1 (alLo T) wd) (decide (T.2.1 + lkV T.1 (alLo T) wd ≤ wd)) 4 := by
                  rw [hlo, ← hva, hq]
                  exact ndE_congr (fun x hx => decide_eq_decide.mpr (by omega))
                rw [e62] at hpb
                have erb := hpb.er
                refine z_aload_n C dX3_readsAlone_65 hl 4 rfl ?_
                refine m_getsZ C hH 37 ⟨by decide, by decide⟩ (tb 37 0) rfl q2222 rfl dX3_readsAlone_66 ?_
                refine z_ifne C dX3_readsAlone_69 (tgt := 91) (by decide) ⟨by omega, by omega⟩ (fun c_69_6 => ?_) (fun c_69_6 => ?_)
                · refine z_aload_n C dX3_readsAlone_91 hl 4 rfl ?_
                  refine m_Vv C hH hS (mm_goesOn hOk tb tx n ((ndE (lkE T.1 (alLo T) wd) (decide (T.2.1 + lkV T.1 (alLo T) wd ≤ wd)) 4)) (hpb)) (cwV 0 C.1.2.2.2.2 (lw_V q2650 q2652 qs92 q133 q2653) rfl rfl rfl (by decide +kernel) ⟨Nat.le_of_ble_eq_true rfl, Nat.le_of_ble_eq_true rfl⟩) rfl hl rfl (Nat.le_of_ble_eq_true rfl) dX3_readsAlone_92 ⟨Nat.le_refl _, Nat.le_refl _⟩ (fun tc H locs hp_92_12 hH hS => ?_)
                  obtain ⟨hpc, hfc⟩ := hp_92_12
                  refine z_iconst C dX3_readsAlone_95 ?_
                  refine z_istore_n C [(3, .int (iI 0)), (4, .int (iI v)), (2, .int (iI cl)), (1, .int (iI q)), (0, .ref o)] dX3_readsAlone_96 hl (by decide) rfl (fun ls hl => ?_)
                  refine z_goto C dX3_readsAlone_97 (tgt := 6) (by decide) ?_
                  exact ih_6 q cl 0 tc ((alS tx n wd T)) (by have := (alS_step (tx := tx) (n := n) hW T hI hC).1; omega) (by
                    obtain ⟨e, he⟩ := hpb.e1 (by omega)
                    rw [alS_err he]; rw [he] at hpc; exact hpc) (by obtain ⟨e, he⟩ := hpb.e1 (by omega); rw [alS_err he]; exact hq) (by obtain ⟨e, he⟩ := hpb.e1 (by omega); rw [alS_err he]; exact hcl) (by obtain ⟨e, he⟩ := hpb.e1 (by omega); rw [alS_err he]; rfl) ((alS_step (tx := tx) (n := n) hW T hI hC).2) ((((hfr.th hfa rfl).th hfb rfl).th hfc rfl)) (fun j a b => by obtain ⟨e, he⟩ := hpb.e1 (by omega); rw [alS_err he]; rw [hfc.at 15 rfl, hfb.at 15 rfl, hfa.at 15 rfl]; exact hrow j a b) (by rw [← hR, alR_go hW hI hC]) _ _ _ hH hS (lv_sub hl [0, 2, 3, 4] rfl)
                · obtain ⟨y, hy⟩ : ∃ y, ndE (lkE T.1 (alLo T) wd) (decide (T.2.1 + lkV T.1 (alLo T) wd ≤ wd)) 4 = .inr y := hpb.e0.mp (by omega)
                  have hvw := of_decide_eq_true (ndE_inr hy).2
                  rw [hlo, ← hva, hq] at hvw
                  refine z_aload_n C dX3_readsAlone_72 hl 4 rfl ?_
                  refine z_iload_n C dX3_readsAlone_73 hl 3 rfl ?_
                  refine z_iload_n C dX3_readsAlone_74 hl 3 rfl ?_
                  refine z_iload C dX3_readsAlone_75 hl 0 rfl ?_
                  refine z_iadd C dX3_readsAlone_77 ?_
                  refine z_iload_n C dX3_readsAlone_78 hl 2 rfl ?_
                  refine m_VvF C hH hS (mm_paints hOk tb q (q + v) cl (⟨by omega, by omega, by omega, by omega⟩)) (cwV 3 C.1.2.2.2.2 (lw_V q2477 q2479 qs72 q133 q2480) rfl rfl rfl (by decide +kernel) ⟨Nat.le_of_ble_eq_true rfl, Nat.le_of_ble_eq_true rfl⟩) rfl hl rfl (Nat.le_of_ble_eq_true rfl) dX3_readsAlone_79 ⟨Nat.le_refl _, Nat.le_refl _⟩ (fun H locs hH hS => ?_)
                  refine z_iload_n C dX3_readsAlone_82 hl 3 rfl ?_
                  refine z_iload C dX3_readsAlone_83 hl 0 rfl ?_
                  refine z_iadd C dX3_readsAlone_85 ?_
                  refine z_istore_n C [(1, .int (iI (q + v))), (4, .int (iI v)), (3, .int (iI fi)), (2, .int (iI cl)), (0, .ref o)] dX3_readsAlone_86 hl (by decide) rfl (fun ls hl => ?_)
                  refine z_iconst C dX3_readsAlone_87 ?_
                  refine z_iload_n C dX3_readsAlone_88 hl 3 rfl ?_
                  refine z_isub C dX3_readsAlone_89 ?_
                  refine z_istore_n C [(2, .int (iI (1 - cl))), (1, .int (iI (q + v))), (4, .int (iI v)), (3, .int (iI fi)), (0, .ref o)] dX3_readsAlone_90 hl (by decide) rfl (fun ls hl => ?_)
                  refine z_aload_n C dX3_readsAlone_91 hl 4 rfl ?_
                  refine m_Vv C hH hS (mm_goesOn hOk (sa tb 15 (wr (fun _ => cl) (tb 15) q (q + v))) tx n ((ndE (lkE T.1 (alLo T) wd) (decide (T.2.1 + lkV T.1 (alLo T) wd ≤ wd)) 4)) (hpb.fr (fun k a b => sa_ne _ _ (by omega)))) (cwV 0 C.1.2.2.2.2 (lw_V q2650 q2652 qs92 q133 q2653) rfl rfl rfl (by decide +kernel) ⟨Nat.le_of_ble_eq_true rfl, Nat.le_of_ble_eq_true rfl⟩) rfl hl rfl (Nat.le_of_ble_eq_true rfl) dX3_readsAlone_92 ⟨Nat.le_refl _, Nat.le_refl _⟩ (fun tc H locs hp_92_13 hH hS => ?_)
                  obtain ⟨hpc, hfc⟩ := hp_92_13
                  refine z_iconst C dX3_readsAlone_95 ?_
                  refine z_istore_n C [(3, .int (iI 0)), (2, .int (iI (1 - cl))), (1, .int (iI (q + v))), (4, .int (iI v)), (0, .ref o)] dX3_readsAlone_96 hl (by decide) rfl (fun ls hl => ?_)
                  refine z_goto C dX3_readsAlone_97 (tgt := 6) (by decide) ?_
                  exact ih_6 ((q + v)) ((1 - cl)) 0 tc ((alS tx n wd T)) (by have := (alS_step (tx := tx) (n := n) hW T hI hC).1; omega) (by rw [alS_ok hy]; rw [hy] at hpc; exact hpc) (by rw [alS_ok hy]; show T.2.1 + lkV T.1 (alLo T) wd = q + v; rw [hlo, ← hva, hq]) (by rw [alS_ok hy]; show 1 - T.2.2.1 = 1 - cl; rw [hcl]) (by rw [alS_ok hy]; rfl) ((alS_step (tx := tx) (n := n) hW T hI hC).2) (((frSa ((hfr.th hfa rfl).th hfb rfl) rfl).th hfc rfl)) (fun j a b => by
                    rw [alS_ok hy]
                    show tc 15 j = wr (fun _ => T.2.2.1) T.2.2.2.1 T.2.1 (T.2.1 + lkV T.1 (alLo T) wd) j
                    rw [hlo, ← hva, hq, hcl, hfc.at 15 rfl]
                    show wr (fun _ => cl) (tb 15) q (q + v) j = _
                    unfold wr
                    by_cases h : q ≤ j ∧ j < q + v
                    · rw [if_pos h, if_pos h]
                    · rw [if_neg h, if_neg h, hfb.at 15 rfl, hfa.at 15 rfl]; exact hrow j a b) (by rw [← hR, alR_go hW hI hC]) _ _ _ hH hS (lv_sub hl [0, 1, 2, 4] rfl)
              · refine z_iconst C dX3_readsAlone_56 ?_
                refine z_goto C dX3_readsAlone_57 (tgt := 61) (by decide) ?_
                refine z_iconst C dX3_readsAlone_61 ?_
                refine m_Vv C hH hS (mm_must hOk ta 1 4 tx n ((lkE T.1 0 wd)) (hpa) (by decide) (by decide)) (cwV 2 C.1.2.2.2.2 (lw_V q2662 q2664 qs95 q133 q2665) rfl rfl rfl (by decide +kernel) ⟨Nat.le_of_ble_eq_true rfl, Nat.le_of_ble_eq_true rfl⟩) rfl hl rfl (Nat.le_of_ble_eq_true rfl) dX3_readsAlone_62 ⟨Nat.le_refl _, Nat.le_refl _⟩ (fun tb H locs hp_62_7 hH hS => ?_)
                obtain ⟨hpb, hfb⟩ := hp_62_7
                have e62 : ndE (lkE T.1 0 wd) (decide ((1 : Int) = 1)) 4 = ndE (lkE T.1 (alLo T) wd) (decide (T.2.1 + lkV T.1 (alLo T) wd ≤ wd)) 4 := by
                  rw [hlo, ← hva, hq]
                  exact ndE_congr (fun x hx => decide_eq_decide.mpr (by omega))
                rw [e62] at hpb
                have erb := hpb.er
                refine z_aload_n C dX3_readsAlone_65 hl 4 rfl ?_
                refine m_getsZ C hH 37 ⟨by decide, by decide⟩ (tb 37 0) rfl q2222 rfl dX3_readsAlone_66 ?_
                refine z_ifne C dX3_readsAlone_69 (tgt := 91) (by decide) ⟨by omega, by omega⟩ (fun c_69_7 => ?_) (fun c_69_7 => ?_)
                · refine z_aload_n C dX3_readsAlone_91 hl 4 rfl ?_
                  refine m_Vv C hH hS (mm_goesOn hOk tb tx n ((ndE (lkE T.1 (alLo T) wd) (decide (T.2.1 + lkV T.1 (alLo T) wd ≤ wd)) 4)) (hpb)) (cwV 0 C.1.2.2.2.2 (lw_V q2650 q2652 qs92 q133 q2653) rfl rfl rfl (by decide +kernel) ⟨Nat.le_of_ble_eq_true rfl, Nat.le_of_ble_eq_true rfl⟩) rfl hl rfl (Nat.le_of_ble_eq_true rfl) dX3_readsAlone_92 ⟨Nat.le_refl _, Nat.le_refl _⟩ (fun tc H locs hp_92_14 hH hS => ?_)
                  obtain ⟨hpc, hfc⟩ := hp_92_14
                  refine z_iconst C dX3_readsAlone_95 ?_
                  refine z_istore_n C [(3, .int (iI 0)), (4, .int (iI v)), (2, .int (iI cl)), (1, .int (iI q)), (0, .ref o)] dX3_readsAlone_96 hl (by decide) rfl (fun ls hl => ?_)
                  refine z_goto C dX3_readsAlone_97 (tgt := 6) (by decide) ?_
                  exact ih_6 q cl 0 tc ((alS tx n wd T)) (by have := (alS_step (tx := tx) (n := n) hW T hI hC).1; omega) (by
                    obtain ⟨e, he⟩ := hpb.e1 (by omega)
                    rw [alS_err he]; rw [he] at hpc; exact hpc) (by obtain ⟨e, he⟩ := hpb.e1 (by omega); rw [alS_err he]; exact hq) (by obtain ⟨e, he⟩ := hpb.e1 (by omega); rw [alS_err he]; exact hcl) (by obtain ⟨e, he⟩ := hpb.e1 (by omega); rw [alS_err he]; rfl) ((alS_step (tx := tx) (n := n) hW T hI hC).2) ((((hfr.th hfa rfl).th hfb rfl).th hfc rfl)) (fun j a b => by obtain ⟨e, he⟩ := hpb.e1 (by omega); rw [alS_err he]; rw [hfc.at 15 rfl, hfb.at 15 rfl, hfa.at 15 rfl]; exact hrow j a b) (by rw [← hR, alR_go hW hI hC]) _ _ _ hH hS (lv_sub hl [0, 2, 3, 4] rfl)
                · obtain ⟨y, hy⟩ : ∃ y, ndE (lkE T.1 (alLo T) wd) (decide (T.2.1 + lkV T.1 (alLo T) wd ≤ wd)) 4 = .inr y := hpb.e0.mp (by omega)
                  have hvw := of_decide_eq_true (ndE_inr hy).2
                  rw [hlo, ← hva, hq] at hvw
                  refine z_aload_n C dX3_readsAlone_72 hl 4 rfl ?_
                  refine z_iload_n C dX3_readsAlone_73 hl 3 rfl ?_
                  refine z_iload_n C dX3_readsAlone_74 hl 3 rfl ?_
                  refine z_iload C dX3_readsAlone_75 hl 0 rfl ?_
                  refine z_iadd C dX3_readsAlone_77 ?_
                  refine z_iload_n C dX3_readsAlone_78 hl 2 rfl ?_
                  refine m_VvF C hH hS (mm_paints hOk tb q (q + v) cl (⟨by omega, by omega, by omega, by omega⟩)) (cwV 3 C.1.2.2.2.2 (lw_V q2477 q2479 qs72 q133 q2480) rfl rfl rfl (by decide +kernel) ⟨Nat.le_of_ble_eq_true rfl, Nat.le_of_ble_eq_true rfl⟩) rfl hl rfl (Nat.le_of_ble_eq_true rfl) dX3_readsAlone_79 ⟨Nat.le_refl _, Nat.le_refl _⟩ (fun H locs hH hS => ?_)
                  refine z_iload_n C dX3_readsAlone_82 hl 3 rfl ?_
                  refine z_iload C dX3_readsAlone_83 hl 0 rfl ?_
                  refine z_iadd C dX3_readsAlone_85 ?_
                  refine z_istore_n C [(1, .int (iI (q + v))), (4, .int (iI v)), (3, .int (iI fi)), (2, .int (iI cl)), (0, .ref o)] dX3_readsAlone_86 hl (by decide) rfl (fun ls hl => ?_)
                  refine z_iconst C dX3_readsAlone_87 ?_
                  refine z_iload_n C dX3_readsAlone_88 hl 3 rfl ?_
                  refine z_isub C dX3_readsAlone_89 ?_
                  refine z_istore_n C [(2, .int (iI (1 - cl))), (1, .int (iI (q + v))), (4, .int (iI v)), (3, .int (iI fi)), (0, .ref o)] dX3_readsAlone_90 hl (by decide) rfl (fun ls hl => ?_)
                  refine z_aload_n C dX3_readsAlone_91 hl 4 rfl ?_
                  refine m_Vv C hH hS (mm_goesOn hOk (sa tb 15 (wr (fun _ => cl) (tb 15) q (q + v))) tx n ((ndE (lkE T.1 (alLo T) wd) (decide (T.2.1 + lkV T.1 (alLo T) wd ≤ wd)) 4)) (hpb.fr (fun k a b => sa_ne _ _ (by omega)))) (cwV 0 C.1.2.2.2.2 (lw_V q2650 q2652 qs92 q133 q2653) rfl rfl rfl (by decide +kernel) ⟨Nat.le_of_ble_eq_true rfl, Nat.le_of_ble_eq_true rfl⟩) rfl hl rfl (Nat.le_of_ble_eq_true rfl) dX3_readsAlone_92 ⟨Nat.le_refl _, Nat.le_refl _⟩ (fun tc H locs hp_92_15 hH hS => ?_)
                  obtain ⟨hpc, hfc⟩ := hp_92_15
                  refine z_iconst C dX3_readsAlone_95 ?_
                  refine z_istore_n C [(3, .int (iI 0)), (2, .int (iI (1 - cl))), (1, .int (iI (q + v))), (4, .int (iI v)), (0, .ref o)] dX3_readsAlone_96 hl (by decide) rfl (fun ls hl => ?_)
                  refine z_goto C dX3_readsAlone_97 (tgt := 6) (by decide) ?_
                  exact ih_6 ((q + v)) ((1 - cl)) 0 tc ((alS tx n wd T)) (by have := (alS_step (tx := tx) (n := n) hW T hI hC).1; omega) (by rw [alS_ok hy]; rw [hy] at hpc; exact hpc) (by rw [alS_ok hy]; show T.2.1 + lkV T.1 (alLo T) wd = q + v; rw [hlo, ← hva, hq]) (by rw [alS_ok hy]; show 1 - T.2.2.1 = 1 - cl; rw [hcl]) (by rw [alS_ok hy]; rfl) ((alS_step (tx := tx) (n := n) hW T hI hC).2) (((frSa ((hfr.th hfa rfl).th hfb rfl) rfl).th hfc rfl)) (fun j a b => by
                    rw [alS_ok hy]
                    show tc 15 j = wr (fun _ => T.2.2.1) T.2.2.2.1 T.2.1 (T.2.1 + lkV T.1 (alLo T) wd) j
                    rw [hlo, ← hva, hq, hcl, hfc.at 15 rfl]
                    show wr (fun _ => cl) (tb 15) q (q + v) j = _
                    unfold wr
                    by_cases h : q ≤ j ∧ j < q + v
                    · rw [if_pos h, if_pos h]
                    · rw [if_neg h, if_neg h, hfb.at 15 rfl, hfa.at 15 rfl]; exact hrow j a b) (by rw [← hR, alR_go hW hI hC]) _ _ _ hH hS (lv_sub hl [0, 1, 2, 4] rfl)
  exact J_6 _ 0 0 1 σ ((r, 0, 0, (fun _ => 0), true)) (Nat.lt_succ_self _) (hp) (rfl) (rfl) (rfl) (al0_I hW r) (Fr.rf) (h15) (rfl) _ _ _ hH hS (lv_sub hl [0, 1, 2, 3] rfl)
