/-! the reference's methods, 20 (written by gen/model20.py) -/
set_option maxRecDepth 100000
set_option maxHeartbeats 1000000 in
theorem mm_prints {l : Launch} {D : va_G} {dA : Nat → ClassId} {A : Nat → Prop} {o : Nat} {ad : Nat → Nat} (hOk : mOk o ad) (σ : Sg) (b : Int) (ou : List Int) (hO : OuAt σ ou) (hb : -128 ≤ b ∧ b < 128) (hlen : ou.length < 600) : Met l yX3_prints (ws_ yX3_prints cX3_prints 2 none) (rmL 1 0 0) (MP D dA A o ad [.ref o, .int (iI b)] σ) (MQv D dA A o ad (fun σ' => OuAt σ' (ou ++ [b]) ∧ Fr [40, 41] σ σ')) 0 0 A := by
  refine z_ofW (by decide) rfl ?_
  intro pp ee s0 mm below meth cc0 ls C hret hname hl hH hS
  have hl : lv_has ls 2 [(0, .ref o), (1, .int (iI b))] := hl
  have hO1 := hO.1
  refine z_aload_n C dX3_prints_0 hl 0 rfl ?_
  refine m_geta C hH 40 ⟨by decide, by decide⟩ q2225 rfl dX3_prints_1 ?_
  refine z_aload_n C dX3_prints_4 hl 0 rfl ?_
  refine m_getsZ C hH 41 ⟨by decide, by decide⟩ ((ou.length : Int)) (hO1) q2226 rfl dX3_prints_5 ?_
  refine z_iload_n C dX3_prints_8 hl 1 rfl ?_
  refine z_i2b C dX3_prints_9 ?_
  refine z_topr (byB_id hb) ?_
  refine m_bast C hOk hH hS 40 ⟨by decide, by decide⟩ (show 0 ≤ (ou.length : Int) ∧ (ou.length : Int) < (600 : Int) by omega) hb dX3_prints_10 (fun H locs hH hS => ?_)
  refine z_aload_n C dX3_prints_11 hl 0 rfl ?_
  refine z_dup C dX3_prints_12 rfl ?_
  refine m_getsZ C hH 41 ⟨by decide, by decide⟩ ((ou.length : Int)) (hO1) q2226 rfl dX3_prints_13 ?_
  refine z_iconst C dX3_prints_16 ?_
  refine z_iadd C dX3_prints_17 ?_
  refine m_puts C hH hS 41 ⟨by decide, by decide⟩ q2226 rfl ⟨rfl, rfl⟩ dX3_prints_18 (fun H locs hH hS => ?_)
  refine m_vret C hret hH hS dX3_prints_21 ?_
  exact ⟨hO.push hlen b, frSu (frSu Fr.rf rfl) rfl⟩
set_option maxHeartbeats 1000000 in
theorem mm_printsNumber {l : Launch} {D : va_G} {dA : Nat → ClassId} {A : Nat → Prop} {o : Nat} {ad : Nat → Nat} (hOk : mOk o ad) (σ : Sg) (v : Int) (ou : List Int) (hO : OuAt σ ou) (hv : -99 ≤ v ∧ v ≤ 99) (hlen : ou.length + 3 ≤ 600) : Met l yX3_printsNumber (ws_ yX3_printsNumber cX3_printsNumber 3 none) (rmL 2 0 0) (MP D dA A o ad [.ref o, .int (iI v)] σ) (MQv D dA A o ad (fun σ' => OuAt σ' (ou ++ numL v) ∧ Fr [40, 41] σ σ')) 0 0 A := by
  refine z_ofW (by decide) rfl ?_
  intro pp ee s0 mm below meth cc0 ls C hret hname hl hH hS
  have hl : lv_has ls 3 [(0, .ref o), (1, .int (iI v))] := hl
  refine z_iload_n C dX3_printsNumber_0 hl 1 rfl ?_
  refine z_ifge C dX3_printsNumber_1 (tgt := 10) (by decide) ⟨by omega, by omega⟩ (fun c_1 => ?_) (fun c_1 => ?_)
  · refine z_iload_n C dX3_printsNumber_10 hl 1 rfl ?_
    refine z_ifge C dX3_printsNumber_11 (tgt := 19) (by decide) ⟨by omega, by omega⟩ (fun c_11 => ?_) (fun c_11 => ?_)
    · refine z_iload_n C dX3_printsNumber_19 hl 1 rfl ?_
      refine z_topi (fun sz hsz => ?_)
      have hs0 : 0 ≤ sz ∧ sz ≤ 99 := by omega
      refine z_istore_n C [(2, .int (iI sz)), (0, .ref o), (1, .int (iI v))] dX3_printsNumber_20 hl (by decide) rfl (fun ls hl => ?_)
      refine z_iload_n C dX3_printsNumber_21 hl 0 rfl ?_
      refine z_bipush C dX3_printsNumber_22 (by decide +kernel) ?_
      refine z_icmplt C dX3_printsNumber_24 (tgt := 38) (by decide) ⟨⟨by omega, by omega⟩, ⟨by omega, by omega⟩⟩ (fun c_24 => ?_) (fun c_24 => ?_)
      · refine z_aload_n C dX3_printsNumber_38 hl 1 rfl ?_
        refine z_bipush C dX3_printsNumber_39 (by decide +kernel) ?_
        refine z_iload_n C dX3_printsNumber_41 hl 0 rfl ?_
        refine z_bipush C dX3_printsNumber_42 (by decide +kernel) ?_
        refine z_irem C dX3_printsNumber_44 ⟨⟨by omega, by omega⟩, ⟨by omega, by omega⟩, by omega⟩ ?_
        refine z_iadd C dX3_printsNumber_45 ?_
        refine m_Vv C hH hS (mm_prints hOk σ (48 + (sz.tmod 10)) ou (hO) (by have := Int.tdiv_nonneg (a := sz) (b := 10) (by omega) (by decide); have := Int.tmod_nonneg (a := sz) 10 (by omega); have := Int.tmod_lt_of_pos sz (show (0 : Int) < 10 by decide); have := Int.mul_tdiv_add_tmod sz 10; omega) (by omega)) (cwV 1 C.1.2.2.2.2 (lw_V q2722 q2724 qs107 q133 q2725) rfl rfl rfl (by decide +kernel) ⟨Nat.le_of_ble_eq_true rfl, Nat.le_of_ble_eq_true rfl⟩) rfl hl rfl (Nat.le_of_ble_eq_true rfl) dX3_printsNumber_46 ⟨Nat.le_refl _, Nat.le_refl _⟩ (fun s_46 H locs hp_46 hH hS => ?_)
        obtain ⟨ho46, hf46⟩ := hp_46
        refine m_vret C hret hH hS dX3_printsNumber_49 ?_
        first
          | (exfalso; omega)
          | (refine ⟨?_, ((Fr.rf (L := [40, 41])).th hf46 rfl)⟩
             have hh := ho46
             have e : numL v = (if v < 0 then [45] else []) ++ ((if 10 ≤ sz then [48 + sz.tdiv 10] else []) ++ [48 + sz.tmod 10]) := by
               unfold numL
               first
                 | rw [if_pos (show v < 0 by omega), if_pos (show v < 0 by omega), ← hsz]
                 | rw [if_neg (show ¬ v < 0 by omega), if_neg (show ¬ v < 0 by omega), ← hsz]
             rw [e]
             first
               | rw [if_pos (show v < 0 by omega)]
               | rw [if_neg (show ¬ v < 0 by omega)]
             first
               | rw [if_pos (show 10 ≤ sz by omega)]
               | rw [if_neg (show ¬ 10 ≤ sz by omega)]
             simp only [List.append_assoc, List.nil_append, List.append_nil, List.cons_append] at hh ⊢
             exact hh)
      · refine z_aload_n C dX3_printsNumber_27 hl 1 rfl ?_
        refine z_bipush C dX3_printsNumber_28 (by decide +kernel) ?_
        refine z_iload_n C dX3_printsNumber_30 hl 0 rfl ?_
        refine z_bipush C dX3_printsNumber_31 (by decide +kernel) ?_
        refine z_idiv C dX3_printsNumber_33 ⟨⟨by omega, by omega⟩, ⟨by omega, by omega⟩, by omega⟩ ?_
        refine z_iadd C dX3_printsNumber_34 ?_
        refine m_Vv C hH hS (mm_prints hOk σ (48 + (sz.tdiv 10)) ou (hO) (by have := Int.tdiv_nonneg (a := sz) (b := 10) (by omega) (by decide); have := Int.tmod_nonneg (a := sz) 10 (by omega); have := Int.tmod_lt_of_pos sz (show (0 : Int) < 10 by decide); have := Int.mul_tdiv_add_tmod sz 10; omega) (by omega)) (cwV 1 C.1.2.2.2.2 (lw_V q2722 q2724 qs107 q133 q2725) rfl rfl rfl (by decide +kernel) ⟨Nat.le_of_ble_eq_true rfl, Nat.le_of_ble_eq_true rfl⟩) rfl hl rfl (Nat.le_of_ble_eq_true rfl) dX3_printsNumber_35 ⟨Nat.le_refl _, Nat.le_refl _⟩ (fun s_35 H locs hp_35 hH hS => ?_)
        obtain ⟨ho35, hf35⟩ := hp_35
        refine z_aload_n C dX3_printsNumber_38 hl 1 rfl ?_
        refine z_bipush C dX3_printsNumber_39 (by decide +kernel) ?_
        refine z_iload_n C dX3_printsNumber_41 hl 0 rfl ?_
        refine z_bipush C dX3_printsNumber_42 (by decide +kernel) ?_
        refine z_irem C dX3_printsNumber_44 ⟨⟨by omega, by omega⟩, ⟨by omega, by omega⟩, by omega⟩ ?_
        refine z_iadd C dX3_printsNumber_45 ?_
        refine m_Vv C hH hS (mm_prints hOk s_35 (48 + (sz.tmod 10)) ((ou ++ [48 + sz.tdiv 10])) (ho35) (by have := Int.tdiv_nonneg (a := sz) (b := 10) (by omega) (by decide); have := Int.tmod_nonneg (a := sz) 10 (by omega); have := Int.tmod_lt_of_pos sz (show (0 : Int) < 10 by decide); have := Int.mul_tdiv_add_tmod sz 10; omega) (by simp only [List.length_append, List.length_singleton]; omega)) (cwV 1 C.1.2.2.2.2 (lw_V q2722 q2724 qs107 q133 q2725) rfl rfl rfl (by decide +kernel) ⟨Nat.le_of_ble_eq_true rfl, Nat.le_of_ble_eq_true rfl⟩) rfl hl rfl (Nat.le_of_ble_eq_true rfl) dX3_printsNumber_46 ⟨Nat.le_refl _, Nat.le_refl _⟩ (fun s_46_1 H locs hp_46_1 hH hS => ?_)
        obtain ⟨ho46_1, hf46_1⟩ := hp_46_1
        refine m_vret C hret hH hS dX3_printsNumber_49 ?_
        first
          | (exfalso; omega)
          | (refine ⟨?_, (((Fr.rf (L := [40, 41])).th hf35 rfl).th hf46_1 rfl)⟩
             have hh := ho46_1
             have e : numL v = (if v < 0 then [45] else []) ++ ((if 10 ≤ sz then [48 + sz.tdiv 10] else []) ++ [48 + sz.tmod 10]) := by
               unfold numL
               first
                 | rw [if_pos (show v < 0 by omega), if_pos (show v < 0 by omega), ← hsz]
                 | rw [if_neg (show ¬ v < 0 by omega), if_neg (show ¬ v < 0 by omega), ← hsz]
             rw [e]
             first
               | rw [if_pos (show v < 0 by omega)]
               | rw [if_neg (show ¬ v < 0 by omega)]
             first
               | rw [if_pos (show 10 ≤ sz by omega)]
               | rw [if_neg (show ¬ 10 ≤ sz by omega)]
             simp only [List.append_assoc, List.nil_append, List.append_nil, List.cons_append] at hh ⊢
             exact hh)
    · refine z_iload_n C dX3_printsNumber_14 hl 1 rfl ?_
      refine z_ineg C dX3_printsNumber_15 ?_
      refine z_goto C dX3_printsNumber_16 (tgt := 20) (by decide) ?_
      refine z_topi (fun sz hsz => ?_)
      have hs0 : 0 ≤ sz ∧ sz ≤ 99 := by omega
      refine z_istore_n C [(2, .int (iI sz)), (0, .ref o), (1, .int (iI v))] dX3_printsNumber_20 hl (by decide) rfl (fun ls hl => ?_)
      refine z_iload_n C dX3_printsNumber_21 hl 0 rfl ?_
      refine z_bipush C dX3_printsNumber_22 (by decide +kernel) ?_
      refine z_icmplt C dX3_printsNumber_24 (tgt := 38) (by decide) ⟨⟨by omega, by omega⟩, ⟨by omega, by omega⟩⟩ (fun c_24_1 => ?_) (fun c_24_1 => ?_)
      · refine z_aload_n C dX3_printsNumber_38 hl 1 rfl ?_
        refine z_bipush C dX3_printsNumber_39 (by decide +kernel) ?_
        refine z_iload_n C dX3_printsNumber_41 hl 0 rfl ?_
        refine z_bipush C dX3_printsNumber_42 (by decide +kernel) ?_
        refine z_irem C dX3_printsNumber_44 ⟨⟨by omega, by omega⟩, ⟨by omega, by omega⟩, by omega⟩ ?_
        refine z_iadd C dX3_printsNumber_45 ?_
        refine m_Vv C hH hS (mm_prints hOk σ (48 + (sz.tmod 10)) ou (hO) (by have := Int.tdiv_nonneg (a := sz) (b := 10) (by omega) (by decide); have := Int.tmod_nonneg (a := sz) 10 (by omega); have := Int.tmod_lt_of_pos sz (show (0 : Int) < 10 by decide); have := Int.mul_tdiv_add_tmod sz 10; omega) (by omega)) (cwV 1 C.1.2.2.2.2 (lw_V q2722 q2724 qs107 q133 q2725) rfl rfl rfl (by decide +kernel) ⟨Nat.le_of_ble_eq_true rfl, Nat.le_of_ble_eq_true rfl⟩) rfl hl rfl (Nat.le_of_ble_eq_true rfl) dX3_printsNumber_46 ⟨Nat.le_refl _, Nat.le_refl _⟩ (fun s_46_2 H locs hp_46_2 hH hS => ?_)
        obtain ⟨ho46_2, hf46_2⟩ := hp_46_2
        refine m_vret C hret hH hS dX3_printsNumber_49 ?_
        first
          | (exfalso; omega)
          | (refine ⟨?_, ((Fr.rf (L := [40, 41])).th hf46_2 rfl)⟩
             have hh := ho46_2
             have e : numL v = (if v < 0 then [45] else []) ++ ((if 10 ≤ sz then [48 + sz.tdiv 10] else []) ++ [48 + sz.tmod 10]) := by
               unfold numL
               first
                 | rw [if_pos (show v < 0 by omega), if_pos (show v < 0 by omega), ← hsz]
                 | rw [if_neg (show ¬ v < 0 by omega), if_neg (show ¬ v < 0 by omega), ← hsz]
             rw [e]
             first
               | rw [if_pos (show v < 0 by omega)]
               | rw [if_neg (show ¬ v < 0 by omega)]
             first
               | rw [if_pos (show 10 ≤ sz by omega)]
               | rw [if_neg (show ¬ 10 ≤ sz by omega)]
             simp only [List.append_assoc, List.nil_append, List.append_nil, List.cons_append] at hh ⊢
             exact hh)
      · refine z_aload_n C dX3_printsNumber_27 hl 1 rfl ?_
        refine z_bipush C dX3_printsNumber_28 (by decide +kernel) ?_
        refine z_iload_n C dX3_printsNumber_30 hl 0 rfl ?_
        refine z_bipush C dX3_printsNumber_31 (by decide +kernel) ?_
        refine z_idiv C dX3_printsNumber_33 ⟨⟨by omega, by omega⟩, ⟨by omega, by omega⟩, by omega⟩ ?_
        refine z_iadd C dX3_printsNumber_34 ?_
        refine m_Vv C hH hS (mm_prints hOk σ (48 + (sz.tdiv 10)) ou (hO) (by have := Int.tdiv_nonneg (a := sz) (b := 10) (by omega) (by decide); have := Int.tmod_nonneg (a := sz) 10 (by omega); have := Int.tmod_lt_of_pos sz (show (0 : Int) < 10 by decide); have := Int.mul_tdiv_add_tmod sz 10; omega) (by omega)) (cwV 1 C.1.2.2.2.2 (lw_V q2722 q2724 qs107 q133 q2725) rfl rfl rfl (by decide +kernel) ⟨Nat.le_of_ble_eq_true rfl, Nat.le_of_ble_eq_true rfl⟩) rfl hl rfl (Nat.le_of_ble_eq_true rfl) dX3_printsNumber_35 ⟨Nat.le_refl _, Nat.le_refl _⟩ (fun s_35_1 H locs hp_35_1 hH hS => ?_)
        obtain ⟨ho35_1, hf35_1⟩ := hp_35_1
        refine z_aload_n C dX3_printsNumber_38 hl 1 rfl ?_
        refine z_bipush C dX3_printsNumber_39 (by decide +kernel) ?_
        refine z_iload_n C dX3_printsNumber_41 hl 0 rfl ?_
        refine z_bipush C dX3_printsNumber_42 (by decide +kernel) ?_
        refine z_irem C dX3_printsNumber_44 ⟨⟨by omega, by omega⟩, ⟨by omega, by omega⟩, by omega⟩ ?_
        refine z_iadd C dX3_printsNumber_45 ?_
        refine m_Vv C hH hS (mm_prints hOk s_35_1 (48 + (sz.tmod 10)) ((ou ++ [48 + sz.tdiv 10])) (ho35_1) (by have := Int.tdiv_nonneg (a := sz) (b := 10) (by omega) (by decide); have := Int.tmod_nonneg (a := sz) 10 (by omega); have := Int.tmod_lt_of_pos sz (show (0 : Int) < 10 by decide); have := Int.mul_tdiv_add_tmod sz 10; omega) (by simp only [List.length_append, List.length_singleton]; omega)) (cwV 1 C.1.2.2.2.2 (lw_V q2722 q2724 qs107 q133 q2725) rfl rfl rfl (by decide +kernel) ⟨Nat.le_of_ble_eq_true rfl, Nat.le_of_ble_eq_true rfl⟩) rfl hl rfl (Nat.le_of_ble_eq_true rfl) dX3_printsNumber_46 ⟨Nat.le_refl _, Nat.le_refl _⟩ (fun s_46_3 H locs hp_46_3 hH hS => ?_)
        obtain ⟨ho46_3, hf46_3⟩ := hp_46_3
        refine m_vret C hret hH hS dX3_printsNumber_49 ?_
        first
          | (exfalso; omega)
          | (refine ⟨?_, (((Fr.rf (L := [40, 41])).th hf35_1 rfl).th hf46_3 rfl)⟩
             have hh := ho46_3
             have e : numL v = (if v < 0 then [45] else []) ++ ((if 10 ≤ sz then [48 + sz.tdiv 10] else []) ++ [48 + sz.tmod 10]) := by
               unfold numL
               first
                 | rw [if_pos (show v < 0 by omega), if_pos (show v < 0 by omega), ← hsz]
                 | rw [if_neg (show ¬ v < 0 by omega), if_neg (show ¬ v < 0 by omega), ← hsz]
             rw [e]
             first
               | rw [if_pos (show v < 0 by omega)]
               | rw [if_neg (show ¬ v < 0 by omega)]
             first
               | rw [if_pos (show 10 ≤ sz by omega)]
               | rw [if_neg (show ¬ 10 ≤ sz by omega)]
             simp only [List.append_assoc, List.nil_append, List.append_nil, List.cons_append] at hh ⊢
             exact hh)
  · refine z_aload_n C dX3_printsNumber_4 hl 0 rfl ?_
    refine z_bipush C dX3_printsNumber_5 (by decide +kernel) ?_
    refine m_Vv C hH hS (mm_prints hOk σ 45 ou (by omega) (by decide) (by omega)) (cwV 1 C.1.2.2.2.2 (lw_V q2722 q2724 qs107 q133 q2725) rfl rfl rfl (by decide +kernel) ⟨Nat.le_of_ble_eq_true rfl, Nat.le_of_ble_eq_true rfl⟩) rfl hl rfl (Nat.le_of_ble_eq_true rfl) dX3_printsNumber_7 ⟨Nat.le_refl _, Nat.le_refl _⟩ (fun s_7 H locs hp_7 hH hS => ?_)
    obtain ⟨ho7, hf7⟩ := hp_7
    refine z_iload_n C dX3_printsNumber_10 hl 1 rfl ?_
    refine z_ifge C dX3_printsNumber_11 (tgt := 19) (by decide) ⟨by omega, by omega⟩ (fun c_11_1 => ?_) (fun c_11_1 => ?_)
    · refine z_iload_n C dX3_printsNumber_19 hl 1 rfl ?_
      refine z_topi (fun sz hsz => ?_)
      have hs0 : 0 ≤ sz ∧ sz ≤ 99 := by omega
      refine z_istore_n C [(2, .int (iI sz)), (0, .ref o), (1, .int (iI v))] dX3_printsNumber_20 hl (by decide) rfl (fun ls hl => ?_)
      refine z_iload_n C dX3_printsNumber_21 hl 0 rfl ?_
      refine z_bipush C dX3_printsNumber_22 (by decide +kernel) ?_
      refine z_icmplt C dX3_printsNumber_24 (tgt := 38) (by decide) ⟨⟨by omega, by omega⟩, ⟨by omega, by omega⟩⟩ (fun c_24_2 => ?_) (fun c_24_2 => ?_)
      · refine z_aload_n C dX3_printsNumber_38 hl 1 rfl ?_
        refine z_bipush C dX3_printsNumber_39 (by decide +kernel) ?_
        refine z_iload_n C dX3_printsNumber_41 hl 0 rfl ?_
        refine z_bipush C dX3_printsNumber_42 (by decide +kernel) ?_
        refine z_irem C dX3_printsNumber_44 ⟨⟨by omega, by omega⟩, ⟨by omega, by omega⟩, by omega⟩ ?_
        refine z_iadd C dX3_printsNumber_45 ?_
        refine m_Vv C hH hS (mm_prints hOk s_7 (48 + (sz.tmod 10)) ((ou ++ [45])) (ho7) (by have := Int.tdiv_nonneg (a := sz) (b := 10) (by omega) (by decide); have := Int.tmod_nonneg (a := sz) 10 (by omega); have := Int.tmod_lt_of_pos sz (show (0 : Int) < 10 by decide); have := Int.mul_tdiv_add_tmod sz 10; omega) (by simp only [List.length_append, List.length_singleton]; omega)) (cwV 1 C.1.2.2.2.2 (lw_V q2722 q2724 qs107 q133 q2725) rfl rfl rfl (by decide +kernel) ⟨Nat.le_of_ble_eq_true rfl, Nat.le_of_ble_eq_true rfl⟩) rfl hl rfl (Nat.le_of_ble_eq_true rfl) dX3_printsNumber_46 ⟨Nat.le_refl _, Nat.le_refl _⟩ (fun s_46_4 H locs hp_46_4 hH hS => ?_)
        obtain ⟨ho46_4, hf46_4⟩ := hp_46_4
        refine m_vret C hret hH hS dX3_printsNumber_49 ?_
        first
          | (exfalso; omega)
          | (refine ⟨?_, (hf7.th hf46_4 rfl)⟩
             have hh := ho46_4
             have e : numL v = (if v < 0 then [45] else []) ++ ((if 10 ≤ sz then [48 + sz.tdiv 10] else []) ++ [48 + sz.tmod 10]) := by
               unfold numL
               first
                 | rw [if_pos (show v < 0 by omega), if_pos (show v < 0 by omega), ← hsz]
                 | rw [if_neg (show ¬ v < 0 by omega), if_neg (show ¬ v < 0 by omega), ← hsz]
             rw [e]
             first
               | rw [if_pos (show v < 0 by omega)]
               | rw [if_neg (show ¬ v < 0 by omega)]
             first
               | rw [if_pos (show 10 ≤ sz by omega)]
               | rw [if_neg (show ¬ 10 ≤ sz by omega)]
             simp only [List.append_assoc, List.nil_append, List.append_nil, List.cons_append] at hh ⊢
             exact hh)
      · refine z_aload_n C dX3_printsNumber_27 hl 1 rfl ?_
        refine z_bipush C dX3_printsNumber_28 (by decide +kernel) ?_
        refine z_iload_n C dX3_printsNumber_30 hl 0 rfl ?_
        refine z_bipush C dX3_printsNumber_31 (by decide +kernel) ?_
        refine z_idiv C dX3_printsNumber_33 ⟨⟨by omega, by omega⟩, ⟨by omega, by omega⟩, by omega⟩ ?_
        refine z_iadd C dX3_printsNumber_34 ?_
        refine m_Vv C hH hS (mm_prints hOk s_7 (48 + (sz.tdiv 10)) ((ou ++ [45])) (ho7) (by have := Int.tdiv_nonneg (a := sz) (b := 10) (by omega) (by decide); have := Int.tmod_nonneg (a := sz) 10 (by omega); have := Int.tmod_lt_of_pos sz (show (0 : Int) < 10 by decide); have := Int.mul_tdiv_add_tmod sz 10; omega) (by simp only [List.length_append, List.length_singleton]; omega)) (cwV 1 C.1.2.2.2.2 (lw_V q2722 q2724 qs107 q133 q2725) rfl rfl rfl (by decide +kernel) ⟨Nat.le_of_ble_eq_true rfl, Nat.le_of_ble_eq_true rfl⟩) rfl hl rfl (Nat.le_of_ble_eq_true rfl) dX3_printsNumber_35 ⟨Nat.le_refl _, Nat.le_refl _⟩ (fun s_35_2 H locs hp_35_2 hH hS => ?_)
        obtain ⟨ho35_2, hf35_2⟩ := hp_35_2
        refine z_aload_n C dX3_printsNumber_38 hl 1 rfl ?_
        refine z_bipush C dX3_printsNumber_39 (by decide +kernel) ?_
        refine z_iload_n C dX3_printsNumber_41 hl 0 rfl ?_
        refine z_bipush C dX3_printsNumber_42 (by decide +kernel) ?_
        refine z_irem C dX3_printsNumber_44 ⟨⟨by omega, by omega⟩, ⟨by omega, by omega⟩, by omega⟩ ?_
        refine z_iadd C dX3_printsNumber_45 ?_
        refine m_Vv C hH hS (mm_prints hOk s_35_2 (48 + (sz.tmod 10)) (((ou ++ [45]) ++ [48 + sz.tdiv 10])) (ho35_2) (by have := Int.tdiv_nonneg (a := sz) (b := 10) (by omega) (by decide); have := Int.tmod_nonneg (a := sz) 10 (by omega); have := Int.tmod_lt_of_pos sz (show (0 : Int) < 10 by decide); have := Int.mul_tdiv_add_tmod sz 10; omega) (by simp only [List.length_append, List.length_singleton]; omega)) (cwV 1 C.1.2.2.2.2 (lw_V q2722 q2724 qs107 q133 q2725) rfl rfl rfl (by decide +kernel) ⟨Nat.le_of_ble_eq_true rfl, Nat.le_of_ble_eq_true rfl⟩) rfl hl rfl (Nat.le_of_ble_eq_true rfl) dX3_printsNumber_46 ⟨Nat.le_refl _, Nat.le_refl _⟩ (fun s_46_5 H locs hp_46_5 hH hS => ?_)
        obtain ⟨ho46_5, hf46_5⟩ := hp_46_5
        refine m_vret C hret hH hS dX3_printsNumber_49 ?_
        first
          | (exfalso; omega)
          | (refine ⟨?_, ((hf7.th hf35_2 rfl).th hf46_5 rfl)⟩
             have hh := ho46_5
             have e : numL v = (if v < 0 then [45] else []) ++ ((if 10 ≤ sz then [48 + sz.tdiv 10] else []) ++ [48 + sz.tmod 10]) := by
               unfold numL
               first
                 | rw [if_pos (show v < 0 by omega), if_pos (show v < 0 by omega), ← hsz]
                 | rw [if_neg (show ¬ v < 0 by omega), if_neg (show ¬ v < 0 by omega), ← hsz]
             rw [e]
             first
               | rw [if_pos (show v < 0 by omega)]
               | rw [if_neg (show ¬ v < 0 by omega)]
             first
               | rw [if_pos (show 10 ≤ sz by omega)]
               | rw [if_neg (show ¬ 10 ≤ sz by omega)]
             simp only [List.append_assoc, List.nil_append, List.append_nil, List.cons_append] at hh ⊢
             exact hh)
    · refine z_iload_n C dX3_printsNumber_14 hl 1 rfl ?_
      refine z_ineg C dX3_printsNumber_15 ?_
      refine z_goto C dX3_printsNumber_16 (tgt := 20) (by decide) ?_
      refine z_topi (fun sz hsz => ?_)
      have hs0 : 0 ≤ sz ∧ sz ≤ 99 := by omega
      refine z_istore_n C [(2, .int (iI sz)), (0, .ref o), (1, .int (iI v))] dX3_printsNumber_20 hl (by decide) rfl (fun ls hl => ?_)
      refine z_iload_n C dX3_printsNumber_21 hl 0 rfl ?_
      refine z_bipush C dX3_printsNumber_22 (by decide +kernel) ?_
      refine z_icmplt C dX3_printsNumber_24 (tgt := 38) (by decide) ⟨⟨by omega, by omega⟩, ⟨by omega, by omega⟩⟩ (fun c_24_3 => ?_) (fun c_24_3 => ?_)
      · refine z_aload_n C dX3_printsNumber_38 hl 1 rfl ?_
        refine z_bipush C dX3_printsNumber_39 (by decide +kernel) ?_
        refine z_iload_n C dX3_printsNumber_41 hl 0 rfl ?_
        refine z_bipush C dX3_printsNumber_42 (by decide +kernel) ?_
        refine z_irem C dX3_printsNumber_44 ⟨⟨by omega, by omega⟩, ⟨by omega, by omega⟩, by omega⟩ ?_
        refine z_iadd C dX3_printsNumber_45 ?_
        refine m_Vv C hH hS (mm_prints hOk s_7 (48 + (sz.tmod 10)) ((ou ++ [45])) (ho7) (by have := Int.tdiv_nonneg (a := sz) (b := 10) (by omega) (by decide); have := Int.tmod_nonneg (a := sz) 10 (by omega); have := Int.tmod_lt_of_pos sz (show (0 : Int) < 10 by decide); have := Int.mul_tdiv_add_tmod sz 10; omega) (by simp only [List.length_append, List.length_singleton]; omega)) (cwV 1 C.1.2.2.2.2 (lw_V q2722 q2724 qs107 q133 q2725) rfl rfl rfl (by decide +kernel) ⟨Nat.le_of_ble_eq_true rfl, Nat.le_of_ble_eq_true rfl⟩) rfl hl rfl (Nat.le_of_ble_eq_true rfl) dX3_printsNumber_46 ⟨Nat.le_refl _, Nat.le_refl _⟩ (fun s_46_6 H locs hp_46_6 hH hS => ?_)
        obtain ⟨ho46_6, hf46_6⟩ := hp_46_6
        refine m_vret C hret hH hS dX3_printsNumber_49 ?_
        first
          | (exfalso; omega)
          | (refine ⟨?_, (hf7.th hf46_6 rfl)⟩
             have hh := ho46_6
             have e : numL v = (if v < 0 then [45] else []) ++ ((if 10 ≤ sz then [48 + sz.tdiv 10] else []) ++ [48 + sz.tmod 10]) := by
               unfold numL
               first
                 | rw [if_pos (show v < 0 by omega), if_pos (show v < 0 by omega), ← hsz]
                 | rw [if_neg (show ¬ v < 0 by omega), if_neg (show ¬ v < 0 by omega), ← hsz]
             rw [e]
             first
               | rw [if_pos (show v < 0 by omega)]
               | rw [if_neg (show ¬ v < 0 by omega)]
             first
               | rw [if_pos (show 10 ≤ sz by omega)]
               | rw [if_neg (show ¬ 10 ≤ sz by omega)]
             simp only [List.append_assoc, List.nil_append, List.append_nil, List.cons_append] at hh ⊢
             exact hh)
      · refine z_aload_n C dX3_printsNumber_27 hl 1 rfl ?_
        refine z_bipush C dX3_printsNumber_28 (by decide +kernel) ?_
        refine z_iload_n C dX3_printsNumber_30 hl 0 rfl ?_
        refine z_bipush C dX3_printsNumber_31 (by decide +kernel) ?_
        refine z_idiv C dX3_printsNumber_33 ⟨⟨by omega, by omega⟩, ⟨by omega, by omega⟩, by omega⟩ ?_
        refine z_iadd C dX3_printsNumber_34 ?_
        refine m_Vv C hH hS (mm_prints hOk s_7 (48 + (sz.tdiv 10)) ((ou ++ [45])) (ho7) (by have := Int.tdiv_nonneg (a := sz) (b := 10) (by omega) (by decide); have := Int.tmod_nonneg (a := sz) 10 (by omega); have := Int.tmod_lt_of_pos sz (show (0 : Int) < 10 by decide); have := Int.mul_tdiv_add_tmod sz 10; omega) (by simp only [List.length_append, List.length_singleton]; omega)) (cwV 1 C.1.2.2.2.2 (lw_V q2722 q2724 qs107 q133 q2725) rfl rfl rfl (by decide +kernel) ⟨Nat.le_of_ble_eq_true rfl, Nat.le_of_ble_eq_true rfl⟩) rfl hl rfl (Nat.le_of_ble_eq_true rfl) dX3_printsNumber_35 ⟨Nat.le_refl _, Nat.le_refl _⟩ (fun s_35_3 H locs hp_35_3 hH hS => ?_)
        obtain ⟨ho35_3, hf35_3⟩ := hp_35_3
        refine z_aload_n C dX3_printsNumber_38 hl 1 rfl ?_
        refine z_bipush C dX3_printsNumber_39 (by decide +kernel) ?_
        refine z_iload_n C dX3_printsNumber_41 hl 0 rfl ?_
        refine z_bipush C dX3_printsNumber_42 (by decide +kernel) ?_
        refine z_irem C dX3_printsNumber_44 ⟨⟨by omega, by omega⟩, ⟨by omega, by omega⟩, by omega⟩ ?_
        refine z_iadd C dX3_printsNumber_45 ?_
        refine m_Vv C hH hS (mm_prints hOk s_35_3 (48 + (sz.tmod 10)) (((ou ++ [45]) ++ [48 + sz.tdiv 10])) (ho35_3) (by have := Int.tdiv_nonneg (a := sz) (b := 10) (by omega) (by decide); have := Int.tmod_nonneg (a := sz) 10 (by omega); have := Int.tmod_lt_of_pos sz (show (0 : Int) < 10 by decide); have := Int.mul_tdiv_add_tmod sz 10; omega) (by simp only [List.length_append, List.length_singleton]; omega)) (cwV 1 C.1.2.2.2.2 (lw_V q2722 q2724 qs107 q133 q2725) rfl rfl rfl (by decide +kernel) ⟨Nat.le_of_ble_eq_true rfl, Nat.le_of_ble_eq_true rfl⟩) rfl hl rfl (Nat.le_of_ble_eq_true rfl) dX3_printsNumber_46 ⟨Nat.le_refl _, Nat.le_refl _⟩ (fun s_46_7 H locs hp_46_7 hH hS => ?_)
        obtain ⟨ho46_7, hf46_7⟩ := hp_46_7
        refine m_vret C hret hH hS dX3_printsNumber_49 ?_
        first
          | (exfalso; omega)
          | (refine ⟨?_, ((hf7.th hf35_3 rfl).th hf46_7 rfl)⟩
             have hh := ho46_7
             have e : numL v = (if v < 0 then [45] else []) ++ ((if 10 ≤ sz then [48 + sz.tdiv 10] else []) ++ [48 + sz.tmod 10]) := by
               unfold numL
               first
                 | rw [if_pos (show v < 0 by omega), if_pos (show v < 0 by omega), ← hsz]
                 | rw [if_neg (show ¬ v < 0 by omega), if_neg (show ¬ v < 0 by omega), ← hsz]
             rw [e]
             first
               | rw [if_pos (show v < 0 by omega)]
               | rw [if_neg (show ¬ v < 0 by omega)]
             first
               | rw [if_pos (show 10 ≤ sz by omega)]
               | rw [if_neg (show ¬ 10 ≤ sz by omega)]
             simp only [List.append_assoc, List.nil_append, List.append_nil, List.cons_append] at hh ⊢
             exact hh)
set_option maxHeartbeats 1000000 in
theorem mm_printsMode {l : Launch} {D : va_G} {dA : Nat → ClassId} {A : Nat → Prop} {o : Nat} {ad : Nat → Nat} (hOk : mOk o ad) (σ : Sg) (k : Int) (ou : List Int) (md : Md) (hO : OuAt σ ou) (hm : MdOk 40 md) (hk0 : 0 ≤ k ∧ k < 48) (h10 : σ 10 k = md.1) (h11 : σ 11 k = md.2.1) (h12 : σ 12 k = md.2.2.1) (hlen : ou.length + 9 ≤ 600) : Met l yX3_printsMode (ws_ yX3_printsMode cX3_printsMode 2 none) (rmL 3 0 0) (MP D dA A o ad [.ref o, .int (iI k)] σ) (MQv D dA A o ad (fun σ' => OuAt σ' (ou ++ modL md) ∧ Fr [40, 41] σ σ')) 0 0 A := by
  refine z_ofW (by decide) rfl ?_
  intro pp ee s0 mm below meth cc0 ls C hret hname hl hH hS
  have hl : lv_has ls 2 [(0, .ref o), (1, .int (iI k))] := hl
  obtain ⟨m1, m2, m3, m4, m5, m6, m7, m8, m9⟩ := hm
  refine z_aload_n C dX3_printsMode_0 hl 0 rfl ?_
  refine z_bipush C dX3_printsMode_1 (by decide +kernel) ?_
  refine m_Vv C hH hS (mm_prints hOk σ 32 ou (by omega) (by decide) (by omega)) (cwV 1 C.1.2.2.2.2 (lw_V q2722 q2724 qs107 q133 q2725) rfl rfl rfl (by decide +kernel) ⟨Nat.le_of_ble_eq_true rfl, Nat.le_of_ble_eq_true rfl⟩) rfl hl rfl (Nat.le_of_ble_eq_true rfl) dX3_printsMode_3 ⟨Nat.le_refl _, Nat.le_refl _⟩ (fun s_3 H locs hp_3 hH hS => ?_)
  obtain ⟨ho3, hf3⟩ := hp_3
  have J_38 : ∀ (lt : Int), (lt = (if md.1 = 0 then 112 else if md.1 = 1 then 118 else 104)) → ∀ (H : Heap) (locs : List Loc) (ls : Array Slot), MH D dA A o ad s_3 H → va_S A s0.heap H locs → lv_has ls 2 [(0, .ref o), (1, .int (iI k))] → W pp l ee (rmL 3 0 0) s0 mm ([.ref o, .int (iI k)] : List Value).toArray below meth cc0 H locs 0 0 (MQ below (MQv D dA A o ad (fun σ' => OuAt σ' (ou ++ modL md) ∧ Fr [40, 41] σ σ')) ([.ref o, .int (iI k)] : List Value).toArray s0 0 0 A) (F0 mm 38 ls [.int (iI lt), .ref o]) := by
    intro lt hlt H locs ls hH hS hl
    refine m_Vv C hH hS (mm_prints hOk s_3 lt ((ou ++ [32])) (ho3) (by rw [hlt]; split; decide; split <;> decide) (by rw [List.length_append, List.length_singleton]; omega)) (cwV 1 C.1.2.2.2.2 (lw_V q2722 q2724 qs107 q133 q2725) rfl rfl rfl (by decide +kernel) ⟨Nat.le_of_ble_eq_true rfl, Nat.le_of_ble_eq_true rfl⟩) rfl hl rfl (Nat.le_of_ble_eq_true rfl) dX3_printsMode_38 ⟨Nat.le_refl _, Nat.le_refl _⟩ (fun s_38 H locs hp_38 hH hS => ?_)
    obtain ⟨ho38, hf38⟩ := hp_38
    refine z_aload_n C dX3_printsMode_41 hl 0 rfl ?_
    refine m_geta C hH 10 ⟨by decide, by decide⟩ q2195 rfl dX3_printsMode_42 ?_
    refine z_iload_n C dX3_printsMode_45 hl 1 rfl ?_
    refine m_ialdZ C hOk hH 10 ⟨by decide, by decide⟩ k md.1 (by rw [(hf3.th hf38 rfl).at 10 rfl]; exact h10) (show 0 ≤ k ∧ k < (48 : Int) by omega) dX3_printsMode_46 ?_
    refine z_ifeq C dX3_printsMode_47 (tgt := 60) (by decide) ⟨by omega, by omega⟩ (fun c_47 => ?_) (fun c_47 => ?_)
    · refine z_aload_n C dX3_printsMode_60 hl 0 rfl ?_
      refine m_geta C hH 10 ⟨by decide, by decide⟩ q2195 rfl dX3_printsMode_61 ?_
      refine z_iload_n C dX3_printsMode_64 hl 1 rfl ?_
      refine m_ialdZ C hOk hH 10 ⟨by decide, by decide⟩ k md.1 (by rw [(hf3.th hf38 rfl).at 10 rfl]; exact h10) (show 0 ≤ k ∧ k < (48 : Int) by omega) dX3_printsMode_65 ?_
      refine z_iconst C dX3_printsMode_66 ?_
      refine z_icmpne C dX3_printsMode_67 (tgt := 86) (by decide) ⟨⟨by omega, by omega⟩, ⟨by omega, by omega⟩⟩ (fun c_67 => ?_) (fun c_67 => ?_)
      · refine m_vret C hret hH hS dX3_printsMode_86 ?_
        first
          | (exfalso; omega)
          | (refine ⟨?_, (hf3.th hf38 rfl)⟩
             have hh := ho38
             unfold modL
             rw [← hlt]
             first
               | rw [if_pos (show md.1 = 0 by omega), if_neg (show ¬ md.1 = 2 by omega)]
               | rw [if_neg (show ¬ md.1 = 0 by omega), if_pos (show md.1 = 2 by omega)]
               | rw [if_neg (show ¬ md.1 = 0 by omega), if_neg (show ¬ md.1 = 2 by omega)]
             simp only [List.append_assoc, List.nil_append, List.append_nil, List.cons_append] at hh ⊢
             exact hh)
      · refine z_aload_n C dX3_printsMode_70 hl 0 rfl ?_
        refine z_bipush C dX3_printsMode_71 (by decide +kernel) ?_
        refine m_Vv C hH hS (mm_prints hOk s_38 32 ((ou ++ [32] ++ [lt])) (ho38) (by decide) (by have := (numL_len md.2.1 ⟨by omega, by omega⟩).1; simp only [List.length_append, List.length_singleton]; omega)) (cwV 1 C.1.2.2.2.2 (lw_V q2722 q2724 qs107 q133 q2725) rfl rfl rfl (by decide +kernel) ⟨Nat.le_of_ble_eq_true rfl, Nat.le_of_ble_eq_true rfl⟩) rfl hl rfl (Nat.le_of_ble_eq_true rfl) dX3_printsMode_73 ⟨Nat.le_refl _, Nat.le_refl _⟩ (fun s_73 H locs hp_73 hH hS => ?_)
        obtain ⟨ho73, hf73⟩ := hp_73
        refine z_aload_n C dX3_printsMode_76 hl 0 rfl ?_
        refine z_aload_n C dX3_printsMode_77 hl 0 rfl ?_
        refine m_geta C hH 12 ⟨by decide, by decide⟩ q2197 rfl dX3_printsMode_78 ?_
        refine z_iload_n C dX3_printsMode_81 hl 1 rfl ?_
        refine m_ialdZ C hOk hH 12 ⟨by decide, by decide⟩ k md.2.2.1 (by rw [((hf3.th hf38 rfl).th hf73 rfl).at 12 rfl]; exact h12) (show 0 ≤ k ∧ k < (48 : Int) by omega) dX3_printsMode_82 ?_
        refine m_Vv C hH hS (mm_printsNumber hOk s_73 md.2.2.1 (((ou ++ [32] ++ [lt]) ++ [32])) (ho73) (⟨by omega, by omega⟩) (by have := (numL_len md.2.1 ⟨by omega, by omega⟩).1; simp only [List.length_append, List.length_singleton]; omega)) (cwV 1 C.1.2.2.2.2 (lw_V q2726 q2728 qs108 q133 q2729) rfl rfl rfl (by decide +kernel) ⟨Nat.le_of_ble_eq_true rfl, Nat.le_of_ble_eq_true rfl⟩) rfl hl rfl (Nat.le_of_ble_eq_true rfl) dX3_printsMode_83 ⟨Nat.le_refl _, Nat.le_refl _⟩ (fun s_83 H locs hp_83 hH hS => ?_)
        obtain ⟨ho83, hf83⟩ := hp_83
        refine m_vret C hret hH hS dX3_printsMode_86 ?_
        first
          | (exfalso; omega)
          | (refine ⟨?_, (((hf3.th hf38 rfl).th hf73 rfl).th hf83 rfl)⟩
             have hh := ho83
             unfold modL
             rw [← hlt]
             first
               | rw [if_pos (show md.1 = 0 by omega), if_neg (show ¬ md.1 = 2 by omega)]
               | rw [if_neg (show ¬ md.1 = 0 by omega), if_pos (show md.1 = 2 by omega)]
               | rw [if_neg (show ¬ md.1 = 0 by omega), if_neg (show ¬ md.1 = 2 by omega)]
             simp only [List.append_assoc, List.nil_append, List.append_nil, List.cons_append] at hh ⊢
             exact hh)
    · refine z_aload_n C dX3_printsMode_50 hl 0 rfl ?_
      refine z_aload_n C dX3_printsMode_51 hl 0 rfl ?_
      refine m_geta C hH 11 ⟨by decide, by decide⟩ q2196 rfl dX3_printsMode_52 ?_
      refine z_iload_n C dX3_printsMode_55 hl 1 rfl ?_
      refine m_ialdZ C hOk hH 11 ⟨by decide, by decide⟩ k md.2.1 (by rw [(hf3.th hf38 rfl).at 11 rfl]; exact h11) (show 0 ≤ k ∧ k < (48 : Int) by omega) dX3_printsMode_56 ?_
      refine m_Vv C hH hS (mm_printsNumber hOk s_38 md.2.1 ((ou ++ [32] ++ [lt])) (ho38) (⟨by omega, by omega⟩) (by rw [List.length_append, List.length_append, List.length_singleton, List.length_singleton]; omega)) (cwV 1 C.1.2.2.2.2 (lw_V q2726 q2728 qs108 q133 q2729) rfl rfl rfl (by decide +kernel) ⟨Nat.le_of_ble_eq_true rfl, Nat.le_of_ble_eq_true rfl⟩) rfl hl rfl (Nat.le_of_ble_eq_true rfl) dX3_printsMode_57 ⟨Nat.le_refl _, Nat.le_refl _⟩ (fun s_57 H locs hp_57 hH hS => ?_)
      obtain ⟨ho57, hf57⟩ := hp_57
      refine z_aload_n C dX3_printsMode_60 hl 0 rfl ?_
      refine m_geta C hH 10 ⟨by decide, by decide⟩ q2195 rfl dX3_printsMode_61 ?_
      refine z_iload_n C dX3_printsMode_64 hl 1 rfl ?_
      refine m_ialdZ C hOk hH 10 ⟨by decide, by decide⟩ k md.1 (by rw [((hf3.th hf38 rfl).th hf57 rfl).at 10 rfl]; exact h10) (show 0 ≤ k ∧ k < (48 : Int) by omega) dX3_printsMode_65 ?_
      refine z_iconst C dX3_printsMode_66 ?_
      refine z_icmpne C dX3_printsMode_67 (tgt := 86) (by decide) ⟨⟨by omega, by omega⟩, ⟨by omega, by omega⟩⟩ (fun c_67_1 => ?_) (fun c_67_1 => ?_)
      · refine m_vret C hret hH hS dX3_printsMode_86 ?_
        first
          | (exfalso; omega)
          | (refine ⟨?_, ((hf3.th hf38 rfl).th hf57 rfl)⟩
             have hh := ho57
             unfold modL
             rw [← hlt]
             first
               | rw [if_pos (show md.1 = 0 by omega), if_neg (show ¬ md.1 = 2 by omega)]
               | rw [if_neg (show ¬ md.1 = 0 by omega), if_pos (show md.1 = 2 by omega)]
               | rw [if_neg (show ¬ md.1 = 0 by omega), if_neg (show ¬ md.1 = 2 by omega)]
             simp only [List.append_assoc, List.nil_append, List.append_nil, List.cons_append] at hh ⊢
             exact hh)
      · refine z_aload_n C dX3_printsMode_70 hl 0 rfl ?_
        refine z_bipush C dX3_printsMode_71 (by decide +kernel) ?_
        refine m_Vv C hH hS (mm_prints hOk s_57 32 ((ou ++ [32] ++ [lt] ++ numL md.2.1)) (ho57) (by decide) (by have := (numL_len md.2.1 ⟨by omega, by omega⟩).1; simp only [List.length_append, List.length_singleton]; omega)) (cwV 1 C.1.2.2.2.2 (lw_V q2722 q2724 qs107 q133 q2725) rfl rfl rfl (by decide +kernel) ⟨Nat.le_of_ble_eq_true rfl, Nat.le_of_ble_eq_true rfl⟩) rfl hl rfl (Nat.le_of_ble_eq_true rfl) dX3_printsMode_73 ⟨Nat.le_refl _, Nat.le_refl _⟩ (fun s_73_1 H locs hp_73_1 hH hS => ?_)
        obtain ⟨ho73_1, hf73_1⟩ := hp_73_1
        refine z_aload_n C dX3_printsMode_76 hl 0 rfl ?_
        refine z_aload_n C dX3_printsMode_77 hl 0 rfl ?_
        refine m_geta C hH 12 ⟨by decide, by decide⟩ q2197 rfl dX3_printsMode_78 ?_
        refine z_iload_n C dX3_printsMode_81 hl 1 rfl ?_
        refine m_ialdZ C hOk hH 12 ⟨by decide, by decide⟩ k md.2.2.1 (by rw [(((hf3.th hf38 rfl).th hf57 rfl).th hf73_1 rfl).at 12 rfl]; exact h12) (show 0 ≤ k ∧ k < (48 : Int) by omega) dX3_printsMode_82 ?_
        refine m_Vv C hH hS (mm_printsNumber hOk s_73_1 md.2.2.1 (((ou ++ [32] ++ [lt] ++ numL md.2.1) ++ [32])) (ho73_1) (⟨by omega, by omega⟩) (by have := (numL_len md.2.1 ⟨by omega, by omega⟩).1; simp only [List.length_append, List.length_singleton]; omega)) (cwV 1 C.1.2.2.2.2 (lw_V q2726 q2728 qs108 q133 q2729) rfl rfl rfl (by decide +kernel) ⟨Nat.le_of_ble_eq_true rfl, Nat.le_of_ble_eq_true rfl⟩) rfl hl rfl (Nat.le_of_ble_eq_true rfl) dX3_printsMode_83 ⟨Nat.le_refl _, Nat.le_refl _⟩ (fun s_83_1 H locs hp_83_1 hH hS => ?_)
        obtain ⟨ho83_1, hf83_1⟩ := hp_83_1
        refine m_vret C hret hH hS dX3_printsMode_86 ?_
        first
          | (exfalso; omega)
          | (refine ⟨?_, ((((hf3.th hf38 rfl).th hf57 rfl).th hf73_1 rfl).th hf83_1 rfl)⟩
             have hh := ho83_1
             unfold modL
             rw [← hlt]
             first
               | rw [if_pos (show md.1 = 0 by omega), if_neg (show ¬ md.1 = 2 by omega)]
               | rw [if_neg (show ¬ md.1 = 0 by omega), if_pos (show md.1 = 2 by omega)]
               | rw [if_neg (show ¬ md.1 = 0 by omega), if_neg (show ¬ md.1 = 2 by omega)]
             simp only [List.append_assoc, List.nil_append, List.append_nil, List.cons_append] at hh ⊢
             exact hh)
  refine z_aload_n C dX3_printsMode_6 hl 0 rfl ?_
  refine z_aload_n C dX3_printsMode_7 hl 0 rfl ?_
  refine m_geta C hH 10 ⟨by decide, by decide⟩ q2195 rfl dX3_printsMode_8 ?_
  refine z_iload_n C dX3_printsMode_11 hl 1 rfl ?_
  refine m_ialdZ C hOk hH 10 ⟨by decide, by decide⟩ k md.1 (by rw [hf3.at 10 rfl]; exact h10) (show 0 ≤ k ∧ k < (48 : Int) by omega) dX3_printsMode_12 ?_
  refine z_ifne C dX3_printsMode_13 (tgt := 21) (by decide) ⟨by omega, by omega⟩ (fun c_13 => ?_) (fun c_13 => ?_)
  · refine z_aload_n C dX3_printsMode_21 hl 0 rfl ?_
    refine m_geta C hH 10 ⟨by decide, by decide⟩ q2195 rfl dX3_printsMode_22 ?_
    refine z_iload_n C dX3_printsMode_25 hl 1 rfl ?_
    refine m_ialdZ C hOk hH 10 ⟨by decide, by decide⟩ k md.1 (by rw [hf3.at 10 rfl]; exact h10) (show 0 ≤ k ∧ k < (48 : Int) by omega) dX3_printsMode_26 ?_
    refine z_iconst C dX3_printsMode_27 ?_
    refine z_icmpne C dX3_printsMode_28 (tgt := 36) (by decide) ⟨⟨by omega, by omega⟩, ⟨by omega, by omega⟩⟩ (fun c_28 => ?_) (fun c_28 => ?_)
    · refine z_bipush C dX3_printsMode_36 (by decide +kernel) ?_
      exact J_38 104 (by first | (rw [if_pos (by omega)]; done) | (rw [if_neg (by omega), if_pos (by omega)]; done) | (rw [if_neg (by omega), if_neg (by omega)]; done)) _ _ _ hH hS (lv_sub hl [0, 1] rfl)
    · refine z_bipush C dX3_printsMode_31 (by decide +kernel) ?_
      refine z_goto C dX3_printsMode_33 (tgt := 38) (by decide) ?_
      exact J_38 118 (by first | (rw [if_pos (by omega)]; done) | (rw [if_neg (by omega), if_pos (by omega)]; done) | (rw [if_neg (by omega), if_neg (by omega)]; done)) _ _ _ hH hS (lv_sub hl [0, 1] rfl)
  · refine z_bipush C dX3_printsMode_16 (by decide +kernel) ?_
    refine z_goto C dX3_printsMode_18 (tgt := 38) (by decide) ?_
    exact J_38 112 (by first | (rw [if_pos (by omega)]; done) | (rw [if_neg (by omega), if_pos (by omega)]; done) | (rw [if_neg (by omega), if_neg (by omega)]; done)) _ _ _ hH hS (lv_sub hl [0, 1] rfl)
